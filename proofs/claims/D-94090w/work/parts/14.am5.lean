/-! INSTRUCTIONS that write the heap: fields, arrays, new objects and arrays, arraycopy -/
set_option maxRecDepth 100000
def oPutf (ts : List Nat) (k : Nat) (ty : FieldType) (n : Nat) : AOp := fun _ ls st h => match st with
  | v :: .ref a :: r => if (hcl h a).1 ∈ ts ∧ narrow ty v = v ∧ fits ty v = true then nx n ls r (hset h a k v) else stuck
  | _ => stuck
def oIast (ts : List Nat) (n : Nat) : AOp := fun _ ls st h => match st with
  | .int x :: .int i :: .ref a :: r => if (hcl h a).1 ∈ ts then (if inb i (hcl h a).2.1 then nx n ls r (hset h a i.toNatClampNeg (.int x)) else stuck) else stuck
  | _ => stuck
def oBast (ts : List Nat) (n : Nat) : AOp := fun _ ls st h => match st with
  | .int x :: .int i :: .ref a :: r => if (hcl h a).1 ∈ ts then (if inb i (hcl h a).2.1 then nx n ls r (hset h a i.toNatClampNeg (.int x.toInt8.toInt32)) else stuck) else stuck
  | _ => stuck
def oLast (ts : List Nat) (n : Nat) : AOp := fun _ ls st h => match st with
  | .long x :: .int i :: .ref a :: r => if (hcl h a).1 ∈ ts then (if inb i (hcl h a).2.1 then nx n ls r (hset h a i.toNatClampNeg (.long x)) else stuck) else stuck
  | _ => stuck
/-- a reference into an array of references: the element's tag must be one of es -/
def oAast (ts es : List Nat) (n : Nat) : AOp := fun _ ls st h => match st with
  | .ref v :: .int i :: .ref a :: r => if (hcl h a).1 ∈ ts ∧ (hcl h v).1 ∈ es then (if inb i (hcl h a).2.1 then nx n ls r (hset h a i.toNatClampNeg (.ref v)) else stuck) else stuck
  | .null :: .int i :: .ref a :: r => if (hcl h a).1 ∈ ts then (if inb i (hcl h a).2.1 then nx n ls r (hset h a i.toNatClampNeg .null) else stuck) else stuck
  | _ => stuck
def oNew (t N : Nat) (f : Nat → Value) (n : Nat) : AOp := fun _ ls st h => nx n ls (.ref (hsz h) :: st) (hnew h N (t, N, f))
def oNewa (t : Nat) (v : Value) (n : Nat) : AOp := fun _ ls st h => match st with
  | .int x :: r => if inb x 65536 then nx n ls (.ref (hsz h) :: r) (hnew h x.toNatClampNeg (t, x.toNatClampNeg, fun _ => v)) else stuck
  | _ => stuck
section AM5
variable {mt : Nat → MT} {G : AG} {m pc : Nat}
theorem Grow.put (h : AH) (a : Nat) (c : AC) : Grow h (hput h a c) := ⟨Nat.le_refl _, Nat.le_refl _⟩
theorem Grow.set (h : AH) (a i : Nat) (v : Value) : Grow h (hset h a i v) := ⟨Nat.le_refl _, Nat.le_refl _⟩
theorem Grow.new (h : AH) (n : Nat) (c : AC) : Grow h (hnew h n c) := ⟨Nat.le_succ _, Nat.le_add_right _ _⟩
/-- the slots of a class's fields are apart -/
theorem fld_apart {s : State} {args : Array Value} {G : AG} {C : String} {T : u_T} {N ci : Nat} (ht : ∀ w ∈ lw_all, w.before args s = true) (hEn : EnvOK G s) (hv : vwCl[ci]? = some (C, T, N)) : ∀ x y, x < N → y < N → x ≠ y → (gD G).2 ci x ≠ (gD G).2 ci y := by
  intro x y hx hy hne
  obtain ⟨hin, ⟨ty, hty⟩, hnm⟩ := allCG ci _ hv
  obtain ⟨hS, -⟩ := hEn.1 ci _ hv
  obtain ⟨_, _, _, fa, hia, ea⟩ := hS x hx
  obtain ⟨_, _, _, fb, hib, eb⟩ := hS y hy
  rw [← ea, ← eb]
  refine u_apart (u_lays ht hin hx) (u_lays ht hin hy) hia hib ?_
  rw [(State.fieldFound?_type hia (hty x hx)).1, (State.fieldFound?_type hib (hty y hy)).1]
  exact hnm x hx y hy hne
/-- the cell behind a store into a field -/
theorem cellR_putf {G : AG} {s : State} {args : Array Value} {H' : Heap} {C : String} {T : u_T} {N ci k a t len : Nat} {f : Nat → Value} {cell : Cell} {v : Value} (ht : ∀ w ∈ lw_all, w.before args s = true) (hEn : EnvOK G s) (hv : vwCl[ci]? = some (C, T, N)) (et : t = ci + 1) (h9 : ci < 99) (hk : k < N)
    (q4 : cell.cls = (gD G).1 ci) (q5 : ∀ k, k < N → cell.slots[(gD G).2 ci k]? = some (f k)) (q6 : gB G ≤ a ∧ cell.vm = .none) (e1 : H'[a]? = some (cell.setSlot ((gD G).2 ci k) v)) : cellR G s H' a (t, len, updV f k v) := by
  have hvm : (cell.setSlot ((gD G).2 ci k) v).vm = .none := q6.2
  refine ⟨_, e1, by rw [hvm]; exact fun h => (by cases h), Or.inl ⟨ci, _, Or.inl et, h9, hv, by rw [hvm]; rfl, q4, fun j hj => ?_, fun _ => ⟨q6.1, hvm⟩⟩⟩
  exact t_set q5 (fld_apart ht hEn hv) hk v j hj
/-- a store into a field that isn't final: its own class's or another's -/
def PutOK (own : String) (index k : Nat) (ty : FieldType) (ts : List Nat) : Prop := ∃ ref nm ds : String, Cond.fieldLink own index ref nm ds ∈ lw_all ∧ parseFieldDescriptor ds = some ty ∧ ∀ t ∈ ts, ∃ (ci : Nat) (C : String) (T : u_T) (N : Nat), t = ci + 1 ∧ ci < 99 ∧ vwCl[ci]? = some (C, T, N) ∧ k < N ∧ (T k).2.1 = nm ∧ (T k).2.2.1 = ds ∧ (ref = (T k).1 ∨ Cond.sameField ref (T k).1 nm ds ∈ lw_all) ∧ (T k).2.2.2 = false
def PutNOK (own : String) (index k : Nat) (ty : FieldType) (ts : List Nat) : Prop := ∃ ref nm ds host : String, Cond.fieldLinkNest own index ref nm ds host ∈ nwL ∧ parseFieldDescriptor ds = some ty ∧ ∀ t ∈ ts, ∃ (ci : Nat) (C : String) (T : u_T) (N : Nat), t = ci + 1 ∧ ci < 99 ∧ vwCl[ci]? = some (C, T, N) ∧ k < N ∧ (T k).2.1 = nm ∧ (T k).2.2.1 = ds ∧ (ref = (T k).1 ∨ Cond.sameField ref (T k).1 nm ds ∈ lw_all) ∧ (T k).2.2.2 = false
/-- .. final, in a constructor -/
def PutFOK (y : MethodName) (index k : Nat) (ty : FieldType) (ts : List Nat) : Prop := y.name = "<init>" ∧ ∃ nm ds : String, Cond.fieldLink y.cls index y.cls nm ds ∈ lw_all ∧ parseFieldDescriptor ds = some ty ∧ ∀ t ∈ ts, ∃ (ci : Nat) (C : String) (T : u_T) (N : Nat), t = ci + 1 ∧ ci < 99 ∧ vwCl[ci]? = some (C, T, N) ∧ k < N ∧ (T k).2.1 = nm ∧ (T k).2.2.1 = ds ∧ y.cls = (T k).1 ∧ (T k).2.2.2 = true
theorem pok1 {own C : String} {index k N : Nat} {T : u_T} {ty : FieldType} (ci : Nat) (h9 : ci < 99) (hv : vwCl[ci]? = some (C, T, N)) (hk : k < N) (hf : (T k).2.2.2 = false) (hd : parseFieldDescriptor (T k).2.2.1 = some ty) (hq : Cond.fieldLink own index (T k).1 (T k).2.1 (T k).2.2.1 ∈ lw_all) : PutOK own index k ty [ci + 1] :=
  ⟨_, _, _, hq, hd, fun t ht => ⟨ci, C, T, N, List.mem_singleton.mp ht, h9, hv, hk, rfl, rfl, Or.inl rfl, hf⟩⟩
theorem pnk1 {own C host : String} {index k N : Nat} {T : u_T} {ty : FieldType} (ci : Nat) (h9 : ci < 99) (hv : vwCl[ci]? = some (C, T, N)) (hk : k < N) (hf : (T k).2.2.2 = false) (hd : parseFieldDescriptor (T k).2.2.1 = some ty) (hq : Cond.fieldLinkNest own index (T k).1 (T k).2.1 (T k).2.2.1 host ∈ lw_tbl) : PutNOK own index k ty [ci + 1] :=
  ⟨_, _, _, _, List.mem_filter.mpr ⟨hq, rfl⟩, hd, fun t ht => ⟨ci, C, T, N, List.mem_singleton.mp ht, h9, hv, hk, rfl, rfl, Or.inl rfl, hf⟩⟩
theorem pfk1 {y : MethodName} {C : String} {index k N : Nat} {T : u_T} {ty : FieldType} (ci : Nat) (h9 : ci < 99) (hv : vwCl[ci]? = some (C, T, N)) (hk : k < N) (hn : y.name = "<init>") (hf : (T k).2.2.2 = true) (hd : parseFieldDescriptor (T k).2.2.1 = some ty) (ho : y.cls = (T k).1) (hq : Cond.fieldLink y.cls index y.cls (T k).2.1 (T k).2.2.1 ∈ lw_all) : PutFOK y index k ty [ci + 1] :=
  ⟨hn, _, _, hq, hd, fun t ht => ⟨ci, C, T, N, List.mem_singleton.mp ht, h9, hv, hk, rfl, rfl, ho, hf⟩⟩
theorem s_putf {index k : Nat} {ty : FieldType} {ts : List Nat} (hd : decode (mt m).2.1 pc = .ok (.putfield index, 3)) (hf : PutOK (mt m).1.cls index k ty ts) : Snd mt G m pc (oPutf ts k ty (pc + 3)) := by
  obtain ⟨ref, nm, ds, hq, hpd, hts⟩ := hf
  intro rec hrec d ls st h o hE e
  unfold oPutf at e
  split at e
  · next v a r =>
    split at e
    · next hc =>
      obtain ⟨hc, hnar, hfit⟩ := hc
      obtain ⟨ci, C, T, N, et, h9, hv, hk, e1, e2, hr, hfin⟩ := hts _ hc
      obtain ⟨g1, g2⟩ := hrec _ _ _ _ _ _ _ _ e
      refine ⟨(Grow.set _ _ _ _).tr g1, fun p l e R s mi args below meth c sl0 C H locs cells slots L hL hR hc1 hc2 hS => ?_⟩
      have C' := C
      obtain ⟨hx, hb, hml, ho, -, -, hmn, ht, -, hEn, -, hg0, -, -, -, -⟩ := C'
      have hr : ref = (T k).1 ∨ Cond.sameField ref (T k).1 nm ds ∈ lw_all := hr
      obtain ⟨cf, kf, fi, f, hi0, hi, hsl, hst⟩ := fld_of ht hEn hv hk e1 e2 hr
      obtain ⟨cell, q1, q2, q3, q4, q5, q6⟩ := cellO_of (hR.2.2 a (by omega)) (Or.inl et) h9 hv
      have q6' := q6 (by omega)
      obtain ⟨hS9, hfc, kC, hkC, hkind⟩ := hEn.1 ci _ hv
      have hlay := ht _ ((allCG ci _ hv).1 _ (u_in_lay hk))
      unfold u_lay at hlay
      rw [if_neg (by rw [hfin]; decide)] at hlay
      have h6 := u_store hfc hkC hkind hlay hi0 (by rw [e2]; exact hpd) hnar hfit
      refine W.putK hx hb (f := f) ⟨ho, ht _ hq, ⟨_, _, _, hi⟩, hst⟩ (by rw [q4]; exact h6) q1 q6'.2 (by rw [hsl]; exact k2_hasslot (q5 k hk)) rfl rfl hd fun H' z1 z2 z3 => ?_
      rw [hsl] at z1 ⊢
      refine g2 p l e R s mi args below meth c sl0 C H' _ cells slots L hL (hR.put z2 z3 (cellR_putf ht hEn hv et h9 hk q4 q5 q6' z1)) (by rw [z2]; exact hc1) hc2 (hS.put z2 z3 q6'.1)
    · cases e
  · cases e
theorem s_putfN {index k : Nat} {ty : FieldType} {ts : List Nat} (hd : decode (mt m).2.1 pc = .ok (.putfield index, 3)) (hf : PutNOK (mt m).1.cls index k ty ts) : Snd mt G m pc (oPutf ts k ty (pc + 3)) := by
  obtain ⟨ref, nm, ds, host, hq, hpd, hts⟩ := hf
  intro rec hrec d ls st h o hE e
  unfold oPutf at e
  split at e
  · next v a r =>
    split at e
    · next hc =>
      obtain ⟨hc, hnar, hfit⟩ := hc
      obtain ⟨ci, C, T, N, et, h9, hv, hk, e1, e2, hr, hfin⟩ := hts _ hc
      obtain ⟨g1, g2⟩ := hrec _ _ _ _ _ _ _ _ e
      refine ⟨(Grow.set _ _ _ _).tr g1, fun p l e R s mi args below meth c sl0 C H locs cells slots L hL hR hc1 hc2 hS => ?_⟩
      have C' := C
      obtain ⟨hx, hb, hml, ho, -, -, hmn, ht, -, hEn, -, hg0, -, -, -, -⟩ := C'
      have hr : ref = (T k).1 ∨ Cond.sameField ref (T k).1 nm ds ∈ lw_all := hr
      obtain ⟨cf, kf, fi, f, hi0, hi, hsl, hst⟩ := fld_of ht hEn hv hk e1 e2 hr
      obtain ⟨cell, q1, q2, q3, q4, q5, q6⟩ := cellO_of (hR.2.2 a (by omega)) (Or.inl et) h9 hv
      have q6' := q6 (by omega)
      obtain ⟨hS9, hfc, kC, hkC, hkind⟩ := hEn.1 ci _ hv
      have hlay := ht _ ((allCG ci _ hv).1 _ (u_in_lay hk))
      unfold u_lay at hlay
      rw [if_neg (by rw [hfin]; decide)] at hlay
      have h6 := u_store hfc hkC hkind hlay hi0 (by rw [e2]; exact hpd) hnar hfit
      refine va_WputK hx hb (f := f) ho (va_Nw.use rfl (hEn.2.2.1 _ hq)) hi hst (by rw [q4]; exact h6) q1 q6'.2 (by rw [hsl]; exact k2_hasslot (q5 k hk)) rfl rfl hd fun H' z1 z2 z3 => ?_
      rw [hsl] at z1 ⊢
      refine g2 p l e R s mi args below meth c sl0 C H' _ cells slots L hL (hR.put z2 z3 (cellR_putf ht hEn hv et h9 hk q4 q5 q6' z1)) (by rw [z2]; exact hc1) hc2 (hS.put z2 z3 q6'.1)
    · cases e
  · cases e
theorem s_putfF {index k : Nat} {ty : FieldType} {ts : List Nat} (hd : decode (mt m).2.1 pc = .ok (.putfield index, 3)) (hf : PutFOK (mt m).1 index k ty ts) : Snd mt G m pc (oPutf ts k ty (pc + 3)) := by
  obtain ⟨hini, nm, ds, hq, hpd, hts⟩ := hf
  intro rec hrec d ls st h o hE e
  unfold oPutf at e
  split at e
  · next v a r =>
    split at e
    · next hc =>
      obtain ⟨hc, hnar, hfit⟩ := hc
      obtain ⟨ci, C, T, N, et, h9, hv, hk, e1, e2, hdecl, hfin⟩ := hts _ hc
      obtain ⟨g1, g2⟩ := hrec _ _ _ _ _ _ _ _ e
      refine ⟨(Grow.set _ _ _ _).tr g1, fun p l e R s mi args below meth c sl0 C H locs cells slots L hL hR hc1 hc2 hS => ?_⟩
      have C' := C
      obtain ⟨hx, hb, hml, ho, -, -, hmn, ht, -, hEn, -, hg0, -, -, -, -⟩ := C'
      have hr : (mt m).1.cls = (T k).1 ∨ Cond.sameField (mt m).1.cls (T k).1 nm ds ∈ lw_all := Or.inl hdecl
      obtain ⟨cf, kf, fi, f, hi0, hi, hsl, hst⟩ := fld_of ht hEn hv hk e1 e2 hr
      obtain ⟨cell, q1, q2, q3, q4, q5, q6⟩ := cellO_of (hR.2.2 a (by omega)) (Or.inl et) h9 hv
      have q6' := q6 (by omega)
      obtain ⟨hS9, hfc, kC, hkC, hkind⟩ := hEn.1 ci _ hv
      have hlay := ht _ ((allCG ci _ hv).1 _ (u_in_lay hk))
      unfold u_lay at hlay
      rw [if_pos hfin] at hlay
      have hcf : mi.cls = cf := by
        obtain ⟨_, _, c', _, _, _, -, -, hf', -, -, -, hown2, -⟩ := Cond.laysFinal_spec hlay
        have e1 : c' = cf := by have := hi0.symm.trans hf'; simp at this; exact this.1.symm
        rw [← hdecl] at hown2
        rw [← e1]; exact Option.some.inj (ho.symm.trans hown2)
      have h6 := u_fits hfc hkC hkind (Or.inr hlay) hi0 (by rw [e2]; exact hpd) hnar hfit
      refine W.putFinK hx hb ho (ht _ hq) hi hst hcf (hmn.trans hini) (by rw [q4]; exact h6) q1 q6'.2 (by rw [hsl]; exact k2_hasslot (q5 k hk)) rfl rfl hd fun H' z1 z2 z3 => ?_
      rw [hsl] at z1 ⊢
      refine g2 p l e R s mi args below meth c sl0 C H' _ cells slots L hL (hR.put z2 z3 (cellR_putf ht hEn hv et h9 hk q4 q5 q6' z1)) (by rw [z2]; exact hc1) hc2 (hS.put z2 z3 q6'.1)
    · cases e
  · cases e
theorem s_iastore {kt : Nat} {ts : List Nat} (hd : decode (mt m).2.1 pc = .ok (.iastore, 1)) (ha : aTy[kt]? = some .int) (h7 : kt < 7) (hts : ∀ t ∈ ts, t = kt + 100) : Snd mt G m pc (oIast ts (pc + 1)) := by
  have h9 : kt < 99 := by omega
  intro rec hrec d ls st h o hE e
  unfold oIast at e
  split at e
  · next x i a r =>
    split at e
    · next hc =>
      split at e
      · next hi =>
        obtain ⟨g1, g2⟩ := hrec _ _ _ _ _ _ _ _ e
        refine ⟨(Grow.set _ _ _ _).tr g1, fun p l e R s mi args below meth c sl0 C H locs cells slots L hL hR hc1 hc2 hS => ?_⟩
        have C' := C
        obtain ⟨hx, hb, -⟩ := C'
        have hc' := hts _ hc
        obtain ⟨cell, q1, q2, q3, q4, q5, q6, q7⟩ := cellA_of (hR.2.2 a (by omega)) (Or.inl hc') h9 ha
        obtain ⟨q8, q9⟩ := q7 (by omega)
        refine W.iast hx hb q1 q3 q2 (inb_not hi (by rw [q9, arrV_size]; exact Nat.le_refl _)) rfl rfl hd fun H' z1 z2 z3 => ?_
        rw [q9] at z1
        rw [arrV_store] at z1
        have hA := (C.2.2.2.2.2.2.2.2.2.1).2.1 kt _ ha h7
        refine g2 p l e R s mi args below meth c sl0 C H' _ cells slots L hL (hR.put z2 z3 ⟨_, z1, (fun q => by cases q), Or.inr ⟨kt, _, Or.inl hc', h9, ha, hA.1 _ _, by rw [arrV_size] <;> rfl, Nat.le_of_eq (arrV_size _ _ _).symm, fun j hj => arrV_read _ _ hj, fun _ => ⟨q8, rfl⟩⟩⟩) (by rw [z2]; exact hc1) hc2 (hS.put z2 z3 q8)
      · cases e
    · cases e
  · cases e
theorem s_bastore {kt : Nat} {ts : List Nat} (hd : decode (mt m).2.1 pc = .ok (.bastore, 1)) (ha : aTy[kt]? = some .byte) (h7 : kt < 7) (hts : ∀ t ∈ ts, t = kt + 100) : Snd mt G m pc (oBast ts (pc + 1)) := by
  have h9 : kt < 99 := by omega
  intro rec hrec d ls st h o hE e
  unfold oBast at e
  split at e
  · next x i a r =>
    split at e
    · next hc =>
      split at e
      · next hi =>
        obtain ⟨g1, g2⟩ := hrec _ _ _ _ _ _ _ _ e
        refine ⟨(Grow.set _ _ _ _).tr g1, fun p l e R s mi args below meth c sl0 C H locs cells slots L hL hR hc1 hc2 hS => ?_⟩
        have C' := C
        obtain ⟨hx, hb, -⟩ := C'
        have hc' := hts _ hc
        obtain ⟨cell, q1, q2, q3, q4, q5, q6, q7⟩ := cellA_of (hR.2.2 a (by omega)) (Or.inl hc') h9 ha
        obtain ⟨q8, q9⟩ := q7 (by omega)
        refine W.bast hx hb q1 q3 q2 (inb_not hi (by rw [q9, arrV_size]; exact Nat.le_refl _)) rfl rfl hd fun H' z1 z2 z3 => ?_
        rw [q9] at z1
        rw [arrV_store] at z1
        have hA := (C.2.2.2.2.2.2.2.2.2.1).2.1 kt _ ha h7
        refine g2 p l e R s mi args below meth c sl0 C H' _ cells slots L hL (hR.put z2 z3 ⟨_, z1, (fun q => by cases q), Or.inr ⟨kt, _, Or.inl hc', h9, ha, hA.1 _ _, by rw [arrV_size] <;> rfl, Nat.le_of_eq (arrV_size _ _ _).symm, fun j hj => arrV_read _ _ hj, fun _ => ⟨q8, rfl⟩⟩⟩) (by rw [z2]; exact hc1) hc2 (hS.put z2 z3 q8)
      · cases e
    · cases e
  · cases e
theorem s_lastore {kt : Nat} {ts : List Nat} (hd : decode (mt m).2.1 pc = .ok (.lastore, 1)) (ha : aTy[kt]? = some .long) (h7 : kt < 7) (hts : ∀ t ∈ ts, t = kt + 100) : Snd mt G m pc (oLast ts (pc + 1)) := by
  have h9 : kt < 99 := by omega
  intro rec hrec d ls st h o hE e
  unfold oLast at e
  split at e
  · next x i a r =>
    split at e
    · next hc =>
      split at e
      · next hi =>
        obtain ⟨g1, g2⟩ := hrec _ _ _ _ _ _ _ _ e
        refine ⟨(Grow.set _ _ _ _).tr g1, fun p l e R s mi args below meth c sl0 C H locs cells slots L hL hR hc1 hc2 hS => ?_⟩
        have C' := C
        obtain ⟨hx, hb, -⟩ := C'
        have hc' := hts _ hc
        obtain ⟨cell, q1, q2, q3, q4, q5, q6, q7⟩ := cellA_of (hR.2.2 a (by omega)) (Or.inl hc') h9 ha
        obtain ⟨q8, q9⟩ := q7 (by omega)
        refine W.last hx hb q1 q3 q2 (inb_not hi (by rw [q9, arrV_size]; exact Nat.le_refl _)) rfl rfl hd fun H' z1 z2 z3 => ?_
        rw [q9] at z1
        rw [arrV_store] at z1
        have hA := (C.2.2.2.2.2.2.2.2.2.1).2.1 kt _ ha h7
        refine g2 p l e R s mi args below meth c sl0 C H' _ cells slots L hL (hR.put z2 z3 ⟨_, z1, (fun q => by cases q), Or.inr ⟨kt, _, Or.inl hc', h9, ha, hA.1 _ _, by rw [arrV_size] <;> rfl, Nat.le_of_eq (arrV_size _ _ _).symm, fun j hj => arrV_read _ _ hj, fun _ => ⟨q8, rfl⟩⟩⟩) (by rw [z2]; exact hc1) hc2 (hS.put z2 z3 q8)
      · cases e
    · cases e
  · cases e
/-- what may be stored into an array of references to C: an object of a class that the tables say is a C -/
def EOK (C : String) (t : Nat) : Prop := ∃ (ci : Nat) (r : vw_C), (t = ci + 1 ∨ t = ci + 1001) ∧ ci < 99 ∧ vwCl[ci]? = some r ∧ (r.1 = C ∨ Cond.castable r.1 C ∈ nwL)
theorem asg_of {G : AG} {s : State} {args : Array Value} {C : String} {comp : ClassId} {ci : Nat} {r : vw_C} (hEn : EnvOK G s) (hv : vwCl[ci]? = some r) (hc : r.1 = C ∨ Cond.castable r.1 C ∈ nwL) (hf : s.vm.findClass C = some comp) : s.vm.assignable ((gD G).1 ci) comp = true := by
  have hcl := (hEn.1 ci r hv).2
  rcases hc with e | e
  · have h1 : comp = (gD G).1 ci := Option.some.inj (hf.symm.trans (e ▸ hcl.1))
    rw [h1]
    exact va_assign hcl
  · obtain ⟨c0, t0, f1, f2, f3⟩ := Cond.castable_spec (va_Nw.use (A := args) rfl (hEn.2.2.1 _ e))
    cases Option.some.inj (f1.symm.trans hcl.1)
    cases Option.some.inj (f2.symm.trans hf)
    exact f3
theorem s_aastore {kt : Nat} {ts es : List Nat} {C9 : String} (hd : decode (mt m).2.1 pc = .ok (.aastore, 1)) (ha : aTy[kt]? = some (.object C9)) (h7 : kt < 7) (hts : ∀ t ∈ ts, t = kt + 100) (hes : ∀ t ∈ es, EOK C9 t) : Snd mt G m pc (oAast ts es (pc + 1)) := by
  have h9 : kt < 99 := by omega
  intro rec hrec d ls st h o hE e
  unfold oAast at e
  split at e
  · next v i a r =>
    split at e
    · next hc =>
      split at e
      · next hi =>
        obtain ⟨g1, g2⟩ := hrec _ _ _ _ _ _ _ _ e
        refine ⟨(Grow.set _ _ _ _).tr g1, fun p l e R s mi args below meth c sl0 C H locs cells slots L hL hR hc1 hc2 hS => ?_⟩
        have C' := C
        obtain ⟨hx, hb, -, -, -, -, -, ht, -, hEn, -⟩ := C'
        have hc' := hts _ hc.1
        obtain ⟨cell, q1, q2, q3, q4, q5, q6, q7⟩ := cellA_of (hR.2.2 a (by omega)) (Or.inl hc') h9 ha
        obtain ⟨q8, q9⟩ := q7 (by omega)
        obtain ⟨ci, r9, et, h99, hv, hcs⟩ := hes _ hc.2
        obtain ⟨cv, w1, w2, w3, w4, -⟩ := cellO_of (hR.2.2 v (by omega)) et h99 hv
        have hA := hEn.2.1 kt _ ha h7
        obtain ⟨kA, comp, k1, k2, k3, -⟩ := hA.2
        obtain ⟨kE, hkE, -⟩ := Vm.findClass_spec k3
        obtain ⟨-, kC, hkC, -⟩ := (hEn.1 ci r9 hv).2
        have hsz : (Array.size cell.slots) = (hcl h a).2.1 := by rw [q9, arrV_size]
        refine W.aast hx hb q1 (fun q hq => q3.1 q hq) q2 (by rw [q9]; exact k1) k2 rfl hkE ⟨hi.1, by rw [hsz]; exact hi.2⟩ w1 (fun q hq => by rw [hq] at w3; cases w3) (by rw [w4]; exact hkC) (by rw [w4]; exact asg_of (args := args) hEn hv hcs k3) rfl rfl hd fun H' z1 z2 z3 => ?_
        rw [q9, arrV_store] at z1
        refine g2 p l e R s mi args below meth c sl0 C H' _ cells slots L hL (hR.put z2 z3 ⟨_, z1, (fun q => by cases q), Or.inr ⟨kt, _, Or.inl hc', h9, ha, hA.1 _ _, by rw [arrV_size] <;> rfl, Nat.le_of_eq (arrV_size _ _ _).symm, fun j hj => arrV_read _ _ hj, fun _ => ⟨q8, rfl⟩⟩⟩) (by rw [z2]; exact hc1) hc2 (hS.put z2 z3 q8)
      · cases e
    · cases e
  · next i a r =>
    split at e
    · next hc =>
      split at e
      · next hi =>
        obtain ⟨g1, g2⟩ := hrec _ _ _ _ _ _ _ _ e
        refine ⟨(Grow.set _ _ _ _).tr g1, fun p l e R s mi args below meth c sl0 C H locs cells slots L hL hR hc1 hc2 hS => ?_⟩
        have C' := C
        obtain ⟨hx, hb, -, -, -, -, -, ht, -, hEn, -⟩ := C'
        have hc' := hts _ hc
        obtain ⟨cell, q1, q2, q3, q4, q5, q6, q7⟩ := cellA_of (hR.2.2 a (by omega)) (Or.inl hc') h9 ha
        obtain ⟨q8, q9⟩ := q7 (by omega)
        have hA := hEn.2.1 kt _ ha h7
        refine va_WaastN hx hb q1 q3 q2 (inb_not hi (by rw [q9, arrV_size]; exact Nat.le_refl _)) rfl rfl hd fun H' z1 z2 z3 => ?_
        rw [q9, arrV_store] at z1
        refine g2 p l e R s mi args below meth c sl0 C H' _ cells slots L hL (hR.put z2 z3 ⟨_, z1, (fun q => by cases q), Or.inr ⟨kt, _, Or.inl hc', h9, ha, hA.1 _ _, by rw [arrV_size] <;> rfl, Nat.le_of_eq (arrV_size _ _ _).symm, fun j hj => arrV_read _ _ hj, fun _ => ⟨q8, rfl⟩⟩⟩) (by rw [z2]; exact hc1) hc2 (hS.put z2 z3 q8)
      · cases e
    · cases e
  · cases e
/-- a new cell: what the frame of a method needs of it -/
theorem sS_new {G : AG} {s : State} {H H' : Heap} {locs : List Loc} (hS : va_S (fre G) s.heap H locs) (z2 : H'.size = H.size + 1) (z3 : ∀ q : Nat, q < H.size → H'[q]? = H[q]?) : va_S (fre G) s.heap H' locs :=
  ⟨Nat.le_trans hS.1 (by omega), fun x h1 h2 => (z3 x (Nat.lt_of_lt_of_le h1 hS.1)).trans (hS.2.1 x h1 h2), hS.2.2⟩
theorem s_new {index ci N : Nat} {C9 : String} {T9 : u_T} {f : Nat → Value} {ty : Nat → FieldType} (hd : decode (mt m).2.1 pc = .ok (.new index, 3)) (h9 : ci < 99) (hv : vwCl[ci]? = some (C9, T9, N)) (hty : ∀ k, k < N → parseFieldDescriptor (T9 k).2.2.1 = some (ty k)) (hf : ∀ k, k < N → defaultValue (ty k) = f k)
    (hq1 : Cond.classLink (mt m).1.cls index C9 ∈ lw_all) (hq2 : Cond.instantiable C9 N ∈ lw_all) (hq3 : Cond.initialized C9 ∈ lw_all) : Snd mt G m pc (oNew (ci + 1) N f (pc + 3)) := by
  intro rec hrec d ls st h o hE e
  unfold oNew at e
  obtain ⟨g1, g2⟩ := hrec _ _ _ _ _ _ _ _ e
  refine ⟨(Grow.new _ _ _).tr g1, fun p l e R s mi args below meth c sl0 C H locs cells slots L hL hR hc1 hc2 hS => ?_⟩
  have C' := C
  obtain ⟨hx, hb, -, ho, -, -, -, ht, -, hEn, -, hg0, -, -, hzc, hzs⟩ := C'
  have e1 : hsz h + 1 ≤ hsz hE := g1.1
  have e2 : hsl h + N ≤ hsl hE := g1.2
  have e3 : hsz h = H.size := hR.1
  have hKn := hEn.1 ci _ hv
  refine W.newcK hx hb ho (ht _ hq1) (ht _ hq2) (ht _ hq3) rfl hd (by omega) (by omega) hKn.2.1 rfl fun H' kC hkC z1 z2 z3 => ?_
  have hB : t_OB H.size ((gD G).1 ci) N ((gD G).2 ci) H' f := (u_born ty ht (allCG ci _ hv).1 hKn hkC z1 hty).to hf
  obtain ⟨cell, w1, w2, w3, w4⟩ := hB
  have hcell : cellR G s H' H.size (ci + 1, N, f) := ⟨cell, w1, (by rw [w3]; exact fun q => by cases q), Or.inl ⟨ci, _, Or.inl rfl, h9, hv, by rw [w3]; rfl, w2, w4, fun _ => ⟨Nat.le_trans hg0 hS.1, w3⟩⟩⟩
  have key := g2 p l e R s mi args below meth c sl0 C H' locs (cells + 1) (slots + N) L hL (hR.new z2 z3 hcell) (by omega) (by rw [hsl_new]; omega) (sS_new hS z2 z3)
  rw [e3] at key
  exact key
theorem s_newa {kt : Nat} {atype : ArrayType} {v : Value} (hd : decode (mt m).2.1 pc = .ok (.newarray atype, 2)) (h7 : kt < 7) (ha : aTy[kt]? = some (newarray.typeOf atype)) (hdv : defaultValue (newarray.typeOf atype) = v) (hnm : ∀ C, newarray.typeOf atype ≠ .object C) (hcb : componentBytes (newarray.typeOf atype) ≤ 8) (hq : Cond.arrayClass (newarray.typeOf atype) ∈ lw_all) : Snd mt G m pc (oNewa (kt + 100) v (pc + 2)) := by
  have h9 : kt < 99 := by omega
  intro rec hrec d ls st h o hE e
  unfold oNewa at e
  split at e
  · next x r =>
    split at e
    · next hi =>
      obtain ⟨g1, g2⟩ := hrec _ _ _ _ _ _ _ _ e
      refine ⟨(Grow.new _ _ _).tr g1, fun p l e R s mi args below meth c sl0 C H locs cells slots L hL hR hc1 hc2 hS => ?_⟩
      have C' := C
      obtain ⟨hx, hb, -, ho, -, -, -, ht, -, hEn, -, hg0, -, -, hzc, hzs⟩ := C'
      have e1 : hsz h + 1 ≤ hsz hE := g1.1
      have e2 : hsl h + x.toNatClampNeg ≤ hsl hE := g1.2
      have e3 : hsz h = H.size := hR.1
      have hbytes : x.toNatClampNeg * componentBytes (newarray.typeOf atype) ≤ 536870912 := Nat.le_trans (Nat.mul_le_mul (Nat.le_of_lt hi.2) hcb) (by decide)
      refine va_newaK hx hb (ht _ hq) rfl hd rfl hi.1 rfl hbytes (by omega) (by omega) rfl fun H' cA z1 z2 z3 hAr hNm => ?_
      have hA := hEn.2.1 kt _ ha h7
      have hcA : cA = gA G kt := by
        have h1 := hA.2
        unfold va_RA at h1
        split at h1
        · next C hC => exact absurd hC (hnm C)
        · exact Option.some.inj (hNm.symm.trans h1)
      rw [hdv, hcA] at z1
      have hcell : cellR G s H' H.size (kt + 100, x.toNatClampNeg, fun _ => v) := ⟨_, z1, (fun q => by cases q), Or.inr ⟨kt, _, Or.inl rfl, h9, ha, hA.1 _ _, by rw [arrV_size] <;> rfl, Nat.le_of_eq (arrV_size _ _ _).symm, fun j hj => arrV_read _ _ hj, fun _ => ⟨Nat.le_trans hg0 hS.1, rfl⟩⟩⟩
      have key := g2 p l e R s mi args below meth c sl0 C H' locs (cells + 1) (slots + x.toNatClampNeg) L hL (hR.new z2 z3 hcell) (by omega) (by rw [hsl_new]; omega) (sS_new hS z2 z3)
      rw [e3] at key
      exact key
    · cases e
  · cases e
theorem arr_null (n : Nat) (cA : ClassId) : ({ cls := cA, slots := Array.replicate n .null, vm := .none } : Cell) = arrV cA n (fun _ => .null) := by
  unfold arrV
  congr 1
  apply Array.ext
  · simp
  · intro i h1 h2
    simp
theorem s_anew {kt index : Nat} {C9 : String} (hd : decode (mt m).2.1 pc = .ok (.anewarray index, 3)) (h7 : kt < 7) (ha : aTy[kt]? = some (.object C9)) (hq : Cond.classLink (mt m).1.cls index C9 ∈ lw_all) (hao : C9 ∈ aoL) : Snd mt G m pc (oNewa (kt + 100) .null (pc + 3)) := by
  have h9 : kt < 99 := by omega
  intro rec hrec d ls st h o hE e
  unfold oNewa at e
  split at e
  · next x r =>
    split at e
    · next hi =>
      obtain ⟨g1, g2⟩ := hrec _ _ _ _ _ _ _ _ e
      refine ⟨(Grow.new _ _ _).tr g1, fun p l e R s mi args below meth c sl0 C H locs cells slots L hL hR hc1 hc2 hS => ?_⟩
      have C' := C
      obtain ⟨hx, hb, -, ho, -, -, -, ht, -, hEn, -, hg0, -, -, hzc, hzs⟩ := C'
      have e1 : hsz h + 1 ≤ hsz hE := g1.1
      have e2 : hsl h + x.toNatClampNeg ≤ hsl hE := g1.2
      have e3 : hsz h = H.size := hR.1
      have hx6 := hi.2
      refine W.anew hx hb ho (ht _ hq) (va_AO.use (hEn.2.2.2.1 _ hao)) rfl hd rfl hi.1 (by omega) (by omega) (by omega) fun cA kA comp f1 f2 f3 f4 => ?_
      rw [arr_null]
      have hA := hEn.2.1 kt _ ha h7
      have hcA : cA = gA G kt := by
        obtain ⟨_, _, -, -, -, k4⟩ := hA.2
        exact Option.some.inj (f1.symm.trans k4)
      subst hcA
      have z1 : (H.push (arrV (gA G kt) x.toNatClampNeg (fun _ => .null)))[H.size]? = some (arrV (gA G kt) x.toNatClampNeg (fun _ => .null)) := by simp
      have z3 : ∀ q : Nat, q < H.size → (H.push (arrV (gA G kt) x.toNatClampNeg (fun _ => .null)))[q]? = H[q]? := fun q hq => by
        rw [Array.getElem?_push, if_neg (by omega)]
      have hcell : cellR G s _ H.size (kt + 100, x.toNatClampNeg, fun _ => .null) := ⟨_, z1, (fun q => by cases q), Or.inr ⟨kt, _, Or.inl rfl, h9, ha, hA.1 _ _, by rw [arrV_size] <;> rfl, Nat.le_of_eq (arrV_size _ _ _).symm, fun j hj => arrV_read _ _ hj, fun _ => ⟨Nat.le_trans hg0 hS.1, rfl⟩⟩⟩
      have key := g2 p l e R s mi args below meth c sl0 C _ locs (cells + 1) (slots + x.toNatClampNeg) L hL (hR.new (by simp) z3 hcell) (by simp; omega) (by rw [hsl_new]; omega) (sS_new hS (by simp) z3)
      rw [e3] at key
      exact key
    · cases e
  · cases e
end AM5
