/-! INSTRUCTIONS that read the heap: fields, statics, arrays, constants that are objects, casts -/
set_option maxRecDepth 100000
theorem cellO_of {G : AG} {U : State} {H : Heap} {a ci : Nat} {c : AC} {r : vw_C} (h : cellR G U H a c) (hc : c.1 = ci + 1 ∨ c.1 = ci + 1001) (h9 : ci < 99) (hv : vwCl[ci]? = some r) :
    ∃ cell : Cell, H[a]? = some cell ∧ cell.vm ≠ .unknown ∧ cell.vm.isStatics = false ∧ cell.cls = (gD G).1 ci ∧ (∀ k, k < r.2.2 → cell.slots[(gD G).2 ci k]? = some (c.2.2 k)) ∧ (c.1 < 1000 → gB G ≤ a ∧ cell.vm = .none) := by
  obtain ⟨cell, h1, h2, h3⟩ := h
  rcases h3 with ⟨ci', r', e1, e2, e3, e4, e5, e6, e7⟩ | ⟨k, ty, e1, e2, -⟩
  · have hci : ci' = ci := by omega
    subst hci
    cases Option.some.inj (e3.symm.trans hv)
    exact ⟨cell, h1, h2, e4, e5, e6, e7⟩
  · exfalso; omega
theorem cellA_of {G : AG} {U : State} {H : Heap} {a k : Nat} {c : AC} {ty : FieldType} (h : cellR G U H a c) (hc : c.1 = k + 100 ∨ c.1 = k + 1100) (h9 : k < 99) (hv : aTy[k]? = some ty) :
    ∃ cell : Cell, H[a]? = some cell ∧ cell.vm ≠ .unknown ∧ U.isArrayOf cell ty ∧ cell.slots.size.toInt32 = Int32.ofNat c.2.1 ∧ c.2.1 ≤ cell.slots.size ∧ (∀ j, j < c.2.1 → cell.slots[j]? = some (c.2.2 j)) ∧ (c.1 < 1000 → gB G ≤ a ∧ cell = arrV (gA G k) c.2.1 c.2.2) := by
  obtain ⟨cell, h1, h2, h3⟩ := h
  rcases h3 with ⟨ci', r', e1, e2, -⟩ | ⟨k', ty', e1, e2, e3, e4, e5, e6, e7, e8⟩
  · exfalso; omega
  · have hk : k' = k := by omega
    subst hk
    cases Option.some.inj (e3.symm.trans hv)
    exact ⟨cell, h1, h2, e4, e5, e6, e7, e8⟩
def oGetf (ts : List Nat) (k n : Nat) : AOp := fun _ ls st h => match st with
  | .ref a :: r => if (hcl h a).1 ∈ ts then nx n ls ((hcl h a).2.2 k :: r) h else stuck
  | _ => stuck
def oGets (k n : Nat) : AOp := fun _ ls st h => nx n ls (henv h k :: st) h
def oAlen (n : Nat) : AOp := fun _ ls st h => match st with
  | .ref a :: r => if 100 ≤ (hcl h a).1 % 1000 ∧ (hcl h a).1 % 1000 < 199 then nx n ls (.int (Int32.ofNat (hcl h a).2.1) :: r) h else stuck
  | _ => stuck
/-- an index within -/
abbrev inb (i : Int32) (n : Nat) : Prop := ¬ i < 0 ∧ i.toNatClampNeg < n
def oAld (ts : List Nat) (n : Nat) : AOp := fun _ ls st h => match st with
  | .int i :: .ref a :: r => if (hcl h a).1 ∈ ts then (if inb i (hcl h a).2.1 then nx n ls ((hcl h a).2.2 i.toNatClampNeg :: r) h else stuck) else stuck
  | _ => stuck
def oCast (ts : List Nat) (n : Nat) : AOp := fun _ ls st h => match st with
  | .null :: r => nx n ls (.null :: r) h
  | .ref a :: r => if (hcl h a).1 ∈ ts then nx n ls (.ref a :: r) h else stuck
  | _ => stuck
/-- field k of the classes ts under the pool's entry index -/
def FOKt (ref nm ds : String) (k t : Nat) : Prop := ∃ (ci : Nat) (C : String) (T : u_T) (N : Nat), (t = ci + 1 ∨ t = ci + 1001) ∧ ci < 99 ∧ vwCl[ci]? = some (C, T, N) ∧ k < N ∧ (T k).2.1 = nm ∧ (T k).2.2.1 = ds ∧ (ref = (T k).1 ∨ Cond.sameField ref (T k).1 nm ds ∈ lw_all)
def FOK (own : String) (index k : Nat) (ts : List Nat) : Prop := ∃ ref nm ds : String, Cond.fieldLink own index ref nm ds ∈ lw_all ∧ ∀ t ∈ ts, FOKt ref nm ds k t
def FOKN (own : String) (index k : Nat) (ts : List Nat) : Prop := ∃ ref nm ds host : String, Cond.fieldLinkNest own index ref nm ds host ∈ nwL ∧ ∀ t ∈ ts, FOKt ref nm ds k t
theorem fokt {k ci N t : Nat} {C : String} {T : u_T} (ht : t = ci + 1 ∨ t = ci + 1001) (h9 : ci < 99) (hv : vwCl[ci]? = some (C, T, N)) (hk : k < N) : FOKt (T k).1 (T k).2.1 (T k).2.2.1 k t := ⟨ci, C, T, N, ht, h9, hv, hk, rfl, rfl, Or.inl rfl⟩
theorem fok1 {own C : String} {index k N : Nat} {T : u_T} (ci : Nat) (h9 : ci < 99) (hv : vwCl[ci]? = some (C, T, N)) (hk : k < N) (hq : Cond.fieldLink own index (T k).1 (T k).2.1 (T k).2.2.1 ∈ lw_all) : FOK own index k [ci + 1] :=
  ⟨_, _, _, hq, fun t ht => by rw [List.mem_singleton.mp ht]; exact fokt (Or.inl rfl) h9 hv hk⟩
theorem fok2 {own C : String} {index k N : Nat} {T : u_T} (ci : Nat) (h9 : ci < 99) (hv : vwCl[ci]? = some (C, T, N)) (hk : k < N) (hq : Cond.fieldLink own index (T k).1 (T k).2.1 (T k).2.2.1 ∈ lw_all) : FOK own index k [ci + 1, ci + 1001] :=
  ⟨_, _, _, hq, fun t ht => by
    rcases List.mem_cons.mp ht with e | e
    · exact fokt (Or.inl e) h9 hv hk
    · exact fokt (Or.inr (List.mem_singleton.mp e)) h9 hv hk⟩
theorem fokn1 {own C host : String} {index k N : Nat} {T : u_T} (ci : Nat) (h9 : ci < 99) (hv : vwCl[ci]? = some (C, T, N)) (hk : k < N) (hq : Cond.fieldLinkNest own index (T k).1 (T k).2.1 (T k).2.2.1 host ∈ lw_tbl) : FOKN own index k [ci + 1] :=
  ⟨_, _, _, _, List.mem_filter.mpr ⟨hq, rfl⟩, fun t ht => by rw [List.mem_singleton.mp ht]; exact fokt (Or.inl rfl) h9 hv hk⟩
/-- a field's slot, by the class's words -/
theorem fld_of {s : State} {args : Array Value} {G : AG} {ref nm ds C : String} {T : u_T} {N ci k : Nat} (ht : ∀ w ∈ lw_all, w.before args s = true) (hEn : EnvOK G s) (hv : vwCl[ci]? = some (C, T, N)) (hk : k < N) (e1 : (T k).2.1 = nm) (e2 : (T k).2.2.1 = ds) (hr : ref = (T k).1 ∨ Cond.sameField ref (T k).1 nm ds ∈ lw_all) :
    ∃ (cf : Nat) (kf : Class) (fi : Nat) (f : Field), s.fieldFound? (T k).1 (T k).2.1 (T k).2.2.1 = some (cf, kf, fi, f) ∧ s.fieldFound? ref nm ds = some (cf, kf, fi, f) ∧ f.slot = (gD G).2 ci k ∧ f.isStatic = false := by
  obtain ⟨hS, hfc, kC, hkC, hkind⟩ := hEn.1 ci _ hv
  obtain ⟨cf, kf, fi, f, hi, hsl⟩ := hS k hk
  refine ⟨cf, kf, fi, f, hi, ?_, hsl, (u_facts hfc hkC (u_lays ht (allCG ci _ hv).1 hk) hi).1⟩
  rcases hr with e | hw
  · rw [e, ← e1, ← e2]; exact hi
  · rw [← e1, ← e2] at hw ⊢
    exact u_same (ht _ hw) _ hi
section AM4
variable {mt : Nat → MT} {G : AG} {m pc : Nat}
theorem s_getf {index k : Nat} {ts : List Nat} (hd : decode (mt m).2.1 pc = .ok (.getfield index, 3)) (hf : FOK (mt m).1.cls index k ts) : Snd mt G m pc (oGetf ts k (pc + 3)) := by
  obtain ⟨ref, nm, ds, hq, hts⟩ := hf
  refine snd_prow fun d ls st h => ?_
  unfold oGetf
  split
  · next a r =>
    split
    · next hc =>
      obtain ⟨ci, C, T, N, et, h9, hv, hk, e1, e2, hr⟩ := hts _ hc
      refine Or.inr ⟨_, _, _, rfl, fun _ _ _ _ s _ args _ _ _ H _ _ _ _ hx hb ho ht hEn hR hS hml hfr hlo L hL k => ?_⟩
      obtain ⟨cf, kf, fi, f, -, hi, hsl, hst⟩ := fld_of ht hEn hv hk e1 e2 hr
      obtain ⟨cell, q1, q2, q3, q4, q5, -⟩ := cellO_of (hR.2.2 a (by omega)) et h9 hv
      exact W.getf hx hb ho (ht _ hq) hi hst q1 q2 (by rw [hsl]; exact q5 _ hk) rfl rfl hd (k L hL)
    · exact Or.inl rfl
  · exact Or.inl rfl
theorem s_getfN {index k : Nat} {ts : List Nat} (hd : decode (mt m).2.1 pc = .ok (.getfield index, 3)) (hf : FOKN (mt m).1.cls index k ts) : Snd mt G m pc (oGetf ts k (pc + 3)) := by
  obtain ⟨ref, nm, ds, host, hq, hts⟩ := hf
  refine snd_prow fun d ls st h => ?_
  unfold oGetf
  split
  · next a r =>
    split
    · next hc =>
      obtain ⟨ci, C, T, N, et, h9, hv, hk, e1, e2, hr⟩ := hts _ hc
      refine Or.inr ⟨_, _, _, rfl, fun _ _ _ _ s _ args _ _ _ H _ _ _ _ hx hb ho ht hEn hR hS hml hfr hlo L hL k => ?_⟩
      obtain ⟨cf, kf, fi, f, -, hi, hsl, hst⟩ := fld_of ht hEn hv hk e1 e2 hr
      obtain ⟨cell, q1, q2, q3, q4, q5, -⟩ := cellO_of (hR.2.2 a (by omega)) et h9 hv
      exact va_Wgetf hx hb ho (va_Nw.use rfl (hEn.2.2.1 _ hq)) hi hst q1 q2 (by rw [hsl]; exact q5 _ hk) rfl rfl hd (k L hL)
    · exact Or.inl rfl
  · exact Or.inl rfl
theorem s_gets {index j : Nat} {C n d : String} (hd : decode (mt m).2.1 pc = .ok (.getstatic index, 3)) (hv : stL[j]? = some (C, n, d)) (hq : Cond.fieldLink (mt m).1.cls index C n d ∈ lw_all) : Snd mt G m pc (oGets j (pc + 3)) := by
  refine snd_prow fun _ ls st h => Or.inr ⟨_, _, _, rfl, fun _ _ _ _ s _ args _ _ _ H _ _ _ _ hx hb ho ht hEn hR hS hml hfr hlo L hL k => ?_⟩
  have hZ := hEn.2.2.2.2.2.2.1 j _ hv
  have e : henv h j = gE G j := by show h.2.2.2 j = _; rw [hR.2.1]
  rw [e] at k
  exact va_gets hx hb hZ hS ho (ht _ hq) (fun _ h => h) hd (k L hL)
theorem s_alen (hd : decode (mt m).2.1 pc = .ok (.arraylength, 1)) : Snd mt G m pc (oAlen (pc + 1)) := by
  refine snd_prow fun d ls st h => ?_
  unfold oAlen
  split
  · next a r =>
    split
    · next hc =>
      refine Or.inr ⟨_, _, _, rfl, fun _ _ _ _ s _ args _ _ _ H _ _ _ _ hx hb ho ht hEn hR hS hml hfr hlo L hL k => ?_⟩
      obtain ⟨cell, q1, q2, q3⟩ := hR.2.2 a (by omega)
      rcases q3 with ⟨ci, r, e1, e2, -⟩ | ⟨j, ty, e1, e2, e3, e4, e5, -⟩
      · exfalso; omega
      · exact W.alen hx hb q1 e4 e5 rfl rfl hd (k L hL)
    · exact Or.inl rfl
  · exact Or.inl rfl
theorem inb_not {i : Int32} {n N : Nat} (h : inb i n) (hn : n ≤ N) : ¬ (i < 0 ∨ N ≤ i.toNatClampNeg) := by
  rintro (q | q)
  · exact h.1 q
  · exact absurd h.2 (by omega)
theorem s_iaload {kt : Nat} {ts : List Nat} (hd : decode (mt m).2.1 pc = .ok (.iaload, 1)) (ha : aTy[kt]? = some .int) (h9 : kt < 99) (hts : ∀ t ∈ ts, t = kt + 100 ∨ t = kt + 1100) : Snd mt G m pc (oAld ts (pc + 1)) := by
  refine snd_prow fun d ls st h => ?_
  unfold oAld
  split
  · next i a r =>
    split
    · next hc =>
      split
      · next hi =>
        refine Or.inr ⟨_, _, _, rfl, fun _ _ _ _ s _ args _ _ _ H _ _ _ _ hx hb ho ht hEn hR hS hml hfr hlo L hL k => ?_⟩
        have hc' := hts _ hc
        obtain ⟨cell, q1, q2, q3, q4, q5, q6, -⟩ := cellA_of (hR.2.2 a (by omega)) hc' h9 ha
        exact W.iald hx hb q1 q3 q2 (inb_not hi q5) (q6 _ hi.2) rfl rfl hd (k L hL)
      · exact Or.inl rfl
    · exact Or.inl rfl
  · exact Or.inl rfl
theorem s_baload {kt : Nat} {ts : List Nat} (hd : decode (mt m).2.1 pc = .ok (.baload, 1)) (ha : aTy[kt]? = some .byte) (h9 : kt < 99) (hts : ∀ t ∈ ts, t = kt + 100 ∨ t = kt + 1100) : Snd mt G m pc (oAld ts (pc + 1)) := by
  refine snd_prow fun d ls st h => ?_
  unfold oAld
  split
  · next i a r =>
    split
    · next hc =>
      split
      · next hi =>
        refine Or.inr ⟨_, _, _, rfl, fun _ _ _ _ s _ args _ _ _ H _ _ _ _ hx hb ho ht hEn hR hS hml hfr hlo L hL k => ?_⟩
        have hc' := hts _ hc
        obtain ⟨cell, q1, q2, q3, q4, q5, q6, -⟩ := cellA_of (hR.2.2 a (by omega)) hc' h9 ha
        exact W.bald hx hb q1 q3 q2 (inb_not hi q5) (q6 _ hi.2) rfl rfl hd (k L hL)
      · exact Or.inl rfl
    · exact Or.inl rfl
  · exact Or.inl rfl
theorem s_laload {kt : Nat} {ts : List Nat} (hd : decode (mt m).2.1 pc = .ok (.laload, 1)) (ha : aTy[kt]? = some .long) (h9 : kt < 99) (hts : ∀ t ∈ ts, t = kt + 100 ∨ t = kt + 1100) : Snd mt G m pc (oAld ts (pc + 1)) := by
  refine snd_prow fun d ls st h => ?_
  unfold oAld
  split
  · next i a r =>
    split
    · next hc =>
      split
      · next hi =>
        refine Or.inr ⟨_, _, _, rfl, fun _ _ _ _ s _ args _ _ _ H _ _ _ _ hx hb ho ht hEn hR hS hml hfr hlo L hL k => ?_⟩
        have hc' := hts _ hc
        obtain ⟨cell, q1, q2, q3, q4, q5, q6, -⟩ := cellA_of (hR.2.2 a (by omega)) hc' h9 ha
        exact W.lald hx hb q1 q3 q2 (inb_not hi q5) (q6 _ hi.2) rfl rfl hd (k L hL)
      · exact Or.inl rfl
    · exact Or.inl rfl
  · exact Or.inl rfl
theorem s_aaload {kt : Nat} {ts : List Nat} (hd : decode (mt m).2.1 pc = .ok (.aaload, 1)) {ty : FieldType} (hty : ty.isReference = true) (ha : aTy[kt]? = some ty) (h9 : kt < 99) (hts : ∀ t ∈ ts, t = kt + 100 ∨ t = kt + 1100) : Snd mt G m pc (oAld ts (pc + 1)) := by
  refine snd_prow fun d ls st h => ?_
  unfold oAld
  split
  · next i a r =>
    split
    · next hc =>
      split
      · next hi =>
        refine Or.inr ⟨_, _, _, rfl, fun _ _ _ _ s _ args _ _ _ H _ _ _ _ hx hb ho ht hEn hR hS hml hfr hlo L hL k => ?_⟩
        have hc' := hts _ hc
        obtain ⟨cell, q1, q2, q3, q4, q5, q6, -⟩ := cellA_of (hR.2.2 a (by omega)) hc' h9 ha
        exact W.aald hx hb q1 q3 hty q2 (inb_not hi q5) (q6 _ hi.2) rfl rfl hd (k L hL)
      · exact Or.inl rfl
    · exact Or.inl rfl
  · exact Or.inl rfl
theorem s_caload {kt : Nat} {ts : List Nat} (hd : decode (mt m).2.1 pc = .ok (.caload, 1)) (ha : aTy[kt]? = some .char) (h9 : kt < 99) (hts : ∀ t ∈ ts, t = kt + 100 ∨ t = kt + 1100) : Snd mt G m pc (oAld ts (pc + 1)) := by
  refine snd_prow fun d ls st h => ?_
  unfold oAld
  split
  · next i a r =>
    split
    · next hc =>
      split
      · next hi =>
        refine Or.inr ⟨_, _, _, rfl, fun _ _ _ _ s _ args _ _ _ H _ _ _ _ hx hb ho ht hEn hR hS hml hfr hlo L hL k => ?_⟩
        have hc' := hts _ hc
        obtain ⟨cell, q1, q2, q3, q4, q5, q6, -⟩ := cellA_of (hR.2.2 a (by omega)) hc' h9 ha
        exact W.cald hx hb q1 q3 q2 (inb_not hi q5) (q6 _ hi.2) rfl rfl hd (k L hL)
      · exact Or.inl rfl
    · exact Or.inl rfl
  · exact Or.inl rfl
theorem s_ldcS {index j : Nat} {own tx : String} (hd : decode (mt m).2.1 pc = .ok (.ldc index, 2)) (hv : srL[j]? = some (own, index, tx)) (ho' : own = (mt m).1.cls) : Snd mt G m pc (oGets (1000 + j) (pc + 2)) := by
  refine snd_prow fun _ ls st h => Or.inr ⟨_, _, _, rfl, fun _ _ _ _ s _ args _ _ _ H _ _ _ _ hx hb ho ht hEn hR hS hml hfr hlo L hL k => ?_⟩
  obtain ⟨a, e1, e2⟩ := hEn.2.2.2.2.2.2.2.1 j _ hv
  have e : henv h (1000 + j) = .ref a := by show h.2.2.2 (1000 + j) = _; rw [hR.2.1]; exact e1
  rw [e] at k
  subst ho'
  exact va_ldcS hx hb ho e2 hd (k L hL)
/-- the class Object[] as a constant -/
theorem s_ldcM {index : Nat} (hd : decode (mt m).2.1 pc = .ok (.ldc index, 2)) (hq : Cond.classLink (mt m).1.cls index "[Ljava/lang/Object;" ∈ lw_all) : Snd mt G m pc (oGets 999 (pc + 2)) := by
  refine snd_prow fun _ ls st h => Or.inr ⟨_, _, _, rfl, fun _ _ _ _ s _ args _ _ _ H _ _ _ _ hx hb ho ht hEn hR hS hml hfr hlo L hL k => ?_⟩
  obtain ⟨a, e1, e2⟩ := hEn.2.2.2.2.2.2.2.2.1
  have e : henv h 999 = .ref a := by show h.2.2.2 999 = _; rw [hR.2.1]; exact e1
  rw [e] at k
  exact va_ldcM hx hb ho (ht _ hq) e2 hd (k L hL)
/-- a cast that holds, by the classes' names -/
def COK (nm : String) (t : Nat) : Prop := ∃ (ci : Nat) (r : vw_C), (t = ci + 1 ∨ t = ci + 1001) ∧ ci < 99 ∧ vwCl[ci]? = some r ∧ (r.1 = nm ∨ Cond.castable r.1 nm ∈ nwL)
theorem s_cast {index : Nat} {nm : String} {ts : List Nat} (hd : decode (mt m).2.1 pc = .ok (.checkcast index, 3)) (hq : Cond.classLink (mt m).1.cls index nm ∈ lw_all) (hts : ∀ t ∈ ts, COK nm t) : Snd mt G m pc (oCast ts (pc + 3)) := by
  refine snd_prow fun d ls st h => ?_
  unfold oCast
  split
  · exact Or.inr ⟨_, _, _, rfl, fun _ _ _ _ s _ args _ _ _ H _ _ _ _ hx hb ho ht hEn hR hS hml hfr hlo L hL k => lv_castN hx hb hd (k L hL)⟩
  · next a r =>
    split
    · next hc =>
      obtain ⟨ci, r, et, h9, hv, hcs⟩ := hts _ hc
      refine Or.inr ⟨_, _, _, rfl, fun _ _ _ _ s _ args _ _ _ H _ _ _ _ hx hb ho ht hEn hR hS hml hfr hlo L hL k => ?_⟩
      obtain ⟨cell, q1, q2, q3, q4, -⟩ := cellO_of (hR.2.2 a (by omega)) et h9 hv
      have hcl : s.vm.findClass r.1 = some cell.cls := by rw [q4]; exact (hEn.1 ci r hv).2.1
      rcases hcs with e | e
      · exact va_castS hx hb ho (ht _ hq) (e ▸ (hEn.1 ci r hv).2) ⟨cell, q1, q3, by rw [← e]; exact hcl⟩ hd (k L hL)
      · exact va_castY hx hb ho (ht _ hq) (hEn.2.2.1 _ e) ⟨cell, q1, q3, hcl⟩ hd (k L hL)
    · exact Or.inl rfl
  · exact Or.inl rfl
end AM4
