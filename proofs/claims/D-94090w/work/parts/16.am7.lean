/-! CALLS, returns, throws; the contract of a method out of the abstract machine's answer -/
set_option maxRecDepth 100000
def popN : Nat → List Value → Option (List Value × List Value)
  | 0, st => some ([], st)
  | _ + 1, [] => none
  | n + 1, v :: st => match popN n st with
    | some (as, r) => some (as ++ [v], r)
    | none => none
theorem popN_spec : ∀ (n : Nat) (st as r : List Value), popN n st = some (as, r) → as.length = n ∧ st = as.reverse ++ r
  | 0, st, as, r, h => by simp only [popN] at h; cases h; exact ⟨rfl, rfl⟩
  | n + 1, [], as, r, h => by cases h
  | n + 1, v :: st, as, r, h => by
    simp only [popN] at h
    cases hp : popN n st with
    | none => rw [hp] at h; cases h
    | some q =>
      rw [hp] at h
      obtain ⟨e1, e2⟩ := popN_spec n st q.1 q.2 hp
      cases h
      exact ⟨by simp [e1], by simp [e2]⟩
abbrev AX9 : Type := ALs → Nat → AH → ARes ⊕ ACfg
/-- the thrown goes on to the caller -/
def xOut : AX9 := fun _ q h1 => .inl (some (.threw q, h1))
/-- caught by the first handler that takes its class: handlers by the classes' tags -/
def xCatch (L : List (Nat × Nat)) : AX9 := fun ls q h1 => match L.find? (fun z => z.1 == (hcl h1 q).1) with
  | some z => .inr (z.2, ls, [.ref q], h1)
  | none => .inl none
/-- which method a call comes to, and how many locals it has -/
def fS (m' nl : Nat) : AH → List Value → Option (Nat × Nat) := fun _ _ => some (m', nl)
def fI (m' nl : Nat) : AH → List Value → Option (Nat × Nat) := fun _ as => match as with
  | .ref _ :: _ => some (m', nl)
  | _ => none
def fV (ts : List Nat) (m' nl : Nat) : AH → List Value → Option (Nat × Nat) := fun h as => match as with
  | .ref b :: _ => if (hcl h b).1 ∈ ts then some (m', nl) else none
  | _ => none
def fP (L : List (Nat × Nat × Nat)) : AH → List Value → Option (Nat × Nat) := fun h as => match as with
  | .ref b :: _ => match L.find? (fun z => z.1 == (hcl h b).1) with
    | some z => some z.2
    | none => none
  | _ => none
def oCall (n : Nat) (f : AH → List Value → Option (Nat × Nat)) (δ nxt : Nat) (X : AX9) : AOp := fun d ls st h => match popN n st with
  | none => stuck
  | some (as, r) => match f h as with
    | none => stuck
    | some (m', nl) => if r.length ≤ 4 ∧ δ ≤ d ∧ (entL as).length ≤ nl then .inr (.inr ((d - δ, m', entN as nl, h), (fun v h1 => (nxt, ls, v.toList ++ r, h1)), X ls)) else stuck
def oRetI (ty : FieldType) : AOp := fun _ _ st h => match st with
  | [.int v] => if narrow ty (.int v) = .int v then .inl (some (.returned (some (.int v)), h)) else stuck
  | _ => stuck
def oRetL : AOp := fun _ _ st h => match st with
  | [.long v] => .inl (some (.returned (some (.long v)), h))
  | _ => stuck
def oRetA : AOp := fun _ _ st h => match st with
  | [.ref v] => .inl (some (.returned (some (.ref v)), h))
  | [.null] => .inl (some (.returned (some .null), h))
  | _ => stuck
def oRetV : AOp := fun _ _ st h => match st with
  | [] => .inl (some (.returned none, h))
  | _ => stuck
/-- athrow of an object of our own, not caught here -/
def oThrow (ts : List Nat) : AOp := fun _ _ st h => match st with
  | .ref q :: _ => if (hcl h q).1 ∈ ts then .inl (some (.threw q, h)) else stuck
  | _ => stuck
/-- throw new E(): new, dup, invokespecial, athrow at once -/
def oThrow0 (t : Nat) : AOp := fun _ _ st h => if st.length ≤ 4 then .inl (some (.threw (hsz h), hnew h 6 (t, 0, fun _ => .null))) else stuck
section AM7a
variable {p : Program} {l : Launch} {e : Env} {R : Room} {s : State} {m : MethodId} {args : Array Value} {below : List Frame} {meth : Method} {c : Code} {H : Heap} {locs : List Loc} {cells slots : Nat} {Q : State → Prop} {ls : Array Slot} {rest : List Value}
/-- 'throw x' of an object that was made before -/
theorem vx_athrow {cc : ByteArray} {pc : Nat} (hexec : p.tables.exec = Jvm.exec) (hb : c.code = cc) {q : Addr} (hdg : decode cc pc = .ok (.athrow, 1)) (k : vx_W p l e R s m args below meth c H locs cells slots Q (F0 m pc ls rest) q) : W p l e R s m args below meth c H locs cells slots Q (F0 m pc ls (.ref q :: rest)) := by
  intro T hT X
  obtain ⟨t, st, hq⟩ := k T hT X
  refine ⟨t, ?_, hq⟩
  have hdg' : decode c.code pc = .ok (.athrow, 1) := by rw [hb]; exact hdg
  jvm_step X.here [X.here.top, hexec, hdg', athrow.wp_sem]
  exact st
end AM7a
section AM7
variable {mt : Nat → MT} {G : AG} {m pc : Nat}
theorem AQ_of {s t : State} {h : AH} {H : Heap} {o : Outcome} {locs : List Loc} (hR : HR G s h H) (hS : va_S (fre G) s.heap H locs) (ht : t.heap = H) (hW : s.WarmedH t.vm) (args : Array Value) : AQ G o h args s o t :=
  ⟨rfl, by rw [ht]; exact hR.moved hW.alike, hS.F ht⟩
theorem ws_ret {d : Nat} {ls : ALs} {st : List Value} {h : AH} {v : Option Value}
    (row : ∀ (p : Program) (l : Launch) (e : Env) (R : Room) (s : State) (mi : MethodId) (args : Array Value) (below : List Frame) (meth : Method) (c : Code) (H : Heap) (locs : List Loc) (cells slots : Nat) (L : Array Slot) (Qc : Array Value → State → Outcome → State → Prop) (free : Addr → Prop), p.tables.exec = Jvm.exec → c.code = (mt m).2.1 → meth.sig.returnType = (mt m).2.2.2.1 → meth.locks = false → (∀ t : State, t.heap = H → s.WarmedH t.vm → Qc args s (.returned v) t) → (∀ q ∈ locs, free q.base) →
      W p l e R s mi args below meth c H locs cells slots (MQ below Qc args s cells slots free) (F0 mi pc L st)) : WS mt G d m pc ls st h (.returned v) h := by
  intro p l e R s mi args below meth c sl0 C H locs cells slots L hL hR hc1 hc2 hS
  obtain ⟨hx, hb, hml, ho, hr, hlk, -, ht, -, hEn, -, hg0, -, -, hzc, hzs⟩ := C
  have e3 : hsz h = H.size := hR.1
  refine W.widen (k := R.cells) (n := R.slots) (by omega) (by omega) ?_
  exact vx_ret (row p l e R s mi args below meth c H locs R.cells R.slots L (AQ G (.returned v) h) (fre G) hx hb hr hlk (fun t ht hW => AQ_of hR hS ht hW args) hS.2.2)
theorem s_iret (hd : decode (mt m).2.1 pc = .ok (.ireturn, 1)) (hr' : (mt m).2.2.2.1 = some .int) : Snd mt G m pc (oRetI .int) := by
  intro rec hrec d ls st h o hE e
  unfold oRetI at e
  split at e
  · next v =>
    split at e
    · cases e
      exact ⟨Grow.rf _, ws_ret fun p l e R s mi args below meth c H locs cells slots L Qc free hx hb hr hlk hq hf => W.iret hx hb (hr.trans hr') hq hf hd hlk⟩
    · cases e
  · cases e
theorem s_zret {ty : FieldType} (hd : decode (mt m).2.1 pc = .ok (.ireturn, 1)) (hr' : (mt m).2.2.2.1 = some ty) : Snd mt G m pc (oRetI ty) := by
  intro rec hrec d ls st h o hE e
  unfold oRetI at e
  split at e
  · next v =>
    split at e
    · next hn =>
      cases e
      exact ⟨Grow.rf _, ws_ret fun p l e R s mi args below meth c H locs cells slots L Qc free hx hb hr hlk hq hf => W.zret hx hb (hr.trans hr') hn hq hf hd hlk⟩
    · cases e
  · cases e
theorem s_lret (hd : decode (mt m).2.1 pc = .ok (.lreturn, 1)) (hr' : (mt m).2.2.2.1 = some .long) : Snd mt G m pc oRetL := by
  intro rec hrec d ls st h o hE e
  unfold oRetL at e
  split at e
  · next v =>
    cases e
    exact ⟨Grow.rf _, ws_ret fun p l e R s mi args below meth c H locs cells slots L Qc free hx hb hr hlk hq hf => W.lret hx hb (hr.trans hr') hq hf hd hlk⟩
  · cases e
theorem s_aret {rt : FieldType} (hd : decode (mt m).2.1 pc = .ok (.areturn, 1)) (hr' : (mt m).2.2.2.1 = some rt) (hrt : (∃ n, rt = .object n) ∨ ∃ t, rt = .array t) : Snd mt G m pc oRetA := by
  intro rec hrec d ls st h o hE e
  unfold oRetA at e
  split at e
  · next v =>
    cases e
    exact ⟨Grow.rf _, ws_ret fun p l e R s mi args below meth c H locs cells slots L Qc free hx hb hr hlk hq hf => W.aret hx hb (hr.trans hr') hrt (Or.inr ⟨_, rfl⟩) hq hf hd hlk⟩
  · cases e
    exact ⟨Grow.rf _, ws_ret fun p l e R s mi args below meth c H locs cells slots L Qc free hx hb hr hlk hq hf => W.aret hx hb (hr.trans hr') hrt (Or.inl rfl) hq hf hd hlk⟩
  · cases e
theorem s_vret (hd : decode (mt m).2.1 pc = .ok (.return_, 1)) (hr' : (mt m).2.2.2.1 = none) : Snd mt G m pc oRetV := by
  intro rec hrec d ls st h o hE e
  unfold oRetV at e
  split at e
  · cases e
    exact ⟨Grow.rf _, ws_ret fun p l e R s mi args below meth c H locs cells slots L Qc free hx hb hr hlk hq hf => W.vret hx hb (hr.trans hr') hq hf hd hlk⟩
  · cases e
/-- a class that may be thrown: an own object of class number ci -/
def TOK (t : Nat) : Prop := ∃ (ci : Nat) (r : vw_C), t = ci + 1 ∧ ci < 99 ∧ vwCl[ci]? = some r
/-- no handler of the method's covers pc, or it names a class that E isn't of -/
def PassOK (mt : Nat → MT) (m pc : Nat) (E : String) : Prop := ∀ z ∈ tableOf ((mt m).2.2.2.2.1.getD []), covers z pc = false ∨ (z.catchType ≠ 0 ∧ ∃ nm : String, Cond.classLink (mt m).1.cls z.catchType nm ∈ lw_all ∧ (E, nm) ∈ ncL)
theorem vxw_out {d : Nat} {q : Nat} {h : AH} {p : Program} {l : Launch} {e : Env} {R : Room} {s : State} {mi : MethodId} {args : Array Value} {below : List Frame} {meth : Method} {c : Code} {sl0 : Nat} {H : Heap} {locs : List Loc} {cells slots : Nat} {L : Array Slot} {rest : List Value} {ci : Nat} {r9 : vw_C}
    (C : CX mt G d m p l R s mi args meth c sl0 h) (hR : HR G s h H) (hc1 : s.heap.size + cells = H.size) (hc2 : sl0 + slots = hsl h) (hS : va_S (fre G) s.heap H locs)
    (et : (hcl h q).1 = ci + 1) (h9 : ci < 99) (hv : vwCl[ci]? = some r9) (hp : PassOK mt m pc r9.1) :
    vx_W p l e R s mi args below meth c H locs cells slots (vx_MQ below (AQ G (.threw q) h) (AX G (.threw q) h) args s R.cells R.slots (fre G)) (F0 mi pc L rest) q := by
  obtain ⟨hx, hb, hml, ho, hr, hlk, -, ht, htab, hEn, -, hg0, -, -, hzc, hzs⟩ := C
  have e3 : hsz h = H.size := hR.1
  obtain ⟨cell, q1, q2, q3, q4, q5, q6⟩ := cellO_of (hR.2.2 q (by omega)) (Or.inl et) h9 hv
  have hcl : s.vm.findClass r9.1 = some cell.cls := by rw [q4]; exact (hEn.1 ci r9 hv).2.1
  refine vx_outP (E := r9.1) (ce := cell) ho hlk ?_ q1 (q6 (by omega)).2 hcl (fun t ht hal => ⟨rfl, ⟨ci, r9, et, h9, hv, rfl⟩, by rw [ht]; exact hR.moved hal, hS.F ht⟩) hS.2.2 (by omega) (by omega)
  intro z hz
  rw [htab] at hz
  rcases hp z hz with h1 | ⟨h1, nm, h2, h3⟩
  · exact Or.inl h1
  · exact Or.inr ⟨h1, nm, ht _ h2, hEn.2.2.2.2.2.1 (r9.1, nm) h3⟩
theorem s_throw {ts : List Nat} (hd : decode (mt m).2.1 pc = .ok (.athrow, 1)) (hts : ∀ t ∈ ts, TOK t) (hp : ∀ E, PassOK mt m pc E) : Snd mt G m pc (oThrow ts) := by
  intro rec hrec d ls st h o hE e
  unfold oThrow at e
  split at e
  · next q r =>
    split at e
    · next hc =>
      obtain ⟨ci, r9, et, h9, hv⟩ := hts _ hc
      cases e
      refine ⟨Grow.rf _, fun p l e R s mi args below meth c sl0 C H locs cells slots L hL hR hc1 hc2 hS => ?_⟩
      exact vx_athrow C.1 C.2.1 hd (vxw_out C hR hc1 hc2 hS et h9 hv (hp _))
    · cases e
  · cases e
theorem s_throw0 {ik ic ci : Nat} {names : List String} {r9 : vw_C} (h9 : ci < 99) (hv : vwCl[ci]? = some r9) (hr0 : r9.2.2 = 0)
    (d0 : decode (mt m).2.1 pc = .ok (.new ik, 3)) (d3 : decode (mt m).2.1 (pc + 3) = .ok (.dup, 1)) (d4 : decode (mt m).2.1 (pc + 4) = .ok (.invokespecial ic, 3)) (d7 : decode (mt m).2.1 (pc + 7) = .ok (.athrow, 1))
    (hcls : Bundle.fit r9.1 = true) (hnames : ∀ n ∈ names, Bundle.fit n = true) (hnl : names.length ≤ 3) (hrank : 8 ≤ (mt m).2.2.2.2.2)
    (hq1 : Cond.classLink (mt m).1.cls ik r9.1 ∈ lw_all) (hq2 : Cond.initialized r9.1 ∈ lw_all) (hat : ∀ w ∈ vx_at0 (mt m).1.cls ic r9.1 names, w ∈ lw_all ∨ (w.onTables = true ∧ w ∈ nwL)) (hgood : ∀ w ∈ Cond.classLink (mt m).1.cls ik r9.1 :: Cond.initialized r9.1 :: vx_at0 (mt m).1.cls ic r9.1 names, vx_ot w = true)
    (hout : ∀ x ∈ tableOf ((mt m).2.2.2.2.1.getD []), covers x (pc + 7) = false) : Snd mt G m pc (oThrow0 (ci + 1)) := by
  intro rec hrec d ls st h o hE e
  unfold oThrow0 at e
  split at e
  · next hc =>
    cases e
    refine ⟨Grow.new _ _ _, fun p l e R s mi args below meth c sl0 C H locs cells slots L hL hR hc1 hc2 hS => ?_⟩
    obtain ⟨hx, hb, hml, ho, hr, hlk, -, ht, htab, hEn, htr, hg0, hfr, hlo, hzc, hzs⟩ := C
    have e3 : hsz h = H.size := hR.1
    rw [hsz_new] at hzc
    rw [hsl_new] at hzs
    have hcs := cat_sum st
    have h1 : 8 ≤ mFr mt d m := by unfold mFr; omega
    have h2 : 352 ≤ mLo mt d m := by unfold mLo; omega
    refine vx_throw0 hx hb htr ho hcls hnames (ht _ hq1) (ht _ hq2) (fun w hw => (hat w hw).elim (ht w) (fun q => va_Nw.use q.1 (hEn.2.2.1 _ q.2))) hgood hEn.2.2.2.2.2.2.2.2.2.1 hEn.2.2.2.2.2.2.2.2.2.2.1 hS (by rw [hml]; exact hL.2.1) d0 d3 d4 d7 (fun x hx' => hout x (by rw [← htab]; exact hx')) (by omega) ?_ (by omega) (by omega) hlk (fun t ce hal hz hk hce hcv hcls9 => ?_) hS.2.2 (by omega) (by omega)
    · have h3 : 13 * (names.length + 1) + 42 ≤ 94 := by omega
      omega
    · have hnew : hcl (hnew h 6 (ci + 1, 0, fun _ => .null)) H.size = (ci + 1, 0, fun _ => .null) := by rw [hcl_new, if_pos e3.symm]
      refine ⟨by rw [e3], ⟨ci, r9, by rw [hnew], h9, hv, rfl⟩, ?_, ⟨by rw [hz]; exact Nat.le_trans hS.1 (Nat.le_succ _), fun q g1 g2 => (hk q (Nat.lt_of_lt_of_le g1 hS.1)).trans (hS.2.1 q g1 g2)⟩⟩
      refine HR.moved hal (hR.new hz hk ⟨ce, hce, by rw [hcv]; exact (fun q => by cases q), Or.inl ⟨ci, r9, Or.inl rfl, h9, hv, by rw [hcv]; rfl, ?_, fun k hk => absurd hk (by rw [hr0]; exact Nat.not_lt_zero k), fun _ => ⟨Nat.le_trans hg0 hS.1, hcv⟩⟩⟩)
      exact Option.some.inj (hcls9.symm.trans (hEn.1 ci r9 hv).2.1)
  · cases e
/-- the contract of a method, from its entry -/
theorem met_of_WS {d : Nat} {as : List Value} {h : AH} {o : Outcome} {hE : AH} {l : Launch} (htr : l.stackTraces = false) (hw : WS mt G d m 0 (entN as (mt m).2.2.1) [] h o hE) (hg : Grow h hE) (hlen : (entL as).length ≤ (mt m).2.2.1) (hy : plainName (mt m).1.cls = true) :
    vx_Met l (mt m).1 (mWs mt m) ({ frames := mFr mt d m, cells := hsz hE - hsz h, slots := hsl hE - hsl h, locals := mLo mt d m }) (va_Pc as (fun U => HR G U h U.heap ∧ EnvOK G U ∧ gB G ≤ U.heap.size)) (AQ G o hE) (AX G o hE) (hsz hE - hsz h) (hsl hE - hsl h) (fre G) := by
  have key : ∀ (p : Program) (e : Env) (s : State) (mi : MethodId) (args : Array Value) (below : List Frame) (meth : Method) (c : Code) (s₁ : State), BodyLoose p l (mt m).1 (headSpec (mWs mt m) ({ frames := mFr mt d m, cells := hsz hE - hsz h, slots := hsl hE - hsl h, locals := mLo mt d m })) (mt m).2.1 (mt m).2.2.1 (mt m).2.2.2.1 e s mi args below meth c s₁ → c.maxLocals = (mt m).2.2.1 → c.exceptionTable.toList = tableOf ((mt m).2.2.2.2.1.getD []) → (∀ w ∈ lw_all, w.before args s = true) → va_Pc as (fun U => HR G U h U.heap ∧ EnvOK G U ∧ gB G ≤ U.heap.size) args s →
      W p l e ({ frames := mFr mt d m, cells := hsz hE - hsz h, slots := hsl hE - hsl h, locals := mLo mt d m }) s mi args below meth c s.heap [] 0 0 (vx_MQ below (AQ G o hE) (AX G o hE) args s (hsz hE - hsz h) (hsl hE - hsl h) (fre G)) (entryFrame mi args (mt m).2.2.1) := by
    intro p e s mi args below meth c s₁ B hml htab hts hP
    obtain ⟨rfl, hR, hEn, hg0⟩ := hP
    rw [lg_entry_eq]
    have e3 : hsz h = s.heap.size := hR.1
    have g1 := hg.1
    have g2 := hg.2
    exact hw p l e _ s mi as.toArray below meth c (hsl h) ⟨B.exec, B.bytes, hml, findClass_of_methodNamed B.named, B.returns, B.notSynchronized, (name_of_methodNamed B.named B.method).1, hts, htab, hEn, htr, hg0, Nat.le_refl _, Nat.le_refl _, by dsimp only; omega, by dsimp only; omega⟩ s.heap [] 0 0 _ (LR.entry as hlen) hR (by omega) (by omega) va_S.rf
  unfold mWs at key ⊢
  cases hh : (mt m).2.2.2.2.1 with
  | none =>
    rw [hh] at key
    simp only [hh] at key ⊢
    refine vx_ofW (cc := (mt m).2.1) (maxL := (mt m).2.2.1) (ret := (mt m).2.2.2.1) hy rfl ?_
    intro p e s mi args below meth c s₁ B hml htab hP
    have hts := atoms_spec (ws := ws_ (mt m).1 (mt m).2.1 (mt m).2.2.1 (mt m).2.2.2.1) B.pre
    refine key p e s mi args below meth c s₁ B hml ?_ (fun w h => hts w (List.mem_cons_of_mem _ h)) hP
    cases hl : c.exceptionTable.toList with
    | nil => rfl
    | cons a r => exact absurd (by rw [hl]; exact List.mem_cons_self) (fun q => htab a q)
  | some tb =>
    rw [hh] at key
    simp only [hh] at key ⊢
    refine vx_ofWH (cc := (mt m).2.1) (maxL := (mt m).2.2.1) (ret := (mt m).2.2.2.1) (hh := tb) hy rfl ?_
    intro p e s mi args below meth c s₁ B hml hP
    have hts := atoms_spec (ws := wsW_ (mt m).1 (mt m).2.1 (mt m).2.2.1 (mt m).2.2.2.1 tb) B.pre
    exact key p e s mi args below meth c s₁ B hml (vx_table (x := (mt m).1) B (hts _ List.mem_cons_self)) (fun w h => hts w (List.mem_cons_of_mem _ h)) hP
end AM7
