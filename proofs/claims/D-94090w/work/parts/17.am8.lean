/-! CALLS: one lemma for all kinds, out of what the kind's row gives (RunOK) -/
set_option maxRecDepth 100000
/-- the row of a call site: from the callee's contract to the run of the call; len: the instruction's length -/
def vx_RunN (len : Nat) (p : Program) (l : Launch) (e : Env) (R : Room) (s : State) (m : MethodId) (args : Array Value) (below : List Frame) (meth : Method) (c : Code) (H : Heap) (locs : List Loc) (cells slots mc ms : Nat) (g : JFrame) (rest : List Value) (Qa : State → Outcome → State → Prop) (XC : Addr → String → State → State → Prop) (free : Addr → Prop) : Prop :=
  ∀ T : State, T.heap = H → Stand p l e R s m args below meth c T locs cells slots →
    (∃ (v : Option Value) (st₀ t T' : State) (L : List Loc), st₀.heap = H ∧ Stand p l e R s m args below meth c T' (locs ++ L) (cells + mc) (slots + ms) ∧ (∀ q ∈ L, free q.base) ∧ T'.heap = t.heap ∧ T'.vm = t.vm ∧ Qa st₀ (.returned v) t ∧
      Goes p e below T g T' { g with pc := g.pc + len, stack := v.toList ++ rest }) ∨
    (∃ (q : Addr) (st₀ t T' : State) (L : List Loc) (E : String) (ce : Cell), st₀.heap = H ∧ Stand p l e R s m args below meth c T' (locs ++ L) (cells + mc) (slots + ms) ∧ (∀ z ∈ L, free z.base) ∧ T'.heap = t.heap ∧ T'.vm = t.vm ∧ XC q E st₀ t ∧ t.heap[q]? = some ce ∧ ce.vm = .none ∧ s.vm.findClass E = some ce.cls ∧
      Steps p.tables e below (T.setTop g) ((T'.setTop { g with stack := rest }).pushFrame (.throwing q)))
def RunOK (mt : Nat → MT) (G : AG) (m pc len m' : Nat) (h : AH) (as : List Value) : Prop :=
  ∀ (p : Program) (l : Launch) (e : Env) (R : Room) (s : State) (mi : MethodId) (args : Array Value) (below : List Frame) (meth : Method) (c : Code) (H : Heap) (locs : List Loc) (cells slots : Nat) (rm : Room) (Pc : Array Value → State → Prop) (Qc : Array Value → State → Outcome → State → Prop) (XC : Addr → String → State → State → Prop) (mc ms : Nat) (L : Array Slot) (rest : List Value),
    p.tables.exec = Jvm.exec → c.code = (mt m).2.1 → c.maxLocals = (mt m).2.2.1 → s.vm.findClass (mt m).1.cls = some mi.cls → (∀ w ∈ lw_all, w.before args s = true) → EnvOK G s → HR G s h H →
    vx_Met l (mt m').1 (mWs mt m') rm Pc Qc XC mc ms (fre G) → rm.cells = mc → rm.slots = ms → rm.frames + 1 ≤ R.frames → 8 + ((mt m').2.2.1 + 11) + rm.locals ≤ R.locals → FrameBlind Pc → (∀ U : State, U.heap = H → s.WarmedH U.vm → Pc as.toArray U) → L.size = (mt m).2.2.1 → (rest.map fun v => v.category).sum ≤ 8 → cells + mc ≤ R.cells ∧ slots + ms ≤ R.slots →
    vx_RunN len p l e R s mi args below meth c H locs cells slots mc ms (F0 mi pc L (as.reverse ++ rest)) rest (Qc as.toArray) XC (fre G)
/-- where the thrown goes: out, past all handlers; or to the first that takes its class -/
def XOK (mt : Nat → MT) (m pc : Nat) (X : AX9) : Prop := ∀ (ls : ALs) (q : Nat) (h : AH) (ci : Nat) (r9 : vw_C), (hcl h q).1 = ci + 1 → ci < 99 → vwCl[ci]? = some r9 →
  X ls q h = .inl none ∨ (X ls q h = .inl (some (.threw q, h)) ∧ PassOK mt m pc r9.1) ∨
  ∃ (pre : List ExceptionTableEntry) (x : ExceptionTableEntry) (suf : List ExceptionTableEntry) (nm : String), X ls q h = .inr (x.handlerPc, ls, [.ref q], h) ∧ tableOf ((mt m).2.2.2.2.1.getD []) = pre ++ x :: suf ∧ (∀ z ∈ pre, covers z pc = false ∨ (z.catchType ≠ 0 ∧ ∃ nm : String, Cond.classLink (mt m).1.cls z.catchType nm ∈ lw_all ∧ (r9.1, nm) ∈ ncL)) ∧ covers x pc = true ∧ x.catchType ≠ 0 ∧ Cond.classLink (mt m).1.cls x.catchType nm ∈ lw_all ∧ Cond.castable r9.1 nm ∈ nwL
def XSH (X : AX9) : Prop := ∀ (ls : ALs) (q : Nat) (h : AH), X ls q h = .inl none ∨ X ls q h = .inl (some (.threw q, h)) ∨ ∃ pc', X ls q h = .inr (pc', ls, [.ref q], h)
theorem xsh_out : XSH xOut := fun _ _ _ => Or.inr (Or.inl rfl)
theorem xsh_catch (L : List (Nat × Nat)) : XSH (xCatch L) := by
  intro ls q h
  unfold xCatch
  split
  · exact Or.inr (Or.inr ⟨_, rfl⟩)
  · exact Or.inl rfl
theorem xok_out {mt : Nat → MT} {m pc : Nat} (hp : ∀ E, PassOK mt m pc E) : XOK mt m pc xOut := fun _ _ _ _ r9 _ _ _ => Or.inr (Or.inl ⟨rfl, hp r9.1⟩)
theorem pass_none {mt : Nat → MT} {m pc : Nat} (h : (mt m).2.2.2.2.1 = none) : ∀ E, PassOK mt m pc E := by
  intro E z hz
  rw [h] at hz
  exact absurd hz (by simp [tableOf])
theorem pass_unc {mt : Nat → MT} {m pc : Nat} (h : (tableOf ((mt m).2.2.2.2.1.getD [])).all (fun z => !covers z pc) = true) : ∀ E, PassOK mt m pc E := by
  intro E z hz
  have h1 := List.all_eq_true.mp h z hz
  refine Or.inl ?_
  cases hcv : covers z pc with
  | false => rfl
  | true => rw [hcv] at h1; cases h1
section AM8
variable {mt : Nat → MT} {G : AG} {m pc : Nat}
theorem s_call {n δ len : Nat} {f : AH → List Value → Option (Nat × Nat)} {X : AX9} (hXS : XSH X) (hX : XOK mt m pc X)
    (hf : ∀ (h : AH) (as : List Value) (m' nl : Nat), as.length = n → f h as = some (m', nl) → nl = (mt m').2.2.1 ∧ plainName (mt m').1.cls = true ∧ (mt m').2.2.2.2.2 + 1 ≤ (mt m).2.2.2.2.2 + 4 * δ ∧ (mt m').2.2.1 ≤ 25 ∧ RunOK mt G m pc len m' h as) : Snd mt G m pc (oCall n f δ (pc + len) X) := by
  intro rec hrec d ls st h o hE e
  unfold oCall at e
  cases hp : popN n st with
  | none => rw [hp] at e; cases e
  | some q0 =>
    obtain ⟨as, r⟩ := q0
    rw [hp] at e
    simp only at e
    cases hq : f h as with
    | none => rw [hq] at e; cases e
    | some q1 =>
      obtain ⟨m', nl⟩ := q1
      rw [hq] at e
      simp only at e
      split at e
      · next hc =>
        obtain ⟨hrl, hδ, hln⟩ := hc
        obtain ⟨hn, hst⟩ := popN_spec n st as r hp
        obtain ⟨e1, hpl, hrk, h25, hrun⟩ := hf h as m' nl hn hq
        subst e1
        simp only [drv] at e
        cases hk : rec (d - δ) m' 0 (entN as (mt m').2.2.1) [] h with
        | none => rw [hk] at e; cases e
        | some y =>
          rw [hk] at e
          obtain ⟨oc, h1⟩ := y
          obtain ⟨gc, wc⟩ := hrec _ _ _ _ _ _ _ _ hk
          have gc1 := gc.1
          have gc2 := gc.2
          have hcs := cat_sum r
          -- what is the same for both ends: the run
          have hgo : ∀ (p : Program) (l : Launch) (e : Env) (R : Room) (s : State) (mi : MethodId) (args : Array Value) (below : List Frame) (meth : Method) (c : Code) (sl0 : Nat) (hE : AH), Grow h1 hE → CX mt G d m p l R s mi args meth c sl0 hE →
              ∀ (H : Heap) (locs : List Loc) (cells slots : Nat) (L : Array Slot), LR (mt m).2.2.1 ls L → HR G s h H → s.heap.size + cells = H.size → sl0 + slots = hsl h → va_S (fre G) s.heap H locs →
              vx_RunN len p l e R s mi args below meth c H locs cells slots (hsz h1 - hsz h) (hsl h1 - hsl h) (F0 mi pc L st) r (AQ G oc h1 as.toArray) (AX G oc h1) (fre G) := by
            intro p l e R s mi args below meth c sl0 hE gE C H locs cells slots L hL hR hc1 hc2 hS
            obtain ⟨hx, hb, hml, ho, hr, hlk, -, ht, htab, hEn, htr, hg0, hfr, hlo, hzc, hzs⟩ := C
            have e3 : hsz h = H.size := hR.1
            have gE1 := gE.1
            have gE2 := gE.2
            rw [hst]
            refine hrun p l e R s mi args below meth c H locs cells slots _ _ _ _ _ _ L r hx hb hml ho ht hEn hR (met_of_WS htr wc gc hln hpl) rfl rfl ?_ ?_ ?_ ?_ hL.2.1 (by omega) (by omega)
            · show mFr mt (d - δ) m' + 1 ≤ R.frames
              unfold mFr at hfr ⊢
              omega
            · show 8 + ((mt m').2.2.1 + 11) + mLo mt (d - δ) m' ≤ R.locals
              unfold mLo at hlo ⊢
              omega
            · intro a U g mk hPc
              obtain ⟨z1, z2, z3, z4⟩ := hPc
              refine ⟨z1, ⟨z2.1, z2.2.1, fun a ha => (z2.2.2 a ha).moved (Vm.Alike.refl U.vm)⟩, ?_, z4⟩
              exact EnvOK.go z3 (State.WarmedH.refl U) (fun q _ _ => rfl)
            · intro U hU hW
              refine ⟨rfl, by rw [hU]; exact hR.moved hW.alike, EnvOK.go hEn hW (fun q h1 h2 => by rw [hU]; exact hS.2.1 q h1 h2), ?_⟩
              rw [hU]
              exact Nat.le_trans hg0 hS.1
          cases oc with
          | returned v =>
            obtain ⟨gk, wk⟩ := hrec _ _ _ _ _ _ _ _ e
            refine ⟨gc.tr gk, fun p l e R s mi args below meth c sl0 C H locs cells slots L hL hR hc1 hc2 hS => ?_⟩
            have hr := hgo p l e R s mi args below meth c sl0 hE gk C H locs cells slots L hL hR hc1 hc2 hS
            have e3 : hsz h = H.size := hR.1
            intro T hT X
            rcases hr T hT X with ⟨v', st₀, t, T', L', h0, X', hL', w1, w2, ⟨w3, w4, w5⟩, w6⟩ | ⟨q, st₀, t, T', L', E, ce, h0, X', hL', w1, w2, ⟨w3, -⟩, -⟩
            · cases w3
              obtain ⟨k1, k2, k3⟩ := vx_keep h0 w1 hS (fun q _ h => h) (fun q h => h) hL' w5
              have hR' : HR G s h1 T'.heap := by
                rw [w1]
                exact w4.moved (by rw [← w2]; exact X'.warmed.alike.symm)
              have e4 : hsz h1 = T'.heap.size := hR'.1
              obtain ⟨t2, a1, b1⟩ := wk p l e R s mi args below meth c sl0 C T'.heap (locs ++ L') (cells + (hsz h1 - hsz h)) (slots + (hsl h1 - hsl h)) L hL hR' (by show _ = T'.heap.size; omega) (by show sl0 + _ = hsl h1; omega) k3 T' rfl X'
              exact ⟨t2, w6 t2 a1, b1⟩
            · cases w3
          | threw q =>
            simp only [bnd_thr] at e
            -- the class of what was thrown
            have hcls : ∀ (p : Program) (e : Env) (s : State) (q' : Nat) (E : String) (st₀ t : State), AX G (.threw q) h1 q' E st₀ t → q' = q ∧ ∃ (ci : Nat) (r9 : vw_C), (hcl h1 q).1 = ci + 1 ∧ ci < 99 ∧ vwCl[ci]? = some r9 ∧ r9.1 = E ∧ HR G t h1 t.heap ∧ va_F (fre G) st₀ t := by
              intro p e s q' E st₀ t hx
              obtain ⟨y1, ⟨ci, r9, y2, y3, y4, y5⟩, y6, y7⟩ := hx
              cases y1
              exact ⟨rfl, ci, r9, y2, y3, y4, y5, y6, y7⟩
            rcases hXS ls q h1 with z | z | ⟨pc', z⟩
            · rw [z] at e; cases e
            · rw [z] at e
              cases e
              refine ⟨gc, fun p l e R s mi args below meth c sl0 C H locs cells slots L hL hR hc1 hc2 hS => ?_⟩
              have hr := hgo p l e R s mi args below meth c sl0 hE (Grow.rf _) C H locs cells slots L hL hR hc1 hc2 hS
              have e3 : hsz h = H.size := hR.1
              intro T hT X9
              rcases hr T hT X9 with ⟨v', st₀, t, T', L', h0, X', hL', w1, w2, ⟨w3, -⟩, -⟩ | ⟨q', st₀, t, T', L', E, ce, h0, X', hL', w1, w2, w3, u1, u2, u3, w6⟩
              · cases w3
              · obtain ⟨eq, ci, r9, y2, y3, y4, y5, y6, y7⟩ := hcls p e s q' E st₀ t w3
                subst eq
                obtain ⟨k1, k2, k3⟩ := vx_keep h0 w1 hS (fun q _ h => h) (fun q h => h) hL' y7
                have hR' : HR G s hE T'.heap := by
                  rw [w1]
                  exact y6.moved (by rw [← w2]; exact X'.warmed.alike.symm)
                have e4 : hsz hE = T'.heap.size := hR'.1
                rcases hX ls q' hE ci r9 y2 y3 y4 with x1 | ⟨-, x2⟩ | ⟨pre, x, suf, nm, x1, -⟩
                · rw [x1] at z; cases z
                · obtain ⟨t2, a1, b1⟩ := vxw_out (rest := r) (L := L) C hR' (by omega) (by omega) k3 y2 y3 y4 x2 T' rfl X'
                  exact ⟨t2, w6.trans a1, b1⟩
                · rw [x1] at z; cases z
            · rw [z] at e
              obtain ⟨gk, wk⟩ := hrec _ _ _ _ _ _ _ _ e
              refine ⟨gc.tr gk, fun p l en R s mi args below meth c sl0 C H locs cells slots L hL hR hc1 hc2 hS => ?_⟩
              have hr := hgo p l en R s mi args below meth c sl0 hE gk C H locs cells slots L hL hR hc1 hc2 hS
              have e3 : hsz h = H.size := hR.1
              have C' := C
              obtain ⟨-, -, -, ho, -, -, -, ht, htab, hEn, -⟩ := C'
              intro T hT X9
              rcases hr T hT X9 with ⟨v', st₀, t, T', L', h0, X', hL', w1, w2, ⟨w3, -⟩, -⟩ | ⟨q', st₀, t, T', L', E, ce, h0, X', hL', w1, w2, w3, u1, u2, u3, w6⟩
              · cases w3
              · obtain ⟨eq, ci, r9, y2, y3, y4, y5, y6, y7⟩ := hcls p en s q' E st₀ t w3
                subst eq
                subst y5
                obtain ⟨k1, k2, k3⟩ := vx_keep h0 w1 hS (fun q _ h => h) (fun q h => h) hL' y7
                have hR' : HR G s h1 T'.heap := by
                  rw [w1]
                  exact y6.moved (by rw [← w2]; exact X'.warmed.alike.symm)
                have e4 : hsz h1 = T'.heap.size := hR'.1
                rcases hX ls q' h1 ci r9 y2 y3 y4 with x1 | ⟨x1, -⟩ | ⟨pre, x, suf, nm, x1, x2, x3, x4, x5, x6, x7⟩
                · rw [x1] at z; cases z
                · rw [x1] at z; cases z
                · rw [x1] at z
                  cases z
                  have kk := wk p l en R s mi args below meth c sl0 C T'.heap (locs ++ L') (cells + (hsz h1 - hsz h)) (slots + (hsl h1 - hsl h)) L hL hR' (by show _ = T'.heap.size; omega) (by show sl0 + _ = hsl h1; omega) k3
                  obtain ⟨t2, a1, b1⟩ := vx_catch (pc := pc) (rest := r) ho pre x suf (htab.trans x2) (fun z hz => by
                    rcases x3 z hz with n1 | ⟨n1, nm9, n2, n3⟩
                    · exact Or.inl n1
                    · exact Or.inr ⟨n1, nm9, ht _ n2, hEn.2.2.2.2.2.1 (r9.1, nm9) n3⟩) x4 x5 (ht _ x6) (va_Nw.use rfl (hEn.2.2.1 _ x7)) (by rw [w1]; exact u1) u2 u3 kk T' rfl X'
                  exact ⟨t2, w6.trans a1, b1⟩
      · cases e
end AM8
