/-! the limit's equations, one lemma a shape -/
set_option maxRecDepth 100000
noncomputable def kre (d m n : Nat) (ls : ALs) (st : List Value) : Option Value → AH → ARes := fun v h1 => ev d m n ls (v.toList ++ st) h1
noncomputable def kxo : Nat → AH → ARes := fun q h1 => some (.threw q, h1)
noncomputable def kxc (d m : Nat) (L : List (Nat × Nat)) (ls : ALs) : Nat → AH → ARes := fun q h1 => thr' ev d m (xCatch L ls q h1)
theorem kre_some {d m n : Nat} {ls : ALs} {st : List Value} {v : Value} {h1 : AH} {kx : Nat → AH → ARes} : bnd (some (.returned (some v), h1)) (kre d m n ls st) kx = ev d m n ls (v :: st) h1 := rfl
theorem kre_none {d m n : Nat} {ls : ALs} {st : List Value} {h1 : AH} {kx : Nat → AH → ARes} : bnd (some (.returned none, h1)) (kre d m n ls st) kx = ev d m n ls st h1 := rfl
theorem kxo_thr {q : Nat} {h1 : AH} {kr : Option Value → AH → ARes} : bnd (some (.threw q, h1)) kr kxo = some (.threw q, h1) := rfl
theorem kxc_thr {d m : Nat} {L : List (Nat × Nat)} {ls : ALs} {q : Nat} {h1 : AH} {kr : Option Value → AH → ARes} {t pc : Nat} (hf : L.find? (fun z => z.1 == (hcl h1 q).1) = some (t, pc)) : bnd (some (.threw q, h1)) kr (kxc d m L ls) = ev d m pc ls [.ref q] h1 := by
  show thr' ev d m (xCatch L ls q h1) = _
  unfold xCatch
  rw [hf]
  rfl
theorem bnd_ite {c : Prop} [Decidable c] {A B : ARes} {kr : Option Value → AH → ARes} {kx : Nat → AH → ARes} : bnd (if c then A else B) kr kx = if c then bnd A kr kx else bnd B kr kx := by split <;> rfl
section EVL
variable {d m pc n : Nat} {ls ls' : ALs} {st st' : List Value} {h h' : AH}
theorem ev_eq : ev d m pc ls st h = drv ev d m (J m pc d ls st h) := evJ_eq J d m pc ls st h
theorem ev_nx (hJ : J m pc d ls st h = nx n ls' st' h') : ev d m pc ls st h = ev d m n ls' st' h' := by rw [ev_eq, hJ]; rfl
theorem ev_inl {r : ARes} (hJ : J m pc d ls st h = .inl r) : ev d m pc ls st h = r := by rw [ev_eq, hJ]; rfl
theorem ev_ite {c : Prop} [Decidable c] {A B : AAct} {a b : ARes} (hJ : J m pc d ls st h = if c then A else B) (ha : drv ev d m A = a) (hb : drv ev d m B = b) : ev d m pc ls st h = if c then a else b := by rw [ev_eq, hJ, drv_ite, ha, hb]
theorem drv_ite2 {c : Prop} [Decidable c] {A B : AAct} {a b : ARes} (ha : drv ev d m A = a) (hb : drv ev d m B = b) : drv ev d m (if c then A else B) = if c then a else b := by rw [drv_ite, ha, hb]
theorem ev_call {m' nl nxt : Nat} {f : AH → List Value → Option (Nat × Nat)} {X : AX9} {as : List Value} {ls0 : ALs} (hJ : J m pc d ls st' h = oCall n f 0 nxt X d ls st' h) (hp : popN n st' = some (as, st)) (hf : f h as = some (m', nl)) (he : (entL as).length ≤ nl) (hE : entN as nl = ls0) :
    ev d m pc ls st' h = if st.length ≤ 4 then bnd (ev d m' 0 ls0 [] h) (fun v h1 => ev d m nxt ls (v.toList ++ st) h1) (fun q h1 => thr' ev d m (X ls q h1)) else none := by
  rw [ev_eq, hJ]
  unfold oCall
  rw [hp]
  simp only [hf]
  rw [drv_ite, ← hE]
  by_cases hl : st.length ≤ 4
  · rw [if_pos ⟨hl, Nat.zero_le _, he⟩, if_pos hl]; rfl
  · rw [if_neg (fun q => hl q.1), if_neg hl]; rfl
theorem ev_call1 {m' nl nxt : Nat} {f : AH → List Value → Option (Nat × Nat)} {X : AX9} {as : List Value} {ls0 : ALs} (hJ : J m pc (d + 1) ls st' h = oCall n f 1 nxt X (d + 1) ls st' h) (hp : popN n st' = some (as, st)) (hf : f h as = some (m', nl)) (he : (entL as).length ≤ nl) (hE : entN as nl = ls0) :
    ev (d + 1) m pc ls st' h = if st.length ≤ 4 then bnd (ev d m' 0 ls0 [] h) (fun v h1 => ev (d + 1) m nxt ls (v.toList ++ st) h1) (fun q h1 => thr' ev (d + 1) m (X ls q h1)) else none := by
  rw [ev_eq, hJ]
  unfold oCall
  rw [hp]
  simp only [hf]
  rw [drv_ite, ← hE]
  by_cases hl : st.length ≤ 4
  · rw [if_pos ⟨hl, Nat.le_add_left 1 d, he⟩, if_pos hl]; rfl
  · rw [if_neg (fun q => hl q.1), if_neg hl]; rfl
theorem ev_callV {c : Prop} [Decidable c] {m' nl nxt : Nat} {f : AH → List Value → Option (Nat × Nat)} {X : AX9} {as : List Value} {ls0 : ALs} (hJ : J m pc d ls st' h = oCall n f 0 nxt X d ls st' h) (hp : popN n st' = some (as, st)) (hf : f h as = if c then some (m', nl) else none) (he : (entL as).length ≤ nl) (hE : entN as nl = ls0) :
    ev d m pc ls st' h = if c then (if st.length ≤ 4 then bnd (ev d m' 0 ls0 [] h) (fun v h1 => ev d m nxt ls (v.toList ++ st) h1) (fun q h1 => thr' ev d m (X ls q h1)) else none) else none := by
  by_cases hc : c
  · rw [if_pos hc] at hf ⊢
    exact ev_call hJ hp hf he hE
  · rw [if_neg hc] at hf ⊢
    rw [ev_eq, hJ]
    unfold oCall
    rw [hp]
    simp only [hf]
    rfl
theorem ev_callV1 {c : Prop} [Decidable c] {m' nl nxt : Nat} {f : AH → List Value → Option (Nat × Nat)} {X : AX9} {as : List Value} {ls0 : ALs} (hJ : J m pc (d + 1) ls st' h = oCall n f 1 nxt X (d + 1) ls st' h) (hp : popN n st' = some (as, st)) (hf : f h as = if c then some (m', nl) else none) (he : (entL as).length ≤ nl) (hE : entN as nl = ls0) :
    ev (d + 1) m pc ls st' h = if c then (if st.length ≤ 4 then bnd (ev d m' 0 ls0 [] h) (fun v h1 => ev (d + 1) m nxt ls (v.toList ++ st) h1) (fun q h1 => thr' ev (d + 1) m (X ls q h1)) else none) else none := by
  by_cases hc : c
  · rw [if_pos hc] at hf ⊢
    exact ev_call1 hJ hp hf he hE
  · rw [if_neg hc] at hf ⊢
    rw [ev_eq, hJ]
    unfold oCall
    rw [hp]
    simp only [hf]
    rfl
theorem ev_callP {t b m' nl nxt : Nat} {Lp : List (Nat × Nat × Nat)} {X : AX9} {as : List Value} {ls0 : ALs} (hJ : J m pc d ls st' h = oCall n (fP Lp) 0 nxt X d ls st' h) (hb : (hcl h b).1 = t) (hL : Lp.find? (fun z => z.1 == t) = some (t, m', nl)) (hp : popN n st' = some (.ref b :: as, st)) (he : (entL (.ref b :: as)).length ≤ nl) (hE : entN (.ref b :: as) nl = ls0) :
    ev d m pc ls st' h = if st.length ≤ 4 then bnd (ev d m' 0 ls0 [] h) (fun v h1 => ev d m nxt ls (v.toList ++ st) h1) (fun q h1 => thr' ev d m (X ls q h1)) else none :=
  ev_call hJ hp (by simp only [fP]; rw [hb, hL]) he hE
theorem ev_callP1 {t b m' nl nxt : Nat} {Lp : List (Nat × Nat × Nat)} {X : AX9} {as : List Value} {ls0 : ALs} (hJ : J m pc (d + 1) ls st' h = oCall n (fP Lp) 1 nxt X (d + 1) ls st' h) (hb : (hcl h b).1 = t) (hL : Lp.find? (fun z => z.1 == t) = some (t, m', nl)) (hp : popN n st' = some (.ref b :: as, st)) (he : (entL (.ref b :: as)).length ≤ nl) (hE : entN (.ref b :: as) nl = ls0) :
    ev (d + 1) m pc ls st' h = if st.length ≤ 4 then bnd (ev d m' 0 ls0 [] h) (fun v h1 => ev (d + 1) m nxt ls (v.toList ++ st) h1) (fun q h1 => thr' ev (d + 1) m (X ls q h1)) else none :=
  ev_call1 hJ hp (by simp only [fP]; rw [hb, hL]) he hE
end EVL
