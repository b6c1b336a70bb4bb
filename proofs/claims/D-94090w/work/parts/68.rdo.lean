/-! THE READER's CELL as an overlay; growth of a heap -/
set_option maxRecDepth 100000
set_option maxHeartbeats 200000
def rdf (b N : Nat) (p o : Int32) : Nat → Value := fun k => if k = 0 then .ref (b + 27) else if k = 1 then .int (ni N) else if k = 2 then .int p else if k = 3 then .int o else .null
def rdo (b r N : Nat) (p o : Int32) (h : AH) : AH := (h.1, h.2.1, fun a => if a = r then (6, 4, rdf b N p o) else h.2.2.1 a, h.2.2.2)
section RDO
variable {b r N : Nat} {p o : Int32} {h : AH}
theorem rdo_hsz : hsz (rdo b r N p o h) = hsz h := rfl
theorem rdo_hsl : hsl (rdo b r N p o h) = hsl h := rfl
theorem rdo_env {k : Nat} : henv (rdo b r N p o h) k = henv h k := rfl
theorem rdo_get : hcl (rdo b r N p o h) r = (6, 4, rdf b N p o) := if_pos rfl
theorem rdo_out {a : Nat} (ha : a ≠ r) : hcl (rdo b r N p o h) a = hcl h a := if_neg ha
theorem rdf_0 : rdf b N p o 0 = .ref (b + 27) := rfl
theorem rdf_1 : rdf b N p o 1 = .int (ni N) := rfl
theorem rdf_2 : rdf b N p o 2 = .int p := rfl
theorem rdf_3 : rdf b N p o 3 = .int o := rfl
theorem rdo_ext {H : AH} {p' o' : Int32} (h1 : H.1 = h.1) (h2 : H.2.1 = h.2.1) (h3 : H.2.2.2 = h.2.2.2) (h4 : hcl H r = (6, 4, rdf b N p' o')) (h5 : ∀ a, a ≠ r → hcl H a = hcl h a) : H = rdo b r N p' o' h := by
  refine tw_ext h1 h2 (fun a => ?_) h3
  by_cases e : a = r
  · rw [e, h4, rdo_get]
  · rw [h5 a e, rdo_out e]
theorem rdo_s2 {v : Int32} : hset (rdo b r N p o h) r 2 (.int v) = rdo b r N v o h := by
  refine rdo_ext rfl rfl rfl ?_ (fun a ha => ?_)
  · rw [hcl_set, if_pos rfl, rdo_get]
    refine congrArg (fun z => ((6, 4, z) : AC)) (funext fun k => ?_)
    unfold updV rdf
    by_cases e : k = 2
    · simp [e]
    · simp [e]
  · rw [hcl_set, if_neg ha, rdo_out ha]
theorem rdo_s3 {v : Int32} : hset (rdo b r N p o h) r 3 (.int v) = rdo b r N p v h := by
  refine rdo_ext rfl rfl rfl ?_ (fun a ha => ?_)
  · rw [hcl_set, if_pos rfl, rdo_get]
    refine congrArg (fun z => ((6, 4, z) : AC)) (funext fun k => ?_)
    unfold updV rdf
    by_cases e : k = 3
    · simp [e]
    · simp [e]
  · rw [hcl_set, if_neg ha, rdo_out ha]
theorem rdo_so {a k : Nat} {v : Value} (ha : a ≠ r) : hset (rdo b r N p o h) a k v = rdo b r N p o (hset h a k v) := by
  refine rdo_ext rfl rfl rfl ?_ (fun e he => ?_)
  · rw [hcl_set, if_neg (Ne.symm ha), rdo_get]
  · rw [hcl_set, hcl_set, rdo_out ha, rdo_out he]
theorem rdo_po {a : Nat} {w : AC} (ha : a ≠ r) : hput (rdo b r N p o h) a w = rdo b r N p o (hput h a w) := by
  refine rdo_ext rfl rfl rfl ?_ (fun e he => ?_)
  · rw [hcl_put, if_neg (Ne.symm ha), rdo_get]
  · rw [hcl_put, hcl_put, rdo_out he]
theorem rdo_new {n : Nat} {w : AC} (hr : r < hsz h) : hnew (rdo b r N p o h) n w = rdo b r N p o (hnew h n w) := by
  refine rdo_ext rfl rfl rfl ?_ (fun e he => ?_)
  · rw [hcl_new, rdo_hsz, if_neg (by omega), rdo_get]
  · rw [hcl_new, hcl_new, rdo_hsz, rdo_out he]
end RDO
/-- h grew to h1: by at most k cells, l slots; what was there is there, but for r -/
def Gr (r k l : Nat) (h h1 : AH) : Prop := hsz h ≤ hsz h1 ∧ hsz h1 ≤ hsz h + k ∧ hsl h ≤ hsl h1 ∧ hsl h1 ≤ hsl h + l ∧ (∀ a, a < hsz h → a ≠ r → hcl h1 a = hcl h a) ∧ h1.2.2.2 = h.2.2.2
theorem Gr.rf (r : Nat) (h : AH) : Gr r 0 0 h h := ⟨Nat.le_refl _, Nat.le_refl _, Nat.le_refl _, Nat.le_refl _, fun _ _ _ => rfl, rfl⟩
theorem Gr.tr {r k l k' l' : Nat} {h h1 h2 : AH} (a : Gr r k l h h1) (b : Gr r k' l' h1 h2) : Gr r (k + k') (l + l') h h2 := by
  obtain ⟨a1, a2, a3, a4, a5, a6⟩ := a
  obtain ⟨b1, b2, b3, b4, b5, b6⟩ := b
  exact ⟨by omega, by omega, by omega, by omega, fun q h1 h2 => (b5 q (by omega) h2).trans (a5 q h1 h2), b6.trans a6⟩
theorem Gr.le {r k l k' l' : Nat} {h h1 : AH} (a : Gr r k l h h1) (hk : k ≤ k') (hl : l ≤ l') : Gr r k' l' h h1 := by
  obtain ⟨a1, a2, a3, a4, a5, a6⟩ := a
  exact ⟨a1, by omega, a3, by omega, a5, a6⟩
theorem Gr.new {r : Nat} {h : AH} {n : Nat} {w : AC} : Gr r 1 n h (hnew h n w) := by
  refine ⟨Nat.le_succ _, Nat.le_refl _, Nat.le_add_right _ _, Nat.le_refl _, fun q h1 _ => ?_, rfl⟩
  rw [hcl_new, if_neg (by omega)]
theorem Gr.set {r k l : Nat} {h h1 : AH} {a i : Nat} {v : Value} (g : Gr r k l h h1) (ha : hsz h ≤ a ∨ a = r) : Gr r k l h (hset h1 a i v) := by
  obtain ⟨a1, a2, a3, a4, a5, a6⟩ := g
  refine ⟨a1, a2, a3, a4, fun q h1 h2 => ?_, a6⟩
  rw [hcl_set, if_neg (by omega)]
  exact a5 q h1 h2
theorem Gr.put {r k l : Nat} {h h1 : AH} {a : Nat} {w : AC} (g : Gr r k l h h1) (ha : hsz h ≤ a ∨ a = r) : Gr r k l h (hput h1 a w) := by
  obtain ⟨a1, a2, a3, a4, a5, a6⟩ := g
  refine ⟨a1, a2, a3, a4, fun q h1 h2 => ?_, a6⟩
  rw [hcl_put, if_neg (by omega)]
  exact a5 q h1 h2
theorem Gr.new' {r k l : Nat} {h h1 : AH} {n : Nat} {w : AC} (g : Gr r k l h h1) : Gr r (k + 1) (l + n) h (hnew h1 n w) := g.tr Gr.new
