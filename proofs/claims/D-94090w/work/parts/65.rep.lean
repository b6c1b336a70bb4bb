/-! THE CLASS's STATE in the heap (by mk65.py): A kind i addresses, om the owners, sg the reference's numbers -/
set_option maxRecDepth 100000
set_option maxHeartbeats 200000
/-- owners: 0 frozen, 1 foreign, 2 x's own cells, 3 .. the rules, 16 .. states by their number -/
def oc (id k i : Nat) : Nat := 16 + (id * 40 + k) * 16 + i
theorem oc_inj {id k i id' k' i' : Nat} (hk : k < 40) (hi : i < 16) (hk' : k' < 40) (hi' : i' < 16) : (oc id k i = oc id' k' i') = (id = id' ∧ k = k' ∧ i = i') := by
  unfold oc
  refine propext ⟨fun h => ?_, fun ⟨h1, h2, h3⟩ => by rw [h1, h2, h3]⟩
  have h1 : i = i' := by omega
  have h2 : id * 40 + k = id' * 40 + k' := by omega
  exact ⟨by omega, by omega, h1⟩
abbrev OM : Type := Nat → Nat
def cel (om : OM) (h : AH) (a k t : Nat) : Prop := om a = k ∧ a < hsz h ∧ (hcl h a).1 = t
/-- which field of the reference counts list l -/
def lf : Nat → Nat := fun l => if l = 0 then 28 else if l = 1 then 29 else if l = 2 then 30 else if l = 3 then 35 else if l = 4 then 32 else if l = 5 then 40 else if l = 6 then 38 else if l = 7 then 39 else if l = 8 then 42 else 44
def ln (sg : TS) (l : Nat) : Nat := (sg (lf l) 0 0).toNatClampNeg
def etag : Nat → Nat := fun l => if l = 0 then 18 else if l = 1 then 19 else if l = 2 then 22 else if l = 3 then 28 else if l = 4 then 27 else if l = 5 then 21 else if l = 6 then 23 else if l = 7 then 24 else if l = 8 then 25 else 26
def ecd (id l i : Nat) : Nat := if l = 1 then oc id 23 i else if l = 6 then oc id 28 i else 0
/-- of what was ordered from maker m how many are so (1 arrived, 2 lost); the sum, the least and the greatest of the latenesses -/
def mkCnt (sg : TS) (m : Nat) (w : Int32) : Int32 := rpt (ln sg 7) 0 (fun k x => if sg 50 k 0 = ni m ∧ sg 50 k 3 = w then x + 1 else x) 0
def mkSum (sg : TS) (m : Nat) : Int32 := rpt (ln sg 7) 0 (fun k x => if sg 50 k 0 = ni m then x + sg 50 k 4 else x) 0
def mkExt (sg : TS) (m : Nat) (most : Bool) : Int32 := (rpt (ln sg 7) 0 (fun k (x : Int32 × Bool) => if sg 50 k 0 = ni m ∧ sg 50 k 3 = 1 then (if x.2 = false ∨ (if most = true then x.1 < sg 50 k 4 else sg 50 k 4 < x.1) then sg 50 k 4 else x.1, true) else x) (0, false)).1
/-- how often something of kind k was fitted to person p in year y -/
def fitCnt (sg : TS) (p k y : Nat) : Int32 := rpt (ln sg 5) 0 (fun f x => if sg 49 f 5 = ni p ∧ sg 49 f 6 = ni k ∧ sg 49 f 2 / 365 = ni y then x + 1 else x) 0
/-- the fields of element i of list l -/
def eV (A : Nat → Nat → Nat) (tv : Nat → Int32) (sg : TS) (l i k : Nat) : Value :=
  if l = 0 then (if k = 3 then .ref (A 50 i) else .int (sg 45 i k))
  else if l = 1 then (if k = 0 then .int (sg 46 i 0) else if k = 1 then .int (sg 46 i 1) else if k = 2 then .int (sg 46 i 3) else if k = 3 then .int (sg 46 i 4) else if k = 4 then .int (sg 46 i 5) else if k = 5 then .int (sg 46 i 7) else if k = 6 then .int (tv i) else if k = 7 then .int (sg 46 i 2) else if k = 8 then .ref (A 24 i) else if k = 9 then .ref (A 25 i) else if k = 10 then .ref (A 26 i) else .ref (A 27 i))
  else if l = 2 then .int (sg 56 i k)
  else if l = 3 then .int (sg 58 i k)
  else if l = 4 then .int (sg 57 i k)
  else if l = 5 then (if k = 0 then .int (sg 49 i 7) else if k = 1 then .int (sg 49 i 2) else .int (sg 49 i 8))
  else if l = 6 then (if k = 0 then .int (sg 51 0 i) else if k = 1 then .int (mkCnt sg i 1) else if k = 2 then .int (mkCnt sg i 2) else if k = 3 then .int (mkSum sg i) else if k = 4 then .int (mkExt sg i false) else .int (mkExt sg i true))
  else if l = 7 then (if k = 3 then .int (bi (sg 50 i 3 = 0)) else .int (sg 50 i k))
  else if l = 8 then .int (sg 53 i k)
  else .int (sg 54 i k)
/-- the fields of a state -/
def stV (A : Nat → Nat → Nat) (sg : TS) (k : Nat) : Value :=
  if k < 10 then .ref (A (3 + k) 0) else if k = 10 then .ref (A 1 0) else if k = 11 then .ref (A 2 0) else if k = 12 then .int (sg 27 0 0) else if k = 13 then .int (sg 31 0 0) else if k = 14 then .int (sg 33 0 0) else if k = 15 then .int (sg 34 0 0) else if k = 16 then .int (sg 41 0 0) else if k = 17 then .int (sg 43 0 0) else .int (sg 37 0 0)
def enl : Nat → Nat := fun l => if l = 0 then 4 else if l = 1 then 12 else if l = 2 then 4 else if l = 3 then 3 else if l = 4 then 2 else if l = 5 then 3 else if l = 6 then 6 else if l = 7 then 4 else if l = 8 then 3 else 2
/-- a state of the class -/
def StR (om : OM) (h : AH) (id : Nat) (A : Nat → Nat → Nat) (mc : Nat → Int32) (cap : Nat → Nat) (tv : Nat → Int32) (sg : TS) : Prop :=
  (cel om h (A 0 0) (oc id 0 0) 2 ∧ ∀ k, k < 19 → (hcl h (A 0 0)).2.2 k = stV A sg k) ∧
  (cel om h (A 1 0) (oc id 1 0) 100 ∧ (hcl h (A 1 0)).2.1 = 6 ∧ ∀ j, j < (sg 31 0 0).toNatClampNeg → (hcl h (A 1 0)).2.2 j = .int (sg 59 0 j)) ∧
  (cel om h (A 2 0) (oc id 2 0) 100 ∧ (hcl h (A 2 0)).2.1 = 12 ∧ ∀ j, j < 12 → (hcl h (A 2 0)).2.2 j = .int (sg 52 0 j)) ∧
  (∀ l, l < 10 → cel om h (A (3 + l) 0) (oc id (3 + l) 0) 3 ∧ (hcl h (A (3 + l) 0)).2.2 0 = .int (mc l) ∧ (hcl h (A (3 + l) 0)).2.2 1 = .ref (A (13 + l) 0) ∧ (hcl h (A (3 + l) 0)).2.2 2 = .int (sg (lf l) 0 0)) ∧
  (∀ l, l < 10 → cel om h (A (13 + l) 0) (oc id (13 + l) 0) 103 ∧ (hcl h (A (13 + l) 0)).2.1 = cap l ∧ ln sg l ≤ cap l ∧ 0 < cap l ∧ cap l < 100000 ∧ ∀ i, i < ln sg l → (hcl h (A (13 + l) 0)).2.2 i = .ref (A (40 + l) i)) ∧
  (∀ l, l < 10 → ∀ i, i < ln sg l → cel om h (A (40 + l) i) (ecd id l i) (etag l) ∧ ∀ k, k < enl l → (hcl h (A (40 + l) i)).2.2 k = eV A tv sg l i k) ∧
  (∀ i, i < ln sg 0 → cel om h (A 50 i) 0 100 ∧ (hcl h (A 50 i)).2.1 = 4 ∧ ∀ t, t < 4 → (hcl h (A 50 i)).2.2 t = .int (sg 45 i (3 + t))) ∧
  (∀ p, p < ln sg 1 → cel om h (A 24 p) (oc id 24 p) 104 ∧ (hcl h (A 24 p)).2.1 = 4 ∧ ∀ k, k < 4 → (sg 47 0 (4 * p + k) = -1 ∧ (hcl h (A 24 p)).2.2 k = .null) ∨ ∃ f, f < ln sg 5 ∧ sg 47 0 (4 * p + k) = ni f ∧ (hcl h (A 24 p)).2.2 k = .ref (A 51 f)) ∧
  (∀ p, p < ln sg 1 → cel om h (A 25 p) (oc id 25 p) 100 ∧ (hcl h (A 25 p)).2.1 = 55 ∧ ∀ y, y < 55 → (hcl h (A 25 p)).2.2 y = .int (sg 55 p y)) ∧
  (∀ p, p < ln sg 1 → cel om h (A 26 p) (oc id 26 p) 100 ∧ (hcl h (A 26 p)).2.1 = 220 ∧ ∀ k y, k < 4 → y < 55 → (hcl h (A 26 p)).2.2 (55 * k + y) = .int (fitCnt sg p k y)) ∧
  (∀ p, p < ln sg 1 → cel om h (A 27 p) (oc id 27 p) 100 ∧ (hcl h (A 27 p)).2.1 = 4 ∧ ∀ k, k < 4 → (hcl h (A 27 p)).2.2 k = .int (sg 48 0 (4 * p + k))) ∧
  (∀ f, f < ln sg 5 → cel om h (A 51 f) 0 20 ∧ (∀ k, k < 5 → (hcl h (A 51 f)).2.2 k = .int (sg 49 f k)) ∧ (hcl h (A 51 f)).2.2 5 = .int (ni f)) ∧
  (∀ p, p < ln sg 1 → sg 46 p 7 = 0 ∨ tv p = sg 46 p 6)
/-- what is the class's own, or foreign -/
def OmOK (b : Nat) (om : OM) : Prop := ∀ q, q = 0 ∨ (27 ≤ q ∧ q < 36) → om (b + q) = 2
theorem OmOK.nf {b : Nat} {om : OM} (h : OmOK b om) {a : Nat} (ha : om a ≠ 2) : NF b a := by
  unfold NF
  refine ⟨fun e => ha (by rw [e]; exact h 0 (Or.inl rfl)), ?_⟩
  by_cases q : b + 27 ≤ a ∧ a < b + 36
  · obtain ⟨r, rfl⟩ := Nat.exists_eq_add_of_le (show b ≤ a by omega)
    exact absurd (h r (Or.inr (by omega))) ha
  · omega
theorem oc_n2 {id k i : Nat} : oc id k i ≠ 2 := by unfold oc; omega
theorem cel.nf {b : Nat} {om : OM} {h : AH} {a k t : Nat} (hO : OmOK b om) (hc : cel om h a k t) (hk : k ≠ 2) : NF b a := hO.nf (by rw [hc.1]; exact hk)
theorem cel.cx {b : Nat} {om : OM} {h : AH} {a k t : Nat} (hO : OmOK b om) (hc : cel om h a k t) (hk : k ≠ 2) (gi : GI) (s c : Nat) (im : Nat → Value) : hcl (cx b gi s c im h) a = hcl h a := cx_out (hc.nf hO hk)
section REP
variable {b id c : Nat} {om : OM} {h : AH} {A : Nat → Nat → Nat} {mc : Nat → Int32} {cap : Nat → Nat} {tv : Nat → Int32} {sg : TS} {gi : GI} {s : Nat} {im : Nat → Value} {d : Nat}
theorem rs_t (hO : OmOK b om) (R : StR om h id A mc cap tv sg) : (hcl (cx b gi s c im h) (A 0 0)).1 = 2 := by
  rw [R.1.1.cx hO oc_n2]
  exact R.1.1.2.2
theorem rs_0 (hO : OmOK b om) (R : StR om h id A mc cap tv sg) : (hcl (cx b gi s c im h) (A 0 0)).2.2 0 = .ref (A 3 0) := by
  rw [R.1.1.cx hO oc_n2]
  exact R.1.2 0 (by omega)
theorem rs_1 (hO : OmOK b om) (R : StR om h id A mc cap tv sg) : (hcl (cx b gi s c im h) (A 0 0)).2.2 1 = .ref (A 4 0) := by
  rw [R.1.1.cx hO oc_n2]
  exact R.1.2 1 (by omega)
theorem rs_2 (hO : OmOK b om) (R : StR om h id A mc cap tv sg) : (hcl (cx b gi s c im h) (A 0 0)).2.2 2 = .ref (A 5 0) := by
  rw [R.1.1.cx hO oc_n2]
  exact R.1.2 2 (by omega)
theorem rs_3 (hO : OmOK b om) (R : StR om h id A mc cap tv sg) : (hcl (cx b gi s c im h) (A 0 0)).2.2 3 = .ref (A 6 0) := by
  rw [R.1.1.cx hO oc_n2]
  exact R.1.2 3 (by omega)
theorem rs_4 (hO : OmOK b om) (R : StR om h id A mc cap tv sg) : (hcl (cx b gi s c im h) (A 0 0)).2.2 4 = .ref (A 7 0) := by
  rw [R.1.1.cx hO oc_n2]
  exact R.1.2 4 (by omega)
theorem rs_5 (hO : OmOK b om) (R : StR om h id A mc cap tv sg) : (hcl (cx b gi s c im h) (A 0 0)).2.2 5 = .ref (A 8 0) := by
  rw [R.1.1.cx hO oc_n2]
  exact R.1.2 5 (by omega)
theorem rs_6 (hO : OmOK b om) (R : StR om h id A mc cap tv sg) : (hcl (cx b gi s c im h) (A 0 0)).2.2 6 = .ref (A 9 0) := by
  rw [R.1.1.cx hO oc_n2]
  exact R.1.2 6 (by omega)
theorem rs_7 (hO : OmOK b om) (R : StR om h id A mc cap tv sg) : (hcl (cx b gi s c im h) (A 0 0)).2.2 7 = .ref (A 10 0) := by
  rw [R.1.1.cx hO oc_n2]
  exact R.1.2 7 (by omega)
theorem rs_8 (hO : OmOK b om) (R : StR om h id A mc cap tv sg) : (hcl (cx b gi s c im h) (A 0 0)).2.2 8 = .ref (A 11 0) := by
  rw [R.1.1.cx hO oc_n2]
  exact R.1.2 8 (by omega)
theorem rs_9 (hO : OmOK b om) (R : StR om h id A mc cap tv sg) : (hcl (cx b gi s c im h) (A 0 0)).2.2 9 = .ref (A 12 0) := by
  rw [R.1.1.cx hO oc_n2]
  exact R.1.2 9 (by omega)
theorem rs_10 (hO : OmOK b om) (R : StR om h id A mc cap tv sg) : (hcl (cx b gi s c im h) (A 0 0)).2.2 10 = .ref (A 1 0) := by
  rw [R.1.1.cx hO oc_n2]
  exact R.1.2 10 (by omega)
theorem rs_11 (hO : OmOK b om) (R : StR om h id A mc cap tv sg) : (hcl (cx b gi s c im h) (A 0 0)).2.2 11 = .ref (A 2 0) := by
  rw [R.1.1.cx hO oc_n2]
  exact R.1.2 11 (by omega)
theorem rs_12 (hO : OmOK b om) (R : StR om h id A mc cap tv sg) : (hcl (cx b gi s c im h) (A 0 0)).2.2 12 = .int (sg 27 0 0) := by
  rw [R.1.1.cx hO oc_n2]
  exact R.1.2 12 (by omega)
theorem rs_13 (hO : OmOK b om) (R : StR om h id A mc cap tv sg) : (hcl (cx b gi s c im h) (A 0 0)).2.2 13 = .int (sg 31 0 0) := by
  rw [R.1.1.cx hO oc_n2]
  exact R.1.2 13 (by omega)
theorem rs_14 (hO : OmOK b om) (R : StR om h id A mc cap tv sg) : (hcl (cx b gi s c im h) (A 0 0)).2.2 14 = .int (sg 33 0 0) := by
  rw [R.1.1.cx hO oc_n2]
  exact R.1.2 14 (by omega)
theorem rs_15 (hO : OmOK b om) (R : StR om h id A mc cap tv sg) : (hcl (cx b gi s c im h) (A 0 0)).2.2 15 = .int (sg 34 0 0) := by
  rw [R.1.1.cx hO oc_n2]
  exact R.1.2 15 (by omega)
theorem rs_16 (hO : OmOK b om) (R : StR om h id A mc cap tv sg) : (hcl (cx b gi s c im h) (A 0 0)).2.2 16 = .int (sg 41 0 0) := by
  rw [R.1.1.cx hO oc_n2]
  exact R.1.2 16 (by omega)
theorem rs_17 (hO : OmOK b om) (R : StR om h id A mc cap tv sg) : (hcl (cx b gi s c im h) (A 0 0)).2.2 17 = .int (sg 43 0 0) := by
  rw [R.1.1.cx hO oc_n2]
  exact R.1.2 17 (by omega)
theorem rs_18 (hO : OmOK b om) (R : StR om h id A mc cap tv sg) : (hcl (cx b gi s c im h) (A 0 0)).2.2 18 = .int (sg 37 0 0) := by
  rw [R.1.1.cx hO oc_n2]
  exact R.1.2 18 (by omega)
theorem ra_t (hO : OmOK b om) (R : StR om h id A mc cap tv sg) : (hcl (cx b gi s c im h) (A 1 0)).1 = 100 := by
  rw [R.2.1.1.cx hO oc_n2]
  exact R.2.1.1.2.2
theorem ra_n (hO : OmOK b om) (R : StR om h id A mc cap tv sg) : (hcl (cx b gi s c im h) (A 1 0)).2.1 = 6 := by
  rw [R.2.1.1.cx hO oc_n2]
  exact R.2.1.2.1
theorem ra_v (hO : OmOK b om) (R : StR om h id A mc cap tv sg) {j : Nat} (hj : j < (sg 31 0 0).toNatClampNeg) : (hcl (cx b gi s c im h) (A 1 0)).2.2 j = .int (sg 59 0 j) := by
  rw [R.2.1.1.cx hO oc_n2]
  exact R.2.1.2.2 j hj
theorem rk_t (hO : OmOK b om) (R : StR om h id A mc cap tv sg) : (hcl (cx b gi s c im h) (A 2 0)).1 = 100 := by
  rw [R.2.2.1.1.cx hO oc_n2]
  exact R.2.2.1.1.2.2
theorem rk_n (hO : OmOK b om) (R : StR om h id A mc cap tv sg) : (hcl (cx b gi s c im h) (A 2 0)).2.1 = 12 := by
  rw [R.2.2.1.1.cx hO oc_n2]
  exact R.2.2.1.2.1
theorem rk_v (hO : OmOK b om) (R : StR om h id A mc cap tv sg) {j : Nat} (hj : j < 12) : (hcl (cx b gi s c im h) (A 2 0)).2.2 j = .int (sg 52 0 j) := by
  rw [R.2.2.1.1.cx hO oc_n2]
  exact R.2.2.1.2.2 j hj
theorem rl0_all (hO : OmOK b om) (R : StR om h id A mc cap tv sg) : (hcl (cx b gi s c im h) (A 3 0)).1 = 3 ∧ (hcl (cx b gi s c im h) (A 3 0)).2.2 1 = .ref (A 13 0) ∧ (hcl (cx b gi s c im h) (A 3 0)).2.2 2 = .int (sg 28 0 0) ∧ (hcl (cx b gi s c im h) (A 3 0)).2.2 0 = .int (mc 0) := by
  have r := R.2.2.2.1 0 (by omega)
  rw [r.1.cx hO oc_n2]
  exact ⟨r.1.2.2, r.2.2.1, r.2.2.2, r.2.1⟩
theorem rl0_t (hO : OmOK b om) (R : StR om h id A mc cap tv sg) : (hcl (cx b gi s c im h) (A 3 0)).1 = 3 := (rl0_all hO R).1
theorem rl0_1 (hO : OmOK b om) (R : StR om h id A mc cap tv sg) : (hcl (cx b gi s c im h) (A 3 0)).2.2 1 = .ref (A 13 0) := (rl0_all hO R).2.1
theorem rl0_2 (hO : OmOK b om) (R : StR om h id A mc cap tv sg) : (hcl (cx b gi s c im h) (A 3 0)).2.2 2 = .int (sg 28 0 0) := (rl0_all hO R).2.2.1
theorem rd0_all (hO : OmOK b om) (R : StR om h id A mc cap tv sg) : (hcl (cx b gi s c im h) (A 13 0)).1 = 103 ∧ (hcl (cx b gi s c im h) (A 13 0)).2.1 = cap 0 ∧ ln sg 0 ≤ cap 0 ∧ cap 0 < 100000 ∧ ∀ i, i < ln sg 0 → (hcl (cx b gi s c im h) (A 13 0)).2.2 i = .ref (A 40 i) := by
  have r := R.2.2.2.2.1 0 (by omega)
  rw [r.1.cx hO oc_n2]
  exact ⟨r.1.2.2, r.2.1, r.2.2.1, r.2.2.2.2.1, r.2.2.2.2.2⟩
theorem c_size0 (hO : OmOK b om) (R : StR om h id A mc cap tv sg) : ev d 175 0 [some (.ref (A 3 0))] [] (cx b gi s c im h) = some (.returned (some (.int (sg 28 0 0))), (cx b gi s c im h)) := by
  obtain ⟨h1, h2, h3, -⟩ := rl0_all (b := b) (gi := gi) (s := s) (c := c) (im := im) hO R
  simp (disch := first | omega | (simp only [seval]; done) | (simp only [seval]; omega)) only [e175_0, e175_0b, e175_1, e175_4, kre_some, kre_none, kxo_thr, bnd_ite, ↓reduceIte, List.length_cons, List.length_nil, List.mem_cons, List.not_mem_nil, or_false, or_true, false_or, true_or, true_and, and_true, and_self, false_and, and_false, not_true_eq_false, not_false_eq_true, eq_self, ne_eq, if_true, if_false, bi_eq0, bi_eq1, bi_F, bi_T, ft_byte, ni_lt, ni_le, ni_neg, ni_pos, ni_inj, ni_nat, ni_add, ni_mul, ni_addc, ni_cadd, ni_cmul, ni_ltc, ni_lec, ni_clt, ni_cle, ni_eqc, ni_ceq, on_ni, ni_m1, nlt_t, nlt_f, nle_t, nle_f, neq_f, nw_int, nw_b0, nw_b1, nw_bi, nw_obj, nw_objn, nw_arr, nw_arrn, ft_int, ft_b0, ft_b1, ft_bi, ft_char, ft_obj, ft_objn, ft_arr, ft_arrn, ct_int, ct_ref, ct_null, lc_none, lc_int, lc_ref, lc_null, lc_long, sm_val, vi_int, seval, hset_tag, hset_len, hset_at, hnew_tag, hnew_len, hnew_at, hsz_set, hsz_new, h1, h3]
theorem c_get0 (hO : OmOK b om) (R : StR om h id A mc cap tv sg) {i n : Nat} (hn : sg 28 0 0 = ni n) (hi : i < n) (hn2 : n < 100000) : ev d 176 0 [some (.ref (A 3 0)), some (.int (ni i))] [] (cx b gi s c im h) = some (.returned (some (.ref (A 40 i))), (cx b gi s c im h)) := by
  obtain ⟨h1, h2, h3, -⟩ := rl0_all (b := b) (gi := gi) (s := s) (c := c) (im := im) hO R
  obtain ⟨g1, g2, g3, g4, g5⟩ := rd0_all (b := b) (gi := gi) (s := s) (c := c) (im := im) hO R
  have e : ln sg 0 = n := by
    show (sg 28 0 0).toNatClampNeg = n
    rw [hn, ni_nat (by omega)]
  rw [e] at g3 g5
  exact k_get h1 h2 (by rw [h3, hn]) g1 g2 g3 hi (by omega) (g5 i hi)
theorem re0_all (hO : OmOK b om) (R : StR om h id A mc cap tv sg) {i : Nat} (hi : i < ln sg 0) : (hcl (cx b gi s c im h) (A 40 i)).1 = 18 ∧ ∀ k, k < 4 → (hcl (cx b gi s c im h) (A 40 i)).2.2 k = eV A tv sg 0 i k := by
  have r := R.2.2.2.2.2.1 0 (by omega) i hi
  rw [r.1.cx hO (show ecd id 0 i ≠ 2 from (show (0 : Nat) ≠ 2 by decide))]
  exact ⟨r.1.2.2, r.2⟩
theorem re0_t (hO : OmOK b om) (R : StR om h id A mc cap tv sg) {i : Nat} (hi : i < ln sg 0) : (hcl (cx b gi s c im h) (A 40 i)).1 = 18 := (re0_all hO R hi).1
theorem re0_0 (hO : OmOK b om) (R : StR om h id A mc cap tv sg) {i : Nat} (hi : i < ln sg 0) : (hcl (cx b gi s c im h) (A 40 i)).2.2 0 = .int (sg 45 i 0) := (re0_all hO R hi).2 0 (by omega)
theorem re0_1 (hO : OmOK b om) (R : StR om h id A mc cap tv sg) {i : Nat} (hi : i < ln sg 0) : (hcl (cx b gi s c im h) (A 40 i)).2.2 1 = .int (sg 45 i 1) := (re0_all hO R hi).2 1 (by omega)
theorem re0_2 (hO : OmOK b om) (R : StR om h id A mc cap tv sg) {i : Nat} (hi : i < ln sg 0) : (hcl (cx b gi s c im h) (A 40 i)).2.2 2 = .int (sg 45 i 2) := (re0_all hO R hi).2 2 (by omega)
theorem re0_3 (hO : OmOK b om) (R : StR om h id A mc cap tv sg) {i : Nat} (hi : i < ln sg 0) : (hcl (cx b gi s c im h) (A 40 i)).2.2 3 = .ref (A 50 i) := (re0_all hO R hi).2 3 (by omega)
theorem rl1_all (hO : OmOK b om) (R : StR om h id A mc cap tv sg) : (hcl (cx b gi s c im h) (A 4 0)).1 = 3 ∧ (hcl (cx b gi s c im h) (A 4 0)).2.2 1 = .ref (A 14 0) ∧ (hcl (cx b gi s c im h) (A 4 0)).2.2 2 = .int (sg 29 0 0) ∧ (hcl (cx b gi s c im h) (A 4 0)).2.2 0 = .int (mc 1) := by
  have r := R.2.2.2.1 1 (by omega)
  rw [r.1.cx hO oc_n2]
  exact ⟨r.1.2.2, r.2.2.1, r.2.2.2, r.2.1⟩
theorem rl1_t (hO : OmOK b om) (R : StR om h id A mc cap tv sg) : (hcl (cx b gi s c im h) (A 4 0)).1 = 3 := (rl1_all hO R).1
theorem rl1_1 (hO : OmOK b om) (R : StR om h id A mc cap tv sg) : (hcl (cx b gi s c im h) (A 4 0)).2.2 1 = .ref (A 14 0) := (rl1_all hO R).2.1
theorem rl1_2 (hO : OmOK b om) (R : StR om h id A mc cap tv sg) : (hcl (cx b gi s c im h) (A 4 0)).2.2 2 = .int (sg 29 0 0) := (rl1_all hO R).2.2.1
theorem rd1_all (hO : OmOK b om) (R : StR om h id A mc cap tv sg) : (hcl (cx b gi s c im h) (A 14 0)).1 = 103 ∧ (hcl (cx b gi s c im h) (A 14 0)).2.1 = cap 1 ∧ ln sg 1 ≤ cap 1 ∧ cap 1 < 100000 ∧ ∀ i, i < ln sg 1 → (hcl (cx b gi s c im h) (A 14 0)).2.2 i = .ref (A 41 i) := by
  have r := R.2.2.2.2.1 1 (by omega)
  rw [r.1.cx hO oc_n2]
  exact ⟨r.1.2.2, r.2.1, r.2.2.1, r.2.2.2.2.1, r.2.2.2.2.2⟩
theorem c_size1 (hO : OmOK b om) (R : StR om h id A mc cap tv sg) : ev d 175 0 [some (.ref (A 4 0))] [] (cx b gi s c im h) = some (.returned (some (.int (sg 29 0 0))), (cx b gi s c im h)) := by
  obtain ⟨h1, h2, h3, -⟩ := rl1_all (b := b) (gi := gi) (s := s) (c := c) (im := im) hO R
  simp (disch := first | omega | (simp only [seval]; done) | (simp only [seval]; omega)) only [e175_0, e175_0b, e175_1, e175_4, kre_some, kre_none, kxo_thr, bnd_ite, ↓reduceIte, List.length_cons, List.length_nil, List.mem_cons, List.not_mem_nil, or_false, or_true, false_or, true_or, true_and, and_true, and_self, false_and, and_false, not_true_eq_false, not_false_eq_true, eq_self, ne_eq, if_true, if_false, bi_eq0, bi_eq1, bi_F, bi_T, ft_byte, ni_lt, ni_le, ni_neg, ni_pos, ni_inj, ni_nat, ni_add, ni_mul, ni_addc, ni_cadd, ni_cmul, ni_ltc, ni_lec, ni_clt, ni_cle, ni_eqc, ni_ceq, on_ni, ni_m1, nlt_t, nlt_f, nle_t, nle_f, neq_f, nw_int, nw_b0, nw_b1, nw_bi, nw_obj, nw_objn, nw_arr, nw_arrn, ft_int, ft_b0, ft_b1, ft_bi, ft_char, ft_obj, ft_objn, ft_arr, ft_arrn, ct_int, ct_ref, ct_null, lc_none, lc_int, lc_ref, lc_null, lc_long, sm_val, vi_int, seval, hset_tag, hset_len, hset_at, hnew_tag, hnew_len, hnew_at, hsz_set, hsz_new, h1, h3]
theorem c_get1 (hO : OmOK b om) (R : StR om h id A mc cap tv sg) {i n : Nat} (hn : sg 29 0 0 = ni n) (hi : i < n) (hn2 : n < 100000) : ev d 176 0 [some (.ref (A 4 0)), some (.int (ni i))] [] (cx b gi s c im h) = some (.returned (some (.ref (A 41 i))), (cx b gi s c im h)) := by
  obtain ⟨h1, h2, h3, -⟩ := rl1_all (b := b) (gi := gi) (s := s) (c := c) (im := im) hO R
  obtain ⟨g1, g2, g3, g4, g5⟩ := rd1_all (b := b) (gi := gi) (s := s) (c := c) (im := im) hO R
  have e : ln sg 1 = n := by
    show (sg 29 0 0).toNatClampNeg = n
    rw [hn, ni_nat (by omega)]
  rw [e] at g3 g5
  exact k_get h1 h2 (by rw [h3, hn]) g1 g2 g3 hi (by omega) (g5 i hi)
theorem re1_all (hO : OmOK b om) (R : StR om h id A mc cap tv sg) {i : Nat} (hi : i < ln sg 1) : (hcl (cx b gi s c im h) (A 41 i)).1 = 19 ∧ ∀ k, k < 12 → (hcl (cx b gi s c im h) (A 41 i)).2.2 k = eV A tv sg 1 i k := by
  have r := R.2.2.2.2.2.1 1 (by omega) i hi
  rw [r.1.cx hO (show ecd id 1 i ≠ 2 from oc_n2)]
  exact ⟨r.1.2.2, r.2⟩
theorem re1_t (hO : OmOK b om) (R : StR om h id A mc cap tv sg) {i : Nat} (hi : i < ln sg 1) : (hcl (cx b gi s c im h) (A 41 i)).1 = 19 := (re1_all hO R hi).1
theorem re1_0 (hO : OmOK b om) (R : StR om h id A mc cap tv sg) {i : Nat} (hi : i < ln sg 1) : (hcl (cx b gi s c im h) (A 41 i)).2.2 0 = .int (sg 46 i 0) := (re1_all hO R hi).2 0 (by omega)
theorem re1_1 (hO : OmOK b om) (R : StR om h id A mc cap tv sg) {i : Nat} (hi : i < ln sg 1) : (hcl (cx b gi s c im h) (A 41 i)).2.2 1 = .int (sg 46 i 1) := (re1_all hO R hi).2 1 (by omega)
theorem re1_2 (hO : OmOK b om) (R : StR om h id A mc cap tv sg) {i : Nat} (hi : i < ln sg 1) : (hcl (cx b gi s c im h) (A 41 i)).2.2 2 = .int (sg 46 i 3) := (re1_all hO R hi).2 2 (by omega)
theorem re1_3 (hO : OmOK b om) (R : StR om h id A mc cap tv sg) {i : Nat} (hi : i < ln sg 1) : (hcl (cx b gi s c im h) (A 41 i)).2.2 3 = .int (sg 46 i 4) := (re1_all hO R hi).2 3 (by omega)
theorem re1_4 (hO : OmOK b om) (R : StR om h id A mc cap tv sg) {i : Nat} (hi : i < ln sg 1) : (hcl (cx b gi s c im h) (A 41 i)).2.2 4 = .int (sg 46 i 5) := (re1_all hO R hi).2 4 (by omega)
theorem re1_5 (hO : OmOK b om) (R : StR om h id A mc cap tv sg) {i : Nat} (hi : i < ln sg 1) : (hcl (cx b gi s c im h) (A 41 i)).2.2 5 = .int (sg 46 i 7) := (re1_all hO R hi).2 5 (by omega)
theorem re1_6 (hO : OmOK b om) (R : StR om h id A mc cap tv sg) {i : Nat} (hi : i < ln sg 1) : (hcl (cx b gi s c im h) (A 41 i)).2.2 6 = .int (tv i) := (re1_all hO R hi).2 6 (by omega)
theorem re1_7 (hO : OmOK b om) (R : StR om h id A mc cap tv sg) {i : Nat} (hi : i < ln sg 1) : (hcl (cx b gi s c im h) (A 41 i)).2.2 7 = .int (sg 46 i 2) := (re1_all hO R hi).2 7 (by omega)
theorem re1_8 (hO : OmOK b om) (R : StR om h id A mc cap tv sg) {i : Nat} (hi : i < ln sg 1) : (hcl (cx b gi s c im h) (A 41 i)).2.2 8 = .ref (A 24 i) := (re1_all hO R hi).2 8 (by omega)
theorem re1_9 (hO : OmOK b om) (R : StR om h id A mc cap tv sg) {i : Nat} (hi : i < ln sg 1) : (hcl (cx b gi s c im h) (A 41 i)).2.2 9 = .ref (A 25 i) := (re1_all hO R hi).2 9 (by omega)
theorem re1_10 (hO : OmOK b om) (R : StR om h id A mc cap tv sg) {i : Nat} (hi : i < ln sg 1) : (hcl (cx b gi s c im h) (A 41 i)).2.2 10 = .ref (A 26 i) := (re1_all hO R hi).2 10 (by omega)
theorem re1_11 (hO : OmOK b om) (R : StR om h id A mc cap tv sg) {i : Nat} (hi : i < ln sg 1) : (hcl (cx b gi s c im h) (A 41 i)).2.2 11 = .ref (A 27 i) := (re1_all hO R hi).2 11 (by omega)
theorem rl2_all (hO : OmOK b om) (R : StR om h id A mc cap tv sg) : (hcl (cx b gi s c im h) (A 5 0)).1 = 3 ∧ (hcl (cx b gi s c im h) (A 5 0)).2.2 1 = .ref (A 15 0) ∧ (hcl (cx b gi s c im h) (A 5 0)).2.2 2 = .int (sg 30 0 0) ∧ (hcl (cx b gi s c im h) (A 5 0)).2.2 0 = .int (mc 2) := by
  have r := R.2.2.2.1 2 (by omega)
  rw [r.1.cx hO oc_n2]
  exact ⟨r.1.2.2, r.2.2.1, r.2.2.2, r.2.1⟩
theorem rl2_t (hO : OmOK b om) (R : StR om h id A mc cap tv sg) : (hcl (cx b gi s c im h) (A 5 0)).1 = 3 := (rl2_all hO R).1
theorem rl2_1 (hO : OmOK b om) (R : StR om h id A mc cap tv sg) : (hcl (cx b gi s c im h) (A 5 0)).2.2 1 = .ref (A 15 0) := (rl2_all hO R).2.1
theorem rl2_2 (hO : OmOK b om) (R : StR om h id A mc cap tv sg) : (hcl (cx b gi s c im h) (A 5 0)).2.2 2 = .int (sg 30 0 0) := (rl2_all hO R).2.2.1
theorem rd2_all (hO : OmOK b om) (R : StR om h id A mc cap tv sg) : (hcl (cx b gi s c im h) (A 15 0)).1 = 103 ∧ (hcl (cx b gi s c im h) (A 15 0)).2.1 = cap 2 ∧ ln sg 2 ≤ cap 2 ∧ cap 2 < 100000 ∧ ∀ i, i < ln sg 2 → (hcl (cx b gi s c im h) (A 15 0)).2.2 i = .ref (A 42 i) := by
  have r := R.2.2.2.2.1 2 (by omega)
  rw [r.1.cx hO oc_n2]
  exact ⟨r.1.2.2, r.2.1, r.2.2.1, r.2.2.2.2.1, r.2.2.2.2.2⟩
theorem c_size2 (hO : OmOK b om) (R : StR om h id A mc cap tv sg) : ev d 175 0 [some (.ref (A 5 0))] [] (cx b gi s c im h) = some (.returned (some (.int (sg 30 0 0))), (cx b gi s c im h)) := by
  obtain ⟨h1, h2, h3, -⟩ := rl2_all (b := b) (gi := gi) (s := s) (c := c) (im := im) hO R
  simp (disch := first | omega | (simp only [seval]; done) | (simp only [seval]; omega)) only [e175_0, e175_0b, e175_1, e175_4, kre_some, kre_none, kxo_thr, bnd_ite, ↓reduceIte, List.length_cons, List.length_nil, List.mem_cons, List.not_mem_nil, or_false, or_true, false_or, true_or, true_and, and_true, and_self, false_and, and_false, not_true_eq_false, not_false_eq_true, eq_self, ne_eq, if_true, if_false, bi_eq0, bi_eq1, bi_F, bi_T, ft_byte, ni_lt, ni_le, ni_neg, ni_pos, ni_inj, ni_nat, ni_add, ni_mul, ni_addc, ni_cadd, ni_cmul, ni_ltc, ni_lec, ni_clt, ni_cle, ni_eqc, ni_ceq, on_ni, ni_m1, nlt_t, nlt_f, nle_t, nle_f, neq_f, nw_int, nw_b0, nw_b1, nw_bi, nw_obj, nw_objn, nw_arr, nw_arrn, ft_int, ft_b0, ft_b1, ft_bi, ft_char, ft_obj, ft_objn, ft_arr, ft_arrn, ct_int, ct_ref, ct_null, lc_none, lc_int, lc_ref, lc_null, lc_long, sm_val, vi_int, seval, hset_tag, hset_len, hset_at, hnew_tag, hnew_len, hnew_at, hsz_set, hsz_new, h1, h3]
theorem c_get2 (hO : OmOK b om) (R : StR om h id A mc cap tv sg) {i n : Nat} (hn : sg 30 0 0 = ni n) (hi : i < n) (hn2 : n < 100000) : ev d 176 0 [some (.ref (A 5 0)), some (.int (ni i))] [] (cx b gi s c im h) = some (.returned (some (.ref (A 42 i))), (cx b gi s c im h)) := by
  obtain ⟨h1, h2, h3, -⟩ := rl2_all (b := b) (gi := gi) (s := s) (c := c) (im := im) hO R
  obtain ⟨g1, g2, g3, g4, g5⟩ := rd2_all (b := b) (gi := gi) (s := s) (c := c) (im := im) hO R
  have e : ln sg 2 = n := by
    show (sg 30 0 0).toNatClampNeg = n
    rw [hn, ni_nat (by omega)]
  rw [e] at g3 g5
  exact k_get h1 h2 (by rw [h3, hn]) g1 g2 g3 hi (by omega) (g5 i hi)
theorem re2_all (hO : OmOK b om) (R : StR om h id A mc cap tv sg) {i : Nat} (hi : i < ln sg 2) : (hcl (cx b gi s c im h) (A 42 i)).1 = 22 ∧ ∀ k, k < 4 → (hcl (cx b gi s c im h) (A 42 i)).2.2 k = eV A tv sg 2 i k := by
  have r := R.2.2.2.2.2.1 2 (by omega) i hi
  rw [r.1.cx hO (show ecd id 2 i ≠ 2 from (show (0 : Nat) ≠ 2 by decide))]
  exact ⟨r.1.2.2, r.2⟩
theorem re2_t (hO : OmOK b om) (R : StR om h id A mc cap tv sg) {i : Nat} (hi : i < ln sg 2) : (hcl (cx b gi s c im h) (A 42 i)).1 = 22 := (re2_all hO R hi).1
theorem re2_0 (hO : OmOK b om) (R : StR om h id A mc cap tv sg) {i : Nat} (hi : i < ln sg 2) : (hcl (cx b gi s c im h) (A 42 i)).2.2 0 = .int (sg 56 i 0) := (re2_all hO R hi).2 0 (by omega)
theorem re2_1 (hO : OmOK b om) (R : StR om h id A mc cap tv sg) {i : Nat} (hi : i < ln sg 2) : (hcl (cx b gi s c im h) (A 42 i)).2.2 1 = .int (sg 56 i 1) := (re2_all hO R hi).2 1 (by omega)
theorem re2_2 (hO : OmOK b om) (R : StR om h id A mc cap tv sg) {i : Nat} (hi : i < ln sg 2) : (hcl (cx b gi s c im h) (A 42 i)).2.2 2 = .int (sg 56 i 2) := (re2_all hO R hi).2 2 (by omega)
theorem re2_3 (hO : OmOK b om) (R : StR om h id A mc cap tv sg) {i : Nat} (hi : i < ln sg 2) : (hcl (cx b gi s c im h) (A 42 i)).2.2 3 = .int (sg 56 i 3) := (re2_all hO R hi).2 3 (by omega)
theorem rl3_all (hO : OmOK b om) (R : StR om h id A mc cap tv sg) : (hcl (cx b gi s c im h) (A 6 0)).1 = 3 ∧ (hcl (cx b gi s c im h) (A 6 0)).2.2 1 = .ref (A 16 0) ∧ (hcl (cx b gi s c im h) (A 6 0)).2.2 2 = .int (sg 35 0 0) ∧ (hcl (cx b gi s c im h) (A 6 0)).2.2 0 = .int (mc 3) := by
  have r := R.2.2.2.1 3 (by omega)
  rw [r.1.cx hO oc_n2]
  exact ⟨r.1.2.2, r.2.2.1, r.2.2.2, r.2.1⟩
theorem rl3_t (hO : OmOK b om) (R : StR om h id A mc cap tv sg) : (hcl (cx b gi s c im h) (A 6 0)).1 = 3 := (rl3_all hO R).1
theorem rl3_1 (hO : OmOK b om) (R : StR om h id A mc cap tv sg) : (hcl (cx b gi s c im h) (A 6 0)).2.2 1 = .ref (A 16 0) := (rl3_all hO R).2.1
theorem rl3_2 (hO : OmOK b om) (R : StR om h id A mc cap tv sg) : (hcl (cx b gi s c im h) (A 6 0)).2.2 2 = .int (sg 35 0 0) := (rl3_all hO R).2.2.1
theorem rd3_all (hO : OmOK b om) (R : StR om h id A mc cap tv sg) : (hcl (cx b gi s c im h) (A 16 0)).1 = 103 ∧ (hcl (cx b gi s c im h) (A 16 0)).2.1 = cap 3 ∧ ln sg 3 ≤ cap 3 ∧ cap 3 < 100000 ∧ ∀ i, i < ln sg 3 → (hcl (cx b gi s c im h) (A 16 0)).2.2 i = .ref (A 43 i) := by
  have r := R.2.2.2.2.1 3 (by omega)
  rw [r.1.cx hO oc_n2]
  exact ⟨r.1.2.2, r.2.1, r.2.2.1, r.2.2.2.2.1, r.2.2.2.2.2⟩
theorem c_size3 (hO : OmOK b om) (R : StR om h id A mc cap tv sg) : ev d 175 0 [some (.ref (A 6 0))] [] (cx b gi s c im h) = some (.returned (some (.int (sg 35 0 0))), (cx b gi s c im h)) := by
  obtain ⟨h1, h2, h3, -⟩ := rl3_all (b := b) (gi := gi) (s := s) (c := c) (im := im) hO R
  simp (disch := first | omega | (simp only [seval]; done) | (simp only [seval]; omega)) only [e175_0, e175_0b, e175_1, e175_4, kre_some, kre_none, kxo_thr, bnd_ite, ↓reduceIte, List.length_cons, List.length_nil, List.mem_cons, List.not_mem_nil, or_false, or_true, false_or, true_or, true_and, and_true, and_self, false_and, and_false, not_true_eq_false, not_false_eq_true, eq_self, ne_eq, if_true, if_false, bi_eq0, bi_eq1, bi_F, bi_T, ft_byte, ni_lt, ni_le, ni_neg, ni_pos, ni_inj, ni_nat, ni_add, ni_mul, ni_addc, ni_cadd, ni_cmul, ni_ltc, ni_lec, ni_clt, ni_cle, ni_eqc, ni_ceq, on_ni, ni_m1, nlt_t, nlt_f, nle_t, nle_f, neq_f, nw_int, nw_b0, nw_b1, nw_bi, nw_obj, nw_objn, nw_arr, nw_arrn, ft_int, ft_b0, ft_b1, ft_bi, ft_char, ft_obj, ft_objn, ft_arr, ft_arrn, ct_int, ct_ref, ct_null, lc_none, lc_int, lc_ref, lc_null, lc_long, sm_val, vi_int, seval, hset_tag, hset_len, hset_at, hnew_tag, hnew_len, hnew_at, hsz_set, hsz_new, h1, h3]
theorem c_get3 (hO : OmOK b om) (R : StR om h id A mc cap tv sg) {i n : Nat} (hn : sg 35 0 0 = ni n) (hi : i < n) (hn2 : n < 100000) : ev d 176 0 [some (.ref (A 6 0)), some (.int (ni i))] [] (cx b gi s c im h) = some (.returned (some (.ref (A 43 i))), (cx b gi s c im h)) := by
  obtain ⟨h1, h2, h3, -⟩ := rl3_all (b := b) (gi := gi) (s := s) (c := c) (im := im) hO R
  obtain ⟨g1, g2, g3, g4, g5⟩ := rd3_all (b := b) (gi := gi) (s := s) (c := c) (im := im) hO R
  have e : ln sg 3 = n := by
    show (sg 35 0 0).toNatClampNeg = n
    rw [hn, ni_nat (by omega)]
  rw [e] at g3 g5
  exact k_get h1 h2 (by rw [h3, hn]) g1 g2 g3 hi (by omega) (g5 i hi)
theorem re3_all (hO : OmOK b om) (R : StR om h id A mc cap tv sg) {i : Nat} (hi : i < ln sg 3) : (hcl (cx b gi s c im h) (A 43 i)).1 = 28 ∧ ∀ k, k < 3 → (hcl (cx b gi s c im h) (A 43 i)).2.2 k = eV A tv sg 3 i k := by
  have r := R.2.2.2.2.2.1 3 (by omega) i hi
  rw [r.1.cx hO (show ecd id 3 i ≠ 2 from (show (0 : Nat) ≠ 2 by decide))]
  exact ⟨r.1.2.2, r.2⟩
theorem re3_t (hO : OmOK b om) (R : StR om h id A mc cap tv sg) {i : Nat} (hi : i < ln sg 3) : (hcl (cx b gi s c im h) (A 43 i)).1 = 28 := (re3_all hO R hi).1
theorem re3_0 (hO : OmOK b om) (R : StR om h id A mc cap tv sg) {i : Nat} (hi : i < ln sg 3) : (hcl (cx b gi s c im h) (A 43 i)).2.2 0 = .int (sg 58 i 0) := (re3_all hO R hi).2 0 (by omega)
theorem re3_1 (hO : OmOK b om) (R : StR om h id A mc cap tv sg) {i : Nat} (hi : i < ln sg 3) : (hcl (cx b gi s c im h) (A 43 i)).2.2 1 = .int (sg 58 i 1) := (re3_all hO R hi).2 1 (by omega)
theorem re3_2 (hO : OmOK b om) (R : StR om h id A mc cap tv sg) {i : Nat} (hi : i < ln sg 3) : (hcl (cx b gi s c im h) (A 43 i)).2.2 2 = .int (sg 58 i 2) := (re3_all hO R hi).2 2 (by omega)
theorem rl4_all (hO : OmOK b om) (R : StR om h id A mc cap tv sg) : (hcl (cx b gi s c im h) (A 7 0)).1 = 3 ∧ (hcl (cx b gi s c im h) (A 7 0)).2.2 1 = .ref (A 17 0) ∧ (hcl (cx b gi s c im h) (A 7 0)).2.2 2 = .int (sg 32 0 0) ∧ (hcl (cx b gi s c im h) (A 7 0)).2.2 0 = .int (mc 4) := by
  have r := R.2.2.2.1 4 (by omega)
  rw [r.1.cx hO oc_n2]
  exact ⟨r.1.2.2, r.2.2.1, r.2.2.2, r.2.1⟩
theorem rl4_t (hO : OmOK b om) (R : StR om h id A mc cap tv sg) : (hcl (cx b gi s c im h) (A 7 0)).1 = 3 := (rl4_all hO R).1
theorem rl4_1 (hO : OmOK b om) (R : StR om h id A mc cap tv sg) : (hcl (cx b gi s c im h) (A 7 0)).2.2 1 = .ref (A 17 0) := (rl4_all hO R).2.1
theorem rl4_2 (hO : OmOK b om) (R : StR om h id A mc cap tv sg) : (hcl (cx b gi s c im h) (A 7 0)).2.2 2 = .int (sg 32 0 0) := (rl4_all hO R).2.2.1
theorem rd4_all (hO : OmOK b om) (R : StR om h id A mc cap tv sg) : (hcl (cx b gi s c im h) (A 17 0)).1 = 103 ∧ (hcl (cx b gi s c im h) (A 17 0)).2.1 = cap 4 ∧ ln sg 4 ≤ cap 4 ∧ cap 4 < 100000 ∧ ∀ i, i < ln sg 4 → (hcl (cx b gi s c im h) (A 17 0)).2.2 i = .ref (A 44 i) := by
  have r := R.2.2.2.2.1 4 (by omega)
  rw [r.1.cx hO oc_n2]
  exact ⟨r.1.2.2, r.2.1, r.2.2.1, r.2.2.2.2.1, r.2.2.2.2.2⟩
theorem c_size4 (hO : OmOK b om) (R : StR om h id A mc cap tv sg) : ev d 175 0 [some (.ref (A 7 0))] [] (cx b gi s c im h) = some (.returned (some (.int (sg 32 0 0))), (cx b gi s c im h)) := by
  obtain ⟨h1, h2, h3, -⟩ := rl4_all (b := b) (gi := gi) (s := s) (c := c) (im := im) hO R
  simp (disch := first | omega | (simp only [seval]; done) | (simp only [seval]; omega)) only [e175_0, e175_0b, e175_1, e175_4, kre_some, kre_none, kxo_thr, bnd_ite, ↓reduceIte, List.length_cons, List.length_nil, List.mem_cons, List.not_mem_nil, or_false, or_true, false_or, true_or, true_and, and_true, and_self, false_and, and_false, not_true_eq_false, not_false_eq_true, eq_self, ne_eq, if_true, if_false, bi_eq0, bi_eq1, bi_F, bi_T, ft_byte, ni_lt, ni_le, ni_neg, ni_pos, ni_inj, ni_nat, ni_add, ni_mul, ni_addc, ni_cadd, ni_cmul, ni_ltc, ni_lec, ni_clt, ni_cle, ni_eqc, ni_ceq, on_ni, ni_m1, nlt_t, nlt_f, nle_t, nle_f, neq_f, nw_int, nw_b0, nw_b1, nw_bi, nw_obj, nw_objn, nw_arr, nw_arrn, ft_int, ft_b0, ft_b1, ft_bi, ft_char, ft_obj, ft_objn, ft_arr, ft_arrn, ct_int, ct_ref, ct_null, lc_none, lc_int, lc_ref, lc_null, lc_long, sm_val, vi_int, seval, hset_tag, hset_len, hset_at, hnew_tag, hnew_len, hnew_at, hsz_set, hsz_new, h1, h3]
theorem c_get4 (hO : OmOK b om) (R : StR om h id A mc cap tv sg) {i n : Nat} (hn : sg 32 0 0 = ni n) (hi : i < n) (hn2 : n < 100000) : ev d 176 0 [some (.ref (A 7 0)), some (.int (ni i))] [] (cx b gi s c im h) = some (.returned (some (.ref (A 44 i))), (cx b gi s c im h)) := by
  obtain ⟨h1, h2, h3, -⟩ := rl4_all (b := b) (gi := gi) (s := s) (c := c) (im := im) hO R
  obtain ⟨g1, g2, g3, g4, g5⟩ := rd4_all (b := b) (gi := gi) (s := s) (c := c) (im := im) hO R
  have e : ln sg 4 = n := by
    show (sg 32 0 0).toNatClampNeg = n
    rw [hn, ni_nat (by omega)]
  rw [e] at g3 g5
  exact k_get h1 h2 (by rw [h3, hn]) g1 g2 g3 hi (by omega) (g5 i hi)
theorem re4_all (hO : OmOK b om) (R : StR om h id A mc cap tv sg) {i : Nat} (hi : i < ln sg 4) : (hcl (cx b gi s c im h) (A 44 i)).1 = 27 ∧ ∀ k, k < 2 → (hcl (cx b gi s c im h) (A 44 i)).2.2 k = eV A tv sg 4 i k := by
  have r := R.2.2.2.2.2.1 4 (by omega) i hi
  rw [r.1.cx hO (show ecd id 4 i ≠ 2 from (show (0 : Nat) ≠ 2 by decide))]
  exact ⟨r.1.2.2, r.2⟩
theorem re4_t (hO : OmOK b om) (R : StR om h id A mc cap tv sg) {i : Nat} (hi : i < ln sg 4) : (hcl (cx b gi s c im h) (A 44 i)).1 = 27 := (re4_all hO R hi).1
theorem re4_0 (hO : OmOK b om) (R : StR om h id A mc cap tv sg) {i : Nat} (hi : i < ln sg 4) : (hcl (cx b gi s c im h) (A 44 i)).2.2 0 = .int (sg 57 i 0) := (re4_all hO R hi).2 0 (by omega)
theorem re4_1 (hO : OmOK b om) (R : StR om h id A mc cap tv sg) {i : Nat} (hi : i < ln sg 4) : (hcl (cx b gi s c im h) (A 44 i)).2.2 1 = .int (sg 57 i 1) := (re4_all hO R hi).2 1 (by omega)
theorem rl5_all (hO : OmOK b om) (R : StR om h id A mc cap tv sg) : (hcl (cx b gi s c im h) (A 8 0)).1 = 3 ∧ (hcl (cx b gi s c im h) (A 8 0)).2.2 1 = .ref (A 18 0) ∧ (hcl (cx b gi s c im h) (A 8 0)).2.2 2 = .int (sg 40 0 0) ∧ (hcl (cx b gi s c im h) (A 8 0)).2.2 0 = .int (mc 5) := by
  have r := R.2.2.2.1 5 (by omega)
  rw [r.1.cx hO oc_n2]
  exact ⟨r.1.2.2, r.2.2.1, r.2.2.2, r.2.1⟩
theorem rl5_t (hO : OmOK b om) (R : StR om h id A mc cap tv sg) : (hcl (cx b gi s c im h) (A 8 0)).1 = 3 := (rl5_all hO R).1
theorem rl5_1 (hO : OmOK b om) (R : StR om h id A mc cap tv sg) : (hcl (cx b gi s c im h) (A 8 0)).2.2 1 = .ref (A 18 0) := (rl5_all hO R).2.1
theorem rl5_2 (hO : OmOK b om) (R : StR om h id A mc cap tv sg) : (hcl (cx b gi s c im h) (A 8 0)).2.2 2 = .int (sg 40 0 0) := (rl5_all hO R).2.2.1
theorem rd5_all (hO : OmOK b om) (R : StR om h id A mc cap tv sg) : (hcl (cx b gi s c im h) (A 18 0)).1 = 103 ∧ (hcl (cx b gi s c im h) (A 18 0)).2.1 = cap 5 ∧ ln sg 5 ≤ cap 5 ∧ cap 5 < 100000 ∧ ∀ i, i < ln sg 5 → (hcl (cx b gi s c im h) (A 18 0)).2.2 i = .ref (A 45 i) := by
  have r := R.2.2.2.2.1 5 (by omega)
  rw [r.1.cx hO oc_n2]
  exact ⟨r.1.2.2, r.2.1, r.2.2.1, r.2.2.2.2.1, r.2.2.2.2.2⟩
theorem c_size5 (hO : OmOK b om) (R : StR om h id A mc cap tv sg) : ev d 175 0 [some (.ref (A 8 0))] [] (cx b gi s c im h) = some (.returned (some (.int (sg 40 0 0))), (cx b gi s c im h)) := by
  obtain ⟨h1, h2, h3, -⟩ := rl5_all (b := b) (gi := gi) (s := s) (c := c) (im := im) hO R
  simp (disch := first | omega | (simp only [seval]; done) | (simp only [seval]; omega)) only [e175_0, e175_0b, e175_1, e175_4, kre_some, kre_none, kxo_thr, bnd_ite, ↓reduceIte, List.length_cons, List.length_nil, List.mem_cons, List.not_mem_nil, or_false, or_true, false_or, true_or, true_and, and_true, and_self, false_and, and_false, not_true_eq_false, not_false_eq_true, eq_self, ne_eq, if_true, if_false, bi_eq0, bi_eq1, bi_F, bi_T, ft_byte, ni_lt, ni_le, ni_neg, ni_pos, ni_inj, ni_nat, ni_add, ni_mul, ni_addc, ni_cadd, ni_cmul, ni_ltc, ni_lec, ni_clt, ni_cle, ni_eqc, ni_ceq, on_ni, ni_m1, nlt_t, nlt_f, nle_t, nle_f, neq_f, nw_int, nw_b0, nw_b1, nw_bi, nw_obj, nw_objn, nw_arr, nw_arrn, ft_int, ft_b0, ft_b1, ft_bi, ft_char, ft_obj, ft_objn, ft_arr, ft_arrn, ct_int, ct_ref, ct_null, lc_none, lc_int, lc_ref, lc_null, lc_long, sm_val, vi_int, seval, hset_tag, hset_len, hset_at, hnew_tag, hnew_len, hnew_at, hsz_set, hsz_new, h1, h3]
theorem c_get5 (hO : OmOK b om) (R : StR om h id A mc cap tv sg) {i n : Nat} (hn : sg 40 0 0 = ni n) (hi : i < n) (hn2 : n < 100000) : ev d 176 0 [some (.ref (A 8 0)), some (.int (ni i))] [] (cx b gi s c im h) = some (.returned (some (.ref (A 45 i))), (cx b gi s c im h)) := by
  obtain ⟨h1, h2, h3, -⟩ := rl5_all (b := b) (gi := gi) (s := s) (c := c) (im := im) hO R
  obtain ⟨g1, g2, g3, g4, g5⟩ := rd5_all (b := b) (gi := gi) (s := s) (c := c) (im := im) hO R
  have e : ln sg 5 = n := by
    show (sg 40 0 0).toNatClampNeg = n
    rw [hn, ni_nat (by omega)]
  rw [e] at g3 g5
  exact k_get h1 h2 (by rw [h3, hn]) g1 g2 g3 hi (by omega) (g5 i hi)
theorem re5_all (hO : OmOK b om) (R : StR om h id A mc cap tv sg) {i : Nat} (hi : i < ln sg 5) : (hcl (cx b gi s c im h) (A 45 i)).1 = 21 ∧ ∀ k, k < 3 → (hcl (cx b gi s c im h) (A 45 i)).2.2 k = eV A tv sg 5 i k := by
  have r := R.2.2.2.2.2.1 5 (by omega) i hi
  rw [r.1.cx hO (show ecd id 5 i ≠ 2 from (show (0 : Nat) ≠ 2 by decide))]
  exact ⟨r.1.2.2, r.2⟩
theorem re5_t (hO : OmOK b om) (R : StR om h id A mc cap tv sg) {i : Nat} (hi : i < ln sg 5) : (hcl (cx b gi s c im h) (A 45 i)).1 = 21 := (re5_all hO R hi).1
theorem re5_0 (hO : OmOK b om) (R : StR om h id A mc cap tv sg) {i : Nat} (hi : i < ln sg 5) : (hcl (cx b gi s c im h) (A 45 i)).2.2 0 = .int (sg 49 i 7) := (re5_all hO R hi).2 0 (by omega)
theorem re5_1 (hO : OmOK b om) (R : StR om h id A mc cap tv sg) {i : Nat} (hi : i < ln sg 5) : (hcl (cx b gi s c im h) (A 45 i)).2.2 1 = .int (sg 49 i 2) := (re5_all hO R hi).2 1 (by omega)
theorem re5_2 (hO : OmOK b om) (R : StR om h id A mc cap tv sg) {i : Nat} (hi : i < ln sg 5) : (hcl (cx b gi s c im h) (A 45 i)).2.2 2 = .int (sg 49 i 8) := (re5_all hO R hi).2 2 (by omega)
theorem rl6_all (hO : OmOK b om) (R : StR om h id A mc cap tv sg) : (hcl (cx b gi s c im h) (A 9 0)).1 = 3 ∧ (hcl (cx b gi s c im h) (A 9 0)).2.2 1 = .ref (A 19 0) ∧ (hcl (cx b gi s c im h) (A 9 0)).2.2 2 = .int (sg 38 0 0) ∧ (hcl (cx b gi s c im h) (A 9 0)).2.2 0 = .int (mc 6) := by
  have r := R.2.2.2.1 6 (by omega)
  rw [r.1.cx hO oc_n2]
  exact ⟨r.1.2.2, r.2.2.1, r.2.2.2, r.2.1⟩
theorem rl6_t (hO : OmOK b om) (R : StR om h id A mc cap tv sg) : (hcl (cx b gi s c im h) (A 9 0)).1 = 3 := (rl6_all hO R).1
theorem rl6_1 (hO : OmOK b om) (R : StR om h id A mc cap tv sg) : (hcl (cx b gi s c im h) (A 9 0)).2.2 1 = .ref (A 19 0) := (rl6_all hO R).2.1
theorem rl6_2 (hO : OmOK b om) (R : StR om h id A mc cap tv sg) : (hcl (cx b gi s c im h) (A 9 0)).2.2 2 = .int (sg 38 0 0) := (rl6_all hO R).2.2.1
theorem rd6_all (hO : OmOK b om) (R : StR om h id A mc cap tv sg) : (hcl (cx b gi s c im h) (A 19 0)).1 = 103 ∧ (hcl (cx b gi s c im h) (A 19 0)).2.1 = cap 6 ∧ ln sg 6 ≤ cap 6 ∧ cap 6 < 100000 ∧ ∀ i, i < ln sg 6 → (hcl (cx b gi s c im h) (A 19 0)).2.2 i = .ref (A 46 i) := by
  have r := R.2.2.2.2.1 6 (by omega)
  rw [r.1.cx hO oc_n2]
  exact ⟨r.1.2.2, r.2.1, r.2.2.1, r.2.2.2.2.1, r.2.2.2.2.2⟩
theorem c_size6 (hO : OmOK b om) (R : StR om h id A mc cap tv sg) : ev d 175 0 [some (.ref (A 9 0))] [] (cx b gi s c im h) = some (.returned (some (.int (sg 38 0 0))), (cx b gi s c im h)) := by
  obtain ⟨h1, h2, h3, -⟩ := rl6_all (b := b) (gi := gi) (s := s) (c := c) (im := im) hO R
  simp (disch := first | omega | (simp only [seval]; done) | (simp only [seval]; omega)) only [e175_0, e175_0b, e175_1, e175_4, kre_some, kre_none, kxo_thr, bnd_ite, ↓reduceIte, List.length_cons, List.length_nil, List.mem_cons, List.not_mem_nil, or_false, or_true, false_or, true_or, true_and, and_true, and_self, false_and, and_false, not_true_eq_false, not_false_eq_true, eq_self, ne_eq, if_true, if_false, bi_eq0, bi_eq1, bi_F, bi_T, ft_byte, ni_lt, ni_le, ni_neg, ni_pos, ni_inj, ni_nat, ni_add, ni_mul, ni_addc, ni_cadd, ni_cmul, ni_ltc, ni_lec, ni_clt, ni_cle, ni_eqc, ni_ceq, on_ni, ni_m1, nlt_t, nlt_f, nle_t, nle_f, neq_f, nw_int, nw_b0, nw_b1, nw_bi, nw_obj, nw_objn, nw_arr, nw_arrn, ft_int, ft_b0, ft_b1, ft_bi, ft_char, ft_obj, ft_objn, ft_arr, ft_arrn, ct_int, ct_ref, ct_null, lc_none, lc_int, lc_ref, lc_null, lc_long, sm_val, vi_int, seval, hset_tag, hset_len, hset_at, hnew_tag, hnew_len, hnew_at, hsz_set, hsz_new, h1, h3]
theorem c_get6 (hO : OmOK b om) (R : StR om h id A mc cap tv sg) {i n : Nat} (hn : sg 38 0 0 = ni n) (hi : i < n) (hn2 : n < 100000) : ev d 176 0 [some (.ref (A 9 0)), some (.int (ni i))] [] (cx b gi s c im h) = some (.returned (some (.ref (A 46 i))), (cx b gi s c im h)) := by
  obtain ⟨h1, h2, h3, -⟩ := rl6_all (b := b) (gi := gi) (s := s) (c := c) (im := im) hO R
  obtain ⟨g1, g2, g3, g4, g5⟩ := rd6_all (b := b) (gi := gi) (s := s) (c := c) (im := im) hO R
  have e : ln sg 6 = n := by
    show (sg 38 0 0).toNatClampNeg = n
    rw [hn, ni_nat (by omega)]
  rw [e] at g3 g5
  exact k_get h1 h2 (by rw [h3, hn]) g1 g2 g3 hi (by omega) (g5 i hi)
theorem re6_all (hO : OmOK b om) (R : StR om h id A mc cap tv sg) {i : Nat} (hi : i < ln sg 6) : (hcl (cx b gi s c im h) (A 46 i)).1 = 23 ∧ ∀ k, k < 6 → (hcl (cx b gi s c im h) (A 46 i)).2.2 k = eV A tv sg 6 i k := by
  have r := R.2.2.2.2.2.1 6 (by omega) i hi
  rw [r.1.cx hO (show ecd id 6 i ≠ 2 from oc_n2)]
  exact ⟨r.1.2.2, r.2⟩
theorem re6_t (hO : OmOK b om) (R : StR om h id A mc cap tv sg) {i : Nat} (hi : i < ln sg 6) : (hcl (cx b gi s c im h) (A 46 i)).1 = 23 := (re6_all hO R hi).1
theorem re6_0 (hO : OmOK b om) (R : StR om h id A mc cap tv sg) {i : Nat} (hi : i < ln sg 6) : (hcl (cx b gi s c im h) (A 46 i)).2.2 0 = .int (sg 51 0 i) := (re6_all hO R hi).2 0 (by omega)
theorem re6_1 (hO : OmOK b om) (R : StR om h id A mc cap tv sg) {i : Nat} (hi : i < ln sg 6) : (hcl (cx b gi s c im h) (A 46 i)).2.2 1 = .int (mkCnt sg i 1) := (re6_all hO R hi).2 1 (by omega)
theorem re6_2 (hO : OmOK b om) (R : StR om h id A mc cap tv sg) {i : Nat} (hi : i < ln sg 6) : (hcl (cx b gi s c im h) (A 46 i)).2.2 2 = .int (mkCnt sg i 2) := (re6_all hO R hi).2 2 (by omega)
theorem re6_3 (hO : OmOK b om) (R : StR om h id A mc cap tv sg) {i : Nat} (hi : i < ln sg 6) : (hcl (cx b gi s c im h) (A 46 i)).2.2 3 = .int (mkSum sg i) := (re6_all hO R hi).2 3 (by omega)
theorem re6_4 (hO : OmOK b om) (R : StR om h id A mc cap tv sg) {i : Nat} (hi : i < ln sg 6) : (hcl (cx b gi s c im h) (A 46 i)).2.2 4 = .int (mkExt sg i false) := (re6_all hO R hi).2 4 (by omega)
theorem re6_5 (hO : OmOK b om) (R : StR om h id A mc cap tv sg) {i : Nat} (hi : i < ln sg 6) : (hcl (cx b gi s c im h) (A 46 i)).2.2 5 = .int (mkExt sg i true) := (re6_all hO R hi).2 5 (by omega)
theorem rl7_all (hO : OmOK b om) (R : StR om h id A mc cap tv sg) : (hcl (cx b gi s c im h) (A 10 0)).1 = 3 ∧ (hcl (cx b gi s c im h) (A 10 0)).2.2 1 = .ref (A 20 0) ∧ (hcl (cx b gi s c im h) (A 10 0)).2.2 2 = .int (sg 39 0 0) ∧ (hcl (cx b gi s c im h) (A 10 0)).2.2 0 = .int (mc 7) := by
  have r := R.2.2.2.1 7 (by omega)
  rw [r.1.cx hO oc_n2]
  exact ⟨r.1.2.2, r.2.2.1, r.2.2.2, r.2.1⟩
theorem rl7_t (hO : OmOK b om) (R : StR om h id A mc cap tv sg) : (hcl (cx b gi s c im h) (A 10 0)).1 = 3 := (rl7_all hO R).1
theorem rl7_1 (hO : OmOK b om) (R : StR om h id A mc cap tv sg) : (hcl (cx b gi s c im h) (A 10 0)).2.2 1 = .ref (A 20 0) := (rl7_all hO R).2.1
theorem rl7_2 (hO : OmOK b om) (R : StR om h id A mc cap tv sg) : (hcl (cx b gi s c im h) (A 10 0)).2.2 2 = .int (sg 39 0 0) := (rl7_all hO R).2.2.1
theorem rd7_all (hO : OmOK b om) (R : StR om h id A mc cap tv sg) : (hcl (cx b gi s c im h) (A 20 0)).1 = 103 ∧ (hcl (cx b gi s c im h) (A 20 0)).2.1 = cap 7 ∧ ln sg 7 ≤ cap 7 ∧ cap 7 < 100000 ∧ ∀ i, i < ln sg 7 → (hcl (cx b gi s c im h) (A 20 0)).2.2 i = .ref (A 47 i) := by
  have r := R.2.2.2.2.1 7 (by omega)
  rw [r.1.cx hO oc_n2]
  exact ⟨r.1.2.2, r.2.1, r.2.2.1, r.2.2.2.2.1, r.2.2.2.2.2⟩
theorem c_size7 (hO : OmOK b om) (R : StR om h id A mc cap tv sg) : ev d 175 0 [some (.ref (A 10 0))] [] (cx b gi s c im h) = some (.returned (some (.int (sg 39 0 0))), (cx b gi s c im h)) := by
  obtain ⟨h1, h2, h3, -⟩ := rl7_all (b := b) (gi := gi) (s := s) (c := c) (im := im) hO R
  simp (disch := first | omega | (simp only [seval]; done) | (simp only [seval]; omega)) only [e175_0, e175_0b, e175_1, e175_4, kre_some, kre_none, kxo_thr, bnd_ite, ↓reduceIte, List.length_cons, List.length_nil, List.mem_cons, List.not_mem_nil, or_false, or_true, false_or, true_or, true_and, and_true, and_self, false_and, and_false, not_true_eq_false, not_false_eq_true, eq_self, ne_eq, if_true, if_false, bi_eq0, bi_eq1, bi_F, bi_T, ft_byte, ni_lt, ni_le, ni_neg, ni_pos, ni_inj, ni_nat, ni_add, ni_mul, ni_addc, ni_cadd, ni_cmul, ni_ltc, ni_lec, ni_clt, ni_cle, ni_eqc, ni_ceq, on_ni, ni_m1, nlt_t, nlt_f, nle_t, nle_f, neq_f, nw_int, nw_b0, nw_b1, nw_bi, nw_obj, nw_objn, nw_arr, nw_arrn, ft_int, ft_b0, ft_b1, ft_bi, ft_char, ft_obj, ft_objn, ft_arr, ft_arrn, ct_int, ct_ref, ct_null, lc_none, lc_int, lc_ref, lc_null, lc_long, sm_val, vi_int, seval, hset_tag, hset_len, hset_at, hnew_tag, hnew_len, hnew_at, hsz_set, hsz_new, h1, h3]
theorem c_get7 (hO : OmOK b om) (R : StR om h id A mc cap tv sg) {i n : Nat} (hn : sg 39 0 0 = ni n) (hi : i < n) (hn2 : n < 100000) : ev d 176 0 [some (.ref (A 10 0)), some (.int (ni i))] [] (cx b gi s c im h) = some (.returned (some (.ref (A 47 i))), (cx b gi s c im h)) := by
  obtain ⟨h1, h2, h3, -⟩ := rl7_all (b := b) (gi := gi) (s := s) (c := c) (im := im) hO R
  obtain ⟨g1, g2, g3, g4, g5⟩ := rd7_all (b := b) (gi := gi) (s := s) (c := c) (im := im) hO R
  have e : ln sg 7 = n := by
    show (sg 39 0 0).toNatClampNeg = n
    rw [hn, ni_nat (by omega)]
  rw [e] at g3 g5
  exact k_get h1 h2 (by rw [h3, hn]) g1 g2 g3 hi (by omega) (g5 i hi)
theorem re7_all (hO : OmOK b om) (R : StR om h id A mc cap tv sg) {i : Nat} (hi : i < ln sg 7) : (hcl (cx b gi s c im h) (A 47 i)).1 = 24 ∧ ∀ k, k < 4 → (hcl (cx b gi s c im h) (A 47 i)).2.2 k = eV A tv sg 7 i k := by
  have r := R.2.2.2.2.2.1 7 (by omega) i hi
  rw [r.1.cx hO (show ecd id 7 i ≠ 2 from (show (0 : Nat) ≠ 2 by decide))]
  exact ⟨r.1.2.2, r.2⟩
theorem re7_t (hO : OmOK b om) (R : StR om h id A mc cap tv sg) {i : Nat} (hi : i < ln sg 7) : (hcl (cx b gi s c im h) (A 47 i)).1 = 24 := (re7_all hO R hi).1
theorem re7_0 (hO : OmOK b om) (R : StR om h id A mc cap tv sg) {i : Nat} (hi : i < ln sg 7) : (hcl (cx b gi s c im h) (A 47 i)).2.2 0 = .int (sg 50 i 0) := (re7_all hO R hi).2 0 (by omega)
theorem re7_1 (hO : OmOK b om) (R : StR om h id A mc cap tv sg) {i : Nat} (hi : i < ln sg 7) : (hcl (cx b gi s c im h) (A 47 i)).2.2 1 = .int (sg 50 i 1) := (re7_all hO R hi).2 1 (by omega)
theorem re7_2 (hO : OmOK b om) (R : StR om h id A mc cap tv sg) {i : Nat} (hi : i < ln sg 7) : (hcl (cx b gi s c im h) (A 47 i)).2.2 2 = .int (sg 50 i 2) := (re7_all hO R hi).2 2 (by omega)
theorem re7_3 (hO : OmOK b om) (R : StR om h id A mc cap tv sg) {i : Nat} (hi : i < ln sg 7) : (hcl (cx b gi s c im h) (A 47 i)).2.2 3 = .int (bi (sg 50 i 3 = 0)) := (re7_all hO R hi).2 3 (by omega)
theorem rl8_all (hO : OmOK b om) (R : StR om h id A mc cap tv sg) : (hcl (cx b gi s c im h) (A 11 0)).1 = 3 ∧ (hcl (cx b gi s c im h) (A 11 0)).2.2 1 = .ref (A 21 0) ∧ (hcl (cx b gi s c im h) (A 11 0)).2.2 2 = .int (sg 42 0 0) ∧ (hcl (cx b gi s c im h) (A 11 0)).2.2 0 = .int (mc 8) := by
  have r := R.2.2.2.1 8 (by omega)
  rw [r.1.cx hO oc_n2]
  exact ⟨r.1.2.2, r.2.2.1, r.2.2.2, r.2.1⟩
theorem rl8_t (hO : OmOK b om) (R : StR om h id A mc cap tv sg) : (hcl (cx b gi s c im h) (A 11 0)).1 = 3 := (rl8_all hO R).1
theorem rl8_1 (hO : OmOK b om) (R : StR om h id A mc cap tv sg) : (hcl (cx b gi s c im h) (A 11 0)).2.2 1 = .ref (A 21 0) := (rl8_all hO R).2.1
theorem rl8_2 (hO : OmOK b om) (R : StR om h id A mc cap tv sg) : (hcl (cx b gi s c im h) (A 11 0)).2.2 2 = .int (sg 42 0 0) := (rl8_all hO R).2.2.1
theorem rd8_all (hO : OmOK b om) (R : StR om h id A mc cap tv sg) : (hcl (cx b gi s c im h) (A 21 0)).1 = 103 ∧ (hcl (cx b gi s c im h) (A 21 0)).2.1 = cap 8 ∧ ln sg 8 ≤ cap 8 ∧ cap 8 < 100000 ∧ ∀ i, i < ln sg 8 → (hcl (cx b gi s c im h) (A 21 0)).2.2 i = .ref (A 48 i) := by
  have r := R.2.2.2.2.1 8 (by omega)
  rw [r.1.cx hO oc_n2]
  exact ⟨r.1.2.2, r.2.1, r.2.2.1, r.2.2.2.2.1, r.2.2.2.2.2⟩
theorem c_size8 (hO : OmOK b om) (R : StR om h id A mc cap tv sg) : ev d 175 0 [some (.ref (A 11 0))] [] (cx b gi s c im h) = some (.returned (some (.int (sg 42 0 0))), (cx b gi s c im h)) := by
  obtain ⟨h1, h2, h3, -⟩ := rl8_all (b := b) (gi := gi) (s := s) (c := c) (im := im) hO R
  simp (disch := first | omega | (simp only [seval]; done) | (simp only [seval]; omega)) only [e175_0, e175_0b, e175_1, e175_4, kre_some, kre_none, kxo_thr, bnd_ite, ↓reduceIte, List.length_cons, List.length_nil, List.mem_cons, List.not_mem_nil, or_false, or_true, false_or, true_or, true_and, and_true, and_self, false_and, and_false, not_true_eq_false, not_false_eq_true, eq_self, ne_eq, if_true, if_false, bi_eq0, bi_eq1, bi_F, bi_T, ft_byte, ni_lt, ni_le, ni_neg, ni_pos, ni_inj, ni_nat, ni_add, ni_mul, ni_addc, ni_cadd, ni_cmul, ni_ltc, ni_lec, ni_clt, ni_cle, ni_eqc, ni_ceq, on_ni, ni_m1, nlt_t, nlt_f, nle_t, nle_f, neq_f, nw_int, nw_b0, nw_b1, nw_bi, nw_obj, nw_objn, nw_arr, nw_arrn, ft_int, ft_b0, ft_b1, ft_bi, ft_char, ft_obj, ft_objn, ft_arr, ft_arrn, ct_int, ct_ref, ct_null, lc_none, lc_int, lc_ref, lc_null, lc_long, sm_val, vi_int, seval, hset_tag, hset_len, hset_at, hnew_tag, hnew_len, hnew_at, hsz_set, hsz_new, h1, h3]
theorem c_get8 (hO : OmOK b om) (R : StR om h id A mc cap tv sg) {i n : Nat} (hn : sg 42 0 0 = ni n) (hi : i < n) (hn2 : n < 100000) : ev d 176 0 [some (.ref (A 11 0)), some (.int (ni i))] [] (cx b gi s c im h) = some (.returned (some (.ref (A 48 i))), (cx b gi s c im h)) := by
  obtain ⟨h1, h2, h3, -⟩ := rl8_all (b := b) (gi := gi) (s := s) (c := c) (im := im) hO R
  obtain ⟨g1, g2, g3, g4, g5⟩ := rd8_all (b := b) (gi := gi) (s := s) (c := c) (im := im) hO R
  have e : ln sg 8 = n := by
    show (sg 42 0 0).toNatClampNeg = n
    rw [hn, ni_nat (by omega)]
  rw [e] at g3 g5
  exact k_get h1 h2 (by rw [h3, hn]) g1 g2 g3 hi (by omega) (g5 i hi)
theorem re8_all (hO : OmOK b om) (R : StR om h id A mc cap tv sg) {i : Nat} (hi : i < ln sg 8) : (hcl (cx b gi s c im h) (A 48 i)).1 = 25 ∧ ∀ k, k < 3 → (hcl (cx b gi s c im h) (A 48 i)).2.2 k = eV A tv sg 8 i k := by
  have r := R.2.2.2.2.2.1 8 (by omega) i hi
  rw [r.1.cx hO (show ecd id 8 i ≠ 2 from (show (0 : Nat) ≠ 2 by decide))]
  exact ⟨r.1.2.2, r.2⟩
theorem re8_t (hO : OmOK b om) (R : StR om h id A mc cap tv sg) {i : Nat} (hi : i < ln sg 8) : (hcl (cx b gi s c im h) (A 48 i)).1 = 25 := (re8_all hO R hi).1
theorem re8_0 (hO : OmOK b om) (R : StR om h id A mc cap tv sg) {i : Nat} (hi : i < ln sg 8) : (hcl (cx b gi s c im h) (A 48 i)).2.2 0 = .int (sg 53 i 0) := (re8_all hO R hi).2 0 (by omega)
theorem re8_1 (hO : OmOK b om) (R : StR om h id A mc cap tv sg) {i : Nat} (hi : i < ln sg 8) : (hcl (cx b gi s c im h) (A 48 i)).2.2 1 = .int (sg 53 i 1) := (re8_all hO R hi).2 1 (by omega)
theorem re8_2 (hO : OmOK b om) (R : StR om h id A mc cap tv sg) {i : Nat} (hi : i < ln sg 8) : (hcl (cx b gi s c im h) (A 48 i)).2.2 2 = .int (sg 53 i 2) := (re8_all hO R hi).2 2 (by omega)
theorem rl9_all (hO : OmOK b om) (R : StR om h id A mc cap tv sg) : (hcl (cx b gi s c im h) (A 12 0)).1 = 3 ∧ (hcl (cx b gi s c im h) (A 12 0)).2.2 1 = .ref (A 22 0) ∧ (hcl (cx b gi s c im h) (A 12 0)).2.2 2 = .int (sg 44 0 0) ∧ (hcl (cx b gi s c im h) (A 12 0)).2.2 0 = .int (mc 9) := by
  have r := R.2.2.2.1 9 (by omega)
  rw [r.1.cx hO oc_n2]
  exact ⟨r.1.2.2, r.2.2.1, r.2.2.2, r.2.1⟩
theorem rl9_t (hO : OmOK b om) (R : StR om h id A mc cap tv sg) : (hcl (cx b gi s c im h) (A 12 0)).1 = 3 := (rl9_all hO R).1
theorem rl9_1 (hO : OmOK b om) (R : StR om h id A mc cap tv sg) : (hcl (cx b gi s c im h) (A 12 0)).2.2 1 = .ref (A 22 0) := (rl9_all hO R).2.1
theorem rl9_2 (hO : OmOK b om) (R : StR om h id A mc cap tv sg) : (hcl (cx b gi s c im h) (A 12 0)).2.2 2 = .int (sg 44 0 0) := (rl9_all hO R).2.2.1
theorem rd9_all (hO : OmOK b om) (R : StR om h id A mc cap tv sg) : (hcl (cx b gi s c im h) (A 22 0)).1 = 103 ∧ (hcl (cx b gi s c im h) (A 22 0)).2.1 = cap 9 ∧ ln sg 9 ≤ cap 9 ∧ cap 9 < 100000 ∧ ∀ i, i < ln sg 9 → (hcl (cx b gi s c im h) (A 22 0)).2.2 i = .ref (A 49 i) := by
  have r := R.2.2.2.2.1 9 (by omega)
  rw [r.1.cx hO oc_n2]
  exact ⟨r.1.2.2, r.2.1, r.2.2.1, r.2.2.2.2.1, r.2.2.2.2.2⟩
theorem c_size9 (hO : OmOK b om) (R : StR om h id A mc cap tv sg) : ev d 175 0 [some (.ref (A 12 0))] [] (cx b gi s c im h) = some (.returned (some (.int (sg 44 0 0))), (cx b gi s c im h)) := by
  obtain ⟨h1, h2, h3, -⟩ := rl9_all (b := b) (gi := gi) (s := s) (c := c) (im := im) hO R
  simp (disch := first | omega | (simp only [seval]; done) | (simp only [seval]; omega)) only [e175_0, e175_0b, e175_1, e175_4, kre_some, kre_none, kxo_thr, bnd_ite, ↓reduceIte, List.length_cons, List.length_nil, List.mem_cons, List.not_mem_nil, or_false, or_true, false_or, true_or, true_and, and_true, and_self, false_and, and_false, not_true_eq_false, not_false_eq_true, eq_self, ne_eq, if_true, if_false, bi_eq0, bi_eq1, bi_F, bi_T, ft_byte, ni_lt, ni_le, ni_neg, ni_pos, ni_inj, ni_nat, ni_add, ni_mul, ni_addc, ni_cadd, ni_cmul, ni_ltc, ni_lec, ni_clt, ni_cle, ni_eqc, ni_ceq, on_ni, ni_m1, nlt_t, nlt_f, nle_t, nle_f, neq_f, nw_int, nw_b0, nw_b1, nw_bi, nw_obj, nw_objn, nw_arr, nw_arrn, ft_int, ft_b0, ft_b1, ft_bi, ft_char, ft_obj, ft_objn, ft_arr, ft_arrn, ct_int, ct_ref, ct_null, lc_none, lc_int, lc_ref, lc_null, lc_long, sm_val, vi_int, seval, hset_tag, hset_len, hset_at, hnew_tag, hnew_len, hnew_at, hsz_set, hsz_new, h1, h3]
theorem c_get9 (hO : OmOK b om) (R : StR om h id A mc cap tv sg) {i n : Nat} (hn : sg 44 0 0 = ni n) (hi : i < n) (hn2 : n < 100000) : ev d 176 0 [some (.ref (A 12 0)), some (.int (ni i))] [] (cx b gi s c im h) = some (.returned (some (.ref (A 49 i))), (cx b gi s c im h)) := by
  obtain ⟨h1, h2, h3, -⟩ := rl9_all (b := b) (gi := gi) (s := s) (c := c) (im := im) hO R
  obtain ⟨g1, g2, g3, g4, g5⟩ := rd9_all (b := b) (gi := gi) (s := s) (c := c) (im := im) hO R
  have e : ln sg 9 = n := by
    show (sg 44 0 0).toNatClampNeg = n
    rw [hn, ni_nat (by omega)]
  rw [e] at g3 g5
  exact k_get h1 h2 (by rw [h3, hn]) g1 g2 g3 hi (by omega) (g5 i hi)
theorem re9_all (hO : OmOK b om) (R : StR om h id A mc cap tv sg) {i : Nat} (hi : i < ln sg 9) : (hcl (cx b gi s c im h) (A 49 i)).1 = 26 ∧ ∀ k, k < 2 → (hcl (cx b gi s c im h) (A 49 i)).2.2 k = eV A tv sg 9 i k := by
  have r := R.2.2.2.2.2.1 9 (by omega) i hi
  rw [r.1.cx hO (show ecd id 9 i ≠ 2 from (show (0 : Nat) ≠ 2 by decide))]
  exact ⟨r.1.2.2, r.2⟩
theorem re9_t (hO : OmOK b om) (R : StR om h id A mc cap tv sg) {i : Nat} (hi : i < ln sg 9) : (hcl (cx b gi s c im h) (A 49 i)).1 = 26 := (re9_all hO R hi).1
theorem re9_0 (hO : OmOK b om) (R : StR om h id A mc cap tv sg) {i : Nat} (hi : i < ln sg 9) : (hcl (cx b gi s c im h) (A 49 i)).2.2 0 = .int (sg 54 i 0) := (re9_all hO R hi).2 0 (by omega)
theorem re9_1 (hO : OmOK b om) (R : StR om h id A mc cap tv sg) {i : Nat} (hi : i < ln sg 9) : (hcl (cx b gi s c im h) (A 49 i)).2.2 1 = .int (sg 54 i 1) := (re9_all hO R hi).2 1 (by omega)
theorem rw_all (hO : OmOK b om) (R : StR om h id A mc cap tv sg) {p : Nat} (hp : p < ln sg 0) : (hcl (cx b gi s c im h) (A 50 p)).1 = 100 ∧ (hcl (cx b gi s c im h) (A 50 p)).2.1 = 4 ∧ ∀ t, t < 4 → (hcl (cx b gi s c im h) (A 50 p)).2.2 t = .int (sg 45 p (3 + t)) := by
  have r := R.2.2.2.2.2.2.1 p hp
  rw [r.1.cx hO (show (0 : Nat) ≠ 2 by decide)]
  exact ⟨r.1.2.2, r.2.1, r.2.2⟩
theorem rw_t (hO : OmOK b om) (R : StR om h id A mc cap tv sg) {p : Nat} (hp : p < ln sg 0) : (hcl (cx b gi s c im h) (A 50 p)).1 = 100 := (rw_all hO R hp).1
theorem rw_n (hO : OmOK b om) (R : StR om h id A mc cap tv sg) {p : Nat} (hp : p < ln sg 0) : (hcl (cx b gi s c im h) (A 50 p)).2.1 = 4 := (rw_all hO R hp).2.1
theorem rw_v (hO : OmOK b om) (R : StR om h id A mc cap tv sg) {p : Nat} (hp : p < ln sg 0) {t : Nat} (ht : t < 4) : (hcl (cx b gi s c im h) (A 50 p)).2.2 t = .int (sg 45 p (3 + t)) := (rw_all hO R hp).2.2 t ht
theorem rp_all (hO : OmOK b om) (R : StR om h id A mc cap tv sg) {p : Nat} (hp : p < ln sg 1) : (hcl (cx b gi s c im h) (A 24 p)).1 = 104 ∧ (hcl (cx b gi s c im h) (A 24 p)).2.1 = 4 ∧ ∀ k, k < 4 → (sg 47 0 (4 * p + k) = -1 ∧ (hcl (cx b gi s c im h) (A 24 p)).2.2 k = .null) ∨ ∃ f, f < ln sg 5 ∧ sg 47 0 (4 * p + k) = ni f ∧ (hcl (cx b gi s c im h) (A 24 p)).2.2 k = .ref (A 51 f) := by
  have r := R.2.2.2.2.2.2.2.1 p hp
  rw [r.1.cx hO oc_n2]
  exact ⟨r.1.2.2, r.2.1, r.2.2⟩
theorem rp_t (hO : OmOK b om) (R : StR om h id A mc cap tv sg) {p : Nat} (hp : p < ln sg 1) : (hcl (cx b gi s c im h) (A 24 p)).1 = 104 := (rp_all hO R hp).1
theorem rp_n (hO : OmOK b om) (R : StR om h id A mc cap tv sg) {p : Nat} (hp : p < ln sg 1) : (hcl (cx b gi s c im h) (A 24 p)).2.1 = 4 := (rp_all hO R hp).2.1
theorem rt_all (hO : OmOK b om) (R : StR om h id A mc cap tv sg) {p : Nat} (hp : p < ln sg 1) : (hcl (cx b gi s c im h) (A 25 p)).1 = 100 ∧ (hcl (cx b gi s c im h) (A 25 p)).2.1 = 55 ∧ ∀ y, y < 55 → (hcl (cx b gi s c im h) (A 25 p)).2.2 y = .int (sg 55 p y) := by
  have r := R.2.2.2.2.2.2.2.2.1 p hp
  rw [r.1.cx hO oc_n2]
  exact ⟨r.1.2.2, r.2.1, r.2.2⟩
theorem rt_t (hO : OmOK b om) (R : StR om h id A mc cap tv sg) {p : Nat} (hp : p < ln sg 1) : (hcl (cx b gi s c im h) (A 25 p)).1 = 100 := (rt_all hO R hp).1
theorem rt_n (hO : OmOK b om) (R : StR om h id A mc cap tv sg) {p : Nat} (hp : p < ln sg 1) : (hcl (cx b gi s c im h) (A 25 p)).2.1 = 55 := (rt_all hO R hp).2.1
theorem rt_v (hO : OmOK b om) (R : StR om h id A mc cap tv sg) {p : Nat} (hp : p < ln sg 1) {y : Nat} (hy : y < 55) : (hcl (cx b gi s c im h) (A 25 p)).2.2 y = .int (sg 55 p y) := (rt_all hO R hp).2.2 y hy
theorem rf_all (hO : OmOK b om) (R : StR om h id A mc cap tv sg) {p : Nat} (hp : p < ln sg 1) : (hcl (cx b gi s c im h) (A 26 p)).1 = 100 ∧ (hcl (cx b gi s c im h) (A 26 p)).2.1 = 220 ∧ ∀ k y, k < 4 → y < 55 → (hcl (cx b gi s c im h) (A 26 p)).2.2 (55 * k + y) = .int (fitCnt sg p k y) := by
  have r := R.2.2.2.2.2.2.2.2.2.1 p hp
  rw [r.1.cx hO oc_n2]
  exact ⟨r.1.2.2, r.2.1, r.2.2⟩
theorem rf_t (hO : OmOK b om) (R : StR om h id A mc cap tv sg) {p : Nat} (hp : p < ln sg 1) : (hcl (cx b gi s c im h) (A 26 p)).1 = 100 := (rf_all hO R hp).1
theorem rf_n (hO : OmOK b om) (R : StR om h id A mc cap tv sg) {p : Nat} (hp : p < ln sg 1) : (hcl (cx b gi s c im h) (A 26 p)).2.1 = 220 := (rf_all hO R hp).2.1
theorem rf_v (hO : OmOK b om) (R : StR om h id A mc cap tv sg) {p : Nat} (hp : p < ln sg 1) {k y : Nat} (hk : k < 4) (hy : y < 55) : (hcl (cx b gi s c im h) (A 26 p)).2.2 (55 * k + y) = .int (fitCnt sg p k y) := (rf_all hO R hp).2.2 k y hk hy
theorem rg_all (hO : OmOK b om) (R : StR om h id A mc cap tv sg) {p : Nat} (hp : p < ln sg 1) : (hcl (cx b gi s c im h) (A 27 p)).1 = 100 ∧ (hcl (cx b gi s c im h) (A 27 p)).2.1 = 4 ∧ ∀ k, k < 4 → (hcl (cx b gi s c im h) (A 27 p)).2.2 k = .int (sg 48 0 (4 * p + k)) := by
  have r := R.2.2.2.2.2.2.2.2.2.2.1 p hp
  rw [r.1.cx hO oc_n2]
  exact ⟨r.1.2.2, r.2.1, r.2.2⟩
theorem rg_t (hO : OmOK b om) (R : StR om h id A mc cap tv sg) {p : Nat} (hp : p < ln sg 1) : (hcl (cx b gi s c im h) (A 27 p)).1 = 100 := (rg_all hO R hp).1
theorem rg_n (hO : OmOK b om) (R : StR om h id A mc cap tv sg) {p : Nat} (hp : p < ln sg 1) : (hcl (cx b gi s c im h) (A 27 p)).2.1 = 4 := (rg_all hO R hp).2.1
theorem rg_v (hO : OmOK b om) (R : StR om h id A mc cap tv sg) {p : Nat} (hp : p < ln sg 1) {k : Nat} (hk : k < 4) : (hcl (cx b gi s c im h) (A 27 p)).2.2 k = .int (sg 48 0 (4 * p + k)) := (rg_all hO R hp).2.2 k hk
theorem rq_all (hO : OmOK b om) (R : StR om h id A mc cap tv sg) {p : Nat} (hp : p < ln sg 5) : (hcl (cx b gi s c im h) (A 51 p)).1 = 20 ∧ (∀ k, k < 5 → (hcl (cx b gi s c im h) (A 51 p)).2.2 k = .int (sg 49 p k)) ∧ (hcl (cx b gi s c im h) (A 51 p)).2.2 5 = .int (ni p) := by
  have r := R.2.2.2.2.2.2.2.2.2.2.2.1 p hp
  rw [r.1.cx hO (show (0 : Nat) ≠ 2 by decide)]
  exact ⟨r.1.2.2, r.2⟩
theorem rq_t (hO : OmOK b om) (R : StR om h id A mc cap tv sg) {p : Nat} (hp : p < ln sg 5) : (hcl (cx b gi s c im h) (A 51 p)).1 = 20 := (rq_all hO R hp).1
theorem rq_0 (hO : OmOK b om) (R : StR om h id A mc cap tv sg) {p : Nat} (hp : p < ln sg 5) : (hcl (cx b gi s c im h) (A 51 p)).2.2 0 = .int (sg 49 p 0) := (rq_all hO R hp).2.1 0 (by omega)
theorem rq_1 (hO : OmOK b om) (R : StR om h id A mc cap tv sg) {p : Nat} (hp : p < ln sg 5) : (hcl (cx b gi s c im h) (A 51 p)).2.2 1 = .int (sg 49 p 1) := (rq_all hO R hp).2.1 1 (by omega)
theorem rq_2 (hO : OmOK b om) (R : StR om h id A mc cap tv sg) {p : Nat} (hp : p < ln sg 5) : (hcl (cx b gi s c im h) (A 51 p)).2.2 2 = .int (sg 49 p 2) := (rq_all hO R hp).2.1 2 (by omega)
theorem rq_3 (hO : OmOK b om) (R : StR om h id A mc cap tv sg) {p : Nat} (hp : p < ln sg 5) : (hcl (cx b gi s c im h) (A 51 p)).2.2 3 = .int (sg 49 p 3) := (rq_all hO R hp).2.1 3 (by omega)
theorem rq_4 (hO : OmOK b om) (R : StR om h id A mc cap tv sg) {p : Nat} (hp : p < ln sg 5) : (hcl (cx b gi s c im h) (A 51 p)).2.2 4 = .int (sg 49 p 4) := (rq_all hO R hp).2.1 4 (by omega)
theorem rq_5 (hO : OmOK b om) (R : StR om h id A mc cap tv sg) {p : Nat} (hp : p < ln sg 5) : (hcl (cx b gi s c im h) (A 51 p)).2.2 5 = .int (ni p) := (rq_all hO R hp).2.2
end REP
