/-! WHAT A WALK TELLS, as plain functions of the clauses -/
set_option maxRecDepth 100000
set_option maxHeartbeats 400000
abbrev cHolds (ν : NV) (z : CLS) : Bool := z.2.2.2.2 ν
/-- what every clause is -/
def ClOK (z : CLS) : Prop := (z.1 = 0 ∧ z.2.1 < 12 ∧ ∃ e, e < 12 ∧ e ≠ z.2.1 ∧ z.2.2.1 = fun _ => ni e) ∨ ((z.1 = 1 ∨ z.1 = 4) ∧ z.2.1 < 4) ∨ ((z.1 = 2 ∨ z.1 = 6) ∧ z.2.1 = 0) ∨ (z.1 = 3 ∧ z.2.1 < 4) ∨ (z.1 = 5 ∧ z.2.1 < 12 ∧ ∃ e, e < 10000 ∧ z.2.2.2.1 < 10000 ∧ z.2.2.1 = fun _ => ni e)
/-- the last that is told, of kind k and number a -/
def spLast (ν : NV) (k a : Nat) (most : Int32) : List CLS → Int32 → Int32
  | [], x => x
  | z :: L, x => spLast ν k a most L (if cHolds ν z = true ∧ z.1 = k ∧ z.2.1 = a then wthn (z.2.2.1 ν) 0 most else x)
def spNeeds (ν : NV) : List CLS → Nat → Nat
  | [], x => x
  | z :: L, x => spNeeds ν L (if cHolds ν z = true ∧ z.1 = 3 then x ||| 2 ^ z.2.1 else x)
/-- models that are barred by m -/
def spBars (ν : NV) (m : Nat) : List CLS → Nat → Nat
  | [], x => x
  | z :: L, x => spBars ν m L (if cHolds ν z = true ∧ z.1 = 0 then (if (z.2.2.1 ν).toNatClampNeg = m then (if z.2.1 = m then x ||| 2 ^ (z.2.2.1 ν).toNatClampNeg else x) ||| 2 ^ z.2.1 else (if z.2.1 = m then x ||| 2 ^ (z.2.2.1 ν).toNatClampNeg else x)) else x)
/-- the first clause that bars two of some -/
def spFst (ν : NV) (am : Nat) : List CLS → Nat → Int32 → Int32
  | [], _, x => x
  | z :: L, n, x => spFst ν am L (n + 1) (if cHolds ν z = true ∧ z.1 = 0 ∧ x = -1 ∧ am.testBit z.2.1 = true ∧ am.testBit (z.2.2.1 ν).toNatClampNeg = true then ni n else x)
def spCalls (ν : NV) : List CLS → List (Int32 × Int32 × Int32)
  | [] => []
  | z :: L => if cHolds ν z = true ∧ z.1 = 5 then (ni z.2.1, z.2.2.1 ν, ni z.2.2.2.1) :: spCalls ν L else spCalls ν L
theorem tell_18 (k a : Nat) (v c : Int32) (g : TS) (j : Nat) : tell k a v c g 18 0 j = if k = 1 ∧ a = j then wthn v 0 100000 else g 18 0 j := by
  rcases k with _ | _ | _ | _ | _ | _ | k
  · show (if g 24 0 0 = -1 then _ else _ : TS) _ _ _ = _
    split
    · split <;> simp [twu]
    · simp [twu]
  · by_cases e : a = j
    · simp [tell, twu, e]
    · have e' : ¬ j = a := fun q => e q.symm
      simp [tell, twu, e, e']
  · simp [tell, twu]
  · simp [tell, twu]
  · simp [tell, twu]
  · simp [tell, twu]
  · simp [tell, twu]
theorem tell_19 (k a : Nat) (v c : Int32) (g : TS) (j : Nat) : tell k a v c g 19 0 j = if k = 4 ∧ a = j then wthn v 0 100000 else g 19 0 j := by
  rcases k with _ | _ | _ | _ | _ | _ | k
  · show (if g 24 0 0 = -1 then _ else _ : TS) _ _ _ = _
    split
    · split <;> simp [twu]
    · simp [twu]
  · simp [tell, twu]
  · simp [tell, twu]
  · simp [tell, twu]
  · by_cases e : a = j
    · simp [tell, twu, e]
    · have e' : ¬ j = a := fun q => e q.symm
      simp [tell, twu, e, e']
  · simp [tell, twu]
  · simp [tell, twu]
theorem tell_20 (k a : Nat) (v c : Int32) (g : TS) : tell k a v c g 20 0 0 = if k = 2 then wthn v 0 1000000 else g 20 0 0 := by
  rcases k with _ | _ | _ | _ | _ | _ | k
  · show (if g 24 0 0 = -1 then _ else _ : TS) _ _ _ = _
    split
    · split <;> simp [twu]
    · simp [twu]
  · simp [tell, twu]
  · simp [tell, twu]
  · simp [tell, twu]
  · simp [tell, twu]
  · simp [tell, twu]
  · simp [tell, twu]
theorem tell_21 (k a : Nat) (v c : Int32) (g : TS) : tell k a v c g 21 0 0 = if k = 3 then g 21 0 0 ||| ((1 : Int32) <<< (ni a &&& 31)) else g 21 0 0 := by
  rcases k with _ | _ | _ | _ | _ | _ | k
  · show (if g 24 0 0 = -1 then _ else _ : TS) _ _ _ = _
    split
    · split <;> simp [twu]
    · simp [twu]
  · simp [tell, twu]
  · simp [tell, twu]
  · simp [tell, twu]
  · simp [tell, twu]
  · simp [tell, twu]
  · simp [tell, twu]
theorem tell_22 (k a : Nat) (v c : Int32) (g : TS) (hk : k ≤ 6) : tell k a v c g 22 0 0 = if k = 6 then wthn v 0 100000 else g 22 0 0 := by
  rcases k with _ | _ | _ | _ | _ | _ | k
  · show (if g 24 0 0 = -1 then _ else _ : TS) _ _ _ = _
    split
    · split <;> simp [twu]
    · simp [twu]
  · simp [tell, twu]
  · simp [tell, twu]
  · simp [tell, twu]
  · simp [tell, twu]
  · simp [tell, twu]
  · have e : k = 0 := by omega
    subst e
    simp [tell, twu]
theorem tell_23 (k a : Nat) (v c : Int32) (g : TS) : tell k a v c g 23 0 0 = g 23 0 0 := by
  rcases k with _ | _ | _ | _ | _ | _ | k
  · show (if g 24 0 0 = -1 then _ else _ : TS) _ _ _ = _
    split
    · split <;> simp [twu]
    · simp [twu]
  · simp [tell, twu]
  · simp [tell, twu]
  · simp [tell, twu]
  · simp [tell, twu]
  · simp [tell, twu]
  · simp [tell, twu]
theorem tell_8 (k a : Nat) (v c : Int32) (g : TS) : tell k a v c g 8 0 0 = g 8 0 0 := by
  rcases k with _ | _ | _ | _ | _ | _ | k
  · show (if g 24 0 0 = -1 then _ else _ : TS) _ _ _ = _
    split
    · split <;> simp [twu]
    · simp [twu]
  · simp [tell, twu]
  · simp [tell, twu]
  · simp [tell, twu]
  · simp [tell, twu]
  · simp [tell, twu]
  · simp [tell, twu]
theorem tell_17 (k a : Nat) (v c : Int32) (g : TS) (m : Nat) : tell k a v c g 17 0 m = if k = 0 then (if v.toNatClampNeg = m then (if a = m then g 17 0 m ||| ((1 : Int32) <<< (v &&& 31)) else g 17 0 m) ||| ((1 : Int32) <<< (ni a &&& 31)) else (if a = m then g 17 0 m ||| ((1 : Int32) <<< (v &&& 31)) else g 17 0 m)) else g 17 0 m := by
  rcases k with _ | _ | _ | _ | _ | _ | k
  · have e : ∀ g2 : TS, (if g 24 0 0 = -1 then (if (g 23 0 0 >>> (ni a &&& 31)) &&& (g 23 0 0 >>> (v &&& 31)) &&& 1 = 1 then twu g2 24 0 0 (g 8 0 0) else g2) else g2) 17 0 m = g2 17 0 m := by
      intro g2
      split
      · split <;> simp [twu]
      · rfl
    refine (e _).trans ?_
    simp only [twu, true_and, if_true]
    by_cases c1 : m = v.toNatClampNeg
    · by_cases c2 : m = a
      · subst c2
        simp [← c1]
      · have c2' : ¬ a = m := fun q => c2 q.symm
        simp [← c1, c2, c2']
    · have c1' : ¬ v.toNatClampNeg = m := fun q => c1 q.symm
      by_cases c2 : m = a
      · subst c2
        simp [c1, c1']
      · have c2' : ¬ a = m := fun q => c2 q.symm
        simp [c1, c2, c1', c2']
  · simp [tell, twu]
  · simp [tell, twu]
  · simp [tell, twu]
  · simp [tell, twu]
  · simp [tell, twu]
  · simp [tell, twu]
theorem tell_24 (k a : Nat) (v c : Int32) (g : TS) : tell k a v c g 24 0 0 = if k = 0 ∧ g 24 0 0 = -1 ∧ (g 23 0 0 >>> (ni a &&& 31)) &&& (g 23 0 0 >>> (v &&& 31)) &&& 1 = 1 then g 8 0 0 else g 24 0 0 := by
  rcases k with _ | _ | _ | _ | _ | _ | k
  · show (if g 24 0 0 = -1 then _ else _ : TS) _ _ _ = _
    by_cases c1 : g 24 0 0 = -1
    · rw [if_pos c1]
      by_cases c2 : (g 23 0 0 >>> (ni a &&& 31)) &&& (g 23 0 0 >>> (v &&& 31)) &&& 1 = 1
      · simp [twu, c1, c2]
      · simp [twu, c1, c2]
    · simp [twu, c1]
  · simp [tell, twu]
  · simp [tell, twu]
  · simp [tell, twu]
  · simp [tell, twu]
  · simp [tell, twu]
  · simp [tell, twu]
theorem tell_25 (k a : Nat) (v c : Int32) (g : TS) : tell k a v c g 25 0 0 = if k = 5 then g 25 0 0 + 1 else g 25 0 0 := by
  rcases k with _ | _ | _ | _ | _ | _ | k
  · show (if g 24 0 0 = -1 then _ else _ : TS) _ _ _ = _
    split
    · split <;> simp [twu]
    · simp [twu]
  · simp [tell, twu]
  · simp [tell, twu]
  · simp [tell, twu]
  · simp [tell, twu]
  · simp [tell, twu]
  · simp [tell, twu]
theorem tell_26 (k a : Nat) (v c : Int32) (g : TS) (i j : Nat) (hj : j < 3) : tell k a v c g 26 i j = if k = 5 ∧ i = (g 25 0 0).toNatClampNeg then (if j = 0 then ni a else if j = 1 then v else c) else g 26 i j := by
  rcases k with _ | _ | _ | _ | _ | _ | k
  · show (if g 24 0 0 = -1 then _ else _ : TS) _ _ _ = _
    split
    · split <;> simp [twu]
    · simp [twu]
  · simp [tell, twu]
  · simp [tell, twu]
  · simp [tell, twu]
  · simp [tell, twu]
  · by_cases e : i = (g 25 0 0).toNatClampNeg
    · have hj' : j = 0 ∨ j = 1 ∨ j = 2 := by omega
      rcases hj' with rfl | rfl | rfl <;> simp [tell, twu, e]
    · simp [tell, twu, e]
  · simp [tell, twu]
