/-! WHAT A WALK TELLS: the reference's rows behind a walk -/
set_option maxRecDepth 100000
set_option maxHeartbeats 400000
theorem ClOK.le {z : CLS} (h : ClOK z) : z.1 ≤ 6 := by
  rcases h with ⟨h, -⟩ | ⟨h, -⟩ | ⟨h, -⟩ | ⟨h, -⟩ | ⟨h, -⟩ <;> omega
theorem telc_ne {ν : NV} {z : CLS} {g : TS} {q i j : Nat} (hq : q ≠ 8) : telc ν z g q i j = (if cHolds ν z = true then tell z.1 z.2.1 (z.2.2.1 ν) (ni z.2.2.2.1) g q i j else g q i j) := by
  unfold telc
  simp only [twu, hq, false_and, if_false]
  by_cases c : z.2.2.2.2 ν = true
  · rw [if_pos c, if_pos c]
  · rw [if_neg c, if_neg c]
theorem spLast_cons (ν : NV) (k a : Nat) (most : Int32) (z : CLS) (L : List CLS) (x : Int32) : spLast ν k a most (z :: L) x = spLast ν k a most L (if cHolds ν z = true ∧ z.1 = k ∧ z.2.1 = a then wthn (z.2.2.1 ν) 0 most else x) := rfl
theorem spFst_cons (ν : NV) (am : Nat) (z : CLS) (L : List CLS) (n : Nat) (x : Int32) : spFst ν am (z :: L) n x = spFst ν am L (n + 1) (if cHolds ν z = true ∧ z.1 = 0 ∧ x = -1 ∧ am.testBit z.2.1 = true ∧ am.testBit (z.2.2.1 ν).toNatClampNeg = true then ni n else x) := rfl
theorem wk_cons (ν : NV) (z : CLS) (L : List CLS) (g : TS) : wk ν (z :: L) g = wk ν L (telc ν z g) := rfl
theorem wk_18 (ν : NV) (j : Nat) : ∀ (L : List CLS) (g : TS), wk ν L g 18 0 j = spLast ν 1 j 100000 L (g 18 0 j)
  | [], g => rfl
  | z :: L, g => by
    rw [wk_cons, wk_18 ν j L, telc_ne (by omega), tell_18]
    rw [spLast_cons]
    congr 1
    by_cases c : cHolds ν z = true
    · simp [c]
    · simp [c]
theorem wk_19 (ν : NV) (j : Nat) : ∀ (L : List CLS) (g : TS), wk ν L g 19 0 j = spLast ν 4 j 100000 L (g 19 0 j)
  | [], g => rfl
  | z :: L, g => by
    rw [wk_cons, wk_19 ν j L, telc_ne (by omega), tell_19]
    rw [spLast_cons]
    congr 1
    by_cases c : cHolds ν z = true
    · simp [c]
    · simp [c]
theorem cl0 {z : CLS} (h : ClOK z) (hk : z.1 = 2 ∨ z.1 = 6) : z.2.1 = 0 := by
  rcases h with ⟨h, -⟩ | ⟨h, -⟩ | ⟨h, h2⟩ | ⟨h, -⟩ | ⟨h, -⟩
  · omega
  · omega
  · exact h2
  · omega
  · omega
theorem wk_20 (ν : NV) : ∀ (L : List CLS) (g : TS), (∀ z ∈ L, ClOK z) → wk ν L g 20 0 0 = spLast ν 2 0 1000000 L (g 20 0 0)
  | [], g, _ => rfl
  | z :: L, g, hL => by
    rw [wk_cons, wk_20 ν L _ (fun y hy => hL y (List.mem_cons_of_mem _ hy)), telc_ne (by omega), tell_20]
    have h0 := cl0 (hL z List.mem_cons_self)
    rw [spLast_cons]
    congr 1
    by_cases c : cHolds ν z = true
    · by_cases e : z.1 = 2
      · simp [c, e, h0 (Or.inl e)]
      · simp [c, e]
    · simp [c]
theorem wk_22 (ν : NV) : ∀ (L : List CLS) (g : TS), (∀ z ∈ L, ClOK z) → wk ν L g 22 0 0 = spLast ν 6 0 100000 L (g 22 0 0)
  | [], g, _ => rfl
  | z :: L, g, hL => by
    rw [wk_cons, wk_22 ν L _ (fun y hy => hL y (List.mem_cons_of_mem _ hy)), telc_ne (by omega), tell_22 _ _ _ _ _ (hL z List.mem_cons_self).le]
    have h0 := cl0 (hL z List.mem_cons_self)
    rw [spLast_cons]
    congr 1
    by_cases c : cHolds ν z = true
    · by_cases e : z.1 = 6
      · simp [c, e, h0 (Or.inr e)]
      · simp [c, e]
    · simp [c]
theorem cl3 {z : CLS} (h : ClOK z) (hk : z.1 = 3) : z.2.1 < 4 := by
  rcases h with ⟨h, -⟩ | ⟨h, -⟩ | ⟨h, h2⟩ | ⟨h, h2⟩ | ⟨h, -⟩
  · omega
  · omega
  · omega
  · exact h2
  · omega
theorem wk_21 (ν : NV) : ∀ (L : List CLS) (g : TS) (w : Nat), (∀ z ∈ L, ClOK z) → g 21 0 0 = ni w → wk ν L g 21 0 0 = ni (spNeeds ν L w)
  | [], g, w, _, h => h
  | z :: L, g, w, hL, h => by
    rw [wk_cons]
    refine wk_21 ν L _ _ (fun y hy => hL y (List.mem_cons_of_mem _ hy)) ?_
    rw [telc_ne (by omega), tell_21, h]
    have h0 := cl3 (hL z List.mem_cons_self)
    by_cases c : cHolds ν z = true
    · by_cases e : z.1 = 3
      · have := h0 e
        rw [if_pos c, if_pos e, if_pos (And.intro c e), sh1 (by omega), ni_or]
      · simp [c, e]
    · simp [c]
theorem cl0b {z : CLS} (h : ClOK z) (hk : z.1 = 0) : z.2.1 < 12 ∧ ∃ e, e < 12 ∧ e ≠ z.2.1 ∧ z.2.2.1 = fun _ => ni e := by
  rcases h with ⟨h, h2⟩ | ⟨h, -⟩ | ⟨h, h2⟩ | ⟨h, h2⟩ | ⟨h, -⟩
  · exact h2
  · omega
  · omega
  · omega
  · omega
theorem wk_17 (ν : NV) (m : Nat) : ∀ (L : List CLS) (g : TS) (w : Nat), (∀ z ∈ L, ClOK z) → g 17 0 m = ni w → wk ν L g 17 0 m = ni (spBars ν m L w)
  | [], g, w, _, h => h
  | z :: L, g, w, hL, h => by
    rw [wk_cons]
    refine wk_17 ν m L _ _ (fun y hy => hL y (List.mem_cons_of_mem _ hy)) ?_
    rw [telc_ne (by omega), tell_17, h]
    have h0 := cl0b (hL z List.mem_cons_self)
    by_cases c : cHolds ν z = true
    · by_cases e : z.1 = 0
      · obtain ⟨h1, e1, h2, h3, h4⟩ := h0 e
        rw [if_pos c, if_pos e, if_pos (And.intro c e)]
        simp only [h4]
        rw [ni_nat (by omega), sh1 (k := e1) (by omega), sh1 (k := z.2.1) (by omega)]
        by_cases q1 : e1 = m
        · by_cases q2 : z.2.1 = m
          · simp only [q1, q2, if_true, ni_or]
          · simp only [q1, q2, if_true, if_false, ni_or]
        · by_cases q2 : z.2.1 = m
          · simp only [q1, q2, if_true, if_false, ni_or]
          · simp only [q1, q2, if_false]
      · simp [c, e]
    · simp [c]
theorem wk_24 (ν : NV) {am : Nat} (ham : am < 4096) : ∀ (L : List CLS) (g : TS) (n : Nat), (∀ z ∈ L, ClOK z) → g 23 0 0 = ni am → g 8 0 0 = ni n → wk ν L g 24 0 0 = spFst ν am L n (g 24 0 0)
  | [], g, n, _, _, _ => rfl
  | z :: L, g, n, hL, h23, h8 => by
    have g23 : telc ν z g 23 0 0 = ni am := by
      rw [telc_ne (by omega), tell_23, h23]
      split <;> rfl
    have g8 : telc ν z g 8 0 0 = ni (n + 1) := by rw [telc_8, h8, ni_succ]
    rw [wk_cons, wk_24 ν ham L _ _ (fun y hy => hL y (List.mem_cons_of_mem _ hy)) g23 g8]
    have h0 := cl0b (hL z List.mem_cons_self)
    rw [spFst_cons]
    congr 1
    rw [telc_ne (by omega), tell_24, h23, h8]
    by_cases c : cHolds ν z = true
    · by_cases e : z.1 = 0
      · obtain ⟨h1, e1, h2, h3, h4⟩ := h0 e
        rw [if_pos c]
        simp only [c, e, true_and, h4]
        rw [ni_nat (by omega), ni_shr (by omega) (by omega), ni_shr (by omega) (by omega)]
        have o1 : (1 : Int32) = ni 1 := rfl
        rw [ni_and, o1, ni_and]
        have e5 : (am >>> z.2.1 &&& am >>> e1) &&& 1 = if am.testBit z.2.1 = true ∧ am.testBit e1 = true then 1 else 0 := by
          rw [Nat.and_assoc, btN]
          by_cases q1 : am.testBit e1 = true
          · rw [if_pos q1, btN]
            simp only [q1, and_true]
          · rw [if_neg q1, Nat.and_zero, if_neg (fun w => q1 w.2)]
        rw [e5]
        by_cases q1 : am.testBit z.2.1 = true ∧ am.testBit e1 = true
        · simp only [q1, and_self, if_true, and_true]
        · rw [if_neg q1]
          have : ¬ (ni 0 = ni 1) := by decide
          simp only [this, and_false, if_false, q1]
      · simp [c, e]
    · simp [c]
/-- the calls that are told -/
def CallsR (g : TS) (P : List (Int32 × Int32 × Int32)) : Prop := g 25 0 0 = ni P.length ∧ ∀ c, c < P.length → g 26 c 0 = (P.getD c (0, 0, 0)).1 ∧ g 26 c 1 = (P.getD c (0, 0, 0)).2.1 ∧ g 26 c 2 = (P.getD c (0, 0, 0)).2.2
theorem wk_26 (ν : NV) : ∀ (L : List CLS) (g : TS) (P : List (Int32 × Int32 × Int32)), P.length + L.length < 1000 → CallsR g P → CallsR (wk ν L g) (P ++ spCalls ν L)
  | [], g, P, _, h => by
    rw [show spCalls ν [] = [] from rfl, List.append_nil]
    exact h
  | z :: L, g, P, hn, h => by
    rw [wk_cons]
    simp only [List.length_cons] at hn
    by_cases c : cHolds ν z = true ∧ z.1 = 5
    · have e : spCalls ν (z :: L) = (ni z.2.1, z.2.2.1 ν, ni z.2.2.2.1) :: spCalls ν L := by
        show (if cHolds ν z = true ∧ z.1 = 5 then _ else _) = _
        rw [if_pos c]
      rw [e, List.append_cons]
      refine wk_26 ν L _ _ (by simp only [List.length_append, List.length_cons, List.length_nil]; omega) ?_
      obtain ⟨h1, h2⟩ := h
      have e1 : (ni P.length).toNatClampNeg = P.length := ni_nat (by omega)
      refine ⟨?_, fun q hq => ?_⟩
      · rw [telc_ne (by omega), tell_25, if_pos c.1, if_pos c.2, h1, List.length_append, ni_succ]
        rfl
      · rw [List.length_append, List.length_cons, List.length_nil] at hq
        rw [telc_ne (by omega), telc_ne (by omega), telc_ne (by omega), if_pos c.1, if_pos c.1, if_pos c.1, tell_26 _ _ _ _ _ _ _ (by omega), tell_26 _ _ _ _ _ _ _ (by omega), tell_26 _ _ _ _ _ _ _ (by omega), h1, e1]
        by_cases q1 : q = P.length
        · subst q1
          have e7 : (P ++ [(ni z.2.1, z.2.2.1 ν, ni z.2.2.2.1)]).getD P.length (0, 0, 0) = (ni z.2.1, z.2.2.1 ν, ni z.2.2.2.1) := by
            simp [List.getD]
          rw [e7]
          refine ⟨?_, ?_, ?_⟩ <;> simp [c.2]
        · rw [if_neg (fun z => q1 z.2), if_neg (fun z => q1 z.2), if_neg (fun z => q1 z.2)]
          have hq' : q < P.length := by omega
          have e7 : (P ++ [(ni z.2.1, z.2.2.1 ν, ni z.2.2.2.1)]).getD q (0, 0, 0) = P.getD q (0, 0, 0) := by
            simp [List.getD, List.getElem?_append_left hq']
          rw [e7]
          exact h2 q hq'
    · have e : spCalls ν (z :: L) = spCalls ν L := by
        show (if cHolds ν z = true ∧ z.1 = 5 then _ else _) = _
        rw [if_neg c]
      rw [e]
      refine wk_26 ν L _ _ (by omega) ?_
      have h25 : telc ν z g 25 0 0 = g 25 0 0 := by
        rw [telc_ne (by omega)]
        by_cases c1 : cHolds ν z = true
        · rw [if_pos c1, tell_25, if_neg (fun w => c ⟨c1, w⟩)]
        · rw [if_neg c1]
      have h26 : ∀ i j, j < 3 → telc ν z g 26 i j = g 26 i j := by
        intro i j hj
        rw [telc_ne (by omega)]
        by_cases c1 : cHolds ν z = true
        · rw [if_pos c1, tell_26 _ _ _ _ _ _ _ hj, if_neg (fun w => c ⟨c1, w.1⟩)]
        · rw [if_neg c1]
      refine ⟨h25.trans h.1, fun q hq => ?_⟩
      rw [h26 q 0 (by omega), h26 q 1 (by omega), h26 q 2 (by omega)]
      exact h.2 q hq
/-- all that a walk tells -/
def WkR (ν : NV) (L : List CLS) (am : Nat) (g : TS) : Prop :=
  (∀ j, j < 4 → g 18 0 j = spLast ν 1 j 100000 L (-1)) ∧ (∀ j, j < 4 → g 19 0 j = spLast ν 4 j 100000 L (-1)) ∧ g 20 0 0 = spLast ν 2 0 1000000 L 0 ∧ g 21 0 0 = ni (spNeeds ν L 0) ∧ g 22 0 0 = spLast ν 6 0 100000 L (-1) ∧
  (∀ m, m < 12 → g 17 0 m = ni (spBars ν m L 0)) ∧ g 24 0 0 = spFst ν am L 0 (-1) ∧ CallsR g (spCalls ν L)
theorem wi_at (g : TS) : (∀ j, j < 4 → wi g 18 0 j = -1 ∧ wi g 19 0 j = -1) ∧ (∀ m, m < 12 → wi g 17 0 m = 0) ∧ wi g 20 0 0 = 0 ∧ wi g 21 0 0 = 0 ∧ wi g 22 0 0 = -1 ∧ wi g 24 0 0 = -1 := by
  refine ⟨fun j hj => ?_, fun m hm => ?_, ?_, ?_, ?_, ?_⟩
  · have : j = 0 ∨ j = 1 ∨ j = 2 ∨ j = 3 := by omega
    rcases this with rfl | rfl | rfl | rfl <;> simp [wi, rpt, twu]
  · have : m = 0 ∨ m = 1 ∨ m = 2 ∨ m = 3 ∨ m = 4 ∨ m = 5 ∨ m = 6 ∨ m = 7 ∨ m = 8 ∨ m = 9 ∨ m = 10 ∨ m = 11 := by omega
    rcases this with rfl | rfl | rfl | rfl | rfl | rfl | rfl | rfl | rfl | rfl | rfl | rfl <;> simp [wi, rpt, twu]
  · simp [wi, rpt, twu]
  · simp [wi, rpt, twu]
  · simp [wi, rpt, twu]
  · simp [wi, rpt, twu]
theorem wk_R {ν : NV} {L : List CLS} {am : Nat} {g : TS} (hL : ∀ z ∈ L, ClOK z) (hn : L.length ≤ 20) (h23 : g 23 0 0 = ni am) (ham : am < 4096) : WkR ν L am (wk ν L (wi g)) := by
  obtain ⟨h1, h2, h3, h4, h5, h6⟩ := wi_at g
  refine ⟨fun j hj => ?_, fun j hj => ?_, ?_, ?_, ?_, fun m hm => ?_, ?_, ?_⟩
  · rw [wk_18, (h1 j hj).1]
  · rw [wk_19, (h1 j hj).2]
  · rw [wk_20 ν L _ hL, h3]
  · exact wk_21 ν L _ 0 hL h4
  · rw [wk_22 ν L _ hL, h5]
  · exact wk_17 ν m L _ 0 hL (h2 m hm)
  · rw [wk_24 ν ham L _ 0 hL ((show wi g 23 0 0 = g 23 0 0 by simp [wi, rpt, twu]).trans h23) (wi_8 g), h6]
  · have := wk_26 ν L (wi g) [] (by simp only [List.length_nil]; omega) ⟨wi_25 g, fun c hc => absurd hc (Nat.not_lt_zero c)⟩
    rw [List.nil_append] at this
    exact this
