/-! THE REFERENCE'S CELLS: an overlay of the heap (by pp.py); sg field row column -/
set_option maxRecDepth 100000
abbrev TS : Type := Nat → Nat → Nat → Int32
def twu (g : TS) (k i j : Nat) (v : Int32) : TS := fun k1 i1 j1 => if k1 = k ∧ i1 = i ∧ j1 = j then v else g k1 i1 j1
theorem twu_at (g : TS) (k i j : Nat) (v : Int32) (k1 i1 j1 : Nat) : twu g k i j v k1 i1 j1 = if k1 = k ∧ i1 = i ∧ j1 = j then v else g k1 i1 j1 := rfl
def twI (k : Nat) : Bool := decide (k ∈ ([0, 1, 2, 3, 4, 5, 6, 7, 8, 9, 14, 15, 20, 21, 22, 23, 24, 25, 27, 28, 29, 30, 31, 32, 33, 34, 35, 36, 37, 38, 39, 40, 41, 42, 43, 44, 62, 65, 66, 69, 70] : List Nat))
def twA : Nat → Nat := fun k => cond (Nat.ble 35 k) (cond (Nat.ble 53 k) (cond (Nat.ble 62 k) (cond (Nat.ble 66 k) (cond (Nat.ble 68 k) (cond (Nat.ble 69 k) (cond (Nat.ble 70 k) (0) (0)) (383)) (cond (Nat.ble 67 k) (375) (0))) (cond (Nat.ble 64 k) (cond (Nat.ble 65 k) (0) (374)) (cond (Nat.ble 63 k) (373) (0)))) (cond (Nat.ble 57 k) (cond (Nat.ble 59 k) (cond (Nat.ble 60 k) (cond (Nat.ble 61 k) (372) (371)) (370)) (cond (Nat.ble 58 k) (349) (342))) (cond (Nat.ble 55 k) (cond (Nat.ble 56 k) (334) (323)) (cond (Nat.ble 54 k) (310) (285))))) (cond (Nat.ble 44 k) (cond (Nat.ble 48 k) (cond (Nat.ble 50 k) (cond (Nat.ble 51 k) (cond (Nat.ble 52 k) (284) (283)) (262)) (cond (Nat.ble 49 k) (61) (60))) (cond (Nat.ble 46 k) (cond (Nat.ble 47 k) (59) (48)) (cond (Nat.ble 45 k) (35) (0)))) (cond (Nat.ble 39 k) (cond (Nat.ble 41 k) (cond (Nat.ble 42 k) (cond (Nat.ble 43 k) (0) (0)) (0)) (cond (Nat.ble 40 k) (0) (0))) (cond (Nat.ble 37 k) (cond (Nat.ble 38 k) (0) (0)) (cond (Nat.ble 36 k) (0) (0)))))) (cond (Nat.ble 17 k) (cond (Nat.ble 26 k) (cond (Nat.ble 30 k) (cond (Nat.ble 32 k) (cond (Nat.ble 33 k) (cond (Nat.ble 34 k) (0) (0)) (0)) (cond (Nat.ble 31 k) (0) (0))) (cond (Nat.ble 28 k) (cond (Nat.ble 29 k) (0) (0)) (cond (Nat.ble 27 k) (0) (14)))) (cond (Nat.ble 21 k) (cond (Nat.ble 23 k) (cond (Nat.ble 24 k) (cond (Nat.ble 25 k) (0) (0)) (0)) (cond (Nat.ble 22 k) (0) (0))) (cond (Nat.ble 19 k) (cond (Nat.ble 20 k) (0) (13)) (cond (Nat.ble 18 k) (12) (11))))) (cond (Nat.ble 8 k) (cond (Nat.ble 12 k) (cond (Nat.ble 14 k) (cond (Nat.ble 15 k) (cond (Nat.ble 16 k) (10) (0)) (0)) (cond (Nat.ble 13 k) (9) (8))) (cond (Nat.ble 10 k) (cond (Nat.ble 11 k) (2) (1)) (cond (Nat.ble 9 k) (0) (0)))) (cond (Nat.ble 4 k) (cond (Nat.ble 6 k) (cond (Nat.ble 7 k) (0) (0)) (cond (Nat.ble 5 k) (0) (0))) (cond (Nat.ble 2 k) (cond (Nat.ble 3 k) (0) (0)) (cond (Nat.ble 1 k) (0) (0))))))
def twf (b : Nat) (g : TS) : Nat → Value := fun k => if twI k = true then .int (g k 0 0) else .ref (b + twA k)
def twS : Nat → Nat × Nat × Nat × Nat := fun c => cond (Nat.ble 283 c) (cond (Nat.ble 343 c) (cond (Nat.ble 373 c) (cond (Nat.ble 376 c) (cond (Nat.ble 383 c) (cond (Nat.ble 384 c) ((1, 3000, 68, c - 384)) ((2, 3, 384, 0))) ((1, 1024, 67, c - 376))) (cond (Nat.ble 374 c) (cond (Nat.ble 375 c) ((2, 7, 376, 0)) ((1, 4, 64, 0))) ((1, 4, 63, 0)))) (cond (Nat.ble 370 c) (cond (Nat.ble 371 c) (cond (Nat.ble 372 c) ((1, 7, 61, 0)) ((1, 7, 60, 0))) ((1, 6, 59, 0))) (cond (Nat.ble 349 c) (cond (Nat.ble 350 c) ((1, 3, 58, c - 350)) ((2, 20, 350, 0))) ((1, 2, 57, c - 343))))) (cond (Nat.ble 311 c) (cond (Nat.ble 334 c) (cond (Nat.ble 335 c) (cond (Nat.ble 342 c) ((2, 6, 343, 0)) ((1, 4, 56, c - 335))) ((2, 7, 335, 0))) (cond (Nat.ble 323 c) (cond (Nat.ble 324 c) ((1, 55, 55, c - 324)) ((2, 10, 324, 0))) ((1, 2, 54, c - 311)))) (cond (Nat.ble 285 c) (cond (Nat.ble 286 c) (cond (Nat.ble 310 c) ((2, 12, 311, 0)) ((1, 3, 53, c - 286))) ((2, 24, 286, 0))) (cond (Nat.ble 284 c) ((1, 12, 52, 0)) ((1, 4, 51, 0)))))) (cond (Nat.ble 15 c) (cond (Nat.ble 59 c) (cond (Nat.ble 62 c) (cond (Nat.ble 262 c) (cond (Nat.ble 263 c) ((1, 5, 50, c - 263)) ((2, 20, 263, 0))) ((1, 9, 49, c - 62))) (cond (Nat.ble 60 c) (cond (Nat.ble 61 c) ((2, 200, 62, 0)) ((1, 40, 48, 0))) ((1, 40, 47, 0)))) (cond (Nat.ble 36 c) (cond (Nat.ble 48 c) (cond (Nat.ble 49 c) ((1, 8, 46, c - 49)) ((2, 10, 49, 0))) ((1, 7, 45, c - 36))) (cond (Nat.ble 35 c) ((2, 12, 36, 0)) ((1, 3, 26, c - 15))))) (cond (Nat.ble 9 c) (cond (Nat.ble 12 c) (cond (Nat.ble 13 c) (cond (Nat.ble 14 c) ((2, 20, 15, 0)) ((1, 4, 19, 0))) ((1, 4, 18, 0))) (cond (Nat.ble 10 c) (cond (Nat.ble 11 c) ((1, 12, 17, 0)) ((1, 6, 16, 0))) ((1, 5, 13, 0)))) (cond (Nat.ble 2 c) (cond (Nat.ble 3 c) (cond (Nat.ble 8 c) ((1, 5, 12, 0)) ((1, 400, 11, c - 3))) ((2, 5, 3, 0))) (cond (Nat.ble 1 c) ((1, 400, 10, 0)) ((0, 71, 0, 0))))))
def twc (b : Nat) (g : TS) (c : Nat) : AC := match (twS c).1 with
  | 0 => (4, 71, twf b g)
  | 1 => (100, (twS c).2.1, fun j => .int (g (twS c).2.2.1 (twS c).2.2.2 j))
  | _ => (106, (twS c).2.1, fun i => .ref (b + (i + (twS c).2.2.1)))
def tw (b : Nat) (g : TS) (h : AH) : AH := (h.1, h.2.1, fun a => if b ≤ a ∧ a < b + 387 then twc b g (a - b) else h.2.2.1 a, h.2.2.2)
theorem tw_hsz (b : Nat) (g : TS) (h : AH) : hsz (tw b g h) = hsz h := rfl
theorem tw_hsl (b : Nat) (g : TS) (h : AH) : hsl (tw b g h) = hsl h := rfl
theorem tw_env (b : Nat) (g : TS) (h : AH) (k : Nat) : henv (tw b g h) k = henv h k := rfl
theorem tw_in (b : Nat) (g : TS) (h : AH) (c : Nat) (hc : c < 387) : hcl (tw b g h) (b + c) = twc b g c := by
  show (if b ≤ b + c ∧ b + c < b + 387 then twc b g (b + c - b) else h.2.2.1 (b + c)) = _
  rw [if_pos ⟨Nat.le_add_right _ _, Nat.add_lt_add_left hc b⟩, Nat.add_sub_cancel_left]
theorem tw_out (b : Nat) (g : TS) (h : AH) (a : Nat) (ha : a < b ∨ b + 387 ≤ a) : hcl (tw b g h) a = hcl h a := by
  show (if b ≤ a ∧ a < b + 387 then twc b g (a - b) else h.2.2.1 a) = _
  rw [if_neg (by omega)]
  rfl
def twO : Nat → Nat := fun k => cond (Nat.ble 35 k) (cond (Nat.ble 53 k) (cond (Nat.ble 62 k) (cond (Nat.ble 66 k) (cond (Nat.ble 68 k) (cond (Nat.ble 69 k) (cond (Nat.ble 70 k) (0) (0)) (384)) (cond (Nat.ble 67 k) (376) (0))) (cond (Nat.ble 64 k) (cond (Nat.ble 65 k) (0) (374)) (cond (Nat.ble 63 k) (373) (0)))) (cond (Nat.ble 57 k) (cond (Nat.ble 59 k) (cond (Nat.ble 60 k) (cond (Nat.ble 61 k) (372) (371)) (370)) (cond (Nat.ble 58 k) (350) (343))) (cond (Nat.ble 55 k) (cond (Nat.ble 56 k) (335) (324)) (cond (Nat.ble 54 k) (311) (286))))) (cond (Nat.ble 44 k) (cond (Nat.ble 48 k) (cond (Nat.ble 50 k) (cond (Nat.ble 51 k) (cond (Nat.ble 52 k) (284) (283)) (263)) (cond (Nat.ble 49 k) (62) (60))) (cond (Nat.ble 46 k) (cond (Nat.ble 47 k) (59) (49)) (cond (Nat.ble 45 k) (36) (0)))) (cond (Nat.ble 39 k) (cond (Nat.ble 41 k) (cond (Nat.ble 42 k) (cond (Nat.ble 43 k) (0) (0)) (0)) (cond (Nat.ble 40 k) (0) (0))) (cond (Nat.ble 37 k) (cond (Nat.ble 38 k) (0) (0)) (cond (Nat.ble 36 k) (0) (0)))))) (cond (Nat.ble 17 k) (cond (Nat.ble 26 k) (cond (Nat.ble 30 k) (cond (Nat.ble 32 k) (cond (Nat.ble 33 k) (cond (Nat.ble 34 k) (0) (0)) (0)) (cond (Nat.ble 31 k) (0) (0))) (cond (Nat.ble 28 k) (cond (Nat.ble 29 k) (0) (0)) (cond (Nat.ble 27 k) (0) (15)))) (cond (Nat.ble 21 k) (cond (Nat.ble 23 k) (cond (Nat.ble 24 k) (cond (Nat.ble 25 k) (0) (0)) (0)) (cond (Nat.ble 22 k) (0) (0))) (cond (Nat.ble 19 k) (cond (Nat.ble 20 k) (0) (13)) (cond (Nat.ble 18 k) (12) (11))))) (cond (Nat.ble 8 k) (cond (Nat.ble 12 k) (cond (Nat.ble 14 k) (cond (Nat.ble 15 k) (cond (Nat.ble 16 k) (10) (0)) (0)) (cond (Nat.ble 13 k) (9) (8))) (cond (Nat.ble 10 k) (cond (Nat.ble 11 k) (3) (1)) (cond (Nat.ble 9 k) (0) (0)))) (cond (Nat.ble 4 k) (cond (Nat.ble 6 k) (cond (Nat.ble 7 k) (0) (0)) (cond (Nat.ble 5 k) (0) (0))) (cond (Nat.ble 2 k) (cond (Nat.ble 3 k) (0) (0)) (cond (Nat.ble 1 k) (0) (0))))))
theorem twS_ok : ∀ c, c < 387 → (twS c).1 = 1 → c = twO (twS c).2.2.1 + (twS c).2.2.2 ∧ (twS c).2.2.1 ∈ ([10, 11, 12, 13, 16, 17, 18, 19, 26, 45, 46, 47, 48, 49, 50, 51, 52, 53, 54, 55, 56, 57, 58, 59, 60, 61, 63, 64, 67, 68] : List Nat) := by decide +kernel
theorem twS_0 : ∀ c, c < 387 → (twS c).1 = 0 → c = 0 := by decide +kernel
theorem twf_set (b : Nat) (g : TS) (k : Nat) (v : Int32) (hk : twI k = true) : updV (twf b g) k (.int v) = twf b (twu g k 0 0 v) := by
  funext q
  unfold updV twf
  by_cases e : q = k
  · subst e
    simp [hk, twu]
  · rw [if_neg e]
    simp [twu, e]
theorem tw_ext {h h' : AH} (h1 : h.1 = h'.1) (h2 : h.2.1 = h'.2.1) (h3 : ∀ a, hcl h a = hcl h' a) (h4 : h.2.2.2 = h'.2.2.2) : h = h' := by
  obtain ⟨a, b, c, d⟩ := h
  obtain ⟨a', b', c', d'⟩ := h'
  have h5 : c = c' := funext h3
  simp only at h1 h2 h4
  subst h1 h2 h4 h5
  rfl
theorem tw_set0 (b : Nat) (g : TS) (h : AH) (k : Nat) (v : Int32) (hk : twI k = true) : hset (tw b g h) b k (.int v) = tw b (twu g k 0 0 v) h := by
  have hb : hcl (tw b g h) b = (4, 71, twf b g) := tw_in b g h 0 (by decide)
  refine tw_ext rfl rfl (fun a => ?_) rfl
  rw [hcl_set, hb]
  by_cases e : a = b
  · subst e
    rw [if_pos rfl]
    have h1 : hcl (tw a (twu g k 0 0 v) h) a = (4, 71, twf a (twu g k 0 0 v)) := tw_in a _ h 0 (by decide)
    rw [h1, ← twf_set a g k v hk]
  · rw [if_neg e]
    by_cases hr : b ≤ a ∧ a < b + 387
    · obtain ⟨c, rfl⟩ := Nat.exists_eq_add_of_le hr.1
      have hc : c < 387 := by omega
      rw [tw_in b g h c hc, tw_in b _ h c hc]
      unfold twc
      match hS : (twS c).1 with
      | 0 => exact absurd (twS_0 c hc hS) (by omega)
      | 1 =>
        have h2 := (twS_ok c hc hS).2
        have h3 : (twS c).2.2.1 ≠ k := by
          intro q
          rw [q] at h2
          revert h2 hk
          unfold twI
          simp only [List.mem_cons, List.mem_nil_iff, or_false, decide_eq_true_eq]
          omega
        simp [twu, h3]
      | n + 2 => rfl
    · rw [tw_out b g h a (by omega), tw_out b _ h a (by omega)]
theorem tw_setA (b : Nat) (g : TS) (h : AH) (c j : Nat) (v : Int32) (hc : c < 387) (h1 : (twS c).1 = 1) : hset (tw b g h) (b + c) j (.int v) = tw b (twu g (twS c).2.2.1 (twS c).2.2.2 j v) h := by
  have hb : hcl (tw b g h) (b + c) = (100, (twS c).2.1, fun j => .int (g (twS c).2.2.1 (twS c).2.2.2 j)) := by
    rw [tw_in b g h c hc]
    unfold twc
    rw [h1]
    rfl
  have hO := twS_ok c hc h1
  refine tw_ext rfl rfl (fun a => ?_) rfl
  rw [hcl_set, hb]
  by_cases e : a = b + c
  · subst e
    rw [if_pos rfl, tw_in b _ h c hc]
    unfold twc
    rw [h1]
    refine congrArg (fun z => ((100, (twS c).2.1, z) : AC)) (funext fun q => ?_)
    unfold updV twu
    by_cases e2 : q = j
    · simp [e2]
    · simp [e2]
  · rw [if_neg e]
    by_cases hr : b ≤ a ∧ a < b + 387
    · obtain ⟨c', rfl⟩ := Nat.exists_eq_add_of_le hr.1
      have hc' : c' < 387 := by omega
      have hne : c' ≠ c := fun q => e (by rw [q])
      rw [tw_in b g h c' hc', tw_in b _ h c' hc']
      unfold twc
      match hS : (twS c').1 with
      | 0 =>
        refine congrArg (fun z => ((4, 71, z) : AC)) (funext fun q => ?_)
        unfold twf
        split
        · next hq =>
          have h3 : q ≠ (twS c).2.2.1 := by
            intro e3
            have h2 := hO.2
            rw [← e3] at h2
            revert h2 hq
            unfold twI
            simp only [List.mem_cons, List.mem_nil_iff, or_false, decide_eq_true_eq]
            omega
          simp [twu, h3]
        · rfl
      | 1 =>
        have hO' := twS_ok c' hc' hS
        have h3 : ¬ ((twS c').2.2.1 = (twS c).2.2.1 ∧ (twS c').2.2.2 = (twS c).2.2.2) := by
          intro q
          exact hne (by rw [hO'.1, hO.1, q.1, q.2])
        refine congrArg (fun z => ((100, (twS c').2.1, z) : AC)) (funext fun q => ?_)
        unfold twu
        rw [if_neg (fun z => h3 ⟨z.1, z.2.1⟩)]
      | n + 2 => rfl
    · rw [tw_out b g h a (by omega), tw_out b _ h a (by omega)]
theorem tw_get0 (b : Nat) (g : TS) (h : AH) : hcl (tw b g h) b = (4, 71, twf b g) := tw_in b g h 0 (by decide)
theorem twf_0 (b : Nat) (g : TS) : twf b g 0 = .int (g 0 0 0) := rfl
theorem tws_0 (b : Nat) (g : TS) (h : AH) (v : Int32) : hset (tw b g h) b 0 (.int v) = tw b (twu g 0 0 0 v) h := tw_set0 b g h 0 v rfl
theorem twf_1 (b : Nat) (g : TS) : twf b g 1 = .int (g 1 0 0) := rfl
theorem tws_1 (b : Nat) (g : TS) (h : AH) (v : Int32) : hset (tw b g h) b 1 (.int v) = tw b (twu g 1 0 0 v) h := tw_set0 b g h 1 v rfl
theorem twf_2 (b : Nat) (g : TS) : twf b g 2 = .int (g 2 0 0) := rfl
theorem tws_2 (b : Nat) (g : TS) (h : AH) (v : Int32) : hset (tw b g h) b 2 (.int v) = tw b (twu g 2 0 0 v) h := tw_set0 b g h 2 v rfl
theorem twf_3 (b : Nat) (g : TS) : twf b g 3 = .int (g 3 0 0) := rfl
theorem tws_3 (b : Nat) (g : TS) (h : AH) (v : Int32) : hset (tw b g h) b 3 (.int v) = tw b (twu g 3 0 0 v) h := tw_set0 b g h 3 v rfl
theorem twf_4 (b : Nat) (g : TS) : twf b g 4 = .int (g 4 0 0) := rfl
theorem tws_4 (b : Nat) (g : TS) (h : AH) (v : Int32) : hset (tw b g h) b 4 (.int v) = tw b (twu g 4 0 0 v) h := tw_set0 b g h 4 v rfl
theorem twf_5 (b : Nat) (g : TS) : twf b g 5 = .int (g 5 0 0) := rfl
theorem tws_5 (b : Nat) (g : TS) (h : AH) (v : Int32) : hset (tw b g h) b 5 (.int v) = tw b (twu g 5 0 0 v) h := tw_set0 b g h 5 v rfl
theorem twf_6 (b : Nat) (g : TS) : twf b g 6 = .int (g 6 0 0) := rfl
theorem tws_6 (b : Nat) (g : TS) (h : AH) (v : Int32) : hset (tw b g h) b 6 (.int v) = tw b (twu g 6 0 0 v) h := tw_set0 b g h 6 v rfl
theorem twf_7 (b : Nat) (g : TS) : twf b g 7 = .int (g 7 0 0) := rfl
theorem tws_7 (b : Nat) (g : TS) (h : AH) (v : Int32) : hset (tw b g h) b 7 (.int v) = tw b (twu g 7 0 0 v) h := tw_set0 b g h 7 v rfl
theorem twf_8 (b : Nat) (g : TS) : twf b g 8 = .int (g 8 0 0) := rfl
theorem tws_8 (b : Nat) (g : TS) (h : AH) (v : Int32) : hset (tw b g h) b 8 (.int v) = tw b (twu g 8 0 0 v) h := tw_set0 b g h 8 v rfl
theorem twf_9 (b : Nat) (g : TS) : twf b g 9 = .int (g 9 0 0) := rfl
theorem tws_9 (b : Nat) (g : TS) (h : AH) (v : Int32) : hset (tw b g h) b 9 (.int v) = tw b (twu g 9 0 0 v) h := tw_set0 b g h 9 v rfl
theorem twf_14 (b : Nat) (g : TS) : twf b g 14 = .int (g 14 0 0) := rfl
theorem tws_14 (b : Nat) (g : TS) (h : AH) (v : Int32) : hset (tw b g h) b 14 (.int v) = tw b (twu g 14 0 0 v) h := tw_set0 b g h 14 v rfl
theorem twf_15 (b : Nat) (g : TS) : twf b g 15 = .int (g 15 0 0) := rfl
theorem tws_15 (b : Nat) (g : TS) (h : AH) (v : Int32) : hset (tw b g h) b 15 (.int v) = tw b (twu g 15 0 0 v) h := tw_set0 b g h 15 v rfl
theorem twf_20 (b : Nat) (g : TS) : twf b g 20 = .int (g 20 0 0) := rfl
theorem tws_20 (b : Nat) (g : TS) (h : AH) (v : Int32) : hset (tw b g h) b 20 (.int v) = tw b (twu g 20 0 0 v) h := tw_set0 b g h 20 v rfl
theorem twf_21 (b : Nat) (g : TS) : twf b g 21 = .int (g 21 0 0) := rfl
theorem tws_21 (b : Nat) (g : TS) (h : AH) (v : Int32) : hset (tw b g h) b 21 (.int v) = tw b (twu g 21 0 0 v) h := tw_set0 b g h 21 v rfl
theorem twf_22 (b : Nat) (g : TS) : twf b g 22 = .int (g 22 0 0) := rfl
theorem tws_22 (b : Nat) (g : TS) (h : AH) (v : Int32) : hset (tw b g h) b 22 (.int v) = tw b (twu g 22 0 0 v) h := tw_set0 b g h 22 v rfl
theorem twf_23 (b : Nat) (g : TS) : twf b g 23 = .int (g 23 0 0) := rfl
theorem tws_23 (b : Nat) (g : TS) (h : AH) (v : Int32) : hset (tw b g h) b 23 (.int v) = tw b (twu g 23 0 0 v) h := tw_set0 b g h 23 v rfl
theorem twf_24 (b : Nat) (g : TS) : twf b g 24 = .int (g 24 0 0) := rfl
theorem tws_24 (b : Nat) (g : TS) (h : AH) (v : Int32) : hset (tw b g h) b 24 (.int v) = tw b (twu g 24 0 0 v) h := tw_set0 b g h 24 v rfl
theorem twf_25 (b : Nat) (g : TS) : twf b g 25 = .int (g 25 0 0) := rfl
theorem tws_25 (b : Nat) (g : TS) (h : AH) (v : Int32) : hset (tw b g h) b 25 (.int v) = tw b (twu g 25 0 0 v) h := tw_set0 b g h 25 v rfl
theorem twf_27 (b : Nat) (g : TS) : twf b g 27 = .int (g 27 0 0) := rfl
theorem tws_27 (b : Nat) (g : TS) (h : AH) (v : Int32) : hset (tw b g h) b 27 (.int v) = tw b (twu g 27 0 0 v) h := tw_set0 b g h 27 v rfl
theorem twf_28 (b : Nat) (g : TS) : twf b g 28 = .int (g 28 0 0) := rfl
theorem tws_28 (b : Nat) (g : TS) (h : AH) (v : Int32) : hset (tw b g h) b 28 (.int v) = tw b (twu g 28 0 0 v) h := tw_set0 b g h 28 v rfl
theorem twf_29 (b : Nat) (g : TS) : twf b g 29 = .int (g 29 0 0) := rfl
theorem tws_29 (b : Nat) (g : TS) (h : AH) (v : Int32) : hset (tw b g h) b 29 (.int v) = tw b (twu g 29 0 0 v) h := tw_set0 b g h 29 v rfl
theorem twf_30 (b : Nat) (g : TS) : twf b g 30 = .int (g 30 0 0) := rfl
theorem tws_30 (b : Nat) (g : TS) (h : AH) (v : Int32) : hset (tw b g h) b 30 (.int v) = tw b (twu g 30 0 0 v) h := tw_set0 b g h 30 v rfl
theorem twf_31 (b : Nat) (g : TS) : twf b g 31 = .int (g 31 0 0) := rfl
theorem tws_31 (b : Nat) (g : TS) (h : AH) (v : Int32) : hset (tw b g h) b 31 (.int v) = tw b (twu g 31 0 0 v) h := tw_set0 b g h 31 v rfl
theorem twf_32 (b : Nat) (g : TS) : twf b g 32 = .int (g 32 0 0) := rfl
theorem tws_32 (b : Nat) (g : TS) (h : AH) (v : Int32) : hset (tw b g h) b 32 (.int v) = tw b (twu g 32 0 0 v) h := tw_set0 b g h 32 v rfl
theorem twf_33 (b : Nat) (g : TS) : twf b g 33 = .int (g 33 0 0) := rfl
theorem tws_33 (b : Nat) (g : TS) (h : AH) (v : Int32) : hset (tw b g h) b 33 (.int v) = tw b (twu g 33 0 0 v) h := tw_set0 b g h 33 v rfl
theorem twf_34 (b : Nat) (g : TS) : twf b g 34 = .int (g 34 0 0) := rfl
theorem tws_34 (b : Nat) (g : TS) (h : AH) (v : Int32) : hset (tw b g h) b 34 (.int v) = tw b (twu g 34 0 0 v) h := tw_set0 b g h 34 v rfl
theorem twf_35 (b : Nat) (g : TS) : twf b g 35 = .int (g 35 0 0) := rfl
theorem tws_35 (b : Nat) (g : TS) (h : AH) (v : Int32) : hset (tw b g h) b 35 (.int v) = tw b (twu g 35 0 0 v) h := tw_set0 b g h 35 v rfl
theorem twf_36 (b : Nat) (g : TS) : twf b g 36 = .int (g 36 0 0) := rfl
theorem tws_36 (b : Nat) (g : TS) (h : AH) (v : Int32) : hset (tw b g h) b 36 (.int v) = tw b (twu g 36 0 0 v) h := tw_set0 b g h 36 v rfl
theorem twf_37 (b : Nat) (g : TS) : twf b g 37 = .int (g 37 0 0) := rfl
theorem tws_37 (b : Nat) (g : TS) (h : AH) (v : Int32) : hset (tw b g h) b 37 (.int v) = tw b (twu g 37 0 0 v) h := tw_set0 b g h 37 v rfl
theorem twf_38 (b : Nat) (g : TS) : twf b g 38 = .int (g 38 0 0) := rfl
theorem tws_38 (b : Nat) (g : TS) (h : AH) (v : Int32) : hset (tw b g h) b 38 (.int v) = tw b (twu g 38 0 0 v) h := tw_set0 b g h 38 v rfl
theorem twf_39 (b : Nat) (g : TS) : twf b g 39 = .int (g 39 0 0) := rfl
theorem tws_39 (b : Nat) (g : TS) (h : AH) (v : Int32) : hset (tw b g h) b 39 (.int v) = tw b (twu g 39 0 0 v) h := tw_set0 b g h 39 v rfl
theorem twf_40 (b : Nat) (g : TS) : twf b g 40 = .int (g 40 0 0) := rfl
theorem tws_40 (b : Nat) (g : TS) (h : AH) (v : Int32) : hset (tw b g h) b 40 (.int v) = tw b (twu g 40 0 0 v) h := tw_set0 b g h 40 v rfl
theorem twf_41 (b : Nat) (g : TS) : twf b g 41 = .int (g 41 0 0) := rfl
theorem tws_41 (b : Nat) (g : TS) (h : AH) (v : Int32) : hset (tw b g h) b 41 (.int v) = tw b (twu g 41 0 0 v) h := tw_set0 b g h 41 v rfl
theorem twf_42 (b : Nat) (g : TS) : twf b g 42 = .int (g 42 0 0) := rfl
theorem tws_42 (b : Nat) (g : TS) (h : AH) (v : Int32) : hset (tw b g h) b 42 (.int v) = tw b (twu g 42 0 0 v) h := tw_set0 b g h 42 v rfl
theorem twf_43 (b : Nat) (g : TS) : twf b g 43 = .int (g 43 0 0) := rfl
theorem tws_43 (b : Nat) (g : TS) (h : AH) (v : Int32) : hset (tw b g h) b 43 (.int v) = tw b (twu g 43 0 0 v) h := tw_set0 b g h 43 v rfl
theorem twf_44 (b : Nat) (g : TS) : twf b g 44 = .int (g 44 0 0) := rfl
theorem tws_44 (b : Nat) (g : TS) (h : AH) (v : Int32) : hset (tw b g h) b 44 (.int v) = tw b (twu g 44 0 0 v) h := tw_set0 b g h 44 v rfl
theorem twf_62 (b : Nat) (g : TS) : twf b g 62 = .int (g 62 0 0) := rfl
theorem tws_62 (b : Nat) (g : TS) (h : AH) (v : Int32) : hset (tw b g h) b 62 (.int v) = tw b (twu g 62 0 0 v) h := tw_set0 b g h 62 v rfl
theorem twf_65 (b : Nat) (g : TS) : twf b g 65 = .int (g 65 0 0) := rfl
theorem tws_65 (b : Nat) (g : TS) (h : AH) (v : Int32) : hset (tw b g h) b 65 (.int v) = tw b (twu g 65 0 0 v) h := tw_set0 b g h 65 v rfl
theorem twf_66 (b : Nat) (g : TS) : twf b g 66 = .int (g 66 0 0) := rfl
theorem tws_66 (b : Nat) (g : TS) (h : AH) (v : Int32) : hset (tw b g h) b 66 (.int v) = tw b (twu g 66 0 0 v) h := tw_set0 b g h 66 v rfl
theorem twf_69 (b : Nat) (g : TS) : twf b g 69 = .int (g 69 0 0) := rfl
theorem tws_69 (b : Nat) (g : TS) (h : AH) (v : Int32) : hset (tw b g h) b 69 (.int v) = tw b (twu g 69 0 0 v) h := tw_set0 b g h 69 v rfl
theorem twf_70 (b : Nat) (g : TS) : twf b g 70 = .int (g 70 0 0) := rfl
theorem tws_70 (b : Nat) (g : TS) (h : AH) (v : Int32) : hset (tw b g h) b 70 (.int v) = tw b (twu g 70 0 0 v) h := tw_set0 b g h 70 v rfl
theorem twf_10 (b : Nat) (g : TS) : twf b g 10 = .ref (b + 1) := rfl
theorem twg_10 (b : Nat) (g : TS) (h : AH) : hcl (tw b g h) (b + 1) = (100, 400, fun j => .int (g 10 0 j)) := tw_in b g h 1 (by decide)
theorem tws_10 (b : Nat) (g : TS) (h : AH) (j : Nat) (v : Int32) : hset (tw b g h) (b + 1) j (.int v) = tw b (twu g 10 0 j v) h := tw_setA b g h 1 j v (by decide) rfl
theorem twf_11 (b : Nat) (g : TS) : twf b g 11 = .ref (b + 2) := rfl
theorem twg_11 (b : Nat) (g : TS) (h : AH) : hcl (tw b g h) (b + 2) = (106, 5, fun i => .ref (b + (i + 3))) := tw_in b g h 2 (by decide)
theorem twS_11 : ∀ i, i < 5 → i + 3 < 387 ∧ twS (i + 3) = (1, 400, 11, i) := by decide +kernel
theorem twr_11 (b : Nat) (g : TS) (h : AH) (i : Nat) (hi : i < 5) : hcl (tw b g h) (b + (i + 3)) = (100, 400, fun j => .int (g 11 i j)) := by
  rw [tw_in b g h (i + 3) (twS_11 i hi).1]
  unfold twc
  rw [(twS_11 i hi).2]
  rfl
theorem tws_11 (b : Nat) (g : TS) (h : AH) (i j : Nat) (v : Int32) (hi : i < 5) : hset (tw b g h) (b + (i + 3)) j (.int v) = tw b (twu g 11 i j v) h := by
  have e := tw_setA b g h (i + 3) j v (twS_11 i hi).1 (by rw [(twS_11 i hi).2])
  rw [e, (twS_11 i hi).2]
theorem twf_12 (b : Nat) (g : TS) : twf b g 12 = .ref (b + 8) := rfl
theorem twg_12 (b : Nat) (g : TS) (h : AH) : hcl (tw b g h) (b + 8) = (100, 5, fun j => .int (g 12 0 j)) := tw_in b g h 8 (by decide)
theorem tws_12 (b : Nat) (g : TS) (h : AH) (j : Nat) (v : Int32) : hset (tw b g h) (b + 8) j (.int v) = tw b (twu g 12 0 j v) h := tw_setA b g h 8 j v (by decide) rfl
theorem twf_13 (b : Nat) (g : TS) : twf b g 13 = .ref (b + 9) := rfl
theorem twg_13 (b : Nat) (g : TS) (h : AH) : hcl (tw b g h) (b + 9) = (100, 5, fun j => .int (g 13 0 j)) := tw_in b g h 9 (by decide)
theorem tws_13 (b : Nat) (g : TS) (h : AH) (j : Nat) (v : Int32) : hset (tw b g h) (b + 9) j (.int v) = tw b (twu g 13 0 j v) h := tw_setA b g h 9 j v (by decide) rfl
theorem twf_16 (b : Nat) (g : TS) : twf b g 16 = .ref (b + 10) := rfl
theorem twg_16 (b : Nat) (g : TS) (h : AH) : hcl (tw b g h) (b + 10) = (100, 6, fun j => .int (g 16 0 j)) := tw_in b g h 10 (by decide)
theorem tws_16 (b : Nat) (g : TS) (h : AH) (j : Nat) (v : Int32) : hset (tw b g h) (b + 10) j (.int v) = tw b (twu g 16 0 j v) h := tw_setA b g h 10 j v (by decide) rfl
theorem twf_17 (b : Nat) (g : TS) : twf b g 17 = .ref (b + 11) := rfl
theorem twg_17 (b : Nat) (g : TS) (h : AH) : hcl (tw b g h) (b + 11) = (100, 12, fun j => .int (g 17 0 j)) := tw_in b g h 11 (by decide)
theorem tws_17 (b : Nat) (g : TS) (h : AH) (j : Nat) (v : Int32) : hset (tw b g h) (b + 11) j (.int v) = tw b (twu g 17 0 j v) h := tw_setA b g h 11 j v (by decide) rfl
theorem twf_18 (b : Nat) (g : TS) : twf b g 18 = .ref (b + 12) := rfl
theorem twg_18 (b : Nat) (g : TS) (h : AH) : hcl (tw b g h) (b + 12) = (100, 4, fun j => .int (g 18 0 j)) := tw_in b g h 12 (by decide)
theorem tws_18 (b : Nat) (g : TS) (h : AH) (j : Nat) (v : Int32) : hset (tw b g h) (b + 12) j (.int v) = tw b (twu g 18 0 j v) h := tw_setA b g h 12 j v (by decide) rfl
theorem twf_19 (b : Nat) (g : TS) : twf b g 19 = .ref (b + 13) := rfl
theorem twg_19 (b : Nat) (g : TS) (h : AH) : hcl (tw b g h) (b + 13) = (100, 4, fun j => .int (g 19 0 j)) := tw_in b g h 13 (by decide)
theorem tws_19 (b : Nat) (g : TS) (h : AH) (j : Nat) (v : Int32) : hset (tw b g h) (b + 13) j (.int v) = tw b (twu g 19 0 j v) h := tw_setA b g h 13 j v (by decide) rfl
theorem twf_26 (b : Nat) (g : TS) : twf b g 26 = .ref (b + 14) := rfl
theorem twg_26 (b : Nat) (g : TS) (h : AH) : hcl (tw b g h) (b + 14) = (106, 20, fun i => .ref (b + (i + 15))) := tw_in b g h 14 (by decide)
theorem twS_26 : ∀ i, i < 20 → i + 15 < 387 ∧ twS (i + 15) = (1, 3, 26, i) := by decide +kernel
theorem twr_26 (b : Nat) (g : TS) (h : AH) (i : Nat) (hi : i < 20) : hcl (tw b g h) (b + (i + 15)) = (100, 3, fun j => .int (g 26 i j)) := by
  rw [tw_in b g h (i + 15) (twS_26 i hi).1]
  unfold twc
  rw [(twS_26 i hi).2]
  rfl
theorem tws_26 (b : Nat) (g : TS) (h : AH) (i j : Nat) (v : Int32) (hi : i < 20) : hset (tw b g h) (b + (i + 15)) j (.int v) = tw b (twu g 26 i j v) h := by
  have e := tw_setA b g h (i + 15) j v (twS_26 i hi).1 (by rw [(twS_26 i hi).2])
  rw [e, (twS_26 i hi).2]
theorem twf_45 (b : Nat) (g : TS) : twf b g 45 = .ref (b + 35) := rfl
theorem twg_45 (b : Nat) (g : TS) (h : AH) : hcl (tw b g h) (b + 35) = (106, 12, fun i => .ref (b + (i + 36))) := tw_in b g h 35 (by decide)
theorem twS_45 : ∀ i, i < 12 → i + 36 < 387 ∧ twS (i + 36) = (1, 7, 45, i) := by decide +kernel
theorem twr_45 (b : Nat) (g : TS) (h : AH) (i : Nat) (hi : i < 12) : hcl (tw b g h) (b + (i + 36)) = (100, 7, fun j => .int (g 45 i j)) := by
  rw [tw_in b g h (i + 36) (twS_45 i hi).1]
  unfold twc
  rw [(twS_45 i hi).2]
  rfl
theorem tws_45 (b : Nat) (g : TS) (h : AH) (i j : Nat) (v : Int32) (hi : i < 12) : hset (tw b g h) (b + (i + 36)) j (.int v) = tw b (twu g 45 i j v) h := by
  have e := tw_setA b g h (i + 36) j v (twS_45 i hi).1 (by rw [(twS_45 i hi).2])
  rw [e, (twS_45 i hi).2]
theorem twf_46 (b : Nat) (g : TS) : twf b g 46 = .ref (b + 48) := rfl
theorem twg_46 (b : Nat) (g : TS) (h : AH) : hcl (tw b g h) (b + 48) = (106, 10, fun i => .ref (b + (i + 49))) := tw_in b g h 48 (by decide)
theorem twS_46 : ∀ i, i < 10 → i + 49 < 387 ∧ twS (i + 49) = (1, 8, 46, i) := by decide +kernel
theorem twr_46 (b : Nat) (g : TS) (h : AH) (i : Nat) (hi : i < 10) : hcl (tw b g h) (b + (i + 49)) = (100, 8, fun j => .int (g 46 i j)) := by
  rw [tw_in b g h (i + 49) (twS_46 i hi).1]
  unfold twc
  rw [(twS_46 i hi).2]
  rfl
theorem tws_46 (b : Nat) (g : TS) (h : AH) (i j : Nat) (v : Int32) (hi : i < 10) : hset (tw b g h) (b + (i + 49)) j (.int v) = tw b (twu g 46 i j v) h := by
  have e := tw_setA b g h (i + 49) j v (twS_46 i hi).1 (by rw [(twS_46 i hi).2])
  rw [e, (twS_46 i hi).2]
theorem twf_47 (b : Nat) (g : TS) : twf b g 47 = .ref (b + 59) := rfl
theorem twg_47 (b : Nat) (g : TS) (h : AH) : hcl (tw b g h) (b + 59) = (100, 40, fun j => .int (g 47 0 j)) := tw_in b g h 59 (by decide)
theorem tws_47 (b : Nat) (g : TS) (h : AH) (j : Nat) (v : Int32) : hset (tw b g h) (b + 59) j (.int v) = tw b (twu g 47 0 j v) h := tw_setA b g h 59 j v (by decide) rfl
theorem twf_48 (b : Nat) (g : TS) : twf b g 48 = .ref (b + 60) := rfl
theorem twg_48 (b : Nat) (g : TS) (h : AH) : hcl (tw b g h) (b + 60) = (100, 40, fun j => .int (g 48 0 j)) := tw_in b g h 60 (by decide)
theorem tws_48 (b : Nat) (g : TS) (h : AH) (j : Nat) (v : Int32) : hset (tw b g h) (b + 60) j (.int v) = tw b (twu g 48 0 j v) h := tw_setA b g h 60 j v (by decide) rfl
theorem twf_49 (b : Nat) (g : TS) : twf b g 49 = .ref (b + 61) := rfl
theorem twg_49 (b : Nat) (g : TS) (h : AH) : hcl (tw b g h) (b + 61) = (106, 200, fun i => .ref (b + (i + 62))) := tw_in b g h 61 (by decide)
theorem twS_49 : ∀ i, i < 200 → i + 62 < 387 ∧ twS (i + 62) = (1, 9, 49, i) := by decide +kernel
theorem twr_49 (b : Nat) (g : TS) (h : AH) (i : Nat) (hi : i < 200) : hcl (tw b g h) (b + (i + 62)) = (100, 9, fun j => .int (g 49 i j)) := by
  rw [tw_in b g h (i + 62) (twS_49 i hi).1]
  unfold twc
  rw [(twS_49 i hi).2]
  rfl
theorem tws_49 (b : Nat) (g : TS) (h : AH) (i j : Nat) (v : Int32) (hi : i < 200) : hset (tw b g h) (b + (i + 62)) j (.int v) = tw b (twu g 49 i j v) h := by
  have e := tw_setA b g h (i + 62) j v (twS_49 i hi).1 (by rw [(twS_49 i hi).2])
  rw [e, (twS_49 i hi).2]
theorem twf_50 (b : Nat) (g : TS) : twf b g 50 = .ref (b + 262) := rfl
theorem twg_50 (b : Nat) (g : TS) (h : AH) : hcl (tw b g h) (b + 262) = (106, 20, fun i => .ref (b + (i + 263))) := tw_in b g h 262 (by decide)
theorem twS_50 : ∀ i, i < 20 → i + 263 < 387 ∧ twS (i + 263) = (1, 5, 50, i) := by decide +kernel
theorem twr_50 (b : Nat) (g : TS) (h : AH) (i : Nat) (hi : i < 20) : hcl (tw b g h) (b + (i + 263)) = (100, 5, fun j => .int (g 50 i j)) := by
  rw [tw_in b g h (i + 263) (twS_50 i hi).1]
  unfold twc
  rw [(twS_50 i hi).2]
  rfl
theorem tws_50 (b : Nat) (g : TS) (h : AH) (i j : Nat) (v : Int32) (hi : i < 20) : hset (tw b g h) (b + (i + 263)) j (.int v) = tw b (twu g 50 i j v) h := by
  have e := tw_setA b g h (i + 263) j v (twS_50 i hi).1 (by rw [(twS_50 i hi).2])
  rw [e, (twS_50 i hi).2]
theorem twf_51 (b : Nat) (g : TS) : twf b g 51 = .ref (b + 283) := rfl
theorem twg_51 (b : Nat) (g : TS) (h : AH) : hcl (tw b g h) (b + 283) = (100, 4, fun j => .int (g 51 0 j)) := tw_in b g h 283 (by decide)
theorem tws_51 (b : Nat) (g : TS) (h : AH) (j : Nat) (v : Int32) : hset (tw b g h) (b + 283) j (.int v) = tw b (twu g 51 0 j v) h := tw_setA b g h 283 j v (by decide) rfl
theorem twf_52 (b : Nat) (g : TS) : twf b g 52 = .ref (b + 284) := rfl
theorem twg_52 (b : Nat) (g : TS) (h : AH) : hcl (tw b g h) (b + 284) = (100, 12, fun j => .int (g 52 0 j)) := tw_in b g h 284 (by decide)
theorem tws_52 (b : Nat) (g : TS) (h : AH) (j : Nat) (v : Int32) : hset (tw b g h) (b + 284) j (.int v) = tw b (twu g 52 0 j v) h := tw_setA b g h 284 j v (by decide) rfl
theorem twf_53 (b : Nat) (g : TS) : twf b g 53 = .ref (b + 285) := rfl
theorem twg_53 (b : Nat) (g : TS) (h : AH) : hcl (tw b g h) (b + 285) = (106, 24, fun i => .ref (b + (i + 286))) := tw_in b g h 285 (by decide)
theorem twS_53 : ∀ i, i < 24 → i + 286 < 387 ∧ twS (i + 286) = (1, 3, 53, i) := by decide +kernel
theorem twr_53 (b : Nat) (g : TS) (h : AH) (i : Nat) (hi : i < 24) : hcl (tw b g h) (b + (i + 286)) = (100, 3, fun j => .int (g 53 i j)) := by
  rw [tw_in b g h (i + 286) (twS_53 i hi).1]
  unfold twc
  rw [(twS_53 i hi).2]
  rfl
theorem tws_53 (b : Nat) (g : TS) (h : AH) (i j : Nat) (v : Int32) (hi : i < 24) : hset (tw b g h) (b + (i + 286)) j (.int v) = tw b (twu g 53 i j v) h := by
  have e := tw_setA b g h (i + 286) j v (twS_53 i hi).1 (by rw [(twS_53 i hi).2])
  rw [e, (twS_53 i hi).2]
theorem twf_54 (b : Nat) (g : TS) : twf b g 54 = .ref (b + 310) := rfl
theorem twg_54 (b : Nat) (g : TS) (h : AH) : hcl (tw b g h) (b + 310) = (106, 12, fun i => .ref (b + (i + 311))) := tw_in b g h 310 (by decide)
theorem twS_54 : ∀ i, i < 12 → i + 311 < 387 ∧ twS (i + 311) = (1, 2, 54, i) := by decide +kernel
theorem twr_54 (b : Nat) (g : TS) (h : AH) (i : Nat) (hi : i < 12) : hcl (tw b g h) (b + (i + 311)) = (100, 2, fun j => .int (g 54 i j)) := by
  rw [tw_in b g h (i + 311) (twS_54 i hi).1]
  unfold twc
  rw [(twS_54 i hi).2]
  rfl
theorem tws_54 (b : Nat) (g : TS) (h : AH) (i j : Nat) (v : Int32) (hi : i < 12) : hset (tw b g h) (b + (i + 311)) j (.int v) = tw b (twu g 54 i j v) h := by
  have e := tw_setA b g h (i + 311) j v (twS_54 i hi).1 (by rw [(twS_54 i hi).2])
  rw [e, (twS_54 i hi).2]
theorem twf_55 (b : Nat) (g : TS) : twf b g 55 = .ref (b + 323) := rfl
theorem twg_55 (b : Nat) (g : TS) (h : AH) : hcl (tw b g h) (b + 323) = (106, 10, fun i => .ref (b + (i + 324))) := tw_in b g h 323 (by decide)
theorem twS_55 : ∀ i, i < 10 → i + 324 < 387 ∧ twS (i + 324) = (1, 55, 55, i) := by decide +kernel
theorem twr_55 (b : Nat) (g : TS) (h : AH) (i : Nat) (hi : i < 10) : hcl (tw b g h) (b + (i + 324)) = (100, 55, fun j => .int (g 55 i j)) := by
  rw [tw_in b g h (i + 324) (twS_55 i hi).1]
  unfold twc
  rw [(twS_55 i hi).2]
  rfl
theorem tws_55 (b : Nat) (g : TS) (h : AH) (i j : Nat) (v : Int32) (hi : i < 10) : hset (tw b g h) (b + (i + 324)) j (.int v) = tw b (twu g 55 i j v) h := by
  have e := tw_setA b g h (i + 324) j v (twS_55 i hi).1 (by rw [(twS_55 i hi).2])
  rw [e, (twS_55 i hi).2]
theorem twf_56 (b : Nat) (g : TS) : twf b g 56 = .ref (b + 334) := rfl
theorem twg_56 (b : Nat) (g : TS) (h : AH) : hcl (tw b g h) (b + 334) = (106, 7, fun i => .ref (b + (i + 335))) := tw_in b g h 334 (by decide)
theorem twS_56 : ∀ i, i < 7 → i + 335 < 387 ∧ twS (i + 335) = (1, 4, 56, i) := by decide +kernel
theorem twr_56 (b : Nat) (g : TS) (h : AH) (i : Nat) (hi : i < 7) : hcl (tw b g h) (b + (i + 335)) = (100, 4, fun j => .int (g 56 i j)) := by
  rw [tw_in b g h (i + 335) (twS_56 i hi).1]
  unfold twc
  rw [(twS_56 i hi).2]
  rfl
theorem tws_56 (b : Nat) (g : TS) (h : AH) (i j : Nat) (v : Int32) (hi : i < 7) : hset (tw b g h) (b + (i + 335)) j (.int v) = tw b (twu g 56 i j v) h := by
  have e := tw_setA b g h (i + 335) j v (twS_56 i hi).1 (by rw [(twS_56 i hi).2])
  rw [e, (twS_56 i hi).2]
theorem twf_57 (b : Nat) (g : TS) : twf b g 57 = .ref (b + 342) := rfl
theorem twg_57 (b : Nat) (g : TS) (h : AH) : hcl (tw b g h) (b + 342) = (106, 6, fun i => .ref (b + (i + 343))) := tw_in b g h 342 (by decide)
theorem twS_57 : ∀ i, i < 6 → i + 343 < 387 ∧ twS (i + 343) = (1, 2, 57, i) := by decide +kernel
theorem twr_57 (b : Nat) (g : TS) (h : AH) (i : Nat) (hi : i < 6) : hcl (tw b g h) (b + (i + 343)) = (100, 2, fun j => .int (g 57 i j)) := by
  rw [tw_in b g h (i + 343) (twS_57 i hi).1]
  unfold twc
  rw [(twS_57 i hi).2]
  rfl
theorem tws_57 (b : Nat) (g : TS) (h : AH) (i j : Nat) (v : Int32) (hi : i < 6) : hset (tw b g h) (b + (i + 343)) j (.int v) = tw b (twu g 57 i j v) h := by
  have e := tw_setA b g h (i + 343) j v (twS_57 i hi).1 (by rw [(twS_57 i hi).2])
  rw [e, (twS_57 i hi).2]
theorem twf_58 (b : Nat) (g : TS) : twf b g 58 = .ref (b + 349) := rfl
theorem twg_58 (b : Nat) (g : TS) (h : AH) : hcl (tw b g h) (b + 349) = (106, 20, fun i => .ref (b + (i + 350))) := tw_in b g h 349 (by decide)
theorem twS_58 : ∀ i, i < 20 → i + 350 < 387 ∧ twS (i + 350) = (1, 3, 58, i) := by decide +kernel
theorem twr_58 (b : Nat) (g : TS) (h : AH) (i : Nat) (hi : i < 20) : hcl (tw b g h) (b + (i + 350)) = (100, 3, fun j => .int (g 58 i j)) := by
  rw [tw_in b g h (i + 350) (twS_58 i hi).1]
  unfold twc
  rw [(twS_58 i hi).2]
  rfl
theorem tws_58 (b : Nat) (g : TS) (h : AH) (i j : Nat) (v : Int32) (hi : i < 20) : hset (tw b g h) (b + (i + 350)) j (.int v) = tw b (twu g 58 i j v) h := by
  have e := tw_setA b g h (i + 350) j v (twS_58 i hi).1 (by rw [(twS_58 i hi).2])
  rw [e, (twS_58 i hi).2]
theorem twf_59 (b : Nat) (g : TS) : twf b g 59 = .ref (b + 370) := rfl
theorem twg_59 (b : Nat) (g : TS) (h : AH) : hcl (tw b g h) (b + 370) = (100, 6, fun j => .int (g 59 0 j)) := tw_in b g h 370 (by decide)
theorem tws_59 (b : Nat) (g : TS) (h : AH) (j : Nat) (v : Int32) : hset (tw b g h) (b + 370) j (.int v) = tw b (twu g 59 0 j v) h := tw_setA b g h 370 j v (by decide) rfl
theorem twf_60 (b : Nat) (g : TS) : twf b g 60 = .ref (b + 371) := rfl
theorem twg_60 (b : Nat) (g : TS) (h : AH) : hcl (tw b g h) (b + 371) = (100, 7, fun j => .int (g 60 0 j)) := tw_in b g h 371 (by decide)
theorem tws_60 (b : Nat) (g : TS) (h : AH) (j : Nat) (v : Int32) : hset (tw b g h) (b + 371) j (.int v) = tw b (twu g 60 0 j v) h := tw_setA b g h 371 j v (by decide) rfl
theorem twf_61 (b : Nat) (g : TS) : twf b g 61 = .ref (b + 372) := rfl
theorem twg_61 (b : Nat) (g : TS) (h : AH) : hcl (tw b g h) (b + 372) = (100, 7, fun j => .int (g 61 0 j)) := tw_in b g h 372 (by decide)
theorem tws_61 (b : Nat) (g : TS) (h : AH) (j : Nat) (v : Int32) : hset (tw b g h) (b + 372) j (.int v) = tw b (twu g 61 0 j v) h := tw_setA b g h 372 j v (by decide) rfl
theorem twf_63 (b : Nat) (g : TS) : twf b g 63 = .ref (b + 373) := rfl
theorem twg_63 (b : Nat) (g : TS) (h : AH) : hcl (tw b g h) (b + 373) = (100, 4, fun j => .int (g 63 0 j)) := tw_in b g h 373 (by decide)
theorem tws_63 (b : Nat) (g : TS) (h : AH) (j : Nat) (v : Int32) : hset (tw b g h) (b + 373) j (.int v) = tw b (twu g 63 0 j v) h := tw_setA b g h 373 j v (by decide) rfl
theorem twf_64 (b : Nat) (g : TS) : twf b g 64 = .ref (b + 374) := rfl
theorem twg_64 (b : Nat) (g : TS) (h : AH) : hcl (tw b g h) (b + 374) = (100, 4, fun j => .int (g 64 0 j)) := tw_in b g h 374 (by decide)
theorem tws_64 (b : Nat) (g : TS) (h : AH) (j : Nat) (v : Int32) : hset (tw b g h) (b + 374) j (.int v) = tw b (twu g 64 0 j v) h := tw_setA b g h 374 j v (by decide) rfl
theorem twf_67 (b : Nat) (g : TS) : twf b g 67 = .ref (b + 375) := rfl
theorem twg_67 (b : Nat) (g : TS) (h : AH) : hcl (tw b g h) (b + 375) = (106, 7, fun i => .ref (b + (i + 376))) := tw_in b g h 375 (by decide)
theorem twS_67 : ∀ i, i < 7 → i + 376 < 387 ∧ twS (i + 376) = (1, 1024, 67, i) := by decide +kernel
theorem twr_67 (b : Nat) (g : TS) (h : AH) (i : Nat) (hi : i < 7) : hcl (tw b g h) (b + (i + 376)) = (100, 1024, fun j => .int (g 67 i j)) := by
  rw [tw_in b g h (i + 376) (twS_67 i hi).1]
  unfold twc
  rw [(twS_67 i hi).2]
  rfl
theorem tws_67 (b : Nat) (g : TS) (h : AH) (i j : Nat) (v : Int32) (hi : i < 7) : hset (tw b g h) (b + (i + 376)) j (.int v) = tw b (twu g 67 i j v) h := by
  have e := tw_setA b g h (i + 376) j v (twS_67 i hi).1 (by rw [(twS_67 i hi).2])
  rw [e, (twS_67 i hi).2]
theorem twf_68 (b : Nat) (g : TS) : twf b g 68 = .ref (b + 383) := rfl
theorem twg_68 (b : Nat) (g : TS) (h : AH) : hcl (tw b g h) (b + 383) = (106, 3, fun i => .ref (b + (i + 384))) := tw_in b g h 383 (by decide)
theorem twS_68 : ∀ i, i < 3 → i + 384 < 387 ∧ twS (i + 384) = (1, 3000, 68, i) := by decide +kernel
theorem twr_68 (b : Nat) (g : TS) (h : AH) (i : Nat) (hi : i < 3) : hcl (tw b g h) (b + (i + 384)) = (100, 3000, fun j => .int (g 68 i j)) := by
  rw [tw_in b g h (i + 384) (twS_68 i hi).1]
  unfold twc
  rw [(twS_68 i hi).2]
  rfl
theorem tws_68 (b : Nat) (g : TS) (h : AH) (i j : Nat) (v : Int32) (hi : i < 3) : hset (tw b g h) (b + (i + 384)) j (.int v) = tw b (twu g 68 i j v) h := by
  have e := tw_setA b g h (i + 384) j v (twS_68 i hi).1 (by rw [(twS_68 i hi).2])
  rw [e, (twS_68 i hi).2]
