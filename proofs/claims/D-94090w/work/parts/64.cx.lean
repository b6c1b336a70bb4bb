/-! THE CLASS's OWN CELLS (x and its arrays): an overlay of the heap (by mk64.py); gi cell slot, s the state, c the clauses, im the images -/
set_option maxRecDepth 100000
abbrev GI : Type := Nat → Nat → Int32
def giu (g : GI) (c j : Nat) (v : Int32) : GI := fun c1 j1 => if c1 = c ∧ j1 = j then v else g c1 j1
def gir (g : GI) (c : Nat) (f : Nat → Int32) : GI := fun c1 j1 => if c1 = c then f j1 else g c1 j1
theorem giu_at (g : GI) (c j : Nat) (v : Int32) (c1 j1 : Nat) : giu g c j v c1 j1 = if c1 = c ∧ j1 = j then v else g c1 j1 := rfl
theorem gir_at (g : GI) (c : Nat) (f : Nat → Int32) (c1 j1 : Nat) : gir g c f c1 j1 = if c1 = c then f j1 else g c1 j1 := rfl
def NF (b a : Nat) : Prop := a ≠ b ∧ (a < b + 27 ∨ b + 36 ≤ a)
def cxL : Nat → Nat × Nat := fun c => if c = 0 then (1, 23) else if c = 27 then (101, 400) else if c = 28 then (105, 3) else if c = 29 then (100, 6) else if c = 30 then (100, 4) else if c = 31 then (100, 4) else if c = 32 then (100, 7) else if c = 33 then (100, 7) else (100, 6)
def cxf (b : Nat) (gi : GI) (s c : Nat) : Nat → Value := fun k => if k = 0 then .ref s else if k = 1 then .ref (b + 24) else if k = 2 then .ref c else if k = 3 then .ref (b + 26) else if k = 7 then .ref (b + 27) else if k = 8 then .ref (b + 28) else if k = 9 then .ref (b + 29) else if k = 10 then .ref (b + 30) else if k = 11 then .ref (b + 31) else if k = 15 then .ref (b + 32) else if k = 16 then .ref (b + 33) else if k = 20 then .ref (b + 34) else if k = 21 then .ref (b + 35) else .int (gi 0 k)
def cxv (b : Nat) (gi : GI) (s c : Nat) (im : Nat → Value) (q : Nat) : Nat → Value := if q = 0 then cxf b gi s c else if q = 28 then im else fun j => .int (gi q j)
def cx (b : Nat) (gi : GI) (s c : Nat) (im : Nat → Value) (h : AH) : AH := (h.1, h.2.1, fun a => if a = b ∨ (b + 27 ≤ a ∧ a < b + 36) then ((cxL (a - b)).1, (cxL (a - b)).2, cxv b gi s c im (a - b)) else h.2.2.1 a, h.2.2.2)
section CX
variable {b s c : Nat} {gi : GI} {im : Nat → Value} {h : AH}
theorem cx_hsz : hsz (cx b gi s c im h) = hsz h := rfl
theorem cx_hsl : hsl (cx b gi s c im h) = hsl h := rfl
theorem cx_env {k : Nat} : henv (cx b gi s c im h) k = henv h k := rfl
theorem cx_out {a : Nat} (hn : NF b a) : hcl (cx b gi s c im h) a = hcl h a := by
  show (if a = b ∨ (b + 27 ≤ a ∧ a < b + 36) then _ else h.2.2.1 a) = h.2.2.1 a
  unfold NF at hn
  rw [if_neg (by omega)]
theorem cx_in {q : Nat} (hq : q = 0 ∨ (27 ≤ q ∧ q < 36)) : hcl (cx b gi s c im h) (b + q) = ((cxL q).1, (cxL q).2, cxv b gi s c im q) := by
  show (if b + q = b ∨ (b + 27 ≤ b + q ∧ b + q < b + 36) then ((cxL (b + q - b)).1, (cxL (b + q - b)).2, cxv b gi s c im (b + q - b)) else _) = _
  rw [if_pos (by omega), Nat.add_sub_cancel_left]
theorem cx_get0 : hcl (cx b gi s c im h) b = (1, 23, cxf b gi s c) := cx_in (q := 0) (Or.inl rfl)
theorem cx_same {gi' : GI} {s' c' : Nat} {im' : Nat → Value} {H : AH} (h1 : H.1 = h.1) (h2 : H.2.1 = h.2.1) (h3 : H.2.2.2 = h.2.2.2) (h4 : ∀ a, NF b a → hcl H a = hcl h a) (h5 : ∀ q, q = 0 ∨ (27 ≤ q ∧ q < 36) → hcl H (b + q) = ((cxL q).1, (cxL q).2, cxv b gi' s' c' im' q)) : H = cx b gi' s' c' im' h := by
  refine tw_ext h1 h2 (fun a => ?_) h3
  by_cases e : a = b ∨ (b + 27 ≤ a ∧ a < b + 36)
  · obtain ⟨q, rfl⟩ := Nat.exists_eq_add_of_le (show b ≤ a by omega)
    rw [h5 q (by omega), cx_in (by omega)]
  · have hn : NF b a := by unfold NF; omega
    rw [h4 a hn, cx_out hn]
theorem nf_ne {a q : Nat} (hn : NF b a) (hq : q = 0 ∨ (27 ≤ q ∧ q < 36)) : a ≠ b + q := by
  unfold NF at hn
  omega
/-- writing one of the fixed cells -/
theorem cx_w {gi' : GI} {s' c' : Nat} {im' : Nat → Value} {q : Nat} {f : Nat → Value} (hq : q = 0 ∨ (27 ≤ q ∧ q < 36)) (he : cxv b gi' s' c' im' q = f) (ho : ∀ r, r = 0 ∨ (27 ≤ r ∧ r < 36) → r ≠ q → cxv b gi' s' c' im' r = cxv b gi s c im r) : hput (cx b gi s c im h) (b + q) ((cxL q).1, (cxL q).2, f) = cx b gi' s' c' im' h := by
  refine cx_same rfl rfl rfl (fun a hn => ?_) (fun r hr => ?_)
  · rw [hcl_put, if_neg (nf_ne hn hq), cx_out hn]
  · rw [hcl_put]
    by_cases e : r = q
    · rw [e, if_pos rfl, he]
    · rw [if_neg (by omega), cx_in hr, ho r hr e]
theorem cx_ws {gi' : GI} {s' c' : Nat} {im' : Nat → Value} {q j : Nat} {v : Value} (hq : q = 0 ∨ (27 ≤ q ∧ q < 36)) (he : cxv b gi' s' c' im' q = updV (cxv b gi s c im q) j v) (ho : ∀ r, r = 0 ∨ (27 ≤ r ∧ r < 36) → r ≠ q → cxv b gi' s' c' im' r = cxv b gi s c im r) : hset (cx b gi s c im h) (b + q) j v = cx b gi' s' c' im' h := by
  unfold hset
  rw [cx_in hq]
  exact cx_w hq he ho
theorem cx_set_out {a k : Nat} {v : Value} (hn : NF b a) : hset (cx b gi s c im h) a k v = cx b gi s c im (hset h a k v) := by
  refine cx_same rfl rfl rfl (fun e he => ?_) (fun r hr => ?_)
  · rw [hcl_set, hcl_set, cx_out hn, cx_out he]
  · have : b + r ≠ a := fun q => nf_ne hn hr q.symm
    rw [hcl_set, if_neg this, cx_in hr]
theorem cx_put_out {a : Nat} {w : AC} (hn : NF b a) : hput (cx b gi s c im h) a w = cx b gi s c im (hput h a w) := by
  refine cx_same rfl rfl rfl (fun e he => ?_) (fun r hr => ?_)
  · rw [hcl_put, hcl_put, cx_out he]
  · have : b + r ≠ a := fun q => nf_ne hn hr q.symm
    rw [hcl_put, if_neg this, cx_in hr]
theorem cx_new {n : Nat} {w : AC} (hn : b + 36 ≤ hsz h) : hnew (cx b gi s c im h) n w = cx b gi s c im (hnew h n w) := by
  refine cx_same rfl rfl rfl (fun e he => ?_) (fun r hr => ?_)
  · rw [hcl_new, hcl_new, cx_hsz, cx_out he]
  · have : ¬ b + r = hsz h := by omega
    rw [hcl_new, cx_hsz, if_neg this, cx_in hr]
theorem updV_int (g : Nat → Int32) (j : Nat) (v : Int32) : updV (fun j => .int (g j)) j (.int v) = fun q => .int (if q = j then v else g q) := by
  funext q
  unfold updV
  split <;> rfl
theorem cx_wi {q j : Nat} {v : Int32} (hq : 27 ≤ q ∧ q < 36 ∧ q ≠ 28) : hset (cx b gi s c im h) (b + q) j (.int v) = cx b (giu gi q j v) s c im h := by
  refine cx_ws (Or.inr ⟨hq.1, hq.2.1⟩) ?_ (fun r hr hne => ?_)
  · unfold cxv
    rw [if_neg (by omega), if_neg (by omega), if_neg (by omega), if_neg (by omega), updV_int]
    funext z
    unfold giu
    simp
  · unfold cxv
    by_cases e0 : r = 0
    · subst e0
      rw [if_pos rfl, if_pos rfl]
      funext k
      unfold cxf giu
      rw [if_neg (show ¬ (0 = q ∧ k = j) by omega)]
    · rw [if_neg e0, if_neg e0]
      by_cases e1 : r = 28
      · rw [if_pos e1, if_pos e1]
      · rw [if_neg e1, if_neg e1]
        funext z
        unfold giu
        rw [if_neg (show ¬ (r = q ∧ z = j) by omega)]
theorem cx_wr {q n : Nat} {f : Nat → Int32} (hq : 27 ≤ q ∧ q < 36 ∧ q ≠ 28) (hn : n = (cxL q).2) {t : Nat} (ht : t = (cxL q).1) : hput (cx b gi s c im h) (b + q) (t, n, fun j => .int (f j)) = cx b (gir gi q f) s c im h := by
  rw [hn, ht]
  refine cx_w (Or.inr ⟨hq.1, hq.2.1⟩) ?_ (fun r hr hne => ?_)
  · unfold cxv
    rw [if_neg (by omega), if_neg (by omega)]
    funext z
    unfold gir
    simp
  · unfold cxv
    by_cases e0 : r = 0
    · subst e0
      rw [if_pos rfl, if_pos rfl]
      funext k
      unfold cxf gir
      rw [if_neg (show ¬ 0 = q by omega)]
    · rw [if_neg e0, if_neg e0]
      by_cases e1 : r = 28
      · rw [if_pos e1, if_pos e1]
      · rw [if_neg e1, if_neg e1]
        funext z
        unfold gir
        rw [if_neg hne]
theorem cx_w0 {k : Nat} {v : Int32} (hk : k = 4 ∨ k = 5 ∨ k = 6 ∨ k = 12 ∨ k = 13 ∨ k = 14 ∨ k = 17 ∨ k = 18 ∨ k = 19 ∨ k = 22) : hset (cx b gi s c im h) b k (.int v) = cx b (giu gi 0 k v) s c im h := by
  refine cx_ws (q := 0) (Or.inl rfl) ?_ (fun r hr hne => ?_)
  · funext z
    show cxf b (giu gi 0 k v) s c z = updV (cxf b gi s c) k (.int v) z
    unfold updV
    by_cases e : z = k
    · subst e
      rw [if_pos rfl]
      unfold cxf giu
      rcases hk with rfl | rfl | rfl | rfl | rfl | rfl | rfl | rfl | rfl | rfl <;> simp
    · rw [if_neg e]
      unfold cxf giu
      rw [if_neg (show ¬ (0 = 0 ∧ z = k) by omega)]
  · unfold cxv
    rw [if_neg hne, if_neg hne]
    by_cases e1 : r = 28
    · rw [if_pos e1, if_pos e1]
    · rw [if_neg e1, if_neg e1]
      funext z
      unfold giu
      rw [if_neg (show ¬ (r = 0 ∧ z = k) by omega)]
theorem cx_w0s {s' : Nat} : hset (cx b gi s c im h) b 0 (.ref s') = cx b gi s' c im h := by
  refine cx_ws (q := 0) (Or.inl rfl) ?_ (fun r hr hne => ?_)
  · funext z
    show cxf b gi s' c z = updV (cxf b gi s c) 0 (.ref s') z
    unfold updV
    by_cases e : z = 0
    · rw [e]; rfl
    · rw [if_neg e]
      unfold cxf
      rw [if_neg e, if_neg e]
  · unfold cxv
    rw [if_neg hne, if_neg hne]
theorem cx_w0c {c' : Nat} : hset (cx b gi s c im h) b 2 (.ref c') = cx b gi s c' im h := by
  refine cx_ws (q := 0) (Or.inl rfl) ?_ (fun r hr hne => ?_)
  · funext z
    show cxf b gi s c' z = updV (cxf b gi s c) 2 (.ref c') z
    unfold updV
    by_cases e : z = 2
    · rw [e]; rfl
    · rw [if_neg e]
      unfold cxf
      rw [if_neg e, if_neg e]
  · unfold cxv
    rw [if_neg hne, if_neg hne]
theorem cx_w28 {j : Nat} {v : Value} : hset (cx b gi s c im h) (b + 28) j v = cx b gi s c (updV im j v) h := by
  refine cx_ws (q := 28) (Or.inr (by omega)) rfl (fun r hr hne => ?_)
  unfold cxv
  by_cases e0 : r = 0
  · rw [if_pos e0, if_pos e0]
  · rw [if_neg e0, if_neg e0, if_neg hne, if_neg hne]
theorem cx_n {a q : Nat} (hn : NF b a) (hq : 27 ≤ q ∧ q < 36) : (a = b + q) = False := eq_false (nf_ne hn (Or.inr hq))
theorem cxf_0 : cxf b gi s c 0 = .ref s := rfl
theorem cxf_1 : cxf b gi s c 1 = .ref (b + 24) := rfl
theorem cxf_2 : cxf b gi s c 2 = .ref c := rfl
theorem cxf_3 : cxf b gi s c 3 = .ref (b + 26) := rfl
theorem cxf_4 : cxf b gi s c 4 = .int (gi 0 4) := rfl
theorem cxf_5 : cxf b gi s c 5 = .int (gi 0 5) := rfl
theorem cxf_6 : cxf b gi s c 6 = .int (gi 0 6) := rfl
theorem cxf_7 : cxf b gi s c 7 = .ref (b + 27) := rfl
theorem cxf_8 : cxf b gi s c 8 = .ref (b + 28) := rfl
theorem cxf_9 : cxf b gi s c 9 = .ref (b + 29) := rfl
theorem cxf_10 : cxf b gi s c 10 = .ref (b + 30) := rfl
theorem cxf_11 : cxf b gi s c 11 = .ref (b + 31) := rfl
theorem cxf_12 : cxf b gi s c 12 = .int (gi 0 12) := rfl
theorem cxf_13 : cxf b gi s c 13 = .int (gi 0 13) := rfl
theorem cxf_14 : cxf b gi s c 14 = .int (gi 0 14) := rfl
theorem cxf_15 : cxf b gi s c 15 = .ref (b + 32) := rfl
theorem cxf_16 : cxf b gi s c 16 = .ref (b + 33) := rfl
theorem cxf_17 : cxf b gi s c 17 = .int (gi 0 17) := rfl
theorem cxf_18 : cxf b gi s c 18 = .int (gi 0 18) := rfl
theorem cxf_19 : cxf b gi s c 19 = .int (gi 0 19) := rfl
theorem cxf_20 : cxf b gi s c 20 = .ref (b + 34) := rfl
theorem cxf_21 : cxf b gi s c 21 = .ref (b + 35) := rfl
theorem cxf_22 : cxf b gi s c 22 = .int (gi 0 22) := rfl
theorem cxg_27 : hcl (cx b gi s c im h) (b + 27) = (101, 400, fun j => .int (gi 27 j)) := cx_in (q := 27) (Or.inr (by omega))
theorem cxs_27 {j : Nat} {v : Int32} : hset (cx b gi s c im h) (b + 27) j (.int v) = cx b (giu gi 27 j v) s c im h := cx_wi (by omega)
theorem cxg_29 : hcl (cx b gi s c im h) (b + 29) = (100, 6, fun j => .int (gi 29 j)) := cx_in (q := 29) (Or.inr (by omega))
theorem cxs_29 {j : Nat} {v : Int32} : hset (cx b gi s c im h) (b + 29) j (.int v) = cx b (giu gi 29 j v) s c im h := cx_wi (by omega)
theorem cxg_30 : hcl (cx b gi s c im h) (b + 30) = (100, 4, fun j => .int (gi 30 j)) := cx_in (q := 30) (Or.inr (by omega))
theorem cxs_30 {j : Nat} {v : Int32} : hset (cx b gi s c im h) (b + 30) j (.int v) = cx b (giu gi 30 j v) s c im h := cx_wi (by omega)
theorem cxg_31 : hcl (cx b gi s c im h) (b + 31) = (100, 4, fun j => .int (gi 31 j)) := cx_in (q := 31) (Or.inr (by omega))
theorem cxs_31 {j : Nat} {v : Int32} : hset (cx b gi s c im h) (b + 31) j (.int v) = cx b (giu gi 31 j v) s c im h := cx_wi (by omega)
theorem cxg_32 : hcl (cx b gi s c im h) (b + 32) = (100, 7, fun j => .int (gi 32 j)) := cx_in (q := 32) (Or.inr (by omega))
theorem cxs_32 {j : Nat} {v : Int32} : hset (cx b gi s c im h) (b + 32) j (.int v) = cx b (giu gi 32 j v) s c im h := cx_wi (by omega)
theorem cxg_33 : hcl (cx b gi s c im h) (b + 33) = (100, 7, fun j => .int (gi 33 j)) := cx_in (q := 33) (Or.inr (by omega))
theorem cxs_33 {j : Nat} {v : Int32} : hset (cx b gi s c im h) (b + 33) j (.int v) = cx b (giu gi 33 j v) s c im h := cx_wi (by omega)
theorem cxg_34 : hcl (cx b gi s c im h) (b + 34) = (100, 6, fun j => .int (gi 34 j)) := cx_in (q := 34) (Or.inr (by omega))
theorem cxs_34 {j : Nat} {v : Int32} : hset (cx b gi s c im h) (b + 34) j (.int v) = cx b (giu gi 34 j v) s c im h := cx_wi (by omega)
theorem cxg_35 : hcl (cx b gi s c im h) (b + 35) = (100, 6, fun j => .int (gi 35 j)) := cx_in (q := 35) (Or.inr (by omega))
theorem cxs_35 {j : Nat} {v : Int32} : hset (cx b gi s c im h) (b + 35) j (.int v) = cx b (giu gi 35 j v) s c im h := cx_wi (by omega)
theorem cxg_28 : hcl (cx b gi s c im h) (b + 28) = (105, 3, im) := cx_in (q := 28) (Or.inr (by omega))
theorem cxw_4 {v : Int32} : hset (cx b gi s c im h) b 4 (.int v) = cx b (giu gi 0 4 v) s c im h := cx_w0 (by omega)
theorem cxw_5 {v : Int32} : hset (cx b gi s c im h) b 5 (.int v) = cx b (giu gi 0 5 v) s c im h := cx_w0 (by omega)
theorem cxw_6 {v : Int32} : hset (cx b gi s c im h) b 6 (.int v) = cx b (giu gi 0 6 v) s c im h := cx_w0 (by omega)
theorem cxw_12 {v : Int32} : hset (cx b gi s c im h) b 12 (.int v) = cx b (giu gi 0 12 v) s c im h := cx_w0 (by omega)
theorem cxw_13 {v : Int32} : hset (cx b gi s c im h) b 13 (.int v) = cx b (giu gi 0 13 v) s c im h := cx_w0 (by omega)
theorem cxw_14 {v : Int32} : hset (cx b gi s c im h) b 14 (.int v) = cx b (giu gi 0 14 v) s c im h := cx_w0 (by omega)
theorem cxw_17 {v : Int32} : hset (cx b gi s c im h) b 17 (.int v) = cx b (giu gi 0 17 v) s c im h := cx_w0 (by omega)
theorem cxw_18 {v : Int32} : hset (cx b gi s c im h) b 18 (.int v) = cx b (giu gi 0 18 v) s c im h := cx_w0 (by omega)
theorem cxw_19 {v : Int32} : hset (cx b gi s c im h) b 19 (.int v) = cx b (giu gi 0 19 v) s c im h := cx_w0 (by omega)
theorem cxw_22 {v : Int32} : hset (cx b gi s c im h) b 22 (.int v) = cx b (giu gi 0 22 v) s c im h := cx_w0 (by omega)
theorem cpy_int (f g : Nat → Int32) (sp dp n : Nat) : va_cpy (fun j => Value.int (f j)) (fun j => Value.int (g j)) sp dp n = fun j => Value.int (va_cpy f g sp dp n j) := by
  funext k
  unfold va_cpy
  split <;> rfl
end CX
