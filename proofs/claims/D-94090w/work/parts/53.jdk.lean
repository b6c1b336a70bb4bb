/-! THE JDK's METHODS over a heap at large: lists, small mathematics -/
set_option maxRecDepth 100000
set_option maxHeartbeats 40000
theorem hset_tag (h : AH) (a i b : Nat) (v : Value) : (hcl (hset h a i v) b).1 = (hcl h b).1 := by
  rw [hcl_set]
  by_cases e : b = a
  · rw [if_pos e, e]
  · rw [if_neg e]
theorem hset_len (h : AH) (a i b : Nat) (v : Value) : (hcl (hset h a i v) b).2.1 = (hcl h b).2.1 := by
  rw [hcl_set]
  by_cases e : b = a
  · rw [if_pos e, e]
  · rw [if_neg e]
theorem hset_at (h : AH) (a i b : Nat) (v : Value) (k : Nat) : (hcl (hset h a i v) b).2.2 k = if b = a ∧ k = i then v else (hcl h b).2.2 k := by
  rw [hcl_set]
  by_cases e : b = a
  · rw [if_pos e, e]
    unfold updV
    by_cases e2 : k = i
    · simp [e2]
    · simp [e2]
  · rw [if_neg e]
    simp [e]
theorem hnew_tag (h : AH) (n b : Nat) (c : AC) : (hcl (hnew h n c) b).1 = if b = hsz h then c.1 else (hcl h b).1 := by
  rw [hcl_new]
  split <;> rfl
theorem hnew_len (h : AH) (n b : Nat) (c : AC) : (hcl (hnew h n c) b).2.1 = if b = hsz h then c.2.1 else (hcl h b).2.1 := by
  rw [hcl_new]
  split <;> rfl
theorem hnew_at (h : AH) (n b : Nat) (c : AC) (k : Nat) : (hcl (hnew h n c) b).2.2 k = if b = hsz h then c.2.2 k else (hcl h b).2.2 k := by
  rw [hcl_new]
  split <;> rfl
section JDK
variable {d : Nat} {h : AH}
theorem k_checkIndex {i n : Nat} (hi : i < n) (hn : n < 2147483648) : ev d 473 0 [some (.int (ni i)), some (.int (ni n))] [] h = some (.returned (some (.int (ni i))), h) := by
  simp (disch := first | omega | (simp only [seval]; done) | (simp only [seval]; omega)) only [e473_0, e473_1, e473_2, e473_3, e473_3b, e473_6, e265_0, e265_1, e265_4, e265_5, e265_6, e265_9, e265_9b, e265_10, e265_11, e265_15, e265_16, e265_17, kre_some, kre_none, kxo_thr, bnd_ite, ↓reduceIte, List.length_cons, List.length_nil, List.mem_cons, List.not_mem_nil, or_false, or_true, false_or, true_or, true_and, and_true, and_self, false_and, and_false, not_true_eq_false, not_false_eq_true, eq_self, ne_eq, if_true, if_false, bi_eq0, bi_eq1, bi_F, bi_T, ft_byte, ni_lt, ni_le, ni_neg, ni_pos, ni_inj, ni_nat, ni_add, ni_mul, ni_addc, ni_cadd, ni_cmul, ni_ltc, ni_lec, ni_clt, ni_cle, ni_eqc, ni_ceq, on_ni, ni_m1, nlt_t, nlt_f, nle_t, nle_f, neq_f, nw_int, nw_b0, nw_b1, nw_bi, nw_obj, nw_objn, nw_arr, nw_arrn, ft_int, ft_b0, ft_b1, ft_bi, ft_char, ft_obj, ft_objn, ft_arr, ft_arrn, ct_int, ct_ref, ct_null, lc_none, lc_int, lc_ref, lc_null, lc_long, sm_val, vi_int, seval, hset_tag, hset_len, hset_at, hnew_tag, hnew_len, hnew_at, hsz_set, hsz_new]
variable {a e n cap : Nat}
theorem k_size (h1 : (hcl h a).1 = 3) (h3 : (hcl h a).2.2 2 = .int (ni n)) : ev d 175 0 [some (.ref a)] [] h = some (.returned (some (.int (ni n))), h) := by
  simp (disch := first | omega | (simp only [seval]; done) | (simp only [seval]; omega)) only [e175_0, e175_0b, e175_1, e175_4, kre_some, kre_none, kxo_thr, bnd_ite, ↓reduceIte, List.length_cons, List.length_nil, List.mem_cons, List.not_mem_nil, or_false, or_true, false_or, true_or, true_and, and_true, and_self, false_and, and_false, not_true_eq_false, not_false_eq_true, eq_self, ne_eq, if_true, if_false, bi_eq0, bi_eq1, bi_F, bi_T, ft_byte, ni_lt, ni_le, ni_neg, ni_pos, ni_inj, ni_nat, ni_add, ni_mul, ni_addc, ni_cadd, ni_cmul, ni_ltc, ni_lec, ni_clt, ni_cle, ni_eqc, ni_ceq, on_ni, ni_m1, nlt_t, nlt_f, nle_t, nle_f, neq_f, nw_int, nw_b0, nw_b1, nw_bi, nw_obj, nw_objn, nw_arr, nw_arrn, ft_int, ft_b0, ft_b1, ft_bi, ft_char, ft_obj, ft_objn, ft_arr, ft_arrn, ct_int, ct_ref, ct_null, lc_none, lc_int, lc_ref, lc_null, lc_long, sm_val, vi_int, seval, hset_tag, hset_len, hset_at, hnew_tag, hnew_len, hnew_at, hsz_set, hsz_new, h1, h3]
theorem k_get {i v : Nat} (h1 : (hcl h a).1 = 3) (h2 : (hcl h a).2.2 1 = .ref e) (h3 : (hcl h a).2.2 2 = .int (ni n)) (h4 : (hcl h e).1 = 103) (h5 : (hcl h e).2.1 = cap) (hc : n ≤ cap) (hi : i < n) (hn : n < 2147483648) (hv : (hcl h e).2.2 i = .ref v) : ev d 176 0 [some (.ref a), some (.int (ni i))] [] h = some (.returned (some (.ref v)), h) := by
  have hic : i < cap := by omega
  simp (disch := first | omega | (simp only [seval]; done) | (simp only [seval]; omega)) only [e176_0, e176_1, e176_1b, e176_2, e176_5, e176_8, e176_9, e176_9b, e176_10, e176_11, e176_14, e176_14b, e177_0, e177_0b, e177_1, e177_4, e177_5, e177_6, e177_6b, kre_some, kre_none, kxo_thr, bnd_ite, ↓reduceIte, List.length_cons, List.length_nil, List.mem_cons, List.not_mem_nil, or_false, or_true, false_or, true_or, true_and, and_true, and_self, false_and, and_false, not_true_eq_false, not_false_eq_true, eq_self, ne_eq, if_true, if_false, bi_eq0, bi_eq1, bi_F, bi_T, ft_byte, ni_lt, ni_le, ni_neg, ni_pos, ni_inj, ni_nat, ni_add, ni_mul, ni_addc, ni_cadd, ni_cmul, ni_ltc, ni_lec, ni_clt, ni_cle, ni_eqc, ni_ceq, on_ni, ni_m1, nlt_t, nlt_f, nle_t, nle_f, neq_f, nw_int, nw_b0, nw_b1, nw_bi, nw_obj, nw_objn, nw_arr, nw_arrn, ft_int, ft_b0, ft_b1, ft_bi, ft_char, ft_obj, ft_objn, ft_arr, ft_arrn, ct_int, ct_ref, ct_null, lc_none, lc_int, lc_ref, lc_null, lc_long, sm_val, vi_int, seval, hset_tag, hset_len, hset_at, hnew_tag, hnew_len, hnew_at, hsz_set, hsz_new, h1, h2, h3, h4, h5, hv, k_checkIndex hi hn]
theorem k_isEmpty (h1 : (hcl h a).1 = 3) (h3 : (hcl h a).2.2 2 = .int (ni n)) (hn : n < 2147483648) : ev d 184 0 [some (.ref a)] [] h = some (.returned (some (.int (bi (n = 0)))), h) := by
  by_cases c : n = 0
  · simp (disch := first | omega | (simp only [seval]; done) | (simp only [seval]; omega)) only [e184_0, e184_0b, e184_1, e184_4, e184_7, e184_8, e184_11, e184_12, kre_some, kre_none, kxo_thr, bnd_ite, ↓reduceIte, List.length_cons, List.length_nil, List.mem_cons, List.not_mem_nil, or_false, or_true, false_or, true_or, true_and, and_true, and_self, false_and, and_false, not_true_eq_false, not_false_eq_true, eq_self, ne_eq, if_true, if_false, bi_eq0, bi_eq1, bi_F, bi_T, ft_byte, ni_lt, ni_le, ni_neg, ni_pos, ni_inj, ni_nat, ni_add, ni_mul, ni_addc, ni_cadd, ni_cmul, ni_ltc, ni_lec, ni_clt, ni_cle, ni_eqc, ni_ceq, on_ni, ni_m1, nlt_t, nlt_f, nle_t, nle_f, neq_f, nw_int, nw_b0, nw_b1, nw_bi, nw_obj, nw_objn, nw_arr, nw_arrn, ft_int, ft_b0, ft_b1, ft_bi, ft_char, ft_obj, ft_objn, ft_arr, ft_arrn, ct_int, ct_ref, ct_null, lc_none, lc_int, lc_ref, lc_null, lc_long, sm_val, vi_int, seval, hset_tag, hset_len, hset_at, hnew_tag, hnew_len, hnew_at, hsz_set, hsz_new, h1, h3, c, bi_t (show n = 0 from c)]
  · simp (disch := first | omega | (simp only [seval]; done) | (simp only [seval]; omega)) only [e184_0, e184_0b, e184_1, e184_4, e184_7, e184_8, e184_11, e184_12, kre_some, kre_none, kxo_thr, bnd_ite, ↓reduceIte, List.length_cons, List.length_nil, List.mem_cons, List.not_mem_nil, or_false, or_true, false_or, true_or, true_and, and_true, and_self, false_and, and_false, not_true_eq_false, not_false_eq_true, eq_self, ne_eq, if_true, if_false, bi_eq0, bi_eq1, bi_F, bi_T, ft_byte, ni_lt, ni_le, ni_neg, ni_pos, ni_inj, ni_nat, ni_add, ni_mul, ni_addc, ni_cadd, ni_cmul, ni_ltc, ni_lec, ni_clt, ni_cle, ni_eqc, ni_ceq, on_ni, ni_m1, nlt_t, nlt_f, nle_t, nle_f, neq_f, nw_int, nw_b0, nw_b1, nw_bi, nw_obj, nw_objn, nw_arr, nw_arrn, ft_int, ft_b0, ft_b1, ft_bi, ft_char, ft_obj, ft_objn, ft_arr, ft_arrn, ct_int, ct_ref, ct_null, lc_none, lc_int, lc_ref, lc_null, lc_long, sm_val, vi_int, seval, hset_tag, hset_len, hset_at, hnew_tag, hnew_len, hnew_at, hsz_set, hsz_new, h1, h3, c, bi_f c]
/-- room for one more -/
theorem k_add0 {v : Nat} {mc : Int32} (hae : a ≠ e) (h0 : (hcl h a).2.2 0 = .int mc) (h1 : (hcl h a).1 = 3) (h2 : (hcl h a).2.2 1 = .ref e) (h3 : (hcl h a).2.2 2 = .int (ni n)) (h4 : (hcl h e).1 = 103) (h5 : (hcl h e).2.1 = cap) (hc : n < cap) (hn : cap < 2147483648) (hv : (hcl h v).1 ∈ es3) :
    ev d 179 0 [some (.ref a), some (.ref v)] [] h = some (.returned (some (.int 1)), hset (hset (hset h a 0 (.int (mc + 1))) e n (.ref v)) a 2 (.int (ni (n + 1)))) := by
  have hne : ¬ n = cap := by omega
  simp (disch := first | omega | (simp only [seval]; done) | (simp only [seval]; omega)) only [e179_0, e179_0b, e179_1, e179_2, e179_5, e179_6, e179_7, e179_10, e179_10b, e179_11, e179_11b, e179_12, e179_12b, e179_13, e179_16, e179_16b, e179_17, e179_20, e179_23, e179_24, e180_0, e180_1, e180_1b, e180_2, e180_3, e180_6, e180_6b, e180_7, e180_10, e180_10b, e180_11, e180_11b, e180_12, e180_13, e180_13b, e180_14, e180_14b, e180_15, e180_15b, e180_16, e180_17, e180_18, e180_19, e180_22, kre_some, kre_none, kxo_thr, bnd_ite, ↓reduceIte, List.length_cons, List.length_nil, List.mem_cons, List.not_mem_nil, or_false, or_true, false_or, true_or, true_and, and_true, and_self, false_and, and_false, not_true_eq_false, not_false_eq_true, eq_self, ne_eq, if_true, if_false, bi_eq0, bi_eq1, bi_F, bi_T, ft_byte, ni_lt, ni_le, ni_neg, ni_pos, ni_inj, ni_nat, ni_add, ni_mul, ni_addc, ni_cadd, ni_cmul, ni_ltc, ni_lec, ni_clt, ni_cle, ni_eqc, ni_ceq, on_ni, ni_m1, nlt_t, nlt_f, nle_t, nle_f, neq_f, nw_int, nw_b0, nw_b1, nw_bi, nw_obj, nw_objn, nw_arr, nw_arrn, ft_int, ft_b0, ft_b1, ft_bi, ft_char, ft_obj, ft_objn, ft_arr, ft_arrn, ct_int, ct_ref, ct_null, lc_none, lc_int, lc_ref, lc_null, lc_long, sm_val, vi_int, seval, hset_tag, hset_len, hset_at, hnew_tag, hnew_len, hnew_at, hsz_set, hsz_new, h0, h1, h2, h3, h4, h5, hv, hne]
end JDK
