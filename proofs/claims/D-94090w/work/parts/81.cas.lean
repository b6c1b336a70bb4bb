/-! THE CLASS asks: life, right, needs, bars -/
set_option maxRecDepth 100000
set_option maxHeartbeats 400000
def Nq (gi gi' : GI) : Prop := ∀ q j, q ≠ 29 → gi' q j = gi q j
theorem Nq.rf (gi : GI) : Nq gi gi := fun _ _ _ => rfl
theorem Nq.tr {a b c : GI} (h1 : Nq a b) (h2 : Nq b c) : Nq a c := fun q j hq => (h2 q j hq).trans (h1 q j hq)
theorem wthn_nn {v most : Int32} (hm : 0 ≤ most) : 0 ≤ wthn v 0 most := by
  unfold wthn
  by_cases c1 : v < 0
  · rw [if_pos c1]
    exact Int32.le_refl 0
  · rw [if_neg c1]
    by_cases c2 : most < v
    · rw [if_pos c2]; exact hm
    · rw [if_neg c2]; exact Int32.not_lt.mp c1
theorem spLast_nn (ν : NV) (kd k : Nat) {most : Int32} (hm : 0 ≤ most) : ∀ (L : List CLS) (x : Int32), (x = -1 ∨ 0 ≤ x) → spLast ν kd k most L x = -1 ∨ 0 ≤ spLast ν kd k most L x
  | [], x, h => h
  | z :: L, x, h => by
    rw [spLast_cons]
    refine spLast_nn ν kd k hm L _ ?_
    split
    · exact Or.inr (wthn_nn hm)
    · exact h
theorem spLast_m0 (ν : NV) (kd k : Nat) {most : Int32} (hm : 0 ≤ most) (L : List CLS) : (if 0 < spLast ν kd k most L (-1) then spLast ν kd k most L (-1) else 0) = spLast ν kd k most L 0 := by
  have h1 := lastC_sp ν kd k most (-1) L none
  have h2 := lastC_sp ν kd k most 0 L none
  simp only at h1 h2
  rw [h1, h2]
  generalize lastC ν kd k L none = o
  match o with
  | none => rfl
  | some z =>
    show (if 0 < wthn (z.2.2.1 ν) 0 most then wthn (z.2.2.1 ν) 0 most else 0) = wthn (z.2.2.1 ν) 0 most
    by_cases c : 0 < wthn (z.2.2.1 ν) 0 most
    · rw [if_pos c]
    · rw [if_neg c]
      exact Int32.le_antisymm (wthn_nn hm) (Int32.not_lt.mp c)
/-- the clauses that count on a day -/
abbrev lw (fd : Nat → Int32) (n : Nat) (Ls : Nat → List CLS) (D : Nat) : List CLS := lawOf Ls (cOn fd n (ni D))
section CAS
variable {b id c : Nat} {om : OM} {h : AH} {A : Nat → Nat → Nat} {mc : Nat → Int32} {cap : Nat → Nat} {tv : Nat → Int32} {sg : TS} {gi : GI} {im : Nat → Value} {d : Nat} {n : Nat} {fd : Nat → Int32} {Ls : Nat → List CLS}
theorem c_lifeOf (hO : OmOK b om) (R : StR om h id A mc cap tv sg) (hR : RuC b om h n fd Ls) {p D k : Nat} (hp : p < ln sg 1) (hD : D ≤ 20000) (ht : sg 27 0 0 = ni D) (hk : k < 4) (hd : 450 ≤ d) : ∃ gi' c', ev d 113 0 [some (.ref b), some (.ref (A 41 p)), some (.int (ni k))] [] (cx b gi (A 0 0) c im h) = some (.returned (some (.int (spLast (nvOf sg p D) 1 k 100000 (lw fd n Ls D) (-1)))), cx b gi' (A 0 0) c' im h) ∧ Nq gi gi' := by
  obtain ⟨gi', c', h1, h2, h3⟩ := c_name (gi := gi) (c := c) (im := im) (d := d) hO R hR hp hD ht
  have h4 := c_valueOf (gi := gi') (s := A 0 0) (im := im) (d := d) hO h2 (most := 100000) (by decide) hk (Or.inl rfl) hd
  rw [show chK 1 = 108 from rfl, spLast_dp h3.1 (by decide) _ _ h2.dp] at h4
  refine ⟨gi', c', ?_, h3.2⟩
  simp (disch := first | omega | (simp only [seval]; done) | (simp only [seval]; omega)) only [e113_0, e113_0b, e113_1, e113_1b, e113_2, e113_5, e113_5b, e113_6, e113_8, e113_9, e113_11, e113_14, kre_some, kre_none, kxo_thr, bnd_ite, ↓reduceIte, List.length_cons, List.length_nil, List.mem_cons, List.not_mem_nil, or_false, or_true, false_or, true_or, true_and, and_true, and_self, false_and, and_false, not_true_eq_false, not_false_eq_true, eq_self, ne_eq, if_true, if_false, bi_eq0, bi_eq1, bi_F, bi_T, ft_byte, ni_lt, ni_le, ni_neg, ni_pos, ni_inj, ni_nat, ni_add, ni_mul, ni_addc, ni_cadd, ni_cmul, ni_ltc, ni_lec, ni_clt, ni_cle, ni_eqc, ni_ceq, on_ni, ni_m1, nlt_t, nlt_f, nle_t, nle_f, neq_f, nw_int, nw_b0, nw_b1, nw_bi, nw_obj, nw_objn, nw_arr, nw_arrn, ft_int, ft_b0, ft_b1, ft_bi, ft_char, ft_obj, ft_objn, ft_arr, ft_arrn, ct_int, ct_ref, ct_null, lc_none, lc_int, lc_ref, lc_null, lc_long, sm_val, vi_int, seval, cx_hsz, cx_hsl, cx_env, cx_get0, cx_w0s, cx_w0c, cx_w28, giu_at, cxf_0, cxf_1, cxf_2, cxf_3, cxf_4, cxf_5, cxf_6, cxf_7, cxf_8, cxf_9, cxf_10, cxf_11, cxf_12, cxf_13, cxf_14, cxf_15, cxf_16, cxf_17, cxf_18, cxf_19, cxf_20, cxf_21, cxf_22, cxg_27, cxs_27, cxg_29, cxs_29, cxg_30, cxs_30, cxg_31, cxs_31, cxg_32, cxs_32, cxg_33, cxs_33, cxg_34, cxs_34, cxg_35, cxs_35, cxg_28, cxw_4, cxw_5, cxw_6, cxw_12, cxw_13, cxw_14, cxw_17, cxw_18, cxw_19, cxw_22, h1, h4]
theorem c_rightOf (hO : OmOK b om) (R : StR om h id A mc cap tv sg) (hR : RuC b om h n fd Ls) {p D : Nat} (hp : p < ln sg 1) (hD : D ≤ 20000) (hd : 450 ≤ d) : ∃ gi' c', ev d 101 0 [some (.ref b), some (.ref (A 41 p)), some (.int (ni D))] [] (cx b gi (A 0 0) c im h) = some (.returned (some (.int (spLast (nvOf sg p D) 2 0 1000000 (lw fd n Ls D) 0))), cx b gi' (A 0 0) c' im h) ∧ Nq gi gi' := by
  obtain ⟨gi', c', h1, h2, h3⟩ := c_name2 (gi := gi) (c := c) (im := im) (d := d) hO R hR hp hD
  have h4 := c_valueOf (gi := gi') (s := A 0 0) (im := im) (d := d) hO h2 (k := 0) (most := 1000000) (by decide) (by omega) (Or.inr (Or.inl rfl)) hd
  have e0 : ni 0 = 0 := rfl
  rw [show chK 2 = 114 from rfl, spLast_dp h3.1 (by decide) _ _ h2.dp, e0] at h4
  refine ⟨gi', c', ?_, h3.2⟩
  simp (disch := first | omega | (simp only [seval]; done) | (simp only [seval]; omega)) only [e101_0, e101_0b, e101_1, e101_1b, e101_2, e101_3, e101_6, e101_7, e101_7b, e101_8, e101_10, e101_11, e101_13, e101_16, e101_19, kre_some, kre_none, kxo_thr, bnd_ite, ↓reduceIte, List.length_cons, List.length_nil, List.mem_cons, List.not_mem_nil, or_false, or_true, false_or, true_or, true_and, and_true, and_self, false_and, and_false, not_true_eq_false, not_false_eq_true, eq_self, ne_eq, if_true, if_false, bi_eq0, bi_eq1, bi_F, bi_T, ft_byte, ni_lt, ni_le, ni_neg, ni_pos, ni_inj, ni_nat, ni_add, ni_mul, ni_addc, ni_cadd, ni_cmul, ni_ltc, ni_lec, ni_clt, ni_cle, ni_eqc, ni_ceq, on_ni, ni_m1, nlt_t, nlt_f, nle_t, nle_f, neq_f, nw_int, nw_b0, nw_b1, nw_bi, nw_obj, nw_objn, nw_arr, nw_arrn, ft_int, ft_b0, ft_b1, ft_bi, ft_char, ft_obj, ft_objn, ft_arr, ft_arrn, ct_int, ct_ref, ct_null, lc_none, lc_int, lc_ref, lc_null, lc_long, sm_val, vi_int, seval, cx_hsz, cx_hsl, cx_env, cx_get0, cx_w0s, cx_w0c, cx_w28, giu_at, cxf_0, cxf_1, cxf_2, cxf_3, cxf_4, cxf_5, cxf_6, cxf_7, cxf_8, cxf_9, cxf_10, cxf_11, cxf_12, cxf_13, cxf_14, cxf_15, cxf_16, cxf_17, cxf_18, cxf_19, cxf_20, cxf_21, cxf_22, cxg_27, cxs_27, cxg_29, cxs_29, cxg_30, cxs_30, cxg_31, cxs_31, cxg_32, cxs_32, cxg_33, cxs_33, cxg_34, cxs_34, cxg_35, cxs_35, cxg_28, cxw_4, cxw_5, cxw_6, cxw_12, cxw_13, cxw_14, cxw_17, cxw_18, cxw_19, cxw_22, h1, h4, spLast_m0 (nvOf sg p D) 2 0 (show (0 : Int32) ≤ 1000000 by decide)]
theorem c_needsOf (hO : OmOK b om) (R : StR om h id A mc cap tv sg) (hR : RuC b om h n fd Ls) {p D : Nat} (hp : p < ln sg 1) (hD : D ≤ 20000) (hd : 450 ≤ d) : ∃ gi' c', ev d 64 0 [some (.ref b), some (.ref (A 41 p)), some (.int (ni D)), none, none] [] (cx b gi (A 0 0) c im h) = some (.returned (some (.int (ni (spNeeds (nvOf sg p D) (lw fd n Ls D) 0)))), cx b gi' (A 0 0) c' im h) ∧ Nq gi gi' := by
  obtain ⟨gi', c', h1, h2, h3⟩ := c_name2 (gi := gi) (c := c) (im := im) (d := d) hO R hR hp hD
  have h4 := c_needsL (gi := gi') (s := A 0 0) (im := im) (d := d) hO h2 hd (v1 := some (.ref (A 41 p))) (v2 := ni D) (lw fd n Ls D).length 0 0 (Nat.zero_add _)
  rw [List.drop_zero, spNeeds_dp h3.1 _ _ h2.dp] at h4
  refine ⟨gi', c', ?_, h3.2⟩
  rw [← h4]
  simp (disch := first | omega | (simp only [seval]; done) | (simp only [seval]; omega)) only [e64_0, e64_0b, e64_1, e64_1b, e64_2, e64_3, e64_6, e64_7, e64_8, e64_9, e64_13, e64_13b, e64_14, e64_17, e64_20, e64_23, e64_23b, e64_24, e64_27, e64_29, e64_32, e64_32b, e64_35, e64_35b, e64_35c, e64_35d, e64_38, e64_39, e64_42, e64_42b, e64_43, e64_46, e64_48, e64_51, e64_51b, e64_54, e64_54b, e64_55, e64_58, e64_58b, e64_58c, e64_58d, e64_61, e64_64, e64_65, e64_66, e64_66b, e64_67, e64_70, e64_72, e64_75, e64_75b, e64_78, e64_78b, e64_78c, e64_78d, e64_81, e64_82, e64_83, e64_84, e64_87, e64_90, e64_91, kre_some, kre_none, kxo_thr, bnd_ite, ↓reduceIte, List.length_cons, List.length_nil, List.mem_cons, List.not_mem_nil, or_false, or_true, false_or, true_or, true_and, and_true, and_self, false_and, and_false, not_true_eq_false, not_false_eq_true, eq_self, ne_eq, if_true, if_false, bi_eq0, bi_eq1, bi_F, bi_T, ft_byte, ni_lt, ni_le, ni_neg, ni_pos, ni_inj, ni_nat, ni_add, ni_mul, ni_addc, ni_cadd, ni_cmul, ni_ltc, ni_lec, ni_clt, ni_cle, ni_eqc, ni_ceq, on_ni, ni_m1, nlt_t, nlt_f, nle_t, nle_f, neq_f, nw_int, nw_b0, nw_b1, nw_bi, nw_obj, nw_objn, nw_arr, nw_arrn, ft_int, ft_b0, ft_b1, ft_bi, ft_char, ft_obj, ft_objn, ft_arr, ft_arrn, ct_int, ct_ref, ct_null, lc_none, lc_int, lc_ref, lc_null, lc_long, sm_val, vi_int, seval, cx_hsz, cx_hsl, cx_env, cx_get0, cx_w0s, cx_w0c, cx_w28, giu_at, cxf_0, cxf_1, cxf_2, cxf_3, cxf_4, cxf_5, cxf_6, cxf_7, cxf_8, cxf_9, cxf_10, cxf_11, cxf_12, cxf_13, cxf_14, cxf_15, cxf_16, cxf_17, cxf_18, cxf_19, cxf_20, cxf_21, cxf_22, cxg_27, cxs_27, cxg_29, cxs_29, cxg_30, cxs_30, cxg_31, cxs_31, cxg_32, cxs_32, cxg_33, cxs_33, cxg_34, cxs_34, cxg_35, cxs_35, cxg_28, cxw_4, cxw_5, cxw_6, cxw_12, cxw_13, cxw_14, cxw_17, cxw_18, cxw_19, cxw_22, h1]
  rfl
theorem c_barOf (hO : OmOK b om) (R : StR om h id A mc cap tv sg) (hR : RuC b om h n fd Ls) {p D k1 k2 : Nat} (hp : p < ln sg 1) (hD : D ≤ 20000) (ht : sg 27 0 0 = ni D) (hk1 : k1 < 12) (hk2 : k2 < 12) (hd : 450 ≤ d) : ∃ gi' c', ev d 104 0 [some (.ref b), some (.ref (A 41 p)), some (.int (ni k1)), some (.int (ni k2)), none] [] (cx b gi (A 0 0) c im h) = some (.returned (some (.int (oni (fstC (isBarC (nvOf sg p D) k1 k2) (lw fd n Ls D) 0)))), cx b gi' (A 0 0) c' im h) ∧ Nq gi gi' := by
  obtain ⟨gi', c', h1, h2, h3⟩ := c_name (gi := gi) (c := c) (im := im) (d := d) hO R hR hp hD ht
  have h4 := c_barL (gi := gi') (s := A 0 0) (im := im) (d := d) hO h2 hd (v1 := some (.ref (A 41 p))) hk1 hk2 (lw fd n Ls D).length 0 (Nat.zero_add _)
  rw [List.drop_zero, fstC_cg _ _ (fun z hz => isBarC_dp h3.1 (h2.dp z hz))] at h4
  refine ⟨gi', c', ?_, h3.2⟩
  rw [← h4]
  simp (disch := first | omega | (simp only [seval]; done) | (simp only [seval]; omega)) only [e104_0, e104_0b, e104_1, e104_1b, e104_2, e104_5, e104_6, e104_10, e104_10b, e104_11, e104_14, e104_17, e104_20, e104_20b, e104_21, e104_24, e104_26, e104_29, e104_29b, e104_32, e104_33, e104_34, e104_34b, e104_35, e104_38, e104_38b, e104_38c, e104_38d, e104_41, e104_44, e104_46, e104_47, e104_50, e104_53, e104_54, kre_some, kre_none, kxo_thr, bnd_ite, ↓reduceIte, List.length_cons, List.length_nil, List.mem_cons, List.not_mem_nil, or_false, or_true, false_or, true_or, true_and, and_true, and_self, false_and, and_false, not_true_eq_false, not_false_eq_true, eq_self, ne_eq, if_true, if_false, bi_eq0, bi_eq1, bi_F, bi_T, ft_byte, ni_lt, ni_le, ni_neg, ni_pos, ni_inj, ni_nat, ni_add, ni_mul, ni_addc, ni_cadd, ni_cmul, ni_ltc, ni_lec, ni_clt, ni_cle, ni_eqc, ni_ceq, on_ni, ni_m1, nlt_t, nlt_f, nle_t, nle_f, neq_f, nw_int, nw_b0, nw_b1, nw_bi, nw_obj, nw_objn, nw_arr, nw_arrn, ft_int, ft_b0, ft_b1, ft_bi, ft_char, ft_obj, ft_objn, ft_arr, ft_arrn, ct_int, ct_ref, ct_null, lc_none, lc_int, lc_ref, lc_null, lc_long, sm_val, vi_int, seval, cx_hsz, cx_hsl, cx_env, cx_get0, cx_w0s, cx_w0c, cx_w28, giu_at, cxf_0, cxf_1, cxf_2, cxf_3, cxf_4, cxf_5, cxf_6, cxf_7, cxf_8, cxf_9, cxf_10, cxf_11, cxf_12, cxf_13, cxf_14, cxf_15, cxf_16, cxf_17, cxf_18, cxf_19, cxf_20, cxf_21, cxf_22, cxg_27, cxs_27, cxg_29, cxs_29, cxg_30, cxs_30, cxg_31, cxs_31, cxg_32, cxs_32, cxg_33, cxs_33, cxg_34, cxs_34, cxg_35, cxs_35, cxg_28, cxw_4, cxw_5, cxw_6, cxw_12, cxw_13, cxw_14, cxw_17, cxw_18, cxw_19, cxw_22, h1]
  rfl
end CAS
