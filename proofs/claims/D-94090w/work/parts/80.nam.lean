/-! THE CLASS asks of a person on a day: names, clauses -/
set_option maxRecDepth 100000
set_option maxHeartbeats 400000
/-- only six names count -/
def nv6 (ν ν' : NV) : Prop := ∀ k, k < 6 → ν k = ν' k
theorem ExR.dep {om : OM} {h : AH} {ν ν' : NV} (hv : nv6 ν ν') : ∀ {n a : Nat} {F : EV}, ExR om h n a F → F ν = F ν'
  | 0, _, _, e => e.elim
  | n + 1, a, F, e => by
    rcases e with ⟨v, h1, h2, rfl⟩ | ⟨k, hk, h1, h2, rfl⟩ | ⟨c, a1, a2, F1, F2, hc, h1, h2, h3, h4, h5, h6, rfl⟩
    · rfl
    · exact hv k hk
    · show opr c (F1 ν) (F2 ν) = opr c (F1 ν') (F2 ν')
      rw [ExR.dep hv h5, ExR.dep hv h6]
theorem CoR.dep {om : OM} {h : AH} {ν ν' : NV} (hv : nv6 ν ν') : ∀ {n a : Nat} {F : CV}, CoR om h n a F → F ν = F ν'
  | 0, _, _, e => e.elim
  | n + 1, a, F, e => by
    rcases e with ⟨c, a1, a2, F1, F2, hc, h1, h2, h3, h4, h5, h6, rfl⟩ | ⟨a1, C1, h1, h2, h3, rfl⟩ | ⟨w, a1, a2, C1, C2, h1, h2, h3, h4, h5, h6, rfl⟩
    · unfold cmpV
      rw [ExR.dep hv h5, ExR.dep hv h6]
    · show (!C1 ν) = !C1 ν'
      rw [CoR.dep hv h3]
    · show (if w = true then C1 ν || C2 ν else C1 ν && C2 ν) = (if w = true then C1 ν' || C2 ν' else C1 ν' && C2 ν')
      rw [CoR.dep hv h5, CoR.dep hv h6]
def dep6 (z : CLS) : Prop := ∀ ν ν', nv6 ν ν' → z.2.2.1 ν = z.2.2.1 ν' ∧ z.2.2.2.2 ν = z.2.2.2.2 ν'
theorem ClR.dep {om : OM} {h : AH} {a : Nat} {z : CLS} (hz : ClR om h a z) : z.1 ≠ 3 → dep6 z := by
  intro h3 ν ν' hv
  obtain ⟨h1, h2⟩ := hz
  refine ⟨?_, ?_⟩
  · rcases h2 with ⟨_, _, e, _, _, _, _, _, h8⟩ | ⟨_, _, _, _, _, _, e, _, h8⟩ | ⟨_, _, _, e, _, _, _, _, _, h9⟩ | ⟨h2, _⟩
    · rw [h8]
    · exact h8.dep hv
    · rw [h9]
    · exact absurd h2 h3
  · rcases h1 with ⟨_, h1⟩ | ⟨q, _, h1⟩
    · rw [h1]
    · exact h1.dep hv
theorem ClR.depH {om : OM} {h : AH} {a : Nat} {z : CLS} (hz : ClR om h a z) {ν ν' : NV} (hv : nv6 ν ν') : cHolds ν z = cHolds ν' z := by
  obtain ⟨h1, -⟩ := hz
  rcases h1 with ⟨_, h1⟩ | ⟨q, _, h1⟩
  · show z.2.2.2.2 ν = z.2.2.2.2 ν'
    rw [h1]
  · exact h1.dep hv
/-- clauses of which only six names count -/
def dpL (L : List CLS) : Prop := ∀ z ∈ L, (z.1 ≠ 3 → dep6 z) ∧ ∀ ν ν', nv6 ν ν' → cHolds ν z = cHolds ν' z
theorem ClsL.dp {om : OM} {h : AH} {c : Nat} {L : List CLS} (hL : ClsL om h c L) : dpL L := by
  intro z hz
  obtain ⟨i, hi, rfl⟩ := List.getElem_of_mem hz
  obtain ⟨e, _, _, _, _, h9⟩ := hL.2.2.2 (by omega)
  obtain ⟨a, _, h11⟩ := h9 i hi
  exact ⟨h11.dep, fun _ _ hv => h11.depH hv⟩
theorem ClsL.ok {om : OM} {h : AH} {c : Nat} {L : List CLS} (hL : ClsL om h c L) : ∀ z ∈ L, ClOK z := by
  intro z hz
  obtain ⟨i, hi, rfl⟩ := List.getElem_of_mem hz
  obtain ⟨e, _, _, _, _, h9⟩ := hL.2.2.2 (by omega)
  obtain ⟨a, _, h11⟩ := h9 i hi
  exact h11.ok
theorem spLast_dp {ν ν' : NV} (hv : nv6 ν ν') {kd k : Nat} {most : Int32} (hk : kd ≠ 3) : ∀ (L : List CLS) (x : Int32), dpL L → spLast ν kd k most L x = spLast ν' kd k most L x
  | [], _, _ => rfl
  | z :: L, x, hL => by
    rw [spLast_cons, spLast_cons, spLast_dp hv hk L _ (fun y hy => hL y (List.mem_cons_of_mem _ hy))]
    obtain ⟨h1, h2⟩ := hL z List.mem_cons_self
    congr 1
    rw [h2 ν ν' hv]
    by_cases c : cHolds ν' z = true ∧ z.1 = kd ∧ z.2.1 = k
    · rw [if_pos c, if_pos c, (h1 (by omega) ν ν' hv).1]
    · rw [if_neg c, if_neg c]
theorem spNeeds_dp {ν ν' : NV} (hv : nv6 ν ν') : ∀ (L : List CLS) (x : Nat), dpL L → spNeeds ν L x = spNeeds ν' L x
  | [], _, _ => rfl
  | z :: L, x, hL => by
    rw [spNeeds_cons, spNeeds_cons, spNeeds_dp hv L _ (fun y hy => hL y (List.mem_cons_of_mem _ hy)), (hL z List.mem_cons_self).2 ν ν' hv]
theorem isBarC_dp {ν ν' : NV} (hv : nv6 ν ν') {m n : Nat} {z : CLS} (hz : (z.1 ≠ 3 → dep6 z) ∧ ∀ ν ν', nv6 ν ν' → cHolds ν z = cHolds ν' z) : isBarC ν m n z = isBarC ν' m n z := by
  by_cases e : z.1 = 0
  · unfold isBarC
    rw [hz.2 ν ν' hv, (hz.1 (by omega) ν ν' hv).1]
  · rw [isBarC_no e, isBarC_no e]
theorem isRecC_dp {ν ν' : NV} (hv : nv6 ν ν') {m n : Nat} {z : CLS} (hz : (z.1 ≠ 3 → dep6 z) ∧ ∀ ν ν', nv6 ν ν' → cHolds ν z = cHolds ν' z) : isRecC ν m n z = isRecC ν' m n z := by
  by_cases e : z.1 = 5
  · unfold isRecC
    rw [hz.2 ν ν' hv, (hz.1 (by omega) ν ν' hv).1]
  · rw [isRecC_no e, isRecC_no e]
theorem fstC_cg {P Q : CLS → Bool} : ∀ (L : List CLS) (i : Nat), (∀ z ∈ L, P z = Q z) → fstC P L i = fstC Q L i
  | [], _, _ => rfl
  | z :: L, i, h => by
    rw [fstC_cons, fstC_cons, h z List.mem_cons_self, fstC_cg L (i + 1) (fun y hy => h y (List.mem_cons_of_mem _ hy))]
/-- the names are a person's -/
def Nmd (gi gi' : GI) (ν : NV) : Prop := nv6 (gi' 29) ν ∧ ∀ q j, q ≠ 29 → gi' q j = gi q j
section NAM
variable {b id c : Nat} {om : OM} {h : AH} {A : Nat → Nat → Nat} {mc : Nat → Int32} {cap : Nat → Nat} {tv : Nat → Int32} {sg : TS} {gi : GI} {im : Nat → Value} {d : Nat} {n : Nat} {fd : Nat → Int32} {Ls : Nat → List CLS}
theorem c_name2 (hO : OmOK b om) (R : StR om h id A mc cap tv sg) (hR : RuC b om h n fd Ls) {p D : Nat} (hp : p < ln sg 1) (hD : D ≤ 20000) : ∃ gi' c', ev d 58 0 [some (.ref b), some (.ref (A 41 p)), some (.int (ni D)), none] [] (cx b gi (A 0 0) c im h) = some (.returned none, cx b gi' (A 0 0) c' im h) ∧ ClsL om h c' (lawOf Ls (cOn fd n (ni D))) ∧ Nmd gi gi' (nvOf sg p D) := by
  have hD2 : D / 365 < 55 := by omega
  have e365 : ni D / 365 = ni (D / 365) := ni_divc (by omega) (by decide)
  have hn5 := hR.2.2.2.1
  have hv := cOn_val fd n (ni D)
  have hc := fun gi' => c_countsOn (gi := gi') (s := A 0 0) (c := c) (im := im) (d := d) hO hR (ni D)
  generalize cOn fd n (ni D) = x at hv hc
  have hN : ∀ gi' : GI, gi' = giu (giu (giu (giu (giu (giu gi 29 0 (sg 46 p 0)) 29 1 (sg 46 p 1)) 29 2 ((ni D - sg 46 p 2) / 365)) 29 3 (sg 46 p 4)) 29 4 (sg 46 p 3)) 29 5 (sg 55 p (D / 365)) → Nmd gi gi' (nvOf sg p D) := by
    intro gi' e
    subst e
    refine ⟨fun k hk => ?_, fun q j hq => ?_⟩
    · have : k = 0 ∨ k = 1 ∨ k = 2 ∨ k = 3 ∨ k = 4 ∨ k = 5 := by omega
      rcases this with rfl | rfl | rfl | rfl | rfl | rfl <;> rfl
    · simp [giu, hq]
  rcases hv with rfl | ⟨w, hw, rfl⟩
  · refine ⟨_, b + 26, ?_, hR.2.2.2.2.2, hN _ rfl⟩
    simp (disch := first | omega | (simp only [seval]; done) | (simp only [seval]; omega)) only [e58_0, e58_0b, e58_1, e58_4, e58_5, e58_5b, e58_6, e58_9, e58_10, e58_10b, e58_11, e58_14, e58_15, e58_15b, e58_16, e58_19, e58_20, e58_20b, e58_21, e58_24, e58_25, e58_26, e58_26b, e58_27, e58_30, e58_31, e58_34, e58_35, e58_36, e58_36b, e58_37, e58_40, e58_41, e58_41b, e58_42, e58_45, e58_46, e58_46b, e58_47, e58_50, e58_51, e58_51b, e58_52, e58_55, e58_56, e58_56b, e58_57, e58_60, e58_61, e58_61b, e58_62, e58_65, e58_66, e58_69, e58_70, e58_71, e58_72, e58_72b, e58_73, e58_74, e58_77, e58_78, e58_78b, e58_79, e58_80, e58_81, e58_84, e58_84b, e58_85, e58_88, e58_91, e58_91b, e58_92, e58_95, e58_96, e58_99, e58_99b, e58_102, e58_105, e58_108, kre_some, kre_none, kxo_thr, bnd_ite, ↓reduceIte, List.length_cons, List.length_nil, List.mem_cons, List.not_mem_nil, or_false, or_true, false_or, true_or, true_and, and_true, and_self, false_and, and_false, not_true_eq_false, not_false_eq_true, eq_self, ne_eq, if_true, if_false, bi_eq0, bi_eq1, bi_F, bi_T, ft_byte, ni_lt, ni_le, ni_neg, ni_pos, ni_inj, ni_nat, ni_add, ni_mul, ni_addc, ni_cadd, ni_cmul, ni_ltc, ni_lec, ni_clt, ni_cle, ni_eqc, ni_ceq, on_ni, ni_m1, nlt_t, nlt_f, nle_t, nle_f, neq_f, nw_int, nw_b0, nw_b1, nw_bi, nw_obj, nw_objn, nw_arr, nw_arrn, ft_int, ft_b0, ft_b1, ft_bi, ft_char, ft_obj, ft_objn, ft_arr, ft_arrn, ct_int, ct_ref, ct_null, lc_none, lc_int, lc_ref, lc_null, lc_long, sm_val, vi_int, seval, cx_hsz, cx_hsl, cx_env, cx_get0, cx_w0s, cx_w0c, cx_w28, giu_at, cxf_0, cxf_1, cxf_2, cxf_3, cxf_4, cxf_5, cxf_6, cxf_7, cxf_8, cxf_9, cxf_10, cxf_11, cxf_12, cxf_13, cxf_14, cxf_15, cxf_16, cxf_17, cxf_18, cxf_19, cxf_20, cxf_21, cxf_22, cxg_27, cxs_27, cxg_29, cxs_29, cxg_30, cxs_30, cxg_31, cxs_31, cxg_32, cxs_32, cxg_33, cxs_33, cxg_34, cxs_34, cxg_35, cxs_35, cxg_28, cxw_4, cxw_5, cxw_6, cxw_12, cxw_13, cxw_14, cxw_17, cxw_18, cxw_19, cxw_22, rs_t hO R, rs_0 hO R, rs_1 hO R, rs_2 hO R, rs_3 hO R, rs_4 hO R, rs_5 hO R, rs_6 hO R, rs_7 hO R, rs_8 hO R, rs_9 hO R, rs_10 hO R, rs_11 hO R, rs_12 hO R, rs_13 hO R, rs_14 hO R, rs_15 hO R, rs_16 hO R, rs_17 hO R, rs_18 hO R, ra_t hO R, ra_n hO R, ra_v hO R, rk_t hO R, rk_n hO R, rk_v hO R, rl0_t hO R, rl0_1 hO R, rl0_2 hO R, re0_t hO R, re0_0 hO R, re0_1 hO R, re0_2 hO R, re0_3 hO R, rl1_t hO R, rl1_1 hO R, rl1_2 hO R, re1_t hO R, re1_0 hO R, re1_1 hO R, re1_2 hO R, re1_3 hO R, re1_4 hO R, re1_5 hO R, re1_6 hO R, re1_7 hO R, re1_8 hO R, re1_9 hO R, re1_10 hO R, re1_11 hO R, rl2_t hO R, rl2_1 hO R, rl2_2 hO R, re2_t hO R, re2_0 hO R, re2_1 hO R, re2_2 hO R, re2_3 hO R, rl3_t hO R, rl3_1 hO R, rl3_2 hO R, re3_t hO R, re3_0 hO R, re3_1 hO R, re3_2 hO R, rl4_t hO R, rl4_1 hO R, rl4_2 hO R, re4_t hO R, re4_0 hO R, re4_1 hO R, rl5_t hO R, rl5_1 hO R, rl5_2 hO R, re5_t hO R, re5_0 hO R, re5_1 hO R, re5_2 hO R, rl6_t hO R, rl6_1 hO R, rl6_2 hO R, re6_t hO R, re6_0 hO R, re6_1 hO R, re6_2 hO R, re6_3 hO R, re6_4 hO R, re6_5 hO R, rl7_t hO R, rl7_1 hO R, rl7_2 hO R, re7_t hO R, re7_0 hO R, re7_1 hO R, re7_2 hO R, re7_3 hO R, rl8_t hO R, rl8_1 hO R, rl8_2 hO R, re8_t hO R, re8_0 hO R, re8_1 hO R, re8_2 hO R, rl9_t hO R, rl9_1 hO R, rl9_2 hO R, re9_t hO R, re9_0 hO R, re9_1 hO R, rw_t hO R, rw_n hO R, rw_v hO R, rp_t hO R, rp_n hO R, rt_t hO R, rt_n hO R, rt_v hO R, rf_t hO R, rf_n hO R, rf_v hO R, rg_t hO R, rg_n hO R, rg_v hO R, rq_t hO R, rq_0 hO R, rq_1 hO R, rq_2 hO R, rq_3 hO R, rq_4 hO R, rq_5 hO R, e365, hc]
  · have hm : ¬ ni w = -1 := by rw [ni_m1 (by omega)]; exact not_false
    have hrt := fun gi' => c_ruTag (gi := gi') (s := A 0 0) (c := c) (im := im) hO hR
    have e1 : lawOf Ls (ni w) = Ls w := by
      unfold lawOf
      rw [if_neg hm, ni_nat (by omega)]
    have hg := fun gi' => c_ruGet (gi := gi') (s := A 0 0) (c := c) (im := im) (d := d) hO hR hw
    obtain ⟨a, l, k1, k2, k3, k4, k5⟩ := hg (giu (giu (giu (giu (giu (giu gi 29 0 (sg 46 p 0)) 29 1 (sg 46 p 1)) 29 2 ((ni D - sg 46 p 2) / 365)) 29 3 (sg 46 p 4)) 29 4 (sg 46 p 3)) 29 5 (sg 55 p (D / 365)))
    refine ⟨_, l, ?_, e1 ▸ k5, hN _ rfl⟩
    simp (disch := first | omega | (simp only [seval]; done) | (simp only [seval]; omega)) only [e58_0, e58_0b, e58_1, e58_4, e58_5, e58_5b, e58_6, e58_9, e58_10, e58_10b, e58_11, e58_14, e58_15, e58_15b, e58_16, e58_19, e58_20, e58_20b, e58_21, e58_24, e58_25, e58_26, e58_26b, e58_27, e58_30, e58_31, e58_34, e58_35, e58_36, e58_36b, e58_37, e58_40, e58_41, e58_41b, e58_42, e58_45, e58_46, e58_46b, e58_47, e58_50, e58_51, e58_51b, e58_52, e58_55, e58_56, e58_56b, e58_57, e58_60, e58_61, e58_61b, e58_62, e58_65, e58_66, e58_69, e58_70, e58_71, e58_72, e58_72b, e58_73, e58_74, e58_77, e58_78, e58_78b, e58_79, e58_80, e58_81, e58_84, e58_84b, e58_85, e58_88, e58_91, e58_91b, e58_92, e58_95, e58_96, e58_99, e58_99b, e58_102, e58_105, e58_108, kre_some, kre_none, kxo_thr, bnd_ite, ↓reduceIte, List.length_cons, List.length_nil, List.mem_cons, List.not_mem_nil, or_false, or_true, false_or, true_or, true_and, and_true, and_self, false_and, and_false, not_true_eq_false, not_false_eq_true, eq_self, ne_eq, if_true, if_false, bi_eq0, bi_eq1, bi_F, bi_T, ft_byte, ni_lt, ni_le, ni_neg, ni_pos, ni_inj, ni_nat, ni_add, ni_mul, ni_addc, ni_cadd, ni_cmul, ni_ltc, ni_lec, ni_clt, ni_cle, ni_eqc, ni_ceq, on_ni, ni_m1, nlt_t, nlt_f, nle_t, nle_f, neq_f, nw_int, nw_b0, nw_b1, nw_bi, nw_obj, nw_objn, nw_arr, nw_arrn, ft_int, ft_b0, ft_b1, ft_bi, ft_char, ft_obj, ft_objn, ft_arr, ft_arrn, ct_int, ct_ref, ct_null, lc_none, lc_int, lc_ref, lc_null, lc_long, sm_val, vi_int, seval, cx_hsz, cx_hsl, cx_env, cx_get0, cx_w0s, cx_w0c, cx_w28, giu_at, cxf_0, cxf_1, cxf_2, cxf_3, cxf_4, cxf_5, cxf_6, cxf_7, cxf_8, cxf_9, cxf_10, cxf_11, cxf_12, cxf_13, cxf_14, cxf_15, cxf_16, cxf_17, cxf_18, cxf_19, cxf_20, cxf_21, cxf_22, cxg_27, cxs_27, cxg_29, cxs_29, cxg_30, cxs_30, cxg_31, cxs_31, cxg_32, cxs_32, cxg_33, cxs_33, cxg_34, cxs_34, cxg_35, cxs_35, cxg_28, cxw_4, cxw_5, cxw_6, cxw_12, cxw_13, cxw_14, cxw_17, cxw_18, cxw_19, cxw_22, rs_t hO R, rs_0 hO R, rs_1 hO R, rs_2 hO R, rs_3 hO R, rs_4 hO R, rs_5 hO R, rs_6 hO R, rs_7 hO R, rs_8 hO R, rs_9 hO R, rs_10 hO R, rs_11 hO R, rs_12 hO R, rs_13 hO R, rs_14 hO R, rs_15 hO R, rs_16 hO R, rs_17 hO R, rs_18 hO R, ra_t hO R, ra_n hO R, ra_v hO R, rk_t hO R, rk_n hO R, rk_v hO R, rl0_t hO R, rl0_1 hO R, rl0_2 hO R, re0_t hO R, re0_0 hO R, re0_1 hO R, re0_2 hO R, re0_3 hO R, rl1_t hO R, rl1_1 hO R, rl1_2 hO R, re1_t hO R, re1_0 hO R, re1_1 hO R, re1_2 hO R, re1_3 hO R, re1_4 hO R, re1_5 hO R, re1_6 hO R, re1_7 hO R, re1_8 hO R, re1_9 hO R, re1_10 hO R, re1_11 hO R, rl2_t hO R, rl2_1 hO R, rl2_2 hO R, re2_t hO R, re2_0 hO R, re2_1 hO R, re2_2 hO R, re2_3 hO R, rl3_t hO R, rl3_1 hO R, rl3_2 hO R, re3_t hO R, re3_0 hO R, re3_1 hO R, re3_2 hO R, rl4_t hO R, rl4_1 hO R, rl4_2 hO R, re4_t hO R, re4_0 hO R, re4_1 hO R, rl5_t hO R, rl5_1 hO R, rl5_2 hO R, re5_t hO R, re5_0 hO R, re5_1 hO R, re5_2 hO R, rl6_t hO R, rl6_1 hO R, rl6_2 hO R, re6_t hO R, re6_0 hO R, re6_1 hO R, re6_2 hO R, re6_3 hO R, re6_4 hO R, re6_5 hO R, rl7_t hO R, rl7_1 hO R, rl7_2 hO R, re7_t hO R, re7_0 hO R, re7_1 hO R, re7_2 hO R, re7_3 hO R, rl8_t hO R, rl8_1 hO R, rl8_2 hO R, re8_t hO R, re8_0 hO R, re8_1 hO R, re8_2 hO R, rl9_t hO R, rl9_1 hO R, rl9_2 hO R, re9_t hO R, re9_0 hO R, re9_1 hO R, rw_t hO R, rw_n hO R, rw_v hO R, rp_t hO R, rp_n hO R, rt_t hO R, rt_n hO R, rt_v hO R, rf_t hO R, rf_n hO R, rf_v hO R, rg_t hO R, rg_n hO R, rg_v hO R, rq_t hO R, rq_0 hO R, rq_1 hO R, rq_2 hO R, rq_3 hO R, rq_4 hO R, rq_5 hO R, e365, hc, hm, hrt, k1, k2, k4]
theorem c_name (hO : OmOK b om) (R : StR om h id A mc cap tv sg) (hR : RuC b om h n fd Ls) {p D : Nat} (hp : p < ln sg 1) (hD : D ≤ 20000) (ht : sg 27 0 0 = ni D) : ∃ gi' c', ev d 57 0 [some (.ref b), some (.ref (A 41 p))] [] (cx b gi (A 0 0) c im h) = some (.returned none, cx b gi' (A 0 0) c' im h) ∧ ClsL om h c' (lawOf Ls (cOn fd n (ni D))) ∧ Nmd gi gi' (nvOf sg p D) := by
  obtain ⟨gi', c', h1, h2⟩ := c_name2 (gi := gi) (c := c) (im := im) (d := d) hO R hR hp hD
  refine ⟨gi', c', ?_, h2⟩
  simp (disch := first | omega | (simp only [seval]; done) | (simp only [seval]; omega)) only [e57_0, e57_0b, e57_1, e57_1b, e57_2, e57_2b, e57_3, e57_6, e57_9, e57_12, kre_some, kre_none, kxo_thr, bnd_ite, ↓reduceIte, List.length_cons, List.length_nil, List.mem_cons, List.not_mem_nil, or_false, or_true, false_or, true_or, true_and, and_true, and_self, false_and, and_false, not_true_eq_false, not_false_eq_true, eq_self, ne_eq, if_true, if_false, bi_eq0, bi_eq1, bi_F, bi_T, ft_byte, ni_lt, ni_le, ni_neg, ni_pos, ni_inj, ni_nat, ni_add, ni_mul, ni_addc, ni_cadd, ni_cmul, ni_ltc, ni_lec, ni_clt, ni_cle, ni_eqc, ni_ceq, on_ni, ni_m1, nlt_t, nlt_f, nle_t, nle_f, neq_f, nw_int, nw_b0, nw_b1, nw_bi, nw_obj, nw_objn, nw_arr, nw_arrn, ft_int, ft_b0, ft_b1, ft_bi, ft_char, ft_obj, ft_objn, ft_arr, ft_arrn, ct_int, ct_ref, ct_null, lc_none, lc_int, lc_ref, lc_null, lc_long, sm_val, vi_int, seval, cx_hsz, cx_hsl, cx_env, cx_get0, cx_w0s, cx_w0c, cx_w28, giu_at, cxf_0, cxf_1, cxf_2, cxf_3, cxf_4, cxf_5, cxf_6, cxf_7, cxf_8, cxf_9, cxf_10, cxf_11, cxf_12, cxf_13, cxf_14, cxf_15, cxf_16, cxf_17, cxf_18, cxf_19, cxf_20, cxf_21, cxf_22, cxg_27, cxs_27, cxg_29, cxs_29, cxg_30, cxs_30, cxg_31, cxs_31, cxg_32, cxs_32, cxg_33, cxs_33, cxg_34, cxs_34, cxg_35, cxs_35, cxg_28, cxw_4, cxw_5, cxw_6, cxw_12, cxw_13, cxw_14, cxw_17, cxw_18, cxw_19, cxw_22, rs_t hO R, rs_0 hO R, rs_1 hO R, rs_2 hO R, rs_3 hO R, rs_4 hO R, rs_5 hO R, rs_6 hO R, rs_7 hO R, rs_8 hO R, rs_9 hO R, rs_10 hO R, rs_11 hO R, rs_12 hO R, rs_13 hO R, rs_14 hO R, rs_15 hO R, rs_16 hO R, rs_17 hO R, rs_18 hO R, ra_t hO R, ra_n hO R, ra_v hO R, rk_t hO R, rk_n hO R, rk_v hO R, rl0_t hO R, rl0_1 hO R, rl0_2 hO R, re0_t hO R, re0_0 hO R, re0_1 hO R, re0_2 hO R, re0_3 hO R, rl1_t hO R, rl1_1 hO R, rl1_2 hO R, re1_t hO R, re1_0 hO R, re1_1 hO R, re1_2 hO R, re1_3 hO R, re1_4 hO R, re1_5 hO R, re1_6 hO R, re1_7 hO R, re1_8 hO R, re1_9 hO R, re1_10 hO R, re1_11 hO R, rl2_t hO R, rl2_1 hO R, rl2_2 hO R, re2_t hO R, re2_0 hO R, re2_1 hO R, re2_2 hO R, re2_3 hO R, rl3_t hO R, rl3_1 hO R, rl3_2 hO R, re3_t hO R, re3_0 hO R, re3_1 hO R, re3_2 hO R, rl4_t hO R, rl4_1 hO R, rl4_2 hO R, re4_t hO R, re4_0 hO R, re4_1 hO R, rl5_t hO R, rl5_1 hO R, rl5_2 hO R, re5_t hO R, re5_0 hO R, re5_1 hO R, re5_2 hO R, rl6_t hO R, rl6_1 hO R, rl6_2 hO R, re6_t hO R, re6_0 hO R, re6_1 hO R, re6_2 hO R, re6_3 hO R, re6_4 hO R, re6_5 hO R, rl7_t hO R, rl7_1 hO R, rl7_2 hO R, re7_t hO R, re7_0 hO R, re7_1 hO R, re7_2 hO R, re7_3 hO R, rl8_t hO R, rl8_1 hO R, rl8_2 hO R, re8_t hO R, re8_0 hO R, re8_1 hO R, re8_2 hO R, rl9_t hO R, rl9_1 hO R, rl9_2 hO R, re9_t hO R, re9_0 hO R, re9_1 hO R, rw_t hO R, rw_n hO R, rw_v hO R, rp_t hO R, rp_n hO R, rt_t hO R, rt_n hO R, rt_v hO R, rf_t hO R, rf_n hO R, rf_v hO R, rg_t hO R, rg_n hO R, rg_v hO R, rq_t hO R, rq_0 hO R, rq_1 hO R, rq_2 hO R, rq_3 hO R, rq_4 hO R, rq_5 hO R, ht, h1]
end NAM
