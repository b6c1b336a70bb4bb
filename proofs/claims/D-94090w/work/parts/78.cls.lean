/-! THE CLASS goes through its clauses -/
set_option maxRecDepth 100000
set_option maxHeartbeats 400000
/-- a list of clauses -/
def ClsL (om : OM) (h : AH) (c : Nat) (L : List CLS) : Prop := cel om h c 0 3 ∧ (hcl h c).2.2 2 = .int (ni L.length) ∧ L.length ≤ 20 ∧ (0 < L.length → ∃ e, (hcl h c).2.2 1 = .ref e ∧ cel om h e 0 103 ∧ L.length ≤ (hcl h e).2.1 ∧ (hcl h e).2.1 < 100000 ∧ ∀ i (hi : i < L.length), ∃ a, (hcl h e).2.2 i = .ref a ∧ ClR om h a L[i])
theorem fz_clr {om om' : OM} {h h' : AH} (f : Fz om om' h h') {a : Nat} {z : CLS} (hz : ClR om h a z) : ClR om' h' a z := by
  obtain ⟨h1, h2⟩ := hz
  have hc : ∃ t, cel om h a 0 t := by
    rcases h2 with ⟨-, h2, -⟩ | ⟨-, h2, -⟩ | ⟨-, h2, -⟩ | ⟨-, h2, -⟩ <;> exact ⟨_, h2⟩
  obtain ⟨t, hc⟩ := hc
  have he := (f.cel hc).2
  refine ⟨?_, ?_⟩
  · rcases h1 with h1 | ⟨q, h1, h3⟩
    · exact Or.inl ⟨by rw [he]; exact h1.1, h1.2⟩
    · exact Or.inr ⟨q, by rw [he]; exact h1, h3.kept f⟩
  · rcases h2 with ⟨h1, h2, h3⟩ | ⟨h1, h2, h3, h4, h5, h6, e, h7, h8⟩ | ⟨h1, h2, h3⟩ | ⟨h1, h2, h3⟩
    · exact Or.inl ⟨h1, (f.cel h2).1, by rw [he]; exact h3⟩
    · exact Or.inr (Or.inl ⟨h1, (f.cel h2).1, h3, h4, by rw [he]; exact h5, by rw [he]; exact h6, e, by rw [he]; exact h7, h8.kept f⟩)
    · exact Or.inr (Or.inr (Or.inl ⟨h1, (f.cel h2).1, by rw [he]; exact h3⟩))
    · exact Or.inr (Or.inr (Or.inr ⟨h1, (f.cel h2).1, by rw [he]; exact h3⟩))
theorem fz_cls {om om' : OM} {h h' : AH} (f : Fz om om' h h') {c : Nat} {L : List CLS} (hL : ClsL om h c L) : ClsL om' h' c L := by
  obtain ⟨h1, h2, h3, h4⟩ := hL
  obtain ⟨g1, g2⟩ := f.cel h1
  refine ⟨g1, by rw [g2]; exact h2, h3, fun hl => ?_⟩
  obtain ⟨e, h5, h6, h7, h8, h9⟩ := h4 hl
  obtain ⟨g5, g6⟩ := f.cel h6
  refine ⟨e, by rw [g2]; exact h5, g5, by rw [g6]; exact h7, by rw [g6]; exact h8, fun i hi => ?_⟩
  obtain ⟨a, h10, h11⟩ := h9 i hi
  exact ⟨a, by rw [g6]; exact h10, fz_clr f h11⟩
def lastC (ν : NV) (kd k : Nat) : List CLS → Option CLS → Option CLS
  | [], o => o
  | z :: L, o => lastC ν kd k L (if z.1 = kd ∧ z.2.1 = k ∧ cHolds ν z = true then some z else o)
theorem lastC_cons (ν : NV) (kd k : Nat) (z : CLS) (L : List CLS) (o : Option CLS) : lastC ν kd k (z :: L) o = lastC ν kd k L (if z.1 = kd ∧ z.2.1 = k ∧ cHolds ν z = true then some z else o) := rfl
theorem lastC_sp (ν : NV) (kd k : Nat) (most x0 : Int32) : ∀ (L : List CLS) (o : Option CLS), spLast ν kd k most L (match o with
    | none => x0
    | some z => wthn (z.2.2.1 ν) 0 most) = match lastC ν kd k L o with
    | none => x0
    | some z => wthn (z.2.2.1 ν) 0 most
  | [], o => rfl
  | z :: L, o => by
    rw [spLast_cons, lastC_cons, ← lastC_sp ν kd k most x0 L]
    congr 1
    by_cases c : z.1 = kd ∧ z.2.1 = k ∧ cHolds ν z = true
    · rw [if_pos c, if_pos ⟨c.2.2, c.1, c.2.1⟩]
    · rw [if_neg c, if_neg (fun w => c ⟨w.2.1, w.2.2, w.1⟩)]
theorem lastC_kd (ν : NV) (kd k : Nat) : ∀ (L : List CLS) (o : Option CLS), (∀ z, o = some z → z.1 = kd) → ∀ z, lastC ν kd k L o = some z → z.1 = kd
  | [], o, h, z, e => h z e
  | y :: L, o, h, z, e => by
    rw [lastC_cons] at e
    refine lastC_kd ν kd k L _ (fun w hw => ?_) z e
    by_cases c : y.1 = kd ∧ y.2.1 = k ∧ cHolds ν y = true
    · rw [if_pos c] at hw
      cases hw
      exact c.1
    · rw [if_neg c] at hw
      exact h w hw
/-- the first from i on -/
def fstC (P : CLS → Bool) : List CLS → Nat → Option Nat
  | [], _ => none
  | z :: L, i => if P z = true then some i else fstC P L (i + 1)
theorem wthn_mm {v most : Int32} (hm : 0 ≤ most) : (if 0 < (if v < most then v else most) then (if v < most then v else most) else 0) = wthn v 0 most := by
  unfold wthn
  by_cases c1 : v < 0
  · have c2 : v < most := Int32.lt_of_lt_of_le c1 hm
    have c3 : ¬ 0 < v := fun q => Int32.lt_asymm c1 q
    rw [if_pos c2, if_neg c3, if_pos c1]
  · have c1' : 0 ≤ v := Int32.not_lt.mp c1
    rw [if_neg c1]
    by_cases c2 : v < most
    · have c3 : ¬ most < v := fun q => Int32.lt_asymm c2 q
      rw [if_pos c2, if_neg c3]
      by_cases c4 : 0 < v
      · rw [if_pos c4]
      · rw [if_neg c4]
        exact Int32.le_antisymm c1' (Int32.not_lt.mp c4)
    · have c2' : most ≤ v := Int32.not_lt.mp c2
      rw [if_neg c2]
      by_cases c3 : most < v
      · rw [if_pos c3]
        by_cases c4 : 0 < most
        · rw [if_pos c4]
        · rw [if_neg c4]
          exact Int32.le_antisymm hm (Int32.not_lt.mp c4)
      · have e : v = most := Int32.le_antisymm (Int32.not_lt.mp c3) c2'
        subst e
        rw [if_neg c3]
        by_cases c4 : 0 < v
        · rw [if_pos c4]
        · rw [if_neg c4]
          exact Int32.le_antisymm hm (Int32.not_lt.mp c4)
section CLS
variable {b c s : Nat} {om : OM} {h : AH} {gi : GI} {im : Nat → Value} {d : Nat} {L : List CLS}
theorem c_clSize (hO : OmOK b om) (hC : ClsL om h c L) : ev d 175 0 [some (.ref c)] [] (cx b gi s c im h) = some (.returned (some (.int (ni L.length))), cx b gi s c im h) :=
  k_size (by rw [nfz hO hC.1]; exact hC.1.2.2) (by rw [nfz hO hC.1]; exact hC.2.1)
theorem c_clGet (hO : OmOK b om) (hC : ClsL om h c L) {i : Nat} (hi : i < L.length) : ∃ a, ev d 176 0 [some (.ref c), some (.int (ni i))] [] (cx b gi s c im h) = some (.returned (some (.ref a)), cx b gi s c im h) ∧ ClR om h a L[i] ∧ ((hcl (cx b gi s c im h) a).1 = 8 ∨ (hcl (cx b gi s c im h) a).1 = 9 ∨ (hcl (cx b gi s c im h) a).1 = 13 ∨ (hcl (cx b gi s c im h) a).1 = 14) := by
  obtain ⟨h1, h2, h3, h4⟩ := hC
  obtain ⟨e, h5, h6, h7, h8, h9⟩ := h4 (by omega)
  obtain ⟨a, h10, h11⟩ := h9 i hi
  refine ⟨a, k_get (e := e) (n := L.length) (by rw [nfz hO h1]; exact h1.2.2) (by rw [nfz hO h1]; exact h5) (by rw [nfz hO h1]; exact h2) (by rw [nfz hO h6]; exact h6.2.2) rfl (by rw [nfz hO h6]; exact h7) hi (by omega) (by rw [nfz hO h6]; exact h10), h11, ?_⟩
  obtain ⟨t, t1, t2⟩ := clr_tag (gi := gi) (s := s) (c := c) (im := im) hO h11
  rw [t1]
  omega
def RelL (om : OM) (h : AH) (r : Value) (o : Option CLS) : Prop := match o with
  | none => r = .null
  | some z => ∃ a, r = .ref a ∧ ClR om h a z
theorem RelL.lc {r : Value} {o : Option CLS} (hr : RelL om h r o) : lclr (some r) = some r := by
  match o, hr with
  | none, hr =>
    have hr' : r = .null := hr
    rw [hr']
    rfl
  | some z, ⟨a, hr, _⟩ =>
    rw [hr]
    rfl
theorem c_clTag (hO : OmOK b om) (hC : ClsL om h c L) : (hcl (cx b gi s c im h) c).1 = 3 := by rw [nfz hO hC.1]; exact hC.1.2.2
theorem c_lastL (hO : OmOK b om) (hC : ClsL om h c L) {kd k : Nat} (hk : k < 4) (hkd : kd = 1 ∨ kd = 2 ∨ kd = 4 ∨ kd = 6) (hd : 450 ≤ d) : ∀ (n i : Nat) (r : Value) (o : Option CLS), i + n = L.length → RelL om h r o → ∃ r', ev d 61 5 [some (.ref b), some (.int (chK kd)), some (.int (ni k)), some r, some (.int (ni i))] [] (cx b gi s c im h) = some (.returned (some r'), cx b gi s c im h) ∧ RelL om h r' (lastC (gi 29) kd k (L.drop i) o)
  | 0, i, r, o, hi, hr => by
    have hsz := c_clSize (gi := gi) (s := s) (im := im) (d := d) hO hC
    have hL := hC.2.2.1
    have h3 := c_clTag (gi := gi) (s := s) (im := im) hO hC
    have hlc := hr.lc
    rw [List.drop_of_length_le (by omega)]
    refine ⟨r, ?_, hr⟩
    rw [e61_5]
    have e : i = L.length := by omega
    subst e
    match o, hr with
    | none, hr =>
      have hr' : r = .null := hr
      rw [hr']
      simp (disch := first | omega | (simp only [seval]; done) | (simp only [seval]; omega)) only [e61_0, e61_1, e61_1b, e61_2, e61_3, e61_7, e61_7b, e61_8, e61_11, e61_14, e61_17, e61_17b, e61_18, e61_21, e61_23, e61_26, e61_26b, e61_29, e61_30, e61_31, e61_31b, e61_31c, e61_31d, e61_34, e61_37, e61_37b, e61_38, e61_41, e61_43, e61_46, e61_46b, e61_49, e61_49b, e61_50, e61_53, e61_53b, e61_53c, e61_53d, e61_56, e61_59, e61_59b, e61_60, e61_63, e61_65, e61_68, e61_68b, e61_71, e61_71b, e61_72, e61_75, e61_78, e61_78b, e61_79, e61_79b, kre_some, kre_none, kxo_thr, bnd_ite, ↓reduceIte, List.length_cons, List.length_nil, List.mem_cons, List.not_mem_nil, or_false, or_true, false_or, true_or, true_and, and_true, and_self, false_and, and_false, not_true_eq_false, not_false_eq_true, eq_self, ne_eq, if_true, if_false, bi_eq0, bi_eq1, bi_F, bi_T, ft_byte, ni_lt, ni_le, ni_neg, ni_pos, ni_inj, ni_nat, ni_add, ni_mul, ni_addc, ni_cadd, ni_cmul, ni_ltc, ni_lec, ni_clt, ni_cle, ni_eqc, ni_ceq, on_ni, ni_m1, nlt_t, nlt_f, nle_t, nle_f, neq_f, nw_int, nw_b0, nw_b1, nw_bi, nw_obj, nw_objn, nw_arr, nw_arrn, ft_int, ft_b0, ft_b1, ft_bi, ft_char, ft_obj, ft_objn, ft_arr, ft_arrn, ct_int, ct_ref, ct_null, lc_none, lc_int, lc_ref, lc_null, lc_long, sm_val, vi_int, seval, cx_hsz, cx_hsl, cx_env, cx_get0, cx_w0s, cx_w0c, cx_w28, giu_at, cxf_0, cxf_1, cxf_2, cxf_3, cxf_4, cxf_5, cxf_6, cxf_7, cxf_8, cxf_9, cxf_10, cxf_11, cxf_12, cxf_13, cxf_14, cxf_15, cxf_16, cxf_17, cxf_18, cxf_19, cxf_20, cxf_21, cxf_22, cxg_27, cxs_27, cxg_29, cxs_29, cxg_30, cxs_30, cxg_31, cxs_31, cxg_32, cxs_32, cxg_33, cxs_33, cxg_34, cxs_34, cxg_35, cxs_35, cxg_28, cxw_4, cxw_5, cxw_6, cxw_12, cxw_13, cxw_14, cxw_17, cxw_18, cxw_19, cxw_22, h3, hlc, hsz]
    | some z, ⟨a, hr, _⟩ =>
      rw [hr]
      simp (disch := first | omega | (simp only [seval]; done) | (simp only [seval]; omega)) only [e61_0, e61_1, e61_1b, e61_2, e61_3, e61_7, e61_7b, e61_8, e61_11, e61_14, e61_17, e61_17b, e61_18, e61_21, e61_23, e61_26, e61_26b, e61_29, e61_30, e61_31, e61_31b, e61_31c, e61_31d, e61_34, e61_37, e61_37b, e61_38, e61_41, e61_43, e61_46, e61_46b, e61_49, e61_49b, e61_50, e61_53, e61_53b, e61_53c, e61_53d, e61_56, e61_59, e61_59b, e61_60, e61_63, e61_65, e61_68, e61_68b, e61_71, e61_71b, e61_72, e61_75, e61_78, e61_78b, e61_79, e61_79b, kre_some, kre_none, kxo_thr, bnd_ite, ↓reduceIte, List.length_cons, List.length_nil, List.mem_cons, List.not_mem_nil, or_false, or_true, false_or, true_or, true_and, and_true, and_self, false_and, and_false, not_true_eq_false, not_false_eq_true, eq_self, ne_eq, if_true, if_false, bi_eq0, bi_eq1, bi_F, bi_T, ft_byte, ni_lt, ni_le, ni_neg, ni_pos, ni_inj, ni_nat, ni_add, ni_mul, ni_addc, ni_cadd, ni_cmul, ni_ltc, ni_lec, ni_clt, ni_cle, ni_eqc, ni_ceq, on_ni, ni_m1, nlt_t, nlt_f, nle_t, nle_f, neq_f, nw_int, nw_b0, nw_b1, nw_bi, nw_obj, nw_objn, nw_arr, nw_arrn, ft_int, ft_b0, ft_b1, ft_bi, ft_char, ft_obj, ft_objn, ft_arr, ft_arrn, ct_int, ct_ref, ct_null, lc_none, lc_int, lc_ref, lc_null, lc_long, sm_val, vi_int, seval, cx_hsz, cx_hsl, cx_env, cx_get0, cx_w0s, cx_w0c, cx_w28, giu_at, cxf_0, cxf_1, cxf_2, cxf_3, cxf_4, cxf_5, cxf_6, cxf_7, cxf_8, cxf_9, cxf_10, cxf_11, cxf_12, cxf_13, cxf_14, cxf_15, cxf_16, cxf_17, cxf_18, cxf_19, cxf_20, cxf_21, cxf_22, cxg_27, cxs_27, cxg_29, cxs_29, cxg_30, cxs_30, cxg_31, cxs_31, cxg_32, cxs_32, cxg_33, cxs_33, cxg_34, cxs_34, cxg_35, cxs_35, cxg_28, cxw_4, cxw_5, cxw_6, cxw_12, cxw_13, cxw_14, cxw_17, cxw_18, cxw_19, cxw_22, h3, hlc, hsz]
  | n + 1, i, r, o, hi, hr => by
    have hsz := c_clSize (gi := gi) (s := s) (im := im) (d := d) hO hC
    have hL := hC.2.2.1
    have h3 := c_clTag (gi := gi) (s := s) (im := im) hO hC
    have hlc := hr.lc
    have hil : i < L.length := by omega
    obtain ⟨a, ha, hz, ht⟩ := c_clGet (gi := gi) (s := s) (im := im) (d := d) hO hC hil
    have s1 := cs_tells_X1_lastOf_31 (gi := gi) (s := s) (c := c) (im := im) (d := d) (ls := [some (.ref b), some (.int (chK kd)), some (.int (ni k)), some r, some (.int (ni i))]) (st := []) hO hk hkd hz (by decide) hd
    have s2 := cs_holds_X1_lastOf_53 (gi := gi) (s := s) (c := c) (im := im) (d := d) (ls := [some (.ref b), some (.int (chK kd)), some (.int (ni k)), some r, some (.int (ni i))]) (st := []) hO hz (by decide) hd
    rw [List.drop_eq_getElem_cons hil, lastC_cons]
    by_cases c1 : L[i].1 = kd ∧ L[i].2.1 = k
    · by_cases c2 : cHolds (gi 29) L[i] = true
      · rw [if_pos ⟨c1.1, c1.2, c2⟩]
        obtain ⟨r', h1, h2⟩ := c_lastL hO hC hk hkd hd n (i + 1) (.ref a) (some L[i]) (by omega) ⟨a, rfl, hz⟩
        refine ⟨r', ?_, h2⟩
        rw [bi_t c1] at s1
        rw [bi_t c2] at s2
        rw [← h1, e61_5]
        simp (disch := first | omega | (simp only [seval]; done) | (simp only [seval]; omega)) only [e61_0, e61_1, e61_1b, e61_2, e61_3, e61_7, e61_7b, e61_8, e61_11, e61_14, e61_17, e61_17b, e61_18, e61_21, e61_23, e61_26, e61_26b, e61_29, e61_30, e61_31, e61_31b, e61_31c, e61_31d, e61_34, e61_37, e61_37b, e61_38, e61_41, e61_43, e61_46, e61_46b, e61_49, e61_49b, e61_50, e61_53, e61_53b, e61_53c, e61_53d, e61_56, e61_59, e61_59b, e61_60, e61_63, e61_65, e61_68, e61_68b, e61_71, e61_71b, e61_72, e61_75, e61_78, e61_78b, e61_79, e61_79b, kre_some, kre_none, kxo_thr, bnd_ite, ↓reduceIte, List.length_cons, List.length_nil, List.mem_cons, List.not_mem_nil, or_false, or_true, false_or, true_or, true_and, and_true, and_self, false_and, and_false, not_true_eq_false, not_false_eq_true, eq_self, ne_eq, if_true, if_false, bi_eq0, bi_eq1, bi_F, bi_T, ft_byte, ni_lt, ni_le, ni_neg, ni_pos, ni_inj, ni_nat, ni_add, ni_mul, ni_addc, ni_cadd, ni_cmul, ni_ltc, ni_lec, ni_clt, ni_cle, ni_eqc, ni_ceq, on_ni, ni_m1, nlt_t, nlt_f, nle_t, nle_f, neq_f, nw_int, nw_b0, nw_b1, nw_bi, nw_obj, nw_objn, nw_arr, nw_arrn, ft_int, ft_b0, ft_b1, ft_bi, ft_char, ft_obj, ft_objn, ft_arr, ft_arrn, ct_int, ct_ref, ct_null, lc_none, lc_int, lc_ref, lc_null, lc_long, sm_val, vi_int, seval, cx_hsz, cx_hsl, cx_env, cx_get0, cx_w0s, cx_w0c, cx_w28, giu_at, cxf_0, cxf_1, cxf_2, cxf_3, cxf_4, cxf_5, cxf_6, cxf_7, cxf_8, cxf_9, cxf_10, cxf_11, cxf_12, cxf_13, cxf_14, cxf_15, cxf_16, cxf_17, cxf_18, cxf_19, cxf_20, cxf_21, cxf_22, cxg_27, cxs_27, cxg_29, cxs_29, cxg_30, cxs_30, cxg_31, cxs_31, cxg_32, cxs_32, cxg_33, cxs_33, cxg_34, cxs_34, cxg_35, cxs_35, cxg_28, cxw_4, cxw_5, cxw_6, cxw_12, cxw_13, cxw_14, cxw_17, cxw_18, cxw_19, cxw_22, h3, hlc, hsz, ha, ht, s1, s2, ni_succ]
      · rw [if_neg (fun w => c2 w.2.2)]
        obtain ⟨r', h1, h2⟩ := c_lastL hO hC hk hkd hd n (i + 1) r o (by omega) hr
        refine ⟨r', ?_, h2⟩
        rw [bi_t c1] at s1
        rw [bi_f c2] at s2
        rw [← h1, e61_5]
        simp (disch := first | omega | (simp only [seval]; done) | (simp only [seval]; omega)) only [e61_0, e61_1, e61_1b, e61_2, e61_3, e61_7, e61_7b, e61_8, e61_11, e61_14, e61_17, e61_17b, e61_18, e61_21, e61_23, e61_26, e61_26b, e61_29, e61_30, e61_31, e61_31b, e61_31c, e61_31d, e61_34, e61_37, e61_37b, e61_38, e61_41, e61_43, e61_46, e61_46b, e61_49, e61_49b, e61_50, e61_53, e61_53b, e61_53c, e61_53d, e61_56, e61_59, e61_59b, e61_60, e61_63, e61_65, e61_68, e61_68b, e61_71, e61_71b, e61_72, e61_75, e61_78, e61_78b, e61_79, e61_79b, kre_some, kre_none, kxo_thr, bnd_ite, ↓reduceIte, List.length_cons, List.length_nil, List.mem_cons, List.not_mem_nil, or_false, or_true, false_or, true_or, true_and, and_true, and_self, false_and, and_false, not_true_eq_false, not_false_eq_true, eq_self, ne_eq, if_true, if_false, bi_eq0, bi_eq1, bi_F, bi_T, ft_byte, ni_lt, ni_le, ni_neg, ni_pos, ni_inj, ni_nat, ni_add, ni_mul, ni_addc, ni_cadd, ni_cmul, ni_ltc, ni_lec, ni_clt, ni_cle, ni_eqc, ni_ceq, on_ni, ni_m1, nlt_t, nlt_f, nle_t, nle_f, neq_f, nw_int, nw_b0, nw_b1, nw_bi, nw_obj, nw_objn, nw_arr, nw_arrn, ft_int, ft_b0, ft_b1, ft_bi, ft_char, ft_obj, ft_objn, ft_arr, ft_arrn, ct_int, ct_ref, ct_null, lc_none, lc_int, lc_ref, lc_null, lc_long, sm_val, vi_int, seval, cx_hsz, cx_hsl, cx_env, cx_get0, cx_w0s, cx_w0c, cx_w28, giu_at, cxf_0, cxf_1, cxf_2, cxf_3, cxf_4, cxf_5, cxf_6, cxf_7, cxf_8, cxf_9, cxf_10, cxf_11, cxf_12, cxf_13, cxf_14, cxf_15, cxf_16, cxf_17, cxf_18, cxf_19, cxf_20, cxf_21, cxf_22, cxg_27, cxs_27, cxg_29, cxs_29, cxg_30, cxs_30, cxg_31, cxs_31, cxg_32, cxs_32, cxg_33, cxs_33, cxg_34, cxs_34, cxg_35, cxs_35, cxg_28, cxw_4, cxw_5, cxw_6, cxw_12, cxw_13, cxw_14, cxw_17, cxw_18, cxw_19, cxw_22, h3, hlc, hsz, ha, ht, s1, s2, ni_succ]
    · rw [if_neg (fun w => c1 ⟨w.1, w.2.1⟩)]
      obtain ⟨r', h1, h2⟩ := c_lastL hO hC hk hkd hd n (i + 1) r o (by omega) hr
      refine ⟨r', ?_, h2⟩
      rw [bi_f c1] at s1
      rw [← h1, e61_5]
      simp (disch := first | omega | (simp only [seval]; done) | (simp only [seval]; omega)) only [e61_0, e61_1, e61_1b, e61_2, e61_3, e61_7, e61_7b, e61_8, e61_11, e61_14, e61_17, e61_17b, e61_18, e61_21, e61_23, e61_26, e61_26b, e61_29, e61_30, e61_31, e61_31b, e61_31c, e61_31d, e61_34, e61_37, e61_37b, e61_38, e61_41, e61_43, e61_46, e61_46b, e61_49, e61_49b, e61_50, e61_53, e61_53b, e61_53c, e61_53d, e61_56, e61_59, e61_59b, e61_60, e61_63, e61_65, e61_68, e61_68b, e61_71, e61_71b, e61_72, e61_75, e61_78, e61_78b, e61_79, e61_79b, kre_some, kre_none, kxo_thr, bnd_ite, ↓reduceIte, List.length_cons, List.length_nil, List.mem_cons, List.not_mem_nil, or_false, or_true, false_or, true_or, true_and, and_true, and_self, false_and, and_false, not_true_eq_false, not_false_eq_true, eq_self, ne_eq, if_true, if_false, bi_eq0, bi_eq1, bi_F, bi_T, ft_byte, ni_lt, ni_le, ni_neg, ni_pos, ni_inj, ni_nat, ni_add, ni_mul, ni_addc, ni_cadd, ni_cmul, ni_ltc, ni_lec, ni_clt, ni_cle, ni_eqc, ni_ceq, on_ni, ni_m1, nlt_t, nlt_f, nle_t, nle_f, neq_f, nw_int, nw_b0, nw_b1, nw_bi, nw_obj, nw_objn, nw_arr, nw_arrn, ft_int, ft_b0, ft_b1, ft_bi, ft_char, ft_obj, ft_objn, ft_arr, ft_arrn, ct_int, ct_ref, ct_null, lc_none, lc_int, lc_ref, lc_null, lc_long, sm_val, vi_int, seval, cx_hsz, cx_hsl, cx_env, cx_get0, cx_w0s, cx_w0c, cx_w28, giu_at, cxf_0, cxf_1, cxf_2, cxf_3, cxf_4, cxf_5, cxf_6, cxf_7, cxf_8, cxf_9, cxf_10, cxf_11, cxf_12, cxf_13, cxf_14, cxf_15, cxf_16, cxf_17, cxf_18, cxf_19, cxf_20, cxf_21, cxf_22, cxg_27, cxs_27, cxg_29, cxs_29, cxg_30, cxs_30, cxg_31, cxs_31, cxg_32, cxs_32, cxg_33, cxs_33, cxg_34, cxs_34, cxg_35, cxs_35, cxg_28, cxw_4, cxw_5, cxw_6, cxw_12, cxw_13, cxw_14, cxw_17, cxw_18, cxw_19, cxw_22, h3, hlc, hsz, ha, ht, s1, ni_succ]
theorem c_lastOf (hO : OmOK b om) (hC : ClsL om h c L) {kd k : Nat} (hk : k < 4) (hkd : kd = 1 ∨ kd = 2 ∨ kd = 4 ∨ kd = 6) (hd : 450 ≤ d) : ∃ r', ev d 61 0 [some (.ref b), some (.int (chK kd)), some (.int (ni k)), none, none] [] (cx b gi s c im h) = some (.returned (some r'), cx b gi s c im h) ∧ RelL om h r' (lastC (gi 29) kd k L none) := by
  obtain ⟨r', h1, h2⟩ := c_lastL (gi := gi) (s := s) (im := im) (d := d) hO hC hk hkd hd L.length 0 .null none (by omega) rfl
  refine ⟨r', ?_, h2⟩
  rw [← h1]
  simp (disch := first | omega | (simp only [seval]; done) | (simp only [seval]; omega)) only [e61_0, e61_1, e61_1b, e61_2, e61_3, e61_7, e61_7b, e61_8, e61_11, e61_14, e61_17, e61_17b, e61_18, e61_21, e61_23, e61_26, e61_26b, e61_29, e61_30, e61_31, e61_31b, e61_31c, e61_31d, e61_34, e61_37, e61_37b, e61_38, e61_41, e61_43, e61_46, e61_46b, e61_49, e61_49b, e61_50, e61_53, e61_53b, e61_53c, e61_53d, e61_56, e61_59, e61_59b, e61_60, e61_63, e61_65, e61_68, e61_68b, e61_71, e61_71b, e61_72, e61_75, e61_78, e61_78b, e61_79, e61_79b, kre_some, kre_none, kxo_thr, bnd_ite, ↓reduceIte, List.length_cons, List.length_nil, List.mem_cons, List.not_mem_nil, or_false, or_true, false_or, true_or, true_and, and_true, and_self, false_and, and_false, not_true_eq_false, not_false_eq_true, eq_self, ne_eq, if_true, if_false, bi_eq0, bi_eq1, bi_F, bi_T, ft_byte, ni_lt, ni_le, ni_neg, ni_pos, ni_inj, ni_nat, ni_add, ni_mul, ni_addc, ni_cadd, ni_cmul, ni_ltc, ni_lec, ni_clt, ni_cle, ni_eqc, ni_ceq, on_ni, ni_m1, nlt_t, nlt_f, nle_t, nle_f, neq_f, nw_int, nw_b0, nw_b1, nw_bi, nw_obj, nw_objn, nw_arr, nw_arrn, ft_int, ft_b0, ft_b1, ft_bi, ft_char, ft_obj, ft_objn, ft_arr, ft_arrn, ct_int, ct_ref, ct_null, lc_none, lc_int, lc_ref, lc_null, lc_long, sm_val, vi_int, seval, cx_hsz, cx_hsl, cx_env, cx_get0, cx_w0s, cx_w0c, cx_w28, giu_at, cxf_0, cxf_1, cxf_2, cxf_3, cxf_4, cxf_5, cxf_6, cxf_7, cxf_8, cxf_9, cxf_10, cxf_11, cxf_12, cxf_13, cxf_14, cxf_15, cxf_16, cxf_17, cxf_18, cxf_19, cxf_20, cxf_21, cxf_22, cxg_27, cxs_27, cxg_29, cxs_29, cxg_30, cxs_30, cxg_31, cxs_31, cxg_32, cxs_32, cxg_33, cxs_33, cxg_34, cxs_34, cxg_35, cxs_35, cxg_28, cxw_4, cxw_5, cxw_6, cxw_12, cxw_13, cxw_14, cxw_17, cxw_18, cxw_19, cxw_22]
  rfl
theorem c_valueOf (hO : OmOK b om) (hC : ClsL om h c L) {kd k : Nat} {most : Int32} (hm : 0 ≤ most) (hk : k < 4) (hkd : kd = 1 ∨ kd = 2 ∨ kd = 4 ∨ kd = 6) (hd : 450 ≤ d) : ev d 60 0 [some (.ref b), some (.int (chK kd)), some (.int (ni k)), some (.int most), none] [] (cx b gi s c im h) = some (.returned (some (.int (spLast (gi 29) kd k most L (-1)))), cx b gi s c im h) := by
  obtain ⟨r', h1, h2⟩ := c_lastOf (gi := gi) (s := s) (im := im) (d := d) hO hC hk hkd hd
  have h3 := lastC_sp (gi 29) kd k most (-1) L none
  have h4 := lastC_kd (gi 29) kd k L none (fun z e => by cases e)
  rw [h3]
  generalize lastC (gi 29) kd k L none = o at h1 h2 h4
  match o, h2, h4 with
  | none, h2, _ =>
    have h2' : r' = .null := h2
    subst h2'
    simp (disch := first | omega | (simp only [seval]; done) | (simp only [seval]; omega)) only [e60_0, e60_0b, e60_1, e60_2, e60_3, e60_6, e60_6b, e60_8, e60_8b, e60_10, e60_10b, e60_13, e60_14, e60_17, e60_18, e60_19, e60_19b, e60_21, e60_21b, e60_22, e60_25, e60_25b, e60_25c, e60_25d, e60_28, e60_31, e60_34, kre_some, kre_none, kxo_thr, bnd_ite, ↓reduceIte, List.length_cons, List.length_nil, List.mem_cons, List.not_mem_nil, or_false, or_true, false_or, true_or, true_and, and_true, and_self, false_and, and_false, not_true_eq_false, not_false_eq_true, eq_self, ne_eq, if_true, if_false, bi_eq0, bi_eq1, bi_F, bi_T, ft_byte, ni_lt, ni_le, ni_neg, ni_pos, ni_inj, ni_nat, ni_add, ni_mul, ni_addc, ni_cadd, ni_cmul, ni_ltc, ni_lec, ni_clt, ni_cle, ni_eqc, ni_ceq, on_ni, ni_m1, nlt_t, nlt_f, nle_t, nle_f, neq_f, nw_int, nw_b0, nw_b1, nw_bi, nw_obj, nw_objn, nw_arr, nw_arrn, ft_int, ft_b0, ft_b1, ft_bi, ft_char, ft_obj, ft_objn, ft_arr, ft_arrn, ct_int, ct_ref, ct_null, lc_none, lc_int, lc_ref, lc_null, lc_long, sm_val, vi_int, seval, cx_hsz, cx_hsl, cx_env, cx_get0, cx_w0s, cx_w0c, cx_w28, giu_at, cxf_0, cxf_1, cxf_2, cxf_3, cxf_4, cxf_5, cxf_6, cxf_7, cxf_8, cxf_9, cxf_10, cxf_11, cxf_12, cxf_13, cxf_14, cxf_15, cxf_16, cxf_17, cxf_18, cxf_19, cxf_20, cxf_21, cxf_22, cxg_27, cxs_27, cxg_29, cxs_29, cxg_30, cxs_30, cxg_31, cxs_31, cxg_32, cxs_32, cxg_33, cxs_33, cxg_34, cxs_34, cxg_35, cxs_35, cxg_28, cxw_4, cxw_5, cxw_6, cxw_12, cxw_13, cxw_14, cxw_17, cxw_18, cxw_19, cxw_22, h1]
  | some z, ⟨a, hr, hz⟩, h4 =>
    subst hr
    have hzk : z.1 = 1 ∨ z.1 = 2 ∨ z.1 = 4 ∨ z.1 = 6 := by rw [h4 z rfl]; exact hkd
    have s1 := cs_value_X1_valueOf_25 (gi := gi) (s := s) (c := c) (im := im) (d := d) (ls := [some (.ref b), some (.int (chK kd)), some (.int (ni k)), some (.int most), some (.ref a)]) (st := [.int most, .int 0]) hO hzk hz (Nat.le_of_ble_eq_true rfl) hd
    refine Eq.trans ?_ (show some (Outcome.returned (some (.int (wthn (z.2.2.1 (gi 29)) 0 most))), cx b gi s c im h) = _ from rfl)
    rw [← wthn_mm hm]
    simp (disch := first | omega | (simp only [seval]; done) | (simp only [seval]; omega)) only [e60_0, e60_0b, e60_1, e60_2, e60_3, e60_6, e60_6b, e60_8, e60_8b, e60_10, e60_10b, e60_13, e60_14, e60_17, e60_18, e60_19, e60_19b, e60_21, e60_21b, e60_22, e60_25, e60_25b, e60_25c, e60_25d, e60_28, e60_31, e60_34, kre_some, kre_none, kxo_thr, bnd_ite, ↓reduceIte, List.length_cons, List.length_nil, List.mem_cons, List.not_mem_nil, or_false, or_true, false_or, true_or, true_and, and_true, and_self, false_and, and_false, not_true_eq_false, not_false_eq_true, eq_self, ne_eq, if_true, if_false, bi_eq0, bi_eq1, bi_F, bi_T, ft_byte, ni_lt, ni_le, ni_neg, ni_pos, ni_inj, ni_nat, ni_add, ni_mul, ni_addc, ni_cadd, ni_cmul, ni_ltc, ni_lec, ni_clt, ni_cle, ni_eqc, ni_ceq, on_ni, ni_m1, nlt_t, nlt_f, nle_t, nle_f, neq_f, nw_int, nw_b0, nw_b1, nw_bi, nw_obj, nw_objn, nw_arr, nw_arrn, ft_int, ft_b0, ft_b1, ft_bi, ft_char, ft_obj, ft_objn, ft_arr, ft_arrn, ct_int, ct_ref, ct_null, lc_none, lc_int, lc_ref, lc_null, lc_long, sm_val, vi_int, seval, cx_hsz, cx_hsl, cx_env, cx_get0, cx_w0s, cx_w0c, cx_w28, giu_at, cxf_0, cxf_1, cxf_2, cxf_3, cxf_4, cxf_5, cxf_6, cxf_7, cxf_8, cxf_9, cxf_10, cxf_11, cxf_12, cxf_13, cxf_14, cxf_15, cxf_16, cxf_17, cxf_18, cxf_19, cxf_20, cxf_21, cxf_22, cxg_27, cxs_27, cxg_29, cxs_29, cxg_30, cxs_30, cxg_31, cxs_31, cxg_32, cxs_32, cxg_33, cxs_33, cxg_34, cxs_34, cxg_35, cxs_35, cxg_28, cxw_4, cxw_5, cxw_6, cxw_12, cxw_13, cxw_14, cxw_17, cxw_18, cxw_19, cxw_22, h1, s1]
theorem spNeeds_cons (ν : NV) (z : CLS) (L : List CLS) (w : Nat) : spNeeds ν (z :: L) w = spNeeds ν L (if cHolds ν z = true ∧ z.1 = 3 then w ||| 2 ^ z.2.1 else w) := rfl
theorem c_needsL (hO : OmOK b om) (hC : ClsL om h c L) (hd : 450 ≤ d) {v1 : Option Value} {v2 : Int32} : ∀ (n i w : Nat), i + n = L.length → ev d 64 11 [some (.ref b), v1, some (.int v2), some (.int (ni w)), some (.int (ni i))] [] (cx b gi s c im h) = some (.returned (some (.int (ni (spNeeds (gi 29) (L.drop i) w)))), cx b gi s c im h)
  | 0, i, w, hi => by
    have hsz := c_clSize (gi := gi) (s := s) (im := im) (d := d) hO hC
    have hL := hC.2.2.1
    have h3 := c_clTag (gi := gi) (s := s) (im := im) hO hC
    rw [List.drop_of_length_le (by omega), e64_11]
    have e : i = L.length := by omega
    subst e
    simp (disch := first | omega | (simp only [seval]; done) | (simp only [seval]; omega)) only [e64_0, e64_0b, e64_1, e64_1b, e64_2, e64_3, e64_6, e64_7, e64_8, e64_9, e64_13, e64_13b, e64_14, e64_17, e64_20, e64_23, e64_23b, e64_24, e64_27, e64_29, e64_32, e64_32b, e64_35, e64_35b, e64_35c, e64_35d, e64_38, e64_39, e64_42, e64_42b, e64_43, e64_46, e64_48, e64_51, e64_51b, e64_54, e64_54b, e64_55, e64_58, e64_58b, e64_58c, e64_58d, e64_61, e64_64, e64_65, e64_66, e64_66b, e64_67, e64_70, e64_72, e64_75, e64_75b, e64_78, e64_78b, e64_78c, e64_78d, e64_81, e64_82, e64_83, e64_84, e64_87, e64_90, e64_91, kre_some, kre_none, kxo_thr, bnd_ite, ↓reduceIte, List.length_cons, List.length_nil, List.mem_cons, List.not_mem_nil, or_false, or_true, false_or, true_or, true_and, and_true, and_self, false_and, and_false, not_true_eq_false, not_false_eq_true, eq_self, ne_eq, if_true, if_false, bi_eq0, bi_eq1, bi_F, bi_T, ft_byte, ni_lt, ni_le, ni_neg, ni_pos, ni_inj, ni_nat, ni_add, ni_mul, ni_addc, ni_cadd, ni_cmul, ni_ltc, ni_lec, ni_clt, ni_cle, ni_eqc, ni_ceq, on_ni, ni_m1, nlt_t, nlt_f, nle_t, nle_f, neq_f, nw_int, nw_b0, nw_b1, nw_bi, nw_obj, nw_objn, nw_arr, nw_arrn, ft_int, ft_b0, ft_b1, ft_bi, ft_char, ft_obj, ft_objn, ft_arr, ft_arrn, ct_int, ct_ref, ct_null, lc_none, lc_int, lc_ref, lc_null, lc_long, sm_val, vi_int, seval, cx_hsz, cx_hsl, cx_env, cx_get0, cx_w0s, cx_w0c, cx_w28, giu_at, cxf_0, cxf_1, cxf_2, cxf_3, cxf_4, cxf_5, cxf_6, cxf_7, cxf_8, cxf_9, cxf_10, cxf_11, cxf_12, cxf_13, cxf_14, cxf_15, cxf_16, cxf_17, cxf_18, cxf_19, cxf_20, cxf_21, cxf_22, cxg_27, cxs_27, cxg_29, cxs_29, cxg_30, cxs_30, cxg_31, cxs_31, cxg_32, cxs_32, cxg_33, cxs_33, cxg_34, cxs_34, cxg_35, cxs_35, cxg_28, cxw_4, cxw_5, cxw_6, cxw_12, cxw_13, cxw_14, cxw_17, cxw_18, cxw_19, cxw_22, h3, hsz, spNeeds]
  | n + 1, i, w, hi => by
    have hsz := c_clSize (gi := gi) (s := s) (im := im) (d := d) hO hC
    have hL := hC.2.2.1
    have h3 := c_clTag (gi := gi) (s := s) (im := im) hO hC
    have hil : i < L.length := by omega
    obtain ⟨a, ha, hz, ht⟩ := c_clGet (gi := gi) (s := s) (im := im) (d := d) hO hC hil
    have s1 := cs_needs_X1_needsOf_35 (gi := gi) (s := s) (c := c) (im := im) (d := d) (ls := [some (.ref b), v1, some (.int v2), some (.int (ni w)), some (.int (ni i))]) (st := []) hO hz (by decide) hd
    have s2 := cs_holds_X1_needsOf_58 (gi := gi) (s := s) (c := c) (im := im) (d := d) (ls := [some (.ref b), v1, some (.int v2), some (.int (ni w)), some (.int (ni i))]) (st := []) hO hz (by decide) hd
    have s3 := cs_needs_X1_needsOf_78 (gi := gi) (s := s) (c := c) (im := im) (d := d) (ls := [some (.ref b), v1, some (.int v2), some (.int (ni w)), some (.int (ni i))]) (st := [.int 1, .int (ni w)]) hO hz (Nat.le_of_ble_eq_true rfl) hd
    have ih := fun w => c_needsL hO hC hd (v1 := v1) (v2 := v2) n (i + 1) w (by omega)
    rw [List.drop_eq_getElem_cons hil, e64_11]
    rw [spNeeds_cons]
    rw [← ih]
    by_cases c1 : L[i].1 = 3
    · have hk := cl3 hz.ok c1
      have hm : ¬ ni L[i].2.1 = -1 := by rw [ni_m1 (by omega)]; exact id
      rw [if_pos c1] at s1 s3
      by_cases c2 : cHolds (gi 29) L[i] = true
      · rw [bi_t c2] at s2
        rw [if_pos ⟨c2, c1⟩]
        simp (disch := first | omega | (simp only [seval]; done) | (simp only [seval]; omega)) only [e64_0, e64_0b, e64_1, e64_1b, e64_2, e64_3, e64_6, e64_7, e64_8, e64_9, e64_13, e64_13b, e64_14, e64_17, e64_20, e64_23, e64_23b, e64_24, e64_27, e64_29, e64_32, e64_32b, e64_35, e64_35b, e64_35c, e64_35d, e64_38, e64_39, e64_42, e64_42b, e64_43, e64_46, e64_48, e64_51, e64_51b, e64_54, e64_54b, e64_55, e64_58, e64_58b, e64_58c, e64_58d, e64_61, e64_64, e64_65, e64_66, e64_66b, e64_67, e64_70, e64_72, e64_75, e64_75b, e64_78, e64_78b, e64_78c, e64_78d, e64_81, e64_82, e64_83, e64_84, e64_87, e64_90, e64_91, kre_some, kre_none, kxo_thr, bnd_ite, ↓reduceIte, List.length_cons, List.length_nil, List.mem_cons, List.not_mem_nil, or_false, or_true, false_or, true_or, true_and, and_true, and_self, false_and, and_false, not_true_eq_false, not_false_eq_true, eq_self, ne_eq, if_true, if_false, bi_eq0, bi_eq1, bi_F, bi_T, ft_byte, ni_lt, ni_le, ni_neg, ni_pos, ni_inj, ni_nat, ni_add, ni_mul, ni_addc, ni_cadd, ni_cmul, ni_ltc, ni_lec, ni_clt, ni_cle, ni_eqc, ni_ceq, on_ni, ni_m1, nlt_t, nlt_f, nle_t, nle_f, neq_f, nw_int, nw_b0, nw_b1, nw_bi, nw_obj, nw_objn, nw_arr, nw_arrn, ft_int, ft_b0, ft_b1, ft_bi, ft_char, ft_obj, ft_objn, ft_arr, ft_arrn, ct_int, ct_ref, ct_null, lc_none, lc_int, lc_ref, lc_null, lc_long, sm_val, vi_int, seval, cx_hsz, cx_hsl, cx_env, cx_get0, cx_w0s, cx_w0c, cx_w28, giu_at, cxf_0, cxf_1, cxf_2, cxf_3, cxf_4, cxf_5, cxf_6, cxf_7, cxf_8, cxf_9, cxf_10, cxf_11, cxf_12, cxf_13, cxf_14, cxf_15, cxf_16, cxf_17, cxf_18, cxf_19, cxf_20, cxf_21, cxf_22, cxg_27, cxs_27, cxg_29, cxs_29, cxg_30, cxs_30, cxg_31, cxs_31, cxg_32, cxs_32, cxg_33, cxs_33, cxg_34, cxs_34, cxg_35, cxs_35, cxg_28, cxw_4, cxw_5, cxw_6, cxw_12, cxw_13, cxw_14, cxw_17, cxw_18, cxw_19, cxw_22, h3, hsz, ha, ht, s1, s2, s3, hm, ni_succ, sh1, ni_or]
      · rw [bi_f c2] at s2
        rw [if_neg (fun q => c2 q.1)]
        simp (disch := first | omega | (simp only [seval]; done) | (simp only [seval]; omega)) only [e64_0, e64_0b, e64_1, e64_1b, e64_2, e64_3, e64_6, e64_7, e64_8, e64_9, e64_13, e64_13b, e64_14, e64_17, e64_20, e64_23, e64_23b, e64_24, e64_27, e64_29, e64_32, e64_32b, e64_35, e64_35b, e64_35c, e64_35d, e64_38, e64_39, e64_42, e64_42b, e64_43, e64_46, e64_48, e64_51, e64_51b, e64_54, e64_54b, e64_55, e64_58, e64_58b, e64_58c, e64_58d, e64_61, e64_64, e64_65, e64_66, e64_66b, e64_67, e64_70, e64_72, e64_75, e64_75b, e64_78, e64_78b, e64_78c, e64_78d, e64_81, e64_82, e64_83, e64_84, e64_87, e64_90, e64_91, kre_some, kre_none, kxo_thr, bnd_ite, ↓reduceIte, List.length_cons, List.length_nil, List.mem_cons, List.not_mem_nil, or_false, or_true, false_or, true_or, true_and, and_true, and_self, false_and, and_false, not_true_eq_false, not_false_eq_true, eq_self, ne_eq, if_true, if_false, bi_eq0, bi_eq1, bi_F, bi_T, ft_byte, ni_lt, ni_le, ni_neg, ni_pos, ni_inj, ni_nat, ni_add, ni_mul, ni_addc, ni_cadd, ni_cmul, ni_ltc, ni_lec, ni_clt, ni_cle, ni_eqc, ni_ceq, on_ni, ni_m1, nlt_t, nlt_f, nle_t, nle_f, neq_f, nw_int, nw_b0, nw_b1, nw_bi, nw_obj, nw_objn, nw_arr, nw_arrn, ft_int, ft_b0, ft_b1, ft_bi, ft_char, ft_obj, ft_objn, ft_arr, ft_arrn, ct_int, ct_ref, ct_null, lc_none, lc_int, lc_ref, lc_null, lc_long, sm_val, vi_int, seval, cx_hsz, cx_hsl, cx_env, cx_get0, cx_w0s, cx_w0c, cx_w28, giu_at, cxf_0, cxf_1, cxf_2, cxf_3, cxf_4, cxf_5, cxf_6, cxf_7, cxf_8, cxf_9, cxf_10, cxf_11, cxf_12, cxf_13, cxf_14, cxf_15, cxf_16, cxf_17, cxf_18, cxf_19, cxf_20, cxf_21, cxf_22, cxg_27, cxs_27, cxg_29, cxs_29, cxg_30, cxs_30, cxg_31, cxs_31, cxg_32, cxs_32, cxg_33, cxs_33, cxg_34, cxs_34, cxg_35, cxs_35, cxg_28, cxw_4, cxw_5, cxw_6, cxw_12, cxw_13, cxw_14, cxw_17, cxw_18, cxw_19, cxw_22, h3, hsz, ha, ht, s1, s2, hm, ni_succ]
    · rw [if_neg c1] at s1
      rw [if_neg (fun q => c1 q.2)]
      simp (disch := first | omega | (simp only [seval]; done) | (simp only [seval]; omega)) only [e64_0, e64_0b, e64_1, e64_1b, e64_2, e64_3, e64_6, e64_7, e64_8, e64_9, e64_13, e64_13b, e64_14, e64_17, e64_20, e64_23, e64_23b, e64_24, e64_27, e64_29, e64_32, e64_32b, e64_35, e64_35b, e64_35c, e64_35d, e64_38, e64_39, e64_42, e64_42b, e64_43, e64_46, e64_48, e64_51, e64_51b, e64_54, e64_54b, e64_55, e64_58, e64_58b, e64_58c, e64_58d, e64_61, e64_64, e64_65, e64_66, e64_66b, e64_67, e64_70, e64_72, e64_75, e64_75b, e64_78, e64_78b, e64_78c, e64_78d, e64_81, e64_82, e64_83, e64_84, e64_87, e64_90, e64_91, kre_some, kre_none, kxo_thr, bnd_ite, ↓reduceIte, List.length_cons, List.length_nil, List.mem_cons, List.not_mem_nil, or_false, or_true, false_or, true_or, true_and, and_true, and_self, false_and, and_false, not_true_eq_false, not_false_eq_true, eq_self, ne_eq, if_true, if_false, bi_eq0, bi_eq1, bi_F, bi_T, ft_byte, ni_lt, ni_le, ni_neg, ni_pos, ni_inj, ni_nat, ni_add, ni_mul, ni_addc, ni_cadd, ni_cmul, ni_ltc, ni_lec, ni_clt, ni_cle, ni_eqc, ni_ceq, on_ni, ni_m1, nlt_t, nlt_f, nle_t, nle_f, neq_f, nw_int, nw_b0, nw_b1, nw_bi, nw_obj, nw_objn, nw_arr, nw_arrn, ft_int, ft_b0, ft_b1, ft_bi, ft_char, ft_obj, ft_objn, ft_arr, ft_arrn, ct_int, ct_ref, ct_null, lc_none, lc_int, lc_ref, lc_null, lc_long, sm_val, vi_int, seval, cx_hsz, cx_hsl, cx_env, cx_get0, cx_w0s, cx_w0c, cx_w28, giu_at, cxf_0, cxf_1, cxf_2, cxf_3, cxf_4, cxf_5, cxf_6, cxf_7, cxf_8, cxf_9, cxf_10, cxf_11, cxf_12, cxf_13, cxf_14, cxf_15, cxf_16, cxf_17, cxf_18, cxf_19, cxf_20, cxf_21, cxf_22, cxg_27, cxs_27, cxg_29, cxs_29, cxg_30, cxs_30, cxg_31, cxs_31, cxg_32, cxs_32, cxg_33, cxs_33, cxg_34, cxs_34, cxg_35, cxs_35, cxg_28, cxw_4, cxw_5, cxw_6, cxw_12, cxw_13, cxw_14, cxw_17, cxw_18, cxw_19, cxw_22, h3, hsz, ha, ht, s1, ni_succ]
theorem fstC_cons (P : CLS → Bool) (z : CLS) (L : List CLS) (i : Nat) : fstC P (z :: L) i = if P z = true then some i else fstC P L (i + 1) := rfl
def oni (o : Option Nat) : Int32 := match o with
  | none => -1
  | some k => ni k
theorem c_barL (hO : OmOK b om) (hC : ClsL om h c L) (hd : 450 ≤ d) {v1 : Option Value} {k1 k2 : Nat} (hk1 : k1 < 12) (hk2 : k2 < 12) : ∀ (n i : Nat), i + n = L.length → ev d 104 8 [some (.ref b), v1, some (.int (ni k1)), some (.int (ni k2)), some (.int (ni i))] [] (cx b gi s c im h) = some (.returned (some (.int (oni (fstC (isBarC (gi 29) k1 k2) (L.drop i) i)))), cx b gi s c im h)
  | 0, i, hi => by
    have hsz := c_clSize (gi := gi) (s := s) (im := im) (d := d) hO hC
    have hL := hC.2.2.1
    have h3 := c_clTag (gi := gi) (s := s) (im := im) hO hC
    rw [List.drop_of_length_le (by omega), e104_8]
    have e : i = L.length := by omega
    subst e
    simp (disch := first | omega | (simp only [seval]; done) | (simp only [seval]; omega)) only [e104_0, e104_0b, e104_1, e104_1b, e104_2, e104_5, e104_6, e104_10, e104_10b, e104_11, e104_14, e104_17, e104_20, e104_20b, e104_21, e104_24, e104_26, e104_29, e104_29b, e104_32, e104_33, e104_34, e104_34b, e104_35, e104_38, e104_38b, e104_38c, e104_38d, e104_41, e104_44, e104_46, e104_47, e104_50, e104_53, e104_54, kre_some, kre_none, kxo_thr, bnd_ite, ↓reduceIte, List.length_cons, List.length_nil, List.mem_cons, List.not_mem_nil, or_false, or_true, false_or, true_or, true_and, and_true, and_self, false_and, and_false, not_true_eq_false, not_false_eq_true, eq_self, ne_eq, if_true, if_false, bi_eq0, bi_eq1, bi_F, bi_T, ft_byte, ni_lt, ni_le, ni_neg, ni_pos, ni_inj, ni_nat, ni_add, ni_mul, ni_addc, ni_cadd, ni_cmul, ni_ltc, ni_lec, ni_clt, ni_cle, ni_eqc, ni_ceq, on_ni, ni_m1, nlt_t, nlt_f, nle_t, nle_f, neq_f, nw_int, nw_b0, nw_b1, nw_bi, nw_obj, nw_objn, nw_arr, nw_arrn, ft_int, ft_b0, ft_b1, ft_bi, ft_char, ft_obj, ft_objn, ft_arr, ft_arrn, ct_int, ct_ref, ct_null, lc_none, lc_int, lc_ref, lc_null, lc_long, sm_val, vi_int, seval, cx_hsz, cx_hsl, cx_env, cx_get0, cx_w0s, cx_w0c, cx_w28, giu_at, cxf_0, cxf_1, cxf_2, cxf_3, cxf_4, cxf_5, cxf_6, cxf_7, cxf_8, cxf_9, cxf_10, cxf_11, cxf_12, cxf_13, cxf_14, cxf_15, cxf_16, cxf_17, cxf_18, cxf_19, cxf_20, cxf_21, cxf_22, cxg_27, cxs_27, cxg_29, cxs_29, cxg_30, cxs_30, cxg_31, cxs_31, cxg_32, cxs_32, cxg_33, cxs_33, cxg_34, cxs_34, cxg_35, cxs_35, cxg_28, cxw_4, cxw_5, cxw_6, cxw_12, cxw_13, cxw_14, cxw_17, cxw_18, cxw_19, cxw_22, h3, hsz, fstC, oni]
  | n + 1, i, hi => by
    have hsz := c_clSize (gi := gi) (s := s) (im := im) (d := d) hO hC
    have hL := hC.2.2.1
    have h3 := c_clTag (gi := gi) (s := s) (im := im) hO hC
    have hil : i < L.length := by omega
    obtain ⟨a, ha, hz, ht⟩ := c_clGet (gi := gi) (s := s) (im := im) (d := d) hO hC hil
    have s1 := cs_bars_X1_barOf_38 (gi := gi) (s := s) (c := c) (im := im) (d := d) (ls := [some (.ref b), v1, some (.int (ni k1)), some (.int (ni k2)), some (.int (ni i))]) (st := []) hO hk1 hk2 hz (by decide) hd
    rw [List.drop_eq_getElem_cons hil, fstC_cons]
    by_cases c2 : isBarC (gi 29) k1 k2 L[i] = true
    · rw [bi_t c2] at s1
      rw [if_pos c2, e104_8]
      simp (disch := first | omega | (simp only [seval]; done) | (simp only [seval]; omega)) only [e104_0, e104_0b, e104_1, e104_1b, e104_2, e104_5, e104_6, e104_10, e104_10b, e104_11, e104_14, e104_17, e104_20, e104_20b, e104_21, e104_24, e104_26, e104_29, e104_29b, e104_32, e104_33, e104_34, e104_34b, e104_35, e104_38, e104_38b, e104_38c, e104_38d, e104_41, e104_44, e104_46, e104_47, e104_50, e104_53, e104_54, kre_some, kre_none, kxo_thr, bnd_ite, ↓reduceIte, List.length_cons, List.length_nil, List.mem_cons, List.not_mem_nil, or_false, or_true, false_or, true_or, true_and, and_true, and_self, false_and, and_false, not_true_eq_false, not_false_eq_true, eq_self, ne_eq, if_true, if_false, bi_eq0, bi_eq1, bi_F, bi_T, ft_byte, ni_lt, ni_le, ni_neg, ni_pos, ni_inj, ni_nat, ni_add, ni_mul, ni_addc, ni_cadd, ni_cmul, ni_ltc, ni_lec, ni_clt, ni_cle, ni_eqc, ni_ceq, on_ni, ni_m1, nlt_t, nlt_f, nle_t, nle_f, neq_f, nw_int, nw_b0, nw_b1, nw_bi, nw_obj, nw_objn, nw_arr, nw_arrn, ft_int, ft_b0, ft_b1, ft_bi, ft_char, ft_obj, ft_objn, ft_arr, ft_arrn, ct_int, ct_ref, ct_null, lc_none, lc_int, lc_ref, lc_null, lc_long, sm_val, vi_int, seval, cx_hsz, cx_hsl, cx_env, cx_get0, cx_w0s, cx_w0c, cx_w28, giu_at, cxf_0, cxf_1, cxf_2, cxf_3, cxf_4, cxf_5, cxf_6, cxf_7, cxf_8, cxf_9, cxf_10, cxf_11, cxf_12, cxf_13, cxf_14, cxf_15, cxf_16, cxf_17, cxf_18, cxf_19, cxf_20, cxf_21, cxf_22, cxg_27, cxs_27, cxg_29, cxs_29, cxg_30, cxs_30, cxg_31, cxs_31, cxg_32, cxs_32, cxg_33, cxs_33, cxg_34, cxs_34, cxg_35, cxs_35, cxg_28, cxw_4, cxw_5, cxw_6, cxw_12, cxw_13, cxw_14, cxw_17, cxw_18, cxw_19, cxw_22, h3, hsz, ha, ht, s1, oni]
    · rw [bi_f c2] at s1
      rw [if_neg c2, ← c_barL hO hC hd hk1 hk2 n (i + 1) (by omega) (v1 := v1), e104_8]
      simp (disch := first | omega | (simp only [seval]; done) | (simp only [seval]; omega)) only [e104_0, e104_0b, e104_1, e104_1b, e104_2, e104_5, e104_6, e104_10, e104_10b, e104_11, e104_14, e104_17, e104_20, e104_20b, e104_21, e104_24, e104_26, e104_29, e104_29b, e104_32, e104_33, e104_34, e104_34b, e104_35, e104_38, e104_38b, e104_38c, e104_38d, e104_41, e104_44, e104_46, e104_47, e104_50, e104_53, e104_54, kre_some, kre_none, kxo_thr, bnd_ite, ↓reduceIte, List.length_cons, List.length_nil, List.mem_cons, List.not_mem_nil, or_false, or_true, false_or, true_or, true_and, and_true, and_self, false_and, and_false, not_true_eq_false, not_false_eq_true, eq_self, ne_eq, if_true, if_false, bi_eq0, bi_eq1, bi_F, bi_T, ft_byte, ni_lt, ni_le, ni_neg, ni_pos, ni_inj, ni_nat, ni_add, ni_mul, ni_addc, ni_cadd, ni_cmul, ni_ltc, ni_lec, ni_clt, ni_cle, ni_eqc, ni_ceq, on_ni, ni_m1, nlt_t, nlt_f, nle_t, nle_f, neq_f, nw_int, nw_b0, nw_b1, nw_bi, nw_obj, nw_objn, nw_arr, nw_arrn, ft_int, ft_b0, ft_b1, ft_bi, ft_char, ft_obj, ft_objn, ft_arr, ft_arrn, ct_int, ct_ref, ct_null, lc_none, lc_int, lc_ref, lc_null, lc_long, sm_val, vi_int, seval, cx_hsz, cx_hsl, cx_env, cx_get0, cx_w0s, cx_w0c, cx_w28, giu_at, cxf_0, cxf_1, cxf_2, cxf_3, cxf_4, cxf_5, cxf_6, cxf_7, cxf_8, cxf_9, cxf_10, cxf_11, cxf_12, cxf_13, cxf_14, cxf_15, cxf_16, cxf_17, cxf_18, cxf_19, cxf_20, cxf_21, cxf_22, cxg_27, cxs_27, cxg_29, cxs_29, cxg_30, cxs_30, cxg_31, cxs_31, cxg_32, cxs_32, cxg_33, cxs_33, cxg_34, cxs_34, cxg_35, cxs_35, cxg_28, cxw_4, cxw_5, cxw_6, cxw_12, cxw_13, cxw_14, cxw_17, cxw_18, cxw_19, cxw_22, h3, hsz, ha, ht, s1, ni_succ]
end CLS
