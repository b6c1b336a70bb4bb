/-! THE REFERENCE walks the text: one clause, all clauses -/
set_option maxRecDepth 100000
set_option maxHeartbeats 200000
theorem twu_self (g : TS) (k i j : Nat) : twu g k i j (g k i j) = g := by
  funext k1 i1 j1
  unfold twu
  by_cases e : k1 = k ∧ i1 = i ∧ j1 = j
  · obtain ⟨rfl, rfl, rfl⟩ := e
    rw [if_pos ⟨rfl, rfl, rfl⟩]
  · rw [if_neg e]
theorem pClause_eq (T : TX) (many p : Nat) : pClause T many p = match kdAt T p with
    | none => .inl (1, p)
    | some (k, l) => if many = 20 then .inl (3, p) else pbd (pBody T k (p + l)) (fun z r => pbd (pTail T r) (fun C r2 => .inr ((k, z.1, z.2.1, z.2.2, C), r2))) := by
  unfold pClause
  cases kdAt T p with
  | none => rfl
  | some w =>
    obtain ⟨k, l⟩ := w
    show (if many = 20 then _ else _) = (if many = 20 then _ else _)
    by_cases c : many = 20
    · rw [if_pos c, if_pos c]
    · rw [if_neg c, if_neg c]
      congr 1
      funext z r
      unfold pTail
      split
      · cases pC T (sk T r + 2) with
        | inl e => rfl
        | inr v =>
          obtain ⟨C, r1⟩ := v
          simp only [pbd_r]
          cases psign T 59 r1 with
          | inl e => rfl
          | inr v => rfl
      · cases psign T 59 r with
        | inl e => rfl
        | inr v => rfl
/-- what a clause comes to -/
def LRes (b : Nat) (g0 : TS) (h : AH) (N : Nat) (fa : Int32) (ν : NV) (r : PR CLS) (A : ARes) : Prop := match r with
  | .inl (k', pl) => k' = 9 ∨ ((k' = 1 ∨ k' = 2 ∨ k' = 3) ∧ ∃ (w : Int32) (q : Nat) (y' : Int32), q ≤ N + 1 ∧ A = some (.returned none, tw b (ps (twu g0 8 0 0 w) (ni q) y' (ni k') (ni pl)) h))
  | .inr (z, q) => q ≤ N ∧ A = some (.returned none, tw b (ps (telc ν z g0) (ni q) (ni 0) 0 fa) h)
section TCW
variable {d b N : Nat} {g g0 : TS} {h : AH} {T : TX} {x y f fa : Int32}
theorem t_clJoin {ν : NV} (hT : twTx g0 N T) (hν : ∀ k, k < 6 → g0 16 0 k = ν k) {k : Nat} {kI : Int32} {bd : Nat → Int32 → Prop} {r : PR (Nat × EV × Nat)} {A : ARes} (hk : kI = ni k) (hd : 28 ≤ d)
    (hB : BRes d b g0 h N fa ν kI bd r A)
    (htell : ∀ (a : Nat) (v c : Int32), bd a v → ∀ (q : Nat) (y : Int32), ev d 307 0 [some (.ref b), some (.int (ni k)), some (.int (ni a)), some (.int v), some (.int c)] [] (tw b (ps g0 (ni q) y 0 fa) h) = some (.returned none, tw b (tell k a v c (ps g0 (ni q) y 0 fa)) h)) :
    LRes b g0 h N fa ν (pbd r (fun z r1 => pbd (pTail T r1) (fun C r2 => .inr ((k, z.1, z.2.1, z.2.2, C), r2)))) A := by
  subst hk
  match r, hB with
  | .inl (k', pl), hB =>
    rcases hB with hB | ⟨h1, va, vb, vc, q, y', h2, h3⟩
    · exact Or.inl hB
    · have hk : ni k' ≠ 0 := by rcases h1 with rfl | rfl | rfl <;> decide
      show LRes b g0 h N fa ν (.inl (k', pl)) A
      refine Or.inr ⟨h1, (g0 8 0 0 + 1), q, y', h2, ?_⟩
      rw [h3]
      exact t_clauseF _ _ _ _ _ hk
  | .inr (z, q), hB =>
    obtain ⟨h1, h2, h3⟩ := hB
    have h4 := t_clauseC (b := b) (h := h) (fa := fa) hT hν (k := k) (a := z.1) (v := z.2.1 ν) (c := ni z.2.2) h1 hd (htell _ _ _ h2)
    show LRes b g0 h N fa ν (pbd (pTail T q) _) _
    rw [h3]
    generalize pTail T q = r2 at h4 ⊢
    match r2, h4 with
    | .inl (k', pl), h4 => exact h4
    | .inr (C, q2), h4 => exact h4
theorem t_clause {ν : NV} {n c p : Nat} (hT : twTx g0 N T) (hν : ∀ k, k < 6 → g0 16 0 k = ν k) (hn : g0 8 0 0 = ni n) (hn2 : n ≤ 20) (hc : g0 25 0 0 = ni c) (hc2 : c ≤ n) (hp : p ≤ N) (hs : sk T p = p) (hd : 28 ≤ d) :
    LRes b g0 h N fa ν (pClause T n p) (ev d 289 0 [some (.ref b), none, none, none, none, none] [] (tw b (ps g0 (ni p) (ni 0) 0 fa) h)) := by
  have hN := hT.1.1
  rw [pClause_eq]
  cases hk : kdAt T p with
  | none =>
    refine Or.inr ⟨Or.inl rfl, g0 8 0 0, p, ni 0, by omega, ?_⟩
    rw [twu_self]
    have e1 : ni 1 = 1 := rfl
    rw [e1]
    simp (disch := first | omega | (simp only [seval]; done) | (simp only [seval]; omega)) only [e289_0, e289_0b, e289_1, e289_4, e289_5, e289_6, e289_7, e289_10, e289_10b, e289_11, e289_12, e289_12b, e289_13, e289_16, e289_19, e289_22, e289_22b, e289_23, e289_26, e289_28, e289_31, e289_31b, e289_32, e289_33, e289_33b, e289_34, e289_37, e289_40, e289_40b, e289_41, e289_44, e289_47, e289_48, e289_48b, e289_49, e289_52, e289_53, e289_56, e289_57, e289_58, e289_61, e289_61b, e289_62, e289_63, e289_65, e289_66, e289_69, e289_72, e289_73, e289_74, e289_77, e289_78, e289_80, e289_83, e289_84, e289_87, e289_87b, e289_88, e289_89, e289_90, e289_91, e289_94, e289_95, e289_96, e289_99, e289_99b, e289_100, e289_101, e289_103, e289_104, e289_107, e289_110, e289_111, e289_112, e289_115, e289_115b, e289_116, e289_117, e289_120, e289_121, e289_124, e289_127, e289_128, e289_129, e289_132, e289_133, e289_136, e289_136b, e289_137, e289_140, e289_141, e289_142, e289_143, e289_146, e289_146b, e289_147, e289_148, e289_151, e289_152, e289_155, e289_158, e289_159, e289_161, e289_162, e289_164, e289_164b, e289_165, e289_167, e289_169, e289_170, e289_171, e289_172, e289_173, e289_176, e289_179, e289_179b, e289_180, e289_183, e289_183b, e289_184, e289_187, e289_189, e289_189b, e289_190, e289_192, e289_195, e289_195b, e289_196, e289_199, e289_202, e289_204, e289_207, e289_207b, e289_208, e289_209, e289_210, e289_211, e289_213, e289_216, e289_216b, e289_217, e289_218, e289_221, e289_222, e289_223, e289_226, kre_some, kre_none, kxo_thr, bnd_ite, ↓reduceIte, List.length_cons, List.length_nil, List.mem_cons, List.not_mem_nil, or_false, or_true, false_or, true_or, true_and, and_true, and_self, false_and, and_false, not_true_eq_false, not_false_eq_true, eq_self, ne_eq, if_true, if_false, bi_eq0, bi_eq1, bi_F, bi_T, ft_byte, ni_lt, ni_le, ni_neg, ni_pos, ni_inj, ni_nat, ni_add, ni_mul, ni_addc, ni_cadd, ni_cmul, ni_ltc, ni_lec, ni_clt, ni_cle, ni_eqc, ni_ceq, on_ni, ni_m1, nlt_t, nlt_f, nle_t, nle_f, neq_f, nw_int, nw_b0, nw_b1, nw_bi, nw_obj, nw_objn, nw_arr, nw_arrn, ft_int, ft_b0, ft_b1, ft_bi, ft_char, ft_obj, ft_objn, ft_arr, ft_arrn, ct_int, ct_ref, ct_null, lc_none, lc_int, lc_ref, lc_null, lc_long, sm_val, vi_int, seval, twu_at, tw_get0, twf_0, tws_0, twf_1, tws_1, twf_2, tws_2, twf_3, tws_3, twf_4, tws_4, twf_5, tws_5, twf_6, tws_6, twf_7, tws_7, twf_8, tws_8, twf_9, tws_9, twf_14, tws_14, twf_15, tws_15, twf_20, tws_20, twf_21, tws_21, twf_22, tws_22, twf_23, tws_23, twf_24, tws_24, twf_25, tws_25, twf_27, tws_27, twf_28, tws_28, twf_29, tws_29, twf_30, tws_30, twf_31, tws_31, twf_32, tws_32, twf_33, tws_33, twf_34, tws_34, twf_35, tws_35, twf_36, tws_36, twf_37, tws_37, twf_38, tws_38, twf_39, tws_39, twf_40, tws_40, twf_41, tws_41, twf_42, tws_42, twf_43, tws_43, twf_44, tws_44, twf_62, tws_62, twf_65, tws_65, twf_66, tws_66, twf_69, tws_69, twf_70, tws_70, twf_10, twg_10, tws_10, twf_11, twg_11, twr_11, tws_11, twf_12, twg_12, tws_12, twf_13, twg_13, tws_13, twf_16, twg_16, tws_16, twf_17, twg_17, tws_17, twf_18, twg_18, tws_18, twf_19, twg_19, tws_19, twf_26, twg_26, twr_26, tws_26, twf_45, twg_45, twr_45, tws_45, twf_46, twg_46, twr_46, tws_46, twf_47, twg_47, tws_47, twf_48, twg_48, tws_48, twf_49, twg_49, twr_49, tws_49, twf_50, twg_50, twr_50, tws_50, twf_51, twg_51, tws_51, twf_52, twg_52, tws_52, twf_53, twg_53, twr_53, tws_53, twf_54, twg_54, twr_54, tws_54, twf_55, twg_55, twr_55, tws_55, twf_56, twg_56, twr_56, tws_56, twf_57, twg_57, twr_57, tws_57, twf_58, twg_58, twr_58, tws_58, twf_59, twg_59, tws_59, twf_60, twg_60, tws_60, twf_61, twg_61, tws_61, twf_63, twg_63, tws_63, twf_64, twg_64, tws_64, twf_67, twg_67, twr_67, tws_67, twf_68, twg_68, twr_68, tws_68, ps_at, ps_open, ps_fault, ps_fat, ps_oth, psu_at, psu_open, psu_fault, psu_fat, t_kindHere hT hp hs, hk, t_wrong]
  | some z =>
    obtain ⟨k, l⟩ := z
    obtain ⟨k6, kl⟩ := kdAt_spec hk
    have hwl := wd_le hT.1 hp
    show LRes b g0 h N fa ν (if n = 20 then _ else _) _
    by_cases c20 : n = 20
    · rw [if_pos c20]
      refine Or.inr ⟨Or.inr (Or.inr rfl), g0 8 0 0, p, ni 0, by omega, ?_⟩
      rw [twu_self]
      have e3 : ni 3 = 3 := rfl
      rw [e3]
      simp (disch := first | omega | (simp only [seval]; done) | (simp only [seval]; omega)) only [e289_0, e289_0b, e289_1, e289_4, e289_5, e289_6, e289_7, e289_10, e289_10b, e289_11, e289_12, e289_12b, e289_13, e289_16, e289_19, e289_22, e289_22b, e289_23, e289_26, e289_28, e289_31, e289_31b, e289_32, e289_33, e289_33b, e289_34, e289_37, e289_40, e289_40b, e289_41, e289_44, e289_47, e289_48, e289_48b, e289_49, e289_52, e289_53, e289_56, e289_57, e289_58, e289_61, e289_61b, e289_62, e289_63, e289_65, e289_66, e289_69, e289_72, e289_73, e289_74, e289_77, e289_78, e289_80, e289_83, e289_84, e289_87, e289_87b, e289_88, e289_89, e289_90, e289_91, e289_94, e289_95, e289_96, e289_99, e289_99b, e289_100, e289_101, e289_103, e289_104, e289_107, e289_110, e289_111, e289_112, e289_115, e289_115b, e289_116, e289_117, e289_120, e289_121, e289_124, e289_127, e289_128, e289_129, e289_132, e289_133, e289_136, e289_136b, e289_137, e289_140, e289_141, e289_142, e289_143, e289_146, e289_146b, e289_147, e289_148, e289_151, e289_152, e289_155, e289_158, e289_159, e289_161, e289_162, e289_164, e289_164b, e289_165, e289_167, e289_169, e289_170, e289_171, e289_172, e289_173, e289_176, e289_179, e289_179b, e289_180, e289_183, e289_183b, e289_184, e289_187, e289_189, e289_189b, e289_190, e289_192, e289_195, e289_195b, e289_196, e289_199, e289_202, e289_204, e289_207, e289_207b, e289_208, e289_209, e289_210, e289_211, e289_213, e289_216, e289_216b, e289_217, e289_218, e289_221, e289_222, e289_223, e289_226, kre_some, kre_none, kxo_thr, bnd_ite, ↓reduceIte, List.length_cons, List.length_nil, List.mem_cons, List.not_mem_nil, or_false, or_true, false_or, true_or, true_and, and_true, and_self, false_and, and_false, not_true_eq_false, not_false_eq_true, eq_self, ne_eq, if_true, if_false, bi_eq0, bi_eq1, bi_F, bi_T, ft_byte, ni_lt, ni_le, ni_neg, ni_pos, ni_inj, ni_nat, ni_add, ni_mul, ni_addc, ni_cadd, ni_cmul, ni_ltc, ni_lec, ni_clt, ni_cle, ni_eqc, ni_ceq, on_ni, ni_m1, nlt_t, nlt_f, nle_t, nle_f, neq_f, nw_int, nw_b0, nw_b1, nw_bi, nw_obj, nw_objn, nw_arr, nw_arrn, ft_int, ft_b0, ft_b1, ft_bi, ft_char, ft_obj, ft_objn, ft_arr, ft_arrn, ct_int, ct_ref, ct_null, lc_none, lc_int, lc_ref, lc_null, lc_long, sm_val, vi_int, seval, twu_at, tw_get0, twf_0, tws_0, twf_1, tws_1, twf_2, tws_2, twf_3, tws_3, twf_4, tws_4, twf_5, tws_5, twf_6, tws_6, twf_7, tws_7, twf_8, tws_8, twf_9, tws_9, twf_14, tws_14, twf_15, tws_15, twf_20, tws_20, twf_21, tws_21, twf_22, tws_22, twf_23, tws_23, twf_24, tws_24, twf_25, tws_25, twf_27, tws_27, twf_28, tws_28, twf_29, tws_29, twf_30, tws_30, twf_31, tws_31, twf_32, tws_32, twf_33, tws_33, twf_34, tws_34, twf_35, tws_35, twf_36, tws_36, twf_37, tws_37, twf_38, tws_38, twf_39, tws_39, twf_40, tws_40, twf_41, tws_41, twf_42, tws_42, twf_43, tws_43, twf_44, tws_44, twf_62, tws_62, twf_65, tws_65, twf_66, tws_66, twf_69, tws_69, twf_70, tws_70, twf_10, twg_10, tws_10, twf_11, twg_11, twr_11, tws_11, twf_12, twg_12, tws_12, twf_13, twg_13, tws_13, twf_16, twg_16, tws_16, twf_17, twg_17, tws_17, twf_18, twg_18, tws_18, twf_19, twg_19, tws_19, twf_26, twg_26, twr_26, tws_26, twf_45, twg_45, twr_45, tws_45, twf_46, twg_46, twr_46, tws_46, twf_47, twg_47, tws_47, twf_48, twg_48, tws_48, twf_49, twg_49, twr_49, tws_49, twf_50, twg_50, twr_50, tws_50, twf_51, twg_51, tws_51, twf_52, twg_52, tws_52, twf_53, twg_53, twr_53, tws_53, twf_54, twg_54, twr_54, tws_54, twf_55, twg_55, twr_55, tws_55, twf_56, twg_56, twr_56, tws_56, twf_57, twg_57, twr_57, tws_57, twf_58, twg_58, twr_58, tws_58, twf_59, twg_59, tws_59, twf_60, twg_60, tws_60, twf_61, twg_61, tws_61, twf_63, twg_63, tws_63, twf_64, twg_64, tws_64, twf_67, twg_67, twr_67, tws_67, twf_68, twg_68, twr_68, tws_68, ps_at, ps_open, ps_fault, ps_fat, ps_oth, psu_at, psu_open, psu_fault, psu_fat, t_kindHere hT hp hs, hk, t_wrong, hn, c20]
    · rw [if_neg c20]
      have hA : ev d 289 0 [some (.ref b), none, none, none, none, none] [] (tw b (ps g0 (ni p) (ni 0) 0 fa) h) = ev d 289 52 [some (.ref b), some (.int (ni k)), none, none, none, none] [] (tw b (ps g0 (ni (p + l)) (ni 0) 0 fa) h) := by
        simp (disch := first | omega | (simp only [seval]; done) | (simp only [seval]; omega)) only [e289_0, e289_0b, e289_1, e289_4, e289_5, e289_6, e289_7, e289_10, e289_10b, e289_11, e289_12, e289_12b, e289_13, e289_16, e289_19, e289_22, e289_22b, e289_23, e289_26, e289_28, e289_31, e289_31b, e289_32, e289_33, e289_33b, e289_34, e289_37, e289_40, e289_40b, e289_41, e289_44, e289_47, e289_48, e289_48b, e289_49, e289_53, e289_56, e289_57, e289_58, e289_61, e289_61b, e289_62, e289_63, e289_65, e289_66, e289_69, e289_72, e289_73, e289_74, e289_77, e289_78, e289_80, e289_83, e289_84, e289_87, e289_87b, e289_88, e289_89, e289_90, e289_91, e289_94, e289_95, e289_96, e289_99, e289_99b, e289_100, e289_101, e289_103, e289_104, e289_107, e289_110, e289_111, e289_112, e289_115, e289_115b, e289_116, e289_117, e289_120, e289_121, e289_124, e289_127, e289_128, e289_129, e289_132, e289_133, e289_136, e289_136b, e289_137, e289_140, e289_141, e289_142, e289_143, e289_146, e289_146b, e289_147, e289_148, e289_151, e289_152, e289_155, e289_158, e289_159, e289_161, e289_162, e289_164, e289_164b, e289_165, e289_167, e289_169, e289_170, e289_171, e289_172, e289_173, e289_176, e289_179, e289_179b, e289_180, e289_183, e289_183b, e289_184, e289_187, e289_189, e289_189b, e289_190, e289_192, e289_195, e289_195b, e289_196, e289_199, e289_202, e289_204, e289_207, e289_207b, e289_208, e289_209, e289_210, e289_211, e289_213, e289_216, e289_216b, e289_217, e289_218, e289_221, e289_222, e289_223, e289_226, kre_some, kre_none, kxo_thr, bnd_ite, ↓reduceIte, List.length_cons, List.length_nil, List.mem_cons, List.not_mem_nil, or_false, or_true, false_or, true_or, true_and, and_true, and_self, false_and, and_false, not_true_eq_false, not_false_eq_true, eq_self, ne_eq, if_true, if_false, bi_eq0, bi_eq1, bi_F, bi_T, ft_byte, ni_lt, ni_le, ni_neg, ni_pos, ni_inj, ni_nat, ni_add, ni_mul, ni_addc, ni_cadd, ni_cmul, ni_ltc, ni_lec, ni_clt, ni_cle, ni_eqc, ni_ceq, on_ni, ni_m1, nlt_t, nlt_f, nle_t, nle_f, neq_f, nw_int, nw_b0, nw_b1, nw_bi, nw_obj, nw_objn, nw_arr, nw_arrn, ft_int, ft_b0, ft_b1, ft_bi, ft_char, ft_obj, ft_objn, ft_arr, ft_arrn, ct_int, ct_ref, ct_null, lc_none, lc_int, lc_ref, lc_null, lc_long, sm_val, vi_int, seval, twu_at, tw_get0, twf_0, tws_0, twf_1, tws_1, twf_2, tws_2, twf_3, tws_3, twf_4, tws_4, twf_5, tws_5, twf_6, tws_6, twf_7, tws_7, twf_8, tws_8, twf_9, tws_9, twf_14, tws_14, twf_15, tws_15, twf_20, tws_20, twf_21, tws_21, twf_22, tws_22, twf_23, tws_23, twf_24, tws_24, twf_25, tws_25, twf_27, tws_27, twf_28, tws_28, twf_29, tws_29, twf_30, tws_30, twf_31, tws_31, twf_32, tws_32, twf_33, tws_33, twf_34, tws_34, twf_35, tws_35, twf_36, tws_36, twf_37, tws_37, twf_38, tws_38, twf_39, tws_39, twf_40, tws_40, twf_41, tws_41, twf_42, tws_42, twf_43, tws_43, twf_44, tws_44, twf_62, tws_62, twf_65, tws_65, twf_66, tws_66, twf_69, tws_69, twf_70, tws_70, twf_10, twg_10, tws_10, twf_11, twg_11, twr_11, tws_11, twf_12, twg_12, tws_12, twf_13, twg_13, tws_13, twf_16, twg_16, tws_16, twf_17, twg_17, tws_17, twf_18, twg_18, tws_18, twf_19, twg_19, tws_19, twf_26, twg_26, twr_26, tws_26, twf_45, twg_45, twr_45, tws_45, twf_46, twg_46, twr_46, tws_46, twf_47, twg_47, tws_47, twf_48, twg_48, tws_48, twf_49, twg_49, twr_49, tws_49, twf_50, twg_50, twr_50, tws_50, twf_51, twg_51, tws_51, twf_52, twg_52, tws_52, twf_53, twg_53, twr_53, tws_53, twf_54, twg_54, twr_54, tws_54, twf_55, twg_55, twr_55, tws_55, twf_56, twg_56, twr_56, tws_56, twf_57, twg_57, twr_57, tws_57, twf_58, twg_58, twr_58, tws_58, twf_59, twg_59, tws_59, twf_60, twg_60, tws_60, twf_61, twg_61, tws_61, twf_63, twg_63, tws_63, twf_64, twg_64, tws_64, twf_67, twg_67, twr_67, tws_67, twf_68, twg_68, twr_68, tws_68, ps_at, ps_open, ps_fault, ps_fat, ps_oth, psu_at, psu_open, psu_fault, psu_fat, t_kindHere hT hp hs, hk, hn, c20, t_skipWord hT (show p < 500000 by omega), kl]
      rw [hA]
      have hpl : p + l ≤ N := by omega
      match k, k6 with
      | 0, _ =>
        refine t_clJoin hT hν (k := 0) rfl hd (t_clB0 hT hν hpl hd) fun a v c hb q y => ?_
        obtain ⟨ha, e, he, rfl⟩ := hb
        have := t_tell0 (d := d) (b := b) (g := ps g0 (ni q) y 0 fa) (h := h) (c := c) ha he
        exact this
      | 1, _ =>
        refine t_clJoin hT hν (k := 1) rfl hd (t_clB1 hT hν hpl hd) fun a v c hb q y => ?_
        have := t_tell1 (d := d) (b := b) (g := ps g0 (ni q) y 0 fa) (h := h) (v := v) (c := c) hb
        exact this
      | 2, _ =>
        refine t_clJoin hT hν (k := 2) rfl hd (t_clB2 hT hν hpl hd) fun a v c hb q y => ?_
        have := t_tell2 (d := d) (b := b) (g := ps g0 (ni q) y 0 fa) (h := h) (v := v) (c := c)
        subst hb
        exact this
      | 3, _ =>
        refine t_clJoin hT hν (k := 3) rfl hd (t_clB3 hT hν hpl hd) fun a v c hb q y => ?_
        have := t_tell3 (d := d) (b := b) (g := ps g0 (ni q) y 0 fa) (h := h) (v := v) (c := c) hb
        exact this
      | 4, _ =>
        refine t_clJoin hT hν (k := 4) rfl hd (t_clB4 hT hν hpl hd) fun a v c hb q y => ?_
        have := t_tell4 (d := d) (b := b) (g := ps g0 (ni q) y 0 fa) (h := h) (v := v) (c := c) hb
        exact this
      | 5, _ =>
        refine t_clJoin hT hν (k := 5) rfl hd (t_clB5 hT hν hpl hd) fun a v c hb q y => ?_
        have := t_tell5 (d := d) (b := b) (g := ps g0 (ni q) y 0 fa) (h := h) (v := v) (c := c) hb hc (by omega)
        exact this
      | 6, _ =>
        refine t_clJoin hT hν (k := 6) rfl hd (t_clB6 hT hν hpl hd) fun a v c hb q y => ?_
        have := t_tell6 (d := d) (b := b) (g := ps g0 (ni q) y 0 fa) (h := h) (v := v) (c := c)
        subst hb
        exact this
theorem twTx_congr {g g1 : TS} (e2 : g1 2 0 0 = g 2 0 0) (e9 : g1 9 0 0 = g 9 0 0) (e15 : g1 15 0 0 = g 15 0 0) (e10 : ∀ j, g1 10 0 j = g 10 0 j) (e11 : ∀ i j, g1 11 i j = g 11 i j) (h : twTx g N T) : twTx g1 N T := by
  obtain ⟨h1, h2, h3⟩ := h
  refine ⟨h1, by rw [e2]; exact h2, ?_⟩
  rcases h3 with h3 | ⟨h3, h4⟩ | ⟨h3, w, hw, h4, h5⟩
  · exact Or.inl h3
  · exact Or.inr (Or.inl ⟨by rw [e9]; exact h3, fun k hk => by rw [e10]; exact h4 k hk⟩)
  · exact Or.inr (Or.inr ⟨by rw [e9]; exact h3, w, hw, by rw [e15]; exact h4, fun k hk => by rw [e11]; exact h5 k hk⟩)
/-- the same but for what a walk tells -/
def wf (g g1 : TS) : Prop := ∀ k i j, (k ≠ 8 ∧ (k < 17 ∨ 26 < k)) → g1 k i j = g k i j
theorem wf.rf (g : TS) : wf g g := fun _ _ _ _ => rfl
theorem wf.tr {g g1 g2 : TS} (h1 : wf g g1) (h2 : wf g1 g2) : wf g g2 := fun k i j hk => (h2 k i j hk).trans (h1 k i j hk)
theorem wf.up {g : TS} {k i j : Nat} {v : Int32} (hk : k = 8 ∨ (17 ≤ k ∧ k ≤ 26)) : wf g (twu g k i j v) := fun k1 i1 j1 h => by
  unfold twu
  rw [if_neg (by omega)]
theorem wf_tell {g : TS} {k a : Nat} {v c : Int32} : wf g (tell k a v c g) := by
  unfold tell
  split
  · have h1 : wf g (twu (twu g 17 0 a (g 17 0 a ||| ((1 : Int32) <<< (v &&& 31)))) 17 0 v.toNatClampNeg ((twu g 17 0 a (g 17 0 a ||| ((1 : Int32) <<< (v &&& 31)))) 17 0 v.toNatClampNeg ||| ((1 : Int32) <<< (ni a &&& 31)))) := (wf.up (Or.inr (by omega))).tr (wf.up (Or.inr (by omega)))
    dsimp only
    split
    · split
      · exact h1.tr (wf.up (Or.inr (by omega)))
      · exact h1
    · exact h1
  · exact wf.up (Or.inr (by omega))
  · exact wf.up (Or.inr (by omega))
  · exact wf.up (Or.inr (by omega))
  · exact wf.up (Or.inr (by omega))
  · exact (((wf.up (Or.inr (by omega))).tr (wf.up (Or.inr (by omega)))).tr (wf.up (Or.inr (by omega)))).tr (wf.up (Or.inr (by omega)))
  · exact wf.up (Or.inr (by omega))
theorem wf_telc {g : TS} {ν : NV} {z : CLS} : wf g (telc ν z g) := by
  unfold telc
  dsimp only
  split
  · exact wf_tell.tr (wf.up (Or.inl rfl))
  · exact wf.up (Or.inl rfl)
/-- all clauses of L told, from g on -/
def wk (ν : NV) (L : List CLS) (g : TS) : TS := L.foldl (fun g z => telc ν z g) g
theorem wk_snoc (ν : NV) (L : List CLS) (z : CLS) (g : TS) : wk ν (L ++ [z]) g = telc ν z (wk ν L g) := by
  unfold wk
  rw [List.foldl_append]
  rfl
theorem wf_wk {ν : NV} : ∀ (L : List CLS) (g : TS), wf g (wk ν L g)
  | [], g => wf.rf g
  | z :: L, g => wf_telc.tr (wf_wk L (telc ν z g))
theorem wf.tx {g g1 : TS} (h : wf g g1) (hT : twTx g N T) : twTx g1 N T := twTx_congr (h 2 0 0 (by omega)) (h 9 0 0 (by omega)) (h 15 0 0 (by omega)) (fun j => h 10 0 j (by omega)) (fun i j => h 11 i j (by omega)) hT
theorem telc_8 {ν : NV} {z : CLS} {g : TS} : telc ν z g 8 0 0 = g 8 0 0 + 1 := by
  have h1 : ∀ (k a : Nat) (v c : Int32), tell k a v c g 8 0 0 = g 8 0 0 := by
    intro k a v c
    unfold tell
    split
    · dsimp only
      split
      · split <;> simp [twu]
      · simp [twu]
    all_goals simp [twu]
  unfold telc
  split
  · simp [twu, h1]
  · simp [twu]
theorem telc_25 {ν : NV} {z : CLS} {g : TS} : telc ν z g 25 0 0 = g 25 0 0 ∨ telc ν z g 25 0 0 = g 25 0 0 + 1 := by
  have h1 : ∀ (k a : Nat) (v c : Int32), tell k a v c g 25 0 0 = g 25 0 0 ∨ tell k a v c g 25 0 0 = g 25 0 0 + 1 := by
    intro k a v c
    unfold tell
    split
    · dsimp only
      split
      · split <;> simp [twu]
      · simp [twu]
    all_goals simp [twu]
  unfold telc
  split
  · have h2 : ∀ (X : TS) (v : Int32), twu X 8 0 0 v 25 0 0 = X 25 0 0 := fun X v => if_neg (by omega)
    rw [h2]
    exact h1 _ _ _ _
  · simp [twu]
/-- what all clauses come to -/
def ARs (b : Nat) (gi : TS) (h : AH) (fa : Int32) (ν : NV) (r : PR (List CLS)) (A : ARes) : Prop := match r with
  | .inl (k', pl) => k' = 9 ∨ ((k' = 1 ∨ k' = 2 ∨ k' = 3) ∧ ∃ (g1 : TS) (x y : Int32), wf gi g1 ∧ A = some (.returned none, tw b (ps g1 x y (ni k') (ni pl)) h))
  | .inr (L, q) => L.length ≤ 20 ∧ A = some (.returned none, tw b (ps (wk ν L gi) (ni q) (ni 0) 0 fa) h)
theorem t_walkL {ν : NV} {gi : TS} (hT : twTx gi N T) (hν : ∀ k, k < 6 → gi 16 0 k = ν k) (h8 : gi 8 0 0 = 0) (h25 : gi 25 0 0 = 0) (hd : 28 ≤ d) (v1 : Option Value) : ∀ (n : Nat) (L : List CLS) (p : Nat), p ≤ N → L.length ≤ 20 → (∃ c, c ≤ L.length ∧ wk ν L gi 25 0 0 = ni c) → wk ν L gi 8 0 0 = ni L.length →
    ARs b gi h fa ν (pAll T N n L p) (ev d 286 102 [some (.ref b), v1] [] (tw b (ps (wk ν L gi) (ni (sk T p)) (ni 0) 0 fa) h))
  | 0, L, p, hp, hL, hc, hn => Or.inl rfl
  | n + 1, L, p, hp, hL, ⟨c, hc, hc2⟩, hn => by
    have hN := hT.1.1
    have hs := sk_le hT.1 hp
    have hi := sk_idem hT.1 p
    have hw := wf_wk (ν := ν) L gi
    have hT' := hw.tx hT
    have hz := hT'.2.1
    rw [e286_102]
    unfold pAll
    by_cases c1 : sk T p < N
    · rw [if_pos c1]
      have hcl : L.length = 20 → ∃ e, pClause T L.length (sk T p) = .inl e := by
        intro q
        rw [pClause_eq, q]
        split
        · exact ⟨_, rfl⟩
        · exact ⟨_, if_pos rfl⟩
      have h1 := t_clause (d := d) (b := b) (h := h) (fa := fa) hT' (fun k hk => (hw 16 0 k (by omega)).trans (hν k hk)) hn hL hc2 hc hs hi hd
      generalize pClause T L.length (sk T p) = r at h1 hcl ⊢
      match r, h1, hcl with
      | .inl (k, pl), h1, _ =>
        rcases h1 with h1 | ⟨h1, w, q, y', h2, h3⟩
        · exact Or.inl h1
        · have hk : ni k ≠ 0 := by rcases h1 with rfl | rfl | rfl <;> decide
          have hTu : twTx (twu (wk ν L gi) 8 0 0 w) N T := (wf.up (Or.inl rfl)).tx hT'
          refine Or.inr ⟨h1, twu (wk ν L gi) 8 0 0 w, ni (sk T q), y', hw.tr (wf.up (Or.inl rfl)), ?_⟩
          simp (disch := first | omega | (simp only [seval]; done) | (simp only [seval]; omega)) only [e286_0, e286_0b, e286_1, e286_2, e286_5, e286_5b, e286_6, e286_7, e286_10, e286_10b, e286_11, e286_12, e286_15, e286_15b, e286_16, e286_17, e286_20, e286_20b, e286_21, e286_22, e286_25, e286_25b, e286_26, e286_27, e286_30, e286_30b, e286_31, e286_32, e286_35, e286_35b, e286_36, e286_37, e286_40, e286_40b, e286_41, e286_42, e286_45, e286_45b, e286_46, e286_47, e286_50, e286_51, e286_53, e286_55, e286_58, e286_58b, e286_59, e286_62, e286_63, e286_64, e286_65, e286_68, e286_71, e286_72, e286_74, e286_75, e286_78, e286_78b, e286_79, e286_82, e286_83, e286_84, e286_85, e286_85b, e286_86, e286_89, e286_90, e286_91, e286_92, e286_95, e286_98, e286_98b, e286_99, e286_103, e286_106, e286_109, e286_109b, e286_110, e286_113, e286_113b, e286_114, e286_117, e286_120, e286_120b, e286_121, e286_124, e286_124b, e286_125, e286_128, e286_131, kre_some, kre_none, kxo_thr, bnd_ite, ↓reduceIte, List.length_cons, List.length_nil, List.mem_cons, List.not_mem_nil, or_false, or_true, false_or, true_or, true_and, and_true, and_self, false_and, and_false, not_true_eq_false, not_false_eq_true, eq_self, ne_eq, if_true, if_false, bi_eq0, bi_eq1, bi_F, bi_T, ft_byte, ni_lt, ni_le, ni_neg, ni_pos, ni_inj, ni_nat, ni_add, ni_mul, ni_addc, ni_cadd, ni_cmul, ni_ltc, ni_lec, ni_clt, ni_cle, ni_eqc, ni_ceq, on_ni, ni_m1, nlt_t, nlt_f, nle_t, nle_f, neq_f, nw_int, nw_b0, nw_b1, nw_bi, nw_obj, nw_objn, nw_arr, nw_arrn, ft_int, ft_b0, ft_b1, ft_bi, ft_char, ft_obj, ft_objn, ft_arr, ft_arrn, ct_int, ct_ref, ct_null, lc_none, lc_int, lc_ref, lc_null, lc_long, sm_val, vi_int, seval, twu_at, tw_get0, twf_0, tws_0, twf_1, tws_1, twf_2, tws_2, twf_3, tws_3, twf_4, tws_4, twf_5, tws_5, twf_6, tws_6, twf_7, tws_7, twf_8, tws_8, twf_9, tws_9, twf_14, tws_14, twf_15, tws_15, twf_20, tws_20, twf_21, tws_21, twf_22, tws_22, twf_23, tws_23, twf_24, tws_24, twf_25, tws_25, twf_27, tws_27, twf_28, tws_28, twf_29, tws_29, twf_30, tws_30, twf_31, tws_31, twf_32, tws_32, twf_33, tws_33, twf_34, tws_34, twf_35, tws_35, twf_36, tws_36, twf_37, tws_37, twf_38, tws_38, twf_39, tws_39, twf_40, tws_40, twf_41, tws_41, twf_42, tws_42, twf_43, tws_43, twf_44, tws_44, twf_62, tws_62, twf_65, tws_65, twf_66, tws_66, twf_69, tws_69, twf_70, tws_70, twf_10, twg_10, tws_10, twf_11, twg_11, twr_11, tws_11, twf_12, twg_12, tws_12, twf_13, twg_13, tws_13, twf_16, twg_16, tws_16, twf_17, twg_17, tws_17, twf_18, twg_18, tws_18, twf_19, twg_19, tws_19, twf_26, twg_26, twr_26, tws_26, twf_45, twg_45, twr_45, tws_45, twf_46, twg_46, twr_46, tws_46, twf_47, twg_47, tws_47, twf_48, twg_48, tws_48, twf_49, twg_49, twr_49, tws_49, twf_50, twg_50, twr_50, tws_50, twf_51, twg_51, tws_51, twf_52, twg_52, tws_52, twf_53, twg_53, twr_53, tws_53, twf_54, twg_54, twr_54, tws_54, twf_55, twg_55, twr_55, tws_55, twf_56, twg_56, twr_56, tws_56, twf_57, twg_57, twr_57, tws_57, twf_58, twg_58, twr_58, tws_58, twf_59, twg_59, tws_59, twf_60, twg_60, tws_60, twf_61, twg_61, tws_61, twf_63, twg_63, tws_63, twf_64, twg_64, tws_64, twf_67, twg_67, twr_67, tws_67, twf_68, twg_68, twr_68, tws_68, ps_at, ps_open, ps_fault, ps_fat, ps_oth, psu_at, psu_open, psu_fault, psu_fat, hz, c1, h3, t_blanks hTu (show q < 500000 by omega), e286_102, e286_102b, hk]
      | .inr (z, q), h1, hcl =>
        obtain ⟨h2, h3⟩ := h1
        have e9 := wk_snoc ν L z gi
        have hT2 : twTx (telc ν z (wk ν L gi)) N T := wf_telc.tx hT'
        show ARs b gi h fa ν (pAll T N n (L ++ [z]) q) _
        have hL2 : L.length < 20 := by
          have h5 := hL
          by_cases q20 : L.length = 20
          · obtain ⟨e, he⟩ := hcl q20
            cases he
          · omega
        have ih := t_walkL hT hν h8 h25 hd v1 n (L ++ [z]) q h2 (by simp; omega) (by
          rw [e9]
          rcases telc_25 (ν := ν) (z := z) (g := wk ν L gi) with e | e
          · exact ⟨c, by simp; omega, by rw [e, hc2]⟩
          · exact ⟨c + 1, by simp; omega, by rw [e, hc2, ni_succ]⟩) (by
          rw [e9, telc_8, hn, ni_succ]
          simp)
        rw [e9] at ih
        simp (disch := first | omega | (simp only [seval]; done) | (simp only [seval]; omega)) only [e286_0, e286_0b, e286_1, e286_2, e286_5, e286_5b, e286_6, e286_7, e286_10, e286_10b, e286_11, e286_12, e286_15, e286_15b, e286_16, e286_17, e286_20, e286_20b, e286_21, e286_22, e286_25, e286_25b, e286_26, e286_27, e286_30, e286_30b, e286_31, e286_32, e286_35, e286_35b, e286_36, e286_37, e286_40, e286_40b, e286_41, e286_42, e286_45, e286_45b, e286_46, e286_47, e286_50, e286_51, e286_53, e286_55, e286_58, e286_58b, e286_59, e286_62, e286_63, e286_64, e286_65, e286_68, e286_71, e286_72, e286_74, e286_75, e286_78, e286_78b, e286_79, e286_82, e286_83, e286_84, e286_85, e286_85b, e286_86, e286_89, e286_90, e286_91, e286_92, e286_95, e286_98, e286_98b, e286_99, e286_103, e286_106, e286_109, e286_109b, e286_110, e286_113, e286_113b, e286_114, e286_117, e286_120, e286_120b, e286_121, e286_124, e286_124b, e286_125, e286_128, e286_131, kre_some, kre_none, kxo_thr, bnd_ite, ↓reduceIte, List.length_cons, List.length_nil, List.mem_cons, List.not_mem_nil, or_false, or_true, false_or, true_or, true_and, and_true, and_self, false_and, and_false, not_true_eq_false, not_false_eq_true, eq_self, ne_eq, if_true, if_false, bi_eq0, bi_eq1, bi_F, bi_T, ft_byte, ni_lt, ni_le, ni_neg, ni_pos, ni_inj, ni_nat, ni_add, ni_mul, ni_addc, ni_cadd, ni_cmul, ni_ltc, ni_lec, ni_clt, ni_cle, ni_eqc, ni_ceq, on_ni, ni_m1, nlt_t, nlt_f, nle_t, nle_f, neq_f, nw_int, nw_b0, nw_b1, nw_bi, nw_obj, nw_objn, nw_arr, nw_arrn, ft_int, ft_b0, ft_b1, ft_bi, ft_char, ft_obj, ft_objn, ft_arr, ft_arrn, ct_int, ct_ref, ct_null, lc_none, lc_int, lc_ref, lc_null, lc_long, sm_val, vi_int, seval, twu_at, tw_get0, twf_0, tws_0, twf_1, tws_1, twf_2, tws_2, twf_3, tws_3, twf_4, tws_4, twf_5, tws_5, twf_6, tws_6, twf_7, tws_7, twf_8, tws_8, twf_9, tws_9, twf_14, tws_14, twf_15, tws_15, twf_20, tws_20, twf_21, tws_21, twf_22, tws_22, twf_23, tws_23, twf_24, tws_24, twf_25, tws_25, twf_27, tws_27, twf_28, tws_28, twf_29, tws_29, twf_30, tws_30, twf_31, tws_31, twf_32, tws_32, twf_33, tws_33, twf_34, tws_34, twf_35, tws_35, twf_36, tws_36, twf_37, tws_37, twf_38, tws_38, twf_39, tws_39, twf_40, tws_40, twf_41, tws_41, twf_42, tws_42, twf_43, tws_43, twf_44, tws_44, twf_62, tws_62, twf_65, tws_65, twf_66, tws_66, twf_69, tws_69, twf_70, tws_70, twf_10, twg_10, tws_10, twf_11, twg_11, twr_11, tws_11, twf_12, twg_12, tws_12, twf_13, twg_13, tws_13, twf_16, twg_16, tws_16, twf_17, twg_17, tws_17, twf_18, twg_18, tws_18, twf_19, twg_19, tws_19, twf_26, twg_26, twr_26, tws_26, twf_45, twg_45, twr_45, tws_45, twf_46, twg_46, twr_46, tws_46, twf_47, twg_47, tws_47, twf_48, twg_48, tws_48, twf_49, twg_49, twr_49, tws_49, twf_50, twg_50, twr_50, tws_50, twf_51, twg_51, tws_51, twf_52, twg_52, tws_52, twf_53, twg_53, twr_53, tws_53, twf_54, twg_54, twr_54, tws_54, twf_55, twg_55, twr_55, tws_55, twf_56, twg_56, twr_56, tws_56, twf_57, twg_57, twr_57, tws_57, twf_58, twg_58, twr_58, tws_58, twf_59, twg_59, tws_59, twf_60, twg_60, tws_60, twf_61, twg_61, tws_61, twf_63, twg_63, tws_63, twf_64, twg_64, tws_64, twf_67, twg_67, twr_67, tws_67, twf_68, twg_68, twr_68, tws_68, ps_at, ps_open, ps_fault, ps_fat, ps_oth, psu_at, psu_open, psu_fault, psu_fat, hz, c1, h3, t_blanks hT2 (show q < 500000 by omega)]
        exact ih
    · rw [if_neg c1]
      refine ⟨hL, ?_⟩
      simp (disch := first | omega | (simp only [seval]; done) | (simp only [seval]; omega)) only [e286_0, e286_0b, e286_1, e286_2, e286_5, e286_5b, e286_6, e286_7, e286_10, e286_10b, e286_11, e286_12, e286_15, e286_15b, e286_16, e286_17, e286_20, e286_20b, e286_21, e286_22, e286_25, e286_25b, e286_26, e286_27, e286_30, e286_30b, e286_31, e286_32, e286_35, e286_35b, e286_36, e286_37, e286_40, e286_40b, e286_41, e286_42, e286_45, e286_45b, e286_46, e286_47, e286_50, e286_51, e286_53, e286_55, e286_58, e286_58b, e286_59, e286_62, e286_63, e286_64, e286_65, e286_68, e286_71, e286_72, e286_74, e286_75, e286_78, e286_78b, e286_79, e286_82, e286_83, e286_84, e286_85, e286_85b, e286_86, e286_89, e286_90, e286_91, e286_92, e286_95, e286_98, e286_98b, e286_99, e286_103, e286_106, e286_109, e286_109b, e286_110, e286_113, e286_113b, e286_114, e286_117, e286_120, e286_120b, e286_121, e286_124, e286_124b, e286_125, e286_128, e286_131, kre_some, kre_none, kxo_thr, bnd_ite, ↓reduceIte, List.length_cons, List.length_nil, List.mem_cons, List.not_mem_nil, or_false, or_true, false_or, true_or, true_and, and_true, and_self, false_and, and_false, not_true_eq_false, not_false_eq_true, eq_self, ne_eq, if_true, if_false, bi_eq0, bi_eq1, bi_F, bi_T, ft_byte, ni_lt, ni_le, ni_neg, ni_pos, ni_inj, ni_nat, ni_add, ni_mul, ni_addc, ni_cadd, ni_cmul, ni_ltc, ni_lec, ni_clt, ni_cle, ni_eqc, ni_ceq, on_ni, ni_m1, nlt_t, nlt_f, nle_t, nle_f, neq_f, nw_int, nw_b0, nw_b1, nw_bi, nw_obj, nw_objn, nw_arr, nw_arrn, ft_int, ft_b0, ft_b1, ft_bi, ft_char, ft_obj, ft_objn, ft_arr, ft_arrn, ct_int, ct_ref, ct_null, lc_none, lc_int, lc_ref, lc_null, lc_long, sm_val, vi_int, seval, twu_at, tw_get0, twf_0, tws_0, twf_1, tws_1, twf_2, tws_2, twf_3, tws_3, twf_4, tws_4, twf_5, tws_5, twf_6, tws_6, twf_7, tws_7, twf_8, tws_8, twf_9, tws_9, twf_14, tws_14, twf_15, tws_15, twf_20, tws_20, twf_21, tws_21, twf_22, tws_22, twf_23, tws_23, twf_24, tws_24, twf_25, tws_25, twf_27, tws_27, twf_28, tws_28, twf_29, tws_29, twf_30, tws_30, twf_31, tws_31, twf_32, tws_32, twf_33, tws_33, twf_34, tws_34, twf_35, tws_35, twf_36, tws_36, twf_37, tws_37, twf_38, tws_38, twf_39, tws_39, twf_40, tws_40, twf_41, tws_41, twf_42, tws_42, twf_43, tws_43, twf_44, tws_44, twf_62, tws_62, twf_65, tws_65, twf_66, tws_66, twf_69, tws_69, twf_70, tws_70, twf_10, twg_10, tws_10, twf_11, twg_11, twr_11, tws_11, twf_12, twg_12, tws_12, twf_13, twg_13, tws_13, twf_16, twg_16, tws_16, twf_17, twg_17, tws_17, twf_18, twg_18, tws_18, twf_19, twg_19, tws_19, twf_26, twg_26, twr_26, tws_26, twf_45, twg_45, twr_45, tws_45, twf_46, twg_46, twr_46, tws_46, twf_47, twg_47, tws_47, twf_48, twg_48, tws_48, twf_49, twg_49, twr_49, tws_49, twf_50, twg_50, twr_50, tws_50, twf_51, twg_51, tws_51, twf_52, twg_52, tws_52, twf_53, twg_53, twr_53, tws_53, twf_54, twg_54, twr_54, tws_54, twf_55, twg_55, twr_55, tws_55, twf_56, twg_56, twr_56, tws_56, twf_57, twg_57, twr_57, tws_57, twf_58, twg_58, twr_58, tws_58, twf_59, twg_59, tws_59, twf_60, twg_60, tws_60, twf_61, twg_61, tws_61, twf_63, twg_63, tws_63, twf_64, twg_64, tws_64, twf_67, twg_67, twr_67, tws_67, twf_68, twg_68, twr_68, tws_68, ps_at, ps_open, ps_fault, ps_fat, ps_oth, psu_at, psu_open, psu_fault, psu_fat, hz, c1]
end TCW
