/-! THE CLASS: what its clauses' objects say -/
set_option maxRecDepth 100000
set_option maxHeartbeats 200000
def ExR (om : OM) (h : AH) : Nat → Nat → EV → Prop
  | 0, _, _ => False
  | n + 1, a, F => (∃ v, cel om h a 0 10 ∧ (hcl h a).2.2 0 = .int v ∧ F = fun _ => v) ∨ (∃ k, k < 6 ∧ cel om h a 0 12 ∧ (hcl h a).2.2 0 = .int (ni k) ∧ F = fun ν => ν k) ∨
    (∃ (c : Int32) (a1 a2 : Nat) (F1 F2 : EV), (c = 43 ∨ c = 45 ∨ c = 42 ∨ c = 47 ∨ c = 108 ∨ c = 109) ∧ cel om h a 0 11 ∧ (hcl h a).2.2 0 = .int c ∧ (hcl h a).2.2 1 = .ref a1 ∧ (hcl h a).2.2 2 = .ref a2 ∧ ExR om h n a1 F1 ∧ ExR om h n a2 F2 ∧ F = opE c F1 F2)
def CoR (om : OM) (h : AH) : Nat → Nat → CV → Prop
  | 0, _, _ => False
  | n + 1, a, C => (∃ (c : Int32) (a1 a2 : Nat) (F1 F2 : EV), (c = 60 ∨ c = 62 ∨ c = 61) ∧ cel om h a 0 16 ∧ (hcl h a).2.2 0 = .int c ∧ (hcl h a).2.2 1 = .ref a1 ∧ (hcl h a).2.2 2 = .ref a2 ∧ ExR om h n a1 F1 ∧ ExR om h n a2 F2 ∧ C = cmpV c F1 F2) ∨
    (∃ (a1 : Nat) (C1 : CV), cel om h a 0 15 ∧ (hcl h a).2.2 0 = .ref a1 ∧ CoR om h n a1 C1 ∧ C = fun ν => !C1 ν) ∨
    (∃ (w : Bool) (a1 a2 : Nat) (C1 C2 : CV), cel om h a 0 17 ∧ (hcl h a).2.2 0 = .int (bi (w = true)) ∧ (hcl h a).2.2 1 = .ref a1 ∧ (hcl h a).2.2 2 = .ref a2 ∧ CoR om h n a1 C1 ∧ CoR om h n a2 C2 ∧ C = fun ν => if w = true then C1 ν || C2 ν else C1 ν && C2 ν)
theorem cel.kept {om om' : OM} {h h' : AH} {a k t : Nat} (hc : cel om h a k t) (ho : om' a = om a) (hs : hsz h ≤ hsz h') (hk : hcl h' a = hcl h a) : cel om' h' a k t := by
  obtain ⟨h1, h2, h3⟩ := hc
  exact ⟨ho.trans h1, by omega, by rw [hk]; exact h3⟩
/-- frozen cells stay -/
def Fz (om om' : OM) (h h' : AH) : Prop := hsz h ≤ hsz h' ∧ ∀ a, a < hsz h → om a = 0 → om' a = 0 ∧ hcl h' a = hcl h a
theorem Fz.cel {om om' : OM} {h h' : AH} {a t : Nat} (f : Fz om om' h h') (hc : cel om h a 0 t) : cel om' h' a 0 t ∧ hcl h' a = hcl h a := by
  obtain ⟨h1, h2, h3⟩ := hc
  obtain ⟨f1, f2⟩ := f.2 a h2 h1
  exact ⟨⟨f1, Nat.lt_of_lt_of_le h2 f.1, by rw [f2]; exact h3⟩, f2⟩
theorem ExR.kept {om om' : OM} {h h' : AH} (f : Fz om om' h h') : ∀ {n a : Nat} {F : EV}, ExR om h n a F → ExR om' h' n a F
  | 0, _, _, e => e.elim
  | n + 1, a, F, e => by
    rcases e with ⟨v, h1, h2, h3⟩ | ⟨k, hk, h1, h2, h3⟩ | ⟨c, a1, a2, F1, F2, hc, h1, h2, h3, h4, h5, h6, h7⟩
    · obtain ⟨g1, g2⟩ := f.cel h1
      exact Or.inl ⟨v, g1, by rw [g2]; exact h2, h3⟩
    · obtain ⟨g1, g2⟩ := f.cel h1
      exact Or.inr (Or.inl ⟨k, hk, g1, by rw [g2]; exact h2, h3⟩)
    · obtain ⟨g1, g2⟩ := f.cel h1
      exact Or.inr (Or.inr ⟨c, a1, a2, F1, F2, hc, g1, by rw [g2]; exact h2, by rw [g2]; exact h3, by rw [g2]; exact h4, ExR.kept f h5, ExR.kept f h6, h7⟩)
theorem CoR.kept {om om' : OM} {h h' : AH} (f : Fz om om' h h') : ∀ {n a : Nat} {F : CV}, CoR om h n a F → CoR om' h' n a F
  | 0, _, _, e => e.elim
  | n + 1, a, F, e => by
    rcases e with ⟨c, a1, a2, F1, F2, hc, h1, h2, h3, h4, h5, h6, h7⟩ | ⟨a1, C1, h1, h2, h3, h4⟩ | ⟨w, a1, a2, C1, C2, h1, h2, h3, h4, h5, h6, h7⟩
    · obtain ⟨g1, g2⟩ := f.cel h1
      exact Or.inl ⟨c, a1, a2, F1, F2, hc, g1, by rw [g2]; exact h2, by rw [g2]; exact h3, by rw [g2]; exact h4, h5.kept f, h6.kept f, h7⟩
    · obtain ⟨g1, g2⟩ := f.cel h1
      exact Or.inr (Or.inl ⟨a1, C1, g1, by rw [g2]; exact h2, CoR.kept f h3, h4⟩)
    · obtain ⟨g1, g2⟩ := f.cel h1
      exact Or.inr (Or.inr ⟨w, a1, a2, C1, C2, g1, by rw [g2]; exact h2, by rw [g2]; exact h3, by rw [g2]; exact h4, CoR.kept f h5, CoR.kept f h6, h7⟩)
theorem ExR.up {om : OM} {h : AH} : ∀ {n a : Nat} {F : EV}, ExR om h n a F → ExR om h (n + 1) a F
  | 0, _, _, e => e.elim
  | n + 1, a, F, e => by
    rcases e with e | e | ⟨c, a1, a2, F1, F2, hc, h1, h2, h3, h4, h5, h6, h7⟩
    · exact Or.inl e
    · exact Or.inr (Or.inl e)
    · exact Or.inr (Or.inr ⟨c, a1, a2, F1, F2, hc, h1, h2, h3, h4, ExR.up h5, ExR.up h6, h7⟩)
theorem ExR.le {om : OM} {h : AH} {n m a : Nat} {F : EV} (e : ExR om h n a F) (hm : n ≤ m) : ExR om h m a F := by
  induction hm with
  | refl => exact e
  | step _ ih => exact ih.up
theorem CoR.up {om : OM} {h : AH} : ∀ {n a : Nat} {F : CV}, CoR om h n a F → CoR om h (n + 1) a F
  | 0, _, _, e => e.elim
  | n + 1, a, F, e => by
    rcases e with ⟨c, a1, a2, F1, F2, hc, h1, h2, h3, h4, h5, h6, h7⟩ | ⟨a1, C1, h1, h2, h3, h4⟩ | ⟨w, a1, a2, C1, C2, h1, h2, h3, h4, h5, h6, h7⟩
    · exact Or.inl ⟨c, a1, a2, F1, F2, hc, h1, h2, h3, h4, h5.up, h6.up, h7⟩
    · exact Or.inr (Or.inl ⟨a1, C1, h1, h2, CoR.up h3, h4⟩)
    · exact Or.inr (Or.inr ⟨w, a1, a2, C1, C2, h1, h2, h3, h4, CoR.up h5, CoR.up h6, h7⟩)
theorem CoR.le {om : OM} {h : AH} {n m a : Nat} {F : CV} (e : CoR om h n a F) (hm : n ≤ m) : CoR om h m a F := by
  induction hm with
  | refl => exact e
  | step _ ih => exact ih.up
theorem nfz {b : Nat} {om : OM} {h : AH} {a t : Nat} (hO : OmOK b om) (hc : cel om h a 0 t) (gi : GI) (s c : Nat) (im : Nat → Value) : hcl (cx b gi s c im h) a = hcl h a := cx_out (hc.nf hO (by decide))
section AST
variable {b c s : Nat} {om : OM} {h : AH} {gi : GI} {im : Nat → Value} {d : Nat}
/-- an expression's value, by the tag of its object -/
def OfR (d a t : Nat) (nm : Nat) (v : Int32) (H : AH) : Prop := (hcl H a).1 = t ∧ ((t = 10 ∧ ev d 456 0 [some (.ref a), some (.ref nm)] [] H = some (.returned (some (.int v)), H)) ∨ (t = 11 ∧ ev d 458 0 [some (.ref a), some (.ref nm), none, none] [] H = some (.returned (some (.int v)), H)) ∨ (t = 12 ∧ ev d 460 0 [some (.ref a), some (.ref nm)] [] H = some (.returned (some (.int v)), H)))
theorem of_X11_of_5 {a t nm : Nat} {v : Int32} {H : AH} {ls : ALs} {st : List Value} (o : OfR d a t nm v H) (hst : st.length ≤ 4) : ev (d + 1) 458 5 ls (.ref nm :: .ref a :: st) H = ev (d + 1) 458 10 ls (.int v :: st) H := by
  obtain ⟨h1, h2⟩ := o
  rcases h2 with ⟨rfl, h2⟩ | ⟨rfl, h2⟩ | ⟨rfl, h2⟩
  · rw [e458_5 h1, if_pos hst, h2]
    rfl
  · rw [e458_5b h1, if_pos hst, h2]
    rfl
  · rw [e458_5c h1, if_pos hst, h2]
    rfl
theorem of_X11_of_16 {a t nm : Nat} {v : Int32} {H : AH} {ls : ALs} {st : List Value} (o : OfR d a t nm v H) (hst : st.length ≤ 4) : ev (d + 1) 458 16 ls (.ref nm :: .ref a :: st) H = ev (d + 1) 458 21 ls (.int v :: st) H := by
  obtain ⟨h1, h2⟩ := o
  rcases h2 with ⟨rfl, h2⟩ | ⟨rfl, h2⟩ | ⟨rfl, h2⟩
  · rw [e458_16 h1, if_pos hst, h2]
    rfl
  · rw [e458_16b h1, if_pos hst, h2]
    rfl
  · rw [e458_16c h1, if_pos hst, h2]
    rfl
theorem of_X17_holds_5 {a t nm : Nat} {v : Int32} {H : AH} {ls : ALs} {st : List Value} (o : OfR d a t nm v H) (hst : st.length ≤ 4) : ev d 469 5 ls (.ref nm :: .ref a :: st) H = ev d 469 10 ls (.int v :: st) H := by
  obtain ⟨h1, h2⟩ := o
  rcases h2 with ⟨rfl, h2⟩ | ⟨rfl, h2⟩ | ⟨rfl, h2⟩
  · rw [e469_5 h1, if_pos hst, h2]
    rfl
  · rw [e469_5b h1, if_pos hst, h2]
    rfl
  · rw [e469_5c h1, if_pos hst, h2]
    rfl
theorem of_X17_holds_16 {a t nm : Nat} {v : Int32} {H : AH} {ls : ALs} {st : List Value} (o : OfR d a t nm v H) (hst : st.length ≤ 4) : ev d 469 16 ls (.ref nm :: .ref a :: st) H = ev d 469 21 ls (.int v :: st) H := by
  obtain ⟨h1, h2⟩ := o
  rcases h2 with ⟨rfl, h2⟩ | ⟨rfl, h2⟩ | ⟨rfl, h2⟩
  · rw [e469_16 h1, if_pos hst, h2]
    rfl
  · rw [e469_16b h1, if_pos hst, h2]
    rfl
  · rw [e469_16c h1, if_pos hst, h2]
    rfl
theorem of_X9_value_5 {a t nm : Nat} {v : Int32} {H : AH} {ls : ALs} {st : List Value} (o : OfR d a t nm v H) (hst : st.length ≤ 4) : ev d 454 5 ls (.ref nm :: .ref a :: st) H = ev d 454 10 ls (.int v :: st) H := by
  obtain ⟨h1, h2⟩ := o
  rcases h2 with ⟨rfl, h2⟩ | ⟨rfl, h2⟩ | ⟨rfl, h2⟩
  · rw [e454_5 h1, if_pos hst, h2]
    rfl
  · rw [e454_5b h1, if_pos hst, h2]
    rfl
  · rw [e454_5c h1, if_pos hst, h2]
    rfl
theorem c_of (hO : OmOK b om) : ∀ {n a : Nat} {F : EV} (d : Nat), ExR om h n a F → n ≤ d → ∃ t, OfR d a t (b + 29) (F (gi 29)) (cx b gi s c im h)
  | 0, _, _, _, e, _ => e.elim
  | n + 1, a, F, d, e, hd => by
    obtain ⟨d, rfl⟩ : ∃ d', d = d' + 1 := ⟨d - 1, by omega⟩
    rcases e with ⟨v, h1, h2, rfl⟩ | ⟨k, hk, h1, h2, rfl⟩ | ⟨c9, a1, a2, F1, F2, hc, h1, h2, h3, h4, h5, h6, rfl⟩
    · have e1 := nfz hO h1 gi s c im
      have t1 : (hcl (cx b gi s c im h) a).1 = 10 := by rw [e1]; exact h1.2.2
      have v1 : (hcl (cx b gi s c im h) a).2.2 0 = .int v := by rw [e1]; exact h2
      refine ⟨10, t1, Or.inl ⟨rfl, ?_⟩⟩
      simp (disch := first | omega | (simp only [seval]; done) | (simp only [seval]; omega)) only [e456_0, e456_0b, e456_1, e456_4, kre_some, kre_none, kxo_thr, bnd_ite, ↓reduceIte, List.length_cons, List.length_nil, List.mem_cons, List.not_mem_nil, or_false, or_true, false_or, true_or, true_and, and_true, and_self, false_and, and_false, not_true_eq_false, not_false_eq_true, eq_self, ne_eq, if_true, if_false, bi_eq0, bi_eq1, bi_F, bi_T, ft_byte, ni_lt, ni_le, ni_neg, ni_pos, ni_inj, ni_nat, ni_add, ni_mul, ni_addc, ni_cadd, ni_cmul, ni_ltc, ni_lec, ni_clt, ni_cle, ni_eqc, ni_ceq, on_ni, ni_m1, nlt_t, nlt_f, nle_t, nle_f, neq_f, nw_int, nw_b0, nw_b1, nw_bi, nw_obj, nw_objn, nw_arr, nw_arrn, ft_int, ft_b0, ft_b1, ft_bi, ft_char, ft_obj, ft_objn, ft_arr, ft_arrn, ct_int, ct_ref, ct_null, lc_none, lc_int, lc_ref, lc_null, lc_long, sm_val, vi_int, seval, cx_hsz, cx_hsl, cx_env, cx_get0, cx_w0s, cx_w0c, cx_w28, giu_at, cxf_0, cxf_1, cxf_2, cxf_3, cxf_4, cxf_5, cxf_6, cxf_7, cxf_8, cxf_9, cxf_10, cxf_11, cxf_12, cxf_13, cxf_14, cxf_15, cxf_16, cxf_17, cxf_18, cxf_19, cxf_20, cxf_21, cxf_22, cxg_27, cxs_27, cxg_29, cxs_29, cxg_30, cxs_30, cxg_31, cxs_31, cxg_32, cxs_32, cxg_33, cxs_33, cxg_34, cxs_34, cxg_35, cxs_35, cxg_28, cxw_4, cxw_5, cxw_6, cxw_12, cxw_13, cxw_14, cxw_17, cxw_18, cxw_19, cxw_22, t1, v1]
    · have e1 := nfz hO h1 gi s c im
      have t1 : (hcl (cx b gi s c im h) a).1 = 12 := by rw [e1]; exact h1.2.2
      have v1 : (hcl (cx b gi s c im h) a).2.2 0 = .int (ni k) := by rw [e1]; exact h2
      refine ⟨12, t1, Or.inr (Or.inr ⟨rfl, ?_⟩)⟩
      simp (disch := first | omega | (simp only [seval]; done) | (simp only [seval]; omega)) only [e460_0, e460_0b, e460_1, e460_1b, e460_2, e460_5, e460_6, kre_some, kre_none, kxo_thr, bnd_ite, ↓reduceIte, List.length_cons, List.length_nil, List.mem_cons, List.not_mem_nil, or_false, or_true, false_or, true_or, true_and, and_true, and_self, false_and, and_false, not_true_eq_false, not_false_eq_true, eq_self, ne_eq, if_true, if_false, bi_eq0, bi_eq1, bi_F, bi_T, ft_byte, ni_lt, ni_le, ni_neg, ni_pos, ni_inj, ni_nat, ni_add, ni_mul, ni_addc, ni_cadd, ni_cmul, ni_ltc, ni_lec, ni_clt, ni_cle, ni_eqc, ni_ceq, on_ni, ni_m1, nlt_t, nlt_f, nle_t, nle_f, neq_f, nw_int, nw_b0, nw_b1, nw_bi, nw_obj, nw_objn, nw_arr, nw_arrn, ft_int, ft_b0, ft_b1, ft_bi, ft_char, ft_obj, ft_objn, ft_arr, ft_arrn, ct_int, ct_ref, ct_null, lc_none, lc_int, lc_ref, lc_null, lc_long, sm_val, vi_int, seval, cx_hsz, cx_hsl, cx_env, cx_get0, cx_w0s, cx_w0c, cx_w28, giu_at, cxf_0, cxf_1, cxf_2, cxf_3, cxf_4, cxf_5, cxf_6, cxf_7, cxf_8, cxf_9, cxf_10, cxf_11, cxf_12, cxf_13, cxf_14, cxf_15, cxf_16, cxf_17, cxf_18, cxf_19, cxf_20, cxf_21, cxf_22, cxg_27, cxs_27, cxg_29, cxs_29, cxg_30, cxs_30, cxg_31, cxs_31, cxg_32, cxs_32, cxg_33, cxs_33, cxg_34, cxs_34, cxg_35, cxs_35, cxg_28, cxw_4, cxw_5, cxw_6, cxw_12, cxw_13, cxw_14, cxw_17, cxw_18, cxw_19, cxw_22, t1, v1]
    · have e1 := nfz hO h1 gi s c im
      have t1 : (hcl (cx b gi s c im h) a).1 = 11 := by rw [e1]; exact h1.2.2
      have v1 : (hcl (cx b gi s c im h) a).2.2 0 = .int c9 := by rw [e1]; exact h2
      have v2 : (hcl (cx b gi s c im h) a).2.2 1 = .ref a1 := by rw [e1]; exact h3
      have v3 : (hcl (cx b gi s c im h) a).2.2 2 = .ref a2 := by rw [e1]; exact h4
      obtain ⟨t2, o1⟩ := c_of hO d h5 (by omega)
      obtain ⟨t3, o2⟩ := c_of hO d h6 (by omega)
      refine ⟨11, t1, Or.inr (Or.inl ⟨rfl, ?_⟩)⟩
      rcases hc with rfl | rfl | rfl | rfl | rfl | rfl
      · simp (disch := first | omega | (simp only [seval]; done) | (simp only [seval]; omega)) only [e458_0, e458_0b, e458_1, e458_4, e458_4b, e458_5, e458_5b, e458_5c, e458_10, e458_11, e458_11b, e458_12, e458_15, e458_15b, e458_16, e458_16b, e458_16c, e458_21, e458_22, e458_22b, e458_23, e458_26, e458_76, e458_77, e458_78, e458_79, e458_80, e458_81, e458_82, e458_83, e458_84, e458_85, e458_86, e458_87, e458_88, e458_89, e458_92, e458_93, e458_96, e458_97, e458_98, e458_99, e458_100, e458_101, e458_102, e458_105, e458_106, e458_107, e458_108, e458_111, kre_some, kre_none, kxo_thr, bnd_ite, ↓reduceIte, List.length_cons, List.length_nil, List.mem_cons, List.not_mem_nil, or_false, or_true, false_or, true_or, true_and, and_true, and_self, false_and, and_false, not_true_eq_false, not_false_eq_true, eq_self, ne_eq, if_true, if_false, bi_eq0, bi_eq1, bi_F, bi_T, ft_byte, ni_lt, ni_le, ni_neg, ni_pos, ni_inj, ni_nat, ni_add, ni_mul, ni_addc, ni_cadd, ni_cmul, ni_ltc, ni_lec, ni_clt, ni_cle, ni_eqc, ni_ceq, on_ni, ni_m1, nlt_t, nlt_f, nle_t, nle_f, neq_f, nw_int, nw_b0, nw_b1, nw_bi, nw_obj, nw_objn, nw_arr, nw_arrn, ft_int, ft_b0, ft_b1, ft_bi, ft_char, ft_obj, ft_objn, ft_arr, ft_arrn, ct_int, ct_ref, ct_null, lc_none, lc_int, lc_ref, lc_null, lc_long, sm_val, vi_int, seval, cx_hsz, cx_hsl, cx_env, cx_get0, cx_w0s, cx_w0c, cx_w28, giu_at, cxf_0, cxf_1, cxf_2, cxf_3, cxf_4, cxf_5, cxf_6, cxf_7, cxf_8, cxf_9, cxf_10, cxf_11, cxf_12, cxf_13, cxf_14, cxf_15, cxf_16, cxf_17, cxf_18, cxf_19, cxf_20, cxf_21, cxf_22, cxg_27, cxs_27, cxg_29, cxs_29, cxg_30, cxs_30, cxg_31, cxs_31, cxg_32, cxs_32, cxg_33, cxs_33, cxg_34, cxs_34, cxg_35, cxs_35, cxg_28, cxw_4, cxw_5, cxw_6, cxw_12, cxw_13, cxw_14, cxw_17, cxw_18, cxw_19, cxw_22, t1, v1, v2, v3, of_X11_of_5 (st := []) o1 (by decide), of_X11_of_16 (st := []) o2 (by decide), opE, opr, swL, sw458_26]
      · simp (disch := first | omega | (simp only [seval]; done) | (simp only [seval]; omega)) only [e458_0, e458_0b, e458_1, e458_4, e458_4b, e458_5, e458_5b, e458_5c, e458_10, e458_11, e458_11b, e458_12, e458_15, e458_15b, e458_16, e458_16b, e458_16c, e458_21, e458_22, e458_22b, e458_23, e458_26, e458_76, e458_77, e458_78, e458_79, e458_80, e458_81, e458_82, e458_83, e458_84, e458_85, e458_86, e458_87, e458_88, e458_89, e458_92, e458_93, e458_96, e458_97, e458_98, e458_99, e458_100, e458_101, e458_102, e458_105, e458_106, e458_107, e458_108, e458_111, kre_some, kre_none, kxo_thr, bnd_ite, ↓reduceIte, List.length_cons, List.length_nil, List.mem_cons, List.not_mem_nil, or_false, or_true, false_or, true_or, true_and, and_true, and_self, false_and, and_false, not_true_eq_false, not_false_eq_true, eq_self, ne_eq, if_true, if_false, bi_eq0, bi_eq1, bi_F, bi_T, ft_byte, ni_lt, ni_le, ni_neg, ni_pos, ni_inj, ni_nat, ni_add, ni_mul, ni_addc, ni_cadd, ni_cmul, ni_ltc, ni_lec, ni_clt, ni_cle, ni_eqc, ni_ceq, on_ni, ni_m1, nlt_t, nlt_f, nle_t, nle_f, neq_f, nw_int, nw_b0, nw_b1, nw_bi, nw_obj, nw_objn, nw_arr, nw_arrn, ft_int, ft_b0, ft_b1, ft_bi, ft_char, ft_obj, ft_objn, ft_arr, ft_arrn, ct_int, ct_ref, ct_null, lc_none, lc_int, lc_ref, lc_null, lc_long, sm_val, vi_int, seval, cx_hsz, cx_hsl, cx_env, cx_get0, cx_w0s, cx_w0c, cx_w28, giu_at, cxf_0, cxf_1, cxf_2, cxf_3, cxf_4, cxf_5, cxf_6, cxf_7, cxf_8, cxf_9, cxf_10, cxf_11, cxf_12, cxf_13, cxf_14, cxf_15, cxf_16, cxf_17, cxf_18, cxf_19, cxf_20, cxf_21, cxf_22, cxg_27, cxs_27, cxg_29, cxs_29, cxg_30, cxs_30, cxg_31, cxs_31, cxg_32, cxs_32, cxg_33, cxs_33, cxg_34, cxs_34, cxg_35, cxs_35, cxg_28, cxw_4, cxw_5, cxw_6, cxw_12, cxw_13, cxw_14, cxw_17, cxw_18, cxw_19, cxw_22, t1, v1, v2, v3, of_X11_of_5 (st := []) o1 (by decide), of_X11_of_16 (st := []) o2 (by decide), opE, opr, swL, sw458_26]
      · simp (disch := first | omega | (simp only [seval]; done) | (simp only [seval]; omega)) only [e458_0, e458_0b, e458_1, e458_4, e458_4b, e458_5, e458_5b, e458_5c, e458_10, e458_11, e458_11b, e458_12, e458_15, e458_15b, e458_16, e458_16b, e458_16c, e458_21, e458_22, e458_22b, e458_23, e458_26, e458_76, e458_77, e458_78, e458_79, e458_80, e458_81, e458_82, e458_83, e458_84, e458_85, e458_86, e458_87, e458_88, e458_89, e458_92, e458_93, e458_96, e458_97, e458_98, e458_99, e458_100, e458_101, e458_102, e458_105, e458_106, e458_107, e458_108, e458_111, kre_some, kre_none, kxo_thr, bnd_ite, ↓reduceIte, List.length_cons, List.length_nil, List.mem_cons, List.not_mem_nil, or_false, or_true, false_or, true_or, true_and, and_true, and_self, false_and, and_false, not_true_eq_false, not_false_eq_true, eq_self, ne_eq, if_true, if_false, bi_eq0, bi_eq1, bi_F, bi_T, ft_byte, ni_lt, ni_le, ni_neg, ni_pos, ni_inj, ni_nat, ni_add, ni_mul, ni_addc, ni_cadd, ni_cmul, ni_ltc, ni_lec, ni_clt, ni_cle, ni_eqc, ni_ceq, on_ni, ni_m1, nlt_t, nlt_f, nle_t, nle_f, neq_f, nw_int, nw_b0, nw_b1, nw_bi, nw_obj, nw_objn, nw_arr, nw_arrn, ft_int, ft_b0, ft_b1, ft_bi, ft_char, ft_obj, ft_objn, ft_arr, ft_arrn, ct_int, ct_ref, ct_null, lc_none, lc_int, lc_ref, lc_null, lc_long, sm_val, vi_int, seval, cx_hsz, cx_hsl, cx_env, cx_get0, cx_w0s, cx_w0c, cx_w28, giu_at, cxf_0, cxf_1, cxf_2, cxf_3, cxf_4, cxf_5, cxf_6, cxf_7, cxf_8, cxf_9, cxf_10, cxf_11, cxf_12, cxf_13, cxf_14, cxf_15, cxf_16, cxf_17, cxf_18, cxf_19, cxf_20, cxf_21, cxf_22, cxg_27, cxs_27, cxg_29, cxs_29, cxg_30, cxs_30, cxg_31, cxs_31, cxg_32, cxs_32, cxg_33, cxs_33, cxg_34, cxs_34, cxg_35, cxs_35, cxg_28, cxw_4, cxw_5, cxw_6, cxw_12, cxw_13, cxw_14, cxw_17, cxw_18, cxw_19, cxw_22, t1, v1, v2, v3, of_X11_of_5 (st := []) o1 (by decide), of_X11_of_16 (st := []) o2 (by decide), opE, opr, swL, sw458_26]
      · by_cases q : F2 (gi 29) = 0
        · simp (disch := first | omega | (simp only [seval]; done) | (simp only [seval]; omega)) only [e458_0, e458_0b, e458_1, e458_4, e458_4b, e458_5, e458_5b, e458_5c, e458_10, e458_11, e458_11b, e458_12, e458_15, e458_15b, e458_16, e458_16b, e458_16c, e458_21, e458_22, e458_22b, e458_23, e458_26, e458_76, e458_77, e458_78, e458_79, e458_80, e458_81, e458_82, e458_83, e458_84, e458_85, e458_86, e458_87, e458_88, e458_89, e458_92, e458_93, e458_96, e458_97, e458_98, e458_99, e458_100, e458_101, e458_102, e458_105, e458_106, e458_107, e458_108, e458_111, kre_some, kre_none, kxo_thr, bnd_ite, ↓reduceIte, List.length_cons, List.length_nil, List.mem_cons, List.not_mem_nil, or_false, or_true, false_or, true_or, true_and, and_true, and_self, false_and, and_false, not_true_eq_false, not_false_eq_true, eq_self, ne_eq, if_true, if_false, bi_eq0, bi_eq1, bi_F, bi_T, ft_byte, ni_lt, ni_le, ni_neg, ni_pos, ni_inj, ni_nat, ni_add, ni_mul, ni_addc, ni_cadd, ni_cmul, ni_ltc, ni_lec, ni_clt, ni_cle, ni_eqc, ni_ceq, on_ni, ni_m1, nlt_t, nlt_f, nle_t, nle_f, neq_f, nw_int, nw_b0, nw_b1, nw_bi, nw_obj, nw_objn, nw_arr, nw_arrn, ft_int, ft_b0, ft_b1, ft_bi, ft_char, ft_obj, ft_objn, ft_arr, ft_arrn, ct_int, ct_ref, ct_null, lc_none, lc_int, lc_ref, lc_null, lc_long, sm_val, vi_int, seval, cx_hsz, cx_hsl, cx_env, cx_get0, cx_w0s, cx_w0c, cx_w28, giu_at, cxf_0, cxf_1, cxf_2, cxf_3, cxf_4, cxf_5, cxf_6, cxf_7, cxf_8, cxf_9, cxf_10, cxf_11, cxf_12, cxf_13, cxf_14, cxf_15, cxf_16, cxf_17, cxf_18, cxf_19, cxf_20, cxf_21, cxf_22, cxg_27, cxs_27, cxg_29, cxs_29, cxg_30, cxs_30, cxg_31, cxs_31, cxg_32, cxs_32, cxg_33, cxs_33, cxg_34, cxs_34, cxg_35, cxs_35, cxg_28, cxw_4, cxw_5, cxw_6, cxw_12, cxw_13, cxw_14, cxw_17, cxw_18, cxw_19, cxw_22, t1, v1, v2, v3, of_X11_of_5 (st := []) o1 (by decide), of_X11_of_16 (st := []) o2 (by decide), opE, opr, swL, sw458_26, q]
        · simp (disch := first | omega | (simp only [seval]; done) | (simp only [seval]; omega)) only [e458_0, e458_0b, e458_1, e458_4, e458_4b, e458_5, e458_5b, e458_5c, e458_10, e458_11, e458_11b, e458_12, e458_15, e458_15b, e458_16, e458_16b, e458_16c, e458_21, e458_22, e458_22b, e458_23, e458_26, e458_76, e458_77, e458_78, e458_79, e458_80, e458_81, e458_82, e458_83, e458_84, e458_85, e458_86, e458_87, e458_88, e458_89, e458_92, e458_93, e458_96, e458_97, e458_98, e458_99, e458_100, e458_101, e458_102, e458_105, e458_106, e458_107, e458_108, e458_111, kre_some, kre_none, kxo_thr, bnd_ite, ↓reduceIte, List.length_cons, List.length_nil, List.mem_cons, List.not_mem_nil, or_false, or_true, false_or, true_or, true_and, and_true, and_self, false_and, and_false, not_true_eq_false, not_false_eq_true, eq_self, ne_eq, if_true, if_false, bi_eq0, bi_eq1, bi_F, bi_T, ft_byte, ni_lt, ni_le, ni_neg, ni_pos, ni_inj, ni_nat, ni_add, ni_mul, ni_addc, ni_cadd, ni_cmul, ni_ltc, ni_lec, ni_clt, ni_cle, ni_eqc, ni_ceq, on_ni, ni_m1, nlt_t, nlt_f, nle_t, nle_f, neq_f, nw_int, nw_b0, nw_b1, nw_bi, nw_obj, nw_objn, nw_arr, nw_arrn, ft_int, ft_b0, ft_b1, ft_bi, ft_char, ft_obj, ft_objn, ft_arr, ft_arrn, ct_int, ct_ref, ct_null, lc_none, lc_int, lc_ref, lc_null, lc_long, sm_val, vi_int, seval, cx_hsz, cx_hsl, cx_env, cx_get0, cx_w0s, cx_w0c, cx_w28, giu_at, cxf_0, cxf_1, cxf_2, cxf_3, cxf_4, cxf_5, cxf_6, cxf_7, cxf_8, cxf_9, cxf_10, cxf_11, cxf_12, cxf_13, cxf_14, cxf_15, cxf_16, cxf_17, cxf_18, cxf_19, cxf_20, cxf_21, cxf_22, cxg_27, cxs_27, cxg_29, cxs_29, cxg_30, cxs_30, cxg_31, cxs_31, cxg_32, cxs_32, cxg_33, cxs_33, cxg_34, cxs_34, cxg_35, cxs_35, cxg_28, cxw_4, cxw_5, cxw_6, cxw_12, cxw_13, cxw_14, cxw_17, cxw_18, cxw_19, cxw_22, t1, v1, v2, v3, of_X11_of_5 (st := []) o1 (by decide), of_X11_of_16 (st := []) o2 (by decide), opE, opr, swL, sw458_26, q]
      · by_cases q : F2 (gi 29) < F1 (gi 29)
        · have q2 : ¬ F1 (gi 29) ≤ F2 (gi 29) := Int32.not_le.mpr q
          simp (disch := first | omega | (simp only [seval]; done) | (simp only [seval]; omega)) only [e458_0, e458_0b, e458_1, e458_4, e458_4b, e458_5, e458_5b, e458_5c, e458_10, e458_11, e458_11b, e458_12, e458_15, e458_15b, e458_16, e458_16b, e458_16c, e458_21, e458_22, e458_22b, e458_23, e458_26, e458_76, e458_77, e458_78, e458_79, e458_80, e458_81, e458_82, e458_83, e458_84, e458_85, e458_86, e458_87, e458_88, e458_89, e458_92, e458_93, e458_96, e458_97, e458_98, e458_99, e458_100, e458_101, e458_102, e458_105, e458_106, e458_107, e458_108, e458_111, kre_some, kre_none, kxo_thr, bnd_ite, ↓reduceIte, List.length_cons, List.length_nil, List.mem_cons, List.not_mem_nil, or_false, or_true, false_or, true_or, true_and, and_true, and_self, false_and, and_false, not_true_eq_false, not_false_eq_true, eq_self, ne_eq, if_true, if_false, bi_eq0, bi_eq1, bi_F, bi_T, ft_byte, ni_lt, ni_le, ni_neg, ni_pos, ni_inj, ni_nat, ni_add, ni_mul, ni_addc, ni_cadd, ni_cmul, ni_ltc, ni_lec, ni_clt, ni_cle, ni_eqc, ni_ceq, on_ni, ni_m1, nlt_t, nlt_f, nle_t, nle_f, neq_f, nw_int, nw_b0, nw_b1, nw_bi, nw_obj, nw_objn, nw_arr, nw_arrn, ft_int, ft_b0, ft_b1, ft_bi, ft_char, ft_obj, ft_objn, ft_arr, ft_arrn, ct_int, ct_ref, ct_null, lc_none, lc_int, lc_ref, lc_null, lc_long, sm_val, vi_int, seval, cx_hsz, cx_hsl, cx_env, cx_get0, cx_w0s, cx_w0c, cx_w28, giu_at, cxf_0, cxf_1, cxf_2, cxf_3, cxf_4, cxf_5, cxf_6, cxf_7, cxf_8, cxf_9, cxf_10, cxf_11, cxf_12, cxf_13, cxf_14, cxf_15, cxf_16, cxf_17, cxf_18, cxf_19, cxf_20, cxf_21, cxf_22, cxg_27, cxs_27, cxg_29, cxs_29, cxg_30, cxs_30, cxg_31, cxs_31, cxg_32, cxs_32, cxg_33, cxs_33, cxg_34, cxs_34, cxg_35, cxs_35, cxg_28, cxw_4, cxw_5, cxw_6, cxw_12, cxw_13, cxw_14, cxw_17, cxw_18, cxw_19, cxw_22, t1, v1, v2, v3, of_X11_of_5 (st := []) o1 (by decide), of_X11_of_16 (st := []) o2 (by decide), opE, opr, swL, sw458_26, q, q2]
        · have q2 : F1 (gi 29) ≤ F2 (gi 29) := Int32.not_lt.mp q
          simp (disch := first | omega | (simp only [seval]; done) | (simp only [seval]; omega)) only [e458_0, e458_0b, e458_1, e458_4, e458_4b, e458_5, e458_5b, e458_5c, e458_10, e458_11, e458_11b, e458_12, e458_15, e458_15b, e458_16, e458_16b, e458_16c, e458_21, e458_22, e458_22b, e458_23, e458_26, e458_76, e458_77, e458_78, e458_79, e458_80, e458_81, e458_82, e458_83, e458_84, e458_85, e458_86, e458_87, e458_88, e458_89, e458_92, e458_93, e458_96, e458_97, e458_98, e458_99, e458_100, e458_101, e458_102, e458_105, e458_106, e458_107, e458_108, e458_111, kre_some, kre_none, kxo_thr, bnd_ite, ↓reduceIte, List.length_cons, List.length_nil, List.mem_cons, List.not_mem_nil, or_false, or_true, false_or, true_or, true_and, and_true, and_self, false_and, and_false, not_true_eq_false, not_false_eq_true, eq_self, ne_eq, if_true, if_false, bi_eq0, bi_eq1, bi_F, bi_T, ft_byte, ni_lt, ni_le, ni_neg, ni_pos, ni_inj, ni_nat, ni_add, ni_mul, ni_addc, ni_cadd, ni_cmul, ni_ltc, ni_lec, ni_clt, ni_cle, ni_eqc, ni_ceq, on_ni, ni_m1, nlt_t, nlt_f, nle_t, nle_f, neq_f, nw_int, nw_b0, nw_b1, nw_bi, nw_obj, nw_objn, nw_arr, nw_arrn, ft_int, ft_b0, ft_b1, ft_bi, ft_char, ft_obj, ft_objn, ft_arr, ft_arrn, ct_int, ct_ref, ct_null, lc_none, lc_int, lc_ref, lc_null, lc_long, sm_val, vi_int, seval, cx_hsz, cx_hsl, cx_env, cx_get0, cx_w0s, cx_w0c, cx_w28, giu_at, cxf_0, cxf_1, cxf_2, cxf_3, cxf_4, cxf_5, cxf_6, cxf_7, cxf_8, cxf_9, cxf_10, cxf_11, cxf_12, cxf_13, cxf_14, cxf_15, cxf_16, cxf_17, cxf_18, cxf_19, cxf_20, cxf_21, cxf_22, cxg_27, cxs_27, cxg_29, cxs_29, cxg_30, cxs_30, cxg_31, cxs_31, cxg_32, cxs_32, cxg_33, cxs_33, cxg_34, cxs_34, cxg_35, cxs_35, cxg_28, cxw_4, cxw_5, cxw_6, cxw_12, cxw_13, cxw_14, cxw_17, cxw_18, cxw_19, cxw_22, t1, v1, v2, v3, of_X11_of_5 (st := []) o1 (by decide), of_X11_of_16 (st := []) o2 (by decide), opE, opr, swL, sw458_26, q, q2]
      · by_cases q : F1 (gi 29) < F2 (gi 29)
        · have q2 : ¬ F2 (gi 29) ≤ F1 (gi 29) := Int32.not_le.mpr q
          simp (disch := first | omega | (simp only [seval]; done) | (simp only [seval]; omega)) only [e458_0, e458_0b, e458_1, e458_4, e458_4b, e458_5, e458_5b, e458_5c, e458_10, e458_11, e458_11b, e458_12, e458_15, e458_15b, e458_16, e458_16b, e458_16c, e458_21, e458_22, e458_22b, e458_23, e458_26, e458_76, e458_77, e458_78, e458_79, e458_80, e458_81, e458_82, e458_83, e458_84, e458_85, e458_86, e458_87, e458_88, e458_89, e458_92, e458_93, e458_96, e458_97, e458_98, e458_99, e458_100, e458_101, e458_102, e458_105, e458_106, e458_107, e458_108, e458_111, kre_some, kre_none, kxo_thr, bnd_ite, ↓reduceIte, List.length_cons, List.length_nil, List.mem_cons, List.not_mem_nil, or_false, or_true, false_or, true_or, true_and, and_true, and_self, false_and, and_false, not_true_eq_false, not_false_eq_true, eq_self, ne_eq, if_true, if_false, bi_eq0, bi_eq1, bi_F, bi_T, ft_byte, ni_lt, ni_le, ni_neg, ni_pos, ni_inj, ni_nat, ni_add, ni_mul, ni_addc, ni_cadd, ni_cmul, ni_ltc, ni_lec, ni_clt, ni_cle, ni_eqc, ni_ceq, on_ni, ni_m1, nlt_t, nlt_f, nle_t, nle_f, neq_f, nw_int, nw_b0, nw_b1, nw_bi, nw_obj, nw_objn, nw_arr, nw_arrn, ft_int, ft_b0, ft_b1, ft_bi, ft_char, ft_obj, ft_objn, ft_arr, ft_arrn, ct_int, ct_ref, ct_null, lc_none, lc_int, lc_ref, lc_null, lc_long, sm_val, vi_int, seval, cx_hsz, cx_hsl, cx_env, cx_get0, cx_w0s, cx_w0c, cx_w28, giu_at, cxf_0, cxf_1, cxf_2, cxf_3, cxf_4, cxf_5, cxf_6, cxf_7, cxf_8, cxf_9, cxf_10, cxf_11, cxf_12, cxf_13, cxf_14, cxf_15, cxf_16, cxf_17, cxf_18, cxf_19, cxf_20, cxf_21, cxf_22, cxg_27, cxs_27, cxg_29, cxs_29, cxg_30, cxs_30, cxg_31, cxs_31, cxg_32, cxs_32, cxg_33, cxs_33, cxg_34, cxs_34, cxg_35, cxs_35, cxg_28, cxw_4, cxw_5, cxw_6, cxw_12, cxw_13, cxw_14, cxw_17, cxw_18, cxw_19, cxw_22, t1, v1, v2, v3, of_X11_of_5 (st := []) o1 (by decide), of_X11_of_16 (st := []) o2 (by decide), opE, opr, swL, sw458_26, q, q2]
        · have q2 : F2 (gi 29) ≤ F1 (gi 29) := Int32.not_lt.mp q
          simp (disch := first | omega | (simp only [seval]; done) | (simp only [seval]; omega)) only [e458_0, e458_0b, e458_1, e458_4, e458_4b, e458_5, e458_5b, e458_5c, e458_10, e458_11, e458_11b, e458_12, e458_15, e458_15b, e458_16, e458_16b, e458_16c, e458_21, e458_22, e458_22b, e458_23, e458_26, e458_76, e458_77, e458_78, e458_79, e458_80, e458_81, e458_82, e458_83, e458_84, e458_85, e458_86, e458_87, e458_88, e458_89, e458_92, e458_93, e458_96, e458_97, e458_98, e458_99, e458_100, e458_101, e458_102, e458_105, e458_106, e458_107, e458_108, e458_111, kre_some, kre_none, kxo_thr, bnd_ite, ↓reduceIte, List.length_cons, List.length_nil, List.mem_cons, List.not_mem_nil, or_false, or_true, false_or, true_or, true_and, and_true, and_self, false_and, and_false, not_true_eq_false, not_false_eq_true, eq_self, ne_eq, if_true, if_false, bi_eq0, bi_eq1, bi_F, bi_T, ft_byte, ni_lt, ni_le, ni_neg, ni_pos, ni_inj, ni_nat, ni_add, ni_mul, ni_addc, ni_cadd, ni_cmul, ni_ltc, ni_lec, ni_clt, ni_cle, ni_eqc, ni_ceq, on_ni, ni_m1, nlt_t, nlt_f, nle_t, nle_f, neq_f, nw_int, nw_b0, nw_b1, nw_bi, nw_obj, nw_objn, nw_arr, nw_arrn, ft_int, ft_b0, ft_b1, ft_bi, ft_char, ft_obj, ft_objn, ft_arr, ft_arrn, ct_int, ct_ref, ct_null, lc_none, lc_int, lc_ref, lc_null, lc_long, sm_val, vi_int, seval, cx_hsz, cx_hsl, cx_env, cx_get0, cx_w0s, cx_w0c, cx_w28, giu_at, cxf_0, cxf_1, cxf_2, cxf_3, cxf_4, cxf_5, cxf_6, cxf_7, cxf_8, cxf_9, cxf_10, cxf_11, cxf_12, cxf_13, cxf_14, cxf_15, cxf_16, cxf_17, cxf_18, cxf_19, cxf_20, cxf_21, cxf_22, cxg_27, cxs_27, cxg_29, cxs_29, cxg_30, cxs_30, cxg_31, cxs_31, cxg_32, cxs_32, cxg_33, cxs_33, cxg_34, cxs_34, cxg_35, cxs_35, cxg_28, cxw_4, cxw_5, cxw_6, cxw_12, cxw_13, cxw_14, cxw_17, cxw_18, cxw_19, cxw_22, t1, v1, v2, v3, of_X11_of_5 (st := []) o1 (by decide), of_X11_of_16 (st := []) o2 (by decide), opE, opr, swL, sw458_26, q, q2]
end AST
