/-! every instruction is sound (by gen3.py) -/
set_option maxRecDepth 100000
section
variable {G : AG}
theorem n0_0 : Snd mt G 0 0 (oAload 3 1) := w_aload_n (hm := mm0) dX0_rules_0
theorem n0_1 : Snd mt G 0 1 (oConst (.int 0) 2) := w_iconst (hm := mm0) dX0_rules_1 rfl
theorem n0_2 : Snd mt G 0 2 (oAload 0 3) := w_aload_n (hm := mm0) dX0_rules_2
theorem n0_3 : Snd mt G 0 3 (oIload 1 4) := w_iload_n (hm := mm0) dX0_rules_3
theorem n0_4 : Snd mt G 0 4 (oIload 2 5) := w_iload_n (hm := mm0) dX0_rules_4
theorem n0_5 : Snd mt G 0 5 (oCall 3 (fV [1] 87 6) 0 8 (xCatch [(32, 13)])) := s_callV (m' := 87) (n := 2) (xsh_catch _) (w_xokC mm0 (List.forall_mem_cons.mpr ⟨⟨31, _, 0, _, _, rfl, (Nat.le_of_ble_eq_true rfl), vc_31, rfl, rfl, (fun y hy => nomatch hy), by decide, by decide, q1171, List.mem_filter.mpr ⟨q215, rfl⟩⟩, (fun y hy => nomatch hy)⟩)) (w_cal mm0 mm87 pn_X1 (Nat.le_of_ble_eq_true rfl) (Nat.le_of_ble_eq_true rfl)) (fun h b as hc hn => w_run_VX (ci := 0) mm0 mm87 dX0_rules_5 (Or.inl (List.mem_singleton.mp hc)) (Nat.le_of_ble_eq_true rfl) vc_0 rfl q1172 q1173 q1174 q129 q1175 pa87 hn)
theorem n0_8 : Snd mt G 0 8 (oUn (fun x => .long x.toInt64) 9) := w_i2l (hm := mm0) dX0_rules_8
theorem n0_9 : Snd mt G 0 9 (oLast [102] 10) := w_lastore (hm := mm0) (kt := 2) dX0_rules_9 at_2 (Nat.le_of_ble_eq_true rfl) (List.forall_mem_cons.mpr ⟨rfl, (fun t ht => nomatch ht)⟩)
theorem n0_10 : Snd mt G 0 10 (oGoto 17) := w_goto (hm := mm0) dX0_rules_10 rfl
theorem n0_13 : Snd mt G 0 13 (oAstore 4 15) := w_astore (hm := mm0) dX0_rules_13 (Nat.le_of_ble_eq_true rfl)
theorem n0_15 : Snd mt G 0 15 (oConst (.int 1) 16) := w_iconst (hm := mm0) dX0_rules_15 rfl
theorem n0_16 : Snd mt G 0 16 (oRetI .int) := w_iret (hm := mm0) dX0_rules_16 rfl
theorem n0_17 : Snd mt G 0 17 (oConst (.int 0) 18) := w_iconst (hm := mm0) dX0_rules_17 rfl
theorem n0_18 : Snd mt G 0 18 (oRetI .int) := w_iret (hm := mm0) dX0_rules_18 rfl
theorem sj0 : ∀ pc, Snd mt G 0 pc (j0 pc) := fun pc => (snd_br ((snd_br ((snd_br ((snd_br ((snd_lf n0_18)) ((snd_lf n0_17)))) ((snd_br ((snd_lf n0_16)) ((snd_lf n0_15)))))) ((snd_br ((snd_br ((snd_lf n0_13)) ((snd_lf n0_10)))) ((snd_lf n0_9)))))) ((snd_br ((snd_br ((snd_br ((snd_lf n0_8)) ((snd_lf n0_5)))) ((snd_br ((snd_lf n0_4)) ((snd_lf n0_3)))))) ((snd_br ((snd_br ((snd_lf n0_2)) ((snd_lf n0_1)))) ((snd_lf n0_0)))))))
end
section
variable {G : AG}
theorem n1_0 : Snd mt G 1 0 (oAload 2 1) := w_aload_n (hm := mm1) dX0_counts_0
theorem n1_1 : Snd mt G 1 1 (oConst (.int 0) 2) := w_iconst (hm := mm1) dX0_counts_1 rfl
theorem n1_2 : Snd mt G 1 2 (oAload 0 3) := w_aload_n (hm := mm1) dX0_counts_2
theorem n1_3 : Snd mt G 1 3 (oIload 1 4) := w_iload_n (hm := mm1) dX0_counts_3
theorem n1_4 : Snd mt G 1 4 (oCall 2 (fV [1] 90 2) 0 7 (xCatch [(32, 12)])) := s_callV (m' := 90) (n := 1) (xsh_catch _) (w_xokC mm1 (List.forall_mem_cons.mpr ⟨⟨31, _, 0, _, _, rfl, (Nat.le_of_ble_eq_true rfl), vc_31, rfl, rfl, (fun y hy => nomatch hy), by decide, by decide, q1171, List.mem_filter.mpr ⟨q215, rfl⟩⟩, (fun y hy => nomatch hy)⟩)) (w_cal mm1 mm90 pn_X1 (Nat.le_of_ble_eq_true rfl) (Nat.le_of_ble_eq_true rfl)) (fun h b as hc hn => w_run_V (ci := 0) mm1 mm90 dX0_counts_4 (Or.inl (List.mem_singleton.mp hc)) (Nat.le_of_ble_eq_true rfl) vc_0 rfl q1609 q1610 q1611 q129 q1612 pa90 hn)
theorem n1_7 : Snd mt G 1 7 (oUn (fun x => .long x.toInt64) 8) := w_i2l (hm := mm1) dX0_counts_7
theorem n1_8 : Snd mt G 1 8 (oLast [102] 9) := w_lastore (hm := mm1) (kt := 2) dX0_counts_8 at_2 (Nat.le_of_ble_eq_true rfl) (List.forall_mem_cons.mpr ⟨rfl, (fun t ht => nomatch ht)⟩)
theorem n1_9 : Snd mt G 1 9 (oGoto 15) := w_goto (hm := mm1) dX0_counts_9 rfl
theorem n1_12 : Snd mt G 1 12 (oAstore 3 13) := w_astore_n (hm := mm1) dX0_counts_12 (Nat.le_of_ble_eq_true rfl)
theorem n1_13 : Snd mt G 1 13 (oConst (.int 1) 14) := w_iconst (hm := mm1) dX0_counts_13 rfl
theorem n1_14 : Snd mt G 1 14 (oRetI .int) := w_iret (hm := mm1) dX0_counts_14 rfl
theorem n1_15 : Snd mt G 1 15 (oConst (.int 0) 16) := w_iconst (hm := mm1) dX0_counts_15 rfl
theorem n1_16 : Snd mt G 1 16 (oRetI .int) := w_iret (hm := mm1) dX0_counts_16 rfl
theorem sj1 : ∀ pc, Snd mt G 1 pc (j1 pc) := fun pc => (snd_br ((snd_br ((snd_br ((snd_br ((snd_lf n1_16)) ((snd_lf n1_15)))) ((snd_br ((snd_lf n1_14)) ((snd_lf n1_13)))))) ((snd_br ((snd_br ((snd_lf n1_12)) ((snd_lf n1_9)))) ((snd_lf n1_8)))))) ((snd_br ((snd_br ((snd_br ((snd_lf n1_7)) ((snd_lf n1_4)))) ((snd_lf n1_3)))) ((snd_br ((snd_br ((snd_lf n1_2)) ((snd_lf n1_1)))) ((snd_lf n1_0)))))))
end
section
variable {G : AG}
theorem n2_0 : Snd mt G 2 0 (oAload 5 2) := w_aload (hm := mm2) dX0_model_0
theorem n2_2 : Snd mt G 2 2 (oConst (.int 0) 3) := w_iconst (hm := mm2) dX0_model_2 rfl
theorem n2_3 : Snd mt G 2 3 (oAload 0 4) := w_aload_n (hm := mm2) dX0_model_3
theorem n2_4 : Snd mt G 2 4 (oIload 1 5) := w_iload_n (hm := mm2) dX0_model_4
theorem n2_5 : Snd mt G 2 5 (oIload 2 6) := w_iload_n (hm := mm2) dX0_model_5
theorem n2_6 : Snd mt G 2 6 (oIload 3 7) := w_iload_n (hm := mm2) dX0_model_6
theorem n2_7 : Snd mt G 2 7 (oIload 4 9) := w_iload (hm := mm2) dX0_model_7
theorem n2_9 : Snd mt G 2 9 (oCall 5 (fV [1] 91 5) 0 12 (xCatch [(32, 17)])) := s_callV (m' := 91) (n := 4) (xsh_catch _) (w_xokC mm2 (List.forall_mem_cons.mpr ⟨⟨31, _, 0, _, _, rfl, (Nat.le_of_ble_eq_true rfl), vc_31, rfl, rfl, (fun y hy => nomatch hy), by decide, by decide, q1171, List.mem_filter.mpr ⟨q215, rfl⟩⟩, (fun y hy => nomatch hy)⟩)) (w_cal mm2 mm91 pn_X1 (Nat.le_of_ble_eq_true rfl) (Nat.le_of_ble_eq_true rfl)) (fun h b as hc hn => w_run_V (ci := 0) mm2 mm91 dX0_model_9 (Or.inl (List.mem_singleton.mp hc)) (Nat.le_of_ble_eq_true rfl) vc_0 rfl q1616 q1617 q1618 q129 q1619 pa91 hn)
theorem n2_12 : Snd mt G 2 12 (oUn (fun x => .long x.toInt64) 13) := w_i2l (hm := mm2) dX0_model_12
theorem n2_13 : Snd mt G 2 13 (oLast [102] 14) := w_lastore (hm := mm2) (kt := 2) dX0_model_13 at_2 (Nat.le_of_ble_eq_true rfl) (List.forall_mem_cons.mpr ⟨rfl, (fun t ht => nomatch ht)⟩)
theorem n2_14 : Snd mt G 2 14 (oGoto 21) := w_goto (hm := mm2) dX0_model_14 rfl
theorem n2_17 : Snd mt G 2 17 (oAstore 6 19) := w_astore (hm := mm2) dX0_model_17 (Nat.le_of_ble_eq_true rfl)
theorem n2_19 : Snd mt G 2 19 (oConst (.int 1) 20) := w_iconst (hm := mm2) dX0_model_19 rfl
theorem n2_20 : Snd mt G 2 20 (oRetI .int) := w_iret (hm := mm2) dX0_model_20 rfl
theorem n2_21 : Snd mt G 2 21 (oConst (.int 0) 22) := w_iconst (hm := mm2) dX0_model_21 rfl
theorem n2_22 : Snd mt G 2 22 (oRetI .int) := w_iret (hm := mm2) dX0_model_22 rfl
theorem sj2 : ∀ pc, Snd mt G 2 pc (j2 pc) := fun pc => (snd_br ((snd_br ((snd_br ((snd_br ((snd_lf n2_22)) ((snd_lf n2_21)))) ((snd_br ((snd_lf n2_20)) ((snd_lf n2_19)))))) ((snd_br ((snd_br ((snd_lf n2_17)) ((snd_lf n2_14)))) ((snd_br ((snd_lf n2_13)) ((snd_lf n2_12)))))))) ((snd_br ((snd_br ((snd_br ((snd_lf n2_9)) ((snd_lf n2_7)))) ((snd_br ((snd_lf n2_6)) ((snd_lf n2_5)))))) ((snd_br ((snd_br ((snd_lf n2_4)) ((snd_lf n2_3)))) ((snd_br ((snd_lf n2_2)) ((snd_lf n2_0)))))))))
end
section
variable {G : AG}
theorem n3_0 : Snd mt G 3 0 (oAload 2 1) := w_aload_n (hm := mm3) dX0_days_0
theorem n3_1 : Snd mt G 3 1 (oConst (.int 0) 2) := w_iconst (hm := mm3) dX0_days_1 rfl
theorem n3_2 : Snd mt G 3 2 (oAload 0 3) := w_aload_n (hm := mm3) dX0_days_2
theorem n3_3 : Snd mt G 3 3 (oIload 1 4) := w_iload_n (hm := mm3) dX0_days_3
theorem n3_4 : Snd mt G 3 4 (oCall 2 (fV [1] 93 2) 0 7 (xCatch [(32, 12), (33, 15)])) := s_callV (m' := 93) (n := 1) (xsh_catch _) (w_xokC mm3 (List.forall_mem_cons.mpr ⟨⟨31, _, 0, _, _, rfl, (Nat.le_of_ble_eq_true rfl), vc_31, rfl, rfl, (fun y hy => nomatch hy), by decide, by decide, q1171, List.mem_filter.mpr ⟨q215, rfl⟩⟩, (List.forall_mem_cons.mpr ⟨⟨32, _, 1, _, _, rfl, (Nat.le_of_ble_eq_true rfl), vc_32, rfl, rfl, (List.forall_mem_cons.mpr ⟨Or.inr ⟨by decide, _, q1171, by decide⟩, (fun y hy => nomatch hy)⟩), by decide, by decide, q1649, List.mem_filter.mpr ⟨q1656, rfl⟩⟩, (fun y hy => nomatch hy)⟩)⟩)) (w_cal mm3 mm93 pn_X1 (Nat.le_of_ble_eq_true rfl) (Nat.le_of_ble_eq_true rfl)) (fun h b as hc hn => w_run_V (ci := 0) mm3 mm93 dX0_days_4 (Or.inl (List.mem_singleton.mp hc)) (Nat.le_of_ble_eq_true rfl) vc_0 rfl q1650 q1651 q1652 q129 q1653 pa93 hn)
theorem n3_7 : Snd mt G 3 7 (oUn (fun x => .long x.toInt64) 8) := w_i2l (hm := mm3) dX0_days_7
theorem n3_8 : Snd mt G 3 8 (oLast [102] 9) := w_lastore (hm := mm3) (kt := 2) dX0_days_8 at_2 (Nat.le_of_ble_eq_true rfl) (List.forall_mem_cons.mpr ⟨rfl, (fun t ht => nomatch ht)⟩)
theorem n3_9 : Snd mt G 3 9 (oGoto 18) := w_goto (hm := mm3) dX0_days_9 rfl
theorem n3_12 : Snd mt G 3 12 (oAstore 3 13) := w_astore_n (hm := mm3) dX0_days_12 (Nat.le_of_ble_eq_true rfl)
theorem n3_13 : Snd mt G 3 13 (oConst (.int 1) 14) := w_iconst (hm := mm3) dX0_days_13 rfl
theorem n3_14 : Snd mt G 3 14 (oRetI .int) := w_iret (hm := mm3) dX0_days_14 rfl
theorem n3_15 : Snd mt G 3 15 (oAstore 3 16) := w_astore_n (hm := mm3) dX0_days_15 (Nat.le_of_ble_eq_true rfl)
theorem n3_16 : Snd mt G 3 16 (oConst (.int 2) 17) := w_iconst (hm := mm3) dX0_days_16 rfl
theorem n3_17 : Snd mt G 3 17 (oRetI .int) := w_iret (hm := mm3) dX0_days_17 rfl
theorem n3_18 : Snd mt G 3 18 (oConst (.int 0) 19) := w_iconst (hm := mm3) dX0_days_18 rfl
theorem n3_19 : Snd mt G 3 19 (oRetI .int) := w_iret (hm := mm3) dX0_days_19 rfl
theorem sj3 : ∀ pc, Snd mt G 3 pc (j3 pc) := fun pc => (snd_br ((snd_br ((snd_br ((snd_br ((snd_lf n3_19)) ((snd_lf n3_18)))) ((snd_br ((snd_lf n3_17)) ((snd_lf n3_16)))))) ((snd_br ((snd_br ((snd_lf n3_15)) ((snd_lf n3_14)))) ((snd_br ((snd_lf n3_13)) ((snd_lf n3_12)))))))) ((snd_br ((snd_br ((snd_br ((snd_lf n3_9)) ((snd_lf n3_8)))) ((snd_br ((snd_lf n3_7)) ((snd_lf n3_4)))))) ((snd_br ((snd_br ((snd_lf n3_3)) ((snd_lf n3_2)))) ((snd_br ((snd_lf n3_1)) ((snd_lf n3_0)))))))))
end
section
variable {G : AG}
theorem n4_0 : Snd mt G 4 0 (oAload 6 2) := w_aload (hm := mm4) dX0_person_0
theorem n4_2 : Snd mt G 4 2 (oConst (.int 0) 3) := w_iconst (hm := mm4) dX0_person_2 rfl
theorem n4_3 : Snd mt G 4 3 (oAload 0 4) := w_aload_n (hm := mm4) dX0_person_3
theorem n4_4 : Snd mt G 4 4 (oIload 1 5) := w_iload_n (hm := mm4) dX0_person_4
theorem n4_5 : Snd mt G 4 5 (oIload 2 6) := w_iload_n (hm := mm4) dX0_person_5
theorem n4_6 : Snd mt G 4 6 (oIload 3 7) := w_iload_n (hm := mm4) dX0_person_6
theorem n4_7 : Snd mt G 4 7 (oIload 4 9) := w_iload (hm := mm4) dX0_person_7
theorem n4_9 : Snd mt G 4 9 (oIload 5 11) := w_iload (hm := mm4) dX0_person_9
theorem n4_11 : Snd mt G 4 11 (oCall 6 (fV [1] 94 6) 0 14 (xCatch [(32, 19)])) := s_callV (m' := 94) (n := 5) (xsh_catch _) (w_xokC mm4 (List.forall_mem_cons.mpr ⟨⟨31, _, 0, _, _, rfl, (Nat.le_of_ble_eq_true rfl), vc_31, rfl, rfl, (fun y hy => nomatch hy), by decide, by decide, q1171, List.mem_filter.mpr ⟨q215, rfl⟩⟩, (fun y hy => nomatch hy)⟩)) (w_cal mm4 mm94 pn_X1 (Nat.le_of_ble_eq_true rfl) (Nat.le_of_ble_eq_true rfl)) (fun h b as hc hn => w_run_V (ci := 0) mm4 mm94 dX0_person_11 (Or.inl (List.mem_singleton.mp hc)) (Nat.le_of_ble_eq_true rfl) vc_0 rfl q1672 q1673 q1674 q129 q1675 pa94 hn)
theorem n4_14 : Snd mt G 4 14 (oUn (fun x => .long x.toInt64) 15) := w_i2l (hm := mm4) dX0_person_14
theorem n4_15 : Snd mt G 4 15 (oLast [102] 16) := w_lastore (hm := mm4) (kt := 2) dX0_person_15 at_2 (Nat.le_of_ble_eq_true rfl) (List.forall_mem_cons.mpr ⟨rfl, (fun t ht => nomatch ht)⟩)
theorem n4_16 : Snd mt G 4 16 (oGoto 23) := w_goto (hm := mm4) dX0_person_16 rfl
theorem n4_19 : Snd mt G 4 19 (oAstore 7 21) := w_astore (hm := mm4) dX0_person_19 (Nat.le_of_ble_eq_true rfl)
theorem n4_21 : Snd mt G 4 21 (oConst (.int 1) 22) := w_iconst (hm := mm4) dX0_person_21 rfl
theorem n4_22 : Snd mt G 4 22 (oRetI .int) := w_iret (hm := mm4) dX0_person_22 rfl
theorem n4_23 : Snd mt G 4 23 (oConst (.int 0) 24) := w_iconst (hm := mm4) dX0_person_23 rfl
theorem n4_24 : Snd mt G 4 24 (oRetI .int) := w_iret (hm := mm4) dX0_person_24 rfl
theorem sj4 : ∀ pc, Snd mt G 4 pc (j4 pc) := fun pc => (snd_br ((snd_br ((snd_br ((snd_br ((snd_br ((snd_lf n4_24)) ((snd_lf n4_23)))) ((snd_lf n4_22)))) ((snd_br ((snd_lf n4_21)) ((snd_lf n4_19)))))) ((snd_br ((snd_br ((snd_lf n4_16)) ((snd_lf n4_15)))) ((snd_br ((snd_lf n4_14)) ((snd_lf n4_11)))))))) ((snd_br ((snd_br ((snd_br ((snd_lf n4_9)) ((snd_lf n4_7)))) ((snd_br ((snd_lf n4_6)) ((snd_lf n4_5)))))) ((snd_br ((snd_br ((snd_lf n4_4)) ((snd_lf n4_3)))) ((snd_br ((snd_lf n4_2)) ((snd_lf n4_0)))))))))
end
section
variable {G : AG}
theorem n5_0 : Snd mt G 5 0 (oAload 4 2) := w_aload (hm := mm5) dX0_stump_0
theorem n5_2 : Snd mt G 5 2 (oConst (.int 0) 3) := w_iconst (hm := mm5) dX0_stump_2 rfl
theorem n5_3 : Snd mt G 5 3 (oAload 0 4) := w_aload_n (hm := mm5) dX0_stump_3
theorem n5_4 : Snd mt G 5 4 (oIload 1 5) := w_iload_n (hm := mm5) dX0_stump_4
theorem n5_5 : Snd mt G 5 5 (oIload 2 6) := w_iload_n (hm := mm5) dX0_stump_5
theorem n5_6 : Snd mt G 5 6 (oIload 3 7) := w_iload_n (hm := mm5) dX0_stump_6
theorem n5_7 : Snd mt G 5 7 (oCall 4 (fV [1] 96 6) 0 10 (xCatch [(32, 19), (34, 15)])) := s_callV (m' := 96) (n := 3) (xsh_catch _) (w_xokC mm5 (List.forall_mem_cons.mpr ⟨⟨31, _, 1, _, _, rfl, (Nat.le_of_ble_eq_true rfl), vc_31, rfl, rfl, (List.forall_mem_cons.mpr ⟨Or.inr ⟨by decide, _, q1683, by decide⟩, (fun y hy => nomatch hy)⟩), by decide, by decide, q1171, List.mem_filter.mpr ⟨q215, rfl⟩⟩, (List.forall_mem_cons.mpr ⟨⟨33, _, 0, _, _, rfl, (Nat.le_of_ble_eq_true rfl), vc_33, rfl, rfl, (fun y hy => nomatch hy), by decide, by decide, q1683, List.mem_filter.mpr ⟨q1694, rfl⟩⟩, (fun y hy => nomatch hy)⟩)⟩)) (w_cal mm5 mm96 pn_X1 (Nat.le_of_ble_eq_true rfl) (Nat.le_of_ble_eq_true rfl)) (fun h b as hc hn => w_run_V (ci := 0) mm5 mm96 dX0_stump_7 (Or.inl (List.mem_singleton.mp hc)) (Nat.le_of_ble_eq_true rfl) vc_0 rfl q1684 q1685 q1686 q129 q1687 pa96 hn)
theorem n5_10 : Snd mt G 5 10 (oUn (fun x => .long x.toInt64) 11) := w_i2l (hm := mm5) dX0_stump_10
theorem n5_11 : Snd mt G 5 11 (oLast [102] 12) := w_lastore (hm := mm5) (kt := 2) dX0_stump_11 at_2 (Nat.le_of_ble_eq_true rfl) (List.forall_mem_cons.mpr ⟨rfl, (fun t ht => nomatch ht)⟩)
theorem n5_12 : Snd mt G 5 12 (oGoto 23) := w_goto (hm := mm5) dX0_stump_12 rfl
theorem n5_15 : Snd mt G 5 15 (oAstore 5 17) := w_astore (hm := mm5) dX0_stump_15 (Nat.le_of_ble_eq_true rfl)
theorem n5_17 : Snd mt G 5 17 (oConst (.int 1) 18) := w_iconst (hm := mm5) dX0_stump_17 rfl
theorem n5_18 : Snd mt G 5 18 (oRetI .int) := w_iret (hm := mm5) dX0_stump_18 rfl
theorem n5_19 : Snd mt G 5 19 (oAstore 5 21) := w_astore (hm := mm5) dX0_stump_19 (Nat.le_of_ble_eq_true rfl)
theorem n5_21 : Snd mt G 5 21 (oConst (.int 2) 22) := w_iconst (hm := mm5) dX0_stump_21 rfl
theorem n5_22 : Snd mt G 5 22 (oRetI .int) := w_iret (hm := mm5) dX0_stump_22 rfl
theorem n5_23 : Snd mt G 5 23 (oConst (.int 0) 24) := w_iconst (hm := mm5) dX0_stump_23 rfl
theorem n5_24 : Snd mt G 5 24 (oRetI .int) := w_iret (hm := mm5) dX0_stump_24 rfl
theorem sj5 : ∀ pc, Snd mt G 5 pc (j5 pc) := fun pc => (snd_br ((snd_br ((snd_br ((snd_br ((snd_br ((snd_lf n5_24)) ((snd_lf n5_23)))) ((snd_lf n5_22)))) ((snd_br ((snd_lf n5_21)) ((snd_lf n5_19)))))) ((snd_br ((snd_br ((snd_lf n5_18)) ((snd_lf n5_17)))) ((snd_br ((snd_lf n5_15)) ((snd_lf n5_12)))))))) ((snd_br ((snd_br ((snd_br ((snd_br ((snd_lf n5_11)) ((snd_lf n5_10)))) ((snd_lf n5_7)))) ((snd_br ((snd_lf n5_6)) ((snd_lf n5_5)))))) ((snd_br ((snd_br ((snd_lf n5_4)) ((snd_lf n5_3)))) ((snd_br ((snd_lf n5_2)) ((snd_lf n5_0)))))))))
end
section
variable {G : AG}
theorem n6_0 : Snd mt G 6 0 (oAload 4 2) := w_aload (hm := mm6) dX0_change_0
theorem n6_2 : Snd mt G 6 2 (oConst (.int 0) 3) := w_iconst (hm := mm6) dX0_change_2 rfl
theorem n6_3 : Snd mt G 6 3 (oAload 0 4) := w_aload_n (hm := mm6) dX0_change_3
theorem n6_4 : Snd mt G 6 4 (oIload 1 5) := w_iload_n (hm := mm6) dX0_change_4
theorem n6_5 : Snd mt G 6 5 (oIload 2 6) := w_iload_n (hm := mm6) dX0_change_5
theorem n6_6 : Snd mt G 6 6 (oIload 3 7) := w_iload_n (hm := mm6) dX0_change_6
theorem n6_7 : Snd mt G 6 7 (oCall 4 (fV [1] 98 6) 0 10 (xCatch [(32, 19), (34, 15)])) := s_callV (m' := 98) (n := 3) (xsh_catch _) (w_xokC mm6 (List.forall_mem_cons.mpr ⟨⟨31, _, 1, _, _, rfl, (Nat.le_of_ble_eq_true rfl), vc_31, rfl, rfl, (List.forall_mem_cons.mpr ⟨Or.inr ⟨by decide, _, q1683, by decide⟩, (fun y hy => nomatch hy)⟩), by decide, by decide, q1171, List.mem_filter.mpr ⟨q215, rfl⟩⟩, (List.forall_mem_cons.mpr ⟨⟨33, _, 0, _, _, rfl, (Nat.le_of_ble_eq_true rfl), vc_33, rfl, rfl, (fun y hy => nomatch hy), by decide, by decide, q1683, List.mem_filter.mpr ⟨q1694, rfl⟩⟩, (fun y hy => nomatch hy)⟩)⟩)) (w_cal mm6 mm98 pn_X1 (Nat.le_of_ble_eq_true rfl) (Nat.le_of_ble_eq_true rfl)) (fun h b as hc hn => w_run_V (ci := 0) mm6 mm98 dX0_change_7 (Or.inl (List.mem_singleton.mp hc)) (Nat.le_of_ble_eq_true rfl) vc_0 rfl q1714 q1715 q1716 q129 q1717 pa98 hn)
theorem n6_10 : Snd mt G 6 10 (oUn (fun x => .long x.toInt64) 11) := w_i2l (hm := mm6) dX0_change_10
theorem n6_11 : Snd mt G 6 11 (oLast [102] 12) := w_lastore (hm := mm6) (kt := 2) dX0_change_11 at_2 (Nat.le_of_ble_eq_true rfl) (List.forall_mem_cons.mpr ⟨rfl, (fun t ht => nomatch ht)⟩)
theorem n6_12 : Snd mt G 6 12 (oGoto 23) := w_goto (hm := mm6) dX0_change_12 rfl
theorem n6_15 : Snd mt G 6 15 (oAstore 5 17) := w_astore (hm := mm6) dX0_change_15 (Nat.le_of_ble_eq_true rfl)
theorem n6_17 : Snd mt G 6 17 (oConst (.int 1) 18) := w_iconst (hm := mm6) dX0_change_17 rfl
theorem n6_18 : Snd mt G 6 18 (oRetI .int) := w_iret (hm := mm6) dX0_change_18 rfl
theorem n6_19 : Snd mt G 6 19 (oAstore 5 21) := w_astore (hm := mm6) dX0_change_19 (Nat.le_of_ble_eq_true rfl)
theorem n6_21 : Snd mt G 6 21 (oConst (.int 2) 22) := w_iconst (hm := mm6) dX0_change_21 rfl
theorem n6_22 : Snd mt G 6 22 (oRetI .int) := w_iret (hm := mm6) dX0_change_22 rfl
theorem n6_23 : Snd mt G 6 23 (oConst (.int 0) 24) := w_iconst (hm := mm6) dX0_change_23 rfl
theorem n6_24 : Snd mt G 6 24 (oRetI .int) := w_iret (hm := mm6) dX0_change_24 rfl
theorem sj6 : ∀ pc, Snd mt G 6 pc (j6 pc) := fun pc => (snd_br ((snd_br ((snd_br ((snd_br ((snd_br ((snd_lf n6_24)) ((snd_lf n6_23)))) ((snd_lf n6_22)))) ((snd_br ((snd_lf n6_21)) ((snd_lf n6_19)))))) ((snd_br ((snd_br ((snd_lf n6_18)) ((snd_lf n6_17)))) ((snd_br ((snd_lf n6_15)) ((snd_lf n6_12)))))))) ((snd_br ((snd_br ((snd_br ((snd_br ((snd_lf n6_11)) ((snd_lf n6_10)))) ((snd_lf n6_7)))) ((snd_br ((snd_lf n6_6)) ((snd_lf n6_5)))))) ((snd_br ((snd_br ((snd_lf n6_4)) ((snd_lf n6_3)))) ((snd_br ((snd_lf n6_2)) ((snd_lf n6_0)))))))))
end
section
variable {G : AG}
theorem n7_0 : Snd mt G 7 0 (oAload 3 1) := w_aload_n (hm := mm7) dX0_size_0
theorem n7_1 : Snd mt G 7 1 (oConst (.int 0) 2) := w_iconst (hm := mm7) dX0_size_1 rfl
theorem n7_2 : Snd mt G 7 2 (oAload 0 3) := w_aload_n (hm := mm7) dX0_size_2
theorem n7_3 : Snd mt G 7 3 (oIload 1 4) := w_iload_n (hm := mm7) dX0_size_3
theorem n7_4 : Snd mt G 7 4 (oIload 2 5) := w_iload_n (hm := mm7) dX0_size_4
theorem n7_5 : Snd mt G 7 5 (oCall 3 (fV [1] 99 4) 0 8 (xCatch [(32, 17), (34, 13)])) := s_callV (m' := 99) (n := 2) (xsh_catch _) (w_xokC mm7 (List.forall_mem_cons.mpr ⟨⟨31, _, 1, _, _, rfl, (Nat.le_of_ble_eq_true rfl), vc_31, rfl, rfl, (List.forall_mem_cons.mpr ⟨Or.inr ⟨by decide, _, q1683, by decide⟩, (fun y hy => nomatch hy)⟩), by decide, by decide, q1171, List.mem_filter.mpr ⟨q215, rfl⟩⟩, (List.forall_mem_cons.mpr ⟨⟨33, _, 0, _, _, rfl, (Nat.le_of_ble_eq_true rfl), vc_33, rfl, rfl, (fun y hy => nomatch hy), by decide, by decide, q1683, List.mem_filter.mpr ⟨q1694, rfl⟩⟩, (fun y hy => nomatch hy)⟩)⟩)) (w_cal mm7 mm99 pn_X1 (Nat.le_of_ble_eq_true rfl) (Nat.le_of_ble_eq_true rfl)) (fun h b as hc hn => w_run_V (ci := 0) mm7 mm99 dX0_size_5 (Or.inl (List.mem_singleton.mp hc)) (Nat.le_of_ble_eq_true rfl) vc_0 rfl q1721 q1722 q1723 q129 q1724 pa99 hn)
theorem n7_8 : Snd mt G 7 8 (oUn (fun x => .long x.toInt64) 9) := w_i2l (hm := mm7) dX0_size_8
theorem n7_9 : Snd mt G 7 9 (oLast [102] 10) := w_lastore (hm := mm7) (kt := 2) dX0_size_9 at_2 (Nat.le_of_ble_eq_true rfl) (List.forall_mem_cons.mpr ⟨rfl, (fun t ht => nomatch ht)⟩)
theorem n7_10 : Snd mt G 7 10 (oGoto 21) := w_goto (hm := mm7) dX0_size_10 rfl
theorem n7_13 : Snd mt G 7 13 (oAstore 4 15) := w_astore (hm := mm7) dX0_size_13 (Nat.le_of_ble_eq_true rfl)
theorem n7_15 : Snd mt G 7 15 (oConst (.int 1) 16) := w_iconst (hm := mm7) dX0_size_15 rfl
theorem n7_16 : Snd mt G 7 16 (oRetI .int) := w_iret (hm := mm7) dX0_size_16 rfl
theorem n7_17 : Snd mt G 7 17 (oAstore 4 19) := w_astore (hm := mm7) dX0_size_17 (Nat.le_of_ble_eq_true rfl)
theorem n7_19 : Snd mt G 7 19 (oConst (.int 2) 20) := w_iconst (hm := mm7) dX0_size_19 rfl
theorem n7_20 : Snd mt G 7 20 (oRetI .int) := w_iret (hm := mm7) dX0_size_20 rfl
theorem n7_21 : Snd mt G 7 21 (oConst (.int 0) 22) := w_iconst (hm := mm7) dX0_size_21 rfl
theorem n7_22 : Snd mt G 7 22 (oRetI .int) := w_iret (hm := mm7) dX0_size_22 rfl
theorem sj7 : ∀ pc, Snd mt G 7 pc (j7 pc) := fun pc => (snd_br ((snd_br ((snd_br ((snd_br ((snd_br ((snd_lf n7_22)) ((snd_lf n7_21)))) ((snd_lf n7_20)))) ((snd_br ((snd_lf n7_19)) ((snd_lf n7_17)))))) ((snd_br ((snd_br ((snd_lf n7_16)) ((snd_lf n7_15)))) ((snd_br ((snd_lf n7_13)) ((snd_lf n7_10)))))))) ((snd_br ((snd_br ((snd_br ((snd_lf n7_9)) ((snd_lf n7_8)))) ((snd_br ((snd_lf n7_5)) ((snd_lf n7_4)))))) ((snd_br ((snd_br ((snd_lf n7_3)) ((snd_lf n7_2)))) ((snd_br ((snd_lf n7_1)) ((snd_lf n7_0)))))))))
end
section
variable {G : AG}
theorem n8_0 : Snd mt G 8 0 (oAload 4 2) := w_aload (hm := mm8) dX0_told_0
theorem n8_2 : Snd mt G 8 2 (oConst (.int 0) 3) := w_iconst (hm := mm8) dX0_told_2 rfl
theorem n8_3 : Snd mt G 8 3 (oAload 0 4) := w_aload_n (hm := mm8) dX0_told_3
theorem n8_4 : Snd mt G 8 4 (oIload 1 5) := w_iload_n (hm := mm8) dX0_told_4
theorem n8_5 : Snd mt G 8 5 (oIload 2 6) := w_iload_n (hm := mm8) dX0_told_5
theorem n8_6 : Snd mt G 8 6 (oIload 3 7) := w_iload_n (hm := mm8) dX0_told_6
theorem n8_7 : Snd mt G 8 7 (oCall 4 (fV [1] 100 5) 0 10 (xCatch [(32, 19), (34, 15)])) := s_callV (m' := 100) (n := 3) (xsh_catch _) (w_xokC mm8 (List.forall_mem_cons.mpr ⟨⟨31, _, 1, _, _, rfl, (Nat.le_of_ble_eq_true rfl), vc_31, rfl, rfl, (List.forall_mem_cons.mpr ⟨Or.inr ⟨by decide, _, q1683, by decide⟩, (fun y hy => nomatch hy)⟩), by decide, by decide, q1171, List.mem_filter.mpr ⟨q215, rfl⟩⟩, (List.forall_mem_cons.mpr ⟨⟨33, _, 0, _, _, rfl, (Nat.le_of_ble_eq_true rfl), vc_33, rfl, rfl, (fun y hy => nomatch hy), by decide, by decide, q1683, List.mem_filter.mpr ⟨q1694, rfl⟩⟩, (fun y hy => nomatch hy)⟩)⟩)) (w_cal mm8 mm100 pn_X1 (Nat.le_of_ble_eq_true rfl) (Nat.le_of_ble_eq_true rfl)) (fun h b as hc hn => w_run_V (ci := 0) mm8 mm100 dX0_told_7 (Or.inl (List.mem_singleton.mp hc)) (Nat.le_of_ble_eq_true rfl) vc_0 rfl q1728 q1729 q1730 q129 q1731 pa100 hn)
theorem n8_10 : Snd mt G 8 10 (oUn (fun x => .long x.toInt64) 11) := w_i2l (hm := mm8) dX0_told_10
theorem n8_11 : Snd mt G 8 11 (oLast [102] 12) := w_lastore (hm := mm8) (kt := 2) dX0_told_11 at_2 (Nat.le_of_ble_eq_true rfl) (List.forall_mem_cons.mpr ⟨rfl, (fun t ht => nomatch ht)⟩)
theorem n8_12 : Snd mt G 8 12 (oGoto 23) := w_goto (hm := mm8) dX0_told_12 rfl
theorem n8_15 : Snd mt G 8 15 (oAstore 5 17) := w_astore (hm := mm8) dX0_told_15 (Nat.le_of_ble_eq_true rfl)
theorem n8_17 : Snd mt G 8 17 (oConst (.int 1) 18) := w_iconst (hm := mm8) dX0_told_17 rfl
theorem n8_18 : Snd mt G 8 18 (oRetI .int) := w_iret (hm := mm8) dX0_told_18 rfl
theorem n8_19 : Snd mt G 8 19 (oAstore 5 21) := w_astore (hm := mm8) dX0_told_19 (Nat.le_of_ble_eq_true rfl)
theorem n8_21 : Snd mt G 8 21 (oConst (.int 2) 22) := w_iconst (hm := mm8) dX0_told_21 rfl
theorem n8_22 : Snd mt G 8 22 (oRetI .int) := w_iret (hm := mm8) dX0_told_22 rfl
theorem n8_23 : Snd mt G 8 23 (oConst (.int 0) 24) := w_iconst (hm := mm8) dX0_told_23 rfl
theorem n8_24 : Snd mt G 8 24 (oRetI .int) := w_iret (hm := mm8) dX0_told_24 rfl
theorem sj8 : ∀ pc, Snd mt G 8 pc (j8 pc) := fun pc => (snd_br ((snd_br ((snd_br ((snd_br ((snd_br ((snd_lf n8_24)) ((snd_lf n8_23)))) ((snd_lf n8_22)))) ((snd_br ((snd_lf n8_21)) ((snd_lf n8_19)))))) ((snd_br ((snd_br ((snd_lf n8_18)) ((snd_lf n8_17)))) ((snd_br ((snd_lf n8_15)) ((snd_lf n8_12)))))))) ((snd_br ((snd_br ((snd_br ((snd_br ((snd_lf n8_11)) ((snd_lf n8_10)))) ((snd_lf n8_7)))) ((snd_br ((snd_lf n8_6)) ((snd_lf n8_5)))))) ((snd_br ((snd_br ((snd_lf n8_4)) ((snd_lf n8_3)))) ((snd_br ((snd_lf n8_2)) ((snd_lf n8_0)))))))))
end
section
variable {G : AG}
theorem n9_0 : Snd mt G 9 0 (oAload 4 2) := w_aload (hm := mm9) dX0_barred_0
theorem n9_2 : Snd mt G 9 2 (oConst (.int 0) 3) := w_iconst (hm := mm9) dX0_barred_2 rfl
theorem n9_3 : Snd mt G 9 3 (oAload 0 4) := w_aload_n (hm := mm9) dX0_barred_3
theorem n9_4 : Snd mt G 9 4 (oIload 1 5) := w_iload_n (hm := mm9) dX0_barred_4
theorem n9_5 : Snd mt G 9 5 (oIload 2 6) := w_iload_n (hm := mm9) dX0_barred_5
theorem n9_6 : Snd mt G 9 6 (oIload 3 7) := w_iload_n (hm := mm9) dX0_barred_6
theorem n9_7 : Snd mt G 9 7 (oCall 4 (fV [1] 102 5) 0 10 (xCatch [(34, 22), (35, 26)])) := s_callV (m' := 102) (n := 3) (xsh_catch _) (w_xokC mm9 (List.forall_mem_cons.mpr ⟨⟨33, _, 0, _, _, rfl, (Nat.le_of_ble_eq_true rfl), vc_33, rfl, rfl, (fun y hy => nomatch hy), by decide, by decide, q1683, List.mem_filter.mpr ⟨q1694, rfl⟩⟩, (List.forall_mem_cons.mpr ⟨⟨34, _, 1, _, _, rfl, (Nat.le_of_ble_eq_true rfl), vc_34, rfl, rfl, (List.forall_mem_cons.mpr ⟨Or.inr ⟨by decide, _, q1683, by decide⟩, (fun y hy => nomatch hy)⟩), by decide, by decide, q1740, List.mem_filter.mpr ⟨q1769, rfl⟩⟩, (fun y hy => nomatch hy)⟩)⟩)) (w_cal mm9 mm102 pn_X1 (Nat.le_of_ble_eq_true rfl) (Nat.le_of_ble_eq_true rfl)) (fun h b as hc hn => w_run_V (ci := 0) mm9 mm102 dX0_barred_7 (Or.inl (List.mem_singleton.mp hc)) (Nat.le_of_ble_eq_true rfl) vc_0 rfl q1759 q1760 q1761 q129 q1762 pa102 hn)
theorem n9_10 : Snd mt G 9 10 (oIfEq 17 13) := w_if_eq (hm := mm9) dX0_barred_10 rfl
theorem n9_13 : Snd mt G 9 13 (oConst (.long 1) 14) := w_lconst (hm := mm9) dX0_barred_13 rfl
theorem n9_14 : Snd mt G 9 14 (oGoto 18) := w_goto (hm := mm9) dX0_barred_14 rfl
theorem n9_17 : Snd mt G 9 17 (oConst (.long 0) 18) := w_lconst (hm := mm9) dX0_barred_17 rfl
theorem n9_18 : Snd mt G 9 18 (oLast [102] 19) := w_lastore (hm := mm9) (kt := 2) dX0_barred_18 at_2 (Nat.le_of_ble_eq_true rfl) (List.forall_mem_cons.mpr ⟨rfl, (fun t ht => nomatch ht)⟩)
theorem n9_19 : Snd mt G 9 19 (oGoto 30) := w_goto (hm := mm9) dX0_barred_19 rfl
theorem n9_22 : Snd mt G 9 22 (oAstore 5 24) := w_astore (hm := mm9) dX0_barred_22 (Nat.le_of_ble_eq_true rfl)
theorem n9_24 : Snd mt G 9 24 (oConst (.int 1) 25) := w_iconst (hm := mm9) dX0_barred_24 rfl
theorem n9_25 : Snd mt G 9 25 (oRetI .int) := w_iret (hm := mm9) dX0_barred_25 rfl
theorem n9_26 : Snd mt G 9 26 (oAstore 5 28) := w_astore (hm := mm9) dX0_barred_26 (Nat.le_of_ble_eq_true rfl)
theorem n9_28 : Snd mt G 9 28 (oConst (.int 2) 29) := w_iconst (hm := mm9) dX0_barred_28 rfl
theorem n9_29 : Snd mt G 9 29 (oRetI .int) := w_iret (hm := mm9) dX0_barred_29 rfl
theorem n9_30 : Snd mt G 9 30 (oConst (.int 0) 31) := w_iconst (hm := mm9) dX0_barred_30 rfl
theorem n9_31 : Snd mt G 9 31 (oRetI .int) := w_iret (hm := mm9) dX0_barred_31 rfl
theorem sj9 : ∀ pc, Snd mt G 9 pc (j9 pc) := fun pc => (snd_br ((snd_br ((snd_br ((snd_br ((snd_br ((snd_lf n9_31)) ((snd_lf n9_30)))) ((snd_lf n9_29)))) ((snd_br ((snd_br ((snd_lf n9_28)) ((snd_lf n9_26)))) ((snd_lf n9_25)))))) ((snd_br ((snd_br ((snd_br ((snd_lf n9_24)) ((snd_lf n9_22)))) ((snd_lf n9_19)))) ((snd_br ((snd_lf n9_18)) ((snd_lf n9_17)))))))) ((snd_br ((snd_br ((snd_br ((snd_br ((snd_lf n9_14)) ((snd_lf n9_13)))) ((snd_lf n9_10)))) ((snd_br ((snd_lf n9_7)) ((snd_lf n9_6)))))) ((snd_br ((snd_br ((snd_br ((snd_lf n9_5)) ((snd_lf n9_4)))) ((snd_lf n9_3)))) ((snd_br ((snd_lf n9_2)) ((snd_lf n9_0)))))))))
end
section
variable {G : AG}
theorem n10_0 : Snd mt G 10 0 (oAload 4 2) := w_aload (hm := mm10) dX0_fit_0
theorem n10_2 : Snd mt G 10 2 (oConst (.int 0) 3) := w_iconst (hm := mm10) dX0_fit_2 rfl
theorem n10_3 : Snd mt G 10 3 (oAload 0 4) := w_aload_n (hm := mm10) dX0_fit_3
theorem n10_4 : Snd mt G 10 4 (oIload 1 5) := w_iload_n (hm := mm10) dX0_fit_4
theorem n10_5 : Snd mt G 10 5 (oIload 2 6) := w_iload_n (hm := mm10) dX0_fit_5
theorem n10_6 : Snd mt G 10 6 (oIload 3 7) := w_iload_n (hm := mm10) dX0_fit_6
theorem n10_7 : Snd mt G 10 7 (oCall 4 (fV [1] 105 5) 0 10 (xCatch [(32, 23), (34, 15), (35, 19)])) := s_callV (m' := 105) (n := 3) (xsh_catch _) (w_xokC mm10 (List.forall_mem_cons.mpr ⟨⟨31, _, 2, _, _, rfl, (Nat.le_of_ble_eq_true rfl), vc_31, rfl, rfl, (List.forall_mem_cons.mpr ⟨Or.inr ⟨by decide, _, q1683, by decide⟩, (List.forall_mem_cons.mpr ⟨Or.inr ⟨by decide, _, q1740, by decide⟩, (fun y hy => nomatch hy)⟩)⟩), by decide, by decide, q1171, List.mem_filter.mpr ⟨q215, rfl⟩⟩, (List.forall_mem_cons.mpr ⟨⟨33, _, 0, _, _, rfl, (Nat.le_of_ble_eq_true rfl), vc_33, rfl, rfl, (fun y hy => nomatch hy), by decide, by decide, q1683, List.mem_filter.mpr ⟨q1694, rfl⟩⟩, (List.forall_mem_cons.mpr ⟨⟨34, _, 1, _, _, rfl, (Nat.le_of_ble_eq_true rfl), vc_34, rfl, rfl, (List.forall_mem_cons.mpr ⟨Or.inr ⟨by decide, _, q1683, by decide⟩, (fun y hy => nomatch hy)⟩), by decide, by decide, q1740, List.mem_filter.mpr ⟨q1769, rfl⟩⟩, (fun y hy => nomatch hy)⟩)⟩)⟩)) (w_cal mm10 mm105 pn_X1 (Nat.le_of_ble_eq_true rfl) (Nat.le_of_ble_eq_true rfl)) (fun h b as hc hn => w_run_V (ci := 0) mm10 mm105 dX0_fit_7 (Or.inl (List.mem_singleton.mp hc)) (Nat.le_of_ble_eq_true rfl) vc_0 rfl q1802 q1803 q1804 q129 q1805 pa105 hn)
theorem n10_10 : Snd mt G 10 10 (oUn (fun x => .long x.toInt64) 11) := w_i2l (hm := mm10) dX0_fit_10
theorem n10_11 : Snd mt G 10 11 (oLast [102] 12) := w_lastore (hm := mm10) (kt := 2) dX0_fit_11 at_2 (Nat.le_of_ble_eq_true rfl) (List.forall_mem_cons.mpr ⟨rfl, (fun t ht => nomatch ht)⟩)
theorem n10_12 : Snd mt G 10 12 (oGoto 27) := w_goto (hm := mm10) dX0_fit_12 rfl
theorem n10_15 : Snd mt G 10 15 (oAstore 5 17) := w_astore (hm := mm10) dX0_fit_15 (Nat.le_of_ble_eq_true rfl)
theorem n10_17 : Snd mt G 10 17 (oConst (.int 1) 18) := w_iconst (hm := mm10) dX0_fit_17 rfl
theorem n10_18 : Snd mt G 10 18 (oRetI .int) := w_iret (hm := mm10) dX0_fit_18 rfl
theorem n10_19 : Snd mt G 10 19 (oAstore 5 21) := w_astore (hm := mm10) dX0_fit_19 (Nat.le_of_ble_eq_true rfl)
theorem n10_21 : Snd mt G 10 21 (oConst (.int 2) 22) := w_iconst (hm := mm10) dX0_fit_21 rfl
theorem n10_22 : Snd mt G 10 22 (oRetI .int) := w_iret (hm := mm10) dX0_fit_22 rfl
theorem n10_23 : Snd mt G 10 23 (oAstore 5 25) := w_astore (hm := mm10) dX0_fit_23 (Nat.le_of_ble_eq_true rfl)
theorem n10_25 : Snd mt G 10 25 (oConst (.int 3) 26) := w_iconst (hm := mm10) dX0_fit_25 rfl
theorem n10_26 : Snd mt G 10 26 (oRetI .int) := w_iret (hm := mm10) dX0_fit_26 rfl
theorem n10_27 : Snd mt G 10 27 (oConst (.int 0) 28) := w_iconst (hm := mm10) dX0_fit_27 rfl
theorem n10_28 : Snd mt G 10 28 (oRetI .int) := w_iret (hm := mm10) dX0_fit_28 rfl
theorem sj10 : ∀ pc, Snd mt G 10 pc (j10 pc) := fun pc => (snd_br ((snd_br ((snd_br ((snd_br ((snd_br ((snd_lf n10_28)) ((snd_lf n10_27)))) ((snd_lf n10_26)))) ((snd_br ((snd_br ((snd_lf n10_25)) ((snd_lf n10_23)))) ((snd_lf n10_22)))))) ((snd_br ((snd_br ((snd_br ((snd_lf n10_21)) ((snd_lf n10_19)))) ((snd_lf n10_18)))) ((snd_br ((snd_lf n10_17)) ((snd_lf n10_15)))))))) ((snd_br ((snd_br ((snd_br ((snd_br ((snd_lf n10_12)) ((snd_lf n10_11)))) ((snd_lf n10_10)))) ((snd_br ((snd_lf n10_7)) ((snd_lf n10_6)))))) ((snd_br ((snd_br ((snd_br ((snd_lf n10_5)) ((snd_lf n10_4)))) ((snd_lf n10_3)))) ((snd_br ((snd_lf n10_2)) ((snd_lf n10_0)))))))))
end
section
variable {G : AG}
theorem n11_0 : Snd mt G 11 0 (oAload 4 2) := w_aload (hm := mm11) dX0_part_0
theorem n11_2 : Snd mt G 11 2 (oConst (.int 0) 3) := w_iconst (hm := mm11) dX0_part_2 rfl
theorem n11_3 : Snd mt G 11 3 (oAload 0 4) := w_aload_n (hm := mm11) dX0_part_3
theorem n11_4 : Snd mt G 11 4 (oIload 1 5) := w_iload_n (hm := mm11) dX0_part_4
theorem n11_5 : Snd mt G 11 5 (oIload 2 6) := w_iload_n (hm := mm11) dX0_part_5
theorem n11_6 : Snd mt G 11 6 (oIload 3 7) := w_iload_n (hm := mm11) dX0_part_6
theorem n11_7 : Snd mt G 11 7 (oCall 4 (fV [1] 111 6) 0 10 (xCatch [(32, 19), (34, 15)])) := s_callV (m' := 111) (n := 3) (xsh_catch _) (w_xokC mm11 (List.forall_mem_cons.mpr ⟨⟨31, _, 1, _, _, rfl, (Nat.le_of_ble_eq_true rfl), vc_31, rfl, rfl, (List.forall_mem_cons.mpr ⟨Or.inr ⟨by decide, _, q1683, by decide⟩, (fun y hy => nomatch hy)⟩), by decide, by decide, q1171, List.mem_filter.mpr ⟨q215, rfl⟩⟩, (List.forall_mem_cons.mpr ⟨⟨33, _, 0, _, _, rfl, (Nat.le_of_ble_eq_true rfl), vc_33, rfl, rfl, (fun y hy => nomatch hy), by decide, by decide, q1683, List.mem_filter.mpr ⟨q1694, rfl⟩⟩, (fun y hy => nomatch hy)⟩)⟩)) (w_cal mm11 mm111 pn_X1 (Nat.le_of_ble_eq_true rfl) (Nat.le_of_ble_eq_true rfl)) (fun h b as hc hn => w_run_V (ci := 0) mm11 mm111 dX0_part_7 (Or.inl (List.mem_singleton.mp hc)) (Nat.le_of_ble_eq_true rfl) vc_0 rfl q1881 q1882 q1883 q129 q1884 pa111 hn)
theorem n11_10 : Snd mt G 11 10 (oUn (fun x => .long x.toInt64) 11) := w_i2l (hm := mm11) dX0_part_10
theorem n11_11 : Snd mt G 11 11 (oLast [102] 12) := w_lastore (hm := mm11) (kt := 2) dX0_part_11 at_2 (Nat.le_of_ble_eq_true rfl) (List.forall_mem_cons.mpr ⟨rfl, (fun t ht => nomatch ht)⟩)
theorem n11_12 : Snd mt G 11 12 (oGoto 23) := w_goto (hm := mm11) dX0_part_12 rfl
theorem n11_15 : Snd mt G 11 15 (oAstore 5 17) := w_astore (hm := mm11) dX0_part_15 (Nat.le_of_ble_eq_true rfl)
theorem n11_17 : Snd mt G 11 17 (oConst (.int 1) 18) := w_iconst (hm := mm11) dX0_part_17 rfl
theorem n11_18 : Snd mt G 11 18 (oRetI .int) := w_iret (hm := mm11) dX0_part_18 rfl
theorem n11_19 : Snd mt G 11 19 (oAstore 5 21) := w_astore (hm := mm11) dX0_part_19 (Nat.le_of_ble_eq_true rfl)
theorem n11_21 : Snd mt G 11 21 (oConst (.int 2) 22) := w_iconst (hm := mm11) dX0_part_21 rfl
theorem n11_22 : Snd mt G 11 22 (oRetI .int) := w_iret (hm := mm11) dX0_part_22 rfl
theorem n11_23 : Snd mt G 11 23 (oConst (.int 0) 24) := w_iconst (hm := mm11) dX0_part_23 rfl
theorem n11_24 : Snd mt G 11 24 (oRetI .int) := w_iret (hm := mm11) dX0_part_24 rfl
theorem sj11 : ∀ pc, Snd mt G 11 pc (j11 pc) := fun pc => (snd_br ((snd_br ((snd_br ((snd_br ((snd_br ((snd_lf n11_24)) ((snd_lf n11_23)))) ((snd_lf n11_22)))) ((snd_br ((snd_lf n11_21)) ((snd_lf n11_19)))))) ((snd_br ((snd_br ((snd_lf n11_18)) ((snd_lf n11_17)))) ((snd_br ((snd_lf n11_15)) ((snd_lf n11_12)))))))) ((snd_br ((snd_br ((snd_br ((snd_br ((snd_lf n11_11)) ((snd_lf n11_10)))) ((snd_lf n11_7)))) ((snd_br ((snd_lf n11_6)) ((snd_lf n11_5)))))) ((snd_br ((snd_br ((snd_lf n11_4)) ((snd_lf n11_3)))) ((snd_br ((snd_lf n11_2)) ((snd_lf n11_0)))))))))
end
section
variable {G : AG}
theorem n12_0 : Snd mt G 12 0 (oAload 4 2) := w_aload (hm := mm12) dX0_reuse_0
theorem n12_2 : Snd mt G 12 2 (oConst (.int 0) 3) := w_iconst (hm := mm12) dX0_reuse_2 rfl
theorem n12_3 : Snd mt G 12 3 (oAload 0 4) := w_aload_n (hm := mm12) dX0_reuse_3
theorem n12_4 : Snd mt G 12 4 (oIload 1 5) := w_iload_n (hm := mm12) dX0_reuse_4
theorem n12_5 : Snd mt G 12 5 (oIload 2 6) := w_iload_n (hm := mm12) dX0_reuse_5
theorem n12_6 : Snd mt G 12 6 (oIload 3 7) := w_iload_n (hm := mm12) dX0_reuse_6
theorem n12_7 : Snd mt G 12 7 (oCall 4 (fV [1] 114 9) 0 10 (xCatch [(32, 19), (34, 15)])) := s_callV (m' := 114) (n := 3) (xsh_catch _) (w_xokC mm12 (List.forall_mem_cons.mpr ⟨⟨31, _, 1, _, _, rfl, (Nat.le_of_ble_eq_true rfl), vc_31, rfl, rfl, (List.forall_mem_cons.mpr ⟨Or.inr ⟨by decide, _, q1683, by decide⟩, (fun y hy => nomatch hy)⟩), by decide, by decide, q1171, List.mem_filter.mpr ⟨q215, rfl⟩⟩, (List.forall_mem_cons.mpr ⟨⟨33, _, 0, _, _, rfl, (Nat.le_of_ble_eq_true rfl), vc_33, rfl, rfl, (fun y hy => nomatch hy), by decide, by decide, q1683, List.mem_filter.mpr ⟨q1694, rfl⟩⟩, (fun y hy => nomatch hy)⟩)⟩)) (w_cal mm12 mm114 pn_X1 (Nat.le_of_ble_eq_true rfl) (Nat.le_of_ble_eq_true rfl)) (fun h b as hc hn => w_run_V (ci := 0) mm12 mm114 dX0_reuse_7 (Or.inl (List.mem_singleton.mp hc)) (Nat.le_of_ble_eq_true rfl) vc_0 rfl q1898 q1899 q1900 q129 q1901 pa114 hn)
theorem n12_10 : Snd mt G 12 10 (oUn (fun x => .long x.toInt64) 11) := w_i2l (hm := mm12) dX0_reuse_10
theorem n12_11 : Snd mt G 12 11 (oLast [102] 12) := w_lastore (hm := mm12) (kt := 2) dX0_reuse_11 at_2 (Nat.le_of_ble_eq_true rfl) (List.forall_mem_cons.mpr ⟨rfl, (fun t ht => nomatch ht)⟩)
theorem n12_12 : Snd mt G 12 12 (oGoto 23) := w_goto (hm := mm12) dX0_reuse_12 rfl
theorem n12_15 : Snd mt G 12 15 (oAstore 5 17) := w_astore (hm := mm12) dX0_reuse_15 (Nat.le_of_ble_eq_true rfl)
theorem n12_17 : Snd mt G 12 17 (oConst (.int 1) 18) := w_iconst (hm := mm12) dX0_reuse_17 rfl
theorem n12_18 : Snd mt G 12 18 (oRetI .int) := w_iret (hm := mm12) dX0_reuse_18 rfl
theorem n12_19 : Snd mt G 12 19 (oAstore 5 21) := w_astore (hm := mm12) dX0_reuse_19 (Nat.le_of_ble_eq_true rfl)
theorem n12_21 : Snd mt G 12 21 (oConst (.int 2) 22) := w_iconst (hm := mm12) dX0_reuse_21 rfl
theorem n12_22 : Snd mt G 12 22 (oRetI .int) := w_iret (hm := mm12) dX0_reuse_22 rfl
theorem n12_23 : Snd mt G 12 23 (oConst (.int 0) 24) := w_iconst (hm := mm12) dX0_reuse_23 rfl
theorem n12_24 : Snd mt G 12 24 (oRetI .int) := w_iret (hm := mm12) dX0_reuse_24 rfl
theorem sj12 : ∀ pc, Snd mt G 12 pc (j12 pc) := fun pc => (snd_br ((snd_br ((snd_br ((snd_br ((snd_br ((snd_lf n12_24)) ((snd_lf n12_23)))) ((snd_lf n12_22)))) ((snd_br ((snd_lf n12_21)) ((snd_lf n12_19)))))) ((snd_br ((snd_br ((snd_lf n12_18)) ((snd_lf n12_17)))) ((snd_br ((snd_lf n12_15)) ((snd_lf n12_12)))))))) ((snd_br ((snd_br ((snd_br ((snd_br ((snd_lf n12_11)) ((snd_lf n12_10)))) ((snd_lf n12_7)))) ((snd_br ((snd_lf n12_6)) ((snd_lf n12_5)))))) ((snd_br ((snd_br ((snd_lf n12_4)) ((snd_lf n12_3)))) ((snd_br ((snd_lf n12_2)) ((snd_lf n12_0)))))))))
end
section
variable {G : AG}
theorem n13_0 : Snd mt G 13 0 (oAload 3 1) := w_aload_n (hm := mm13) dX0_next_0
theorem n13_1 : Snd mt G 13 1 (oConst (.int 0) 2) := w_iconst (hm := mm13) dX0_next_1 rfl
theorem n13_2 : Snd mt G 13 2 (oAload 0 3) := w_aload_n (hm := mm13) dX0_next_2
theorem n13_3 : Snd mt G 13 3 (oIload 1 4) := w_iload_n (hm := mm13) dX0_next_3
theorem n13_4 : Snd mt G 13 4 (oIload 2 5) := w_iload_n (hm := mm13) dX0_next_4
theorem n13_5 : Snd mt G 13 5 (oCall 3 (fV [1] 115 6) 0 8 (xCatch [(32, 17), (34, 13)])) := s_callV (m' := 115) (n := 2) (xsh_catch _) (w_xokC mm13 (List.forall_mem_cons.mpr ⟨⟨31, _, 1, _, _, rfl, (Nat.le_of_ble_eq_true rfl), vc_31, rfl, rfl, (List.forall_mem_cons.mpr ⟨Or.inr ⟨by decide, _, q1683, by decide⟩, (fun y hy => nomatch hy)⟩), by decide, by decide, q1171, List.mem_filter.mpr ⟨q215, rfl⟩⟩, (List.forall_mem_cons.mpr ⟨⟨33, _, 0, _, _, rfl, (Nat.le_of_ble_eq_true rfl), vc_33, rfl, rfl, (fun y hy => nomatch hy), by decide, by decide, q1683, List.mem_filter.mpr ⟨q1694, rfl⟩⟩, (fun y hy => nomatch hy)⟩)⟩)) (w_cal mm13 mm115 pn_X1 (Nat.le_of_ble_eq_true rfl) (Nat.le_of_ble_eq_true rfl)) (fun h b as hc hn => w_run_V (ci := 0) mm13 mm115 dX0_next_5 (Or.inl (List.mem_singleton.mp hc)) (Nat.le_of_ble_eq_true rfl) vc_0 rfl q1905 q1906 q1907 q129 q1908 pa115 hn)
theorem n13_8 : Snd mt G 13 8 (oUn (fun x => .long x.toInt64) 9) := w_i2l (hm := mm13) dX0_next_8
theorem n13_9 : Snd mt G 13 9 (oLast [102] 10) := w_lastore (hm := mm13) (kt := 2) dX0_next_9 at_2 (Nat.le_of_ble_eq_true rfl) (List.forall_mem_cons.mpr ⟨rfl, (fun t ht => nomatch ht)⟩)
theorem n13_10 : Snd mt G 13 10 (oGoto 21) := w_goto (hm := mm13) dX0_next_10 rfl
theorem n13_13 : Snd mt G 13 13 (oAstore 4 15) := w_astore (hm := mm13) dX0_next_13 (Nat.le_of_ble_eq_true rfl)
theorem n13_15 : Snd mt G 13 15 (oConst (.int 1) 16) := w_iconst (hm := mm13) dX0_next_15 rfl
theorem n13_16 : Snd mt G 13 16 (oRetI .int) := w_iret (hm := mm13) dX0_next_16 rfl
theorem n13_17 : Snd mt G 13 17 (oAstore 4 19) := w_astore (hm := mm13) dX0_next_17 (Nat.le_of_ble_eq_true rfl)
theorem n13_19 : Snd mt G 13 19 (oConst (.int 2) 20) := w_iconst (hm := mm13) dX0_next_19 rfl
theorem n13_20 : Snd mt G 13 20 (oRetI .int) := w_iret (hm := mm13) dX0_next_20 rfl
theorem n13_21 : Snd mt G 13 21 (oConst (.int 0) 22) := w_iconst (hm := mm13) dX0_next_21 rfl
theorem n13_22 : Snd mt G 13 22 (oRetI .int) := w_iret (hm := mm13) dX0_next_22 rfl
theorem sj13 : ∀ pc, Snd mt G 13 pc (j13 pc) := fun pc => (snd_br ((snd_br ((snd_br ((snd_br ((snd_br ((snd_lf n13_22)) ((snd_lf n13_21)))) ((snd_lf n13_20)))) ((snd_br ((snd_lf n13_19)) ((snd_lf n13_17)))))) ((snd_br ((snd_br ((snd_lf n13_16)) ((snd_lf n13_15)))) ((snd_br ((snd_lf n13_13)) ((snd_lf n13_10)))))))) ((snd_br ((snd_br ((snd_br ((snd_lf n13_9)) ((snd_lf n13_8)))) ((snd_br ((snd_lf n13_5)) ((snd_lf n13_4)))))) ((snd_br ((snd_br ((snd_lf n13_3)) ((snd_lf n13_2)))) ((snd_br ((snd_lf n13_1)) ((snd_lf n13_0)))))))))
end
section
variable {G : AG}
theorem n14_0 : Snd mt G 14 0 (oAload 4 2) := w_aload (hm := mm14) dX0_take_0
theorem n14_2 : Snd mt G 14 2 (oConst (.int 0) 3) := w_iconst (hm := mm14) dX0_take_2 rfl
theorem n14_3 : Snd mt G 14 3 (oAload 0 4) := w_aload_n (hm := mm14) dX0_take_3
theorem n14_4 : Snd mt G 14 4 (oIload 1 5) := w_iload_n (hm := mm14) dX0_take_4
theorem n14_5 : Snd mt G 14 5 (oIload 2 6) := w_iload_n (hm := mm14) dX0_take_5
theorem n14_6 : Snd mt G 14 6 (oIload 3 7) := w_iload_n (hm := mm14) dX0_take_6
theorem n14_7 : Snd mt G 14 7 (oCall 4 (fV [1] 117 5) 0 10 (xCatch [(32, 23), (34, 15), (35, 19)])) := s_callV (m' := 117) (n := 3) (xsh_catch _) (w_xokC mm14 (List.forall_mem_cons.mpr ⟨⟨31, _, 2, _, _, rfl, (Nat.le_of_ble_eq_true rfl), vc_31, rfl, rfl, (List.forall_mem_cons.mpr ⟨Or.inr ⟨by decide, _, q1683, by decide⟩, (List.forall_mem_cons.mpr ⟨Or.inr ⟨by decide, _, q1740, by decide⟩, (fun y hy => nomatch hy)⟩)⟩), by decide, by decide, q1171, List.mem_filter.mpr ⟨q215, rfl⟩⟩, (List.forall_mem_cons.mpr ⟨⟨33, _, 0, _, _, rfl, (Nat.le_of_ble_eq_true rfl), vc_33, rfl, rfl, (fun y hy => nomatch hy), by decide, by decide, q1683, List.mem_filter.mpr ⟨q1694, rfl⟩⟩, (List.forall_mem_cons.mpr ⟨⟨34, _, 1, _, _, rfl, (Nat.le_of_ble_eq_true rfl), vc_34, rfl, rfl, (List.forall_mem_cons.mpr ⟨Or.inr ⟨by decide, _, q1683, by decide⟩, (fun y hy => nomatch hy)⟩), by decide, by decide, q1740, List.mem_filter.mpr ⟨q1769, rfl⟩⟩, (fun y hy => nomatch hy)⟩)⟩)⟩)) (w_cal mm14 mm117 pn_X1 (Nat.le_of_ble_eq_true rfl) (Nat.le_of_ble_eq_true rfl)) (fun h b as hc hn => w_run_V (ci := 0) mm14 mm117 dX0_take_7 (Or.inl (List.mem_singleton.mp hc)) (Nat.le_of_ble_eq_true rfl) vc_0 rfl q1918 q1919 q1920 q129 q1921 pa117 hn)
theorem n14_10 : Snd mt G 14 10 (oUn (fun x => .long x.toInt64) 11) := w_i2l (hm := mm14) dX0_take_10
theorem n14_11 : Snd mt G 14 11 (oLast [102] 12) := w_lastore (hm := mm14) (kt := 2) dX0_take_11 at_2 (Nat.le_of_ble_eq_true rfl) (List.forall_mem_cons.mpr ⟨rfl, (fun t ht => nomatch ht)⟩)
theorem n14_12 : Snd mt G 14 12 (oGoto 27) := w_goto (hm := mm14) dX0_take_12 rfl
theorem n14_15 : Snd mt G 14 15 (oAstore 5 17) := w_astore (hm := mm14) dX0_take_15 (Nat.le_of_ble_eq_true rfl)
theorem n14_17 : Snd mt G 14 17 (oConst (.int 1) 18) := w_iconst (hm := mm14) dX0_take_17 rfl
theorem n14_18 : Snd mt G 14 18 (oRetI .int) := w_iret (hm := mm14) dX0_take_18 rfl
theorem n14_19 : Snd mt G 14 19 (oAstore 5 21) := w_astore (hm := mm14) dX0_take_19 (Nat.le_of_ble_eq_true rfl)
theorem n14_21 : Snd mt G 14 21 (oConst (.int 2) 22) := w_iconst (hm := mm14) dX0_take_21 rfl
theorem n14_22 : Snd mt G 14 22 (oRetI .int) := w_iret (hm := mm14) dX0_take_22 rfl
theorem n14_23 : Snd mt G 14 23 (oAstore 5 25) := w_astore (hm := mm14) dX0_take_23 (Nat.le_of_ble_eq_true rfl)
theorem n14_25 : Snd mt G 14 25 (oConst (.int 3) 26) := w_iconst (hm := mm14) dX0_take_25 rfl
theorem n14_26 : Snd mt G 14 26 (oRetI .int) := w_iret (hm := mm14) dX0_take_26 rfl
theorem n14_27 : Snd mt G 14 27 (oConst (.int 0) 28) := w_iconst (hm := mm14) dX0_take_27 rfl
theorem n14_28 : Snd mt G 14 28 (oRetI .int) := w_iret (hm := mm14) dX0_take_28 rfl
theorem sj14 : ∀ pc, Snd mt G 14 pc (j14 pc) := fun pc => (snd_br ((snd_br ((snd_br ((snd_br ((snd_br ((snd_lf n14_28)) ((snd_lf n14_27)))) ((snd_lf n14_26)))) ((snd_br ((snd_br ((snd_lf n14_25)) ((snd_lf n14_23)))) ((snd_lf n14_22)))))) ((snd_br ((snd_br ((snd_br ((snd_lf n14_21)) ((snd_lf n14_19)))) ((snd_lf n14_18)))) ((snd_br ((snd_lf n14_17)) ((snd_lf n14_15)))))))) ((snd_br ((snd_br ((snd_br ((snd_br ((snd_lf n14_12)) ((snd_lf n14_11)))) ((snd_lf n14_10)))) ((snd_br ((snd_lf n14_7)) ((snd_lf n14_6)))))) ((snd_br ((snd_br ((snd_br ((snd_lf n14_5)) ((snd_lf n14_4)))) ((snd_lf n14_3)))) ((snd_br ((snd_lf n14_2)) ((snd_lf n14_0)))))))))
end
section
variable {G : AG}
theorem n15_0 : Snd mt G 15 0 (oAload 3 1) := w_aload_n (hm := mm15) dX0_beside_0
theorem n15_1 : Snd mt G 15 1 (oConst (.int 0) 2) := w_iconst (hm := mm15) dX0_beside_1 rfl
theorem n15_2 : Snd mt G 15 2 (oAload 0 3) := w_aload_n (hm := mm15) dX0_beside_2
theorem n15_3 : Snd mt G 15 3 (oIload 1 4) := w_iload_n (hm := mm15) dX0_beside_3
theorem n15_4 : Snd mt G 15 4 (oIload 2 5) := w_iload_n (hm := mm15) dX0_beside_4
theorem n15_5 : Snd mt G 15 5 (oCall 3 (fV [1] 118 6) 0 8 (xCatch [(32, 17), (34, 13)])) := s_callV (m' := 118) (n := 2) (xsh_catch _) (w_xokC mm15 (List.forall_mem_cons.mpr ⟨⟨31, _, 1, _, _, rfl, (Nat.le_of_ble_eq_true rfl), vc_31, rfl, rfl, (List.forall_mem_cons.mpr ⟨Or.inr ⟨by decide, _, q1683, by decide⟩, (fun y hy => nomatch hy)⟩), by decide, by decide, q1171, List.mem_filter.mpr ⟨q215, rfl⟩⟩, (List.forall_mem_cons.mpr ⟨⟨33, _, 0, _, _, rfl, (Nat.le_of_ble_eq_true rfl), vc_33, rfl, rfl, (fun y hy => nomatch hy), by decide, by decide, q1683, List.mem_filter.mpr ⟨q1694, rfl⟩⟩, (fun y hy => nomatch hy)⟩)⟩)) (w_cal mm15 mm118 pn_X1 (Nat.le_of_ble_eq_true rfl) (Nat.le_of_ble_eq_true rfl)) (fun h b as hc hn => w_run_V (ci := 0) mm15 mm118 dX0_beside_5 (Or.inl (List.mem_singleton.mp hc)) (Nat.le_of_ble_eq_true rfl) vc_0 rfl q1925 q1926 q1927 q129 q1928 pa118 hn)
theorem n15_8 : Snd mt G 15 8 (oUn (fun x => .long x.toInt64) 9) := w_i2l (hm := mm15) dX0_beside_8
theorem n15_9 : Snd mt G 15 9 (oLast [102] 10) := w_lastore (hm := mm15) (kt := 2) dX0_beside_9 at_2 (Nat.le_of_ble_eq_true rfl) (List.forall_mem_cons.mpr ⟨rfl, (fun t ht => nomatch ht)⟩)
theorem n15_10 : Snd mt G 15 10 (oGoto 21) := w_goto (hm := mm15) dX0_beside_10 rfl
theorem n15_13 : Snd mt G 15 13 (oAstore 4 15) := w_astore (hm := mm15) dX0_beside_13 (Nat.le_of_ble_eq_true rfl)
theorem n15_15 : Snd mt G 15 15 (oConst (.int 1) 16) := w_iconst (hm := mm15) dX0_beside_15 rfl
theorem n15_16 : Snd mt G 15 16 (oRetI .int) := w_iret (hm := mm15) dX0_beside_16 rfl
theorem n15_17 : Snd mt G 15 17 (oAstore 4 19) := w_astore (hm := mm15) dX0_beside_17 (Nat.le_of_ble_eq_true rfl)
theorem n15_19 : Snd mt G 15 19 (oConst (.int 2) 20) := w_iconst (hm := mm15) dX0_beside_19 rfl
theorem n15_20 : Snd mt G 15 20 (oRetI .int) := w_iret (hm := mm15) dX0_beside_20 rfl
theorem n15_21 : Snd mt G 15 21 (oConst (.int 0) 22) := w_iconst (hm := mm15) dX0_beside_21 rfl
theorem n15_22 : Snd mt G 15 22 (oRetI .int) := w_iret (hm := mm15) dX0_beside_22 rfl
theorem sj15 : ∀ pc, Snd mt G 15 pc (j15 pc) := fun pc => (snd_br ((snd_br ((snd_br ((snd_br ((snd_br ((snd_lf n15_22)) ((snd_lf n15_21)))) ((snd_lf n15_20)))) ((snd_br ((snd_lf n15_19)) ((snd_lf n15_17)))))) ((snd_br ((snd_br ((snd_lf n15_16)) ((snd_lf n15_15)))) ((snd_br ((snd_lf n15_13)) ((snd_lf n15_10)))))))) ((snd_br ((snd_br ((snd_br ((snd_lf n15_9)) ((snd_lf n15_8)))) ((snd_br ((snd_lf n15_5)) ((snd_lf n15_4)))))) ((snd_br ((snd_br ((snd_lf n15_3)) ((snd_lf n15_2)))) ((snd_br ((snd_lf n15_1)) ((snd_lf n15_0)))))))))
end
section
variable {G : AG}
theorem n16_0 : Snd mt G 16 0 (oAload 4 2) := w_aload (hm := mm16) dX0_fits_0
theorem n16_2 : Snd mt G 16 2 (oConst (.int 0) 3) := w_iconst (hm := mm16) dX0_fits_2 rfl
theorem n16_3 : Snd mt G 16 3 (oAload 0 4) := w_aload_n (hm := mm16) dX0_fits_3
theorem n16_4 : Snd mt G 16 4 (oIload 1 5) := w_iload_n (hm := mm16) dX0_fits_4
theorem n16_5 : Snd mt G 16 5 (oIload 2 6) := w_iload_n (hm := mm16) dX0_fits_5
theorem n16_6 : Snd mt G 16 6 (oIload 3 7) := w_iload_n (hm := mm16) dX0_fits_6
theorem n16_7 : Snd mt G 16 7 (oCall 4 (fV [1] 119 5) 0 10 (xCatch [(32, 19), (34, 15)])) := s_callV (m' := 119) (n := 3) (xsh_catch _) (w_xokC mm16 (List.forall_mem_cons.mpr ⟨⟨31, _, 1, _, _, rfl, (Nat.le_of_ble_eq_true rfl), vc_31, rfl, rfl, (List.forall_mem_cons.mpr ⟨Or.inr ⟨by decide, _, q1683, by decide⟩, (fun y hy => nomatch hy)⟩), by decide, by decide, q1171, List.mem_filter.mpr ⟨q215, rfl⟩⟩, (List.forall_mem_cons.mpr ⟨⟨33, _, 0, _, _, rfl, (Nat.le_of_ble_eq_true rfl), vc_33, rfl, rfl, (fun y hy => nomatch hy), by decide, by decide, q1683, List.mem_filter.mpr ⟨q1694, rfl⟩⟩, (fun y hy => nomatch hy)⟩)⟩)) (w_cal mm16 mm119 pn_X1 (Nat.le_of_ble_eq_true rfl) (Nat.le_of_ble_eq_true rfl)) (fun h b as hc hn => w_run_V (ci := 0) mm16 mm119 dX0_fits_7 (Or.inl (List.mem_singleton.mp hc)) (Nat.le_of_ble_eq_true rfl) vc_0 rfl q1932 q1933 q1934 q129 q1935 pa119 hn)
theorem n16_10 : Snd mt G 16 10 (oUn (fun x => .long x.toInt64) 11) := w_i2l (hm := mm16) dX0_fits_10
theorem n16_11 : Snd mt G 16 11 (oLast [102] 12) := w_lastore (hm := mm16) (kt := 2) dX0_fits_11 at_2 (Nat.le_of_ble_eq_true rfl) (List.forall_mem_cons.mpr ⟨rfl, (fun t ht => nomatch ht)⟩)
theorem n16_12 : Snd mt G 16 12 (oGoto 23) := w_goto (hm := mm16) dX0_fits_12 rfl
theorem n16_15 : Snd mt G 16 15 (oAstore 5 17) := w_astore (hm := mm16) dX0_fits_15 (Nat.le_of_ble_eq_true rfl)
theorem n16_17 : Snd mt G 16 17 (oConst (.int 1) 18) := w_iconst (hm := mm16) dX0_fits_17 rfl
theorem n16_18 : Snd mt G 16 18 (oRetI .int) := w_iret (hm := mm16) dX0_fits_18 rfl
theorem n16_19 : Snd mt G 16 19 (oAstore 5 21) := w_astore (hm := mm16) dX0_fits_19 (Nat.le_of_ble_eq_true rfl)
theorem n16_21 : Snd mt G 16 21 (oConst (.int 2) 22) := w_iconst (hm := mm16) dX0_fits_21 rfl
theorem n16_22 : Snd mt G 16 22 (oRetI .int) := w_iret (hm := mm16) dX0_fits_22 rfl
theorem n16_23 : Snd mt G 16 23 (oConst (.int 0) 24) := w_iconst (hm := mm16) dX0_fits_23 rfl
theorem n16_24 : Snd mt G 16 24 (oRetI .int) := w_iret (hm := mm16) dX0_fits_24 rfl
theorem sj16 : ∀ pc, Snd mt G 16 pc (j16 pc) := fun pc => (snd_br ((snd_br ((snd_br ((snd_br ((snd_br ((snd_lf n16_24)) ((snd_lf n16_23)))) ((snd_lf n16_22)))) ((snd_br ((snd_lf n16_21)) ((snd_lf n16_19)))))) ((snd_br ((snd_br ((snd_lf n16_18)) ((snd_lf n16_17)))) ((snd_br ((snd_lf n16_15)) ((snd_lf n16_12)))))))) ((snd_br ((snd_br ((snd_br ((snd_br ((snd_lf n16_11)) ((snd_lf n16_10)))) ((snd_lf n16_7)))) ((snd_br ((snd_lf n16_6)) ((snd_lf n16_5)))))) ((snd_br ((snd_br ((snd_lf n16_4)) ((snd_lf n16_3)))) ((snd_br ((snd_lf n16_2)) ((snd_lf n16_0)))))))))
end
section
variable {G : AG}
theorem n17_0 : Snd mt G 17 0 (oAload 3 1) := w_aload_n (hm := mm17) dX0_lacks_0
theorem n17_1 : Snd mt G 17 1 (oConst (.int 0) 2) := w_iconst (hm := mm17) dX0_lacks_1 rfl
theorem n17_2 : Snd mt G 17 2 (oAload 0 3) := w_aload_n (hm := mm17) dX0_lacks_2
theorem n17_3 : Snd mt G 17 3 (oIload 1 4) := w_iload_n (hm := mm17) dX0_lacks_3
theorem n17_4 : Snd mt G 17 4 (oIload 2 5) := w_iload_n (hm := mm17) dX0_lacks_4
theorem n17_5 : Snd mt G 17 5 (oCall 3 (fV [1] 121 4) 0 8 (xCatch [(32, 17), (34, 13)])) := s_callV (m' := 121) (n := 2) (xsh_catch _) (w_xokC mm17 (List.forall_mem_cons.mpr ⟨⟨31, _, 1, _, _, rfl, (Nat.le_of_ble_eq_true rfl), vc_31, rfl, rfl, (List.forall_mem_cons.mpr ⟨Or.inr ⟨by decide, _, q1683, by decide⟩, (fun y hy => nomatch hy)⟩), by decide, by decide, q1171, List.mem_filter.mpr ⟨q215, rfl⟩⟩, (List.forall_mem_cons.mpr ⟨⟨33, _, 0, _, _, rfl, (Nat.le_of_ble_eq_true rfl), vc_33, rfl, rfl, (fun y hy => nomatch hy), by decide, by decide, q1683, List.mem_filter.mpr ⟨q1694, rfl⟩⟩, (fun y hy => nomatch hy)⟩)⟩)) (w_cal mm17 mm121 pn_X1 (Nat.le_of_ble_eq_true rfl) (Nat.le_of_ble_eq_true rfl)) (fun h b as hc hn => w_run_V (ci := 0) mm17 mm121 dX0_lacks_5 (Or.inl (List.mem_singleton.mp hc)) (Nat.le_of_ble_eq_true rfl) vc_0 rfl q1942 q1943 q1944 q129 q1945 pa121 hn)
theorem n17_8 : Snd mt G 17 8 (oUn (fun x => .long x.toInt64) 9) := w_i2l (hm := mm17) dX0_lacks_8
theorem n17_9 : Snd mt G 17 9 (oLast [102] 10) := w_lastore (hm := mm17) (kt := 2) dX0_lacks_9 at_2 (Nat.le_of_ble_eq_true rfl) (List.forall_mem_cons.mpr ⟨rfl, (fun t ht => nomatch ht)⟩)
theorem n17_10 : Snd mt G 17 10 (oGoto 21) := w_goto (hm := mm17) dX0_lacks_10 rfl
theorem n17_13 : Snd mt G 17 13 (oAstore 4 15) := w_astore (hm := mm17) dX0_lacks_13 (Nat.le_of_ble_eq_true rfl)
theorem n17_15 : Snd mt G 17 15 (oConst (.int 1) 16) := w_iconst (hm := mm17) dX0_lacks_15 rfl
theorem n17_16 : Snd mt G 17 16 (oRetI .int) := w_iret (hm := mm17) dX0_lacks_16 rfl
theorem n17_17 : Snd mt G 17 17 (oAstore 4 19) := w_astore (hm := mm17) dX0_lacks_17 (Nat.le_of_ble_eq_true rfl)
theorem n17_19 : Snd mt G 17 19 (oConst (.int 2) 20) := w_iconst (hm := mm17) dX0_lacks_19 rfl
theorem n17_20 : Snd mt G 17 20 (oRetI .int) := w_iret (hm := mm17) dX0_lacks_20 rfl
theorem n17_21 : Snd mt G 17 21 (oConst (.int 0) 22) := w_iconst (hm := mm17) dX0_lacks_21 rfl
theorem n17_22 : Snd mt G 17 22 (oRetI .int) := w_iret (hm := mm17) dX0_lacks_22 rfl
theorem sj17 : ∀ pc, Snd mt G 17 pc (j17 pc) := fun pc => (snd_br ((snd_br ((snd_br ((snd_br ((snd_br ((snd_lf n17_22)) ((snd_lf n17_21)))) ((snd_lf n17_20)))) ((snd_br ((snd_lf n17_19)) ((snd_lf n17_17)))))) ((snd_br ((snd_br ((snd_lf n17_16)) ((snd_lf n17_15)))) ((snd_br ((snd_lf n17_13)) ((snd_lf n17_10)))))))) ((snd_br ((snd_br ((snd_br ((snd_lf n17_9)) ((snd_lf n17_8)))) ((snd_br ((snd_lf n17_5)) ((snd_lf n17_4)))))) ((snd_br ((snd_br ((snd_lf n17_3)) ((snd_lf n17_2)))) ((snd_br ((snd_lf n17_1)) ((snd_lf n17_0)))))))))
end
section
variable {G : AG}
theorem n18_0 : Snd mt G 18 0 (oAload 3 1) := w_aload_n (hm := mm18) dX0_choice_0
theorem n18_1 : Snd mt G 18 1 (oConst (.int 0) 2) := w_iconst (hm := mm18) dX0_choice_1 rfl
theorem n18_2 : Snd mt G 18 2 (oAload 0 3) := w_aload_n (hm := mm18) dX0_choice_2
theorem n18_3 : Snd mt G 18 3 (oIload 1 4) := w_iload_n (hm := mm18) dX0_choice_3
theorem n18_4 : Snd mt G 18 4 (oIload 2 5) := w_iload_n (hm := mm18) dX0_choice_4
theorem n18_5 : Snd mt G 18 5 (oCall 3 (fV [1] 122 4) 0 8 (xCatch [(32, 17), (34, 13)])) := s_callV (m' := 122) (n := 2) (xsh_catch _) (w_xokC mm18 (List.forall_mem_cons.mpr ⟨⟨31, _, 1, _, _, rfl, (Nat.le_of_ble_eq_true rfl), vc_31, rfl, rfl, (List.forall_mem_cons.mpr ⟨Or.inr ⟨by decide, _, q1683, by decide⟩, (fun y hy => nomatch hy)⟩), by decide, by decide, q1171, List.mem_filter.mpr ⟨q215, rfl⟩⟩, (List.forall_mem_cons.mpr ⟨⟨33, _, 0, _, _, rfl, (Nat.le_of_ble_eq_true rfl), vc_33, rfl, rfl, (fun y hy => nomatch hy), by decide, by decide, q1683, List.mem_filter.mpr ⟨q1694, rfl⟩⟩, (fun y hy => nomatch hy)⟩)⟩)) (w_cal mm18 mm122 pn_X1 (Nat.le_of_ble_eq_true rfl) (Nat.le_of_ble_eq_true rfl)) (fun h b as hc hn => w_run_V (ci := 0) mm18 mm122 dX0_choice_5 (Or.inl (List.mem_singleton.mp hc)) (Nat.le_of_ble_eq_true rfl) vc_0 rfl q1949 q1950 q1951 q129 q1952 pa122 hn)
theorem n18_8 : Snd mt G 18 8 (oUn (fun x => .long x.toInt64) 9) := w_i2l (hm := mm18) dX0_choice_8
theorem n18_9 : Snd mt G 18 9 (oLast [102] 10) := w_lastore (hm := mm18) (kt := 2) dX0_choice_9 at_2 (Nat.le_of_ble_eq_true rfl) (List.forall_mem_cons.mpr ⟨rfl, (fun t ht => nomatch ht)⟩)
theorem n18_10 : Snd mt G 18 10 (oGoto 21) := w_goto (hm := mm18) dX0_choice_10 rfl
theorem n18_13 : Snd mt G 18 13 (oAstore 4 15) := w_astore (hm := mm18) dX0_choice_13 (Nat.le_of_ble_eq_true rfl)
theorem n18_15 : Snd mt G 18 15 (oConst (.int 1) 16) := w_iconst (hm := mm18) dX0_choice_15 rfl
theorem n18_16 : Snd mt G 18 16 (oRetI .int) := w_iret (hm := mm18) dX0_choice_16 rfl
theorem n18_17 : Snd mt G 18 17 (oAstore 4 19) := w_astore (hm := mm18) dX0_choice_17 (Nat.le_of_ble_eq_true rfl)
theorem n18_19 : Snd mt G 18 19 (oConst (.int 2) 20) := w_iconst (hm := mm18) dX0_choice_19 rfl
theorem n18_20 : Snd mt G 18 20 (oRetI .int) := w_iret (hm := mm18) dX0_choice_20 rfl
theorem n18_21 : Snd mt G 18 21 (oConst (.int 0) 22) := w_iconst (hm := mm18) dX0_choice_21 rfl
theorem n18_22 : Snd mt G 18 22 (oRetI .int) := w_iret (hm := mm18) dX0_choice_22 rfl
theorem sj18 : ∀ pc, Snd mt G 18 pc (j18 pc) := fun pc => (snd_br ((snd_br ((snd_br ((snd_br ((snd_br ((snd_lf n18_22)) ((snd_lf n18_21)))) ((snd_lf n18_20)))) ((snd_br ((snd_lf n18_19)) ((snd_lf n18_17)))))) ((snd_br ((snd_br ((snd_lf n18_16)) ((snd_lf n18_15)))) ((snd_br ((snd_lf n18_13)) ((snd_lf n18_10)))))))) ((snd_br ((snd_br ((snd_br ((snd_lf n18_9)) ((snd_lf n18_8)))) ((snd_br ((snd_lf n18_5)) ((snd_lf n18_4)))))) ((snd_br ((snd_br ((snd_lf n18_3)) ((snd_lf n18_2)))) ((snd_br ((snd_lf n18_1)) ((snd_lf n18_0)))))))))
end
section
variable {G : AG}
theorem n19_0 : Snd mt G 19 0 (oAload 3 1) := w_aload_n (hm := mm19) dX0_choose_0
theorem n19_1 : Snd mt G 19 1 (oConst (.int 0) 2) := w_iconst (hm := mm19) dX0_choose_1 rfl
theorem n19_2 : Snd mt G 19 2 (oAload 0 3) := w_aload_n (hm := mm19) dX0_choose_2
theorem n19_3 : Snd mt G 19 3 (oIload 1 4) := w_iload_n (hm := mm19) dX0_choose_3
theorem n19_4 : Snd mt G 19 4 (oIload 2 5) := w_iload_n (hm := mm19) dX0_choose_4
theorem n19_5 : Snd mt G 19 5 (oCall 3 (fV [1] 126 4) 0 8 (xCatch [(32, 17), (34, 13)])) := s_callV (m' := 126) (n := 2) (xsh_catch _) (w_xokC mm19 (List.forall_mem_cons.mpr ⟨⟨31, _, 1, _, _, rfl, (Nat.le_of_ble_eq_true rfl), vc_31, rfl, rfl, (List.forall_mem_cons.mpr ⟨Or.inr ⟨by decide, _, q1683, by decide⟩, (fun y hy => nomatch hy)⟩), by decide, by decide, q1171, List.mem_filter.mpr ⟨q215, rfl⟩⟩, (List.forall_mem_cons.mpr ⟨⟨33, _, 0, _, _, rfl, (Nat.le_of_ble_eq_true rfl), vc_33, rfl, rfl, (fun y hy => nomatch hy), by decide, by decide, q1683, List.mem_filter.mpr ⟨q1694, rfl⟩⟩, (fun y hy => nomatch hy)⟩)⟩)) (w_cal mm19 mm126 pn_X1 (Nat.le_of_ble_eq_true rfl) (Nat.le_of_ble_eq_true rfl)) (fun h b as hc hn => w_run_V (ci := 0) mm19 mm126 dX0_choose_5 (Or.inl (List.mem_singleton.mp hc)) (Nat.le_of_ble_eq_true rfl) vc_0 rfl q1968 q1969 q1970 q129 q1971 pa126 hn)
theorem n19_8 : Snd mt G 19 8 (oUn (fun x => .long x.toInt64) 9) := w_i2l (hm := mm19) dX0_choose_8
theorem n19_9 : Snd mt G 19 9 (oLast [102] 10) := w_lastore (hm := mm19) (kt := 2) dX0_choose_9 at_2 (Nat.le_of_ble_eq_true rfl) (List.forall_mem_cons.mpr ⟨rfl, (fun t ht => nomatch ht)⟩)
theorem n19_10 : Snd mt G 19 10 (oGoto 21) := w_goto (hm := mm19) dX0_choose_10 rfl
theorem n19_13 : Snd mt G 19 13 (oAstore 4 15) := w_astore (hm := mm19) dX0_choose_13 (Nat.le_of_ble_eq_true rfl)
theorem n19_15 : Snd mt G 19 15 (oConst (.int 1) 16) := w_iconst (hm := mm19) dX0_choose_15 rfl
theorem n19_16 : Snd mt G 19 16 (oRetI .int) := w_iret (hm := mm19) dX0_choose_16 rfl
theorem n19_17 : Snd mt G 19 17 (oAstore 4 19) := w_astore (hm := mm19) dX0_choose_17 (Nat.le_of_ble_eq_true rfl)
theorem n19_19 : Snd mt G 19 19 (oConst (.int 2) 20) := w_iconst (hm := mm19) dX0_choose_19 rfl
theorem n19_20 : Snd mt G 19 20 (oRetI .int) := w_iret (hm := mm19) dX0_choose_20 rfl
theorem n19_21 : Snd mt G 19 21 (oConst (.int 0) 22) := w_iconst (hm := mm19) dX0_choose_21 rfl
theorem n19_22 : Snd mt G 19 22 (oRetI .int) := w_iret (hm := mm19) dX0_choose_22 rfl
theorem sj19 : ∀ pc, Snd mt G 19 pc (j19 pc) := fun pc => (snd_br ((snd_br ((snd_br ((snd_br ((snd_br ((snd_lf n19_22)) ((snd_lf n19_21)))) ((snd_lf n19_20)))) ((snd_br ((snd_lf n19_19)) ((snd_lf n19_17)))))) ((snd_br ((snd_br ((snd_lf n19_16)) ((snd_lf n19_15)))) ((snd_br ((snd_lf n19_13)) ((snd_lf n19_10)))))))) ((snd_br ((snd_br ((snd_br ((snd_lf n19_9)) ((snd_lf n19_8)))) ((snd_br ((snd_lf n19_5)) ((snd_lf n19_4)))))) ((snd_br ((snd_br ((snd_lf n19_3)) ((snd_lf n19_2)))) ((snd_br ((snd_lf n19_1)) ((snd_lf n19_0)))))))))
end
section
variable {G : AG}
theorem n20_0 : Snd mt G 20 0 (oAload 3 1) := w_aload_n (hm := mm20) dX0_clause_0
theorem n20_1 : Snd mt G 20 1 (oConst (.int 0) 2) := w_iconst (hm := mm20) dX0_clause_1 rfl
theorem n20_2 : Snd mt G 20 2 (oAload 0 3) := w_aload_n (hm := mm20) dX0_clause_2
theorem n20_3 : Snd mt G 20 3 (oIload 1 4) := w_iload_n (hm := mm20) dX0_clause_3
theorem n20_4 : Snd mt G 20 4 (oIload 2 5) := w_iload_n (hm := mm20) dX0_clause_4
theorem n20_5 : Snd mt G 20 5 (oCall 3 (fV [1] 127 8) 0 8 (xCatch [(32, 17), (34, 13)])) := s_callV (m' := 127) (n := 2) (xsh_catch _) (w_xokC mm20 (List.forall_mem_cons.mpr ⟨⟨31, _, 1, _, _, rfl, (Nat.le_of_ble_eq_true rfl), vc_31, rfl, rfl, (List.forall_mem_cons.mpr ⟨Or.inr ⟨by decide, _, q1683, by decide⟩, (fun y hy => nomatch hy)⟩), by decide, by decide, q1171, List.mem_filter.mpr ⟨q215, rfl⟩⟩, (List.forall_mem_cons.mpr ⟨⟨33, _, 0, _, _, rfl, (Nat.le_of_ble_eq_true rfl), vc_33, rfl, rfl, (fun y hy => nomatch hy), by decide, by decide, q1683, List.mem_filter.mpr ⟨q1694, rfl⟩⟩, (fun y hy => nomatch hy)⟩)⟩)) (w_cal mm20 mm127 pn_X1 (Nat.le_of_ble_eq_true rfl) (Nat.le_of_ble_eq_true rfl)) (fun h b as hc hn => w_run_V (ci := 0) mm20 mm127 dX0_clause_5 (Or.inl (List.mem_singleton.mp hc)) (Nat.le_of_ble_eq_true rfl) vc_0 rfl q1975 q1976 q1977 q129 q1978 pa127 hn)
theorem n20_8 : Snd mt G 20 8 (oUn (fun x => .long x.toInt64) 9) := w_i2l (hm := mm20) dX0_clause_8
theorem n20_9 : Snd mt G 20 9 (oLast [102] 10) := w_lastore (hm := mm20) (kt := 2) dX0_clause_9 at_2 (Nat.le_of_ble_eq_true rfl) (List.forall_mem_cons.mpr ⟨rfl, (fun t ht => nomatch ht)⟩)
theorem n20_10 : Snd mt G 20 10 (oGoto 21) := w_goto (hm := mm20) dX0_clause_10 rfl
theorem n20_13 : Snd mt G 20 13 (oAstore 4 15) := w_astore (hm := mm20) dX0_clause_13 (Nat.le_of_ble_eq_true rfl)
theorem n20_15 : Snd mt G 20 15 (oConst (.int 1) 16) := w_iconst (hm := mm20) dX0_clause_15 rfl
theorem n20_16 : Snd mt G 20 16 (oRetI .int) := w_iret (hm := mm20) dX0_clause_16 rfl
theorem n20_17 : Snd mt G 20 17 (oAstore 4 19) := w_astore (hm := mm20) dX0_clause_17 (Nat.le_of_ble_eq_true rfl)
theorem n20_19 : Snd mt G 20 19 (oConst (.int 2) 20) := w_iconst (hm := mm20) dX0_clause_19 rfl
theorem n20_20 : Snd mt G 20 20 (oRetI .int) := w_iret (hm := mm20) dX0_clause_20 rfl
theorem n20_21 : Snd mt G 20 21 (oConst (.int 0) 22) := w_iconst (hm := mm20) dX0_clause_21 rfl
theorem n20_22 : Snd mt G 20 22 (oRetI .int) := w_iret (hm := mm20) dX0_clause_22 rfl
theorem sj20 : ∀ pc, Snd mt G 20 pc (j20 pc) := fun pc => (snd_br ((snd_br ((snd_br ((snd_br ((snd_br ((snd_lf n20_22)) ((snd_lf n20_21)))) ((snd_lf n20_20)))) ((snd_br ((snd_lf n20_19)) ((snd_lf n20_17)))))) ((snd_br ((snd_br ((snd_lf n20_16)) ((snd_lf n20_15)))) ((snd_br ((snd_lf n20_13)) ((snd_lf n20_10)))))))) ((snd_br ((snd_br ((snd_br ((snd_lf n20_9)) ((snd_lf n20_8)))) ((snd_br ((snd_lf n20_5)) ((snd_lf n20_4)))))) ((snd_br ((snd_br ((snd_lf n20_3)) ((snd_lf n20_2)))) ((snd_br ((snd_lf n20_1)) ((snd_lf n20_0)))))))))
end
section
variable {G : AG}
theorem n21_0 : Snd mt G 21 0 (oAload 5 2) := w_aload (hm := mm21) dX0_job_0
theorem n21_2 : Snd mt G 21 2 (oConst (.int 0) 3) := w_iconst (hm := mm21) dX0_job_2 rfl
theorem n21_3 : Snd mt G 21 3 (oAload 0 4) := w_aload_n (hm := mm21) dX0_job_3
theorem n21_4 : Snd mt G 21 4 (oIload 1 5) := w_iload_n (hm := mm21) dX0_job_4
theorem n21_5 : Snd mt G 21 5 (oIload 2 6) := w_iload_n (hm := mm21) dX0_job_5
theorem n21_6 : Snd mt G 21 6 (oIload 3 7) := w_iload_n (hm := mm21) dX0_job_6
theorem n21_7 : Snd mt G 21 7 (oIload 4 9) := w_iload (hm := mm21) dX0_job_7
theorem n21_9 : Snd mt G 21 9 (oCall 5 (fV [1] 128 5) 0 12 (xCatch [(32, 21), (34, 17)])) := s_callV (m' := 128) (n := 4) (xsh_catch _) (w_xokC mm21 (List.forall_mem_cons.mpr ⟨⟨31, _, 1, _, _, rfl, (Nat.le_of_ble_eq_true rfl), vc_31, rfl, rfl, (List.forall_mem_cons.mpr ⟨Or.inr ⟨by decide, _, q1683, by decide⟩, (fun y hy => nomatch hy)⟩), by decide, by decide, q1171, List.mem_filter.mpr ⟨q215, rfl⟩⟩, (List.forall_mem_cons.mpr ⟨⟨33, _, 0, _, _, rfl, (Nat.le_of_ble_eq_true rfl), vc_33, rfl, rfl, (fun y hy => nomatch hy), by decide, by decide, q1683, List.mem_filter.mpr ⟨q1694, rfl⟩⟩, (fun y hy => nomatch hy)⟩)⟩)) (w_cal mm21 mm128 pn_X1 (Nat.le_of_ble_eq_true rfl) (Nat.le_of_ble_eq_true rfl)) (fun h b as hc hn => w_run_V (ci := 0) mm21 mm128 dX0_job_9 (Or.inl (List.mem_singleton.mp hc)) (Nat.le_of_ble_eq_true rfl) vc_0 rfl q1982 q1983 q1984 q129 q1985 pa128 hn)
theorem n21_12 : Snd mt G 21 12 (oUn (fun x => .long x.toInt64) 13) := w_i2l (hm := mm21) dX0_job_12
theorem n21_13 : Snd mt G 21 13 (oLast [102] 14) := w_lastore (hm := mm21) (kt := 2) dX0_job_13 at_2 (Nat.le_of_ble_eq_true rfl) (List.forall_mem_cons.mpr ⟨rfl, (fun t ht => nomatch ht)⟩)
theorem n21_14 : Snd mt G 21 14 (oGoto 25) := w_goto (hm := mm21) dX0_job_14 rfl
theorem n21_17 : Snd mt G 21 17 (oAstore 6 19) := w_astore (hm := mm21) dX0_job_17 (Nat.le_of_ble_eq_true rfl)
theorem n21_19 : Snd mt G 21 19 (oConst (.int 1) 20) := w_iconst (hm := mm21) dX0_job_19 rfl
theorem n21_20 : Snd mt G 21 20 (oRetI .int) := w_iret (hm := mm21) dX0_job_20 rfl
theorem n21_21 : Snd mt G 21 21 (oAstore 6 23) := w_astore (hm := mm21) dX0_job_21 (Nat.le_of_ble_eq_true rfl)
theorem n21_23 : Snd mt G 21 23 (oConst (.int 2) 24) := w_iconst (hm := mm21) dX0_job_23 rfl
theorem n21_24 : Snd mt G 21 24 (oRetI .int) := w_iret (hm := mm21) dX0_job_24 rfl
theorem n21_25 : Snd mt G 21 25 (oConst (.int 0) 26) := w_iconst (hm := mm21) dX0_job_25 rfl
theorem n21_26 : Snd mt G 21 26 (oRetI .int) := w_iret (hm := mm21) dX0_job_26 rfl
theorem sj21 : ∀ pc, Snd mt G 21 pc (j21 pc) := fun pc => (snd_br ((snd_br ((snd_br ((snd_br ((snd_br ((snd_lf n21_26)) ((snd_lf n21_25)))) ((snd_lf n21_24)))) ((snd_br ((snd_lf n21_23)) ((snd_lf n21_21)))))) ((snd_br ((snd_br ((snd_br ((snd_lf n21_20)) ((snd_lf n21_19)))) ((snd_lf n21_17)))) ((snd_br ((snd_lf n21_14)) ((snd_lf n21_13)))))))) ((snd_br ((snd_br ((snd_br ((snd_br ((snd_lf n21_12)) ((snd_lf n21_9)))) ((snd_lf n21_7)))) ((snd_br ((snd_lf n21_6)) ((snd_lf n21_5)))))) ((snd_br ((snd_br ((snd_lf n21_4)) ((snd_lf n21_3)))) ((snd_br ((snd_lf n21_2)) ((snd_lf n21_0)))))))))
end
section
variable {G : AG}
theorem n22_0 : Snd mt G 22 0 (oAload 2 1) := w_aload_n (hm := mm22) dX0_benches_0
theorem n22_1 : Snd mt G 22 1 (oConst (.int 0) 2) := w_iconst (hm := mm22) dX0_benches_1 rfl
theorem n22_2 : Snd mt G 22 2 (oAload 0 3) := w_aload_n (hm := mm22) dX0_benches_2
theorem n22_3 : Snd mt G 22 3 (oIload 1 4) := w_iload_n (hm := mm22) dX0_benches_3
theorem n22_4 : Snd mt G 22 4 (oCall 2 (fV [1] 129 3) 0 7 (xCatch [(32, 12)])) := s_callV (m' := 129) (n := 1) (xsh_catch _) (w_xokC mm22 (List.forall_mem_cons.mpr ⟨⟨31, _, 0, _, _, rfl, (Nat.le_of_ble_eq_true rfl), vc_31, rfl, rfl, (fun y hy => nomatch hy), by decide, by decide, q1171, List.mem_filter.mpr ⟨q215, rfl⟩⟩, (fun y hy => nomatch hy)⟩)) (w_cal mm22 mm129 pn_X1 (Nat.le_of_ble_eq_true rfl) (Nat.le_of_ble_eq_true rfl)) (fun h b as hc hn => w_run_V (ci := 0) mm22 mm129 dX0_benches_4 (Or.inl (List.mem_singleton.mp hc)) (Nat.le_of_ble_eq_true rfl) vc_0 rfl q2010 q2011 q2012 q129 q2013 pa129 hn)
theorem n22_7 : Snd mt G 22 7 (oUn (fun x => .long x.toInt64) 8) := w_i2l (hm := mm22) dX0_benches_7
theorem n22_8 : Snd mt G 22 8 (oLast [102] 9) := w_lastore (hm := mm22) (kt := 2) dX0_benches_8 at_2 (Nat.le_of_ble_eq_true rfl) (List.forall_mem_cons.mpr ⟨rfl, (fun t ht => nomatch ht)⟩)
theorem n22_9 : Snd mt G 22 9 (oGoto 15) := w_goto (hm := mm22) dX0_benches_9 rfl
theorem n22_12 : Snd mt G 22 12 (oAstore 3 13) := w_astore_n (hm := mm22) dX0_benches_12 (Nat.le_of_ble_eq_true rfl)
theorem n22_13 : Snd mt G 22 13 (oConst (.int 1) 14) := w_iconst (hm := mm22) dX0_benches_13 rfl
theorem n22_14 : Snd mt G 22 14 (oRetI .int) := w_iret (hm := mm22) dX0_benches_14 rfl
theorem n22_15 : Snd mt G 22 15 (oConst (.int 0) 16) := w_iconst (hm := mm22) dX0_benches_15 rfl
theorem n22_16 : Snd mt G 22 16 (oRetI .int) := w_iret (hm := mm22) dX0_benches_16 rfl
theorem sj22 : ∀ pc, Snd mt G 22 pc (j22 pc) := fun pc => (snd_br ((snd_br ((snd_br ((snd_br ((snd_lf n22_16)) ((snd_lf n22_15)))) ((snd_br ((snd_lf n22_14)) ((snd_lf n22_13)))))) ((snd_br ((snd_br ((snd_lf n22_12)) ((snd_lf n22_9)))) ((snd_lf n22_8)))))) ((snd_br ((snd_br ((snd_br ((snd_lf n22_7)) ((snd_lf n22_4)))) ((snd_lf n22_3)))) ((snd_br ((snd_br ((snd_lf n22_2)) ((snd_lf n22_1)))) ((snd_lf n22_0)))))))
end
section
variable {G : AG}
theorem n23_0 : Snd mt G 23 0 (oAload 2 1) := w_aload_n (hm := mm23) dX0_cost_0
theorem n23_1 : Snd mt G 23 1 (oConst (.int 0) 2) := w_iconst (hm := mm23) dX0_cost_1 rfl
theorem n23_2 : Snd mt G 23 2 (oAload 0 3) := w_aload_n (hm := mm23) dX0_cost_2
theorem n23_3 : Snd mt G 23 3 (oIload 1 4) := w_iload_n (hm := mm23) dX0_cost_3
theorem n23_4 : Snd mt G 23 4 (oCall 2 (fV [1] 130 8) 0 7 (xCatch [(32, 12)])) := s_callV (m' := 130) (n := 1) (xsh_catch _) (w_xokC mm23 (List.forall_mem_cons.mpr ⟨⟨31, _, 0, _, _, rfl, (Nat.le_of_ble_eq_true rfl), vc_31, rfl, rfl, (fun y hy => nomatch hy), by decide, by decide, q1171, List.mem_filter.mpr ⟨q215, rfl⟩⟩, (fun y hy => nomatch hy)⟩)) (w_cal mm23 mm130 pn_X1 (Nat.le_of_ble_eq_true rfl) (Nat.le_of_ble_eq_true rfl)) (fun h b as hc hn => w_run_V (ci := 0) mm23 mm130 dX0_cost_4 (Or.inl (List.mem_singleton.mp hc)) (Nat.le_of_ble_eq_true rfl) vc_0 rfl q2017 q2018 q2019 q129 q2020 pa130 hn)
theorem n23_7 : Snd mt G 23 7 (oUn (fun x => .long x.toInt64) 8) := w_i2l (hm := mm23) dX0_cost_7
theorem n23_8 : Snd mt G 23 8 (oLast [102] 9) := w_lastore (hm := mm23) (kt := 2) dX0_cost_8 at_2 (Nat.le_of_ble_eq_true rfl) (List.forall_mem_cons.mpr ⟨rfl, (fun t ht => nomatch ht)⟩)
theorem n23_9 : Snd mt G 23 9 (oGoto 15) := w_goto (hm := mm23) dX0_cost_9 rfl
theorem n23_12 : Snd mt G 23 12 (oAstore 3 13) := w_astore_n (hm := mm23) dX0_cost_12 (Nat.le_of_ble_eq_true rfl)
theorem n23_13 : Snd mt G 23 13 (oConst (.int 1) 14) := w_iconst (hm := mm23) dX0_cost_13 rfl
theorem n23_14 : Snd mt G 23 14 (oRetI .int) := w_iret (hm := mm23) dX0_cost_14 rfl
theorem n23_15 : Snd mt G 23 15 (oConst (.int 0) 16) := w_iconst (hm := mm23) dX0_cost_15 rfl
theorem n23_16 : Snd mt G 23 16 (oRetI .int) := w_iret (hm := mm23) dX0_cost_16 rfl
theorem sj23 : ∀ pc, Snd mt G 23 pc (j23 pc) := fun pc => (snd_br ((snd_br ((snd_br ((snd_br ((snd_lf n23_16)) ((snd_lf n23_15)))) ((snd_br ((snd_lf n23_14)) ((snd_lf n23_13)))))) ((snd_br ((snd_br ((snd_lf n23_12)) ((snd_lf n23_9)))) ((snd_lf n23_8)))))) ((snd_br ((snd_br ((snd_br ((snd_lf n23_7)) ((snd_lf n23_4)))) ((snd_lf n23_3)))) ((snd_br ((snd_br ((snd_lf n23_2)) ((snd_lf n23_1)))) ((snd_lf n23_0)))))))
end
section
variable {G : AG}
theorem n24_0 : Snd mt G 24 0 (oAload 3 1) := w_aload_n (hm := mm24) dX0_delay_0
theorem n24_1 : Snd mt G 24 1 (oConst (.int 0) 2) := w_iconst (hm := mm24) dX0_delay_1 rfl
theorem n24_2 : Snd mt G 24 2 (oAload 0 3) := w_aload_n (hm := mm24) dX0_delay_2
theorem n24_3 : Snd mt G 24 3 (oIload 1 4) := w_iload_n (hm := mm24) dX0_delay_3
theorem n24_4 : Snd mt G 24 4 (oIload 2 5) := w_iload_n (hm := mm24) dX0_delay_4
theorem n24_5 : Snd mt G 24 5 (oCall 3 (fV [1] 132 5) 0 8 (xCatch [(32, 17), (35, 13)])) := s_callV (m' := 132) (n := 2) (xsh_catch _) (w_xokC mm24 (List.forall_mem_cons.mpr ⟨⟨31, _, 1, _, _, rfl, (Nat.le_of_ble_eq_true rfl), vc_31, rfl, rfl, (List.forall_mem_cons.mpr ⟨Or.inr ⟨by decide, _, q1740, by decide⟩, (fun y hy => nomatch hy)⟩), by decide, by decide, q1171, List.mem_filter.mpr ⟨q215, rfl⟩⟩, (List.forall_mem_cons.mpr ⟨⟨34, _, 0, _, _, rfl, (Nat.le_of_ble_eq_true rfl), vc_34, rfl, rfl, (fun y hy => nomatch hy), by decide, by decide, q1740, List.mem_filter.mpr ⟨q1769, rfl⟩⟩, (fun y hy => nomatch hy)⟩)⟩)) (w_cal mm24 mm132 pn_X1 (Nat.le_of_ble_eq_true rfl) (Nat.le_of_ble_eq_true rfl)) (fun h b as hc hn => w_run_V (ci := 0) mm24 mm132 dX0_delay_5 (Or.inl (List.mem_singleton.mp hc)) (Nat.le_of_ble_eq_true rfl) vc_0 rfl q2028 q2029 q2030 q129 q2031 pa132 hn)
theorem n24_8 : Snd mt G 24 8 (oUn (fun x => .long x.toInt64) 9) := w_i2l (hm := mm24) dX0_delay_8
theorem n24_9 : Snd mt G 24 9 (oLast [102] 10) := w_lastore (hm := mm24) (kt := 2) dX0_delay_9 at_2 (Nat.le_of_ble_eq_true rfl) (List.forall_mem_cons.mpr ⟨rfl, (fun t ht => nomatch ht)⟩)
theorem n24_10 : Snd mt G 24 10 (oGoto 21) := w_goto (hm := mm24) dX0_delay_10 rfl
theorem n24_13 : Snd mt G 24 13 (oAstore 4 15) := w_astore (hm := mm24) dX0_delay_13 (Nat.le_of_ble_eq_true rfl)
theorem n24_15 : Snd mt G 24 15 (oConst (.int 1) 16) := w_iconst (hm := mm24) dX0_delay_15 rfl
theorem n24_16 : Snd mt G 24 16 (oRetI .int) := w_iret (hm := mm24) dX0_delay_16 rfl
theorem n24_17 : Snd mt G 24 17 (oAstore 4 19) := w_astore (hm := mm24) dX0_delay_17 (Nat.le_of_ble_eq_true rfl)
theorem n24_19 : Snd mt G 24 19 (oConst (.int 2) 20) := w_iconst (hm := mm24) dX0_delay_19 rfl
theorem n24_20 : Snd mt G 24 20 (oRetI .int) := w_iret (hm := mm24) dX0_delay_20 rfl
theorem n24_21 : Snd mt G 24 21 (oConst (.int 0) 22) := w_iconst (hm := mm24) dX0_delay_21 rfl
theorem n24_22 : Snd mt G 24 22 (oRetI .int) := w_iret (hm := mm24) dX0_delay_22 rfl
theorem sj24 : ∀ pc, Snd mt G 24 pc (j24 pc) := fun pc => (snd_br ((snd_br ((snd_br ((snd_br ((snd_br ((snd_lf n24_22)) ((snd_lf n24_21)))) ((snd_lf n24_20)))) ((snd_br ((snd_lf n24_19)) ((snd_lf n24_17)))))) ((snd_br ((snd_br ((snd_lf n24_16)) ((snd_lf n24_15)))) ((snd_br ((snd_lf n24_13)) ((snd_lf n24_10)))))))) ((snd_br ((snd_br ((snd_br ((snd_lf n24_9)) ((snd_lf n24_8)))) ((snd_br ((snd_lf n24_5)) ((snd_lf n24_4)))))) ((snd_br ((snd_br ((snd_lf n24_3)) ((snd_lf n24_2)))) ((snd_br ((snd_lf n24_1)) ((snd_lf n24_0)))))))))
end
section
variable {G : AG}
theorem n25_0 : Snd mt G 25 0 (oAload 2 1) := w_aload_n (hm := mm25) dX0_done_0
theorem n25_1 : Snd mt G 25 1 (oConst (.int 0) 2) := w_iconst (hm := mm25) dX0_done_1 rfl
theorem n25_2 : Snd mt G 25 2 (oAload 0 3) := w_aload_n (hm := mm25) dX0_done_2
theorem n25_3 : Snd mt G 25 3 (oIload 1 4) := w_iload_n (hm := mm25) dX0_done_3
theorem n25_4 : Snd mt G 25 4 (oCall 2 (fV [1] 134 3) 0 7 (xCatch [(35, 12)])) := s_callV (m' := 134) (n := 1) (xsh_catch _) (w_xokC mm25 (List.forall_mem_cons.mpr ⟨⟨34, _, 0, _, _, rfl, (Nat.le_of_ble_eq_true rfl), vc_34, rfl, rfl, (fun y hy => nomatch hy), by decide, by decide, q1740, List.mem_filter.mpr ⟨q1769, rfl⟩⟩, (fun y hy => nomatch hy)⟩)) (w_cal mm25 mm134 pn_X1 (Nat.le_of_ble_eq_true rfl) (Nat.le_of_ble_eq_true rfl)) (fun h b as hc hn => w_run_V (ci := 0) mm25 mm134 dX0_done_4 (Or.inl (List.mem_singleton.mp hc)) (Nat.le_of_ble_eq_true rfl) vc_0 rfl q2039 q2040 q2041 q129 q2042 pa134 hn)
theorem n25_7 : Snd mt G 25 7 (oUn (fun x => .long x.toInt64) 8) := w_i2l (hm := mm25) dX0_done_7
theorem n25_8 : Snd mt G 25 8 (oLast [102] 9) := w_lastore (hm := mm25) (kt := 2) dX0_done_8 at_2 (Nat.le_of_ble_eq_true rfl) (List.forall_mem_cons.mpr ⟨rfl, (fun t ht => nomatch ht)⟩)
theorem n25_9 : Snd mt G 25 9 (oGoto 15) := w_goto (hm := mm25) dX0_done_9 rfl
theorem n25_12 : Snd mt G 25 12 (oAstore 3 13) := w_astore_n (hm := mm25) dX0_done_12 (Nat.le_of_ble_eq_true rfl)
theorem n25_13 : Snd mt G 25 13 (oConst (.int 1) 14) := w_iconst (hm := mm25) dX0_done_13 rfl
theorem n25_14 : Snd mt G 25 14 (oRetI .int) := w_iret (hm := mm25) dX0_done_14 rfl
theorem n25_15 : Snd mt G 25 15 (oConst (.int 0) 16) := w_iconst (hm := mm25) dX0_done_15 rfl
theorem n25_16 : Snd mt G 25 16 (oRetI .int) := w_iret (hm := mm25) dX0_done_16 rfl
theorem sj25 : ∀ pc, Snd mt G 25 pc (j25 pc) := fun pc => (snd_br ((snd_br ((snd_br ((snd_br ((snd_lf n25_16)) ((snd_lf n25_15)))) ((snd_br ((snd_lf n25_14)) ((snd_lf n25_13)))))) ((snd_br ((snd_br ((snd_lf n25_12)) ((snd_lf n25_9)))) ((snd_lf n25_8)))))) ((snd_br ((snd_br ((snd_br ((snd_lf n25_7)) ((snd_lf n25_4)))) ((snd_lf n25_3)))) ((snd_br ((snd_br ((snd_lf n25_2)) ((snd_lf n25_1)))) ((snd_lf n25_0)))))))
end
section
variable {G : AG}
theorem n26_0 : Snd mt G 26 0 (oAload 2 1) := w_aload_n (hm := mm26) dX0_maker_0
theorem n26_1 : Snd mt G 26 1 (oConst (.int 0) 2) := w_iconst (hm := mm26) dX0_maker_1 rfl
theorem n26_2 : Snd mt G 26 2 (oAload 0 3) := w_aload_n (hm := mm26) dX0_maker_2
theorem n26_3 : Snd mt G 26 3 (oIload 1 4) := w_iload_n (hm := mm26) dX0_maker_3
theorem n26_4 : Snd mt G 26 4 (oCall 2 (fV [1] 135 2) 0 7 (xCatch [(32, 12)])) := s_callV (m' := 135) (n := 1) (xsh_catch _) (w_xokC mm26 (List.forall_mem_cons.mpr ⟨⟨31, _, 0, _, _, rfl, (Nat.le_of_ble_eq_true rfl), vc_31, rfl, rfl, (fun y hy => nomatch hy), by decide, by decide, q1171, List.mem_filter.mpr ⟨q215, rfl⟩⟩, (fun y hy => nomatch hy)⟩)) (w_cal mm26 mm135 pn_X1 (Nat.le_of_ble_eq_true rfl) (Nat.le_of_ble_eq_true rfl)) (fun h b as hc hn => w_run_V (ci := 0) mm26 mm135 dX0_maker_4 (Or.inl (List.mem_singleton.mp hc)) (Nat.le_of_ble_eq_true rfl) vc_0 rfl q2046 q2047 q2048 q129 q2049 pa135 hn)
theorem n26_7 : Snd mt G 26 7 (oUn (fun x => .long x.toInt64) 8) := w_i2l (hm := mm26) dX0_maker_7
theorem n26_8 : Snd mt G 26 8 (oLast [102] 9) := w_lastore (hm := mm26) (kt := 2) dX0_maker_8 at_2 (Nat.le_of_ble_eq_true rfl) (List.forall_mem_cons.mpr ⟨rfl, (fun t ht => nomatch ht)⟩)
theorem n26_9 : Snd mt G 26 9 (oGoto 15) := w_goto (hm := mm26) dX0_maker_9 rfl
theorem n26_12 : Snd mt G 26 12 (oAstore 3 13) := w_astore_n (hm := mm26) dX0_maker_12 (Nat.le_of_ble_eq_true rfl)
theorem n26_13 : Snd mt G 26 13 (oConst (.int 1) 14) := w_iconst (hm := mm26) dX0_maker_13 rfl
theorem n26_14 : Snd mt G 26 14 (oRetI .int) := w_iret (hm := mm26) dX0_maker_14 rfl
theorem n26_15 : Snd mt G 26 15 (oConst (.int 0) 16) := w_iconst (hm := mm26) dX0_maker_15 rfl
theorem n26_16 : Snd mt G 26 16 (oRetI .int) := w_iret (hm := mm26) dX0_maker_16 rfl
theorem sj26 : ∀ pc, Snd mt G 26 pc (j26 pc) := fun pc => (snd_br ((snd_br ((snd_br ((snd_br ((snd_lf n26_16)) ((snd_lf n26_15)))) ((snd_br ((snd_lf n26_14)) ((snd_lf n26_13)))))) ((snd_br ((snd_br ((snd_lf n26_12)) ((snd_lf n26_9)))) ((snd_lf n26_8)))))) ((snd_br ((snd_br ((snd_br ((snd_lf n26_7)) ((snd_lf n26_4)))) ((snd_lf n26_3)))) ((snd_br ((snd_br ((snd_lf n26_2)) ((snd_lf n26_1)))) ((snd_lf n26_0)))))))
end
section
variable {G : AG}
theorem n27_0 : Snd mt G 27 0 (oAload 3 1) := w_aload_n (hm := mm27) dX0_order_0
theorem n27_1 : Snd mt G 27 1 (oConst (.int 0) 2) := w_iconst (hm := mm27) dX0_order_1 rfl
theorem n27_2 : Snd mt G 27 2 (oAload 0 3) := w_aload_n (hm := mm27) dX0_order_2
theorem n27_3 : Snd mt G 27 3 (oIload 1 4) := w_iload_n (hm := mm27) dX0_order_3
theorem n27_4 : Snd mt G 27 4 (oIload 2 5) := w_iload_n (hm := mm27) dX0_order_4
theorem n27_5 : Snd mt G 27 5 (oCall 3 (fV [1] 136 4) 0 8 (xCatch [(34, 13), (35, 17)])) := s_callV (m' := 136) (n := 2) (xsh_catch _) (w_xokC mm27 (List.forall_mem_cons.mpr ⟨⟨33, _, 0, _, _, rfl, (Nat.le_of_ble_eq_true rfl), vc_33, rfl, rfl, (fun y hy => nomatch hy), by decide, by decide, q1683, List.mem_filter.mpr ⟨q1694, rfl⟩⟩, (List.forall_mem_cons.mpr ⟨⟨34, _, 1, _, _, rfl, (Nat.le_of_ble_eq_true rfl), vc_34, rfl, rfl, (List.forall_mem_cons.mpr ⟨Or.inr ⟨by decide, _, q1683, by decide⟩, (fun y hy => nomatch hy)⟩), by decide, by decide, q1740, List.mem_filter.mpr ⟨q1769, rfl⟩⟩, (fun y hy => nomatch hy)⟩)⟩)) (w_cal mm27 mm136 pn_X1 (Nat.le_of_ble_eq_true rfl) (Nat.le_of_ble_eq_true rfl)) (fun h b as hc hn => w_run_V (ci := 0) mm27 mm136 dX0_order_5 (Or.inl (List.mem_singleton.mp hc)) (Nat.le_of_ble_eq_true rfl) vc_0 rfl q2055 q2056 q2057 q129 q2058 pa136 hn)
theorem n27_8 : Snd mt G 27 8 (oUn (fun x => .long x.toInt64) 9) := w_i2l (hm := mm27) dX0_order_8
theorem n27_9 : Snd mt G 27 9 (oLast [102] 10) := w_lastore (hm := mm27) (kt := 2) dX0_order_9 at_2 (Nat.le_of_ble_eq_true rfl) (List.forall_mem_cons.mpr ⟨rfl, (fun t ht => nomatch ht)⟩)
theorem n27_10 : Snd mt G 27 10 (oGoto 21) := w_goto (hm := mm27) dX0_order_10 rfl
theorem n27_13 : Snd mt G 27 13 (oAstore 4 15) := w_astore (hm := mm27) dX0_order_13 (Nat.le_of_ble_eq_true rfl)
theorem n27_15 : Snd mt G 27 15 (oConst (.int 1) 16) := w_iconst (hm := mm27) dX0_order_15 rfl
theorem n27_16 : Snd mt G 27 16 (oRetI .int) := w_iret (hm := mm27) dX0_order_16 rfl
theorem n27_17 : Snd mt G 27 17 (oAstore 4 19) := w_astore (hm := mm27) dX0_order_17 (Nat.le_of_ble_eq_true rfl)
theorem n27_19 : Snd mt G 27 19 (oConst (.int 2) 20) := w_iconst (hm := mm27) dX0_order_19 rfl
theorem n27_20 : Snd mt G 27 20 (oRetI .int) := w_iret (hm := mm27) dX0_order_20 rfl
theorem n27_21 : Snd mt G 27 21 (oConst (.int 0) 22) := w_iconst (hm := mm27) dX0_order_21 rfl
theorem n27_22 : Snd mt G 27 22 (oRetI .int) := w_iret (hm := mm27) dX0_order_22 rfl
theorem sj27 : ∀ pc, Snd mt G 27 pc (j27 pc) := fun pc => (snd_br ((snd_br ((snd_br ((snd_br ((snd_br ((snd_lf n27_22)) ((snd_lf n27_21)))) ((snd_lf n27_20)))) ((snd_br ((snd_lf n27_19)) ((snd_lf n27_17)))))) ((snd_br ((snd_br ((snd_lf n27_16)) ((snd_lf n27_15)))) ((snd_br ((snd_lf n27_13)) ((snd_lf n27_10)))))))) ((snd_br ((snd_br ((snd_br ((snd_lf n27_9)) ((snd_lf n27_8)))) ((snd_br ((snd_lf n27_5)) ((snd_lf n27_4)))))) ((snd_br ((snd_br ((snd_lf n27_3)) ((snd_lf n27_2)))) ((snd_br ((snd_lf n27_1)) ((snd_lf n27_0)))))))))
end
section
variable {G : AG}
theorem n28_0 : Snd mt G 28 0 (oAload 2 1) := w_aload_n (hm := mm28) dX0_arrive_0
theorem n28_1 : Snd mt G 28 1 (oConst (.int 0) 2) := w_iconst (hm := mm28) dX0_arrive_1 rfl
theorem n28_2 : Snd mt G 28 2 (oAload 0 3) := w_aload_n (hm := mm28) dX0_arrive_2
theorem n28_3 : Snd mt G 28 3 (oIload 1 4) := w_iload_n (hm := mm28) dX0_arrive_3
theorem n28_4 : Snd mt G 28 4 (oCall 2 (fV [1] 138 3) 0 7 (xCatch [(34, 12)])) := s_callV (m' := 138) (n := 1) (xsh_catch _) (w_xokC mm28 (List.forall_mem_cons.mpr ⟨⟨33, _, 0, _, _, rfl, (Nat.le_of_ble_eq_true rfl), vc_33, rfl, rfl, (fun y hy => nomatch hy), by decide, by decide, q1683, List.mem_filter.mpr ⟨q1694, rfl⟩⟩, (fun y hy => nomatch hy)⟩)) (w_cal mm28 mm138 pn_X1 (Nat.le_of_ble_eq_true rfl) (Nat.le_of_ble_eq_true rfl)) (fun h b as hc hn => w_run_V (ci := 0) mm28 mm138 dX0_arrive_4 (Or.inl (List.mem_singleton.mp hc)) (Nat.le_of_ble_eq_true rfl) vc_0 rfl q2089 q2090 q2091 q129 q2092 pa138 hn)
theorem n28_7 : Snd mt G 28 7 (oUn (fun x => .long x.toInt64) 8) := w_i2l (hm := mm28) dX0_arrive_7
theorem n28_8 : Snd mt G 28 8 (oLast [102] 9) := w_lastore (hm := mm28) (kt := 2) dX0_arrive_8 at_2 (Nat.le_of_ble_eq_true rfl) (List.forall_mem_cons.mpr ⟨rfl, (fun t ht => nomatch ht)⟩)
theorem n28_9 : Snd mt G 28 9 (oGoto 15) := w_goto (hm := mm28) dX0_arrive_9 rfl
theorem n28_12 : Snd mt G 28 12 (oAstore 3 13) := w_astore_n (hm := mm28) dX0_arrive_12 (Nat.le_of_ble_eq_true rfl)
theorem n28_13 : Snd mt G 28 13 (oConst (.int 1) 14) := w_iconst (hm := mm28) dX0_arrive_13 rfl
theorem n28_14 : Snd mt G 28 14 (oRetI .int) := w_iret (hm := mm28) dX0_arrive_14 rfl
theorem n28_15 : Snd mt G 28 15 (oConst (.int 0) 16) := w_iconst (hm := mm28) dX0_arrive_15 rfl
theorem n28_16 : Snd mt G 28 16 (oRetI .int) := w_iret (hm := mm28) dX0_arrive_16 rfl
theorem sj28 : ∀ pc, Snd mt G 28 pc (j28 pc) := fun pc => (snd_br ((snd_br ((snd_br ((snd_br ((snd_lf n28_16)) ((snd_lf n28_15)))) ((snd_br ((snd_lf n28_14)) ((snd_lf n28_13)))))) ((snd_br ((snd_br ((snd_lf n28_12)) ((snd_lf n28_9)))) ((snd_lf n28_8)))))) ((snd_br ((snd_br ((snd_br ((snd_lf n28_7)) ((snd_lf n28_4)))) ((snd_lf n28_3)))) ((snd_br ((snd_br ((snd_lf n28_2)) ((snd_lf n28_1)))) ((snd_lf n28_0)))))))
end
section
variable {G : AG}
theorem n29_0 : Snd mt G 29 0 (oAload 2 1) := w_aload_n (hm := mm29) dX0_lose_0
theorem n29_1 : Snd mt G 29 1 (oConst (.int 0) 2) := w_iconst (hm := mm29) dX0_lose_1 rfl
theorem n29_2 : Snd mt G 29 2 (oAload 0 3) := w_aload_n (hm := mm29) dX0_lose_2
theorem n29_3 : Snd mt G 29 3 (oIload 1 4) := w_iload_n (hm := mm29) dX0_lose_3
theorem n29_4 : Snd mt G 29 4 (oCall 2 (fV [1] 140 3) 0 7 (xCatch [(34, 12)])) := s_callV (m' := 140) (n := 1) (xsh_catch _) (w_xokC mm29 (List.forall_mem_cons.mpr ⟨⟨33, _, 0, _, _, rfl, (Nat.le_of_ble_eq_true rfl), vc_33, rfl, rfl, (fun y hy => nomatch hy), by decide, by decide, q1683, List.mem_filter.mpr ⟨q1694, rfl⟩⟩, (fun y hy => nomatch hy)⟩)) (w_cal mm29 mm140 pn_X1 (Nat.le_of_ble_eq_true rfl) (Nat.le_of_ble_eq_true rfl)) (fun h b as hc hn => w_run_V (ci := 0) mm29 mm140 dX0_lose_4 (Or.inl (List.mem_singleton.mp hc)) (Nat.le_of_ble_eq_true rfl) vc_0 rfl q2116 q2117 q2118 q129 q2119 pa140 hn)
theorem n29_7 : Snd mt G 29 7 (oUn (fun x => .long x.toInt64) 8) := w_i2l (hm := mm29) dX0_lose_7
theorem n29_8 : Snd mt G 29 8 (oLast [102] 9) := w_lastore (hm := mm29) (kt := 2) dX0_lose_8 at_2 (Nat.le_of_ble_eq_true rfl) (List.forall_mem_cons.mpr ⟨rfl, (fun t ht => nomatch ht)⟩)
theorem n29_9 : Snd mt G 29 9 (oGoto 15) := w_goto (hm := mm29) dX0_lose_9 rfl
theorem n29_12 : Snd mt G 29 12 (oAstore 3 13) := w_astore_n (hm := mm29) dX0_lose_12 (Nat.le_of_ble_eq_true rfl)
theorem n29_13 : Snd mt G 29 13 (oConst (.int 1) 14) := w_iconst (hm := mm29) dX0_lose_13 rfl
theorem n29_14 : Snd mt G 29 14 (oRetI .int) := w_iret (hm := mm29) dX0_lose_14 rfl
theorem n29_15 : Snd mt G 29 15 (oConst (.int 0) 16) := w_iconst (hm := mm29) dX0_lose_15 rfl
theorem n29_16 : Snd mt G 29 16 (oRetI .int) := w_iret (hm := mm29) dX0_lose_16 rfl
theorem sj29 : ∀ pc, Snd mt G 29 pc (j29 pc) := fun pc => (snd_br ((snd_br ((snd_br ((snd_br ((snd_lf n29_16)) ((snd_lf n29_15)))) ((snd_br ((snd_lf n29_14)) ((snd_lf n29_13)))))) ((snd_br ((snd_br ((snd_lf n29_12)) ((snd_lf n29_9)))) ((snd_lf n29_8)))))) ((snd_br ((snd_br ((snd_br ((snd_lf n29_7)) ((snd_lf n29_4)))) ((snd_lf n29_3)))) ((snd_br ((snd_br ((snd_lf n29_2)) ((snd_lf n29_1)))) ((snd_lf n29_0)))))))
end
section
variable {G : AG}
theorem n30_0 : Snd mt G 30 0 (oAload 3 1) := w_aload_n (hm := mm30) dX0_forecast_0
theorem n30_1 : Snd mt G 30 1 (oConst (.int 0) 2) := w_iconst (hm := mm30) dX0_forecast_1 rfl
theorem n30_2 : Snd mt G 30 2 (oAload 0 3) := w_aload_n (hm := mm30) dX0_forecast_2
theorem n30_3 : Snd mt G 30 3 (oIload 1 4) := w_iload_n (hm := mm30) dX0_forecast_3
theorem n30_4 : Snd mt G 30 4 (oIload 2 5) := w_iload_n (hm := mm30) dX0_forecast_4
theorem n30_5 : Snd mt G 30 5 (oCall 3 (fV [1] 141 5) 0 8 (xCatch [(34, 13)])) := s_callV (m' := 141) (n := 2) (xsh_catch _) (w_xokC mm30 (List.forall_mem_cons.mpr ⟨⟨33, _, 0, _, _, rfl, (Nat.le_of_ble_eq_true rfl), vc_33, rfl, rfl, (fun y hy => nomatch hy), by decide, by decide, q1683, List.mem_filter.mpr ⟨q1694, rfl⟩⟩, (fun y hy => nomatch hy)⟩)) (w_cal mm30 mm141 pn_X1 (Nat.le_of_ble_eq_true rfl) (Nat.le_of_ble_eq_true rfl)) (fun h b as hc hn => w_run_V (ci := 0) mm30 mm141 dX0_forecast_5 (Or.inl (List.mem_singleton.mp hc)) (Nat.le_of_ble_eq_true rfl) vc_0 rfl q2123 q2124 q2125 q129 q2126 pa141 hn)
theorem n30_8 : Snd mt G 30 8 (oUn (fun x => .long x.toInt64) 9) := w_i2l (hm := mm30) dX0_forecast_8
theorem n30_9 : Snd mt G 30 9 (oLast [102] 10) := w_lastore (hm := mm30) (kt := 2) dX0_forecast_9 at_2 (Nat.le_of_ble_eq_true rfl) (List.forall_mem_cons.mpr ⟨rfl, (fun t ht => nomatch ht)⟩)
theorem n30_10 : Snd mt G 30 10 (oGoto 17) := w_goto (hm := mm30) dX0_forecast_10 rfl
theorem n30_13 : Snd mt G 30 13 (oAstore 4 15) := w_astore (hm := mm30) dX0_forecast_13 (Nat.le_of_ble_eq_true rfl)
theorem n30_15 : Snd mt G 30 15 (oConst (.int 1) 16) := w_iconst (hm := mm30) dX0_forecast_15 rfl
theorem n30_16 : Snd mt G 30 16 (oRetI .int) := w_iret (hm := mm30) dX0_forecast_16 rfl
theorem n30_17 : Snd mt G 30 17 (oConst (.int 0) 18) := w_iconst (hm := mm30) dX0_forecast_17 rfl
theorem n30_18 : Snd mt G 30 18 (oRetI .int) := w_iret (hm := mm30) dX0_forecast_18 rfl
theorem sj30 : ∀ pc, Snd mt G 30 pc (j30 pc) := fun pc => (snd_br ((snd_br ((snd_br ((snd_br ((snd_lf n30_18)) ((snd_lf n30_17)))) ((snd_br ((snd_lf n30_16)) ((snd_lf n30_15)))))) ((snd_br ((snd_br ((snd_lf n30_13)) ((snd_lf n30_10)))) ((snd_lf n30_9)))))) ((snd_br ((snd_br ((snd_br ((snd_lf n30_8)) ((snd_lf n30_5)))) ((snd_br ((snd_lf n30_4)) ((snd_lf n30_3)))))) ((snd_br ((snd_br ((snd_lf n30_2)) ((snd_lf n30_1)))) ((snd_lf n30_0)))))))
end
section
variable {G : AG}
theorem n31_0 : Snd mt G 31 0 (oAload 3 1) := w_aload_n (hm := mm31) dX0_late_0
theorem n31_1 : Snd mt G 31 1 (oConst (.int 0) 2) := w_iconst (hm := mm31) dX0_late_1 rfl
theorem n31_2 : Snd mt G 31 2 (oAload 0 3) := w_aload_n (hm := mm31) dX0_late_2
theorem n31_3 : Snd mt G 31 3 (oIload 1 4) := w_iload_n (hm := mm31) dX0_late_3
theorem n31_4 : Snd mt G 31 4 (oIload 2 5) := w_iload_n (hm := mm31) dX0_late_4
theorem n31_5 : Snd mt G 31 5 (oCall 3 (fV [1] 142 6) 0 8 (xCatch [(32, 17), (34, 13)])) := s_callV (m' := 142) (n := 2) (xsh_catch _) (w_xokC mm31 (List.forall_mem_cons.mpr ⟨⟨31, _, 1, _, _, rfl, (Nat.le_of_ble_eq_true rfl), vc_31, rfl, rfl, (List.forall_mem_cons.mpr ⟨Or.inr ⟨by decide, _, q1683, by decide⟩, (fun y hy => nomatch hy)⟩), by decide, by decide, q1171, List.mem_filter.mpr ⟨q215, rfl⟩⟩, (List.forall_mem_cons.mpr ⟨⟨33, _, 0, _, _, rfl, (Nat.le_of_ble_eq_true rfl), vc_33, rfl, rfl, (fun y hy => nomatch hy), by decide, by decide, q1683, List.mem_filter.mpr ⟨q1694, rfl⟩⟩, (fun y hy => nomatch hy)⟩)⟩)) (w_cal mm31 mm142 pn_X1 (Nat.le_of_ble_eq_true rfl) (Nat.le_of_ble_eq_true rfl)) (fun h b as hc hn => w_run_V (ci := 0) mm31 mm142 dX0_late_5 (Or.inl (List.mem_singleton.mp hc)) (Nat.le_of_ble_eq_true rfl) vc_0 rfl q2130 q2131 q2132 q129 q2133 pa142 hn)
theorem n31_8 : Snd mt G 31 8 (oUn (fun x => .long x.toInt64) 9) := w_i2l (hm := mm31) dX0_late_8
theorem n31_9 : Snd mt G 31 9 (oLast [102] 10) := w_lastore (hm := mm31) (kt := 2) dX0_late_9 at_2 (Nat.le_of_ble_eq_true rfl) (List.forall_mem_cons.mpr ⟨rfl, (fun t ht => nomatch ht)⟩)
theorem n31_10 : Snd mt G 31 10 (oGoto 21) := w_goto (hm := mm31) dX0_late_10 rfl
theorem n31_13 : Snd mt G 31 13 (oAstore 4 15) := w_astore (hm := mm31) dX0_late_13 (Nat.le_of_ble_eq_true rfl)
theorem n31_15 : Snd mt G 31 15 (oConst (.int 1) 16) := w_iconst (hm := mm31) dX0_late_15 rfl
theorem n31_16 : Snd mt G 31 16 (oRetI .int) := w_iret (hm := mm31) dX0_late_16 rfl
theorem n31_17 : Snd mt G 31 17 (oAstore 4 19) := w_astore (hm := mm31) dX0_late_17 (Nat.le_of_ble_eq_true rfl)
theorem n31_19 : Snd mt G 31 19 (oConst (.int 2) 20) := w_iconst (hm := mm31) dX0_late_19 rfl
theorem n31_20 : Snd mt G 31 20 (oRetI .int) := w_iret (hm := mm31) dX0_late_20 rfl
theorem n31_21 : Snd mt G 31 21 (oConst (.int 0) 22) := w_iconst (hm := mm31) dX0_late_21 rfl
theorem n31_22 : Snd mt G 31 22 (oRetI .int) := w_iret (hm := mm31) dX0_late_22 rfl
theorem sj31 : ∀ pc, Snd mt G 31 pc (j31 pc) := fun pc => (snd_br ((snd_br ((snd_br ((snd_br ((snd_br ((snd_lf n31_22)) ((snd_lf n31_21)))) ((snd_lf n31_20)))) ((snd_br ((snd_lf n31_19)) ((snd_lf n31_17)))))) ((snd_br ((snd_br ((snd_lf n31_16)) ((snd_lf n31_15)))) ((snd_br ((snd_lf n31_13)) ((snd_lf n31_10)))))))) ((snd_br ((snd_br ((snd_br ((snd_lf n31_9)) ((snd_lf n31_8)))) ((snd_br ((snd_lf n31_5)) ((snd_lf n31_4)))))) ((snd_br ((snd_br ((snd_lf n31_3)) ((snd_lf n31_2)))) ((snd_br ((snd_lf n31_1)) ((snd_lf n31_0)))))))))
end
section
variable {G : AG}
theorem n32_0 : Snd mt G 32 0 (oAload 2 1) := w_aload_n (hm := mm32) dX0_stock_0
theorem n32_1 : Snd mt G 32 1 (oConst (.int 0) 2) := w_iconst (hm := mm32) dX0_stock_1 rfl
theorem n32_2 : Snd mt G 32 2 (oAload 0 3) := w_aload_n (hm := mm32) dX0_stock_2
theorem n32_3 : Snd mt G 32 3 (oIload 1 4) := w_iload_n (hm := mm32) dX0_stock_3
theorem n32_4 : Snd mt G 32 4 (oCall 2 (fV [1] 143 2) 0 7 (xCatch [(35, 12)])) := s_callV (m' := 143) (n := 1) (xsh_catch _) (w_xokC mm32 (List.forall_mem_cons.mpr ⟨⟨34, _, 0, _, _, rfl, (Nat.le_of_ble_eq_true rfl), vc_34, rfl, rfl, (fun y hy => nomatch hy), by decide, by decide, q1740, List.mem_filter.mpr ⟨q1769, rfl⟩⟩, (fun y hy => nomatch hy)⟩)) (w_cal mm32 mm143 pn_X1 (Nat.le_of_ble_eq_true rfl) (Nat.le_of_ble_eq_true rfl)) (fun h b as hc hn => w_run_V (ci := 0) mm32 mm143 dX0_stock_4 (Or.inl (List.mem_singleton.mp hc)) (Nat.le_of_ble_eq_true rfl) vc_0 rfl q2137 q2138 q2139 q129 q2140 pa143 hn)
theorem n32_7 : Snd mt G 32 7 (oUn (fun x => .long x.toInt64) 8) := w_i2l (hm := mm32) dX0_stock_7
theorem n32_8 : Snd mt G 32 8 (oLast [102] 9) := w_lastore (hm := mm32) (kt := 2) dX0_stock_8 at_2 (Nat.le_of_ble_eq_true rfl) (List.forall_mem_cons.mpr ⟨rfl, (fun t ht => nomatch ht)⟩)
theorem n32_9 : Snd mt G 32 9 (oGoto 15) := w_goto (hm := mm32) dX0_stock_9 rfl
theorem n32_12 : Snd mt G 32 12 (oAstore 3 13) := w_astore_n (hm := mm32) dX0_stock_12 (Nat.le_of_ble_eq_true rfl)
theorem n32_13 : Snd mt G 32 13 (oConst (.int 1) 14) := w_iconst (hm := mm32) dX0_stock_13 rfl
theorem n32_14 : Snd mt G 32 14 (oRetI .int) := w_iret (hm := mm32) dX0_stock_14 rfl
theorem n32_15 : Snd mt G 32 15 (oConst (.int 0) 16) := w_iconst (hm := mm32) dX0_stock_15 rfl
theorem n32_16 : Snd mt G 32 16 (oRetI .int) := w_iret (hm := mm32) dX0_stock_16 rfl
theorem sj32 : ∀ pc, Snd mt G 32 pc (j32 pc) := fun pc => (snd_br ((snd_br ((snd_br ((snd_br ((snd_lf n32_16)) ((snd_lf n32_15)))) ((snd_br ((snd_lf n32_14)) ((snd_lf n32_13)))))) ((snd_br ((snd_br ((snd_lf n32_12)) ((snd_lf n32_9)))) ((snd_lf n32_8)))))) ((snd_br ((snd_br ((snd_br ((snd_lf n32_7)) ((snd_lf n32_4)))) ((snd_lf n32_3)))) ((snd_br ((snd_br ((snd_lf n32_2)) ((snd_lf n32_1)))) ((snd_lf n32_0)))))))
end
section
variable {G : AG}
theorem n33_0 : Snd mt G 33 0 (oAload 2 1) := w_aload_n (hm := mm33) dX0_spare_0
theorem n33_1 : Snd mt G 33 1 (oConst (.int 0) 2) := w_iconst (hm := mm33) dX0_spare_1 rfl
theorem n33_2 : Snd mt G 33 2 (oAload 0 3) := w_aload_n (hm := mm33) dX0_spare_2
theorem n33_3 : Snd mt G 33 3 (oIload 1 4) := w_iload_n (hm := mm33) dX0_spare_3
theorem n33_4 : Snd mt G 33 4 (oCall 2 (fV [1] 144 2) 0 7 (xCatch [(35, 12)])) := s_callV (m' := 144) (n := 1) (xsh_catch _) (w_xokC mm33 (List.forall_mem_cons.mpr ⟨⟨34, _, 0, _, _, rfl, (Nat.le_of_ble_eq_true rfl), vc_34, rfl, rfl, (fun y hy => nomatch hy), by decide, by decide, q1740, List.mem_filter.mpr ⟨q1769, rfl⟩⟩, (fun y hy => nomatch hy)⟩)) (w_cal mm33 mm144 pn_X1 (Nat.le_of_ble_eq_true rfl) (Nat.le_of_ble_eq_true rfl)) (fun h b as hc hn => w_run_V (ci := 0) mm33 mm144 dX0_spare_4 (Or.inl (List.mem_singleton.mp hc)) (Nat.le_of_ble_eq_true rfl) vc_0 rfl q2144 q2145 q2146 q129 q2147 pa144 hn)
theorem n33_7 : Snd mt G 33 7 (oUn (fun x => .long x.toInt64) 8) := w_i2l (hm := mm33) dX0_spare_7
theorem n33_8 : Snd mt G 33 8 (oLast [102] 9) := w_lastore (hm := mm33) (kt := 2) dX0_spare_8 at_2 (Nat.le_of_ble_eq_true rfl) (List.forall_mem_cons.mpr ⟨rfl, (fun t ht => nomatch ht)⟩)
theorem n33_9 : Snd mt G 33 9 (oGoto 15) := w_goto (hm := mm33) dX0_spare_9 rfl
theorem n33_12 : Snd mt G 33 12 (oAstore 3 13) := w_astore_n (hm := mm33) dX0_spare_12 (Nat.le_of_ble_eq_true rfl)
theorem n33_13 : Snd mt G 33 13 (oConst (.int 1) 14) := w_iconst (hm := mm33) dX0_spare_13 rfl
theorem n33_14 : Snd mt G 33 14 (oRetI .int) := w_iret (hm := mm33) dX0_spare_14 rfl
theorem n33_15 : Snd mt G 33 15 (oConst (.int 0) 16) := w_iconst (hm := mm33) dX0_spare_15 rfl
theorem n33_16 : Snd mt G 33 16 (oRetI .int) := w_iret (hm := mm33) dX0_spare_16 rfl
theorem sj33 : ∀ pc, Snd mt G 33 pc (j33 pc) := fun pc => (snd_br ((snd_br ((snd_br ((snd_br ((snd_lf n33_16)) ((snd_lf n33_15)))) ((snd_br ((snd_lf n33_14)) ((snd_lf n33_13)))))) ((snd_br ((snd_br ((snd_lf n33_12)) ((snd_lf n33_9)))) ((snd_lf n33_8)))))) ((snd_br ((snd_br ((snd_br ((snd_lf n33_7)) ((snd_lf n33_4)))) ((snd_lf n33_3)))) ((snd_br ((snd_br ((snd_lf n33_2)) ((snd_lf n33_1)))) ((snd_lf n33_0)))))))
end
section
variable {G : AG}
theorem n34_0 : Snd mt G 34 0 (oAload 2 1) := w_aload_n (hm := mm34) dX0_lent_0
theorem n34_1 : Snd mt G 34 1 (oConst (.int 0) 2) := w_iconst (hm := mm34) dX0_lent_1 rfl
theorem n34_2 : Snd mt G 34 2 (oAload 0 3) := w_aload_n (hm := mm34) dX0_lent_2
theorem n34_3 : Snd mt G 34 3 (oIload 1 4) := w_iload_n (hm := mm34) dX0_lent_3
theorem n34_4 : Snd mt G 34 4 (oCall 2 (fV [1] 145 2) 0 7 (xCatch [(34, 12)])) := s_callV (m' := 145) (n := 1) (xsh_catch _) (w_xokC mm34 (List.forall_mem_cons.mpr ⟨⟨33, _, 0, _, _, rfl, (Nat.le_of_ble_eq_true rfl), vc_33, rfl, rfl, (fun y hy => nomatch hy), by decide, by decide, q1683, List.mem_filter.mpr ⟨q1694, rfl⟩⟩, (fun y hy => nomatch hy)⟩)) (w_cal mm34 mm145 pn_X1 (Nat.le_of_ble_eq_true rfl) (Nat.le_of_ble_eq_true rfl)) (fun h b as hc hn => w_run_V (ci := 0) mm34 mm145 dX0_lent_4 (Or.inl (List.mem_singleton.mp hc)) (Nat.le_of_ble_eq_true rfl) vc_0 rfl q2151 q2152 q2153 q129 q2154 pa145 hn)
theorem n34_7 : Snd mt G 34 7 (oUn (fun x => .long x.toInt64) 8) := w_i2l (hm := mm34) dX0_lent_7
theorem n34_8 : Snd mt G 34 8 (oLast [102] 9) := w_lastore (hm := mm34) (kt := 2) dX0_lent_8 at_2 (Nat.le_of_ble_eq_true rfl) (List.forall_mem_cons.mpr ⟨rfl, (fun t ht => nomatch ht)⟩)
theorem n34_9 : Snd mt G 34 9 (oGoto 15) := w_goto (hm := mm34) dX0_lent_9 rfl
theorem n34_12 : Snd mt G 34 12 (oAstore 3 13) := w_astore_n (hm := mm34) dX0_lent_12 (Nat.le_of_ble_eq_true rfl)
theorem n34_13 : Snd mt G 34 13 (oConst (.int 1) 14) := w_iconst (hm := mm34) dX0_lent_13 rfl
theorem n34_14 : Snd mt G 34 14 (oRetI .int) := w_iret (hm := mm34) dX0_lent_14 rfl
theorem n34_15 : Snd mt G 34 15 (oConst (.int 0) 16) := w_iconst (hm := mm34) dX0_lent_15 rfl
theorem n34_16 : Snd mt G 34 16 (oRetI .int) := w_iret (hm := mm34) dX0_lent_16 rfl
theorem sj34 : ∀ pc, Snd mt G 34 pc (j34 pc) := fun pc => (snd_br ((snd_br ((snd_br ((snd_br ((snd_lf n34_16)) ((snd_lf n34_15)))) ((snd_br ((snd_lf n34_14)) ((snd_lf n34_13)))))) ((snd_br ((snd_br ((snd_lf n34_12)) ((snd_lf n34_9)))) ((snd_lf n34_8)))))) ((snd_br ((snd_br ((snd_br ((snd_lf n34_7)) ((snd_lf n34_4)))) ((snd_lf n34_3)))) ((snd_br ((snd_br ((snd_lf n34_2)) ((snd_lf n34_1)))) ((snd_lf n34_0)))))))
end
section
variable {G : AG}
theorem n35_0 : Snd mt G 35 0 (oAload 4 2) := w_aload (hm := mm35) dX0_recall_0
theorem n35_2 : Snd mt G 35 2 (oConst (.int 0) 3) := w_iconst (hm := mm35) dX0_recall_2 rfl
theorem n35_3 : Snd mt G 35 3 (oAload 0 4) := w_aload_n (hm := mm35) dX0_recall_3
theorem n35_4 : Snd mt G 35 4 (oIload 1 5) := w_iload_n (hm := mm35) dX0_recall_4
theorem n35_5 : Snd mt G 35 5 (oIload 2 6) := w_iload_n (hm := mm35) dX0_recall_5
theorem n35_6 : Snd mt G 35 6 (oIload 3 7) := w_iload_n (hm := mm35) dX0_recall_6
theorem n35_7 : Snd mt G 35 7 (oCall 4 (fV [1] 146 8) 0 10 (xCatch [(32, 19), (35, 15)])) := s_callV (m' := 146) (n := 3) (xsh_catch _) (w_xokC mm35 (List.forall_mem_cons.mpr ⟨⟨31, _, 1, _, _, rfl, (Nat.le_of_ble_eq_true rfl), vc_31, rfl, rfl, (List.forall_mem_cons.mpr ⟨Or.inr ⟨by decide, _, q1740, by decide⟩, (fun y hy => nomatch hy)⟩), by decide, by decide, q1171, List.mem_filter.mpr ⟨q215, rfl⟩⟩, (List.forall_mem_cons.mpr ⟨⟨34, _, 0, _, _, rfl, (Nat.le_of_ble_eq_true rfl), vc_34, rfl, rfl, (fun y hy => nomatch hy), by decide, by decide, q1740, List.mem_filter.mpr ⟨q1769, rfl⟩⟩, (fun y hy => nomatch hy)⟩)⟩)) (w_cal mm35 mm146 pn_X1 (Nat.le_of_ble_eq_true rfl) (Nat.le_of_ble_eq_true rfl)) (fun h b as hc hn => w_run_V (ci := 0) mm35 mm146 dX0_recall_7 (Or.inl (List.mem_singleton.mp hc)) (Nat.le_of_ble_eq_true rfl) vc_0 rfl q2158 q2159 q2160 q129 q2161 pa146 hn)
theorem n35_10 : Snd mt G 35 10 (oUn (fun x => .long x.toInt64) 11) := w_i2l (hm := mm35) dX0_recall_10
theorem n35_11 : Snd mt G 35 11 (oLast [102] 12) := w_lastore (hm := mm35) (kt := 2) dX0_recall_11 at_2 (Nat.le_of_ble_eq_true rfl) (List.forall_mem_cons.mpr ⟨rfl, (fun t ht => nomatch ht)⟩)
theorem n35_12 : Snd mt G 35 12 (oGoto 23) := w_goto (hm := mm35) dX0_recall_12 rfl
theorem n35_15 : Snd mt G 35 15 (oAstore 5 17) := w_astore (hm := mm35) dX0_recall_15 (Nat.le_of_ble_eq_true rfl)
theorem n35_17 : Snd mt G 35 17 (oConst (.int 1) 18) := w_iconst (hm := mm35) dX0_recall_17 rfl
theorem n35_18 : Snd mt G 35 18 (oRetI .int) := w_iret (hm := mm35) dX0_recall_18 rfl
theorem n35_19 : Snd mt G 35 19 (oAstore 5 21) := w_astore (hm := mm35) dX0_recall_19 (Nat.le_of_ble_eq_true rfl)
theorem n35_21 : Snd mt G 35 21 (oConst (.int 2) 22) := w_iconst (hm := mm35) dX0_recall_21 rfl
theorem n35_22 : Snd mt G 35 22 (oRetI .int) := w_iret (hm := mm35) dX0_recall_22 rfl
theorem n35_23 : Snd mt G 35 23 (oConst (.int 0) 24) := w_iconst (hm := mm35) dX0_recall_23 rfl
theorem n35_24 : Snd mt G 35 24 (oRetI .int) := w_iret (hm := mm35) dX0_recall_24 rfl
theorem sj35 : ∀ pc, Snd mt G 35 pc (j35 pc) := fun pc => (snd_br ((snd_br ((snd_br ((snd_br ((snd_br ((snd_lf n35_24)) ((snd_lf n35_23)))) ((snd_lf n35_22)))) ((snd_br ((snd_lf n35_21)) ((snd_lf n35_19)))))) ((snd_br ((snd_br ((snd_lf n35_18)) ((snd_lf n35_17)))) ((snd_br ((snd_lf n35_15)) ((snd_lf n35_12)))))))) ((snd_br ((snd_br ((snd_br ((snd_br ((snd_lf n35_11)) ((snd_lf n35_10)))) ((snd_lf n35_7)))) ((snd_br ((snd_lf n35_6)) ((snd_lf n35_5)))))) ((snd_br ((snd_br ((snd_lf n35_4)) ((snd_lf n35_3)))) ((snd_br ((snd_lf n35_2)) ((snd_lf n35_0)))))))))
end
section
variable {G : AG}
theorem n36_0 : Snd mt G 36 0 (oAload 3 1) := w_aload_n (hm := mm36) dX0_seen_0
theorem n36_1 : Snd mt G 36 1 (oConst (.int 0) 2) := w_iconst (hm := mm36) dX0_seen_1 rfl
theorem n36_2 : Snd mt G 36 2 (oAload 0 3) := w_aload_n (hm := mm36) dX0_seen_2
theorem n36_3 : Snd mt G 36 3 (oIload 1 4) := w_iload_n (hm := mm36) dX0_seen_3
theorem n36_4 : Snd mt G 36 4 (oIload 2 5) := w_iload_n (hm := mm36) dX0_seen_4
theorem n36_5 : Snd mt G 36 5 (oCall 3 (fV [1] 147 8) 0 8 (xCatch [(32, 17), (34, 13)])) := s_callV (m' := 147) (n := 2) (xsh_catch _) (w_xokC mm36 (List.forall_mem_cons.mpr ⟨⟨31, _, 1, _, _, rfl, (Nat.le_of_ble_eq_true rfl), vc_31, rfl, rfl, (List.forall_mem_cons.mpr ⟨Or.inr ⟨by decide, _, q1683, by decide⟩, (fun y hy => nomatch hy)⟩), by decide, by decide, q1171, List.mem_filter.mpr ⟨q215, rfl⟩⟩, (List.forall_mem_cons.mpr ⟨⟨33, _, 0, _, _, rfl, (Nat.le_of_ble_eq_true rfl), vc_33, rfl, rfl, (fun y hy => nomatch hy), by decide, by decide, q1683, List.mem_filter.mpr ⟨q1694, rfl⟩⟩, (fun y hy => nomatch hy)⟩)⟩)) (w_cal mm36 mm147 pn_X1 (Nat.le_of_ble_eq_true rfl) (Nat.le_of_ble_eq_true rfl)) (fun h b as hc hn => w_run_V (ci := 0) mm36 mm147 dX0_seen_5 (Or.inl (List.mem_singleton.mp hc)) (Nat.le_of_ble_eq_true rfl) vc_0 rfl q2165 q2166 q2167 q129 q2168 pa147 hn)
theorem n36_8 : Snd mt G 36 8 (oUn (fun x => .long x.toInt64) 9) := w_i2l (hm := mm36) dX0_seen_8
theorem n36_9 : Snd mt G 36 9 (oLast [102] 10) := w_lastore (hm := mm36) (kt := 2) dX0_seen_9 at_2 (Nat.le_of_ble_eq_true rfl) (List.forall_mem_cons.mpr ⟨rfl, (fun t ht => nomatch ht)⟩)
theorem n36_10 : Snd mt G 36 10 (oGoto 21) := w_goto (hm := mm36) dX0_seen_10 rfl
theorem n36_13 : Snd mt G 36 13 (oAstore 4 15) := w_astore (hm := mm36) dX0_seen_13 (Nat.le_of_ble_eq_true rfl)
theorem n36_15 : Snd mt G 36 15 (oConst (.int 1) 16) := w_iconst (hm := mm36) dX0_seen_15 rfl
theorem n36_16 : Snd mt G 36 16 (oRetI .int) := w_iret (hm := mm36) dX0_seen_16 rfl
theorem n36_17 : Snd mt G 36 17 (oAstore 4 19) := w_astore (hm := mm36) dX0_seen_17 (Nat.le_of_ble_eq_true rfl)
theorem n36_19 : Snd mt G 36 19 (oConst (.int 2) 20) := w_iconst (hm := mm36) dX0_seen_19 rfl
theorem n36_20 : Snd mt G 36 20 (oRetI .int) := w_iret (hm := mm36) dX0_seen_20 rfl
theorem n36_21 : Snd mt G 36 21 (oConst (.int 0) 22) := w_iconst (hm := mm36) dX0_seen_21 rfl
theorem n36_22 : Snd mt G 36 22 (oRetI .int) := w_iret (hm := mm36) dX0_seen_22 rfl
theorem sj36 : ∀ pc, Snd mt G 36 pc (j36 pc) := fun pc => (snd_br ((snd_br ((snd_br ((snd_br ((snd_br ((snd_lf n36_22)) ((snd_lf n36_21)))) ((snd_lf n36_20)))) ((snd_br ((snd_lf n36_19)) ((snd_lf n36_17)))))) ((snd_br ((snd_br ((snd_lf n36_16)) ((snd_lf n36_15)))) ((snd_br ((snd_lf n36_13)) ((snd_lf n36_10)))))))) ((snd_br ((snd_br ((snd_br ((snd_lf n36_9)) ((snd_lf n36_8)))) ((snd_br ((snd_lf n36_5)) ((snd_lf n36_4)))))) ((snd_br ((snd_br ((snd_lf n36_3)) ((snd_lf n36_2)))) ((snd_br ((snd_lf n36_1)) ((snd_lf n36_0)))))))))
end
section
variable {G : AG}
theorem n37_0 : Snd mt G 37 0 (oAload 4 2) := w_aload (hm := mm37) dX0_measure_0
theorem n37_2 : Snd mt G 37 2 (oConst (.int 0) 3) := w_iconst (hm := mm37) dX0_measure_2 rfl
theorem n37_3 : Snd mt G 37 3 (oAload 0 4) := w_aload_n (hm := mm37) dX0_measure_3
theorem n37_4 : Snd mt G 37 4 (oIload 1 5) := w_iload_n (hm := mm37) dX0_measure_4
theorem n37_5 : Snd mt G 37 5 (oIload 2 6) := w_iload_n (hm := mm37) dX0_measure_5
theorem n37_6 : Snd mt G 37 6 (oIload 3 7) := w_iload_n (hm := mm37) dX0_measure_6
theorem n37_7 : Snd mt G 37 7 (oCall 4 (fV [1] 148 5) 0 10 (xCatch [(32, 19), (34, 15)])) := s_callV (m' := 148) (n := 3) (xsh_catch _) (w_xokC mm37 (List.forall_mem_cons.mpr ⟨⟨31, _, 1, _, _, rfl, (Nat.le_of_ble_eq_true rfl), vc_31, rfl, rfl, (List.forall_mem_cons.mpr ⟨Or.inr ⟨by decide, _, q1683, by decide⟩, (fun y hy => nomatch hy)⟩), by decide, by decide, q1171, List.mem_filter.mpr ⟨q215, rfl⟩⟩, (List.forall_mem_cons.mpr ⟨⟨33, _, 0, _, _, rfl, (Nat.le_of_ble_eq_true rfl), vc_33, rfl, rfl, (fun y hy => nomatch hy), by decide, by decide, q1683, List.mem_filter.mpr ⟨q1694, rfl⟩⟩, (fun y hy => nomatch hy)⟩)⟩)) (w_cal mm37 mm148 pn_X1 (Nat.le_of_ble_eq_true rfl) (Nat.le_of_ble_eq_true rfl)) (fun h b as hc hn => w_run_V (ci := 0) mm37 mm148 dX0_measure_7 (Or.inl (List.mem_singleton.mp hc)) (Nat.le_of_ble_eq_true rfl) vc_0 rfl q2172 q2173 q2174 q129 q2175 pa148 hn)
theorem n37_10 : Snd mt G 37 10 (oUn (fun x => .long x.toInt64) 11) := w_i2l (hm := mm37) dX0_measure_10
theorem n37_11 : Snd mt G 37 11 (oLast [102] 12) := w_lastore (hm := mm37) (kt := 2) dX0_measure_11 at_2 (Nat.le_of_ble_eq_true rfl) (List.forall_mem_cons.mpr ⟨rfl, (fun t ht => nomatch ht)⟩)
theorem n37_12 : Snd mt G 37 12 (oGoto 23) := w_goto (hm := mm37) dX0_measure_12 rfl
theorem n37_15 : Snd mt G 37 15 (oAstore 5 17) := w_astore (hm := mm37) dX0_measure_15 (Nat.le_of_ble_eq_true rfl)
theorem n37_17 : Snd mt G 37 17 (oConst (.int 1) 18) := w_iconst (hm := mm37) dX0_measure_17 rfl
theorem n37_18 : Snd mt G 37 18 (oRetI .int) := w_iret (hm := mm37) dX0_measure_18 rfl
theorem n37_19 : Snd mt G 37 19 (oAstore 5 21) := w_astore (hm := mm37) dX0_measure_19 (Nat.le_of_ble_eq_true rfl)
theorem n37_21 : Snd mt G 37 21 (oConst (.int 2) 22) := w_iconst (hm := mm37) dX0_measure_21 rfl
theorem n37_22 : Snd mt G 37 22 (oRetI .int) := w_iret (hm := mm37) dX0_measure_22 rfl
theorem n37_23 : Snd mt G 37 23 (oConst (.int 0) 24) := w_iconst (hm := mm37) dX0_measure_23 rfl
theorem n37_24 : Snd mt G 37 24 (oRetI .int) := w_iret (hm := mm37) dX0_measure_24 rfl
theorem sj37 : ∀ pc, Snd mt G 37 pc (j37 pc) := fun pc => (snd_br ((snd_br ((snd_br ((snd_br ((snd_br ((snd_lf n37_24)) ((snd_lf n37_23)))) ((snd_lf n37_22)))) ((snd_br ((snd_lf n37_21)) ((snd_lf n37_19)))))) ((snd_br ((snd_br ((snd_lf n37_18)) ((snd_lf n37_17)))) ((snd_br ((snd_lf n37_15)) ((snd_lf n37_12)))))))) ((snd_br ((snd_br ((snd_br ((snd_br ((snd_lf n37_11)) ((snd_lf n37_10)))) ((snd_lf n37_7)))) ((snd_br ((snd_lf n37_6)) ((snd_lf n37_5)))))) ((snd_br ((snd_br ((snd_lf n37_4)) ((snd_lf n37_3)))) ((snd_br ((snd_lf n37_2)) ((snd_lf n37_0)))))))))
end
section
variable {G : AG}
theorem n38_0 : Snd mt G 38 0 (oAload 3 1) := w_aload_n (hm := mm38) dX0_growth_0
theorem n38_1 : Snd mt G 38 1 (oConst (.int 0) 2) := w_iconst (hm := mm38) dX0_growth_1 rfl
theorem n38_2 : Snd mt G 38 2 (oAload 0 3) := w_aload_n (hm := mm38) dX0_growth_2
theorem n38_3 : Snd mt G 38 3 (oIload 1 4) := w_iload_n (hm := mm38) dX0_growth_3
theorem n38_4 : Snd mt G 38 4 (oIload 2 5) := w_iload_n (hm := mm38) dX0_growth_4
theorem n38_5 : Snd mt G 38 5 (oCall 3 (fV [1] 150 4) 0 8 (xCatch [(32, 17), (34, 13)])) := s_callV (m' := 150) (n := 2) (xsh_catch _) (w_xokC mm38 (List.forall_mem_cons.mpr ⟨⟨31, _, 1, _, _, rfl, (Nat.le_of_ble_eq_true rfl), vc_31, rfl, rfl, (List.forall_mem_cons.mpr ⟨Or.inr ⟨by decide, _, q1683, by decide⟩, (fun y hy => nomatch hy)⟩), by decide, by decide, q1171, List.mem_filter.mpr ⟨q215, rfl⟩⟩, (List.forall_mem_cons.mpr ⟨⟨33, _, 0, _, _, rfl, (Nat.le_of_ble_eq_true rfl), vc_33, rfl, rfl, (fun y hy => nomatch hy), by decide, by decide, q1683, List.mem_filter.mpr ⟨q1694, rfl⟩⟩, (fun y hy => nomatch hy)⟩)⟩)) (w_cal mm38 mm150 pn_X1 (Nat.le_of_ble_eq_true rfl) (Nat.le_of_ble_eq_true rfl)) (fun h b as hc hn => w_run_V (ci := 0) mm38 mm150 dX0_growth_5 (Or.inl (List.mem_singleton.mp hc)) (Nat.le_of_ble_eq_true rfl) vc_0 rfl q2202 q2203 q2204 q129 q2205 pa150 hn)
theorem n38_8 : Snd mt G 38 8 (oUn (fun x => .long x.toInt64) 9) := w_i2l (hm := mm38) dX0_growth_8
theorem n38_9 : Snd mt G 38 9 (oLast [102] 10) := w_lastore (hm := mm38) (kt := 2) dX0_growth_9 at_2 (Nat.le_of_ble_eq_true rfl) (List.forall_mem_cons.mpr ⟨rfl, (fun t ht => nomatch ht)⟩)
theorem n38_10 : Snd mt G 38 10 (oGoto 21) := w_goto (hm := mm38) dX0_growth_10 rfl
theorem n38_13 : Snd mt G 38 13 (oAstore 4 15) := w_astore (hm := mm38) dX0_growth_13 (Nat.le_of_ble_eq_true rfl)
theorem n38_15 : Snd mt G 38 15 (oConst (.int 1) 16) := w_iconst (hm := mm38) dX0_growth_15 rfl
theorem n38_16 : Snd mt G 38 16 (oRetI .int) := w_iret (hm := mm38) dX0_growth_16 rfl
theorem n38_17 : Snd mt G 38 17 (oAstore 4 19) := w_astore (hm := mm38) dX0_growth_17 (Nat.le_of_ble_eq_true rfl)
theorem n38_19 : Snd mt G 38 19 (oConst (.int 2) 20) := w_iconst (hm := mm38) dX0_growth_19 rfl
theorem n38_20 : Snd mt G 38 20 (oRetI .int) := w_iret (hm := mm38) dX0_growth_20 rfl
theorem n38_21 : Snd mt G 38 21 (oConst (.int 0) 22) := w_iconst (hm := mm38) dX0_growth_21 rfl
theorem n38_22 : Snd mt G 38 22 (oRetI .int) := w_iret (hm := mm38) dX0_growth_22 rfl
theorem sj38 : ∀ pc, Snd mt G 38 pc (j38 pc) := fun pc => (snd_br ((snd_br ((snd_br ((snd_br ((snd_br ((snd_lf n38_22)) ((snd_lf n38_21)))) ((snd_lf n38_20)))) ((snd_br ((snd_lf n38_19)) ((snd_lf n38_17)))))) ((snd_br ((snd_br ((snd_lf n38_16)) ((snd_lf n38_15)))) ((snd_br ((snd_lf n38_13)) ((snd_lf n38_10)))))))) ((snd_br ((snd_br ((snd_br ((snd_lf n38_9)) ((snd_lf n38_8)))) ((snd_br ((snd_lf n38_5)) ((snd_lf n38_4)))))) ((snd_br ((snd_br ((snd_lf n38_3)) ((snd_lf n38_2)))) ((snd_br ((snd_lf n38_1)) ((snd_lf n38_0)))))))))
end
section
variable {G : AG}
theorem n39_0 : Snd mt G 39 0 (oAload 4 2) := w_aload (hm := mm39) dX0_nextBy_0
theorem n39_2 : Snd mt G 39 2 (oConst (.int 0) 3) := w_iconst (hm := mm39) dX0_nextBy_2 rfl
theorem n39_3 : Snd mt G 39 3 (oAload 0 4) := w_aload_n (hm := mm39) dX0_nextBy_3
theorem n39_4 : Snd mt G 39 4 (oIload 1 5) := w_iload_n (hm := mm39) dX0_nextBy_4
theorem n39_5 : Snd mt G 39 5 (oIload 2 6) := w_iload_n (hm := mm39) dX0_nextBy_5
theorem n39_6 : Snd mt G 39 6 (oIload 3 7) := w_iload_n (hm := mm39) dX0_nextBy_6
theorem n39_7 : Snd mt G 39 7 (oCall 4 (fV [1] 153 6) 0 10 (xCatch [(32, 19), (34, 15)])) := s_callV (m' := 153) (n := 3) (xsh_catch _) (w_xokC mm39 (List.forall_mem_cons.mpr ⟨⟨31, _, 1, _, _, rfl, (Nat.le_of_ble_eq_true rfl), vc_31, rfl, rfl, (List.forall_mem_cons.mpr ⟨Or.inr ⟨by decide, _, q1683, by decide⟩, (fun y hy => nomatch hy)⟩), by decide, by decide, q1171, List.mem_filter.mpr ⟨q215, rfl⟩⟩, (List.forall_mem_cons.mpr ⟨⟨33, _, 0, _, _, rfl, (Nat.le_of_ble_eq_true rfl), vc_33, rfl, rfl, (fun y hy => nomatch hy), by decide, by decide, q1683, List.mem_filter.mpr ⟨q1694, rfl⟩⟩, (fun y hy => nomatch hy)⟩)⟩)) (w_cal mm39 mm153 pn_X1 (Nat.le_of_ble_eq_true rfl) (Nat.le_of_ble_eq_true rfl)) (fun h b as hc hn => w_run_V (ci := 0) mm39 mm153 dX0_nextBy_7 (Or.inl (List.mem_singleton.mp hc)) (Nat.le_of_ble_eq_true rfl) vc_0 rfl q2245 q2246 q2247 q129 q2248 pa153 hn)
theorem n39_10 : Snd mt G 39 10 (oUn (fun x => .long x.toInt64) 11) := w_i2l (hm := mm39) dX0_nextBy_10
theorem n39_11 : Snd mt G 39 11 (oLast [102] 12) := w_lastore (hm := mm39) (kt := 2) dX0_nextBy_11 at_2 (Nat.le_of_ble_eq_true rfl) (List.forall_mem_cons.mpr ⟨rfl, (fun t ht => nomatch ht)⟩)
theorem n39_12 : Snd mt G 39 12 (oGoto 23) := w_goto (hm := mm39) dX0_nextBy_12 rfl
theorem n39_15 : Snd mt G 39 15 (oAstore 5 17) := w_astore (hm := mm39) dX0_nextBy_15 (Nat.le_of_ble_eq_true rfl)
theorem n39_17 : Snd mt G 39 17 (oConst (.int 1) 18) := w_iconst (hm := mm39) dX0_nextBy_17 rfl
theorem n39_18 : Snd mt G 39 18 (oRetI .int) := w_iret (hm := mm39) dX0_nextBy_18 rfl
theorem n39_19 : Snd mt G 39 19 (oAstore 5 21) := w_astore (hm := mm39) dX0_nextBy_19 (Nat.le_of_ble_eq_true rfl)
theorem n39_21 : Snd mt G 39 21 (oConst (.int 2) 22) := w_iconst (hm := mm39) dX0_nextBy_21 rfl
theorem n39_22 : Snd mt G 39 22 (oRetI .int) := w_iret (hm := mm39) dX0_nextBy_22 rfl
theorem n39_23 : Snd mt G 39 23 (oConst (.int 0) 24) := w_iconst (hm := mm39) dX0_nextBy_23 rfl
theorem n39_24 : Snd mt G 39 24 (oRetI .int) := w_iret (hm := mm39) dX0_nextBy_24 rfl
theorem sj39 : ∀ pc, Snd mt G 39 pc (j39 pc) := fun pc => (snd_br ((snd_br ((snd_br ((snd_br ((snd_br ((snd_lf n39_24)) ((snd_lf n39_23)))) ((snd_lf n39_22)))) ((snd_br ((snd_lf n39_21)) ((snd_lf n39_19)))))) ((snd_br ((snd_br ((snd_lf n39_18)) ((snd_lf n39_17)))) ((snd_br ((snd_lf n39_15)) ((snd_lf n39_12)))))))) ((snd_br ((snd_br ((snd_br ((snd_br ((snd_lf n39_11)) ((snd_lf n39_10)))) ((snd_lf n39_7)))) ((snd_br ((snd_lf n39_6)) ((snd_lf n39_5)))))) ((snd_br ((snd_br ((snd_lf n39_4)) ((snd_lf n39_3)))) ((snd_br ((snd_lf n39_2)) ((snd_lf n39_0)))))))))
end
section
variable {G : AG}
theorem n40_0 : Snd mt G 40 0 (oAload 4 2) := w_aload (hm := mm40) dX0_chance_0
theorem n40_2 : Snd mt G 40 2 (oConst (.int 0) 3) := w_iconst (hm := mm40) dX0_chance_2 rfl
theorem n40_3 : Snd mt G 40 3 (oAload 0 4) := w_aload_n (hm := mm40) dX0_chance_3
theorem n40_4 : Snd mt G 40 4 (oIload 1 5) := w_iload_n (hm := mm40) dX0_chance_4
theorem n40_5 : Snd mt G 40 5 (oIload 2 6) := w_iload_n (hm := mm40) dX0_chance_5
theorem n40_6 : Snd mt G 40 6 (oIload 3 7) := w_iload_n (hm := mm40) dX0_chance_6
theorem n40_7 : Snd mt G 40 7 (oCall 4 (fV [1] 155 9) 0 10 (xCatch [(32, 19), (34, 15)])) := s_callV (m' := 155) (n := 3) (xsh_catch _) (w_xokC mm40 (List.forall_mem_cons.mpr ⟨⟨31, _, 1, _, _, rfl, (Nat.le_of_ble_eq_true rfl), vc_31, rfl, rfl, (List.forall_mem_cons.mpr ⟨Or.inr ⟨by decide, _, q1683, by decide⟩, (fun y hy => nomatch hy)⟩), by decide, by decide, q1171, List.mem_filter.mpr ⟨q215, rfl⟩⟩, (List.forall_mem_cons.mpr ⟨⟨33, _, 0, _, _, rfl, (Nat.le_of_ble_eq_true rfl), vc_33, rfl, rfl, (fun y hy => nomatch hy), by decide, by decide, q1683, List.mem_filter.mpr ⟨q1694, rfl⟩⟩, (fun y hy => nomatch hy)⟩)⟩)) (w_cal mm40 mm155 pn_X1 (Nat.le_of_ble_eq_true rfl) (Nat.le_of_ble_eq_true rfl)) (fun h b as hc hn => w_run_V (ci := 0) mm40 mm155 dX0_chance_7 (Or.inl (List.mem_singleton.mp hc)) (Nat.le_of_ble_eq_true rfl) vc_0 rfl q2260 q2261 q2262 q129 q2263 pa155 hn)
theorem n40_10 : Snd mt G 40 10 (oUn (fun x => .long x.toInt64) 11) := w_i2l (hm := mm40) dX0_chance_10
theorem n40_11 : Snd mt G 40 11 (oLast [102] 12) := w_lastore (hm := mm40) (kt := 2) dX0_chance_11 at_2 (Nat.le_of_ble_eq_true rfl) (List.forall_mem_cons.mpr ⟨rfl, (fun t ht => nomatch ht)⟩)
theorem n40_12 : Snd mt G 40 12 (oGoto 23) := w_goto (hm := mm40) dX0_chance_12 rfl
theorem n40_15 : Snd mt G 40 15 (oAstore 5 17) := w_astore (hm := mm40) dX0_chance_15 (Nat.le_of_ble_eq_true rfl)
theorem n40_17 : Snd mt G 40 17 (oConst (.int 1) 18) := w_iconst (hm := mm40) dX0_chance_17 rfl
theorem n40_18 : Snd mt G 40 18 (oRetI .int) := w_iret (hm := mm40) dX0_chance_18 rfl
theorem n40_19 : Snd mt G 40 19 (oAstore 5 21) := w_astore (hm := mm40) dX0_chance_19 (Nat.le_of_ble_eq_true rfl)
theorem n40_21 : Snd mt G 40 21 (oConst (.int 2) 22) := w_iconst (hm := mm40) dX0_chance_21 rfl
theorem n40_22 : Snd mt G 40 22 (oRetI .int) := w_iret (hm := mm40) dX0_chance_22 rfl
theorem n40_23 : Snd mt G 40 23 (oConst (.int 0) 24) := w_iconst (hm := mm40) dX0_chance_23 rfl
theorem n40_24 : Snd mt G 40 24 (oRetI .int) := w_iret (hm := mm40) dX0_chance_24 rfl
theorem sj40 : ∀ pc, Snd mt G 40 pc (j40 pc) := fun pc => (snd_br ((snd_br ((snd_br ((snd_br ((snd_br ((snd_lf n40_24)) ((snd_lf n40_23)))) ((snd_lf n40_22)))) ((snd_br ((snd_lf n40_21)) ((snd_lf n40_19)))))) ((snd_br ((snd_br ((snd_lf n40_18)) ((snd_lf n40_17)))) ((snd_br ((snd_lf n40_15)) ((snd_lf n40_12)))))))) ((snd_br ((snd_br ((snd_br ((snd_br ((snd_lf n40_11)) ((snd_lf n40_10)))) ((snd_lf n40_7)))) ((snd_br ((snd_lf n40_6)) ((snd_lf n40_5)))))) ((snd_br ((snd_br ((snd_lf n40_4)) ((snd_lf n40_3)))) ((snd_br ((snd_lf n40_2)) ((snd_lf n40_0)))))))))
end
section
variable {G : AG}
theorem n41_0 : Snd mt G 41 0 (oAload 2 1) := w_aload_n (hm := mm41) dX0_fitter_0
theorem n41_1 : Snd mt G 41 1 (oConst (.int 0) 2) := w_iconst (hm := mm41) dX0_fitter_1 rfl
theorem n41_2 : Snd mt G 41 2 (oAload 0 3) := w_aload_n (hm := mm41) dX0_fitter_2
theorem n41_3 : Snd mt G 41 3 (oIload 1 4) := w_iload_n (hm := mm41) dX0_fitter_3
theorem n41_4 : Snd mt G 41 4 (oCall 2 (fV [1] 156 3) 0 7 (xCatch [(32, 12)])) := s_callV (m' := 156) (n := 1) (xsh_catch _) (w_xokC mm41 (List.forall_mem_cons.mpr ⟨⟨31, _, 0, _, _, rfl, (Nat.le_of_ble_eq_true rfl), vc_31, rfl, rfl, (fun y hy => nomatch hy), by decide, by decide, q1171, List.mem_filter.mpr ⟨q215, rfl⟩⟩, (fun y hy => nomatch hy)⟩)) (w_cal mm41 mm156 pn_X1 (Nat.le_of_ble_eq_true rfl) (Nat.le_of_ble_eq_true rfl)) (fun h b as hc hn => w_run_V (ci := 0) mm41 mm156 dX0_fitter_4 (Or.inl (List.mem_singleton.mp hc)) (Nat.le_of_ble_eq_true rfl) vc_0 rfl q2267 q2268 q2269 q129 q2270 pa156 hn)
theorem n41_7 : Snd mt G 41 7 (oUn (fun x => .long x.toInt64) 8) := w_i2l (hm := mm41) dX0_fitter_7
theorem n41_8 : Snd mt G 41 8 (oLast [102] 9) := w_lastore (hm := mm41) (kt := 2) dX0_fitter_8 at_2 (Nat.le_of_ble_eq_true rfl) (List.forall_mem_cons.mpr ⟨rfl, (fun t ht => nomatch ht)⟩)
theorem n41_9 : Snd mt G 41 9 (oGoto 15) := w_goto (hm := mm41) dX0_fitter_9 rfl
theorem n41_12 : Snd mt G 41 12 (oAstore 3 13) := w_astore_n (hm := mm41) dX0_fitter_12 (Nat.le_of_ble_eq_true rfl)
theorem n41_13 : Snd mt G 41 13 (oConst (.int 1) 14) := w_iconst (hm := mm41) dX0_fitter_13 rfl
theorem n41_14 : Snd mt G 41 14 (oRetI .int) := w_iret (hm := mm41) dX0_fitter_14 rfl
theorem n41_15 : Snd mt G 41 15 (oConst (.int 0) 16) := w_iconst (hm := mm41) dX0_fitter_15 rfl
theorem n41_16 : Snd mt G 41 16 (oRetI .int) := w_iret (hm := mm41) dX0_fitter_16 rfl
theorem sj41 : ∀ pc, Snd mt G 41 pc (j41 pc) := fun pc => (snd_br ((snd_br ((snd_br ((snd_br ((snd_lf n41_16)) ((snd_lf n41_15)))) ((snd_br ((snd_lf n41_14)) ((snd_lf n41_13)))))) ((snd_br ((snd_br ((snd_lf n41_12)) ((snd_lf n41_9)))) ((snd_lf n41_8)))))) ((snd_br ((snd_br ((snd_br ((snd_lf n41_7)) ((snd_lf n41_4)))) ((snd_lf n41_3)))) ((snd_br ((snd_br ((snd_lf n41_2)) ((snd_lf n41_1)))) ((snd_lf n41_0)))))))
end
section
variable {G : AG}
theorem n42_0 : Snd mt G 42 0 (oAload 2 1) := w_aload_n (hm := mm42) dX0_blister_0
theorem n42_1 : Snd mt G 42 1 (oConst (.int 0) 2) := w_iconst (hm := mm42) dX0_blister_1 rfl
theorem n42_2 : Snd mt G 42 2 (oAload 0 3) := w_aload_n (hm := mm42) dX0_blister_2
theorem n42_3 : Snd mt G 42 3 (oIload 1 4) := w_iload_n (hm := mm42) dX0_blister_3
theorem n42_4 : Snd mt G 42 4 (oCall 2 (fV [1] 158 6) 0 7 (xCatch [(34, 12)])) := s_callV (m' := 158) (n := 1) (xsh_catch _) (w_xokC mm42 (List.forall_mem_cons.mpr ⟨⟨33, _, 0, _, _, rfl, (Nat.le_of_ble_eq_true rfl), vc_33, rfl, rfl, (fun y hy => nomatch hy), by decide, by decide, q1683, List.mem_filter.mpr ⟨q1694, rfl⟩⟩, (fun y hy => nomatch hy)⟩)) (w_cal mm42 mm158 pn_X1 (Nat.le_of_ble_eq_true rfl) (Nat.le_of_ble_eq_true rfl)) (fun h b as hc hn => w_run_V (ci := 0) mm42 mm158 dX0_blister_4 (Or.inl (List.mem_singleton.mp hc)) (Nat.le_of_ble_eq_true rfl) vc_0 rfl q2277 q2278 q2279 q129 q2280 pa158 hn)
theorem n42_7 : Snd mt G 42 7 (oUn (fun x => .long x.toInt64) 8) := w_i2l (hm := mm42) dX0_blister_7
theorem n42_8 : Snd mt G 42 8 (oLast [102] 9) := w_lastore (hm := mm42) (kt := 2) dX0_blister_8 at_2 (Nat.le_of_ble_eq_true rfl) (List.forall_mem_cons.mpr ⟨rfl, (fun t ht => nomatch ht)⟩)
theorem n42_9 : Snd mt G 42 9 (oGoto 15) := w_goto (hm := mm42) dX0_blister_9 rfl
theorem n42_12 : Snd mt G 42 12 (oAstore 3 13) := w_astore_n (hm := mm42) dX0_blister_12 (Nat.le_of_ble_eq_true rfl)
theorem n42_13 : Snd mt G 42 13 (oConst (.int 1) 14) := w_iconst (hm := mm42) dX0_blister_13 rfl
theorem n42_14 : Snd mt G 42 14 (oRetI .int) := w_iret (hm := mm42) dX0_blister_14 rfl
theorem n42_15 : Snd mt G 42 15 (oConst (.int 0) 16) := w_iconst (hm := mm42) dX0_blister_15 rfl
theorem n42_16 : Snd mt G 42 16 (oRetI .int) := w_iret (hm := mm42) dX0_blister_16 rfl
theorem sj42 : ∀ pc, Snd mt G 42 pc (j42 pc) := fun pc => (snd_br ((snd_br ((snd_br ((snd_br ((snd_lf n42_16)) ((snd_lf n42_15)))) ((snd_br ((snd_lf n42_14)) ((snd_lf n42_13)))))) ((snd_br ((snd_br ((snd_lf n42_12)) ((snd_lf n42_9)))) ((snd_lf n42_8)))))) ((snd_br ((snd_br ((snd_br ((snd_lf n42_7)) ((snd_lf n42_4)))) ((snd_lf n42_3)))) ((snd_br ((snd_br ((snd_lf n42_2)) ((snd_lf n42_1)))) ((snd_lf n42_0)))))))
end
section
variable {G : AG}
theorem n43_0 : Snd mt G 43 0 (oAload 4 2) := w_aload (hm := mm43) dX0_skill_0
theorem n43_2 : Snd mt G 43 2 (oConst (.int 0) 3) := w_iconst (hm := mm43) dX0_skill_2 rfl
theorem n43_3 : Snd mt G 43 3 (oAload 0 4) := w_aload_n (hm := mm43) dX0_skill_3
theorem n43_4 : Snd mt G 43 4 (oIload 1 5) := w_iload_n (hm := mm43) dX0_skill_4
theorem n43_5 : Snd mt G 43 5 (oIload 2 6) := w_iload_n (hm := mm43) dX0_skill_5
theorem n43_6 : Snd mt G 43 6 (oIload 3 7) := w_iload_n (hm := mm43) dX0_skill_6
theorem n43_7 : Snd mt G 43 7 (oCall 4 (fV [1] 159 4) 0 10 (xCatch [(32, 15)])) := s_callV (m' := 159) (n := 3) (xsh_catch _) (w_xokC mm43 (List.forall_mem_cons.mpr ⟨⟨31, _, 0, _, _, rfl, (Nat.le_of_ble_eq_true rfl), vc_31, rfl, rfl, (fun y hy => nomatch hy), by decide, by decide, q1171, List.mem_filter.mpr ⟨q215, rfl⟩⟩, (fun y hy => nomatch hy)⟩)) (w_cal mm43 mm159 pn_X1 (Nat.le_of_ble_eq_true rfl) (Nat.le_of_ble_eq_true rfl)) (fun h b as hc hn => w_run_V (ci := 0) mm43 mm159 dX0_skill_7 (Or.inl (List.mem_singleton.mp hc)) (Nat.le_of_ble_eq_true rfl) vc_0 rfl q2284 q2285 q2286 q129 q2287 pa159 hn)
theorem n43_10 : Snd mt G 43 10 (oUn (fun x => .long x.toInt64) 11) := w_i2l (hm := mm43) dX0_skill_10
theorem n43_11 : Snd mt G 43 11 (oLast [102] 12) := w_lastore (hm := mm43) (kt := 2) dX0_skill_11 at_2 (Nat.le_of_ble_eq_true rfl) (List.forall_mem_cons.mpr ⟨rfl, (fun t ht => nomatch ht)⟩)
theorem n43_12 : Snd mt G 43 12 (oGoto 19) := w_goto (hm := mm43) dX0_skill_12 rfl
theorem n43_15 : Snd mt G 43 15 (oAstore 5 17) := w_astore (hm := mm43) dX0_skill_15 (Nat.le_of_ble_eq_true rfl)
theorem n43_17 : Snd mt G 43 17 (oConst (.int 1) 18) := w_iconst (hm := mm43) dX0_skill_17 rfl
theorem n43_18 : Snd mt G 43 18 (oRetI .int) := w_iret (hm := mm43) dX0_skill_18 rfl
theorem n43_19 : Snd mt G 43 19 (oConst (.int 0) 20) := w_iconst (hm := mm43) dX0_skill_19 rfl
theorem n43_20 : Snd mt G 43 20 (oRetI .int) := w_iret (hm := mm43) dX0_skill_20 rfl
theorem sj43 : ∀ pc, Snd mt G 43 pc (j43 pc) := fun pc => (snd_br ((snd_br ((snd_br ((snd_br ((snd_lf n43_20)) ((snd_lf n43_19)))) ((snd_br ((snd_lf n43_18)) ((snd_lf n43_17)))))) ((snd_br ((snd_br ((snd_lf n43_15)) ((snd_lf n43_12)))) ((snd_br ((snd_lf n43_11)) ((snd_lf n43_10)))))))) ((snd_br ((snd_br ((snd_br ((snd_lf n43_7)) ((snd_lf n43_6)))) ((snd_br ((snd_lf n43_5)) ((snd_lf n43_4)))))) ((snd_br ((snd_br ((snd_lf n43_3)) ((snd_lf n43_2)))) ((snd_lf n43_0)))))))
end
section
variable {G : AG}
theorem n44_0 : Snd mt G 44 0 (oAload 4 2) := w_aload (hm := mm44) dX0_better_0
theorem n44_2 : Snd mt G 44 2 (oConst (.int 0) 3) := w_iconst (hm := mm44) dX0_better_2 rfl
theorem n44_3 : Snd mt G 44 3 (oAload 0 4) := w_aload_n (hm := mm44) dX0_better_3
theorem n44_4 : Snd mt G 44 4 (oIload 1 5) := w_iload_n (hm := mm44) dX0_better_4
theorem n44_5 : Snd mt G 44 5 (oIload 2 6) := w_iload_n (hm := mm44) dX0_better_5
theorem n44_6 : Snd mt G 44 6 (oIload 3 7) := w_iload_n (hm := mm44) dX0_better_6
theorem n44_7 : Snd mt G 44 7 (oCall 4 (fV [1] 162 4) 0 10 (xCatch [(32, 15)])) := s_callV (m' := 162) (n := 3) (xsh_catch _) (w_xokC mm44 (List.forall_mem_cons.mpr ⟨⟨31, _, 0, _, _, rfl, (Nat.le_of_ble_eq_true rfl), vc_31, rfl, rfl, (fun y hy => nomatch hy), by decide, by decide, q1171, List.mem_filter.mpr ⟨q215, rfl⟩⟩, (fun y hy => nomatch hy)⟩)) (w_cal mm44 mm162 pn_X1 (Nat.le_of_ble_eq_true rfl) (Nat.le_of_ble_eq_true rfl)) (fun h b as hc hn => w_run_V (ci := 0) mm44 mm162 dX0_better_7 (Or.inl (List.mem_singleton.mp hc)) (Nat.le_of_ble_eq_true rfl) vc_0 rfl q2298 q2299 q2300 q129 q2301 pa162 hn)
theorem n44_10 : Snd mt G 44 10 (oUn (fun x => .long x.toInt64) 11) := w_i2l (hm := mm44) dX0_better_10
theorem n44_11 : Snd mt G 44 11 (oLast [102] 12) := w_lastore (hm := mm44) (kt := 2) dX0_better_11 at_2 (Nat.le_of_ble_eq_true rfl) (List.forall_mem_cons.mpr ⟨rfl, (fun t ht => nomatch ht)⟩)
theorem n44_12 : Snd mt G 44 12 (oGoto 19) := w_goto (hm := mm44) dX0_better_12 rfl
theorem n44_15 : Snd mt G 44 15 (oAstore 5 17) := w_astore (hm := mm44) dX0_better_15 (Nat.le_of_ble_eq_true rfl)
theorem n44_17 : Snd mt G 44 17 (oConst (.int 1) 18) := w_iconst (hm := mm44) dX0_better_17 rfl
theorem n44_18 : Snd mt G 44 18 (oRetI .int) := w_iret (hm := mm44) dX0_better_18 rfl
theorem n44_19 : Snd mt G 44 19 (oConst (.int 0) 20) := w_iconst (hm := mm44) dX0_better_19 rfl
theorem n44_20 : Snd mt G 44 20 (oRetI .int) := w_iret (hm := mm44) dX0_better_20 rfl
theorem sj44 : ∀ pc, Snd mt G 44 pc (j44 pc) := fun pc => (snd_br ((snd_br ((snd_br ((snd_br ((snd_lf n44_20)) ((snd_lf n44_19)))) ((snd_br ((snd_lf n44_18)) ((snd_lf n44_17)))))) ((snd_br ((snd_br ((snd_lf n44_15)) ((snd_lf n44_12)))) ((snd_br ((snd_lf n44_11)) ((snd_lf n44_10)))))))) ((snd_br ((snd_br ((snd_br ((snd_lf n44_7)) ((snd_lf n44_6)))) ((snd_br ((snd_lf n44_5)) ((snd_lf n44_4)))))) ((snd_br ((snd_br ((snd_lf n44_3)) ((snd_lf n44_2)))) ((snd_lf n44_0)))))))
end
section
variable {G : AG}
theorem n45_0 : Snd mt G 45 0 (oAload 3 1) := w_aload_n (hm := mm45) dX0_trial_0
theorem n45_1 : Snd mt G 45 1 (oConst (.int 0) 2) := w_iconst (hm := mm45) dX0_trial_1 rfl
theorem n45_2 : Snd mt G 45 2 (oAload 0 3) := w_aload_n (hm := mm45) dX0_trial_2
theorem n45_3 : Snd mt G 45 3 (oIload 1 4) := w_iload_n (hm := mm45) dX0_trial_3
theorem n45_4 : Snd mt G 45 4 (oIload 2 5) := w_iload_n (hm := mm45) dX0_trial_4
theorem n45_5 : Snd mt G 45 5 (oCall 3 (fV [1] 163 3) 0 8 (xCatch [(32, 13)])) := s_callV (m' := 163) (n := 2) (xsh_catch _) (w_xokC mm45 (List.forall_mem_cons.mpr ⟨⟨31, _, 0, _, _, rfl, (Nat.le_of_ble_eq_true rfl), vc_31, rfl, rfl, (fun y hy => nomatch hy), by decide, by decide, q1171, List.mem_filter.mpr ⟨q215, rfl⟩⟩, (fun y hy => nomatch hy)⟩)) (w_cal mm45 mm163 pn_X1 (Nat.le_of_ble_eq_true rfl) (Nat.le_of_ble_eq_true rfl)) (fun h b as hc hn => w_run_V (ci := 0) mm45 mm163 dX0_trial_5 (Or.inl (List.mem_singleton.mp hc)) (Nat.le_of_ble_eq_true rfl) vc_0 rfl q2308 q2309 q2310 q129 q2311 pa163 hn)
theorem n45_8 : Snd mt G 45 8 (oUn (fun x => .long x.toInt64) 9) := w_i2l (hm := mm45) dX0_trial_8
theorem n45_9 : Snd mt G 45 9 (oLast [102] 10) := w_lastore (hm := mm45) (kt := 2) dX0_trial_9 at_2 (Nat.le_of_ble_eq_true rfl) (List.forall_mem_cons.mpr ⟨rfl, (fun t ht => nomatch ht)⟩)
theorem n45_10 : Snd mt G 45 10 (oGoto 17) := w_goto (hm := mm45) dX0_trial_10 rfl
theorem n45_13 : Snd mt G 45 13 (oAstore 4 15) := w_astore (hm := mm45) dX0_trial_13 (Nat.le_of_ble_eq_true rfl)
theorem n45_15 : Snd mt G 45 15 (oConst (.int 1) 16) := w_iconst (hm := mm45) dX0_trial_15 rfl
theorem n45_16 : Snd mt G 45 16 (oRetI .int) := w_iret (hm := mm45) dX0_trial_16 rfl
theorem n45_17 : Snd mt G 45 17 (oConst (.int 0) 18) := w_iconst (hm := mm45) dX0_trial_17 rfl
theorem n45_18 : Snd mt G 45 18 (oRetI .int) := w_iret (hm := mm45) dX0_trial_18 rfl
theorem sj45 : ∀ pc, Snd mt G 45 pc (j45 pc) := fun pc => (snd_br ((snd_br ((snd_br ((snd_br ((snd_lf n45_18)) ((snd_lf n45_17)))) ((snd_br ((snd_lf n45_16)) ((snd_lf n45_15)))))) ((snd_br ((snd_br ((snd_lf n45_13)) ((snd_lf n45_10)))) ((snd_lf n45_9)))))) ((snd_br ((snd_br ((snd_br ((snd_lf n45_8)) ((snd_lf n45_5)))) ((snd_br ((snd_lf n45_4)) ((snd_lf n45_3)))))) ((snd_br ((snd_br ((snd_lf n45_2)) ((snd_lf n45_1)))) ((snd_lf n45_0)))))))
end
section
variable {G : AG}
theorem n46_0 : Snd mt G 46 0 (oAload 3 1) := w_aload_n (hm := mm46) dX0_cause_0
theorem n46_1 : Snd mt G 46 1 (oConst (.int 0) 2) := w_iconst (hm := mm46) dX0_cause_1 rfl
theorem n46_2 : Snd mt G 46 2 (oAload 0 3) := w_aload_n (hm := mm46) dX0_cause_2
theorem n46_3 : Snd mt G 46 3 (oIload 1 4) := w_iload_n (hm := mm46) dX0_cause_3
theorem n46_4 : Snd mt G 46 4 (oIload 2 5) := w_iload_n (hm := mm46) dX0_cause_4
theorem n46_5 : Snd mt G 46 5 (oCall 3 (fV [1] 164 3) 0 8 (xCatch [(32, 13)])) := s_callV (m' := 164) (n := 2) (xsh_catch _) (w_xokC mm46 (List.forall_mem_cons.mpr ⟨⟨31, _, 0, _, _, rfl, (Nat.le_of_ble_eq_true rfl), vc_31, rfl, rfl, (fun y hy => nomatch hy), by decide, by decide, q1171, List.mem_filter.mpr ⟨q215, rfl⟩⟩, (fun y hy => nomatch hy)⟩)) (w_cal mm46 mm164 pn_X1 (Nat.le_of_ble_eq_true rfl) (Nat.le_of_ble_eq_true rfl)) (fun h b as hc hn => w_run_V (ci := 0) mm46 mm164 dX0_cause_5 (Or.inl (List.mem_singleton.mp hc)) (Nat.le_of_ble_eq_true rfl) vc_0 rfl q2329 q2330 q2331 q129 q2332 pa164 hn)
theorem n46_8 : Snd mt G 46 8 (oUn (fun x => .long x.toInt64) 9) := w_i2l (hm := mm46) dX0_cause_8
theorem n46_9 : Snd mt G 46 9 (oLast [102] 10) := w_lastore (hm := mm46) (kt := 2) dX0_cause_9 at_2 (Nat.le_of_ble_eq_true rfl) (List.forall_mem_cons.mpr ⟨rfl, (fun t ht => nomatch ht)⟩)
theorem n46_10 : Snd mt G 46 10 (oGoto 17) := w_goto (hm := mm46) dX0_cause_10 rfl
theorem n46_13 : Snd mt G 46 13 (oAstore 4 15) := w_astore (hm := mm46) dX0_cause_13 (Nat.le_of_ble_eq_true rfl)
theorem n46_15 : Snd mt G 46 15 (oConst (.int 1) 16) := w_iconst (hm := mm46) dX0_cause_15 rfl
theorem n46_16 : Snd mt G 46 16 (oRetI .int) := w_iret (hm := mm46) dX0_cause_16 rfl
theorem n46_17 : Snd mt G 46 17 (oConst (.int 0) 18) := w_iconst (hm := mm46) dX0_cause_17 rfl
theorem n46_18 : Snd mt G 46 18 (oRetI .int) := w_iret (hm := mm46) dX0_cause_18 rfl
theorem sj46 : ∀ pc, Snd mt G 46 pc (j46 pc) := fun pc => (snd_br ((snd_br ((snd_br ((snd_br ((snd_lf n46_18)) ((snd_lf n46_17)))) ((snd_br ((snd_lf n46_16)) ((snd_lf n46_15)))))) ((snd_br ((snd_br ((snd_lf n46_13)) ((snd_lf n46_10)))) ((snd_lf n46_9)))))) ((snd_br ((snd_br ((snd_br ((snd_lf n46_8)) ((snd_lf n46_5)))) ((snd_br ((snd_lf n46_4)) ((snd_lf n46_3)))))) ((snd_br ((snd_br ((snd_lf n46_2)) ((snd_lf n46_1)))) ((snd_lf n46_0)))))))
end
section
variable {G : AG}
theorem n47_0 : Snd mt G 47 0 (oAload 3 1) := w_aload_n (hm := mm47) dX0_see_0
theorem n47_1 : Snd mt G 47 1 (oConst (.int 0) 2) := w_iconst (hm := mm47) dX0_see_1 rfl
theorem n47_2 : Snd mt G 47 2 (oAload 0 3) := w_aload_n (hm := mm47) dX0_see_2
theorem n47_3 : Snd mt G 47 3 (oIload 1 4) := w_iload_n (hm := mm47) dX0_see_3
theorem n47_4 : Snd mt G 47 4 (oIload 2 5) := w_iload_n (hm := mm47) dX0_see_4
theorem n47_5 : Snd mt G 47 5 (oCall 3 (fV [1] 166 3) 0 8 (xCatch [(32, 13)])) := s_callV (m' := 166) (n := 2) (xsh_catch _) (w_xokC mm47 (List.forall_mem_cons.mpr ⟨⟨31, _, 0, _, _, rfl, (Nat.le_of_ble_eq_true rfl), vc_31, rfl, rfl, (fun y hy => nomatch hy), by decide, by decide, q1171, List.mem_filter.mpr ⟨q215, rfl⟩⟩, (fun y hy => nomatch hy)⟩)) (w_cal mm47 mm166 pn_X1 (Nat.le_of_ble_eq_true rfl) (Nat.le_of_ble_eq_true rfl)) (fun h b as hc hn => w_run_V (ci := 0) mm47 mm166 dX0_see_5 (Or.inl (List.mem_singleton.mp hc)) (Nat.le_of_ble_eq_true rfl) vc_0 rfl q2353 q2354 q2355 q129 q2356 pa166 hn)
theorem n47_8 : Snd mt G 47 8 (oUn (fun x => .long x.toInt64) 9) := w_i2l (hm := mm47) dX0_see_8
theorem n47_9 : Snd mt G 47 9 (oLast [102] 10) := w_lastore (hm := mm47) (kt := 2) dX0_see_9 at_2 (Nat.le_of_ble_eq_true rfl) (List.forall_mem_cons.mpr ⟨rfl, (fun t ht => nomatch ht)⟩)
theorem n47_10 : Snd mt G 47 10 (oGoto 17) := w_goto (hm := mm47) dX0_see_10 rfl
theorem n47_13 : Snd mt G 47 13 (oAstore 4 15) := w_astore (hm := mm47) dX0_see_13 (Nat.le_of_ble_eq_true rfl)
theorem n47_15 : Snd mt G 47 15 (oConst (.int 1) 16) := w_iconst (hm := mm47) dX0_see_15 rfl
theorem n47_16 : Snd mt G 47 16 (oRetI .int) := w_iret (hm := mm47) dX0_see_16 rfl
theorem n47_17 : Snd mt G 47 17 (oConst (.int 0) 18) := w_iconst (hm := mm47) dX0_see_17 rfl
theorem n47_18 : Snd mt G 47 18 (oRetI .int) := w_iret (hm := mm47) dX0_see_18 rfl
theorem sj47 : ∀ pc, Snd mt G 47 pc (j47 pc) := fun pc => (snd_br ((snd_br ((snd_br ((snd_br ((snd_lf n47_18)) ((snd_lf n47_17)))) ((snd_br ((snd_lf n47_16)) ((snd_lf n47_15)))))) ((snd_br ((snd_br ((snd_lf n47_13)) ((snd_lf n47_10)))) ((snd_lf n47_9)))))) ((snd_br ((snd_br ((snd_br ((snd_lf n47_8)) ((snd_lf n47_5)))) ((snd_br ((snd_lf n47_4)) ((snd_lf n47_3)))))) ((snd_br ((snd_br ((snd_lf n47_2)) ((snd_lf n47_1)))) ((snd_lf n47_0)))))))
end
section
variable {G : AG}
theorem n48_0 : Snd mt G 48 0 (oAload 4 2) := w_aload (hm := mm48) dX0_walk_0
theorem n48_2 : Snd mt G 48 2 (oConst (.int 0) 3) := w_iconst (hm := mm48) dX0_walk_2 rfl
theorem n48_3 : Snd mt G 48 3 (oAload 0 4) := w_aload_n (hm := mm48) dX0_walk_3
theorem n48_4 : Snd mt G 48 4 (oIload 1 5) := w_iload_n (hm := mm48) dX0_walk_4
theorem n48_5 : Snd mt G 48 5 (oIload 2 6) := w_iload_n (hm := mm48) dX0_walk_5
theorem n48_6 : Snd mt G 48 6 (oIload 3 7) := w_iload_n (hm := mm48) dX0_walk_6
theorem n48_7 : Snd mt G 48 7 (oCall 4 (fV [1] 167 4) 0 10 (xCatch [(32, 19), (34, 15)])) := s_callV (m' := 167) (n := 3) (xsh_catch _) (w_xokC mm48 (List.forall_mem_cons.mpr ⟨⟨31, _, 1, _, _, rfl, (Nat.le_of_ble_eq_true rfl), vc_31, rfl, rfl, (List.forall_mem_cons.mpr ⟨Or.inr ⟨by decide, _, q1683, by decide⟩, (fun y hy => nomatch hy)⟩), by decide, by decide, q1171, List.mem_filter.mpr ⟨q215, rfl⟩⟩, (List.forall_mem_cons.mpr ⟨⟨33, _, 0, _, _, rfl, (Nat.le_of_ble_eq_true rfl), vc_33, rfl, rfl, (fun y hy => nomatch hy), by decide, by decide, q1683, List.mem_filter.mpr ⟨q1694, rfl⟩⟩, (fun y hy => nomatch hy)⟩)⟩)) (w_cal mm48 mm167 pn_X1 (Nat.le_of_ble_eq_true rfl) (Nat.le_of_ble_eq_true rfl)) (fun h b as hc hn => w_run_V (ci := 0) mm48 mm167 dX0_walk_7 (Or.inl (List.mem_singleton.mp hc)) (Nat.le_of_ble_eq_true rfl) vc_0 rfl q2360 q2361 q2362 q129 q2363 pa167 hn)
theorem n48_10 : Snd mt G 48 10 (oUn (fun x => .long x.toInt64) 11) := w_i2l (hm := mm48) dX0_walk_10
theorem n48_11 : Snd mt G 48 11 (oLast [102] 12) := w_lastore (hm := mm48) (kt := 2) dX0_walk_11 at_2 (Nat.le_of_ble_eq_true rfl) (List.forall_mem_cons.mpr ⟨rfl, (fun t ht => nomatch ht)⟩)
theorem n48_12 : Snd mt G 48 12 (oGoto 23) := w_goto (hm := mm48) dX0_walk_12 rfl
theorem n48_15 : Snd mt G 48 15 (oAstore 5 17) := w_astore (hm := mm48) dX0_walk_15 (Nat.le_of_ble_eq_true rfl)
theorem n48_17 : Snd mt G 48 17 (oConst (.int 1) 18) := w_iconst (hm := mm48) dX0_walk_17 rfl
theorem n48_18 : Snd mt G 48 18 (oRetI .int) := w_iret (hm := mm48) dX0_walk_18 rfl
theorem n48_19 : Snd mt G 48 19 (oAstore 5 21) := w_astore (hm := mm48) dX0_walk_19 (Nat.le_of_ble_eq_true rfl)
theorem n48_21 : Snd mt G 48 21 (oConst (.int 2) 22) := w_iconst (hm := mm48) dX0_walk_21 rfl
theorem n48_22 : Snd mt G 48 22 (oRetI .int) := w_iret (hm := mm48) dX0_walk_22 rfl
theorem n48_23 : Snd mt G 48 23 (oConst (.int 0) 24) := w_iconst (hm := mm48) dX0_walk_23 rfl
theorem n48_24 : Snd mt G 48 24 (oRetI .int) := w_iret (hm := mm48) dX0_walk_24 rfl
theorem sj48 : ∀ pc, Snd mt G 48 pc (j48 pc) := fun pc => (snd_br ((snd_br ((snd_br ((snd_br ((snd_br ((snd_lf n48_24)) ((snd_lf n48_23)))) ((snd_lf n48_22)))) ((snd_br ((snd_lf n48_21)) ((snd_lf n48_19)))))) ((snd_br ((snd_br ((snd_lf n48_18)) ((snd_lf n48_17)))) ((snd_br ((snd_lf n48_15)) ((snd_lf n48_12)))))))) ((snd_br ((snd_br ((snd_br ((snd_br ((snd_lf n48_11)) ((snd_lf n48_10)))) ((snd_lf n48_7)))) ((snd_br ((snd_lf n48_6)) ((snd_lf n48_5)))))) ((snd_br ((snd_br ((snd_lf n48_4)) ((snd_lf n48_3)))) ((snd_br ((snd_lf n48_2)) ((snd_lf n48_0)))))))))
end
section
variable {G : AG}
theorem n49_0 : Snd mt G 49 0 (oAload 3 1) := w_aload_n (hm := mm49) dX0_changed_0
theorem n49_1 : Snd mt G 49 1 (oConst (.int 0) 2) := w_iconst (hm := mm49) dX0_changed_1 rfl
theorem n49_2 : Snd mt G 49 2 (oAload 0 3) := w_aload_n (hm := mm49) dX0_changed_2
theorem n49_3 : Snd mt G 49 3 (oIload 1 4) := w_iload_n (hm := mm49) dX0_changed_3
theorem n49_4 : Snd mt G 49 4 (oIload 2 5) := w_iload_n (hm := mm49) dX0_changed_4
theorem n49_5 : Snd mt G 49 5 (oCall 3 (fV [1] 168 10) 0 8 (xCatch [(32, 17), (34, 13)])) := s_callV (m' := 168) (n := 2) (xsh_catch _) (w_xokC mm49 (List.forall_mem_cons.mpr ⟨⟨31, _, 1, _, _, rfl, (Nat.le_of_ble_eq_true rfl), vc_31, rfl, rfl, (List.forall_mem_cons.mpr ⟨Or.inr ⟨by decide, _, q1683, by decide⟩, (fun y hy => nomatch hy)⟩), by decide, by decide, q1171, List.mem_filter.mpr ⟨q215, rfl⟩⟩, (List.forall_mem_cons.mpr ⟨⟨33, _, 0, _, _, rfl, (Nat.le_of_ble_eq_true rfl), vc_33, rfl, rfl, (fun y hy => nomatch hy), by decide, by decide, q1683, List.mem_filter.mpr ⟨q1694, rfl⟩⟩, (fun y hy => nomatch hy)⟩)⟩)) (w_cal mm49 mm168 pn_X1 (Nat.le_of_ble_eq_true rfl) (Nat.le_of_ble_eq_true rfl)) (fun h b as hc hn => w_run_V (ci := 0) mm49 mm168 dX0_changed_5 (Or.inl (List.mem_singleton.mp hc)) (Nat.le_of_ble_eq_true rfl) vc_0 rfl q2386 q2387 q2388 q129 q2389 pa168 hn)
theorem n49_8 : Snd mt G 49 8 (oUn (fun x => .long x.toInt64) 9) := w_i2l (hm := mm49) dX0_changed_8
theorem n49_9 : Snd mt G 49 9 (oLast [102] 10) := w_lastore (hm := mm49) (kt := 2) dX0_changed_9 at_2 (Nat.le_of_ble_eq_true rfl) (List.forall_mem_cons.mpr ⟨rfl, (fun t ht => nomatch ht)⟩)
theorem n49_10 : Snd mt G 49 10 (oGoto 21) := w_goto (hm := mm49) dX0_changed_10 rfl
theorem n49_13 : Snd mt G 49 13 (oAstore 4 15) := w_astore (hm := mm49) dX0_changed_13 (Nat.le_of_ble_eq_true rfl)
theorem n49_15 : Snd mt G 49 15 (oConst (.int 1) 16) := w_iconst (hm := mm49) dX0_changed_15 rfl
theorem n49_16 : Snd mt G 49 16 (oRetI .int) := w_iret (hm := mm49) dX0_changed_16 rfl
theorem n49_17 : Snd mt G 49 17 (oAstore 4 19) := w_astore (hm := mm49) dX0_changed_17 (Nat.le_of_ble_eq_true rfl)
theorem n49_19 : Snd mt G 49 19 (oConst (.int 2) 20) := w_iconst (hm := mm49) dX0_changed_19 rfl
theorem n49_20 : Snd mt G 49 20 (oRetI .int) := w_iret (hm := mm49) dX0_changed_20 rfl
theorem n49_21 : Snd mt G 49 21 (oConst (.int 0) 22) := w_iconst (hm := mm49) dX0_changed_21 rfl
theorem n49_22 : Snd mt G 49 22 (oRetI .int) := w_iret (hm := mm49) dX0_changed_22 rfl
theorem sj49 : ∀ pc, Snd mt G 49 pc (j49 pc) := fun pc => (snd_br ((snd_br ((snd_br ((snd_br ((snd_br ((snd_lf n49_22)) ((snd_lf n49_21)))) ((snd_lf n49_20)))) ((snd_br ((snd_lf n49_19)) ((snd_lf n49_17)))))) ((snd_br ((snd_br ((snd_lf n49_16)) ((snd_lf n49_15)))) ((snd_br ((snd_lf n49_13)) ((snd_lf n49_10)))))))) ((snd_br ((snd_br ((snd_br ((snd_lf n49_9)) ((snd_lf n49_8)))) ((snd_br ((snd_lf n49_5)) ((snd_lf n49_4)))))) ((snd_br ((snd_br ((snd_lf n49_3)) ((snd_lf n49_2)))) ((snd_br ((snd_lf n49_1)) ((snd_lf n49_0)))))))))
end
section
variable {G : AG}
theorem n50_0 : Snd mt G 50 0 (oAload 3 1) := w_aload_n (hm := mm50) dX0_spent_0
theorem n50_1 : Snd mt G 50 1 (oConst (.int 0) 2) := w_iconst (hm := mm50) dX0_spent_1 rfl
theorem n50_2 : Snd mt G 50 2 (oAload 0 3) := w_aload_n (hm := mm50) dX0_spent_2
theorem n50_3 : Snd mt G 50 3 (oIload 1 4) := w_iload_n (hm := mm50) dX0_spent_3
theorem n50_4 : Snd mt G 50 4 (oIload 2 5) := w_iload_n (hm := mm50) dX0_spent_4
theorem n50_5 : Snd mt G 50 5 (oCall 3 (fV [1] 169 5) 0 8 (xCatch [(32, 17), (34, 13)])) := s_callV (m' := 169) (n := 2) (xsh_catch _) (w_xokC mm50 (List.forall_mem_cons.mpr ⟨⟨31, _, 1, _, _, rfl, (Nat.le_of_ble_eq_true rfl), vc_31, rfl, rfl, (List.forall_mem_cons.mpr ⟨Or.inr ⟨by decide, _, q1683, by decide⟩, (fun y hy => nomatch hy)⟩), by decide, by decide, q1171, List.mem_filter.mpr ⟨q215, rfl⟩⟩, (List.forall_mem_cons.mpr ⟨⟨33, _, 0, _, _, rfl, (Nat.le_of_ble_eq_true rfl), vc_33, rfl, rfl, (fun y hy => nomatch hy), by decide, by decide, q1683, List.mem_filter.mpr ⟨q1694, rfl⟩⟩, (fun y hy => nomatch hy)⟩)⟩)) (w_cal mm50 mm169 pn_X1 (Nat.le_of_ble_eq_true rfl) (Nat.le_of_ble_eq_true rfl)) (fun h b as hc hn => w_run_V (ci := 0) mm50 mm169 dX0_spent_5 (Or.inl (List.mem_singleton.mp hc)) (Nat.le_of_ble_eq_true rfl) vc_0 rfl q2393 q2394 q2395 q129 q2396 pa169 hn)
theorem n50_8 : Snd mt G 50 8 (oUn (fun x => .long x.toInt64) 9) := w_i2l (hm := mm50) dX0_spent_8
theorem n50_9 : Snd mt G 50 9 (oLast [102] 10) := w_lastore (hm := mm50) (kt := 2) dX0_spent_9 at_2 (Nat.le_of_ble_eq_true rfl) (List.forall_mem_cons.mpr ⟨rfl, (fun t ht => nomatch ht)⟩)
theorem n50_10 : Snd mt G 50 10 (oGoto 21) := w_goto (hm := mm50) dX0_spent_10 rfl
theorem n50_13 : Snd mt G 50 13 (oAstore 4 15) := w_astore (hm := mm50) dX0_spent_13 (Nat.le_of_ble_eq_true rfl)
theorem n50_15 : Snd mt G 50 15 (oConst (.int 1) 16) := w_iconst (hm := mm50) dX0_spent_15 rfl
theorem n50_16 : Snd mt G 50 16 (oRetI .int) := w_iret (hm := mm50) dX0_spent_16 rfl
theorem n50_17 : Snd mt G 50 17 (oAstore 4 19) := w_astore (hm := mm50) dX0_spent_17 (Nat.le_of_ble_eq_true rfl)
theorem n50_19 : Snd mt G 50 19 (oConst (.int 2) 20) := w_iconst (hm := mm50) dX0_spent_19 rfl
theorem n50_20 : Snd mt G 50 20 (oRetI .int) := w_iret (hm := mm50) dX0_spent_20 rfl
theorem n50_21 : Snd mt G 50 21 (oConst (.int 0) 22) := w_iconst (hm := mm50) dX0_spent_21 rfl
theorem n50_22 : Snd mt G 50 22 (oRetI .int) := w_iret (hm := mm50) dX0_spent_22 rfl
theorem sj50 : ∀ pc, Snd mt G 50 pc (j50 pc) := fun pc => (snd_br ((snd_br ((snd_br ((snd_br ((snd_br ((snd_lf n50_22)) ((snd_lf n50_21)))) ((snd_lf n50_20)))) ((snd_br ((snd_lf n50_19)) ((snd_lf n50_17)))))) ((snd_br ((snd_br ((snd_lf n50_16)) ((snd_lf n50_15)))) ((snd_br ((snd_lf n50_13)) ((snd_lf n50_10)))))))) ((snd_br ((snd_br ((snd_br ((snd_lf n50_9)) ((snd_lf n50_8)))) ((snd_br ((snd_lf n50_5)) ((snd_lf n50_4)))))) ((snd_br ((snd_br ((snd_lf n50_3)) ((snd_lf n50_2)))) ((snd_br ((snd_lf n50_1)) ((snd_lf n50_0)))))))))
end
section
variable {G : AG}
theorem n500_0 : Snd mt G 500 0 (oNew 1 23 nfX1 3) := w_new (hm := mm500) (ci := 0) (T9 := TX1) (ty := tyX1) dL_law_0 (Nat.le_of_ble_eq_true rfl) vc_0 tyX1_ok (fun _ _ => rfl) q183 q184 q129
theorem n500_3 : Snd mt G 500 3 (oDup 4) := w_dup (hm := mm500) dL_law_3
theorem n500_4 : Snd mt G 500 4 (oCall 1 (fI 51 1) 0 7 xOut) := s_callI (m' := 51) (n := 0) xsh_out (w_xok0 mm500) (w_cal mm500 mm51 pn_X1 (Nat.le_of_ble_eq_true rfl) (Nat.le_of_ble_eq_true rfl)) (fun h b as hn => w_run_I mm500 mm51 dL_law_4 rfl rfl q185 q186 q129 q187 pa51 hn)
theorem n500_7 : Snd mt G 500 7 (oAstore 1 8) := w_astore_n (hm := mm500) dL_law_7 (Nat.le_of_ble_eq_true rfl)
theorem n500_8 : Snd mt G 500 8 (oNew 4 71 nfX3 11) := w_new (hm := mm500) (ci := 3) (T9 := TX3) (ty := tyX3) dL_law_8 (Nat.le_of_ble_eq_true rfl) vc_3 tyX3_ok (fun _ _ => rfl) q2397 q2398 q150
theorem n500_11 : Snd mt G 500 11 (oDup 12) := w_dup (hm := mm500) dL_law_11
theorem n500_12 : Snd mt G 500 12 (oCall 1 (fI 280 2) 0 15 xOut) := s_callI (m' := 280) (n := 0) xsh_out (w_xok0 mm500) (w_cal mm500 mm280 pn_X3 (Nat.le_of_ble_eq_true rfl) (Nat.le_of_ble_eq_true rfl)) (fun h b as hn => w_run_I mm500 mm280 dL_law_12 rfl rfl q2399 q2400 q150 q2401 pa280 hn)
theorem n500_15 : Snd mt G 500 15 (oAstore 2 16) := w_astore_n (hm := mm500) dL_law_15 (Nat.le_of_ble_eq_true rfl)
theorem n500_16 : Snd mt G 500 16 (oConst (.int 1) 17) := w_iconst (hm := mm500) dL_law_16 rfl
theorem n500_17 : Snd mt G 500 17 (oNewa 102 (.long 0) 19) := w_newa (hm := mm500) (kt := 2) dL_law_17 (Nat.le_of_ble_eq_true rfl) at_2 rfl (fun C q => nomatch q) (Nat.le_of_ble_eq_true rfl) q3179
theorem n500_19 : Snd mt G 500 19 (oAstore 3 20) := w_astore_n (hm := mm500) dL_law_19 (Nat.le_of_ble_eq_true rfl)
theorem n500_20 : Snd mt G 500 20 (oConst (.int 0) 21) := w_iconst (hm := mm500) dL_law_20 rfl
theorem n500_21 : Snd mt G 500 21 (oIstore 4 23) := w_istore (hm := mm500) dL_law_21 (Nat.le_of_ble_eq_true rfl)
theorem n500_23 : Snd mt G 500 23 (oIload 4 25) := w_iload (hm := mm500) dL_law_23
theorem n500_25 : Snd mt G 500 25 (oAload 0 26) := w_aload_n (hm := mm500) dL_law_25
theorem n500_26 : Snd mt G 500 26 (oAlen 27) := w_alen (hm := mm500) dL_law_26
theorem n500_27 : Snd mt G 500 27 (oConst (.int 6) 29) := w_bipush (hm := mm500) dL_law_27 (by decide)
theorem n500_29 : Snd mt G 500 29 (oBin (fun x y => x - y) 30) := w_isub (hm := mm500) dL_law_29
theorem n500_30 : Snd mt G 500 30 (oCmpGt 4264 33) := w_icmp_gt (hm := mm500) dL_law_30 rfl
theorem n500_33 : Snd mt G 500 33 (oAload 0 34) := w_aload_n (hm := mm500) dL_law_33
theorem n500_34 : Snd mt G 500 34 (oIload 4 36) := w_iload (hm := mm500) dL_law_34
theorem n500_36 : Snd mt G 500 36 (oAld [1100] 37) := w_iaload (hm := mm500) (kt := 0) dL_law_36 at_0 (Nat.le_of_ble_eq_true rfl) (List.forall_mem_cons.mpr ⟨Or.inr rfl, (fun t ht => nomatch ht)⟩)
theorem n500_37 : Snd mt G 500 37 (oConst (.int 127) 39) := w_bipush (hm := mm500) dL_law_37 (by decide)
theorem n500_39 : Snd mt G 500 39 (oBin (fun x y => x &&& y) 40) := w_iand (hm := mm500) dL_law_39
theorem n500_40 : Snd mt G 500 40 (oSwitch sw500_40) := w_tableL (hm := mm500) (dfl := 4258) (L := [320, 393, 461, 517, 530, 622, 678, 798, 878, 958, 1026, 1106, 1193, 1273, 1353, 1433, 1501, 1581, 1649, 1729, 1797, 1810, 1835, 1903, 1971, 2039, 2131, 2187, 2243, 2256, 2324, 2380, 2436, 2504, 2560, 2616, 2700, 2768, 2824, 2880, 2936, 2949, 3029, 3042, 3110, 3190, 3258, 3354, 3434, 3490, 3546, 3642, 3722, 3790, 3803, 3816, 3829, 3897, 3965, 3978, 3991, 4071, 4139, 4207, 4220, 4233]) dL_law_40 rfl rfl (by decide +kernel)
theorem n500_320 : Snd mt G 500 320 (oAload 1 321) := w_aload_n (hm := mm500) dL_law_320
theorem n500_321 : Snd mt G 500 321 (oAload 0 322) := w_aload_n (hm := mm500) dL_law_321
theorem n500_322 : Snd mt G 500 322 (oIload 4 324) := w_iload (hm := mm500) dL_law_322
theorem n500_324 : Snd mt G 500 324 (oConst (.int 1) 325) := w_iconst (hm := mm500) dL_law_324 rfl
theorem n500_325 : Snd mt G 500 325 (oBin (fun x y => x + y) 326) := w_iadd (hm := mm500) dL_law_325
theorem n500_326 : Snd mt G 500 326 (oAld [1100] 327) := w_iaload (hm := mm500) (kt := 0) dL_law_326 at_0 (Nat.le_of_ble_eq_true rfl) (List.forall_mem_cons.mpr ⟨Or.inr rfl, (fun t ht => nomatch ht)⟩)
theorem n500_327 : Snd mt G 500 327 (oAload 0 328) := w_aload_n (hm := mm500) dL_law_327
theorem n500_328 : Snd mt G 500 328 (oIload 4 330) := w_iload (hm := mm500) dL_law_328
theorem n500_330 : Snd mt G 500 330 (oConst (.int 2) 331) := w_iconst (hm := mm500) dL_law_330 rfl
theorem n500_331 : Snd mt G 500 331 (oBin (fun x y => x + y) 332) := w_iadd (hm := mm500) dL_law_331
theorem n500_332 : Snd mt G 500 332 (oAld [1100] 333) := w_iaload (hm := mm500) (kt := 0) dL_law_332 at_0 (Nat.le_of_ble_eq_true rfl) (List.forall_mem_cons.mpr ⟨Or.inr rfl, (fun t ht => nomatch ht)⟩)
theorem n500_333 : Snd mt G 500 333 (oAload 0 334) := w_aload_n (hm := mm500) dL_law_333
theorem n500_334 : Snd mt G 500 334 (oIload 4 336) := w_iload (hm := mm500) dL_law_334
theorem n500_336 : Snd mt G 500 336 (oConst (.int 3) 337) := w_iconst (hm := mm500) dL_law_336 rfl
theorem n500_337 : Snd mt G 500 337 (oBin (fun x y => x + y) 338) := w_iadd (hm := mm500) dL_law_337
theorem n500_338 : Snd mt G 500 338 (oAld [1100] 339) := w_iaload (hm := mm500) (kt := 0) dL_law_338 at_0 (Nat.le_of_ble_eq_true rfl) (List.forall_mem_cons.mpr ⟨Or.inr rfl, (fun t ht => nomatch ht)⟩)
theorem n500_339 : Snd mt G 500 339 (oAload 0 340) := w_aload_n (hm := mm500) dL_law_339
theorem n500_340 : Snd mt G 500 340 (oIload 4 342) := w_iload (hm := mm500) dL_law_340
theorem n500_342 : Snd mt G 500 342 (oConst (.int 4) 343) := w_iconst (hm := mm500) dL_law_342 rfl
theorem n500_343 : Snd mt G 500 343 (oBin (fun x y => x + y) 344) := w_iadd (hm := mm500) dL_law_343
theorem n500_344 : Snd mt G 500 344 (oAld [1100] 345) := w_iaload (hm := mm500) (kt := 0) dL_law_344 at_0 (Nat.le_of_ble_eq_true rfl) (List.forall_mem_cons.mpr ⟨Or.inr rfl, (fun t ht => nomatch ht)⟩)
theorem n500_345 : Snd mt G 500 345 (oAload 0 346) := w_aload_n (hm := mm500) dL_law_345
theorem n500_346 : Snd mt G 500 346 (oIload 4 348) := w_iload (hm := mm500) dL_law_346
theorem n500_348 : Snd mt G 500 348 (oConst (.int 5) 349) := w_iconst (hm := mm500) dL_law_348 rfl
theorem n500_349 : Snd mt G 500 349 (oBin (fun x y => x + y) 350) := w_iadd (hm := mm500) dL_law_349
theorem n500_350 : Snd mt G 500 350 (oAld [1100] 351) := w_iaload (hm := mm500) (kt := 0) dL_law_350 at_0 (Nat.le_of_ble_eq_true rfl) (List.forall_mem_cons.mpr ⟨Or.inr rfl, (fun t ht => nomatch ht)⟩)
theorem n500_351 : Snd mt G 500 351 (oCall 6 (fV [1] 52 6) 0 354 xOut) := s_callV (m' := 52) (n := 5) xsh_out (w_xok0 mm500) (w_cal mm500 mm52 pn_X1 (Nat.le_of_ble_eq_true rfl) (Nat.le_of_ble_eq_true rfl)) (fun h b as hc hn => w_run_V (ci := 0) mm500 mm52 dL_law_351 (Or.inl (List.mem_singleton.mp hc)) (Nat.le_of_ble_eq_true rfl) vc_0 rfl q693 q694 q695 q129 q696 pa52 hn)
theorem n500_354 : Snd mt G 500 354 (oAload 2 355) := w_aload_n (hm := mm500) dL_law_354
theorem n500_355 : Snd mt G 500 355 (oAload 0 356) := w_aload_n (hm := mm500) dL_law_355
theorem n500_356 : Snd mt G 500 356 (oIload 4 358) := w_iload (hm := mm500) dL_law_356
theorem n500_358 : Snd mt G 500 358 (oConst (.int 1) 359) := w_iconst (hm := mm500) dL_law_358 rfl
theorem n500_359 : Snd mt G 500 359 (oBin (fun x y => x + y) 360) := w_iadd (hm := mm500) dL_law_359
theorem n500_360 : Snd mt G 500 360 (oAld [1100] 361) := w_iaload (hm := mm500) (kt := 0) dL_law_360 at_0 (Nat.le_of_ble_eq_true rfl) (List.forall_mem_cons.mpr ⟨Or.inr rfl, (fun t ht => nomatch ht)⟩)
theorem n500_361 : Snd mt G 500 361 (oAload 0 362) := w_aload_n (hm := mm500) dL_law_361
theorem n500_362 : Snd mt G 500 362 (oIload 4 364) := w_iload (hm := mm500) dL_law_362
theorem n500_364 : Snd mt G 500 364 (oConst (.int 2) 365) := w_iconst (hm := mm500) dL_law_364 rfl
theorem n500_365 : Snd mt G 500 365 (oBin (fun x y => x + y) 366) := w_iadd (hm := mm500) dL_law_365
theorem n500_366 : Snd mt G 500 366 (oAld [1100] 367) := w_iaload (hm := mm500) (kt := 0) dL_law_366 at_0 (Nat.le_of_ble_eq_true rfl) (List.forall_mem_cons.mpr ⟨Or.inr rfl, (fun t ht => nomatch ht)⟩)
theorem n500_367 : Snd mt G 500 367 (oAload 0 368) := w_aload_n (hm := mm500) dL_law_367
theorem n500_368 : Snd mt G 500 368 (oIload 4 370) := w_iload (hm := mm500) dL_law_368
theorem n500_370 : Snd mt G 500 370 (oConst (.int 3) 371) := w_iconst (hm := mm500) dL_law_370 rfl
theorem n500_371 : Snd mt G 500 371 (oBin (fun x y => x + y) 372) := w_iadd (hm := mm500) dL_law_371
theorem n500_372 : Snd mt G 500 372 (oAld [1100] 373) := w_iaload (hm := mm500) (kt := 0) dL_law_372 at_0 (Nat.le_of_ble_eq_true rfl) (List.forall_mem_cons.mpr ⟨Or.inr rfl, (fun t ht => nomatch ht)⟩)
theorem n500_373 : Snd mt G 500 373 (oAload 0 374) := w_aload_n (hm := mm500) dL_law_373
theorem n500_374 : Snd mt G 500 374 (oIload 4 376) := w_iload (hm := mm500) dL_law_374
theorem n500_376 : Snd mt G 500 376 (oConst (.int 4) 377) := w_iconst (hm := mm500) dL_law_376 rfl
theorem n500_377 : Snd mt G 500 377 (oBin (fun x y => x + y) 378) := w_iadd (hm := mm500) dL_law_377
theorem n500_378 : Snd mt G 500 378 (oAld [1100] 379) := w_iaload (hm := mm500) (kt := 0) dL_law_378 at_0 (Nat.le_of_ble_eq_true rfl) (List.forall_mem_cons.mpr ⟨Or.inr rfl, (fun t ht => nomatch ht)⟩)
theorem n500_379 : Snd mt G 500 379 (oAload 0 380) := w_aload_n (hm := mm500) dL_law_379
theorem n500_380 : Snd mt G 500 380 (oIload 4 382) := w_iload (hm := mm500) dL_law_380
theorem n500_382 : Snd mt G 500 382 (oConst (.int 5) 383) := w_iconst (hm := mm500) dL_law_382 rfl
theorem n500_383 : Snd mt G 500 383 (oBin (fun x y => x + y) 384) := w_iadd (hm := mm500) dL_law_383
theorem n500_384 : Snd mt G 500 384 (oAld [1100] 385) := w_iaload (hm := mm500) (kt := 0) dL_law_384 at_0 (Nat.le_of_ble_eq_true rfl) (List.forall_mem_cons.mpr ⟨Or.inr rfl, (fun t ht => nomatch ht)⟩)
theorem n500_385 : Snd mt G 500 385 (oCall 6 (fV [4] 282 8) 0 388 xOut) := s_callV (m' := 282) (n := 5) xsh_out (w_xok0 mm500) (w_cal mm500 mm282 pn_X3 (Nat.le_of_ble_eq_true rfl) (Nat.le_of_ble_eq_true rfl)) (fun h b as hc hn => w_run_V (ci := 3) mm500 mm282 dL_law_385 (Or.inl (List.mem_singleton.mp hc)) (Nat.le_of_ble_eq_true rfl) vc_3 rfl q2623 q2624 q2625 q150 q2626 pa282 hn)
theorem n500_388 : Snd mt G 500 388 (oCmpEq 4258 391) := w_icmp_eq (hm := mm500) dL_law_388 rfl
theorem n500_391 : Snd mt G 500 391 (oConst (.int 0) 392) := w_iconst (hm := mm500) dL_law_391 rfl
theorem n500_392 : Snd mt G 500 392 (oRetI .boolean) := w_zret (hm := mm500) dL_law_392 rfl
theorem n500_393 : Snd mt G 500 393 (oAload 1 394) := w_aload_n (hm := mm500) dL_law_393
theorem n500_394 : Snd mt G 500 394 (oAload 0 395) := w_aload_n (hm := mm500) dL_law_394
theorem n500_395 : Snd mt G 500 395 (oIload 4 397) := w_iload (hm := mm500) dL_law_395
theorem n500_397 : Snd mt G 500 397 (oConst (.int 1) 398) := w_iconst (hm := mm500) dL_law_397 rfl
theorem n500_398 : Snd mt G 500 398 (oBin (fun x y => x + y) 399) := w_iadd (hm := mm500) dL_law_398
theorem n500_399 : Snd mt G 500 399 (oAld [1100] 400) := w_iaload (hm := mm500) (kt := 0) dL_law_399 at_0 (Nat.le_of_ble_eq_true rfl) (List.forall_mem_cons.mpr ⟨Or.inr rfl, (fun t ht => nomatch ht)⟩)
theorem n500_400 : Snd mt G 500 400 (oAload 0 401) := w_aload_n (hm := mm500) dL_law_400
theorem n500_401 : Snd mt G 500 401 (oIload 4 403) := w_iload (hm := mm500) dL_law_401
theorem n500_403 : Snd mt G 500 403 (oConst (.int 2) 404) := w_iconst (hm := mm500) dL_law_403 rfl
theorem n500_404 : Snd mt G 500 404 (oBin (fun x y => x + y) 405) := w_iadd (hm := mm500) dL_law_404
theorem n500_405 : Snd mt G 500 405 (oAld [1100] 406) := w_iaload (hm := mm500) (kt := 0) dL_law_405 at_0 (Nat.le_of_ble_eq_true rfl) (List.forall_mem_cons.mpr ⟨Or.inr rfl, (fun t ht => nomatch ht)⟩)
theorem n500_406 : Snd mt G 500 406 (oAload 3 407) := w_aload_n (hm := mm500) dL_law_406
theorem n500_407 : Snd mt G 500 407 (oCall 4 (fS 0 5) 0 410 xOut) := s_callS (m' := 0) (n := 4) xsh_out (w_xok0 mm500) (w_cal mm500 mm0 pn_X0 (Nat.le_of_ble_eq_true rfl) (Nat.le_of_ble_eq_true rfl)) (fun h as hn => w_run_SX mm500 mm0 dL_law_407 q1168 q1169 q128 q1170 pa0 hn)
theorem n500_410 : Snd mt G 500 410 (oIstore 5 412) := w_istore (hm := mm500) dL_law_410 (Nat.le_of_ble_eq_true rfl)
theorem n500_412 : Snd mt G 500 412 (oAload 2 413) := w_aload_n (hm := mm500) dL_law_412
theorem n500_413 : Snd mt G 500 413 (oAload 0 414) := w_aload_n (hm := mm500) dL_law_413
theorem n500_414 : Snd mt G 500 414 (oIload 4 416) := w_iload (hm := mm500) dL_law_414
theorem n500_416 : Snd mt G 500 416 (oConst (.int 1) 417) := w_iconst (hm := mm500) dL_law_416 rfl
theorem n500_417 : Snd mt G 500 417 (oBin (fun x y => x + y) 418) := w_iadd (hm := mm500) dL_law_417
theorem n500_418 : Snd mt G 500 418 (oAld [1100] 419) := w_iaload (hm := mm500) (kt := 0) dL_law_418 at_0 (Nat.le_of_ble_eq_true rfl) (List.forall_mem_cons.mpr ⟨Or.inr rfl, (fun t ht => nomatch ht)⟩)
theorem n500_419 : Snd mt G 500 419 (oAload 0 420) := w_aload_n (hm := mm500) dL_law_419
theorem n500_420 : Snd mt G 500 420 (oIload 4 422) := w_iload (hm := mm500) dL_law_420
theorem n500_422 : Snd mt G 500 422 (oConst (.int 2) 423) := w_iconst (hm := mm500) dL_law_422 rfl
theorem n500_423 : Snd mt G 500 423 (oBin (fun x y => x + y) 424) := w_iadd (hm := mm500) dL_law_423
theorem n500_424 : Snd mt G 500 424 (oAld [1100] 425) := w_iaload (hm := mm500) (kt := 0) dL_law_424 at_0 (Nat.le_of_ble_eq_true rfl) (List.forall_mem_cons.mpr ⟨Or.inr rfl, (fun t ht => nomatch ht)⟩)
theorem n500_425 : Snd mt G 500 425 (oCall 3 (fV [4] 283 4) 0 428 xOut) := s_callV (m' := 283) (n := 2) xsh_out (w_xok0 mm500) (w_cal mm500 mm283 pn_X3 (Nat.le_of_ble_eq_true rfl) (Nat.le_of_ble_eq_true rfl)) (fun h b as hc hn => w_run_V (ci := 3) mm500 mm283 dL_law_425 (Or.inl (List.mem_singleton.mp hc)) (Nat.le_of_ble_eq_true rfl) vc_3 rfl q2627 q2628 q2629 q150 q2630 pa283 hn)
theorem n500_428 : Snd mt G 500 428 (oIstore 6 430) := w_istore (hm := mm500) dL_law_428 (Nat.le_of_ble_eq_true rfl)
theorem n500_430 : Snd mt G 500 430 (oAload 2 431) := w_aload_n (hm := mm500) dL_law_430
theorem n500_431 : Snd mt G 500 431 (oCall 1 (fV [4] 281 1) 0 434 xOut) := s_callV (m' := 281) (n := 0) xsh_out (w_xok0 mm500) (w_cal mm500 mm281 pn_X3 (Nat.le_of_ble_eq_true rfl) (Nat.le_of_ble_eq_true rfl)) (fun h b as hc hn => w_run_V (ci := 3) mm500 mm281 dL_law_431 (Or.inl (List.mem_singleton.mp hc)) (Nat.le_of_ble_eq_true rfl) vc_3 rfl q2619 q2620 q2621 q150 q2622 pa281 hn)
theorem n500_434 : Snd mt G 500 434 (oIload 5 436) := w_iload (hm := mm500) dL_law_434
theorem n500_436 : Snd mt G 500 436 (oCmpEq 441 439) := w_icmp_eq (hm := mm500) dL_law_436 rfl
theorem n500_439 : Snd mt G 500 439 (oConst (.int 0) 440) := w_iconst (hm := mm500) dL_law_439 rfl
theorem n500_440 : Snd mt G 500 440 (oRetI .boolean) := w_zret (hm := mm500) dL_law_440 rfl
theorem n500_441 : Snd mt G 500 441 (oIload 5 443) := w_iload (hm := mm500) dL_law_441
theorem n500_443 : Snd mt G 500 443 (oIfEq 446 458) := w_if_ne (hm := mm500) dL_law_443 rfl
theorem n500_446 : Snd mt G 500 446 (oAload 3 447) := w_aload_n (hm := mm500) dL_law_446
theorem n500_447 : Snd mt G 500 447 (oConst (.int 0) 448) := w_iconst (hm := mm500) dL_law_447 rfl
theorem n500_448 : Snd mt G 500 448 (oAld [102] 449) := w_laload (hm := mm500) (kt := 2) dL_law_448 at_2 (Nat.le_of_ble_eq_true rfl) (List.forall_mem_cons.mpr ⟨Or.inl rfl, (fun t ht => nomatch ht)⟩)
theorem n500_449 : Snd mt G 500 449 (oIload 6 451) := w_iload (hm := mm500) dL_law_449
theorem n500_451 : Snd mt G 500 451 (oUn (fun x => .long x.toInt64) 452) := w_i2l (hm := mm500) dL_law_451
theorem n500_452 : Snd mt G 500 452 (oLbin (fun x y => .int (lg_cmp x y)) 453) := w_lcmp (hm := mm500) dL_law_452
theorem n500_453 : Snd mt G 500 453 (oIfEq 458 456) := w_if_eq (hm := mm500) dL_law_453 rfl
theorem n500_456 : Snd mt G 500 456 (oConst (.int 0) 457) := w_iconst (hm := mm500) dL_law_456 rfl
theorem n500_457 : Snd mt G 500 457 (oRetI .boolean) := w_zret (hm := mm500) dL_law_457 rfl
theorem n500_458 : Snd mt G 500 458 (oGoto 4258) := w_goto (hm := mm500) dL_law_458 rfl
theorem n500_461 : Snd mt G 500 461 (oAload 1 462) := w_aload_n (hm := mm500) dL_law_461
theorem n500_462 : Snd mt G 500 462 (oAload 0 463) := w_aload_n (hm := mm500) dL_law_462
theorem n500_463 : Snd mt G 500 463 (oIload 4 465) := w_iload (hm := mm500) dL_law_463
theorem n500_465 : Snd mt G 500 465 (oConst (.int 1) 466) := w_iconst (hm := mm500) dL_law_465 rfl
theorem n500_466 : Snd mt G 500 466 (oBin (fun x y => x + y) 467) := w_iadd (hm := mm500) dL_law_466
theorem n500_467 : Snd mt G 500 467 (oAld [1100] 468) := w_iaload (hm := mm500) (kt := 0) dL_law_467 at_0 (Nat.le_of_ble_eq_true rfl) (List.forall_mem_cons.mpr ⟨Or.inr rfl, (fun t ht => nomatch ht)⟩)
theorem n500_468 : Snd mt G 500 468 (oAload 3 469) := w_aload_n (hm := mm500) dL_law_468
theorem n500_469 : Snd mt G 500 469 (oCall 3 (fS 1 4) 0 472 xOut) := s_callS (m' := 1) (n := 3) xsh_out (w_xok0 mm500) (w_cal mm500 mm1 pn_X0 (Nat.le_of_ble_eq_true rfl) (Nat.le_of_ble_eq_true rfl)) (fun h as hn => w_run_SX mm500 mm1 dL_law_469 q1606 q1607 q128 q1608 pa1 hn)
theorem n500_472 : Snd mt G 500 472 (oIstore 5 474) := w_istore (hm := mm500) dL_law_472 (Nat.le_of_ble_eq_true rfl)
theorem n500_474 : Snd mt G 500 474 (oAload 2 475) := w_aload_n (hm := mm500) dL_law_474
theorem n500_475 : Snd mt G 500 475 (oAload 0 476) := w_aload_n (hm := mm500) dL_law_475
theorem n500_476 : Snd mt G 500 476 (oIload 4 478) := w_iload (hm := mm500) dL_law_476
theorem n500_478 : Snd mt G 500 478 (oConst (.int 1) 479) := w_iconst (hm := mm500) dL_law_478 rfl
theorem n500_479 : Snd mt G 500 479 (oBin (fun x y => x + y) 480) := w_iadd (hm := mm500) dL_law_479
theorem n500_480 : Snd mt G 500 480 (oAld [1100] 481) := w_iaload (hm := mm500) (kt := 0) dL_law_480 at_0 (Nat.le_of_ble_eq_true rfl) (List.forall_mem_cons.mpr ⟨Or.inr rfl, (fun t ht => nomatch ht)⟩)
theorem n500_481 : Snd mt G 500 481 (oCall 2 (fV [4] 309 2) 0 484 xOut) := s_callV (m' := 309) (n := 1) xsh_out (w_xok0 mm500) (w_cal mm500 mm309 pn_X3 (Nat.le_of_ble_eq_true rfl) (Nat.le_of_ble_eq_true rfl)) (fun h b as hc hn => w_run_V (ci := 3) mm500 mm309 dL_law_481 (Or.inl (List.mem_singleton.mp hc)) (Nat.le_of_ble_eq_true rfl) vc_3 rfl q2729 q2730 q2731 q150 q2732 pa309 hn)
theorem n500_484 : Snd mt G 500 484 (oIstore 6 486) := w_istore (hm := mm500) dL_law_484 (Nat.le_of_ble_eq_true rfl)
theorem n500_486 : Snd mt G 500 486 (oAload 2 487) := w_aload_n (hm := mm500) dL_law_486
theorem n500_487 : Snd mt G 500 487 (oCall 1 (fV [4] 281 1) 0 490 xOut) := s_callV (m' := 281) (n := 0) xsh_out (w_xok0 mm500) (w_cal mm500 mm281 pn_X3 (Nat.le_of_ble_eq_true rfl) (Nat.le_of_ble_eq_true rfl)) (fun h b as hc hn => w_run_V (ci := 3) mm500 mm281 dL_law_487 (Or.inl (List.mem_singleton.mp hc)) (Nat.le_of_ble_eq_true rfl) vc_3 rfl q2619 q2620 q2621 q150 q2622 pa281 hn)
theorem n500_490 : Snd mt G 500 490 (oIload 5 492) := w_iload (hm := mm500) dL_law_490
theorem n500_492 : Snd mt G 500 492 (oCmpEq 497 495) := w_icmp_eq (hm := mm500) dL_law_492 rfl
theorem n500_495 : Snd mt G 500 495 (oConst (.int 0) 496) := w_iconst (hm := mm500) dL_law_495 rfl
theorem n500_496 : Snd mt G 500 496 (oRetI .boolean) := w_zret (hm := mm500) dL_law_496 rfl
theorem n500_497 : Snd mt G 500 497 (oIload 5 499) := w_iload (hm := mm500) dL_law_497
theorem n500_499 : Snd mt G 500 499 (oIfEq 502 514) := w_if_ne (hm := mm500) dL_law_499 rfl
theorem n500_502 : Snd mt G 500 502 (oAload 3 503) := w_aload_n (hm := mm500) dL_law_502
theorem n500_503 : Snd mt G 500 503 (oConst (.int 0) 504) := w_iconst (hm := mm500) dL_law_503 rfl
theorem n500_504 : Snd mt G 500 504 (oAld [102] 505) := w_laload (hm := mm500) (kt := 2) dL_law_504 at_2 (Nat.le_of_ble_eq_true rfl) (List.forall_mem_cons.mpr ⟨Or.inl rfl, (fun t ht => nomatch ht)⟩)
theorem n500_505 : Snd mt G 500 505 (oIload 6 507) := w_iload (hm := mm500) dL_law_505
theorem n500_507 : Snd mt G 500 507 (oUn (fun x => .long x.toInt64) 508) := w_i2l (hm := mm500) dL_law_507
theorem n500_508 : Snd mt G 500 508 (oLbin (fun x y => .int (lg_cmp x y)) 509) := w_lcmp (hm := mm500) dL_law_508
theorem n500_509 : Snd mt G 500 509 (oIfEq 514 512) := w_if_eq (hm := mm500) dL_law_509 rfl
theorem n500_512 : Snd mt G 500 512 (oConst (.int 0) 513) := w_iconst (hm := mm500) dL_law_512 rfl
theorem n500_513 : Snd mt G 500 513 (oRetI .boolean) := w_zret (hm := mm500) dL_law_513 rfl
theorem n500_514 : Snd mt G 500 514 (oGoto 4258) := w_goto (hm := mm500) dL_law_514 rfl
theorem n500_517 : Snd mt G 500 517 (oAload 1 518) := w_aload_n (hm := mm500) dL_law_517
theorem n500_518 : Snd mt G 500 518 (oCall 1 (fV [1] 54 1) 0 521 xOut) := s_callV (m' := 54) (n := 0) xsh_out (w_xok0 mm500) (w_cal mm500 mm54 pn_X1 (Nat.le_of_ble_eq_true rfl) (Nat.le_of_ble_eq_true rfl)) (fun h b as hc hn => w_run_V (ci := 0) mm500 mm54 dL_law_518 (Or.inl (List.mem_singleton.mp hc)) (Nat.le_of_ble_eq_true rfl) vc_0 rfl q701 q702 q703 q129 q704 pa54 hn)
theorem n500_521 : Snd mt G 500 521 (oAload 2 522) := w_aload_n (hm := mm500) dL_law_521
theorem n500_522 : Snd mt G 500 522 (oCall 1 (fV [4] 311 1) 0 525 xOut) := s_callV (m' := 311) (n := 0) xsh_out (w_xok0 mm500) (w_cal mm500 mm311 pn_X3 (Nat.le_of_ble_eq_true rfl) (Nat.le_of_ble_eq_true rfl)) (fun h b as hc hn => w_run_V (ci := 3) mm500 mm311 dL_law_522 (Or.inl (List.mem_singleton.mp hc)) (Nat.le_of_ble_eq_true rfl) vc_3 rfl q2737 q2738 q2739 q150 q2740 pa311 hn)
theorem n500_525 : Snd mt G 500 525 (oCmpEq 4258 528) := w_icmp_eq (hm := mm500) dL_law_525 rfl
theorem n500_528 : Snd mt G 500 528 (oConst (.int 0) 529) := w_iconst (hm := mm500) dL_law_528 rfl
theorem n500_529 : Snd mt G 500 529 (oRetI .boolean) := w_zret (hm := mm500) dL_law_529 rfl
theorem n500_530 : Snd mt G 500 530 (oAload 1 531) := w_aload_n (hm := mm500) dL_law_530
theorem n500_531 : Snd mt G 500 531 (oAload 0 532) := w_aload_n (hm := mm500) dL_law_531
theorem n500_532 : Snd mt G 500 532 (oIload 4 534) := w_iload (hm := mm500) dL_law_532
theorem n500_534 : Snd mt G 500 534 (oConst (.int 1) 535) := w_iconst (hm := mm500) dL_law_534 rfl
theorem n500_535 : Snd mt G 500 535 (oBin (fun x y => x + y) 536) := w_iadd (hm := mm500) dL_law_535
theorem n500_536 : Snd mt G 500 536 (oAld [1100] 537) := w_iaload (hm := mm500) (kt := 0) dL_law_536 at_0 (Nat.le_of_ble_eq_true rfl) (List.forall_mem_cons.mpr ⟨Or.inr rfl, (fun t ht => nomatch ht)⟩)
theorem n500_537 : Snd mt G 500 537 (oAload 0 538) := w_aload_n (hm := mm500) dL_law_537
theorem n500_538 : Snd mt G 500 538 (oIload 4 540) := w_iload (hm := mm500) dL_law_538
theorem n500_540 : Snd mt G 500 540 (oConst (.int 2) 541) := w_iconst (hm := mm500) dL_law_540 rfl
theorem n500_541 : Snd mt G 500 541 (oBin (fun x y => x + y) 542) := w_iadd (hm := mm500) dL_law_541
theorem n500_542 : Snd mt G 500 542 (oAld [1100] 543) := w_iaload (hm := mm500) (kt := 0) dL_law_542 at_0 (Nat.le_of_ble_eq_true rfl) (List.forall_mem_cons.mpr ⟨Or.inr rfl, (fun t ht => nomatch ht)⟩)
theorem n500_543 : Snd mt G 500 543 (oAload 0 544) := w_aload_n (hm := mm500) dL_law_543
theorem n500_544 : Snd mt G 500 544 (oIload 4 546) := w_iload (hm := mm500) dL_law_544
theorem n500_546 : Snd mt G 500 546 (oConst (.int 3) 547) := w_iconst (hm := mm500) dL_law_546 rfl
theorem n500_547 : Snd mt G 500 547 (oBin (fun x y => x + y) 548) := w_iadd (hm := mm500) dL_law_547
theorem n500_548 : Snd mt G 500 548 (oAld [1100] 549) := w_iaload (hm := mm500) (kt := 0) dL_law_548 at_0 (Nat.le_of_ble_eq_true rfl) (List.forall_mem_cons.mpr ⟨Or.inr rfl, (fun t ht => nomatch ht)⟩)
theorem n500_549 : Snd mt G 500 549 (oAload 0 550) := w_aload_n (hm := mm500) dL_law_549
theorem n500_550 : Snd mt G 500 550 (oIload 4 552) := w_iload (hm := mm500) dL_law_550
theorem n500_552 : Snd mt G 500 552 (oConst (.int 4) 553) := w_iconst (hm := mm500) dL_law_552 rfl
theorem n500_553 : Snd mt G 500 553 (oBin (fun x y => x + y) 554) := w_iadd (hm := mm500) dL_law_553
theorem n500_554 : Snd mt G 500 554 (oAld [1100] 555) := w_iaload (hm := mm500) (kt := 0) dL_law_554 at_0 (Nat.le_of_ble_eq_true rfl) (List.forall_mem_cons.mpr ⟨Or.inr rfl, (fun t ht => nomatch ht)⟩)
theorem n500_555 : Snd mt G 500 555 (oAload 3 556) := w_aload_n (hm := mm500) dL_law_555
theorem n500_556 : Snd mt G 500 556 (oCall 6 (fS 2 7) 0 559 xOut) := s_callS (m' := 2) (n := 6) xsh_out (w_xok0 mm500) (w_cal mm500 mm2 pn_X0 (Nat.le_of_ble_eq_true rfl) (Nat.le_of_ble_eq_true rfl)) (fun h as hn => w_run_SX mm500 mm2 dL_law_556 q1613 q1614 q128 q1615 pa2 hn)
theorem n500_559 : Snd mt G 500 559 (oIstore 5 561) := w_istore (hm := mm500) dL_law_559 (Nat.le_of_ble_eq_true rfl)
theorem n500_561 : Snd mt G 500 561 (oAload 2 562) := w_aload_n (hm := mm500) dL_law_561
theorem n500_562 : Snd mt G 500 562 (oAload 0 563) := w_aload_n (hm := mm500) dL_law_562
theorem n500_563 : Snd mt G 500 563 (oIload 4 565) := w_iload (hm := mm500) dL_law_563
theorem n500_565 : Snd mt G 500 565 (oConst (.int 1) 566) := w_iconst (hm := mm500) dL_law_565 rfl
theorem n500_566 : Snd mt G 500 566 (oBin (fun x y => x + y) 567) := w_iadd (hm := mm500) dL_law_566
theorem n500_567 : Snd mt G 500 567 (oAld [1100] 568) := w_iaload (hm := mm500) (kt := 0) dL_law_567 at_0 (Nat.le_of_ble_eq_true rfl) (List.forall_mem_cons.mpr ⟨Or.inr rfl, (fun t ht => nomatch ht)⟩)
theorem n500_568 : Snd mt G 500 568 (oAload 0 569) := w_aload_n (hm := mm500) dL_law_568
theorem n500_569 : Snd mt G 500 569 (oIload 4 571) := w_iload (hm := mm500) dL_law_569
theorem n500_571 : Snd mt G 500 571 (oConst (.int 2) 572) := w_iconst (hm := mm500) dL_law_571 rfl
theorem n500_572 : Snd mt G 500 572 (oBin (fun x y => x + y) 573) := w_iadd (hm := mm500) dL_law_572
theorem n500_573 : Snd mt G 500 573 (oAld [1100] 574) := w_iaload (hm := mm500) (kt := 0) dL_law_573 at_0 (Nat.le_of_ble_eq_true rfl) (List.forall_mem_cons.mpr ⟨Or.inr rfl, (fun t ht => nomatch ht)⟩)
theorem n500_574 : Snd mt G 500 574 (oAload 0 575) := w_aload_n (hm := mm500) dL_law_574
theorem n500_575 : Snd mt G 500 575 (oIload 4 577) := w_iload (hm := mm500) dL_law_575
theorem n500_577 : Snd mt G 500 577 (oConst (.int 3) 578) := w_iconst (hm := mm500) dL_law_577 rfl
theorem n500_578 : Snd mt G 500 578 (oBin (fun x y => x + y) 579) := w_iadd (hm := mm500) dL_law_578
theorem n500_579 : Snd mt G 500 579 (oAld [1100] 580) := w_iaload (hm := mm500) (kt := 0) dL_law_579 at_0 (Nat.le_of_ble_eq_true rfl) (List.forall_mem_cons.mpr ⟨Or.inr rfl, (fun t ht => nomatch ht)⟩)
theorem n500_580 : Snd mt G 500 580 (oAload 0 581) := w_aload_n (hm := mm500) dL_law_580
theorem n500_581 : Snd mt G 500 581 (oIload 4 583) := w_iload (hm := mm500) dL_law_581
theorem n500_583 : Snd mt G 500 583 (oConst (.int 4) 584) := w_iconst (hm := mm500) dL_law_583 rfl
theorem n500_584 : Snd mt G 500 584 (oBin (fun x y => x + y) 585) := w_iadd (hm := mm500) dL_law_584
theorem n500_585 : Snd mt G 500 585 (oAld [1100] 586) := w_iaload (hm := mm500) (kt := 0) dL_law_585 at_0 (Nat.le_of_ble_eq_true rfl) (List.forall_mem_cons.mpr ⟨Or.inr rfl, (fun t ht => nomatch ht)⟩)
theorem n500_586 : Snd mt G 500 586 (oCall 5 (fV [4] 312 8) 0 589 xOut) := s_callV (m' := 312) (n := 4) xsh_out (w_xok0 mm500) (w_cal mm500 mm312 pn_X3 (Nat.le_of_ble_eq_true rfl) (Nat.le_of_ble_eq_true rfl)) (fun h b as hc hn => w_run_V (ci := 3) mm500 mm312 dL_law_586 (Or.inl (List.mem_singleton.mp hc)) (Nat.le_of_ble_eq_true rfl) vc_3 rfl q2741 q2742 q2743 q150 q2744 pa312 hn)
theorem n500_589 : Snd mt G 500 589 (oIstore 6 591) := w_istore (hm := mm500) dL_law_589 (Nat.le_of_ble_eq_true rfl)
theorem n500_591 : Snd mt G 500 591 (oAload 2 592) := w_aload_n (hm := mm500) dL_law_591
theorem n500_592 : Snd mt G 500 592 (oCall 1 (fV [4] 281 1) 0 595 xOut) := s_callV (m' := 281) (n := 0) xsh_out (w_xok0 mm500) (w_cal mm500 mm281 pn_X3 (Nat.le_of_ble_eq_true rfl) (Nat.le_of_ble_eq_true rfl)) (fun h b as hc hn => w_run_V (ci := 3) mm500 mm281 dL_law_592 (Or.inl (List.mem_singleton.mp hc)) (Nat.le_of_ble_eq_true rfl) vc_3 rfl q2619 q2620 q2621 q150 q2622 pa281 hn)
theorem n500_595 : Snd mt G 500 595 (oIload 5 597) := w_iload (hm := mm500) dL_law_595
theorem n500_597 : Snd mt G 500 597 (oCmpEq 602 600) := w_icmp_eq (hm := mm500) dL_law_597 rfl
theorem n500_600 : Snd mt G 500 600 (oConst (.int 0) 601) := w_iconst (hm := mm500) dL_law_600 rfl
theorem n500_601 : Snd mt G 500 601 (oRetI .boolean) := w_zret (hm := mm500) dL_law_601 rfl
theorem n500_602 : Snd mt G 500 602 (oIload 5 604) := w_iload (hm := mm500) dL_law_602
theorem n500_604 : Snd mt G 500 604 (oIfEq 607 619) := w_if_ne (hm := mm500) dL_law_604 rfl
theorem n500_607 : Snd mt G 500 607 (oAload 3 608) := w_aload_n (hm := mm500) dL_law_607
theorem n500_608 : Snd mt G 500 608 (oConst (.int 0) 609) := w_iconst (hm := mm500) dL_law_608 rfl
theorem n500_609 : Snd mt G 500 609 (oAld [102] 610) := w_laload (hm := mm500) (kt := 2) dL_law_609 at_2 (Nat.le_of_ble_eq_true rfl) (List.forall_mem_cons.mpr ⟨Or.inl rfl, (fun t ht => nomatch ht)⟩)
theorem n500_610 : Snd mt G 500 610 (oIload 6 612) := w_iload (hm := mm500) dL_law_610
theorem n500_612 : Snd mt G 500 612 (oUn (fun x => .long x.toInt64) 613) := w_i2l (hm := mm500) dL_law_612
theorem n500_613 : Snd mt G 500 613 (oLbin (fun x y => .int (lg_cmp x y)) 614) := w_lcmp (hm := mm500) dL_law_613
theorem n500_614 : Snd mt G 500 614 (oIfEq 619 617) := w_if_eq (hm := mm500) dL_law_614 rfl
theorem n500_617 : Snd mt G 500 617 (oConst (.int 0) 618) := w_iconst (hm := mm500) dL_law_617 rfl
theorem n500_618 : Snd mt G 500 618 (oRetI .boolean) := w_zret (hm := mm500) dL_law_618 rfl
theorem n500_619 : Snd mt G 500 619 (oGoto 4258) := w_goto (hm := mm500) dL_law_619 rfl
theorem n500_622 : Snd mt G 500 622 (oAload 1 623) := w_aload_n (hm := mm500) dL_law_622
theorem n500_623 : Snd mt G 500 623 (oAload 0 624) := w_aload_n (hm := mm500) dL_law_623
theorem n500_624 : Snd mt G 500 624 (oIload 4 626) := w_iload (hm := mm500) dL_law_624
theorem n500_626 : Snd mt G 500 626 (oConst (.int 1) 627) := w_iconst (hm := mm500) dL_law_626 rfl
theorem n500_627 : Snd mt G 500 627 (oBin (fun x y => x + y) 628) := w_iadd (hm := mm500) dL_law_627
theorem n500_628 : Snd mt G 500 628 (oAld [1100] 629) := w_iaload (hm := mm500) (kt := 0) dL_law_628 at_0 (Nat.le_of_ble_eq_true rfl) (List.forall_mem_cons.mpr ⟨Or.inr rfl, (fun t ht => nomatch ht)⟩)
theorem n500_629 : Snd mt G 500 629 (oAload 3 630) := w_aload_n (hm := mm500) dL_law_629
theorem n500_630 : Snd mt G 500 630 (oCall 3 (fS 3 4) 0 633 xOut) := s_callS (m' := 3) (n := 3) xsh_out (w_xok0 mm500) (w_cal mm500 mm3 pn_X0 (Nat.le_of_ble_eq_true rfl) (Nat.le_of_ble_eq_true rfl)) (fun h as hn => w_run_SX mm500 mm3 dL_law_630 q1646 q1647 q128 q1648 pa3 hn)
theorem n500_633 : Snd mt G 500 633 (oIstore 5 635) := w_istore (hm := mm500) dL_law_633 (Nat.le_of_ble_eq_true rfl)
theorem n500_635 : Snd mt G 500 635 (oAload 2 636) := w_aload_n (hm := mm500) dL_law_635
theorem n500_636 : Snd mt G 500 636 (oAload 0 637) := w_aload_n (hm := mm500) dL_law_636
theorem n500_637 : Snd mt G 500 637 (oIload 4 639) := w_iload (hm := mm500) dL_law_637
theorem n500_639 : Snd mt G 500 639 (oConst (.int 1) 640) := w_iconst (hm := mm500) dL_law_639 rfl
theorem n500_640 : Snd mt G 500 640 (oBin (fun x y => x + y) 641) := w_iadd (hm := mm500) dL_law_640
theorem n500_641 : Snd mt G 500 641 (oAld [1100] 642) := w_iaload (hm := mm500) (kt := 0) dL_law_641 at_0 (Nat.le_of_ble_eq_true rfl) (List.forall_mem_cons.mpr ⟨Or.inr rfl, (fun t ht => nomatch ht)⟩)
theorem n500_642 : Snd mt G 500 642 (oCall 2 (fV [4] 313 2) 0 645 xOut) := s_callV (m' := 313) (n := 1) xsh_out (w_xok0 mm500) (w_cal mm500 mm313 pn_X3 (Nat.le_of_ble_eq_true rfl) (Nat.le_of_ble_eq_true rfl)) (fun h b as hc hn => w_run_V (ci := 3) mm500 mm313 dL_law_642 (Or.inl (List.mem_singleton.mp hc)) (Nat.le_of_ble_eq_true rfl) vc_3 rfl q2746 q2747 q2748 q150 q2749 pa313 hn)
theorem n500_645 : Snd mt G 500 645 (oIstore 6 647) := w_istore (hm := mm500) dL_law_645 (Nat.le_of_ble_eq_true rfl)
theorem n500_647 : Snd mt G 500 647 (oAload 2 648) := w_aload_n (hm := mm500) dL_law_647
theorem n500_648 : Snd mt G 500 648 (oCall 1 (fV [4] 281 1) 0 651 xOut) := s_callV (m' := 281) (n := 0) xsh_out (w_xok0 mm500) (w_cal mm500 mm281 pn_X3 (Nat.le_of_ble_eq_true rfl) (Nat.le_of_ble_eq_true rfl)) (fun h b as hc hn => w_run_V (ci := 3) mm500 mm281 dL_law_648 (Or.inl (List.mem_singleton.mp hc)) (Nat.le_of_ble_eq_true rfl) vc_3 rfl q2619 q2620 q2621 q150 q2622 pa281 hn)
theorem n500_651 : Snd mt G 500 651 (oIload 5 653) := w_iload (hm := mm500) dL_law_651
theorem n500_653 : Snd mt G 500 653 (oCmpEq 658 656) := w_icmp_eq (hm := mm500) dL_law_653 rfl
theorem n500_656 : Snd mt G 500 656 (oConst (.int 0) 657) := w_iconst (hm := mm500) dL_law_656 rfl
theorem n500_657 : Snd mt G 500 657 (oRetI .boolean) := w_zret (hm := mm500) dL_law_657 rfl
theorem n500_658 : Snd mt G 500 658 (oIload 5 660) := w_iload (hm := mm500) dL_law_658
theorem n500_660 : Snd mt G 500 660 (oIfEq 663 675) := w_if_ne (hm := mm500) dL_law_660 rfl
theorem n500_663 : Snd mt G 500 663 (oAload 3 664) := w_aload_n (hm := mm500) dL_law_663
theorem n500_664 : Snd mt G 500 664 (oConst (.int 0) 665) := w_iconst (hm := mm500) dL_law_664 rfl
theorem n500_665 : Snd mt G 500 665 (oAld [102] 666) := w_laload (hm := mm500) (kt := 2) dL_law_665 at_2 (Nat.le_of_ble_eq_true rfl) (List.forall_mem_cons.mpr ⟨Or.inl rfl, (fun t ht => nomatch ht)⟩)
theorem n500_666 : Snd mt G 500 666 (oIload 6 668) := w_iload (hm := mm500) dL_law_666
theorem n500_668 : Snd mt G 500 668 (oUn (fun x => .long x.toInt64) 669) := w_i2l (hm := mm500) dL_law_668
theorem n500_669 : Snd mt G 500 669 (oLbin (fun x y => .int (lg_cmp x y)) 670) := w_lcmp (hm := mm500) dL_law_669
theorem n500_670 : Snd mt G 500 670 (oIfEq 675 673) := w_if_eq (hm := mm500) dL_law_670 rfl
theorem n500_673 : Snd mt G 500 673 (oConst (.int 0) 674) := w_iconst (hm := mm500) dL_law_673 rfl
theorem n500_674 : Snd mt G 500 674 (oRetI .boolean) := w_zret (hm := mm500) dL_law_674 rfl
theorem n500_675 : Snd mt G 500 675 (oGoto 4258) := w_goto (hm := mm500) dL_law_675 rfl
theorem n500_678 : Snd mt G 500 678 (oAload 1 679) := w_aload_n (hm := mm500) dL_law_678
theorem n500_679 : Snd mt G 500 679 (oAload 0 680) := w_aload_n (hm := mm500) dL_law_679
theorem n500_680 : Snd mt G 500 680 (oIload 4 682) := w_iload (hm := mm500) dL_law_680
theorem n500_682 : Snd mt G 500 682 (oConst (.int 1) 683) := w_iconst (hm := mm500) dL_law_682 rfl
theorem n500_683 : Snd mt G 500 683 (oBin (fun x y => x + y) 684) := w_iadd (hm := mm500) dL_law_683
theorem n500_684 : Snd mt G 500 684 (oAld [1100] 685) := w_iaload (hm := mm500) (kt := 0) dL_law_684 at_0 (Nat.le_of_ble_eq_true rfl) (List.forall_mem_cons.mpr ⟨Or.inr rfl, (fun t ht => nomatch ht)⟩)
theorem n500_685 : Snd mt G 500 685 (oAload 0 686) := w_aload_n (hm := mm500) dL_law_685
theorem n500_686 : Snd mt G 500 686 (oIload 4 688) := w_iload (hm := mm500) dL_law_686
theorem n500_688 : Snd mt G 500 688 (oConst (.int 2) 689) := w_iconst (hm := mm500) dL_law_688 rfl
theorem n500_689 : Snd mt G 500 689 (oBin (fun x y => x + y) 690) := w_iadd (hm := mm500) dL_law_689
theorem n500_690 : Snd mt G 500 690 (oAld [1100] 691) := w_iaload (hm := mm500) (kt := 0) dL_law_690 at_0 (Nat.le_of_ble_eq_true rfl) (List.forall_mem_cons.mpr ⟨Or.inr rfl, (fun t ht => nomatch ht)⟩)
theorem n500_691 : Snd mt G 500 691 (oAload 0 692) := w_aload_n (hm := mm500) dL_law_691
theorem n500_692 : Snd mt G 500 692 (oIload 4 694) := w_iload (hm := mm500) dL_law_692
theorem n500_694 : Snd mt G 500 694 (oConst (.int 3) 695) := w_iconst (hm := mm500) dL_law_694 rfl
theorem n500_695 : Snd mt G 500 695 (oBin (fun x y => x + y) 696) := w_iadd (hm := mm500) dL_law_695
theorem n500_696 : Snd mt G 500 696 (oAld [1100] 697) := w_iaload (hm := mm500) (kt := 0) dL_law_696 at_0 (Nat.le_of_ble_eq_true rfl) (List.forall_mem_cons.mpr ⟨Or.inr rfl, (fun t ht => nomatch ht)⟩)
theorem n500_697 : Snd mt G 500 697 (oAload 0 698) := w_aload_n (hm := mm500) dL_law_697
theorem n500_698 : Snd mt G 500 698 (oIload 4 700) := w_iload (hm := mm500) dL_law_698
theorem n500_700 : Snd mt G 500 700 (oConst (.int 4) 701) := w_iconst (hm := mm500) dL_law_700 rfl
theorem n500_701 : Snd mt G 500 701 (oBin (fun x y => x + y) 702) := w_iadd (hm := mm500) dL_law_701
theorem n500_702 : Snd mt G 500 702 (oAld [1100] 703) := w_iaload (hm := mm500) (kt := 0) dL_law_702 at_0 (Nat.le_of_ble_eq_true rfl) (List.forall_mem_cons.mpr ⟨Or.inr rfl, (fun t ht => nomatch ht)⟩)
theorem n500_703 : Snd mt G 500 703 (oAload 0 704) := w_aload_n (hm := mm500) dL_law_703
theorem n500_704 : Snd mt G 500 704 (oIload 4 706) := w_iload (hm := mm500) dL_law_704
theorem n500_706 : Snd mt G 500 706 (oConst (.int 5) 707) := w_iconst (hm := mm500) dL_law_706 rfl
theorem n500_707 : Snd mt G 500 707 (oBin (fun x y => x + y) 708) := w_iadd (hm := mm500) dL_law_707
theorem n500_708 : Snd mt G 500 708 (oAld [1100] 709) := w_iaload (hm := mm500) (kt := 0) dL_law_708 at_0 (Nat.le_of_ble_eq_true rfl) (List.forall_mem_cons.mpr ⟨Or.inr rfl, (fun t ht => nomatch ht)⟩)
theorem n500_709 : Snd mt G 500 709 (oIfEq 716 712) := w_if_eq (hm := mm500) dL_law_709 rfl
theorem n500_712 : Snd mt G 500 712 (oConst (.int 1) 713) := w_iconst (hm := mm500) dL_law_712 rfl
theorem n500_713 : Snd mt G 500 713 (oGoto 717) := w_goto (hm := mm500) dL_law_713 rfl
theorem n500_716 : Snd mt G 500 716 (oConst (.int 0) 717) := w_iconst (hm := mm500) dL_law_716 rfl
theorem n500_717 : Snd mt G 500 717 (oAload 3 718) := w_aload_n (hm := mm500) dL_law_717
theorem n500_718 : Snd mt G 500 718 (oCall 7 (fS 4 8) 0 721 xOut) := s_callS (m' := 4) (n := 7) xsh_out (w_xok0 mm500) (w_cal mm500 mm4 pn_X0 (Nat.le_of_ble_eq_true rfl) (Nat.le_of_ble_eq_true rfl)) (fun h as hn => w_run_SX mm500 mm4 dL_law_718 q1669 q1670 q128 q1671 pa4 hn)
theorem n500_721 : Snd mt G 500 721 (oIstore 5 723) := w_istore (hm := mm500) dL_law_721 (Nat.le_of_ble_eq_true rfl)
theorem n500_723 : Snd mt G 500 723 (oAload 2 724) := w_aload_n (hm := mm500) dL_law_723
theorem n500_724 : Snd mt G 500 724 (oAload 0 725) := w_aload_n (hm := mm500) dL_law_724
theorem n500_725 : Snd mt G 500 725 (oIload 4 727) := w_iload (hm := mm500) dL_law_725
theorem n500_727 : Snd mt G 500 727 (oConst (.int 1) 728) := w_iconst (hm := mm500) dL_law_727 rfl
theorem n500_728 : Snd mt G 500 728 (oBin (fun x y => x + y) 729) := w_iadd (hm := mm500) dL_law_728
theorem n500_729 : Snd mt G 500 729 (oAld [1100] 730) := w_iaload (hm := mm500) (kt := 0) dL_law_729 at_0 (Nat.le_of_ble_eq_true rfl) (List.forall_mem_cons.mpr ⟨Or.inr rfl, (fun t ht => nomatch ht)⟩)
theorem n500_730 : Snd mt G 500 730 (oAload 0 731) := w_aload_n (hm := mm500) dL_law_730
theorem n500_731 : Snd mt G 500 731 (oIload 4 733) := w_iload (hm := mm500) dL_law_731
theorem n500_733 : Snd mt G 500 733 (oConst (.int 2) 734) := w_iconst (hm := mm500) dL_law_733 rfl
theorem n500_734 : Snd mt G 500 734 (oBin (fun x y => x + y) 735) := w_iadd (hm := mm500) dL_law_734
theorem n500_735 : Snd mt G 500 735 (oAld [1100] 736) := w_iaload (hm := mm500) (kt := 0) dL_law_735 at_0 (Nat.le_of_ble_eq_true rfl) (List.forall_mem_cons.mpr ⟨Or.inr rfl, (fun t ht => nomatch ht)⟩)
theorem n500_736 : Snd mt G 500 736 (oAload 0 737) := w_aload_n (hm := mm500) dL_law_736
theorem n500_737 : Snd mt G 500 737 (oIload 4 739) := w_iload (hm := mm500) dL_law_737
theorem n500_739 : Snd mt G 500 739 (oConst (.int 3) 740) := w_iconst (hm := mm500) dL_law_739 rfl
theorem n500_740 : Snd mt G 500 740 (oBin (fun x y => x + y) 741) := w_iadd (hm := mm500) dL_law_740
theorem n500_741 : Snd mt G 500 741 (oAld [1100] 742) := w_iaload (hm := mm500) (kt := 0) dL_law_741 at_0 (Nat.le_of_ble_eq_true rfl) (List.forall_mem_cons.mpr ⟨Or.inr rfl, (fun t ht => nomatch ht)⟩)
theorem n500_742 : Snd mt G 500 742 (oAload 0 743) := w_aload_n (hm := mm500) dL_law_742
theorem n500_743 : Snd mt G 500 743 (oIload 4 745) := w_iload (hm := mm500) dL_law_743
theorem n500_745 : Snd mt G 500 745 (oConst (.int 4) 746) := w_iconst (hm := mm500) dL_law_745 rfl
theorem n500_746 : Snd mt G 500 746 (oBin (fun x y => x + y) 747) := w_iadd (hm := mm500) dL_law_746
theorem n500_747 : Snd mt G 500 747 (oAld [1100] 748) := w_iaload (hm := mm500) (kt := 0) dL_law_747 at_0 (Nat.le_of_ble_eq_true rfl) (List.forall_mem_cons.mpr ⟨Or.inr rfl, (fun t ht => nomatch ht)⟩)
theorem n500_748 : Snd mt G 500 748 (oAload 0 749) := w_aload_n (hm := mm500) dL_law_748
theorem n500_749 : Snd mt G 500 749 (oIload 4 751) := w_iload (hm := mm500) dL_law_749
theorem n500_751 : Snd mt G 500 751 (oConst (.int 5) 752) := w_iconst (hm := mm500) dL_law_751 rfl
theorem n500_752 : Snd mt G 500 752 (oBin (fun x y => x + y) 753) := w_iadd (hm := mm500) dL_law_752
theorem n500_753 : Snd mt G 500 753 (oAld [1100] 754) := w_iaload (hm := mm500) (kt := 0) dL_law_753 at_0 (Nat.le_of_ble_eq_true rfl) (List.forall_mem_cons.mpr ⟨Or.inr rfl, (fun t ht => nomatch ht)⟩)
theorem n500_754 : Snd mt G 500 754 (oIfEq 761 757) := w_if_eq (hm := mm500) dL_law_754 rfl
theorem n500_757 : Snd mt G 500 757 (oConst (.int 1) 758) := w_iconst (hm := mm500) dL_law_757 rfl
theorem n500_758 : Snd mt G 500 758 (oGoto 762) := w_goto (hm := mm500) dL_law_758 rfl
theorem n500_761 : Snd mt G 500 761 (oConst (.int 0) 762) := w_iconst (hm := mm500) dL_law_761 rfl
theorem n500_762 : Snd mt G 500 762 (oCall 6 (fV [4] 314 8) 0 765 xOut) := s_callV (m' := 314) (n := 5) xsh_out (w_xok0 mm500) (w_cal mm500 mm314 pn_X3 (Nat.le_of_ble_eq_true rfl) (Nat.le_of_ble_eq_true rfl)) (fun h b as hc hn => w_run_V (ci := 3) mm500 mm314 dL_law_762 (Or.inl (List.mem_singleton.mp hc)) (Nat.le_of_ble_eq_true rfl) vc_3 rfl q2750 q2751 q2752 q150 q2753 pa314 hn)
theorem n500_765 : Snd mt G 500 765 (oIstore 6 767) := w_istore (hm := mm500) dL_law_765 (Nat.le_of_ble_eq_true rfl)
theorem n500_767 : Snd mt G 500 767 (oAload 2 768) := w_aload_n (hm := mm500) dL_law_767
theorem n500_768 : Snd mt G 500 768 (oCall 1 (fV [4] 281 1) 0 771 xOut) := s_callV (m' := 281) (n := 0) xsh_out (w_xok0 mm500) (w_cal mm500 mm281 pn_X3 (Nat.le_of_ble_eq_true rfl) (Nat.le_of_ble_eq_true rfl)) (fun h b as hc hn => w_run_V (ci := 3) mm500 mm281 dL_law_768 (Or.inl (List.mem_singleton.mp hc)) (Nat.le_of_ble_eq_true rfl) vc_3 rfl q2619 q2620 q2621 q150 q2622 pa281 hn)
theorem n500_771 : Snd mt G 500 771 (oIload 5 773) := w_iload (hm := mm500) dL_law_771
theorem n500_773 : Snd mt G 500 773 (oCmpEq 778 776) := w_icmp_eq (hm := mm500) dL_law_773 rfl
theorem n500_776 : Snd mt G 500 776 (oConst (.int 0) 777) := w_iconst (hm := mm500) dL_law_776 rfl
theorem n500_777 : Snd mt G 500 777 (oRetI .boolean) := w_zret (hm := mm500) dL_law_777 rfl
theorem n500_778 : Snd mt G 500 778 (oIload 5 780) := w_iload (hm := mm500) dL_law_778
theorem n500_780 : Snd mt G 500 780 (oIfEq 783 795) := w_if_ne (hm := mm500) dL_law_780 rfl
theorem n500_783 : Snd mt G 500 783 (oAload 3 784) := w_aload_n (hm := mm500) dL_law_783
theorem n500_784 : Snd mt G 500 784 (oConst (.int 0) 785) := w_iconst (hm := mm500) dL_law_784 rfl
theorem n500_785 : Snd mt G 500 785 (oAld [102] 786) := w_laload (hm := mm500) (kt := 2) dL_law_785 at_2 (Nat.le_of_ble_eq_true rfl) (List.forall_mem_cons.mpr ⟨Or.inl rfl, (fun t ht => nomatch ht)⟩)
theorem n500_786 : Snd mt G 500 786 (oIload 6 788) := w_iload (hm := mm500) dL_law_786
theorem n500_788 : Snd mt G 500 788 (oUn (fun x => .long x.toInt64) 789) := w_i2l (hm := mm500) dL_law_788
theorem n500_789 : Snd mt G 500 789 (oLbin (fun x y => .int (lg_cmp x y)) 790) := w_lcmp (hm := mm500) dL_law_789
theorem n500_790 : Snd mt G 500 790 (oIfEq 795 793) := w_if_eq (hm := mm500) dL_law_790 rfl
theorem n500_793 : Snd mt G 500 793 (oConst (.int 0) 794) := w_iconst (hm := mm500) dL_law_793 rfl
theorem n500_794 : Snd mt G 500 794 (oRetI .boolean) := w_zret (hm := mm500) dL_law_794 rfl
theorem n500_795 : Snd mt G 500 795 (oGoto 4258) := w_goto (hm := mm500) dL_law_795 rfl
theorem n500_798 : Snd mt G 500 798 (oAload 1 799) := w_aload_n (hm := mm500) dL_law_798
theorem n500_799 : Snd mt G 500 799 (oAload 0 800) := w_aload_n (hm := mm500) dL_law_799
theorem n500_800 : Snd mt G 500 800 (oIload 4 802) := w_iload (hm := mm500) dL_law_800
theorem n500_802 : Snd mt G 500 802 (oConst (.int 1) 803) := w_iconst (hm := mm500) dL_law_802 rfl
theorem n500_803 : Snd mt G 500 803 (oBin (fun x y => x + y) 804) := w_iadd (hm := mm500) dL_law_803
theorem n500_804 : Snd mt G 500 804 (oAld [1100] 805) := w_iaload (hm := mm500) (kt := 0) dL_law_804 at_0 (Nat.le_of_ble_eq_true rfl) (List.forall_mem_cons.mpr ⟨Or.inr rfl, (fun t ht => nomatch ht)⟩)
theorem n500_805 : Snd mt G 500 805 (oAload 0 806) := w_aload_n (hm := mm500) dL_law_805
theorem n500_806 : Snd mt G 500 806 (oIload 4 808) := w_iload (hm := mm500) dL_law_806
theorem n500_808 : Snd mt G 500 808 (oConst (.int 2) 809) := w_iconst (hm := mm500) dL_law_808 rfl
theorem n500_809 : Snd mt G 500 809 (oBin (fun x y => x + y) 810) := w_iadd (hm := mm500) dL_law_809
theorem n500_810 : Snd mt G 500 810 (oAld [1100] 811) := w_iaload (hm := mm500) (kt := 0) dL_law_810 at_0 (Nat.le_of_ble_eq_true rfl) (List.forall_mem_cons.mpr ⟨Or.inr rfl, (fun t ht => nomatch ht)⟩)
theorem n500_811 : Snd mt G 500 811 (oAload 0 812) := w_aload_n (hm := mm500) dL_law_811
theorem n500_812 : Snd mt G 500 812 (oIload 4 814) := w_iload (hm := mm500) dL_law_812
theorem n500_814 : Snd mt G 500 814 (oConst (.int 3) 815) := w_iconst (hm := mm500) dL_law_814 rfl
theorem n500_815 : Snd mt G 500 815 (oBin (fun x y => x + y) 816) := w_iadd (hm := mm500) dL_law_815
theorem n500_816 : Snd mt G 500 816 (oAld [1100] 817) := w_iaload (hm := mm500) (kt := 0) dL_law_816 at_0 (Nat.le_of_ble_eq_true rfl) (List.forall_mem_cons.mpr ⟨Or.inr rfl, (fun t ht => nomatch ht)⟩)
theorem n500_817 : Snd mt G 500 817 (oAload 3 818) := w_aload_n (hm := mm500) dL_law_817
theorem n500_818 : Snd mt G 500 818 (oCall 5 (fS 5 6) 0 821 xOut) := s_callS (m' := 5) (n := 5) xsh_out (w_xok0 mm500) (w_cal mm500 mm5 pn_X0 (Nat.le_of_ble_eq_true rfl) (Nat.le_of_ble_eq_true rfl)) (fun h as hn => w_run_SX mm500 mm5 dL_law_818 q1680 q1681 q128 q1682 pa5 hn)
theorem n500_821 : Snd mt G 500 821 (oIstore 5 823) := w_istore (hm := mm500) dL_law_821 (Nat.le_of_ble_eq_true rfl)
theorem n500_823 : Snd mt G 500 823 (oAload 2 824) := w_aload_n (hm := mm500) dL_law_823
theorem n500_824 : Snd mt G 500 824 (oAload 0 825) := w_aload_n (hm := mm500) dL_law_824
theorem n500_825 : Snd mt G 500 825 (oIload 4 827) := w_iload (hm := mm500) dL_law_825
theorem n500_827 : Snd mt G 500 827 (oConst (.int 1) 828) := w_iconst (hm := mm500) dL_law_827 rfl
theorem n500_828 : Snd mt G 500 828 (oBin (fun x y => x + y) 829) := w_iadd (hm := mm500) dL_law_828
theorem n500_829 : Snd mt G 500 829 (oAld [1100] 830) := w_iaload (hm := mm500) (kt := 0) dL_law_829 at_0 (Nat.le_of_ble_eq_true rfl) (List.forall_mem_cons.mpr ⟨Or.inr rfl, (fun t ht => nomatch ht)⟩)
theorem n500_830 : Snd mt G 500 830 (oAload 0 831) := w_aload_n (hm := mm500) dL_law_830
theorem n500_831 : Snd mt G 500 831 (oIload 4 833) := w_iload (hm := mm500) dL_law_831
theorem n500_833 : Snd mt G 500 833 (oConst (.int 2) 834) := w_iconst (hm := mm500) dL_law_833 rfl
theorem n500_834 : Snd mt G 500 834 (oBin (fun x y => x + y) 835) := w_iadd (hm := mm500) dL_law_834
theorem n500_835 : Snd mt G 500 835 (oAld [1100] 836) := w_iaload (hm := mm500) (kt := 0) dL_law_835 at_0 (Nat.le_of_ble_eq_true rfl) (List.forall_mem_cons.mpr ⟨Or.inr rfl, (fun t ht => nomatch ht)⟩)
theorem n500_836 : Snd mt G 500 836 (oAload 0 837) := w_aload_n (hm := mm500) dL_law_836
theorem n500_837 : Snd mt G 500 837 (oIload 4 839) := w_iload (hm := mm500) dL_law_837
theorem n500_839 : Snd mt G 500 839 (oConst (.int 3) 840) := w_iconst (hm := mm500) dL_law_839 rfl
theorem n500_840 : Snd mt G 500 840 (oBin (fun x y => x + y) 841) := w_iadd (hm := mm500) dL_law_840
theorem n500_841 : Snd mt G 500 841 (oAld [1100] 842) := w_iaload (hm := mm500) (kt := 0) dL_law_841 at_0 (Nat.le_of_ble_eq_true rfl) (List.forall_mem_cons.mpr ⟨Or.inr rfl, (fun t ht => nomatch ht)⟩)
theorem n500_842 : Snd mt G 500 842 (oCall 4 (fV [4] 315 5) 0 845 xOut) := s_callV (m' := 315) (n := 3) xsh_out (w_xok0 mm500) (w_cal mm500 mm315 pn_X3 (Nat.le_of_ble_eq_true rfl) (Nat.le_of_ble_eq_true rfl)) (fun h b as hc hn => w_run_V (ci := 3) mm500 mm315 dL_law_842 (Or.inl (List.mem_singleton.mp hc)) (Nat.le_of_ble_eq_true rfl) vc_3 rfl q2754 q2755 q2756 q150 q2757 pa315 hn)
theorem n500_845 : Snd mt G 500 845 (oIstore 6 847) := w_istore (hm := mm500) dL_law_845 (Nat.le_of_ble_eq_true rfl)
theorem n500_847 : Snd mt G 500 847 (oAload 2 848) := w_aload_n (hm := mm500) dL_law_847
theorem n500_848 : Snd mt G 500 848 (oCall 1 (fV [4] 281 1) 0 851 xOut) := s_callV (m' := 281) (n := 0) xsh_out (w_xok0 mm500) (w_cal mm500 mm281 pn_X3 (Nat.le_of_ble_eq_true rfl) (Nat.le_of_ble_eq_true rfl)) (fun h b as hc hn => w_run_V (ci := 3) mm500 mm281 dL_law_848 (Or.inl (List.mem_singleton.mp hc)) (Nat.le_of_ble_eq_true rfl) vc_3 rfl q2619 q2620 q2621 q150 q2622 pa281 hn)
theorem n500_851 : Snd mt G 500 851 (oIload 5 853) := w_iload (hm := mm500) dL_law_851
theorem n500_853 : Snd mt G 500 853 (oCmpEq 858 856) := w_icmp_eq (hm := mm500) dL_law_853 rfl
theorem n500_856 : Snd mt G 500 856 (oConst (.int 0) 857) := w_iconst (hm := mm500) dL_law_856 rfl
theorem n500_857 : Snd mt G 500 857 (oRetI .boolean) := w_zret (hm := mm500) dL_law_857 rfl
theorem n500_858 : Snd mt G 500 858 (oIload 5 860) := w_iload (hm := mm500) dL_law_858
theorem n500_860 : Snd mt G 500 860 (oIfEq 863 875) := w_if_ne (hm := mm500) dL_law_860 rfl
theorem n500_863 : Snd mt G 500 863 (oAload 3 864) := w_aload_n (hm := mm500) dL_law_863
theorem n500_864 : Snd mt G 500 864 (oConst (.int 0) 865) := w_iconst (hm := mm500) dL_law_864 rfl
theorem n500_865 : Snd mt G 500 865 (oAld [102] 866) := w_laload (hm := mm500) (kt := 2) dL_law_865 at_2 (Nat.le_of_ble_eq_true rfl) (List.forall_mem_cons.mpr ⟨Or.inl rfl, (fun t ht => nomatch ht)⟩)
theorem n500_866 : Snd mt G 500 866 (oIload 6 868) := w_iload (hm := mm500) dL_law_866
theorem n500_868 : Snd mt G 500 868 (oUn (fun x => .long x.toInt64) 869) := w_i2l (hm := mm500) dL_law_868
theorem n500_869 : Snd mt G 500 869 (oLbin (fun x y => .int (lg_cmp x y)) 870) := w_lcmp (hm := mm500) dL_law_869
theorem n500_870 : Snd mt G 500 870 (oIfEq 875 873) := w_if_eq (hm := mm500) dL_law_870 rfl
theorem n500_873 : Snd mt G 500 873 (oConst (.int 0) 874) := w_iconst (hm := mm500) dL_law_873 rfl
theorem n500_874 : Snd mt G 500 874 (oRetI .boolean) := w_zret (hm := mm500) dL_law_874 rfl
theorem n500_875 : Snd mt G 500 875 (oGoto 4258) := w_goto (hm := mm500) dL_law_875 rfl
theorem n500_878 : Snd mt G 500 878 (oAload 1 879) := w_aload_n (hm := mm500) dL_law_878
theorem n500_879 : Snd mt G 500 879 (oAload 0 880) := w_aload_n (hm := mm500) dL_law_879
theorem n500_880 : Snd mt G 500 880 (oIload 4 882) := w_iload (hm := mm500) dL_law_880
theorem n500_882 : Snd mt G 500 882 (oConst (.int 1) 883) := w_iconst (hm := mm500) dL_law_882 rfl
theorem n500_883 : Snd mt G 500 883 (oBin (fun x y => x + y) 884) := w_iadd (hm := mm500) dL_law_883
theorem n500_884 : Snd mt G 500 884 (oAld [1100] 885) := w_iaload (hm := mm500) (kt := 0) dL_law_884 at_0 (Nat.le_of_ble_eq_true rfl) (List.forall_mem_cons.mpr ⟨Or.inr rfl, (fun t ht => nomatch ht)⟩)
theorem n500_885 : Snd mt G 500 885 (oAload 0 886) := w_aload_n (hm := mm500) dL_law_885
theorem n500_886 : Snd mt G 500 886 (oIload 4 888) := w_iload (hm := mm500) dL_law_886
theorem n500_888 : Snd mt G 500 888 (oConst (.int 2) 889) := w_iconst (hm := mm500) dL_law_888 rfl
theorem n500_889 : Snd mt G 500 889 (oBin (fun x y => x + y) 890) := w_iadd (hm := mm500) dL_law_889
theorem n500_890 : Snd mt G 500 890 (oAld [1100] 891) := w_iaload (hm := mm500) (kt := 0) dL_law_890 at_0 (Nat.le_of_ble_eq_true rfl) (List.forall_mem_cons.mpr ⟨Or.inr rfl, (fun t ht => nomatch ht)⟩)
theorem n500_891 : Snd mt G 500 891 (oAload 0 892) := w_aload_n (hm := mm500) dL_law_891
theorem n500_892 : Snd mt G 500 892 (oIload 4 894) := w_iload (hm := mm500) dL_law_892
theorem n500_894 : Snd mt G 500 894 (oConst (.int 3) 895) := w_iconst (hm := mm500) dL_law_894 rfl
theorem n500_895 : Snd mt G 500 895 (oBin (fun x y => x + y) 896) := w_iadd (hm := mm500) dL_law_895
theorem n500_896 : Snd mt G 500 896 (oAld [1100] 897) := w_iaload (hm := mm500) (kt := 0) dL_law_896 at_0 (Nat.le_of_ble_eq_true rfl) (List.forall_mem_cons.mpr ⟨Or.inr rfl, (fun t ht => nomatch ht)⟩)
theorem n500_897 : Snd mt G 500 897 (oAload 3 898) := w_aload_n (hm := mm500) dL_law_897
theorem n500_898 : Snd mt G 500 898 (oCall 5 (fS 6 6) 0 901 xOut) := s_callS (m' := 6) (n := 5) xsh_out (w_xok0 mm500) (w_cal mm500 mm6 pn_X0 (Nat.le_of_ble_eq_true rfl) (Nat.le_of_ble_eq_true rfl)) (fun h as hn => w_run_SX mm500 mm6 dL_law_898 q1711 q1712 q128 q1713 pa6 hn)
theorem n500_901 : Snd mt G 500 901 (oIstore 5 903) := w_istore (hm := mm500) dL_law_901 (Nat.le_of_ble_eq_true rfl)
theorem n500_903 : Snd mt G 500 903 (oAload 2 904) := w_aload_n (hm := mm500) dL_law_903
theorem n500_904 : Snd mt G 500 904 (oAload 0 905) := w_aload_n (hm := mm500) dL_law_904
theorem n500_905 : Snd mt G 500 905 (oIload 4 907) := w_iload (hm := mm500) dL_law_905
theorem n500_907 : Snd mt G 500 907 (oConst (.int 1) 908) := w_iconst (hm := mm500) dL_law_907 rfl
theorem n500_908 : Snd mt G 500 908 (oBin (fun x y => x + y) 909) := w_iadd (hm := mm500) dL_law_908
theorem n500_909 : Snd mt G 500 909 (oAld [1100] 910) := w_iaload (hm := mm500) (kt := 0) dL_law_909 at_0 (Nat.le_of_ble_eq_true rfl) (List.forall_mem_cons.mpr ⟨Or.inr rfl, (fun t ht => nomatch ht)⟩)
theorem n500_910 : Snd mt G 500 910 (oAload 0 911) := w_aload_n (hm := mm500) dL_law_910
theorem n500_911 : Snd mt G 500 911 (oIload 4 913) := w_iload (hm := mm500) dL_law_911
theorem n500_913 : Snd mt G 500 913 (oConst (.int 2) 914) := w_iconst (hm := mm500) dL_law_913 rfl
theorem n500_914 : Snd mt G 500 914 (oBin (fun x y => x + y) 915) := w_iadd (hm := mm500) dL_law_914
theorem n500_915 : Snd mt G 500 915 (oAld [1100] 916) := w_iaload (hm := mm500) (kt := 0) dL_law_915 at_0 (Nat.le_of_ble_eq_true rfl) (List.forall_mem_cons.mpr ⟨Or.inr rfl, (fun t ht => nomatch ht)⟩)
theorem n500_916 : Snd mt G 500 916 (oAload 0 917) := w_aload_n (hm := mm500) dL_law_916
theorem n500_917 : Snd mt G 500 917 (oIload 4 919) := w_iload (hm := mm500) dL_law_917
theorem n500_919 : Snd mt G 500 919 (oConst (.int 3) 920) := w_iconst (hm := mm500) dL_law_919 rfl
theorem n500_920 : Snd mt G 500 920 (oBin (fun x y => x + y) 921) := w_iadd (hm := mm500) dL_law_920
theorem n500_921 : Snd mt G 500 921 (oAld [1100] 922) := w_iaload (hm := mm500) (kt := 0) dL_law_921 at_0 (Nat.le_of_ble_eq_true rfl) (List.forall_mem_cons.mpr ⟨Or.inr rfl, (fun t ht => nomatch ht)⟩)
theorem n500_922 : Snd mt G 500 922 (oCall 4 (fV [4] 318 6) 0 925 xOut) := s_callV (m' := 318) (n := 3) xsh_out (w_xok0 mm500) (w_cal mm500 mm318 pn_X3 (Nat.le_of_ble_eq_true rfl) (Nat.le_of_ble_eq_true rfl)) (fun h b as hc hn => w_run_V (ci := 3) mm500 mm318 dL_law_922 (Or.inl (List.mem_singleton.mp hc)) (Nat.le_of_ble_eq_true rfl) vc_3 rfl q2766 q2767 q2768 q150 q2769 pa318 hn)
theorem n500_925 : Snd mt G 500 925 (oIstore 6 927) := w_istore (hm := mm500) dL_law_925 (Nat.le_of_ble_eq_true rfl)
theorem n500_927 : Snd mt G 500 927 (oAload 2 928) := w_aload_n (hm := mm500) dL_law_927
theorem n500_928 : Snd mt G 500 928 (oCall 1 (fV [4] 281 1) 0 931 xOut) := s_callV (m' := 281) (n := 0) xsh_out (w_xok0 mm500) (w_cal mm500 mm281 pn_X3 (Nat.le_of_ble_eq_true rfl) (Nat.le_of_ble_eq_true rfl)) (fun h b as hc hn => w_run_V (ci := 3) mm500 mm281 dL_law_928 (Or.inl (List.mem_singleton.mp hc)) (Nat.le_of_ble_eq_true rfl) vc_3 rfl q2619 q2620 q2621 q150 q2622 pa281 hn)
theorem n500_931 : Snd mt G 500 931 (oIload 5 933) := w_iload (hm := mm500) dL_law_931
theorem n500_933 : Snd mt G 500 933 (oCmpEq 938 936) := w_icmp_eq (hm := mm500) dL_law_933 rfl
theorem n500_936 : Snd mt G 500 936 (oConst (.int 0) 937) := w_iconst (hm := mm500) dL_law_936 rfl
theorem n500_937 : Snd mt G 500 937 (oRetI .boolean) := w_zret (hm := mm500) dL_law_937 rfl
theorem n500_938 : Snd mt G 500 938 (oIload 5 940) := w_iload (hm := mm500) dL_law_938
theorem n500_940 : Snd mt G 500 940 (oIfEq 943 955) := w_if_ne (hm := mm500) dL_law_940 rfl
theorem n500_943 : Snd mt G 500 943 (oAload 3 944) := w_aload_n (hm := mm500) dL_law_943
theorem n500_944 : Snd mt G 500 944 (oConst (.int 0) 945) := w_iconst (hm := mm500) dL_law_944 rfl
theorem n500_945 : Snd mt G 500 945 (oAld [102] 946) := w_laload (hm := mm500) (kt := 2) dL_law_945 at_2 (Nat.le_of_ble_eq_true rfl) (List.forall_mem_cons.mpr ⟨Or.inl rfl, (fun t ht => nomatch ht)⟩)
theorem n500_946 : Snd mt G 500 946 (oIload 6 948) := w_iload (hm := mm500) dL_law_946
theorem n500_948 : Snd mt G 500 948 (oUn (fun x => .long x.toInt64) 949) := w_i2l (hm := mm500) dL_law_948
theorem n500_949 : Snd mt G 500 949 (oLbin (fun x y => .int (lg_cmp x y)) 950) := w_lcmp (hm := mm500) dL_law_949
theorem n500_950 : Snd mt G 500 950 (oIfEq 955 953) := w_if_eq (hm := mm500) dL_law_950 rfl
theorem n500_953 : Snd mt G 500 953 (oConst (.int 0) 954) := w_iconst (hm := mm500) dL_law_953 rfl
theorem n500_954 : Snd mt G 500 954 (oRetI .boolean) := w_zret (hm := mm500) dL_law_954 rfl
theorem n500_955 : Snd mt G 500 955 (oGoto 4258) := w_goto (hm := mm500) dL_law_955 rfl
theorem n500_958 : Snd mt G 500 958 (oAload 1 959) := w_aload_n (hm := mm500) dL_law_958
theorem n500_959 : Snd mt G 500 959 (oAload 0 960) := w_aload_n (hm := mm500) dL_law_959
theorem n500_960 : Snd mt G 500 960 (oIload 4 962) := w_iload (hm := mm500) dL_law_960
theorem n500_962 : Snd mt G 500 962 (oConst (.int 1) 963) := w_iconst (hm := mm500) dL_law_962 rfl
theorem n500_963 : Snd mt G 500 963 (oBin (fun x y => x + y) 964) := w_iadd (hm := mm500) dL_law_963
theorem n500_964 : Snd mt G 500 964 (oAld [1100] 965) := w_iaload (hm := mm500) (kt := 0) dL_law_964 at_0 (Nat.le_of_ble_eq_true rfl) (List.forall_mem_cons.mpr ⟨Or.inr rfl, (fun t ht => nomatch ht)⟩)
theorem n500_965 : Snd mt G 500 965 (oAload 0 966) := w_aload_n (hm := mm500) dL_law_965
theorem n500_966 : Snd mt G 500 966 (oIload 4 968) := w_iload (hm := mm500) dL_law_966
theorem n500_968 : Snd mt G 500 968 (oConst (.int 2) 969) := w_iconst (hm := mm500) dL_law_968 rfl
theorem n500_969 : Snd mt G 500 969 (oBin (fun x y => x + y) 970) := w_iadd (hm := mm500) dL_law_969
theorem n500_970 : Snd mt G 500 970 (oAld [1100] 971) := w_iaload (hm := mm500) (kt := 0) dL_law_970 at_0 (Nat.le_of_ble_eq_true rfl) (List.forall_mem_cons.mpr ⟨Or.inr rfl, (fun t ht => nomatch ht)⟩)
theorem n500_971 : Snd mt G 500 971 (oAload 3 972) := w_aload_n (hm := mm500) dL_law_971
theorem n500_972 : Snd mt G 500 972 (oCall 4 (fS 7 5) 0 975 xOut) := s_callS (m' := 7) (n := 4) xsh_out (w_xok0 mm500) (w_cal mm500 mm7 pn_X0 (Nat.le_of_ble_eq_true rfl) (Nat.le_of_ble_eq_true rfl)) (fun h as hn => w_run_SX mm500 mm7 dL_law_972 q1718 q1719 q128 q1720 pa7 hn)
theorem n500_975 : Snd mt G 500 975 (oIstore 5 977) := w_istore (hm := mm500) dL_law_975 (Nat.le_of_ble_eq_true rfl)
theorem n500_977 : Snd mt G 500 977 (oAload 2 978) := w_aload_n (hm := mm500) dL_law_977
theorem n500_978 : Snd mt G 500 978 (oAload 0 979) := w_aload_n (hm := mm500) dL_law_978
theorem n500_979 : Snd mt G 500 979 (oIload 4 981) := w_iload (hm := mm500) dL_law_979
theorem n500_981 : Snd mt G 500 981 (oConst (.int 1) 982) := w_iconst (hm := mm500) dL_law_981 rfl
theorem n500_982 : Snd mt G 500 982 (oBin (fun x y => x + y) 983) := w_iadd (hm := mm500) dL_law_982
theorem n500_983 : Snd mt G 500 983 (oAld [1100] 984) := w_iaload (hm := mm500) (kt := 0) dL_law_983 at_0 (Nat.le_of_ble_eq_true rfl) (List.forall_mem_cons.mpr ⟨Or.inr rfl, (fun t ht => nomatch ht)⟩)
theorem n500_984 : Snd mt G 500 984 (oAload 0 985) := w_aload_n (hm := mm500) dL_law_984
theorem n500_985 : Snd mt G 500 985 (oIload 4 987) := w_iload (hm := mm500) dL_law_985
theorem n500_987 : Snd mt G 500 987 (oConst (.int 2) 988) := w_iconst (hm := mm500) dL_law_987 rfl
theorem n500_988 : Snd mt G 500 988 (oBin (fun x y => x + y) 989) := w_iadd (hm := mm500) dL_law_988
theorem n500_989 : Snd mt G 500 989 (oAld [1100] 990) := w_iaload (hm := mm500) (kt := 0) dL_law_989 at_0 (Nat.le_of_ble_eq_true rfl) (List.forall_mem_cons.mpr ⟨Or.inr rfl, (fun t ht => nomatch ht)⟩)
theorem n500_990 : Snd mt G 500 990 (oCall 3 (fV [4] 319 3) 0 993 xOut) := s_callV (m' := 319) (n := 2) xsh_out (w_xok0 mm500) (w_cal mm500 mm319 pn_X3 (Nat.le_of_ble_eq_true rfl) (Nat.le_of_ble_eq_true rfl)) (fun h b as hc hn => w_run_V (ci := 3) mm500 mm319 dL_law_990 (Or.inl (List.mem_singleton.mp hc)) (Nat.le_of_ble_eq_true rfl) vc_3 rfl q2770 q2771 q2772 q150 q2773 pa319 hn)
theorem n500_993 : Snd mt G 500 993 (oIstore 6 995) := w_istore (hm := mm500) dL_law_993 (Nat.le_of_ble_eq_true rfl)
theorem n500_995 : Snd mt G 500 995 (oAload 2 996) := w_aload_n (hm := mm500) dL_law_995
theorem n500_996 : Snd mt G 500 996 (oCall 1 (fV [4] 281 1) 0 999 xOut) := s_callV (m' := 281) (n := 0) xsh_out (w_xok0 mm500) (w_cal mm500 mm281 pn_X3 (Nat.le_of_ble_eq_true rfl) (Nat.le_of_ble_eq_true rfl)) (fun h b as hc hn => w_run_V (ci := 3) mm500 mm281 dL_law_996 (Or.inl (List.mem_singleton.mp hc)) (Nat.le_of_ble_eq_true rfl) vc_3 rfl q2619 q2620 q2621 q150 q2622 pa281 hn)
theorem n500_999 : Snd mt G 500 999 (oIload 5 1001) := w_iload (hm := mm500) dL_law_999
theorem n500_1001 : Snd mt G 500 1001 (oCmpEq 1006 1004) := w_icmp_eq (hm := mm500) dL_law_1001 rfl
theorem n500_1004 : Snd mt G 500 1004 (oConst (.int 0) 1005) := w_iconst (hm := mm500) dL_law_1004 rfl
theorem n500_1005 : Snd mt G 500 1005 (oRetI .boolean) := w_zret (hm := mm500) dL_law_1005 rfl
theorem n500_1006 : Snd mt G 500 1006 (oIload 5 1008) := w_iload (hm := mm500) dL_law_1006
theorem n500_1008 : Snd mt G 500 1008 (oIfEq 1011 1023) := w_if_ne (hm := mm500) dL_law_1008 rfl
theorem n500_1011 : Snd mt G 500 1011 (oAload 3 1012) := w_aload_n (hm := mm500) dL_law_1011
theorem n500_1012 : Snd mt G 500 1012 (oConst (.int 0) 1013) := w_iconst (hm := mm500) dL_law_1012 rfl
theorem n500_1013 : Snd mt G 500 1013 (oAld [102] 1014) := w_laload (hm := mm500) (kt := 2) dL_law_1013 at_2 (Nat.le_of_ble_eq_true rfl) (List.forall_mem_cons.mpr ⟨Or.inl rfl, (fun t ht => nomatch ht)⟩)
theorem n500_1014 : Snd mt G 500 1014 (oIload 6 1016) := w_iload (hm := mm500) dL_law_1014
theorem n500_1016 : Snd mt G 500 1016 (oUn (fun x => .long x.toInt64) 1017) := w_i2l (hm := mm500) dL_law_1016
theorem n500_1017 : Snd mt G 500 1017 (oLbin (fun x y => .int (lg_cmp x y)) 1018) := w_lcmp (hm := mm500) dL_law_1017
theorem n500_1018 : Snd mt G 500 1018 (oIfEq 1023 1021) := w_if_eq (hm := mm500) dL_law_1018 rfl
theorem n500_1021 : Snd mt G 500 1021 (oConst (.int 0) 1022) := w_iconst (hm := mm500) dL_law_1021 rfl
theorem n500_1022 : Snd mt G 500 1022 (oRetI .boolean) := w_zret (hm := mm500) dL_law_1022 rfl
theorem n500_1023 : Snd mt G 500 1023 (oGoto 4258) := w_goto (hm := mm500) dL_law_1023 rfl
theorem n500_1026 : Snd mt G 500 1026 (oAload 1 1027) := w_aload_n (hm := mm500) dL_law_1026
theorem n500_1027 : Snd mt G 500 1027 (oAload 0 1028) := w_aload_n (hm := mm500) dL_law_1027
theorem n500_1028 : Snd mt G 500 1028 (oIload 4 1030) := w_iload (hm := mm500) dL_law_1028
theorem n500_1030 : Snd mt G 500 1030 (oConst (.int 1) 1031) := w_iconst (hm := mm500) dL_law_1030 rfl
theorem n500_1031 : Snd mt G 500 1031 (oBin (fun x y => x + y) 1032) := w_iadd (hm := mm500) dL_law_1031
theorem n500_1032 : Snd mt G 500 1032 (oAld [1100] 1033) := w_iaload (hm := mm500) (kt := 0) dL_law_1032 at_0 (Nat.le_of_ble_eq_true rfl) (List.forall_mem_cons.mpr ⟨Or.inr rfl, (fun t ht => nomatch ht)⟩)
theorem n500_1033 : Snd mt G 500 1033 (oAload 0 1034) := w_aload_n (hm := mm500) dL_law_1033
theorem n500_1034 : Snd mt G 500 1034 (oIload 4 1036) := w_iload (hm := mm500) dL_law_1034
theorem n500_1036 : Snd mt G 500 1036 (oConst (.int 2) 1037) := w_iconst (hm := mm500) dL_law_1036 rfl
theorem n500_1037 : Snd mt G 500 1037 (oBin (fun x y => x + y) 1038) := w_iadd (hm := mm500) dL_law_1037
theorem n500_1038 : Snd mt G 500 1038 (oAld [1100] 1039) := w_iaload (hm := mm500) (kt := 0) dL_law_1038 at_0 (Nat.le_of_ble_eq_true rfl) (List.forall_mem_cons.mpr ⟨Or.inr rfl, (fun t ht => nomatch ht)⟩)
theorem n500_1039 : Snd mt G 500 1039 (oAload 0 1040) := w_aload_n (hm := mm500) dL_law_1039
theorem n500_1040 : Snd mt G 500 1040 (oIload 4 1042) := w_iload (hm := mm500) dL_law_1040
theorem n500_1042 : Snd mt G 500 1042 (oConst (.int 3) 1043) := w_iconst (hm := mm500) dL_law_1042 rfl
theorem n500_1043 : Snd mt G 500 1043 (oBin (fun x y => x + y) 1044) := w_iadd (hm := mm500) dL_law_1043
theorem n500_1044 : Snd mt G 500 1044 (oAld [1100] 1045) := w_iaload (hm := mm500) (kt := 0) dL_law_1044 at_0 (Nat.le_of_ble_eq_true rfl) (List.forall_mem_cons.mpr ⟨Or.inr rfl, (fun t ht => nomatch ht)⟩)
theorem n500_1045 : Snd mt G 500 1045 (oAload 3 1046) := w_aload_n (hm := mm500) dL_law_1045
theorem n500_1046 : Snd mt G 500 1046 (oCall 5 (fS 8 6) 0 1049 xOut) := s_callS (m' := 8) (n := 5) xsh_out (w_xok0 mm500) (w_cal mm500 mm8 pn_X0 (Nat.le_of_ble_eq_true rfl) (Nat.le_of_ble_eq_true rfl)) (fun h as hn => w_run_SX mm500 mm8 dL_law_1046 q1725 q1726 q128 q1727 pa8 hn)
theorem n500_1049 : Snd mt G 500 1049 (oIstore 5 1051) := w_istore (hm := mm500) dL_law_1049 (Nat.le_of_ble_eq_true rfl)
theorem n500_1051 : Snd mt G 500 1051 (oAload 2 1052) := w_aload_n (hm := mm500) dL_law_1051
theorem n500_1052 : Snd mt G 500 1052 (oAload 0 1053) := w_aload_n (hm := mm500) dL_law_1052
theorem n500_1053 : Snd mt G 500 1053 (oIload 4 1055) := w_iload (hm := mm500) dL_law_1053
theorem n500_1055 : Snd mt G 500 1055 (oConst (.int 1) 1056) := w_iconst (hm := mm500) dL_law_1055 rfl
theorem n500_1056 : Snd mt G 500 1056 (oBin (fun x y => x + y) 1057) := w_iadd (hm := mm500) dL_law_1056
theorem n500_1057 : Snd mt G 500 1057 (oAld [1100] 1058) := w_iaload (hm := mm500) (kt := 0) dL_law_1057 at_0 (Nat.le_of_ble_eq_true rfl) (List.forall_mem_cons.mpr ⟨Or.inr rfl, (fun t ht => nomatch ht)⟩)
theorem n500_1058 : Snd mt G 500 1058 (oAload 0 1059) := w_aload_n (hm := mm500) dL_law_1058
theorem n500_1059 : Snd mt G 500 1059 (oIload 4 1061) := w_iload (hm := mm500) dL_law_1059
theorem n500_1061 : Snd mt G 500 1061 (oConst (.int 2) 1062) := w_iconst (hm := mm500) dL_law_1061 rfl
theorem n500_1062 : Snd mt G 500 1062 (oBin (fun x y => x + y) 1063) := w_iadd (hm := mm500) dL_law_1062
theorem n500_1063 : Snd mt G 500 1063 (oAld [1100] 1064) := w_iaload (hm := mm500) (kt := 0) dL_law_1063 at_0 (Nat.le_of_ble_eq_true rfl) (List.forall_mem_cons.mpr ⟨Or.inr rfl, (fun t ht => nomatch ht)⟩)
theorem n500_1064 : Snd mt G 500 1064 (oAload 0 1065) := w_aload_n (hm := mm500) dL_law_1064
theorem n500_1065 : Snd mt G 500 1065 (oIload 4 1067) := w_iload (hm := mm500) dL_law_1065
theorem n500_1067 : Snd mt G 500 1067 (oConst (.int 3) 1068) := w_iconst (hm := mm500) dL_law_1067 rfl
theorem n500_1068 : Snd mt G 500 1068 (oBin (fun x y => x + y) 1069) := w_iadd (hm := mm500) dL_law_1068
theorem n500_1069 : Snd mt G 500 1069 (oAld [1100] 1070) := w_iaload (hm := mm500) (kt := 0) dL_law_1069 at_0 (Nat.le_of_ble_eq_true rfl) (List.forall_mem_cons.mpr ⟨Or.inr rfl, (fun t ht => nomatch ht)⟩)
theorem n500_1070 : Snd mt G 500 1070 (oCall 4 (fV [4] 320 4) 0 1073 xOut) := s_callV (m' := 320) (n := 3) xsh_out (w_xok0 mm500) (w_cal mm500 mm320 pn_X3 (Nat.le_of_ble_eq_true rfl) (Nat.le_of_ble_eq_true rfl)) (fun h b as hc hn => w_run_V (ci := 3) mm500 mm320 dL_law_1070 (Or.inl (List.mem_singleton.mp hc)) (Nat.le_of_ble_eq_true rfl) vc_3 rfl q2774 q2775 q2776 q150 q2777 pa320 hn)
theorem n500_1073 : Snd mt G 500 1073 (oIstore 6 1075) := w_istore (hm := mm500) dL_law_1073 (Nat.le_of_ble_eq_true rfl)
theorem n500_1075 : Snd mt G 500 1075 (oAload 2 1076) := w_aload_n (hm := mm500) dL_law_1075
theorem n500_1076 : Snd mt G 500 1076 (oCall 1 (fV [4] 281 1) 0 1079 xOut) := s_callV (m' := 281) (n := 0) xsh_out (w_xok0 mm500) (w_cal mm500 mm281 pn_X3 (Nat.le_of_ble_eq_true rfl) (Nat.le_of_ble_eq_true rfl)) (fun h b as hc hn => w_run_V (ci := 3) mm500 mm281 dL_law_1076 (Or.inl (List.mem_singleton.mp hc)) (Nat.le_of_ble_eq_true rfl) vc_3 rfl q2619 q2620 q2621 q150 q2622 pa281 hn)
theorem n500_1079 : Snd mt G 500 1079 (oIload 5 1081) := w_iload (hm := mm500) dL_law_1079
theorem n500_1081 : Snd mt G 500 1081 (oCmpEq 1086 1084) := w_icmp_eq (hm := mm500) dL_law_1081 rfl
theorem n500_1084 : Snd mt G 500 1084 (oConst (.int 0) 1085) := w_iconst (hm := mm500) dL_law_1084 rfl
theorem n500_1085 : Snd mt G 500 1085 (oRetI .boolean) := w_zret (hm := mm500) dL_law_1085 rfl
theorem n500_1086 : Snd mt G 500 1086 (oIload 5 1088) := w_iload (hm := mm500) dL_law_1086
theorem n500_1088 : Snd mt G 500 1088 (oIfEq 1091 1103) := w_if_ne (hm := mm500) dL_law_1088 rfl
theorem n500_1091 : Snd mt G 500 1091 (oAload 3 1092) := w_aload_n (hm := mm500) dL_law_1091
theorem n500_1092 : Snd mt G 500 1092 (oConst (.int 0) 1093) := w_iconst (hm := mm500) dL_law_1092 rfl
theorem n500_1093 : Snd mt G 500 1093 (oAld [102] 1094) := w_laload (hm := mm500) (kt := 2) dL_law_1093 at_2 (Nat.le_of_ble_eq_true rfl) (List.forall_mem_cons.mpr ⟨Or.inl rfl, (fun t ht => nomatch ht)⟩)
theorem n500_1094 : Snd mt G 500 1094 (oIload 6 1096) := w_iload (hm := mm500) dL_law_1094
theorem n500_1096 : Snd mt G 500 1096 (oUn (fun x => .long x.toInt64) 1097) := w_i2l (hm := mm500) dL_law_1096
theorem n500_1097 : Snd mt G 500 1097 (oLbin (fun x y => .int (lg_cmp x y)) 1098) := w_lcmp (hm := mm500) dL_law_1097
theorem n500_1098 : Snd mt G 500 1098 (oIfEq 1103 1101) := w_if_eq (hm := mm500) dL_law_1098 rfl
theorem n500_1101 : Snd mt G 500 1101 (oConst (.int 0) 1102) := w_iconst (hm := mm500) dL_law_1101 rfl
theorem n500_1102 : Snd mt G 500 1102 (oRetI .boolean) := w_zret (hm := mm500) dL_law_1102 rfl
theorem n500_1103 : Snd mt G 500 1103 (oGoto 4258) := w_goto (hm := mm500) dL_law_1103 rfl
theorem n500_1106 : Snd mt G 500 1106 (oAload 1 1107) := w_aload_n (hm := mm500) dL_law_1106
theorem n500_1107 : Snd mt G 500 1107 (oAload 0 1108) := w_aload_n (hm := mm500) dL_law_1107
theorem n500_1108 : Snd mt G 500 1108 (oIload 4 1110) := w_iload (hm := mm500) dL_law_1108
theorem n500_1110 : Snd mt G 500 1110 (oConst (.int 1) 1111) := w_iconst (hm := mm500) dL_law_1110 rfl
theorem n500_1111 : Snd mt G 500 1111 (oBin (fun x y => x + y) 1112) := w_iadd (hm := mm500) dL_law_1111
theorem n500_1112 : Snd mt G 500 1112 (oAld [1100] 1113) := w_iaload (hm := mm500) (kt := 0) dL_law_1112 at_0 (Nat.le_of_ble_eq_true rfl) (List.forall_mem_cons.mpr ⟨Or.inr rfl, (fun t ht => nomatch ht)⟩)
theorem n500_1113 : Snd mt G 500 1113 (oAload 0 1114) := w_aload_n (hm := mm500) dL_law_1113
theorem n500_1114 : Snd mt G 500 1114 (oIload 4 1116) := w_iload (hm := mm500) dL_law_1114
theorem n500_1116 : Snd mt G 500 1116 (oConst (.int 2) 1117) := w_iconst (hm := mm500) dL_law_1116 rfl
theorem n500_1117 : Snd mt G 500 1117 (oBin (fun x y => x + y) 1118) := w_iadd (hm := mm500) dL_law_1117
theorem n500_1118 : Snd mt G 500 1118 (oAld [1100] 1119) := w_iaload (hm := mm500) (kt := 0) dL_law_1118 at_0 (Nat.le_of_ble_eq_true rfl) (List.forall_mem_cons.mpr ⟨Or.inr rfl, (fun t ht => nomatch ht)⟩)
theorem n500_1119 : Snd mt G 500 1119 (oAload 0 1120) := w_aload_n (hm := mm500) dL_law_1119
theorem n500_1120 : Snd mt G 500 1120 (oIload 4 1122) := w_iload (hm := mm500) dL_law_1120
theorem n500_1122 : Snd mt G 500 1122 (oConst (.int 3) 1123) := w_iconst (hm := mm500) dL_law_1122 rfl
theorem n500_1123 : Snd mt G 500 1123 (oBin (fun x y => x + y) 1124) := w_iadd (hm := mm500) dL_law_1123
theorem n500_1124 : Snd mt G 500 1124 (oAld [1100] 1125) := w_iaload (hm := mm500) (kt := 0) dL_law_1124 at_0 (Nat.le_of_ble_eq_true rfl) (List.forall_mem_cons.mpr ⟨Or.inr rfl, (fun t ht => nomatch ht)⟩)
theorem n500_1125 : Snd mt G 500 1125 (oAload 3 1126) := w_aload_n (hm := mm500) dL_law_1125
theorem n500_1126 : Snd mt G 500 1126 (oCall 5 (fS 9 6) 0 1129 xOut) := s_callS (m' := 9) (n := 5) xsh_out (w_xok0 mm500) (w_cal mm500 mm9 pn_X0 (Nat.le_of_ble_eq_true rfl) (Nat.le_of_ble_eq_true rfl)) (fun h as hn => w_run_SX mm500 mm9 dL_law_1126 q1737 q1738 q128 q1739 pa9 hn)
theorem n500_1129 : Snd mt G 500 1129 (oIstore 5 1131) := w_istore (hm := mm500) dL_law_1129 (Nat.le_of_ble_eq_true rfl)
theorem n500_1131 : Snd mt G 500 1131 (oAload 2 1132) := w_aload_n (hm := mm500) dL_law_1131
theorem n500_1132 : Snd mt G 500 1132 (oAload 0 1133) := w_aload_n (hm := mm500) dL_law_1132
theorem n500_1133 : Snd mt G 500 1133 (oIload 4 1135) := w_iload (hm := mm500) dL_law_1133
theorem n500_1135 : Snd mt G 500 1135 (oConst (.int 1) 1136) := w_iconst (hm := mm500) dL_law_1135 rfl
theorem n500_1136 : Snd mt G 500 1136 (oBin (fun x y => x + y) 1137) := w_iadd (hm := mm500) dL_law_1136
theorem n500_1137 : Snd mt G 500 1137 (oAld [1100] 1138) := w_iaload (hm := mm500) (kt := 0) dL_law_1137 at_0 (Nat.le_of_ble_eq_true rfl) (List.forall_mem_cons.mpr ⟨Or.inr rfl, (fun t ht => nomatch ht)⟩)
theorem n500_1138 : Snd mt G 500 1138 (oAload 0 1139) := w_aload_n (hm := mm500) dL_law_1138
theorem n500_1139 : Snd mt G 500 1139 (oIload 4 1141) := w_iload (hm := mm500) dL_law_1139
theorem n500_1141 : Snd mt G 500 1141 (oConst (.int 2) 1142) := w_iconst (hm := mm500) dL_law_1141 rfl
theorem n500_1142 : Snd mt G 500 1142 (oBin (fun x y => x + y) 1143) := w_iadd (hm := mm500) dL_law_1142
theorem n500_1143 : Snd mt G 500 1143 (oAld [1100] 1144) := w_iaload (hm := mm500) (kt := 0) dL_law_1143 at_0 (Nat.le_of_ble_eq_true rfl) (List.forall_mem_cons.mpr ⟨Or.inr rfl, (fun t ht => nomatch ht)⟩)
theorem n500_1144 : Snd mt G 500 1144 (oAload 0 1145) := w_aload_n (hm := mm500) dL_law_1144
theorem n500_1145 : Snd mt G 500 1145 (oIload 4 1147) := w_iload (hm := mm500) dL_law_1145
theorem n500_1147 : Snd mt G 500 1147 (oConst (.int 3) 1148) := w_iconst (hm := mm500) dL_law_1147 rfl
theorem n500_1148 : Snd mt G 500 1148 (oBin (fun x y => x + y) 1149) := w_iadd (hm := mm500) dL_law_1148
theorem n500_1149 : Snd mt G 500 1149 (oAld [1100] 1150) := w_iaload (hm := mm500) (kt := 0) dL_law_1149 at_0 (Nat.le_of_ble_eq_true rfl) (List.forall_mem_cons.mpr ⟨Or.inr rfl, (fun t ht => nomatch ht)⟩)
theorem n500_1150 : Snd mt G 500 1150 (oCall 4 (fV [4] 322 4) 0 1153 xOut) := s_callV (m' := 322) (n := 3) xsh_out (w_xok0 mm500) (w_cal mm500 mm322 pn_X3 (Nat.le_of_ble_eq_true rfl) (Nat.le_of_ble_eq_true rfl)) (fun h b as hc hn => w_run_V (ci := 3) mm500 mm322 dL_law_1150 (Or.inl (List.mem_singleton.mp hc)) (Nat.le_of_ble_eq_true rfl) vc_3 rfl q2782 q2783 q2784 q150 q2785 pa322 hn)
theorem n500_1153 : Snd mt G 500 1153 (oIstore 6 1155) := w_istore (hm := mm500) dL_law_1153 (Nat.le_of_ble_eq_true rfl)
theorem n500_1155 : Snd mt G 500 1155 (oAload 2 1156) := w_aload_n (hm := mm500) dL_law_1155
theorem n500_1156 : Snd mt G 500 1156 (oCall 1 (fV [4] 281 1) 0 1159 xOut) := s_callV (m' := 281) (n := 0) xsh_out (w_xok0 mm500) (w_cal mm500 mm281 pn_X3 (Nat.le_of_ble_eq_true rfl) (Nat.le_of_ble_eq_true rfl)) (fun h b as hc hn => w_run_V (ci := 3) mm500 mm281 dL_law_1156 (Or.inl (List.mem_singleton.mp hc)) (Nat.le_of_ble_eq_true rfl) vc_3 rfl q2619 q2620 q2621 q150 q2622 pa281 hn)
theorem n500_1159 : Snd mt G 500 1159 (oIload 5 1161) := w_iload (hm := mm500) dL_law_1159
theorem n500_1161 : Snd mt G 500 1161 (oCmpEq 1166 1164) := w_icmp_eq (hm := mm500) dL_law_1161 rfl
theorem n500_1164 : Snd mt G 500 1164 (oConst (.int 0) 1165) := w_iconst (hm := mm500) dL_law_1164 rfl
theorem n500_1165 : Snd mt G 500 1165 (oRetI .boolean) := w_zret (hm := mm500) dL_law_1165 rfl
theorem n500_1166 : Snd mt G 500 1166 (oIload 5 1168) := w_iload (hm := mm500) dL_law_1166
theorem n500_1168 : Snd mt G 500 1168 (oIfEq 1171 1190) := w_if_ne (hm := mm500) dL_law_1168 rfl
theorem n500_1171 : Snd mt G 500 1171 (oAload 3 1172) := w_aload_n (hm := mm500) dL_law_1171
theorem n500_1172 : Snd mt G 500 1172 (oConst (.int 0) 1173) := w_iconst (hm := mm500) dL_law_1172 rfl
theorem n500_1173 : Snd mt G 500 1173 (oAld [102] 1174) := w_laload (hm := mm500) (kt := 2) dL_law_1173 at_2 (Nat.le_of_ble_eq_true rfl) (List.forall_mem_cons.mpr ⟨Or.inl rfl, (fun t ht => nomatch ht)⟩)
theorem n500_1174 : Snd mt G 500 1174 (oIload 6 1176) := w_iload (hm := mm500) dL_law_1174
theorem n500_1176 : Snd mt G 500 1176 (oIfEq 1183 1179) := w_if_eq (hm := mm500) dL_law_1176 rfl
theorem n500_1179 : Snd mt G 500 1179 (oConst (.long 1) 1180) := w_lconst (hm := mm500) dL_law_1179 rfl
theorem n500_1180 : Snd mt G 500 1180 (oGoto 1184) := w_goto (hm := mm500) dL_law_1180 rfl
theorem n500_1183 : Snd mt G 500 1183 (oConst (.long 0) 1184) := w_lconst (hm := mm500) dL_law_1183 rfl
theorem n500_1184 : Snd mt G 500 1184 (oLbin (fun x y => .int (lg_cmp x y)) 1185) := w_lcmp (hm := mm500) dL_law_1184
theorem n500_1185 : Snd mt G 500 1185 (oIfEq 1190 1188) := w_if_eq (hm := mm500) dL_law_1185 rfl
theorem n500_1188 : Snd mt G 500 1188 (oConst (.int 0) 1189) := w_iconst (hm := mm500) dL_law_1188 rfl
theorem n500_1189 : Snd mt G 500 1189 (oRetI .boolean) := w_zret (hm := mm500) dL_law_1189 rfl
theorem n500_1190 : Snd mt G 500 1190 (oGoto 4258) := w_goto (hm := mm500) dL_law_1190 rfl
theorem n500_1193 : Snd mt G 500 1193 (oAload 1 1194) := w_aload_n (hm := mm500) dL_law_1193
theorem n500_1194 : Snd mt G 500 1194 (oAload 0 1195) := w_aload_n (hm := mm500) dL_law_1194
theorem n500_1195 : Snd mt G 500 1195 (oIload 4 1197) := w_iload (hm := mm500) dL_law_1195
theorem n500_1197 : Snd mt G 500 1197 (oConst (.int 1) 1198) := w_iconst (hm := mm500) dL_law_1197 rfl
theorem n500_1198 : Snd mt G 500 1198 (oBin (fun x y => x + y) 1199) := w_iadd (hm := mm500) dL_law_1198
theorem n500_1199 : Snd mt G 500 1199 (oAld [1100] 1200) := w_iaload (hm := mm500) (kt := 0) dL_law_1199 at_0 (Nat.le_of_ble_eq_true rfl) (List.forall_mem_cons.mpr ⟨Or.inr rfl, (fun t ht => nomatch ht)⟩)
theorem n500_1200 : Snd mt G 500 1200 (oAload 0 1201) := w_aload_n (hm := mm500) dL_law_1200
theorem n500_1201 : Snd mt G 500 1201 (oIload 4 1203) := w_iload (hm := mm500) dL_law_1201
theorem n500_1203 : Snd mt G 500 1203 (oConst (.int 2) 1204) := w_iconst (hm := mm500) dL_law_1203 rfl
theorem n500_1204 : Snd mt G 500 1204 (oBin (fun x y => x + y) 1205) := w_iadd (hm := mm500) dL_law_1204
theorem n500_1205 : Snd mt G 500 1205 (oAld [1100] 1206) := w_iaload (hm := mm500) (kt := 0) dL_law_1205 at_0 (Nat.le_of_ble_eq_true rfl) (List.forall_mem_cons.mpr ⟨Or.inr rfl, (fun t ht => nomatch ht)⟩)
theorem n500_1206 : Snd mt G 500 1206 (oAload 0 1207) := w_aload_n (hm := mm500) dL_law_1206
theorem n500_1207 : Snd mt G 500 1207 (oIload 4 1209) := w_iload (hm := mm500) dL_law_1207
theorem n500_1209 : Snd mt G 500 1209 (oConst (.int 3) 1210) := w_iconst (hm := mm500) dL_law_1209 rfl
theorem n500_1210 : Snd mt G 500 1210 (oBin (fun x y => x + y) 1211) := w_iadd (hm := mm500) dL_law_1210
theorem n500_1211 : Snd mt G 500 1211 (oAld [1100] 1212) := w_iaload (hm := mm500) (kt := 0) dL_law_1211 at_0 (Nat.le_of_ble_eq_true rfl) (List.forall_mem_cons.mpr ⟨Or.inr rfl, (fun t ht => nomatch ht)⟩)
theorem n500_1212 : Snd mt G 500 1212 (oAload 3 1213) := w_aload_n (hm := mm500) dL_law_1212
theorem n500_1213 : Snd mt G 500 1213 (oCall 5 (fS 10 6) 0 1216 xOut) := s_callS (m' := 10) (n := 5) xsh_out (w_xok0 mm500) (w_cal mm500 mm10 pn_X0 (Nat.le_of_ble_eq_true rfl) (Nat.le_of_ble_eq_true rfl)) (fun h as hn => w_run_SX mm500 mm10 dL_law_1213 q1799 q1800 q128 q1801 pa10 hn)
theorem n500_1216 : Snd mt G 500 1216 (oIstore 5 1218) := w_istore (hm := mm500) dL_law_1216 (Nat.le_of_ble_eq_true rfl)
theorem n500_1218 : Snd mt G 500 1218 (oAload 2 1219) := w_aload_n (hm := mm500) dL_law_1218
theorem n500_1219 : Snd mt G 500 1219 (oAload 0 1220) := w_aload_n (hm := mm500) dL_law_1219
theorem n500_1220 : Snd mt G 500 1220 (oIload 4 1222) := w_iload (hm := mm500) dL_law_1220
theorem n500_1222 : Snd mt G 500 1222 (oConst (.int 1) 1223) := w_iconst (hm := mm500) dL_law_1222 rfl
theorem n500_1223 : Snd mt G 500 1223 (oBin (fun x y => x + y) 1224) := w_iadd (hm := mm500) dL_law_1223
theorem n500_1224 : Snd mt G 500 1224 (oAld [1100] 1225) := w_iaload (hm := mm500) (kt := 0) dL_law_1224 at_0 (Nat.le_of_ble_eq_true rfl) (List.forall_mem_cons.mpr ⟨Or.inr rfl, (fun t ht => nomatch ht)⟩)
theorem n500_1225 : Snd mt G 500 1225 (oAload 0 1226) := w_aload_n (hm := mm500) dL_law_1225
theorem n500_1226 : Snd mt G 500 1226 (oIload 4 1228) := w_iload (hm := mm500) dL_law_1226
theorem n500_1228 : Snd mt G 500 1228 (oConst (.int 2) 1229) := w_iconst (hm := mm500) dL_law_1228 rfl
theorem n500_1229 : Snd mt G 500 1229 (oBin (fun x y => x + y) 1230) := w_iadd (hm := mm500) dL_law_1229
theorem n500_1230 : Snd mt G 500 1230 (oAld [1100] 1231) := w_iaload (hm := mm500) (kt := 0) dL_law_1230 at_0 (Nat.le_of_ble_eq_true rfl) (List.forall_mem_cons.mpr ⟨Or.inr rfl, (fun t ht => nomatch ht)⟩)
theorem n500_1231 : Snd mt G 500 1231 (oAload 0 1232) := w_aload_n (hm := mm500) dL_law_1231
theorem n500_1232 : Snd mt G 500 1232 (oIload 4 1234) := w_iload (hm := mm500) dL_law_1232
theorem n500_1234 : Snd mt G 500 1234 (oConst (.int 3) 1235) := w_iconst (hm := mm500) dL_law_1234 rfl
theorem n500_1235 : Snd mt G 500 1235 (oBin (fun x y => x + y) 1236) := w_iadd (hm := mm500) dL_law_1235
theorem n500_1236 : Snd mt G 500 1236 (oAld [1100] 1237) := w_iaload (hm := mm500) (kt := 0) dL_law_1236 at_0 (Nat.le_of_ble_eq_true rfl) (List.forall_mem_cons.mpr ⟨Or.inr rfl, (fun t ht => nomatch ht)⟩)
theorem n500_1237 : Snd mt G 500 1237 (oCall 4 (fV [4] 325 5) 0 1240 xOut) := s_callV (m' := 325) (n := 3) xsh_out (w_xok0 mm500) (w_cal mm500 mm325 pn_X3 (Nat.le_of_ble_eq_true rfl) (Nat.le_of_ble_eq_true rfl)) (fun h b as hc hn => w_run_V (ci := 3) mm500 mm325 dL_law_1237 (Or.inl (List.mem_singleton.mp hc)) (Nat.le_of_ble_eq_true rfl) vc_3 rfl q2794 q2795 q2796 q150 q2797 pa325 hn)
theorem n500_1240 : Snd mt G 500 1240 (oIstore 6 1242) := w_istore (hm := mm500) dL_law_1240 (Nat.le_of_ble_eq_true rfl)
theorem n500_1242 : Snd mt G 500 1242 (oAload 2 1243) := w_aload_n (hm := mm500) dL_law_1242
theorem n500_1243 : Snd mt G 500 1243 (oCall 1 (fV [4] 281 1) 0 1246 xOut) := s_callV (m' := 281) (n := 0) xsh_out (w_xok0 mm500) (w_cal mm500 mm281 pn_X3 (Nat.le_of_ble_eq_true rfl) (Nat.le_of_ble_eq_true rfl)) (fun h b as hc hn => w_run_V (ci := 3) mm500 mm281 dL_law_1243 (Or.inl (List.mem_singleton.mp hc)) (Nat.le_of_ble_eq_true rfl) vc_3 rfl q2619 q2620 q2621 q150 q2622 pa281 hn)
theorem n500_1246 : Snd mt G 500 1246 (oIload 5 1248) := w_iload (hm := mm500) dL_law_1246
theorem n500_1248 : Snd mt G 500 1248 (oCmpEq 1253 1251) := w_icmp_eq (hm := mm500) dL_law_1248 rfl
theorem n500_1251 : Snd mt G 500 1251 (oConst (.int 0) 1252) := w_iconst (hm := mm500) dL_law_1251 rfl
theorem n500_1252 : Snd mt G 500 1252 (oRetI .boolean) := w_zret (hm := mm500) dL_law_1252 rfl
theorem n500_1253 : Snd mt G 500 1253 (oIload 5 1255) := w_iload (hm := mm500) dL_law_1253
theorem n500_1255 : Snd mt G 500 1255 (oIfEq 1258 1270) := w_if_ne (hm := mm500) dL_law_1255 rfl
theorem n500_1258 : Snd mt G 500 1258 (oAload 3 1259) := w_aload_n (hm := mm500) dL_law_1258
theorem n500_1259 : Snd mt G 500 1259 (oConst (.int 0) 1260) := w_iconst (hm := mm500) dL_law_1259 rfl
theorem n500_1260 : Snd mt G 500 1260 (oAld [102] 1261) := w_laload (hm := mm500) (kt := 2) dL_law_1260 at_2 (Nat.le_of_ble_eq_true rfl) (List.forall_mem_cons.mpr ⟨Or.inl rfl, (fun t ht => nomatch ht)⟩)
theorem n500_1261 : Snd mt G 500 1261 (oIload 6 1263) := w_iload (hm := mm500) dL_law_1261
theorem n500_1263 : Snd mt G 500 1263 (oUn (fun x => .long x.toInt64) 1264) := w_i2l (hm := mm500) dL_law_1263
theorem n500_1264 : Snd mt G 500 1264 (oLbin (fun x y => .int (lg_cmp x y)) 1265) := w_lcmp (hm := mm500) dL_law_1264
theorem n500_1265 : Snd mt G 500 1265 (oIfEq 1270 1268) := w_if_eq (hm := mm500) dL_law_1265 rfl
theorem n500_1268 : Snd mt G 500 1268 (oConst (.int 0) 1269) := w_iconst (hm := mm500) dL_law_1268 rfl
theorem n500_1269 : Snd mt G 500 1269 (oRetI .boolean) := w_zret (hm := mm500) dL_law_1269 rfl
theorem n500_1270 : Snd mt G 500 1270 (oGoto 4258) := w_goto (hm := mm500) dL_law_1270 rfl
theorem n500_1273 : Snd mt G 500 1273 (oAload 1 1274) := w_aload_n (hm := mm500) dL_law_1273
theorem n500_1274 : Snd mt G 500 1274 (oAload 0 1275) := w_aload_n (hm := mm500) dL_law_1274
theorem n500_1275 : Snd mt G 500 1275 (oIload 4 1277) := w_iload (hm := mm500) dL_law_1275
theorem n500_1277 : Snd mt G 500 1277 (oConst (.int 1) 1278) := w_iconst (hm := mm500) dL_law_1277 rfl
theorem n500_1278 : Snd mt G 500 1278 (oBin (fun x y => x + y) 1279) := w_iadd (hm := mm500) dL_law_1278
theorem n500_1279 : Snd mt G 500 1279 (oAld [1100] 1280) := w_iaload (hm := mm500) (kt := 0) dL_law_1279 at_0 (Nat.le_of_ble_eq_true rfl) (List.forall_mem_cons.mpr ⟨Or.inr rfl, (fun t ht => nomatch ht)⟩)
theorem n500_1280 : Snd mt G 500 1280 (oAload 0 1281) := w_aload_n (hm := mm500) dL_law_1280
theorem n500_1281 : Snd mt G 500 1281 (oIload 4 1283) := w_iload (hm := mm500) dL_law_1281
theorem n500_1283 : Snd mt G 500 1283 (oConst (.int 2) 1284) := w_iconst (hm := mm500) dL_law_1283 rfl
theorem n500_1284 : Snd mt G 500 1284 (oBin (fun x y => x + y) 1285) := w_iadd (hm := mm500) dL_law_1284
theorem n500_1285 : Snd mt G 500 1285 (oAld [1100] 1286) := w_iaload (hm := mm500) (kt := 0) dL_law_1285 at_0 (Nat.le_of_ble_eq_true rfl) (List.forall_mem_cons.mpr ⟨Or.inr rfl, (fun t ht => nomatch ht)⟩)
theorem n500_1286 : Snd mt G 500 1286 (oAload 0 1287) := w_aload_n (hm := mm500) dL_law_1286
theorem n500_1287 : Snd mt G 500 1287 (oIload 4 1289) := w_iload (hm := mm500) dL_law_1287
theorem n500_1289 : Snd mt G 500 1289 (oConst (.int 3) 1290) := w_iconst (hm := mm500) dL_law_1289 rfl
theorem n500_1290 : Snd mt G 500 1290 (oBin (fun x y => x + y) 1291) := w_iadd (hm := mm500) dL_law_1290
theorem n500_1291 : Snd mt G 500 1291 (oAld [1100] 1292) := w_iaload (hm := mm500) (kt := 0) dL_law_1291 at_0 (Nat.le_of_ble_eq_true rfl) (List.forall_mem_cons.mpr ⟨Or.inr rfl, (fun t ht => nomatch ht)⟩)
theorem n500_1292 : Snd mt G 500 1292 (oAload 3 1293) := w_aload_n (hm := mm500) dL_law_1292
theorem n500_1293 : Snd mt G 500 1293 (oCall 5 (fS 11 6) 0 1296 xOut) := s_callS (m' := 11) (n := 5) xsh_out (w_xok0 mm500) (w_cal mm500 mm11 pn_X0 (Nat.le_of_ble_eq_true rfl) (Nat.le_of_ble_eq_true rfl)) (fun h as hn => w_run_SX mm500 mm11 dL_law_1293 q1878 q1879 q128 q1880 pa11 hn)
theorem n500_1296 : Snd mt G 500 1296 (oIstore 5 1298) := w_istore (hm := mm500) dL_law_1296 (Nat.le_of_ble_eq_true rfl)
theorem n500_1298 : Snd mt G 500 1298 (oAload 2 1299) := w_aload_n (hm := mm500) dL_law_1298
theorem n500_1299 : Snd mt G 500 1299 (oAload 0 1300) := w_aload_n (hm := mm500) dL_law_1299
theorem n500_1300 : Snd mt G 500 1300 (oIload 4 1302) := w_iload (hm := mm500) dL_law_1300
theorem n500_1302 : Snd mt G 500 1302 (oConst (.int 1) 1303) := w_iconst (hm := mm500) dL_law_1302 rfl
theorem n500_1303 : Snd mt G 500 1303 (oBin (fun x y => x + y) 1304) := w_iadd (hm := mm500) dL_law_1303
theorem n500_1304 : Snd mt G 500 1304 (oAld [1100] 1305) := w_iaload (hm := mm500) (kt := 0) dL_law_1304 at_0 (Nat.le_of_ble_eq_true rfl) (List.forall_mem_cons.mpr ⟨Or.inr rfl, (fun t ht => nomatch ht)⟩)
theorem n500_1305 : Snd mt G 500 1305 (oAload 0 1306) := w_aload_n (hm := mm500) dL_law_1305
theorem n500_1306 : Snd mt G 500 1306 (oIload 4 1308) := w_iload (hm := mm500) dL_law_1306
theorem n500_1308 : Snd mt G 500 1308 (oConst (.int 2) 1309) := w_iconst (hm := mm500) dL_law_1308 rfl
theorem n500_1309 : Snd mt G 500 1309 (oBin (fun x y => x + y) 1310) := w_iadd (hm := mm500) dL_law_1309
theorem n500_1310 : Snd mt G 500 1310 (oAld [1100] 1311) := w_iaload (hm := mm500) (kt := 0) dL_law_1310 at_0 (Nat.le_of_ble_eq_true rfl) (List.forall_mem_cons.mpr ⟨Or.inr rfl, (fun t ht => nomatch ht)⟩)
theorem n500_1311 : Snd mt G 500 1311 (oAload 0 1312) := w_aload_n (hm := mm500) dL_law_1311
theorem n500_1312 : Snd mt G 500 1312 (oIload 4 1314) := w_iload (hm := mm500) dL_law_1312
theorem n500_1314 : Snd mt G 500 1314 (oConst (.int 3) 1315) := w_iconst (hm := mm500) dL_law_1314 rfl
theorem n500_1315 : Snd mt G 500 1315 (oBin (fun x y => x + y) 1316) := w_iadd (hm := mm500) dL_law_1315
theorem n500_1316 : Snd mt G 500 1316 (oAld [1100] 1317) := w_iaload (hm := mm500) (kt := 0) dL_law_1316 at_0 (Nat.le_of_ble_eq_true rfl) (List.forall_mem_cons.mpr ⟨Or.inr rfl, (fun t ht => nomatch ht)⟩)
theorem n500_1317 : Snd mt G 500 1317 (oCall 4 (fV [4] 334 4) 0 1320 xOut) := s_callV (m' := 334) (n := 3) xsh_out (w_xok0 mm500) (w_cal mm500 mm334 pn_X3 (Nat.le_of_ble_eq_true rfl) (Nat.le_of_ble_eq_true rfl)) (fun h b as hc hn => w_run_V (ci := 3) mm500 mm334 dL_law_1317 (Or.inl (List.mem_singleton.mp hc)) (Nat.le_of_ble_eq_true rfl) vc_3 rfl q2830 q2831 q2832 q150 q2833 pa334 hn)
theorem n500_1320 : Snd mt G 500 1320 (oIstore 6 1322) := w_istore (hm := mm500) dL_law_1320 (Nat.le_of_ble_eq_true rfl)
theorem n500_1322 : Snd mt G 500 1322 (oAload 2 1323) := w_aload_n (hm := mm500) dL_law_1322
theorem n500_1323 : Snd mt G 500 1323 (oCall 1 (fV [4] 281 1) 0 1326 xOut) := s_callV (m' := 281) (n := 0) xsh_out (w_xok0 mm500) (w_cal mm500 mm281 pn_X3 (Nat.le_of_ble_eq_true rfl) (Nat.le_of_ble_eq_true rfl)) (fun h b as hc hn => w_run_V (ci := 3) mm500 mm281 dL_law_1323 (Or.inl (List.mem_singleton.mp hc)) (Nat.le_of_ble_eq_true rfl) vc_3 rfl q2619 q2620 q2621 q150 q2622 pa281 hn)
theorem n500_1326 : Snd mt G 500 1326 (oIload 5 1328) := w_iload (hm := mm500) dL_law_1326
theorem n500_1328 : Snd mt G 500 1328 (oCmpEq 1333 1331) := w_icmp_eq (hm := mm500) dL_law_1328 rfl
theorem n500_1331 : Snd mt G 500 1331 (oConst (.int 0) 1332) := w_iconst (hm := mm500) dL_law_1331 rfl
theorem n500_1332 : Snd mt G 500 1332 (oRetI .boolean) := w_zret (hm := mm500) dL_law_1332 rfl
theorem n500_1333 : Snd mt G 500 1333 (oIload 5 1335) := w_iload (hm := mm500) dL_law_1333
theorem n500_1335 : Snd mt G 500 1335 (oIfEq 1338 1350) := w_if_ne (hm := mm500) dL_law_1335 rfl
theorem n500_1338 : Snd mt G 500 1338 (oAload 3 1339) := w_aload_n (hm := mm500) dL_law_1338
theorem n500_1339 : Snd mt G 500 1339 (oConst (.int 0) 1340) := w_iconst (hm := mm500) dL_law_1339 rfl
theorem n500_1340 : Snd mt G 500 1340 (oAld [102] 1341) := w_laload (hm := mm500) (kt := 2) dL_law_1340 at_2 (Nat.le_of_ble_eq_true rfl) (List.forall_mem_cons.mpr ⟨Or.inl rfl, (fun t ht => nomatch ht)⟩)
theorem n500_1341 : Snd mt G 500 1341 (oIload 6 1343) := w_iload (hm := mm500) dL_law_1341
theorem n500_1343 : Snd mt G 500 1343 (oUn (fun x => .long x.toInt64) 1344) := w_i2l (hm := mm500) dL_law_1343
theorem n500_1344 : Snd mt G 500 1344 (oLbin (fun x y => .int (lg_cmp x y)) 1345) := w_lcmp (hm := mm500) dL_law_1344
theorem n500_1345 : Snd mt G 500 1345 (oIfEq 1350 1348) := w_if_eq (hm := mm500) dL_law_1345 rfl
theorem n500_1348 : Snd mt G 500 1348 (oConst (.int 0) 1349) := w_iconst (hm := mm500) dL_law_1348 rfl
theorem n500_1349 : Snd mt G 500 1349 (oRetI .boolean) := w_zret (hm := mm500) dL_law_1349 rfl
theorem n500_1350 : Snd mt G 500 1350 (oGoto 4258) := w_goto (hm := mm500) dL_law_1350 rfl
theorem n500_1353 : Snd mt G 500 1353 (oAload 1 1354) := w_aload_n (hm := mm500) dL_law_1353
theorem n500_1354 : Snd mt G 500 1354 (oAload 0 1355) := w_aload_n (hm := mm500) dL_law_1354
theorem n500_1355 : Snd mt G 500 1355 (oIload 4 1357) := w_iload (hm := mm500) dL_law_1355
theorem n500_1357 : Snd mt G 500 1357 (oConst (.int 1) 1358) := w_iconst (hm := mm500) dL_law_1357 rfl
theorem n500_1358 : Snd mt G 500 1358 (oBin (fun x y => x + y) 1359) := w_iadd (hm := mm500) dL_law_1358
theorem n500_1359 : Snd mt G 500 1359 (oAld [1100] 1360) := w_iaload (hm := mm500) (kt := 0) dL_law_1359 at_0 (Nat.le_of_ble_eq_true rfl) (List.forall_mem_cons.mpr ⟨Or.inr rfl, (fun t ht => nomatch ht)⟩)
theorem n500_1360 : Snd mt G 500 1360 (oAload 0 1361) := w_aload_n (hm := mm500) dL_law_1360
theorem n500_1361 : Snd mt G 500 1361 (oIload 4 1363) := w_iload (hm := mm500) dL_law_1361
theorem n500_1363 : Snd mt G 500 1363 (oConst (.int 2) 1364) := w_iconst (hm := mm500) dL_law_1363 rfl
theorem n500_1364 : Snd mt G 500 1364 (oBin (fun x y => x + y) 1365) := w_iadd (hm := mm500) dL_law_1364
theorem n500_1365 : Snd mt G 500 1365 (oAld [1100] 1366) := w_iaload (hm := mm500) (kt := 0) dL_law_1365 at_0 (Nat.le_of_ble_eq_true rfl) (List.forall_mem_cons.mpr ⟨Or.inr rfl, (fun t ht => nomatch ht)⟩)
theorem n500_1366 : Snd mt G 500 1366 (oAload 0 1367) := w_aload_n (hm := mm500) dL_law_1366
theorem n500_1367 : Snd mt G 500 1367 (oIload 4 1369) := w_iload (hm := mm500) dL_law_1367
theorem n500_1369 : Snd mt G 500 1369 (oConst (.int 3) 1370) := w_iconst (hm := mm500) dL_law_1369 rfl
theorem n500_1370 : Snd mt G 500 1370 (oBin (fun x y => x + y) 1371) := w_iadd (hm := mm500) dL_law_1370
theorem n500_1371 : Snd mt G 500 1371 (oAld [1100] 1372) := w_iaload (hm := mm500) (kt := 0) dL_law_1371 at_0 (Nat.le_of_ble_eq_true rfl) (List.forall_mem_cons.mpr ⟨Or.inr rfl, (fun t ht => nomatch ht)⟩)
theorem n500_1372 : Snd mt G 500 1372 (oAload 3 1373) := w_aload_n (hm := mm500) dL_law_1372
theorem n500_1373 : Snd mt G 500 1373 (oCall 5 (fS 12 6) 0 1376 xOut) := s_callS (m' := 12) (n := 5) xsh_out (w_xok0 mm500) (w_cal mm500 mm12 pn_X0 (Nat.le_of_ble_eq_true rfl) (Nat.le_of_ble_eq_true rfl)) (fun h as hn => w_run_SX mm500 mm12 dL_law_1373 q1895 q1896 q128 q1897 pa12 hn)
theorem n500_1376 : Snd mt G 500 1376 (oIstore 5 1378) := w_istore (hm := mm500) dL_law_1376 (Nat.le_of_ble_eq_true rfl)
theorem n500_1378 : Snd mt G 500 1378 (oAload 2 1379) := w_aload_n (hm := mm500) dL_law_1378
theorem n500_1379 : Snd mt G 500 1379 (oAload 0 1380) := w_aload_n (hm := mm500) dL_law_1379
theorem n500_1380 : Snd mt G 500 1380 (oIload 4 1382) := w_iload (hm := mm500) dL_law_1380
theorem n500_1382 : Snd mt G 500 1382 (oConst (.int 1) 1383) := w_iconst (hm := mm500) dL_law_1382 rfl
theorem n500_1383 : Snd mt G 500 1383 (oBin (fun x y => x + y) 1384) := w_iadd (hm := mm500) dL_law_1383
theorem n500_1384 : Snd mt G 500 1384 (oAld [1100] 1385) := w_iaload (hm := mm500) (kt := 0) dL_law_1384 at_0 (Nat.le_of_ble_eq_true rfl) (List.forall_mem_cons.mpr ⟨Or.inr rfl, (fun t ht => nomatch ht)⟩)
theorem n500_1385 : Snd mt G 500 1385 (oAload 0 1386) := w_aload_n (hm := mm500) dL_law_1385
theorem n500_1386 : Snd mt G 500 1386 (oIload 4 1388) := w_iload (hm := mm500) dL_law_1386
theorem n500_1388 : Snd mt G 500 1388 (oConst (.int 2) 1389) := w_iconst (hm := mm500) dL_law_1388 rfl
theorem n500_1389 : Snd mt G 500 1389 (oBin (fun x y => x + y) 1390) := w_iadd (hm := mm500) dL_law_1389
theorem n500_1390 : Snd mt G 500 1390 (oAld [1100] 1391) := w_iaload (hm := mm500) (kt := 0) dL_law_1390 at_0 (Nat.le_of_ble_eq_true rfl) (List.forall_mem_cons.mpr ⟨Or.inr rfl, (fun t ht => nomatch ht)⟩)
theorem n500_1391 : Snd mt G 500 1391 (oAload 0 1392) := w_aload_n (hm := mm500) dL_law_1391
theorem n500_1392 : Snd mt G 500 1392 (oIload 4 1394) := w_iload (hm := mm500) dL_law_1392
theorem n500_1394 : Snd mt G 500 1394 (oConst (.int 3) 1395) := w_iconst (hm := mm500) dL_law_1394 rfl
theorem n500_1395 : Snd mt G 500 1395 (oBin (fun x y => x + y) 1396) := w_iadd (hm := mm500) dL_law_1395
theorem n500_1396 : Snd mt G 500 1396 (oAld [1100] 1397) := w_iaload (hm := mm500) (kt := 0) dL_law_1396 at_0 (Nat.le_of_ble_eq_true rfl) (List.forall_mem_cons.mpr ⟨Or.inr rfl, (fun t ht => nomatch ht)⟩)
theorem n500_1397 : Snd mt G 500 1397 (oCall 4 (fV [4] 341 7) 0 1400 xOut) := s_callV (m' := 341) (n := 3) xsh_out (w_xok0 mm500) (w_cal mm500 mm341 pn_X3 (Nat.le_of_ble_eq_true rfl) (Nat.le_of_ble_eq_true rfl)) (fun h b as hc hn => w_run_V (ci := 3) mm500 mm341 dL_law_1397 (Or.inl (List.mem_singleton.mp hc)) (Nat.le_of_ble_eq_true rfl) vc_3 rfl q2858 q2859 q2860 q150 q2861 pa341 hn)
theorem n500_1400 : Snd mt G 500 1400 (oIstore 6 1402) := w_istore (hm := mm500) dL_law_1400 (Nat.le_of_ble_eq_true rfl)
theorem n500_1402 : Snd mt G 500 1402 (oAload 2 1403) := w_aload_n (hm := mm500) dL_law_1402
theorem n500_1403 : Snd mt G 500 1403 (oCall 1 (fV [4] 281 1) 0 1406 xOut) := s_callV (m' := 281) (n := 0) xsh_out (w_xok0 mm500) (w_cal mm500 mm281 pn_X3 (Nat.le_of_ble_eq_true rfl) (Nat.le_of_ble_eq_true rfl)) (fun h b as hc hn => w_run_V (ci := 3) mm500 mm281 dL_law_1403 (Or.inl (List.mem_singleton.mp hc)) (Nat.le_of_ble_eq_true rfl) vc_3 rfl q2619 q2620 q2621 q150 q2622 pa281 hn)
theorem n500_1406 : Snd mt G 500 1406 (oIload 5 1408) := w_iload (hm := mm500) dL_law_1406
theorem n500_1408 : Snd mt G 500 1408 (oCmpEq 1413 1411) := w_icmp_eq (hm := mm500) dL_law_1408 rfl
theorem n500_1411 : Snd mt G 500 1411 (oConst (.int 0) 1412) := w_iconst (hm := mm500) dL_law_1411 rfl
theorem n500_1412 : Snd mt G 500 1412 (oRetI .boolean) := w_zret (hm := mm500) dL_law_1412 rfl
theorem n500_1413 : Snd mt G 500 1413 (oIload 5 1415) := w_iload (hm := mm500) dL_law_1413
theorem n500_1415 : Snd mt G 500 1415 (oIfEq 1418 1430) := w_if_ne (hm := mm500) dL_law_1415 rfl
theorem n500_1418 : Snd mt G 500 1418 (oAload 3 1419) := w_aload_n (hm := mm500) dL_law_1418
theorem n500_1419 : Snd mt G 500 1419 (oConst (.int 0) 1420) := w_iconst (hm := mm500) dL_law_1419 rfl
theorem n500_1420 : Snd mt G 500 1420 (oAld [102] 1421) := w_laload (hm := mm500) (kt := 2) dL_law_1420 at_2 (Nat.le_of_ble_eq_true rfl) (List.forall_mem_cons.mpr ⟨Or.inl rfl, (fun t ht => nomatch ht)⟩)
theorem n500_1421 : Snd mt G 500 1421 (oIload 6 1423) := w_iload (hm := mm500) dL_law_1421
theorem n500_1423 : Snd mt G 500 1423 (oUn (fun x => .long x.toInt64) 1424) := w_i2l (hm := mm500) dL_law_1423
theorem n500_1424 : Snd mt G 500 1424 (oLbin (fun x y => .int (lg_cmp x y)) 1425) := w_lcmp (hm := mm500) dL_law_1424
theorem n500_1425 : Snd mt G 500 1425 (oIfEq 1430 1428) := w_if_eq (hm := mm500) dL_law_1425 rfl
theorem n500_1428 : Snd mt G 500 1428 (oConst (.int 0) 1429) := w_iconst (hm := mm500) dL_law_1428 rfl
theorem n500_1429 : Snd mt G 500 1429 (oRetI .boolean) := w_zret (hm := mm500) dL_law_1429 rfl
theorem n500_1430 : Snd mt G 500 1430 (oGoto 4258) := w_goto (hm := mm500) dL_law_1430 rfl
theorem n500_1433 : Snd mt G 500 1433 (oAload 1 1434) := w_aload_n (hm := mm500) dL_law_1433
theorem n500_1434 : Snd mt G 500 1434 (oAload 0 1435) := w_aload_n (hm := mm500) dL_law_1434
theorem n500_1435 : Snd mt G 500 1435 (oIload 4 1437) := w_iload (hm := mm500) dL_law_1435
theorem n500_1437 : Snd mt G 500 1437 (oConst (.int 1) 1438) := w_iconst (hm := mm500) dL_law_1437 rfl
theorem n500_1438 : Snd mt G 500 1438 (oBin (fun x y => x + y) 1439) := w_iadd (hm := mm500) dL_law_1438
theorem n500_1439 : Snd mt G 500 1439 (oAld [1100] 1440) := w_iaload (hm := mm500) (kt := 0) dL_law_1439 at_0 (Nat.le_of_ble_eq_true rfl) (List.forall_mem_cons.mpr ⟨Or.inr rfl, (fun t ht => nomatch ht)⟩)
theorem n500_1440 : Snd mt G 500 1440 (oAload 0 1441) := w_aload_n (hm := mm500) dL_law_1440
theorem n500_1441 : Snd mt G 500 1441 (oIload 4 1443) := w_iload (hm := mm500) dL_law_1441
theorem n500_1443 : Snd mt G 500 1443 (oConst (.int 2) 1444) := w_iconst (hm := mm500) dL_law_1443 rfl
theorem n500_1444 : Snd mt G 500 1444 (oBin (fun x y => x + y) 1445) := w_iadd (hm := mm500) dL_law_1444
theorem n500_1445 : Snd mt G 500 1445 (oAld [1100] 1446) := w_iaload (hm := mm500) (kt := 0) dL_law_1445 at_0 (Nat.le_of_ble_eq_true rfl) (List.forall_mem_cons.mpr ⟨Or.inr rfl, (fun t ht => nomatch ht)⟩)
theorem n500_1446 : Snd mt G 500 1446 (oAload 3 1447) := w_aload_n (hm := mm500) dL_law_1446
theorem n500_1447 : Snd mt G 500 1447 (oCall 4 (fS 13 5) 0 1450 xOut) := s_callS (m' := 13) (n := 4) xsh_out (w_xok0 mm500) (w_cal mm500 mm13 pn_X0 (Nat.le_of_ble_eq_true rfl) (Nat.le_of_ble_eq_true rfl)) (fun h as hn => w_run_SX mm500 mm13 dL_law_1447 q1902 q1903 q128 q1904 pa13 hn)
theorem n500_1450 : Snd mt G 500 1450 (oIstore 5 1452) := w_istore (hm := mm500) dL_law_1450 (Nat.le_of_ble_eq_true rfl)
theorem n500_1452 : Snd mt G 500 1452 (oAload 2 1453) := w_aload_n (hm := mm500) dL_law_1452
theorem n500_1453 : Snd mt G 500 1453 (oAload 0 1454) := w_aload_n (hm := mm500) dL_law_1453
theorem n500_1454 : Snd mt G 500 1454 (oIload 4 1456) := w_iload (hm := mm500) dL_law_1454
theorem n500_1456 : Snd mt G 500 1456 (oConst (.int 1) 1457) := w_iconst (hm := mm500) dL_law_1456 rfl
theorem n500_1457 : Snd mt G 500 1457 (oBin (fun x y => x + y) 1458) := w_iadd (hm := mm500) dL_law_1457
theorem n500_1458 : Snd mt G 500 1458 (oAld [1100] 1459) := w_iaload (hm := mm500) (kt := 0) dL_law_1458 at_0 (Nat.le_of_ble_eq_true rfl) (List.forall_mem_cons.mpr ⟨Or.inr rfl, (fun t ht => nomatch ht)⟩)
theorem n500_1459 : Snd mt G 500 1459 (oAload 0 1460) := w_aload_n (hm := mm500) dL_law_1459
theorem n500_1460 : Snd mt G 500 1460 (oIload 4 1462) := w_iload (hm := mm500) dL_law_1460
theorem n500_1462 : Snd mt G 500 1462 (oConst (.int 2) 1463) := w_iconst (hm := mm500) dL_law_1462 rfl
theorem n500_1463 : Snd mt G 500 1463 (oBin (fun x y => x + y) 1464) := w_iadd (hm := mm500) dL_law_1463
theorem n500_1464 : Snd mt G 500 1464 (oAld [1100] 1465) := w_iaload (hm := mm500) (kt := 0) dL_law_1464 at_0 (Nat.le_of_ble_eq_true rfl) (List.forall_mem_cons.mpr ⟨Or.inr rfl, (fun t ht => nomatch ht)⟩)
theorem n500_1465 : Snd mt G 500 1465 (oCall 3 (fV [4] 342 4) 0 1468 xOut) := s_callV (m' := 342) (n := 2) xsh_out (w_xok0 mm500) (w_cal mm500 mm342 pn_X3 (Nat.le_of_ble_eq_true rfl) (Nat.le_of_ble_eq_true rfl)) (fun h b as hc hn => w_run_V (ci := 3) mm500 mm342 dL_law_1465 (Or.inl (List.mem_singleton.mp hc)) (Nat.le_of_ble_eq_true rfl) vc_3 rfl q2862 q2863 q2864 q150 q2865 pa342 hn)
theorem n500_1468 : Snd mt G 500 1468 (oIstore 6 1470) := w_istore (hm := mm500) dL_law_1468 (Nat.le_of_ble_eq_true rfl)
theorem n500_1470 : Snd mt G 500 1470 (oAload 2 1471) := w_aload_n (hm := mm500) dL_law_1470
theorem n500_1471 : Snd mt G 500 1471 (oCall 1 (fV [4] 281 1) 0 1474 xOut) := s_callV (m' := 281) (n := 0) xsh_out (w_xok0 mm500) (w_cal mm500 mm281 pn_X3 (Nat.le_of_ble_eq_true rfl) (Nat.le_of_ble_eq_true rfl)) (fun h b as hc hn => w_run_V (ci := 3) mm500 mm281 dL_law_1471 (Or.inl (List.mem_singleton.mp hc)) (Nat.le_of_ble_eq_true rfl) vc_3 rfl q2619 q2620 q2621 q150 q2622 pa281 hn)
theorem n500_1474 : Snd mt G 500 1474 (oIload 5 1476) := w_iload (hm := mm500) dL_law_1474
theorem n500_1476 : Snd mt G 500 1476 (oCmpEq 1481 1479) := w_icmp_eq (hm := mm500) dL_law_1476 rfl
theorem n500_1479 : Snd mt G 500 1479 (oConst (.int 0) 1480) := w_iconst (hm := mm500) dL_law_1479 rfl
theorem n500_1480 : Snd mt G 500 1480 (oRetI .boolean) := w_zret (hm := mm500) dL_law_1480 rfl
theorem n500_1481 : Snd mt G 500 1481 (oIload 5 1483) := w_iload (hm := mm500) dL_law_1481
theorem n500_1483 : Snd mt G 500 1483 (oIfEq 1486 1498) := w_if_ne (hm := mm500) dL_law_1483 rfl
theorem n500_1486 : Snd mt G 500 1486 (oAload 3 1487) := w_aload_n (hm := mm500) dL_law_1486
theorem n500_1487 : Snd mt G 500 1487 (oConst (.int 0) 1488) := w_iconst (hm := mm500) dL_law_1487 rfl
theorem n500_1488 : Snd mt G 500 1488 (oAld [102] 1489) := w_laload (hm := mm500) (kt := 2) dL_law_1488 at_2 (Nat.le_of_ble_eq_true rfl) (List.forall_mem_cons.mpr ⟨Or.inl rfl, (fun t ht => nomatch ht)⟩)
theorem n500_1489 : Snd mt G 500 1489 (oIload 6 1491) := w_iload (hm := mm500) dL_law_1489
theorem n500_1491 : Snd mt G 500 1491 (oUn (fun x => .long x.toInt64) 1492) := w_i2l (hm := mm500) dL_law_1491
theorem n500_1492 : Snd mt G 500 1492 (oLbin (fun x y => .int (lg_cmp x y)) 1493) := w_lcmp (hm := mm500) dL_law_1492
theorem n500_1493 : Snd mt G 500 1493 (oIfEq 1498 1496) := w_if_eq (hm := mm500) dL_law_1493 rfl
theorem n500_1496 : Snd mt G 500 1496 (oConst (.int 0) 1497) := w_iconst (hm := mm500) dL_law_1496 rfl
theorem n500_1497 : Snd mt G 500 1497 (oRetI .boolean) := w_zret (hm := mm500) dL_law_1497 rfl
theorem n500_1498 : Snd mt G 500 1498 (oGoto 4258) := w_goto (hm := mm500) dL_law_1498 rfl
theorem n500_1501 : Snd mt G 500 1501 (oAload 1 1502) := w_aload_n (hm := mm500) dL_law_1501
theorem n500_1502 : Snd mt G 500 1502 (oAload 0 1503) := w_aload_n (hm := mm500) dL_law_1502
theorem n500_1503 : Snd mt G 500 1503 (oIload 4 1505) := w_iload (hm := mm500) dL_law_1503
theorem n500_1505 : Snd mt G 500 1505 (oConst (.int 1) 1506) := w_iconst (hm := mm500) dL_law_1505 rfl
theorem n500_1506 : Snd mt G 500 1506 (oBin (fun x y => x + y) 1507) := w_iadd (hm := mm500) dL_law_1506
theorem n500_1507 : Snd mt G 500 1507 (oAld [1100] 1508) := w_iaload (hm := mm500) (kt := 0) dL_law_1507 at_0 (Nat.le_of_ble_eq_true rfl) (List.forall_mem_cons.mpr ⟨Or.inr rfl, (fun t ht => nomatch ht)⟩)
theorem n500_1508 : Snd mt G 500 1508 (oAload 0 1509) := w_aload_n (hm := mm500) dL_law_1508
theorem n500_1509 : Snd mt G 500 1509 (oIload 4 1511) := w_iload (hm := mm500) dL_law_1509
theorem n500_1511 : Snd mt G 500 1511 (oConst (.int 2) 1512) := w_iconst (hm := mm500) dL_law_1511 rfl
theorem n500_1512 : Snd mt G 500 1512 (oBin (fun x y => x + y) 1513) := w_iadd (hm := mm500) dL_law_1512
theorem n500_1513 : Snd mt G 500 1513 (oAld [1100] 1514) := w_iaload (hm := mm500) (kt := 0) dL_law_1513 at_0 (Nat.le_of_ble_eq_true rfl) (List.forall_mem_cons.mpr ⟨Or.inr rfl, (fun t ht => nomatch ht)⟩)
theorem n500_1514 : Snd mt G 500 1514 (oAload 0 1515) := w_aload_n (hm := mm500) dL_law_1514
theorem n500_1515 : Snd mt G 500 1515 (oIload 4 1517) := w_iload (hm := mm500) dL_law_1515
theorem n500_1517 : Snd mt G 500 1517 (oConst (.int 3) 1518) := w_iconst (hm := mm500) dL_law_1517 rfl
theorem n500_1518 : Snd mt G 500 1518 (oBin (fun x y => x + y) 1519) := w_iadd (hm := mm500) dL_law_1518
theorem n500_1519 : Snd mt G 500 1519 (oAld [1100] 1520) := w_iaload (hm := mm500) (kt := 0) dL_law_1519 at_0 (Nat.le_of_ble_eq_true rfl) (List.forall_mem_cons.mpr ⟨Or.inr rfl, (fun t ht => nomatch ht)⟩)
theorem n500_1520 : Snd mt G 500 1520 (oAload 3 1521) := w_aload_n (hm := mm500) dL_law_1520
theorem n500_1521 : Snd mt G 500 1521 (oCall 5 (fS 14 6) 0 1524 xOut) := s_callS (m' := 14) (n := 5) xsh_out (w_xok0 mm500) (w_cal mm500 mm14 pn_X0 (Nat.le_of_ble_eq_true rfl) (Nat.le_of_ble_eq_true rfl)) (fun h as hn => w_run_SX mm500 mm14 dL_law_1521 q1915 q1916 q128 q1917 pa14 hn)
theorem n500_1524 : Snd mt G 500 1524 (oIstore 5 1526) := w_istore (hm := mm500) dL_law_1524 (Nat.le_of_ble_eq_true rfl)
theorem n500_1526 : Snd mt G 500 1526 (oAload 2 1527) := w_aload_n (hm := mm500) dL_law_1526
theorem n500_1527 : Snd mt G 500 1527 (oAload 0 1528) := w_aload_n (hm := mm500) dL_law_1527
theorem n500_1528 : Snd mt G 500 1528 (oIload 4 1530) := w_iload (hm := mm500) dL_law_1528
theorem n500_1530 : Snd mt G 500 1530 (oConst (.int 1) 1531) := w_iconst (hm := mm500) dL_law_1530 rfl
theorem n500_1531 : Snd mt G 500 1531 (oBin (fun x y => x + y) 1532) := w_iadd (hm := mm500) dL_law_1531
theorem n500_1532 : Snd mt G 500 1532 (oAld [1100] 1533) := w_iaload (hm := mm500) (kt := 0) dL_law_1532 at_0 (Nat.le_of_ble_eq_true rfl) (List.forall_mem_cons.mpr ⟨Or.inr rfl, (fun t ht => nomatch ht)⟩)
theorem n500_1533 : Snd mt G 500 1533 (oAload 0 1534) := w_aload_n (hm := mm500) dL_law_1533
theorem n500_1534 : Snd mt G 500 1534 (oIload 4 1536) := w_iload (hm := mm500) dL_law_1534
theorem n500_1536 : Snd mt G 500 1536 (oConst (.int 2) 1537) := w_iconst (hm := mm500) dL_law_1536 rfl
theorem n500_1537 : Snd mt G 500 1537 (oBin (fun x y => x + y) 1538) := w_iadd (hm := mm500) dL_law_1537
theorem n500_1538 : Snd mt G 500 1538 (oAld [1100] 1539) := w_iaload (hm := mm500) (kt := 0) dL_law_1538 at_0 (Nat.le_of_ble_eq_true rfl) (List.forall_mem_cons.mpr ⟨Or.inr rfl, (fun t ht => nomatch ht)⟩)
theorem n500_1539 : Snd mt G 500 1539 (oAload 0 1540) := w_aload_n (hm := mm500) dL_law_1539
theorem n500_1540 : Snd mt G 500 1540 (oIload 4 1542) := w_iload (hm := mm500) dL_law_1540
theorem n500_1542 : Snd mt G 500 1542 (oConst (.int 3) 1543) := w_iconst (hm := mm500) dL_law_1542 rfl
theorem n500_1543 : Snd mt G 500 1543 (oBin (fun x y => x + y) 1544) := w_iadd (hm := mm500) dL_law_1543
theorem n500_1544 : Snd mt G 500 1544 (oAld [1100] 1545) := w_iaload (hm := mm500) (kt := 0) dL_law_1544 at_0 (Nat.le_of_ble_eq_true rfl) (List.forall_mem_cons.mpr ⟨Or.inr rfl, (fun t ht => nomatch ht)⟩)
theorem n500_1545 : Snd mt G 500 1545 (oCall 4 (fV [4] 333 5) 0 1548 xOut) := s_callV (m' := 333) (n := 3) xsh_out (w_xok0 mm500) (w_cal mm500 mm333 pn_X3 (Nat.le_of_ble_eq_true rfl) (Nat.le_of_ble_eq_true rfl)) (fun h b as hc hn => w_run_V (ci := 3) mm500 mm333 dL_law_1545 (Or.inl (List.mem_singleton.mp hc)) (Nat.le_of_ble_eq_true rfl) vc_3 rfl q2826 q2827 q2828 q150 q2829 pa333 hn)
theorem n500_1548 : Snd mt G 500 1548 (oIstore 6 1550) := w_istore (hm := mm500) dL_law_1548 (Nat.le_of_ble_eq_true rfl)
theorem n500_1550 : Snd mt G 500 1550 (oAload 2 1551) := w_aload_n (hm := mm500) dL_law_1550
theorem n500_1551 : Snd mt G 500 1551 (oCall 1 (fV [4] 281 1) 0 1554 xOut) := s_callV (m' := 281) (n := 0) xsh_out (w_xok0 mm500) (w_cal mm500 mm281 pn_X3 (Nat.le_of_ble_eq_true rfl) (Nat.le_of_ble_eq_true rfl)) (fun h b as hc hn => w_run_V (ci := 3) mm500 mm281 dL_law_1551 (Or.inl (List.mem_singleton.mp hc)) (Nat.le_of_ble_eq_true rfl) vc_3 rfl q2619 q2620 q2621 q150 q2622 pa281 hn)
theorem n500_1554 : Snd mt G 500 1554 (oIload 5 1556) := w_iload (hm := mm500) dL_law_1554
theorem n500_1556 : Snd mt G 500 1556 (oCmpEq 1561 1559) := w_icmp_eq (hm := mm500) dL_law_1556 rfl
theorem n500_1559 : Snd mt G 500 1559 (oConst (.int 0) 1560) := w_iconst (hm := mm500) dL_law_1559 rfl
theorem n500_1560 : Snd mt G 500 1560 (oRetI .boolean) := w_zret (hm := mm500) dL_law_1560 rfl
theorem n500_1561 : Snd mt G 500 1561 (oIload 5 1563) := w_iload (hm := mm500) dL_law_1561
theorem n500_1563 : Snd mt G 500 1563 (oIfEq 1566 1578) := w_if_ne (hm := mm500) dL_law_1563 rfl
theorem n500_1566 : Snd mt G 500 1566 (oAload 3 1567) := w_aload_n (hm := mm500) dL_law_1566
theorem n500_1567 : Snd mt G 500 1567 (oConst (.int 0) 1568) := w_iconst (hm := mm500) dL_law_1567 rfl
theorem n500_1568 : Snd mt G 500 1568 (oAld [102] 1569) := w_laload (hm := mm500) (kt := 2) dL_law_1568 at_2 (Nat.le_of_ble_eq_true rfl) (List.forall_mem_cons.mpr ⟨Or.inl rfl, (fun t ht => nomatch ht)⟩)
theorem n500_1569 : Snd mt G 500 1569 (oIload 6 1571) := w_iload (hm := mm500) dL_law_1569
theorem n500_1571 : Snd mt G 500 1571 (oUn (fun x => .long x.toInt64) 1572) := w_i2l (hm := mm500) dL_law_1571
theorem n500_1572 : Snd mt G 500 1572 (oLbin (fun x y => .int (lg_cmp x y)) 1573) := w_lcmp (hm := mm500) dL_law_1572
theorem n500_1573 : Snd mt G 500 1573 (oIfEq 1578 1576) := w_if_eq (hm := mm500) dL_law_1573 rfl
theorem n500_1576 : Snd mt G 500 1576 (oConst (.int 0) 1577) := w_iconst (hm := mm500) dL_law_1576 rfl
theorem n500_1577 : Snd mt G 500 1577 (oRetI .boolean) := w_zret (hm := mm500) dL_law_1577 rfl
theorem n500_1578 : Snd mt G 500 1578 (oGoto 4258) := w_goto (hm := mm500) dL_law_1578 rfl
theorem n500_1581 : Snd mt G 500 1581 (oAload 1 1582) := w_aload_n (hm := mm500) dL_law_1581
theorem n500_1582 : Snd mt G 500 1582 (oAload 0 1583) := w_aload_n (hm := mm500) dL_law_1582
theorem n500_1583 : Snd mt G 500 1583 (oIload 4 1585) := w_iload (hm := mm500) dL_law_1583
theorem n500_1585 : Snd mt G 500 1585 (oConst (.int 1) 1586) := w_iconst (hm := mm500) dL_law_1585 rfl
theorem n500_1586 : Snd mt G 500 1586 (oBin (fun x y => x + y) 1587) := w_iadd (hm := mm500) dL_law_1586
theorem n500_1587 : Snd mt G 500 1587 (oAld [1100] 1588) := w_iaload (hm := mm500) (kt := 0) dL_law_1587 at_0 (Nat.le_of_ble_eq_true rfl) (List.forall_mem_cons.mpr ⟨Or.inr rfl, (fun t ht => nomatch ht)⟩)
theorem n500_1588 : Snd mt G 500 1588 (oAload 0 1589) := w_aload_n (hm := mm500) dL_law_1588
theorem n500_1589 : Snd mt G 500 1589 (oIload 4 1591) := w_iload (hm := mm500) dL_law_1589
theorem n500_1591 : Snd mt G 500 1591 (oConst (.int 2) 1592) := w_iconst (hm := mm500) dL_law_1591 rfl
theorem n500_1592 : Snd mt G 500 1592 (oBin (fun x y => x + y) 1593) := w_iadd (hm := mm500) dL_law_1592
theorem n500_1593 : Snd mt G 500 1593 (oAld [1100] 1594) := w_iaload (hm := mm500) (kt := 0) dL_law_1593 at_0 (Nat.le_of_ble_eq_true rfl) (List.forall_mem_cons.mpr ⟨Or.inr rfl, (fun t ht => nomatch ht)⟩)
theorem n500_1594 : Snd mt G 500 1594 (oAload 3 1595) := w_aload_n (hm := mm500) dL_law_1594
theorem n500_1595 : Snd mt G 500 1595 (oCall 4 (fS 15 5) 0 1598 xOut) := s_callS (m' := 15) (n := 4) xsh_out (w_xok0 mm500) (w_cal mm500 mm15 pn_X0 (Nat.le_of_ble_eq_true rfl) (Nat.le_of_ble_eq_true rfl)) (fun h as hn => w_run_SX mm500 mm15 dL_law_1595 q1922 q1923 q128 q1924 pa15 hn)
theorem n500_1598 : Snd mt G 500 1598 (oIstore 5 1600) := w_istore (hm := mm500) dL_law_1598 (Nat.le_of_ble_eq_true rfl)
theorem n500_1600 : Snd mt G 500 1600 (oAload 2 1601) := w_aload_n (hm := mm500) dL_law_1600
theorem n500_1601 : Snd mt G 500 1601 (oAload 0 1602) := w_aload_n (hm := mm500) dL_law_1601
theorem n500_1602 : Snd mt G 500 1602 (oIload 4 1604) := w_iload (hm := mm500) dL_law_1602
theorem n500_1604 : Snd mt G 500 1604 (oConst (.int 1) 1605) := w_iconst (hm := mm500) dL_law_1604 rfl
theorem n500_1605 : Snd mt G 500 1605 (oBin (fun x y => x + y) 1606) := w_iadd (hm := mm500) dL_law_1605
theorem n500_1606 : Snd mt G 500 1606 (oAld [1100] 1607) := w_iaload (hm := mm500) (kt := 0) dL_law_1606 at_0 (Nat.le_of_ble_eq_true rfl) (List.forall_mem_cons.mpr ⟨Or.inr rfl, (fun t ht => nomatch ht)⟩)
theorem n500_1607 : Snd mt G 500 1607 (oAload 0 1608) := w_aload_n (hm := mm500) dL_law_1607
theorem n500_1608 : Snd mt G 500 1608 (oIload 4 1610) := w_iload (hm := mm500) dL_law_1608
theorem n500_1610 : Snd mt G 500 1610 (oConst (.int 2) 1611) := w_iconst (hm := mm500) dL_law_1610 rfl
theorem n500_1611 : Snd mt G 500 1611 (oBin (fun x y => x + y) 1612) := w_iadd (hm := mm500) dL_law_1611
theorem n500_1612 : Snd mt G 500 1612 (oAld [1100] 1613) := w_iaload (hm := mm500) (kt := 0) dL_law_1612 at_0 (Nat.le_of_ble_eq_true rfl) (List.forall_mem_cons.mpr ⟨Or.inr rfl, (fun t ht => nomatch ht)⟩)
theorem n500_1613 : Snd mt G 500 1613 (oCall 3 (fV [4] 339 5) 0 1616 xOut) := s_callV (m' := 339) (n := 2) xsh_out (w_xok0 mm500) (w_cal mm500 mm339 pn_X3 (Nat.le_of_ble_eq_true rfl) (Nat.le_of_ble_eq_true rfl)) (fun h b as hc hn => w_run_V (ci := 3) mm500 mm339 dL_law_1613 (Or.inl (List.mem_singleton.mp hc)) (Nat.le_of_ble_eq_true rfl) vc_3 rfl q2850 q2851 q2852 q150 q2853 pa339 hn)
theorem n500_1616 : Snd mt G 500 1616 (oIstore 6 1618) := w_istore (hm := mm500) dL_law_1616 (Nat.le_of_ble_eq_true rfl)
theorem n500_1618 : Snd mt G 500 1618 (oAload 2 1619) := w_aload_n (hm := mm500) dL_law_1618
theorem n500_1619 : Snd mt G 500 1619 (oCall 1 (fV [4] 281 1) 0 1622 xOut) := s_callV (m' := 281) (n := 0) xsh_out (w_xok0 mm500) (w_cal mm500 mm281 pn_X3 (Nat.le_of_ble_eq_true rfl) (Nat.le_of_ble_eq_true rfl)) (fun h b as hc hn => w_run_V (ci := 3) mm500 mm281 dL_law_1619 (Or.inl (List.mem_singleton.mp hc)) (Nat.le_of_ble_eq_true rfl) vc_3 rfl q2619 q2620 q2621 q150 q2622 pa281 hn)
theorem n500_1622 : Snd mt G 500 1622 (oIload 5 1624) := w_iload (hm := mm500) dL_law_1622
theorem n500_1624 : Snd mt G 500 1624 (oCmpEq 1629 1627) := w_icmp_eq (hm := mm500) dL_law_1624 rfl
theorem n500_1627 : Snd mt G 500 1627 (oConst (.int 0) 1628) := w_iconst (hm := mm500) dL_law_1627 rfl
theorem n500_1628 : Snd mt G 500 1628 (oRetI .boolean) := w_zret (hm := mm500) dL_law_1628 rfl
theorem n500_1629 : Snd mt G 500 1629 (oIload 5 1631) := w_iload (hm := mm500) dL_law_1629
theorem n500_1631 : Snd mt G 500 1631 (oIfEq 1634 1646) := w_if_ne (hm := mm500) dL_law_1631 rfl
theorem n500_1634 : Snd mt G 500 1634 (oAload 3 1635) := w_aload_n (hm := mm500) dL_law_1634
theorem n500_1635 : Snd mt G 500 1635 (oConst (.int 0) 1636) := w_iconst (hm := mm500) dL_law_1635 rfl
theorem n500_1636 : Snd mt G 500 1636 (oAld [102] 1637) := w_laload (hm := mm500) (kt := 2) dL_law_1636 at_2 (Nat.le_of_ble_eq_true rfl) (List.forall_mem_cons.mpr ⟨Or.inl rfl, (fun t ht => nomatch ht)⟩)
theorem n500_1637 : Snd mt G 500 1637 (oIload 6 1639) := w_iload (hm := mm500) dL_law_1637
theorem n500_1639 : Snd mt G 500 1639 (oUn (fun x => .long x.toInt64) 1640) := w_i2l (hm := mm500) dL_law_1639
theorem n500_1640 : Snd mt G 500 1640 (oLbin (fun x y => .int (lg_cmp x y)) 1641) := w_lcmp (hm := mm500) dL_law_1640
theorem n500_1641 : Snd mt G 500 1641 (oIfEq 1646 1644) := w_if_eq (hm := mm500) dL_law_1641 rfl
theorem n500_1644 : Snd mt G 500 1644 (oConst (.int 0) 1645) := w_iconst (hm := mm500) dL_law_1644 rfl
theorem n500_1645 : Snd mt G 500 1645 (oRetI .boolean) := w_zret (hm := mm500) dL_law_1645 rfl
theorem n500_1646 : Snd mt G 500 1646 (oGoto 4258) := w_goto (hm := mm500) dL_law_1646 rfl
theorem n500_1649 : Snd mt G 500 1649 (oAload 1 1650) := w_aload_n (hm := mm500) dL_law_1649
theorem n500_1650 : Snd mt G 500 1650 (oAload 0 1651) := w_aload_n (hm := mm500) dL_law_1650
theorem n500_1651 : Snd mt G 500 1651 (oIload 4 1653) := w_iload (hm := mm500) dL_law_1651
theorem n500_1653 : Snd mt G 500 1653 (oConst (.int 1) 1654) := w_iconst (hm := mm500) dL_law_1653 rfl
theorem n500_1654 : Snd mt G 500 1654 (oBin (fun x y => x + y) 1655) := w_iadd (hm := mm500) dL_law_1654
theorem n500_1655 : Snd mt G 500 1655 (oAld [1100] 1656) := w_iaload (hm := mm500) (kt := 0) dL_law_1655 at_0 (Nat.le_of_ble_eq_true rfl) (List.forall_mem_cons.mpr ⟨Or.inr rfl, (fun t ht => nomatch ht)⟩)
theorem n500_1656 : Snd mt G 500 1656 (oAload 0 1657) := w_aload_n (hm := mm500) dL_law_1656
theorem n500_1657 : Snd mt G 500 1657 (oIload 4 1659) := w_iload (hm := mm500) dL_law_1657
theorem n500_1659 : Snd mt G 500 1659 (oConst (.int 2) 1660) := w_iconst (hm := mm500) dL_law_1659 rfl
theorem n500_1660 : Snd mt G 500 1660 (oBin (fun x y => x + y) 1661) := w_iadd (hm := mm500) dL_law_1660
theorem n500_1661 : Snd mt G 500 1661 (oAld [1100] 1662) := w_iaload (hm := mm500) (kt := 0) dL_law_1661 at_0 (Nat.le_of_ble_eq_true rfl) (List.forall_mem_cons.mpr ⟨Or.inr rfl, (fun t ht => nomatch ht)⟩)
theorem n500_1662 : Snd mt G 500 1662 (oAload 0 1663) := w_aload_n (hm := mm500) dL_law_1662
theorem n500_1663 : Snd mt G 500 1663 (oIload 4 1665) := w_iload (hm := mm500) dL_law_1663
theorem n500_1665 : Snd mt G 500 1665 (oConst (.int 3) 1666) := w_iconst (hm := mm500) dL_law_1665 rfl
theorem n500_1666 : Snd mt G 500 1666 (oBin (fun x y => x + y) 1667) := w_iadd (hm := mm500) dL_law_1666
theorem n500_1667 : Snd mt G 500 1667 (oAld [1100] 1668) := w_iaload (hm := mm500) (kt := 0) dL_law_1667 at_0 (Nat.le_of_ble_eq_true rfl) (List.forall_mem_cons.mpr ⟨Or.inr rfl, (fun t ht => nomatch ht)⟩)
theorem n500_1668 : Snd mt G 500 1668 (oAload 3 1669) := w_aload_n (hm := mm500) dL_law_1668
theorem n500_1669 : Snd mt G 500 1669 (oCall 5 (fS 16 6) 0 1672 xOut) := s_callS (m' := 16) (n := 5) xsh_out (w_xok0 mm500) (w_cal mm500 mm16 pn_X0 (Nat.le_of_ble_eq_true rfl) (Nat.le_of_ble_eq_true rfl)) (fun h as hn => w_run_SX mm500 mm16 dL_law_1669 q1929 q1930 q128 q1931 pa16 hn)
theorem n500_1672 : Snd mt G 500 1672 (oIstore 5 1674) := w_istore (hm := mm500) dL_law_1672 (Nat.le_of_ble_eq_true rfl)
theorem n500_1674 : Snd mt G 500 1674 (oAload 2 1675) := w_aload_n (hm := mm500) dL_law_1674
theorem n500_1675 : Snd mt G 500 1675 (oAload 0 1676) := w_aload_n (hm := mm500) dL_law_1675
theorem n500_1676 : Snd mt G 500 1676 (oIload 4 1678) := w_iload (hm := mm500) dL_law_1676
theorem n500_1678 : Snd mt G 500 1678 (oConst (.int 1) 1679) := w_iconst (hm := mm500) dL_law_1678 rfl
theorem n500_1679 : Snd mt G 500 1679 (oBin (fun x y => x + y) 1680) := w_iadd (hm := mm500) dL_law_1679
theorem n500_1680 : Snd mt G 500 1680 (oAld [1100] 1681) := w_iaload (hm := mm500) (kt := 0) dL_law_1680 at_0 (Nat.le_of_ble_eq_true rfl) (List.forall_mem_cons.mpr ⟨Or.inr rfl, (fun t ht => nomatch ht)⟩)
theorem n500_1681 : Snd mt G 500 1681 (oAload 0 1682) := w_aload_n (hm := mm500) dL_law_1681
theorem n500_1682 : Snd mt G 500 1682 (oIload 4 1684) := w_iload (hm := mm500) dL_law_1682
theorem n500_1684 : Snd mt G 500 1684 (oConst (.int 2) 1685) := w_iconst (hm := mm500) dL_law_1684 rfl
theorem n500_1685 : Snd mt G 500 1685 (oBin (fun x y => x + y) 1686) := w_iadd (hm := mm500) dL_law_1685
theorem n500_1686 : Snd mt G 500 1686 (oAld [1100] 1687) := w_iaload (hm := mm500) (kt := 0) dL_law_1686 at_0 (Nat.le_of_ble_eq_true rfl) (List.forall_mem_cons.mpr ⟨Or.inr rfl, (fun t ht => nomatch ht)⟩)
theorem n500_1687 : Snd mt G 500 1687 (oAload 0 1688) := w_aload_n (hm := mm500) dL_law_1687
theorem n500_1688 : Snd mt G 500 1688 (oIload 4 1690) := w_iload (hm := mm500) dL_law_1688
theorem n500_1690 : Snd mt G 500 1690 (oConst (.int 3) 1691) := w_iconst (hm := mm500) dL_law_1690 rfl
theorem n500_1691 : Snd mt G 500 1691 (oBin (fun x y => x + y) 1692) := w_iadd (hm := mm500) dL_law_1691
theorem n500_1692 : Snd mt G 500 1692 (oAld [1100] 1693) := w_iaload (hm := mm500) (kt := 0) dL_law_1692 at_0 (Nat.le_of_ble_eq_true rfl) (List.forall_mem_cons.mpr ⟨Or.inr rfl, (fun t ht => nomatch ht)⟩)
theorem n500_1693 : Snd mt G 500 1693 (oCall 4 (fV [4] 340 6) 0 1696 xOut) := s_callV (m' := 340) (n := 3) xsh_out (w_xok0 mm500) (w_cal mm500 mm340 pn_X3 (Nat.le_of_ble_eq_true rfl) (Nat.le_of_ble_eq_true rfl)) (fun h b as hc hn => w_run_V (ci := 3) mm500 mm340 dL_law_1693 (Or.inl (List.mem_singleton.mp hc)) (Nat.le_of_ble_eq_true rfl) vc_3 rfl q2854 q2855 q2856 q150 q2857 pa340 hn)
theorem n500_1696 : Snd mt G 500 1696 (oIstore 6 1698) := w_istore (hm := mm500) dL_law_1696 (Nat.le_of_ble_eq_true rfl)
theorem n500_1698 : Snd mt G 500 1698 (oAload 2 1699) := w_aload_n (hm := mm500) dL_law_1698
theorem n500_1699 : Snd mt G 500 1699 (oCall 1 (fV [4] 281 1) 0 1702 xOut) := s_callV (m' := 281) (n := 0) xsh_out (w_xok0 mm500) (w_cal mm500 mm281 pn_X3 (Nat.le_of_ble_eq_true rfl) (Nat.le_of_ble_eq_true rfl)) (fun h b as hc hn => w_run_V (ci := 3) mm500 mm281 dL_law_1699 (Or.inl (List.mem_singleton.mp hc)) (Nat.le_of_ble_eq_true rfl) vc_3 rfl q2619 q2620 q2621 q150 q2622 pa281 hn)
theorem n500_1702 : Snd mt G 500 1702 (oIload 5 1704) := w_iload (hm := mm500) dL_law_1702
theorem n500_1704 : Snd mt G 500 1704 (oCmpEq 1709 1707) := w_icmp_eq (hm := mm500) dL_law_1704 rfl
theorem n500_1707 : Snd mt G 500 1707 (oConst (.int 0) 1708) := w_iconst (hm := mm500) dL_law_1707 rfl
theorem n500_1708 : Snd mt G 500 1708 (oRetI .boolean) := w_zret (hm := mm500) dL_law_1708 rfl
theorem n500_1709 : Snd mt G 500 1709 (oIload 5 1711) := w_iload (hm := mm500) dL_law_1709
theorem n500_1711 : Snd mt G 500 1711 (oIfEq 1714 1726) := w_if_ne (hm := mm500) dL_law_1711 rfl
theorem n500_1714 : Snd mt G 500 1714 (oAload 3 1715) := w_aload_n (hm := mm500) dL_law_1714
theorem n500_1715 : Snd mt G 500 1715 (oConst (.int 0) 1716) := w_iconst (hm := mm500) dL_law_1715 rfl
theorem n500_1716 : Snd mt G 500 1716 (oAld [102] 1717) := w_laload (hm := mm500) (kt := 2) dL_law_1716 at_2 (Nat.le_of_ble_eq_true rfl) (List.forall_mem_cons.mpr ⟨Or.inl rfl, (fun t ht => nomatch ht)⟩)
theorem n500_1717 : Snd mt G 500 1717 (oIload 6 1719) := w_iload (hm := mm500) dL_law_1717
theorem n500_1719 : Snd mt G 500 1719 (oUn (fun x => .long x.toInt64) 1720) := w_i2l (hm := mm500) dL_law_1719
theorem n500_1720 : Snd mt G 500 1720 (oLbin (fun x y => .int (lg_cmp x y)) 1721) := w_lcmp (hm := mm500) dL_law_1720
theorem n500_1721 : Snd mt G 500 1721 (oIfEq 1726 1724) := w_if_eq (hm := mm500) dL_law_1721 rfl
theorem n500_1724 : Snd mt G 500 1724 (oConst (.int 0) 1725) := w_iconst (hm := mm500) dL_law_1724 rfl
theorem n500_1725 : Snd mt G 500 1725 (oRetI .boolean) := w_zret (hm := mm500) dL_law_1725 rfl
theorem n500_1726 : Snd mt G 500 1726 (oGoto 4258) := w_goto (hm := mm500) dL_law_1726 rfl
theorem n500_1729 : Snd mt G 500 1729 (oAload 1 1730) := w_aload_n (hm := mm500) dL_law_1729
theorem n500_1730 : Snd mt G 500 1730 (oAload 0 1731) := w_aload_n (hm := mm500) dL_law_1730
theorem n500_1731 : Snd mt G 500 1731 (oIload 4 1733) := w_iload (hm := mm500) dL_law_1731
theorem n500_1733 : Snd mt G 500 1733 (oConst (.int 1) 1734) := w_iconst (hm := mm500) dL_law_1733 rfl
theorem n500_1734 : Snd mt G 500 1734 (oBin (fun x y => x + y) 1735) := w_iadd (hm := mm500) dL_law_1734
theorem n500_1735 : Snd mt G 500 1735 (oAld [1100] 1736) := w_iaload (hm := mm500) (kt := 0) dL_law_1735 at_0 (Nat.le_of_ble_eq_true rfl) (List.forall_mem_cons.mpr ⟨Or.inr rfl, (fun t ht => nomatch ht)⟩)
theorem n500_1736 : Snd mt G 500 1736 (oAload 0 1737) := w_aload_n (hm := mm500) dL_law_1736
theorem n500_1737 : Snd mt G 500 1737 (oIload 4 1739) := w_iload (hm := mm500) dL_law_1737
theorem n500_1739 : Snd mt G 500 1739 (oConst (.int 2) 1740) := w_iconst (hm := mm500) dL_law_1739 rfl
theorem n500_1740 : Snd mt G 500 1740 (oBin (fun x y => x + y) 1741) := w_iadd (hm := mm500) dL_law_1740
theorem n500_1741 : Snd mt G 500 1741 (oAld [1100] 1742) := w_iaload (hm := mm500) (kt := 0) dL_law_1741 at_0 (Nat.le_of_ble_eq_true rfl) (List.forall_mem_cons.mpr ⟨Or.inr rfl, (fun t ht => nomatch ht)⟩)
theorem n500_1742 : Snd mt G 500 1742 (oAload 3 1743) := w_aload_n (hm := mm500) dL_law_1742
theorem n500_1743 : Snd mt G 500 1743 (oCall 4 (fS 17 5) 0 1746 xOut) := s_callS (m' := 17) (n := 4) xsh_out (w_xok0 mm500) (w_cal mm500 mm17 pn_X0 (Nat.le_of_ble_eq_true rfl) (Nat.le_of_ble_eq_true rfl)) (fun h as hn => w_run_SX mm500 mm17 dL_law_1743 q1939 q1940 q128 q1941 pa17 hn)
theorem n500_1746 : Snd mt G 500 1746 (oIstore 5 1748) := w_istore (hm := mm500) dL_law_1746 (Nat.le_of_ble_eq_true rfl)
theorem n500_1748 : Snd mt G 500 1748 (oAload 2 1749) := w_aload_n (hm := mm500) dL_law_1748
theorem n500_1749 : Snd mt G 500 1749 (oAload 0 1750) := w_aload_n (hm := mm500) dL_law_1749
theorem n500_1750 : Snd mt G 500 1750 (oIload 4 1752) := w_iload (hm := mm500) dL_law_1750
theorem n500_1752 : Snd mt G 500 1752 (oConst (.int 1) 1753) := w_iconst (hm := mm500) dL_law_1752 rfl
theorem n500_1753 : Snd mt G 500 1753 (oBin (fun x y => x + y) 1754) := w_iadd (hm := mm500) dL_law_1753
theorem n500_1754 : Snd mt G 500 1754 (oAld [1100] 1755) := w_iaload (hm := mm500) (kt := 0) dL_law_1754 at_0 (Nat.le_of_ble_eq_true rfl) (List.forall_mem_cons.mpr ⟨Or.inr rfl, (fun t ht => nomatch ht)⟩)
theorem n500_1755 : Snd mt G 500 1755 (oAload 0 1756) := w_aload_n (hm := mm500) dL_law_1755
theorem n500_1756 : Snd mt G 500 1756 (oIload 4 1758) := w_iload (hm := mm500) dL_law_1756
theorem n500_1758 : Snd mt G 500 1758 (oConst (.int 2) 1759) := w_iconst (hm := mm500) dL_law_1758 rfl
theorem n500_1759 : Snd mt G 500 1759 (oBin (fun x y => x + y) 1760) := w_iadd (hm := mm500) dL_law_1759
theorem n500_1760 : Snd mt G 500 1760 (oAld [1100] 1761) := w_iaload (hm := mm500) (kt := 0) dL_law_1760 at_0 (Nat.le_of_ble_eq_true rfl) (List.forall_mem_cons.mpr ⟨Or.inr rfl, (fun t ht => nomatch ht)⟩)
theorem n500_1761 : Snd mt G 500 1761 (oCall 3 (fV [4] 344 3) 0 1764 xOut) := s_callV (m' := 344) (n := 2) xsh_out (w_xok0 mm500) (w_cal mm500 mm344 pn_X3 (Nat.le_of_ble_eq_true rfl) (Nat.le_of_ble_eq_true rfl)) (fun h b as hc hn => w_run_V (ci := 3) mm500 mm344 dL_law_1761 (Or.inl (List.mem_singleton.mp hc)) (Nat.le_of_ble_eq_true rfl) vc_3 rfl q2869 q2870 q2871 q150 q2872 pa344 hn)
theorem n500_1764 : Snd mt G 500 1764 (oIstore 6 1766) := w_istore (hm := mm500) dL_law_1764 (Nat.le_of_ble_eq_true rfl)
theorem n500_1766 : Snd mt G 500 1766 (oAload 2 1767) := w_aload_n (hm := mm500) dL_law_1766
theorem n500_1767 : Snd mt G 500 1767 (oCall 1 (fV [4] 281 1) 0 1770 xOut) := s_callV (m' := 281) (n := 0) xsh_out (w_xok0 mm500) (w_cal mm500 mm281 pn_X3 (Nat.le_of_ble_eq_true rfl) (Nat.le_of_ble_eq_true rfl)) (fun h b as hc hn => w_run_V (ci := 3) mm500 mm281 dL_law_1767 (Or.inl (List.mem_singleton.mp hc)) (Nat.le_of_ble_eq_true rfl) vc_3 rfl q2619 q2620 q2621 q150 q2622 pa281 hn)
theorem n500_1770 : Snd mt G 500 1770 (oIload 5 1772) := w_iload (hm := mm500) dL_law_1770
theorem n500_1772 : Snd mt G 500 1772 (oCmpEq 1777 1775) := w_icmp_eq (hm := mm500) dL_law_1772 rfl
theorem n500_1775 : Snd mt G 500 1775 (oConst (.int 0) 1776) := w_iconst (hm := mm500) dL_law_1775 rfl
theorem n500_1776 : Snd mt G 500 1776 (oRetI .boolean) := w_zret (hm := mm500) dL_law_1776 rfl
theorem n500_1777 : Snd mt G 500 1777 (oIload 5 1779) := w_iload (hm := mm500) dL_law_1777
theorem n500_1779 : Snd mt G 500 1779 (oIfEq 1782 1794) := w_if_ne (hm := mm500) dL_law_1779 rfl
theorem n500_1782 : Snd mt G 500 1782 (oAload 3 1783) := w_aload_n (hm := mm500) dL_law_1782
theorem n500_1783 : Snd mt G 500 1783 (oConst (.int 0) 1784) := w_iconst (hm := mm500) dL_law_1783 rfl
theorem n500_1784 : Snd mt G 500 1784 (oAld [102] 1785) := w_laload (hm := mm500) (kt := 2) dL_law_1784 at_2 (Nat.le_of_ble_eq_true rfl) (List.forall_mem_cons.mpr ⟨Or.inl rfl, (fun t ht => nomatch ht)⟩)
theorem n500_1785 : Snd mt G 500 1785 (oIload 6 1787) := w_iload (hm := mm500) dL_law_1785
theorem n500_1787 : Snd mt G 500 1787 (oUn (fun x => .long x.toInt64) 1788) := w_i2l (hm := mm500) dL_law_1787
theorem n500_1788 : Snd mt G 500 1788 (oLbin (fun x y => .int (lg_cmp x y)) 1789) := w_lcmp (hm := mm500) dL_law_1788
theorem n500_1789 : Snd mt G 500 1789 (oIfEq 1794 1792) := w_if_eq (hm := mm500) dL_law_1789 rfl
theorem n500_1792 : Snd mt G 500 1792 (oConst (.int 0) 1793) := w_iconst (hm := mm500) dL_law_1792 rfl
theorem n500_1793 : Snd mt G 500 1793 (oRetI .boolean) := w_zret (hm := mm500) dL_law_1793 rfl
theorem n500_1794 : Snd mt G 500 1794 (oGoto 4258) := w_goto (hm := mm500) dL_law_1794 rfl
theorem n500_1797 : Snd mt G 500 1797 (oAload 1 1798) := w_aload_n (hm := mm500) dL_law_1797
theorem n500_1798 : Snd mt G 500 1798 (oCall 1 (fV [1] 55 3) 0 1801 xOut) := s_callV (m' := 55) (n := 0) xsh_out (w_xok0 mm500) (w_cal mm500 mm55 pn_X1 (Nat.le_of_ble_eq_true rfl) (Nat.le_of_ble_eq_true rfl)) (fun h b as hc hn => w_run_V (ci := 0) mm500 mm55 dL_law_1798 (Or.inl (List.mem_singleton.mp hc)) (Nat.le_of_ble_eq_true rfl) vc_0 rfl q705 q706 q707 q129 q708 pa55 hn)
theorem n500_1801 : Snd mt G 500 1801 (oAload 2 1802) := w_aload_n (hm := mm500) dL_law_1801
theorem n500_1802 : Snd mt G 500 1802 (oCall 1 (fV [4] 348 3) 0 1805 xOut) := s_callV (m' := 348) (n := 0) xsh_out (w_xok0 mm500) (w_cal mm500 mm348 pn_X3 (Nat.le_of_ble_eq_true rfl) (Nat.le_of_ble_eq_true rfl)) (fun h b as hc hn => w_run_V (ci := 3) mm500 mm348 dL_law_1802 (Or.inl (List.mem_singleton.mp hc)) (Nat.le_of_ble_eq_true rfl) vc_3 rfl q2884 q2885 q2886 q150 q2887 pa348 hn)
theorem n500_1805 : Snd mt G 500 1805 (oCmpEq 4258 1808) := w_icmp_eq (hm := mm500) dL_law_1805 rfl
theorem n500_1808 : Snd mt G 500 1808 (oConst (.int 0) 1809) := w_iconst (hm := mm500) dL_law_1808 rfl
theorem n500_1809 : Snd mt G 500 1809 (oRetI .boolean) := w_zret (hm := mm500) dL_law_1809 rfl
theorem n500_1810 : Snd mt G 500 1810 (oAload 1 1811) := w_aload_n (hm := mm500) dL_law_1810
theorem n500_1811 : Snd mt G 500 1811 (oAload 0 1812) := w_aload_n (hm := mm500) dL_law_1811
theorem n500_1812 : Snd mt G 500 1812 (oIload 4 1814) := w_iload (hm := mm500) dL_law_1812
theorem n500_1814 : Snd mt G 500 1814 (oConst (.int 1) 1815) := w_iconst (hm := mm500) dL_law_1814 rfl
theorem n500_1815 : Snd mt G 500 1815 (oBin (fun x y => x + y) 1816) := w_iadd (hm := mm500) dL_law_1815
theorem n500_1816 : Snd mt G 500 1816 (oAld [1100] 1817) := w_iaload (hm := mm500) (kt := 0) dL_law_1816 at_0 (Nat.le_of_ble_eq_true rfl) (List.forall_mem_cons.mpr ⟨Or.inr rfl, (fun t ht => nomatch ht)⟩)
theorem n500_1817 : Snd mt G 500 1817 (oCall 2 (fV [1] 65 7) 0 1820 xOut) := s_callV (m' := 65) (n := 1) xsh_out (w_xok0 mm500) (w_cal mm500 mm65 pn_X1 (Nat.le_of_ble_eq_true rfl) (Nat.le_of_ble_eq_true rfl)) (fun h b as hc hn => w_run_V (ci := 0) mm500 mm65 dL_law_1817 (Or.inl (List.mem_singleton.mp hc)) (Nat.le_of_ble_eq_true rfl) vc_0 rfl q849 q850 q851 q129 q852 pa65 hn)
theorem n500_1820 : Snd mt G 500 1820 (oAload 2 1821) := w_aload_n (hm := mm500) dL_law_1820
theorem n500_1821 : Snd mt G 500 1821 (oAload 0 1822) := w_aload_n (hm := mm500) dL_law_1821
theorem n500_1822 : Snd mt G 500 1822 (oIload 4 1824) := w_iload (hm := mm500) dL_law_1822
theorem n500_1824 : Snd mt G 500 1824 (oConst (.int 1) 1825) := w_iconst (hm := mm500) dL_law_1824 rfl
theorem n500_1825 : Snd mt G 500 1825 (oBin (fun x y => x + y) 1826) := w_iadd (hm := mm500) dL_law_1825
theorem n500_1826 : Snd mt G 500 1826 (oAld [1100] 1827) := w_iaload (hm := mm500) (kt := 0) dL_law_1826 at_0 (Nat.le_of_ble_eq_true rfl) (List.forall_mem_cons.mpr ⟨Or.inr rfl, (fun t ht => nomatch ht)⟩)
theorem n500_1827 : Snd mt G 500 1827 (oCall 2 (fV [4] 350 6) 0 1830 xOut) := s_callV (m' := 350) (n := 1) xsh_out (w_xok0 mm500) (w_cal mm500 mm350 pn_X3 (Nat.le_of_ble_eq_true rfl) (Nat.le_of_ble_eq_true rfl)) (fun h b as hc hn => w_run_V (ci := 3) mm500 mm350 dL_law_1827 (Or.inl (List.mem_singleton.mp hc)) (Nat.le_of_ble_eq_true rfl) vc_3 rfl q2892 q2893 q2894 q150 q2895 pa350 hn)
theorem n500_1830 : Snd mt G 500 1830 (oCmpEq 4258 1833) := w_icmp_eq (hm := mm500) dL_law_1830 rfl
theorem n500_1833 : Snd mt G 500 1833 (oConst (.int 0) 1834) := w_iconst (hm := mm500) dL_law_1833 rfl
theorem n500_1834 : Snd mt G 500 1834 (oRetI .boolean) := w_zret (hm := mm500) dL_law_1834 rfl
theorem n500_1835 : Snd mt G 500 1835 (oAload 1 1836) := w_aload_n (hm := mm500) dL_law_1835
theorem n500_1836 : Snd mt G 500 1836 (oAload 0 1837) := w_aload_n (hm := mm500) dL_law_1836
theorem n500_1837 : Snd mt G 500 1837 (oIload 4 1839) := w_iload (hm := mm500) dL_law_1837
theorem n500_1839 : Snd mt G 500 1839 (oConst (.int 1) 1840) := w_iconst (hm := mm500) dL_law_1839 rfl
theorem n500_1840 : Snd mt G 500 1840 (oBin (fun x y => x + y) 1841) := w_iadd (hm := mm500) dL_law_1840
theorem n500_1841 : Snd mt G 500 1841 (oAld [1100] 1842) := w_iaload (hm := mm500) (kt := 0) dL_law_1841 at_0 (Nat.le_of_ble_eq_true rfl) (List.forall_mem_cons.mpr ⟨Or.inr rfl, (fun t ht => nomatch ht)⟩)
theorem n500_1842 : Snd mt G 500 1842 (oAload 0 1843) := w_aload_n (hm := mm500) dL_law_1842
theorem n500_1843 : Snd mt G 500 1843 (oIload 4 1845) := w_iload (hm := mm500) dL_law_1843
theorem n500_1845 : Snd mt G 500 1845 (oConst (.int 2) 1846) := w_iconst (hm := mm500) dL_law_1845 rfl
theorem n500_1846 : Snd mt G 500 1846 (oBin (fun x y => x + y) 1847) := w_iadd (hm := mm500) dL_law_1846
theorem n500_1847 : Snd mt G 500 1847 (oAld [1100] 1848) := w_iaload (hm := mm500) (kt := 0) dL_law_1847 at_0 (Nat.le_of_ble_eq_true rfl) (List.forall_mem_cons.mpr ⟨Or.inr rfl, (fun t ht => nomatch ht)⟩)
theorem n500_1848 : Snd mt G 500 1848 (oAload 3 1849) := w_aload_n (hm := mm500) dL_law_1848
theorem n500_1849 : Snd mt G 500 1849 (oCall 4 (fS 18 5) 0 1852 xOut) := s_callS (m' := 18) (n := 4) xsh_out (w_xok0 mm500) (w_cal mm500 mm18 pn_X0 (Nat.le_of_ble_eq_true rfl) (Nat.le_of_ble_eq_true rfl)) (fun h as hn => w_run_SX mm500 mm18 dL_law_1849 q1946 q1947 q128 q1948 pa18 hn)
theorem n500_1852 : Snd mt G 500 1852 (oIstore 5 1854) := w_istore (hm := mm500) dL_law_1852 (Nat.le_of_ble_eq_true rfl)
theorem n500_1854 : Snd mt G 500 1854 (oAload 2 1855) := w_aload_n (hm := mm500) dL_law_1854
theorem n500_1855 : Snd mt G 500 1855 (oAload 0 1856) := w_aload_n (hm := mm500) dL_law_1855
theorem n500_1856 : Snd mt G 500 1856 (oIload 4 1858) := w_iload (hm := mm500) dL_law_1856
theorem n500_1858 : Snd mt G 500 1858 (oConst (.int 1) 1859) := w_iconst (hm := mm500) dL_law_1858 rfl
theorem n500_1859 : Snd mt G 500 1859 (oBin (fun x y => x + y) 1860) := w_iadd (hm := mm500) dL_law_1859
theorem n500_1860 : Snd mt G 500 1860 (oAld [1100] 1861) := w_iaload (hm := mm500) (kt := 0) dL_law_1860 at_0 (Nat.le_of_ble_eq_true rfl) (List.forall_mem_cons.mpr ⟨Or.inr rfl, (fun t ht => nomatch ht)⟩)
theorem n500_1861 : Snd mt G 500 1861 (oAload 0 1862) := w_aload_n (hm := mm500) dL_law_1861
theorem n500_1862 : Snd mt G 500 1862 (oIload 4 1864) := w_iload (hm := mm500) dL_law_1862
theorem n500_1864 : Snd mt G 500 1864 (oConst (.int 2) 1865) := w_iconst (hm := mm500) dL_law_1864 rfl
theorem n500_1865 : Snd mt G 500 1865 (oBin (fun x y => x + y) 1866) := w_iadd (hm := mm500) dL_law_1865
theorem n500_1866 : Snd mt G 500 1866 (oAld [1100] 1867) := w_iaload (hm := mm500) (kt := 0) dL_law_1866 at_0 (Nat.le_of_ble_eq_true rfl) (List.forall_mem_cons.mpr ⟨Or.inr rfl, (fun t ht => nomatch ht)⟩)
theorem n500_1867 : Snd mt G 500 1867 (oCall 3 (fV [4] 351 3) 0 1870 xOut) := s_callV (m' := 351) (n := 2) xsh_out (w_xok0 mm500) (w_cal mm500 mm351 pn_X3 (Nat.le_of_ble_eq_true rfl) (Nat.le_of_ble_eq_true rfl)) (fun h b as hc hn => w_run_V (ci := 3) mm500 mm351 dL_law_1867 (Or.inl (List.mem_singleton.mp hc)) (Nat.le_of_ble_eq_true rfl) vc_3 rfl q2896 q2897 q2898 q150 q2899 pa351 hn)
theorem n500_1870 : Snd mt G 500 1870 (oIstore 6 1872) := w_istore (hm := mm500) dL_law_1870 (Nat.le_of_ble_eq_true rfl)
theorem n500_1872 : Snd mt G 500 1872 (oAload 2 1873) := w_aload_n (hm := mm500) dL_law_1872
theorem n500_1873 : Snd mt G 500 1873 (oCall 1 (fV [4] 281 1) 0 1876 xOut) := s_callV (m' := 281) (n := 0) xsh_out (w_xok0 mm500) (w_cal mm500 mm281 pn_X3 (Nat.le_of_ble_eq_true rfl) (Nat.le_of_ble_eq_true rfl)) (fun h b as hc hn => w_run_V (ci := 3) mm500 mm281 dL_law_1873 (Or.inl (List.mem_singleton.mp hc)) (Nat.le_of_ble_eq_true rfl) vc_3 rfl q2619 q2620 q2621 q150 q2622 pa281 hn)
theorem n500_1876 : Snd mt G 500 1876 (oIload 5 1878) := w_iload (hm := mm500) dL_law_1876
theorem n500_1878 : Snd mt G 500 1878 (oCmpEq 1883 1881) := w_icmp_eq (hm := mm500) dL_law_1878 rfl
theorem n500_1881 : Snd mt G 500 1881 (oConst (.int 0) 1882) := w_iconst (hm := mm500) dL_law_1881 rfl
theorem n500_1882 : Snd mt G 500 1882 (oRetI .boolean) := w_zret (hm := mm500) dL_law_1882 rfl
theorem n500_1883 : Snd mt G 500 1883 (oIload 5 1885) := w_iload (hm := mm500) dL_law_1883
theorem n500_1885 : Snd mt G 500 1885 (oIfEq 1888 1900) := w_if_ne (hm := mm500) dL_law_1885 rfl
theorem n500_1888 : Snd mt G 500 1888 (oAload 3 1889) := w_aload_n (hm := mm500) dL_law_1888
theorem n500_1889 : Snd mt G 500 1889 (oConst (.int 0) 1890) := w_iconst (hm := mm500) dL_law_1889 rfl
theorem n500_1890 : Snd mt G 500 1890 (oAld [102] 1891) := w_laload (hm := mm500) (kt := 2) dL_law_1890 at_2 (Nat.le_of_ble_eq_true rfl) (List.forall_mem_cons.mpr ⟨Or.inl rfl, (fun t ht => nomatch ht)⟩)
theorem n500_1891 : Snd mt G 500 1891 (oIload 6 1893) := w_iload (hm := mm500) dL_law_1891
theorem n500_1893 : Snd mt G 500 1893 (oUn (fun x => .long x.toInt64) 1894) := w_i2l (hm := mm500) dL_law_1893
theorem n500_1894 : Snd mt G 500 1894 (oLbin (fun x y => .int (lg_cmp x y)) 1895) := w_lcmp (hm := mm500) dL_law_1894
theorem n500_1895 : Snd mt G 500 1895 (oIfEq 1900 1898) := w_if_eq (hm := mm500) dL_law_1895 rfl
theorem n500_1898 : Snd mt G 500 1898 (oConst (.int 0) 1899) := w_iconst (hm := mm500) dL_law_1898 rfl
theorem n500_1899 : Snd mt G 500 1899 (oRetI .boolean) := w_zret (hm := mm500) dL_law_1899 rfl
theorem n500_1900 : Snd mt G 500 1900 (oGoto 4258) := w_goto (hm := mm500) dL_law_1900 rfl
theorem n500_1903 : Snd mt G 500 1903 (oAload 1 1904) := w_aload_n (hm := mm500) dL_law_1903
theorem n500_1904 : Snd mt G 500 1904 (oAload 0 1905) := w_aload_n (hm := mm500) dL_law_1904
theorem n500_1905 : Snd mt G 500 1905 (oIload 4 1907) := w_iload (hm := mm500) dL_law_1905
theorem n500_1907 : Snd mt G 500 1907 (oConst (.int 1) 1908) := w_iconst (hm := mm500) dL_law_1907 rfl
theorem n500_1908 : Snd mt G 500 1908 (oBin (fun x y => x + y) 1909) := w_iadd (hm := mm500) dL_law_1908
theorem n500_1909 : Snd mt G 500 1909 (oAld [1100] 1910) := w_iaload (hm := mm500) (kt := 0) dL_law_1909 at_0 (Nat.le_of_ble_eq_true rfl) (List.forall_mem_cons.mpr ⟨Or.inr rfl, (fun t ht => nomatch ht)⟩)
theorem n500_1910 : Snd mt G 500 1910 (oAload 0 1911) := w_aload_n (hm := mm500) dL_law_1910
theorem n500_1911 : Snd mt G 500 1911 (oIload 4 1913) := w_iload (hm := mm500) dL_law_1911
theorem n500_1913 : Snd mt G 500 1913 (oConst (.int 2) 1914) := w_iconst (hm := mm500) dL_law_1913 rfl
theorem n500_1914 : Snd mt G 500 1914 (oBin (fun x y => x + y) 1915) := w_iadd (hm := mm500) dL_law_1914
theorem n500_1915 : Snd mt G 500 1915 (oAld [1100] 1916) := w_iaload (hm := mm500) (kt := 0) dL_law_1915 at_0 (Nat.le_of_ble_eq_true rfl) (List.forall_mem_cons.mpr ⟨Or.inr rfl, (fun t ht => nomatch ht)⟩)
theorem n500_1916 : Snd mt G 500 1916 (oAload 3 1917) := w_aload_n (hm := mm500) dL_law_1916
theorem n500_1917 : Snd mt G 500 1917 (oCall 4 (fS 19 5) 0 1920 xOut) := s_callS (m' := 19) (n := 4) xsh_out (w_xok0 mm500) (w_cal mm500 mm19 pn_X0 (Nat.le_of_ble_eq_true rfl) (Nat.le_of_ble_eq_true rfl)) (fun h as hn => w_run_SX mm500 mm19 dL_law_1917 q1965 q1966 q128 q1967 pa19 hn)
theorem n500_1920 : Snd mt G 500 1920 (oIstore 5 1922) := w_istore (hm := mm500) dL_law_1920 (Nat.le_of_ble_eq_true rfl)
theorem n500_1922 : Snd mt G 500 1922 (oAload 2 1923) := w_aload_n (hm := mm500) dL_law_1922
theorem n500_1923 : Snd mt G 500 1923 (oAload 0 1924) := w_aload_n (hm := mm500) dL_law_1923
theorem n500_1924 : Snd mt G 500 1924 (oIload 4 1926) := w_iload (hm := mm500) dL_law_1924
theorem n500_1926 : Snd mt G 500 1926 (oConst (.int 1) 1927) := w_iconst (hm := mm500) dL_law_1926 rfl
theorem n500_1927 : Snd mt G 500 1927 (oBin (fun x y => x + y) 1928) := w_iadd (hm := mm500) dL_law_1927
theorem n500_1928 : Snd mt G 500 1928 (oAld [1100] 1929) := w_iaload (hm := mm500) (kt := 0) dL_law_1928 at_0 (Nat.le_of_ble_eq_true rfl) (List.forall_mem_cons.mpr ⟨Or.inr rfl, (fun t ht => nomatch ht)⟩)
theorem n500_1929 : Snd mt G 500 1929 (oAload 0 1930) := w_aload_n (hm := mm500) dL_law_1929
theorem n500_1930 : Snd mt G 500 1930 (oIload 4 1932) := w_iload (hm := mm500) dL_law_1930
theorem n500_1932 : Snd mt G 500 1932 (oConst (.int 2) 1933) := w_iconst (hm := mm500) dL_law_1932 rfl
theorem n500_1933 : Snd mt G 500 1933 (oBin (fun x y => x + y) 1934) := w_iadd (hm := mm500) dL_law_1933
theorem n500_1934 : Snd mt G 500 1934 (oAld [1100] 1935) := w_iaload (hm := mm500) (kt := 0) dL_law_1934 at_0 (Nat.le_of_ble_eq_true rfl) (List.forall_mem_cons.mpr ⟨Or.inr rfl, (fun t ht => nomatch ht)⟩)
theorem n500_1935 : Snd mt G 500 1935 (oCall 3 (fV [4] 354 3) 0 1938 xOut) := s_callV (m' := 354) (n := 2) xsh_out (w_xok0 mm500) (w_cal mm500 mm354 pn_X3 (Nat.le_of_ble_eq_true rfl) (Nat.le_of_ble_eq_true rfl)) (fun h b as hc hn => w_run_V (ci := 3) mm500 mm354 dL_law_1935 (Or.inl (List.mem_singleton.mp hc)) (Nat.le_of_ble_eq_true rfl) vc_3 rfl q2908 q2909 q2910 q150 q2911 pa354 hn)
theorem n500_1938 : Snd mt G 500 1938 (oIstore 6 1940) := w_istore (hm := mm500) dL_law_1938 (Nat.le_of_ble_eq_true rfl)
theorem n500_1940 : Snd mt G 500 1940 (oAload 2 1941) := w_aload_n (hm := mm500) dL_law_1940
theorem n500_1941 : Snd mt G 500 1941 (oCall 1 (fV [4] 281 1) 0 1944 xOut) := s_callV (m' := 281) (n := 0) xsh_out (w_xok0 mm500) (w_cal mm500 mm281 pn_X3 (Nat.le_of_ble_eq_true rfl) (Nat.le_of_ble_eq_true rfl)) (fun h b as hc hn => w_run_V (ci := 3) mm500 mm281 dL_law_1941 (Or.inl (List.mem_singleton.mp hc)) (Nat.le_of_ble_eq_true rfl) vc_3 rfl q2619 q2620 q2621 q150 q2622 pa281 hn)
theorem n500_1944 : Snd mt G 500 1944 (oIload 5 1946) := w_iload (hm := mm500) dL_law_1944
theorem n500_1946 : Snd mt G 500 1946 (oCmpEq 1951 1949) := w_icmp_eq (hm := mm500) dL_law_1946 rfl
theorem n500_1949 : Snd mt G 500 1949 (oConst (.int 0) 1950) := w_iconst (hm := mm500) dL_law_1949 rfl
theorem n500_1950 : Snd mt G 500 1950 (oRetI .boolean) := w_zret (hm := mm500) dL_law_1950 rfl
theorem n500_1951 : Snd mt G 500 1951 (oIload 5 1953) := w_iload (hm := mm500) dL_law_1951
theorem n500_1953 : Snd mt G 500 1953 (oIfEq 1956 1968) := w_if_ne (hm := mm500) dL_law_1953 rfl
theorem n500_1956 : Snd mt G 500 1956 (oAload 3 1957) := w_aload_n (hm := mm500) dL_law_1956
theorem n500_1957 : Snd mt G 500 1957 (oConst (.int 0) 1958) := w_iconst (hm := mm500) dL_law_1957 rfl
theorem n500_1958 : Snd mt G 500 1958 (oAld [102] 1959) := w_laload (hm := mm500) (kt := 2) dL_law_1958 at_2 (Nat.le_of_ble_eq_true rfl) (List.forall_mem_cons.mpr ⟨Or.inl rfl, (fun t ht => nomatch ht)⟩)
theorem n500_1959 : Snd mt G 500 1959 (oIload 6 1961) := w_iload (hm := mm500) dL_law_1959
theorem n500_1961 : Snd mt G 500 1961 (oUn (fun x => .long x.toInt64) 1962) := w_i2l (hm := mm500) dL_law_1961
theorem n500_1962 : Snd mt G 500 1962 (oLbin (fun x y => .int (lg_cmp x y)) 1963) := w_lcmp (hm := mm500) dL_law_1962
theorem n500_1963 : Snd mt G 500 1963 (oIfEq 1968 1966) := w_if_eq (hm := mm500) dL_law_1963 rfl
theorem n500_1966 : Snd mt G 500 1966 (oConst (.int 0) 1967) := w_iconst (hm := mm500) dL_law_1966 rfl
theorem n500_1967 : Snd mt G 500 1967 (oRetI .boolean) := w_zret (hm := mm500) dL_law_1967 rfl
theorem n500_1968 : Snd mt G 500 1968 (oGoto 4258) := w_goto (hm := mm500) dL_law_1968 rfl
theorem n500_1971 : Snd mt G 500 1971 (oAload 1 1972) := w_aload_n (hm := mm500) dL_law_1971
theorem n500_1972 : Snd mt G 500 1972 (oAload 0 1973) := w_aload_n (hm := mm500) dL_law_1972
theorem n500_1973 : Snd mt G 500 1973 (oIload 4 1975) := w_iload (hm := mm500) dL_law_1973
theorem n500_1975 : Snd mt G 500 1975 (oConst (.int 1) 1976) := w_iconst (hm := mm500) dL_law_1975 rfl
theorem n500_1976 : Snd mt G 500 1976 (oBin (fun x y => x + y) 1977) := w_iadd (hm := mm500) dL_law_1976
theorem n500_1977 : Snd mt G 500 1977 (oAld [1100] 1978) := w_iaload (hm := mm500) (kt := 0) dL_law_1977 at_0 (Nat.le_of_ble_eq_true rfl) (List.forall_mem_cons.mpr ⟨Or.inr rfl, (fun t ht => nomatch ht)⟩)
theorem n500_1978 : Snd mt G 500 1978 (oAload 0 1979) := w_aload_n (hm := mm500) dL_law_1978
theorem n500_1979 : Snd mt G 500 1979 (oIload 4 1981) := w_iload (hm := mm500) dL_law_1979
theorem n500_1981 : Snd mt G 500 1981 (oConst (.int 2) 1982) := w_iconst (hm := mm500) dL_law_1981 rfl
theorem n500_1982 : Snd mt G 500 1982 (oBin (fun x y => x + y) 1983) := w_iadd (hm := mm500) dL_law_1982
theorem n500_1983 : Snd mt G 500 1983 (oAld [1100] 1984) := w_iaload (hm := mm500) (kt := 0) dL_law_1983 at_0 (Nat.le_of_ble_eq_true rfl) (List.forall_mem_cons.mpr ⟨Or.inr rfl, (fun t ht => nomatch ht)⟩)
theorem n500_1984 : Snd mt G 500 1984 (oAload 3 1985) := w_aload_n (hm := mm500) dL_law_1984
theorem n500_1985 : Snd mt G 500 1985 (oCall 4 (fS 20 5) 0 1988 xOut) := s_callS (m' := 20) (n := 4) xsh_out (w_xok0 mm500) (w_cal mm500 mm20 pn_X0 (Nat.le_of_ble_eq_true rfl) (Nat.le_of_ble_eq_true rfl)) (fun h as hn => w_run_SX mm500 mm20 dL_law_1985 q1972 q1973 q128 q1974 pa20 hn)
theorem n500_1988 : Snd mt G 500 1988 (oIstore 5 1990) := w_istore (hm := mm500) dL_law_1988 (Nat.le_of_ble_eq_true rfl)
theorem n500_1990 : Snd mt G 500 1990 (oAload 2 1991) := w_aload_n (hm := mm500) dL_law_1990
theorem n500_1991 : Snd mt G 500 1991 (oAload 0 1992) := w_aload_n (hm := mm500) dL_law_1991
theorem n500_1992 : Snd mt G 500 1992 (oIload 4 1994) := w_iload (hm := mm500) dL_law_1992
theorem n500_1994 : Snd mt G 500 1994 (oConst (.int 1) 1995) := w_iconst (hm := mm500) dL_law_1994 rfl
theorem n500_1995 : Snd mt G 500 1995 (oBin (fun x y => x + y) 1996) := w_iadd (hm := mm500) dL_law_1995
theorem n500_1996 : Snd mt G 500 1996 (oAld [1100] 1997) := w_iaload (hm := mm500) (kt := 0) dL_law_1996 at_0 (Nat.le_of_ble_eq_true rfl) (List.forall_mem_cons.mpr ⟨Or.inr rfl, (fun t ht => nomatch ht)⟩)
theorem n500_1997 : Snd mt G 500 1997 (oAload 0 1998) := w_aload_n (hm := mm500) dL_law_1997
theorem n500_1998 : Snd mt G 500 1998 (oIload 4 2000) := w_iload (hm := mm500) dL_law_1998
theorem n500_2000 : Snd mt G 500 2000 (oConst (.int 2) 2001) := w_iconst (hm := mm500) dL_law_2000 rfl
theorem n500_2001 : Snd mt G 500 2001 (oBin (fun x y => x + y) 2002) := w_iadd (hm := mm500) dL_law_2001
theorem n500_2002 : Snd mt G 500 2002 (oAld [1100] 2003) := w_iaload (hm := mm500) (kt := 0) dL_law_2002 at_0 (Nat.le_of_ble_eq_true rfl) (List.forall_mem_cons.mpr ⟨Or.inr rfl, (fun t ht => nomatch ht)⟩)
theorem n500_2003 : Snd mt G 500 2003 (oCall 3 (fV [4] 355 3) 0 2006 xOut) := s_callV (m' := 355) (n := 2) xsh_out (w_xok0 mm500) (w_cal mm500 mm355 pn_X3 (Nat.le_of_ble_eq_true rfl) (Nat.le_of_ble_eq_true rfl)) (fun h b as hc hn => w_run_V (ci := 3) mm500 mm355 dL_law_2003 (Or.inl (List.mem_singleton.mp hc)) (Nat.le_of_ble_eq_true rfl) vc_3 rfl q2912 q2913 q2914 q150 q2915 pa355 hn)
theorem n500_2006 : Snd mt G 500 2006 (oIstore 6 2008) := w_istore (hm := mm500) dL_law_2006 (Nat.le_of_ble_eq_true rfl)
theorem n500_2008 : Snd mt G 500 2008 (oAload 2 2009) := w_aload_n (hm := mm500) dL_law_2008
theorem n500_2009 : Snd mt G 500 2009 (oCall 1 (fV [4] 281 1) 0 2012 xOut) := s_callV (m' := 281) (n := 0) xsh_out (w_xok0 mm500) (w_cal mm500 mm281 pn_X3 (Nat.le_of_ble_eq_true rfl) (Nat.le_of_ble_eq_true rfl)) (fun h b as hc hn => w_run_V (ci := 3) mm500 mm281 dL_law_2009 (Or.inl (List.mem_singleton.mp hc)) (Nat.le_of_ble_eq_true rfl) vc_3 rfl q2619 q2620 q2621 q150 q2622 pa281 hn)
theorem n500_2012 : Snd mt G 500 2012 (oIload 5 2014) := w_iload (hm := mm500) dL_law_2012
theorem n500_2014 : Snd mt G 500 2014 (oCmpEq 2019 2017) := w_icmp_eq (hm := mm500) dL_law_2014 rfl
theorem n500_2017 : Snd mt G 500 2017 (oConst (.int 0) 2018) := w_iconst (hm := mm500) dL_law_2017 rfl
theorem n500_2018 : Snd mt G 500 2018 (oRetI .boolean) := w_zret (hm := mm500) dL_law_2018 rfl
theorem n500_2019 : Snd mt G 500 2019 (oIload 5 2021) := w_iload (hm := mm500) dL_law_2019
theorem n500_2021 : Snd mt G 500 2021 (oIfEq 2024 2036) := w_if_ne (hm := mm500) dL_law_2021 rfl
theorem n500_2024 : Snd mt G 500 2024 (oAload 3 2025) := w_aload_n (hm := mm500) dL_law_2024
theorem n500_2025 : Snd mt G 500 2025 (oConst (.int 0) 2026) := w_iconst (hm := mm500) dL_law_2025 rfl
theorem n500_2026 : Snd mt G 500 2026 (oAld [102] 2027) := w_laload (hm := mm500) (kt := 2) dL_law_2026 at_2 (Nat.le_of_ble_eq_true rfl) (List.forall_mem_cons.mpr ⟨Or.inl rfl, (fun t ht => nomatch ht)⟩)
theorem n500_2027 : Snd mt G 500 2027 (oIload 6 2029) := w_iload (hm := mm500) dL_law_2027
theorem n500_2029 : Snd mt G 500 2029 (oUn (fun x => .long x.toInt64) 2030) := w_i2l (hm := mm500) dL_law_2029
theorem n500_2030 : Snd mt G 500 2030 (oLbin (fun x y => .int (lg_cmp x y)) 2031) := w_lcmp (hm := mm500) dL_law_2030
theorem n500_2031 : Snd mt G 500 2031 (oIfEq 2036 2034) := w_if_eq (hm := mm500) dL_law_2031 rfl
theorem n500_2034 : Snd mt G 500 2034 (oConst (.int 0) 2035) := w_iconst (hm := mm500) dL_law_2034 rfl
theorem n500_2035 : Snd mt G 500 2035 (oRetI .boolean) := w_zret (hm := mm500) dL_law_2035 rfl
theorem n500_2036 : Snd mt G 500 2036 (oGoto 4258) := w_goto (hm := mm500) dL_law_2036 rfl
theorem n500_2039 : Snd mt G 500 2039 (oAload 1 2040) := w_aload_n (hm := mm500) dL_law_2039
theorem n500_2040 : Snd mt G 500 2040 (oAload 0 2041) := w_aload_n (hm := mm500) dL_law_2040
theorem n500_2041 : Snd mt G 500 2041 (oIload 4 2043) := w_iload (hm := mm500) dL_law_2041
theorem n500_2043 : Snd mt G 500 2043 (oConst (.int 1) 2044) := w_iconst (hm := mm500) dL_law_2043 rfl
theorem n500_2044 : Snd mt G 500 2044 (oBin (fun x y => x + y) 2045) := w_iadd (hm := mm500) dL_law_2044
theorem n500_2045 : Snd mt G 500 2045 (oAld [1100] 2046) := w_iaload (hm := mm500) (kt := 0) dL_law_2045 at_0 (Nat.le_of_ble_eq_true rfl) (List.forall_mem_cons.mpr ⟨Or.inr rfl, (fun t ht => nomatch ht)⟩)
theorem n500_2046 : Snd mt G 500 2046 (oAload 0 2047) := w_aload_n (hm := mm500) dL_law_2046
theorem n500_2047 : Snd mt G 500 2047 (oIload 4 2049) := w_iload (hm := mm500) dL_law_2047
theorem n500_2049 : Snd mt G 500 2049 (oConst (.int 2) 2050) := w_iconst (hm := mm500) dL_law_2049 rfl
theorem n500_2050 : Snd mt G 500 2050 (oBin (fun x y => x + y) 2051) := w_iadd (hm := mm500) dL_law_2050
theorem n500_2051 : Snd mt G 500 2051 (oAld [1100] 2052) := w_iaload (hm := mm500) (kt := 0) dL_law_2051 at_0 (Nat.le_of_ble_eq_true rfl) (List.forall_mem_cons.mpr ⟨Or.inr rfl, (fun t ht => nomatch ht)⟩)
theorem n500_2052 : Snd mt G 500 2052 (oAload 0 2053) := w_aload_n (hm := mm500) dL_law_2052
theorem n500_2053 : Snd mt G 500 2053 (oIload 4 2055) := w_iload (hm := mm500) dL_law_2053
theorem n500_2055 : Snd mt G 500 2055 (oConst (.int 3) 2056) := w_iconst (hm := mm500) dL_law_2055 rfl
theorem n500_2056 : Snd mt G 500 2056 (oBin (fun x y => x + y) 2057) := w_iadd (hm := mm500) dL_law_2056
theorem n500_2057 : Snd mt G 500 2057 (oAld [1100] 2058) := w_iaload (hm := mm500) (kt := 0) dL_law_2057 at_0 (Nat.le_of_ble_eq_true rfl) (List.forall_mem_cons.mpr ⟨Or.inr rfl, (fun t ht => nomatch ht)⟩)
theorem n500_2058 : Snd mt G 500 2058 (oAload 0 2059) := w_aload_n (hm := mm500) dL_law_2058
theorem n500_2059 : Snd mt G 500 2059 (oIload 4 2061) := w_iload (hm := mm500) dL_law_2059
theorem n500_2061 : Snd mt G 500 2061 (oConst (.int 4) 2062) := w_iconst (hm := mm500) dL_law_2061 rfl
theorem n500_2062 : Snd mt G 500 2062 (oBin (fun x y => x + y) 2063) := w_iadd (hm := mm500) dL_law_2062
theorem n500_2063 : Snd mt G 500 2063 (oAld [1100] 2064) := w_iaload (hm := mm500) (kt := 0) dL_law_2063 at_0 (Nat.le_of_ble_eq_true rfl) (List.forall_mem_cons.mpr ⟨Or.inr rfl, (fun t ht => nomatch ht)⟩)
theorem n500_2064 : Snd mt G 500 2064 (oAload 3 2065) := w_aload_n (hm := mm500) dL_law_2064
theorem n500_2065 : Snd mt G 500 2065 (oCall 6 (fS 21 7) 0 2068 xOut) := s_callS (m' := 21) (n := 6) xsh_out (w_xok0 mm500) (w_cal mm500 mm21 pn_X0 (Nat.le_of_ble_eq_true rfl) (Nat.le_of_ble_eq_true rfl)) (fun h as hn => w_run_SX mm500 mm21 dL_law_2065 q1979 q1980 q128 q1981 pa21 hn)
theorem n500_2068 : Snd mt G 500 2068 (oIstore 5 2070) := w_istore (hm := mm500) dL_law_2068 (Nat.le_of_ble_eq_true rfl)
theorem n500_2070 : Snd mt G 500 2070 (oAload 2 2071) := w_aload_n (hm := mm500) dL_law_2070
theorem n500_2071 : Snd mt G 500 2071 (oAload 0 2072) := w_aload_n (hm := mm500) dL_law_2071
theorem n500_2072 : Snd mt G 500 2072 (oIload 4 2074) := w_iload (hm := mm500) dL_law_2072
theorem n500_2074 : Snd mt G 500 2074 (oConst (.int 1) 2075) := w_iconst (hm := mm500) dL_law_2074 rfl
theorem n500_2075 : Snd mt G 500 2075 (oBin (fun x y => x + y) 2076) := w_iadd (hm := mm500) dL_law_2075
theorem n500_2076 : Snd mt G 500 2076 (oAld [1100] 2077) := w_iaload (hm := mm500) (kt := 0) dL_law_2076 at_0 (Nat.le_of_ble_eq_true rfl) (List.forall_mem_cons.mpr ⟨Or.inr rfl, (fun t ht => nomatch ht)⟩)
theorem n500_2077 : Snd mt G 500 2077 (oAload 0 2078) := w_aload_n (hm := mm500) dL_law_2077
theorem n500_2078 : Snd mt G 500 2078 (oIload 4 2080) := w_iload (hm := mm500) dL_law_2078
theorem n500_2080 : Snd mt G 500 2080 (oConst (.int 2) 2081) := w_iconst (hm := mm500) dL_law_2080 rfl
theorem n500_2081 : Snd mt G 500 2081 (oBin (fun x y => x + y) 2082) := w_iadd (hm := mm500) dL_law_2081
theorem n500_2082 : Snd mt G 500 2082 (oAld [1100] 2083) := w_iaload (hm := mm500) (kt := 0) dL_law_2082 at_0 (Nat.le_of_ble_eq_true rfl) (List.forall_mem_cons.mpr ⟨Or.inr rfl, (fun t ht => nomatch ht)⟩)
theorem n500_2083 : Snd mt G 500 2083 (oAload 0 2084) := w_aload_n (hm := mm500) dL_law_2083
theorem n500_2084 : Snd mt G 500 2084 (oIload 4 2086) := w_iload (hm := mm500) dL_law_2084
theorem n500_2086 : Snd mt G 500 2086 (oConst (.int 3) 2087) := w_iconst (hm := mm500) dL_law_2086 rfl
theorem n500_2087 : Snd mt G 500 2087 (oBin (fun x y => x + y) 2088) := w_iadd (hm := mm500) dL_law_2087
theorem n500_2088 : Snd mt G 500 2088 (oAld [1100] 2089) := w_iaload (hm := mm500) (kt := 0) dL_law_2088 at_0 (Nat.le_of_ble_eq_true rfl) (List.forall_mem_cons.mpr ⟨Or.inr rfl, (fun t ht => nomatch ht)⟩)
theorem n500_2089 : Snd mt G 500 2089 (oAload 0 2090) := w_aload_n (hm := mm500) dL_law_2089
theorem n500_2090 : Snd mt G 500 2090 (oIload 4 2092) := w_iload (hm := mm500) dL_law_2090
theorem n500_2092 : Snd mt G 500 2092 (oConst (.int 4) 2093) := w_iconst (hm := mm500) dL_law_2092 rfl
theorem n500_2093 : Snd mt G 500 2093 (oBin (fun x y => x + y) 2094) := w_iadd (hm := mm500) dL_law_2093
theorem n500_2094 : Snd mt G 500 2094 (oAld [1100] 2095) := w_iaload (hm := mm500) (kt := 0) dL_law_2094 at_0 (Nat.le_of_ble_eq_true rfl) (List.forall_mem_cons.mpr ⟨Or.inr rfl, (fun t ht => nomatch ht)⟩)
theorem n500_2095 : Snd mt G 500 2095 (oCall 5 (fV [4] 356 5) 0 2098 xOut) := s_callV (m' := 356) (n := 4) xsh_out (w_xok0 mm500) (w_cal mm500 mm356 pn_X3 (Nat.le_of_ble_eq_true rfl) (Nat.le_of_ble_eq_true rfl)) (fun h b as hc hn => w_run_V (ci := 3) mm500 mm356 dL_law_2095 (Or.inl (List.mem_singleton.mp hc)) (Nat.le_of_ble_eq_true rfl) vc_3 rfl q2916 q2917 q2918 q150 q2919 pa356 hn)
theorem n500_2098 : Snd mt G 500 2098 (oIstore 6 2100) := w_istore (hm := mm500) dL_law_2098 (Nat.le_of_ble_eq_true rfl)
theorem n500_2100 : Snd mt G 500 2100 (oAload 2 2101) := w_aload_n (hm := mm500) dL_law_2100
theorem n500_2101 : Snd mt G 500 2101 (oCall 1 (fV [4] 281 1) 0 2104 xOut) := s_callV (m' := 281) (n := 0) xsh_out (w_xok0 mm500) (w_cal mm500 mm281 pn_X3 (Nat.le_of_ble_eq_true rfl) (Nat.le_of_ble_eq_true rfl)) (fun h b as hc hn => w_run_V (ci := 3) mm500 mm281 dL_law_2101 (Or.inl (List.mem_singleton.mp hc)) (Nat.le_of_ble_eq_true rfl) vc_3 rfl q2619 q2620 q2621 q150 q2622 pa281 hn)
theorem n500_2104 : Snd mt G 500 2104 (oIload 5 2106) := w_iload (hm := mm500) dL_law_2104
theorem n500_2106 : Snd mt G 500 2106 (oCmpEq 2111 2109) := w_icmp_eq (hm := mm500) dL_law_2106 rfl
theorem n500_2109 : Snd mt G 500 2109 (oConst (.int 0) 2110) := w_iconst (hm := mm500) dL_law_2109 rfl
theorem n500_2110 : Snd mt G 500 2110 (oRetI .boolean) := w_zret (hm := mm500) dL_law_2110 rfl
theorem n500_2111 : Snd mt G 500 2111 (oIload 5 2113) := w_iload (hm := mm500) dL_law_2111
theorem n500_2113 : Snd mt G 500 2113 (oIfEq 2116 2128) := w_if_ne (hm := mm500) dL_law_2113 rfl
theorem n500_2116 : Snd mt G 500 2116 (oAload 3 2117) := w_aload_n (hm := mm500) dL_law_2116
theorem n500_2117 : Snd mt G 500 2117 (oConst (.int 0) 2118) := w_iconst (hm := mm500) dL_law_2117 rfl
theorem n500_2118 : Snd mt G 500 2118 (oAld [102] 2119) := w_laload (hm := mm500) (kt := 2) dL_law_2118 at_2 (Nat.le_of_ble_eq_true rfl) (List.forall_mem_cons.mpr ⟨Or.inl rfl, (fun t ht => nomatch ht)⟩)
theorem n500_2119 : Snd mt G 500 2119 (oIload 6 2121) := w_iload (hm := mm500) dL_law_2119
theorem n500_2121 : Snd mt G 500 2121 (oUn (fun x => .long x.toInt64) 2122) := w_i2l (hm := mm500) dL_law_2121
theorem n500_2122 : Snd mt G 500 2122 (oLbin (fun x y => .int (lg_cmp x y)) 2123) := w_lcmp (hm := mm500) dL_law_2122
theorem n500_2123 : Snd mt G 500 2123 (oIfEq 2128 2126) := w_if_eq (hm := mm500) dL_law_2123 rfl
theorem n500_2126 : Snd mt G 500 2126 (oConst (.int 0) 2127) := w_iconst (hm := mm500) dL_law_2126 rfl
theorem n500_2127 : Snd mt G 500 2127 (oRetI .boolean) := w_zret (hm := mm500) dL_law_2127 rfl
theorem n500_2128 : Snd mt G 500 2128 (oGoto 4258) := w_goto (hm := mm500) dL_law_2128 rfl
theorem n500_2131 : Snd mt G 500 2131 (oAload 1 2132) := w_aload_n (hm := mm500) dL_law_2131
theorem n500_2132 : Snd mt G 500 2132 (oAload 0 2133) := w_aload_n (hm := mm500) dL_law_2132
theorem n500_2133 : Snd mt G 500 2133 (oIload 4 2135) := w_iload (hm := mm500) dL_law_2133
theorem n500_2135 : Snd mt G 500 2135 (oConst (.int 1) 2136) := w_iconst (hm := mm500) dL_law_2135 rfl
theorem n500_2136 : Snd mt G 500 2136 (oBin (fun x y => x + y) 2137) := w_iadd (hm := mm500) dL_law_2136
theorem n500_2137 : Snd mt G 500 2137 (oAld [1100] 2138) := w_iaload (hm := mm500) (kt := 0) dL_law_2137 at_0 (Nat.le_of_ble_eq_true rfl) (List.forall_mem_cons.mpr ⟨Or.inr rfl, (fun t ht => nomatch ht)⟩)
theorem n500_2138 : Snd mt G 500 2138 (oAload 3 2139) := w_aload_n (hm := mm500) dL_law_2138
theorem n500_2139 : Snd mt G 500 2139 (oCall 3 (fS 22 4) 0 2142 xOut) := s_callS (m' := 22) (n := 3) xsh_out (w_xok0 mm500) (w_cal mm500 mm22 pn_X0 (Nat.le_of_ble_eq_true rfl) (Nat.le_of_ble_eq_true rfl)) (fun h as hn => w_run_SX mm500 mm22 dL_law_2139 q2007 q2008 q128 q2009 pa22 hn)
theorem n500_2142 : Snd mt G 500 2142 (oIstore 5 2144) := w_istore (hm := mm500) dL_law_2142 (Nat.le_of_ble_eq_true rfl)
theorem n500_2144 : Snd mt G 500 2144 (oAload 2 2145) := w_aload_n (hm := mm500) dL_law_2144
theorem n500_2145 : Snd mt G 500 2145 (oAload 0 2146) := w_aload_n (hm := mm500) dL_law_2145
theorem n500_2146 : Snd mt G 500 2146 (oIload 4 2148) := w_iload (hm := mm500) dL_law_2146
theorem n500_2148 : Snd mt G 500 2148 (oConst (.int 1) 2149) := w_iconst (hm := mm500) dL_law_2148 rfl
theorem n500_2149 : Snd mt G 500 2149 (oBin (fun x y => x + y) 2150) := w_iadd (hm := mm500) dL_law_2149
theorem n500_2150 : Snd mt G 500 2150 (oAld [1100] 2151) := w_iaload (hm := mm500) (kt := 0) dL_law_2150 at_0 (Nat.le_of_ble_eq_true rfl) (List.forall_mem_cons.mpr ⟨Or.inr rfl, (fun t ht => nomatch ht)⟩)
theorem n500_2151 : Snd mt G 500 2151 (oCall 2 (fV [4] 357 3) 0 2154 xOut) := s_callV (m' := 357) (n := 1) xsh_out (w_xok0 mm500) (w_cal mm500 mm357 pn_X3 (Nat.le_of_ble_eq_true rfl) (Nat.le_of_ble_eq_true rfl)) (fun h b as hc hn => w_run_V (ci := 3) mm500 mm357 dL_law_2151 (Or.inl (List.mem_singleton.mp hc)) (Nat.le_of_ble_eq_true rfl) vc_3 rfl q2920 q2921 q2922 q150 q2923 pa357 hn)
theorem n500_2154 : Snd mt G 500 2154 (oIstore 6 2156) := w_istore (hm := mm500) dL_law_2154 (Nat.le_of_ble_eq_true rfl)
theorem n500_2156 : Snd mt G 500 2156 (oAload 2 2157) := w_aload_n (hm := mm500) dL_law_2156
theorem n500_2157 : Snd mt G 500 2157 (oCall 1 (fV [4] 281 1) 0 2160 xOut) := s_callV (m' := 281) (n := 0) xsh_out (w_xok0 mm500) (w_cal mm500 mm281 pn_X3 (Nat.le_of_ble_eq_true rfl) (Nat.le_of_ble_eq_true rfl)) (fun h b as hc hn => w_run_V (ci := 3) mm500 mm281 dL_law_2157 (Or.inl (List.mem_singleton.mp hc)) (Nat.le_of_ble_eq_true rfl) vc_3 rfl q2619 q2620 q2621 q150 q2622 pa281 hn)
theorem n500_2160 : Snd mt G 500 2160 (oIload 5 2162) := w_iload (hm := mm500) dL_law_2160
theorem n500_2162 : Snd mt G 500 2162 (oCmpEq 2167 2165) := w_icmp_eq (hm := mm500) dL_law_2162 rfl
theorem n500_2165 : Snd mt G 500 2165 (oConst (.int 0) 2166) := w_iconst (hm := mm500) dL_law_2165 rfl
theorem n500_2166 : Snd mt G 500 2166 (oRetI .boolean) := w_zret (hm := mm500) dL_law_2166 rfl
theorem n500_2167 : Snd mt G 500 2167 (oIload 5 2169) := w_iload (hm := mm500) dL_law_2167
theorem n500_2169 : Snd mt G 500 2169 (oIfEq 2172 2184) := w_if_ne (hm := mm500) dL_law_2169 rfl
theorem n500_2172 : Snd mt G 500 2172 (oAload 3 2173) := w_aload_n (hm := mm500) dL_law_2172
theorem n500_2173 : Snd mt G 500 2173 (oConst (.int 0) 2174) := w_iconst (hm := mm500) dL_law_2173 rfl
theorem n500_2174 : Snd mt G 500 2174 (oAld [102] 2175) := w_laload (hm := mm500) (kt := 2) dL_law_2174 at_2 (Nat.le_of_ble_eq_true rfl) (List.forall_mem_cons.mpr ⟨Or.inl rfl, (fun t ht => nomatch ht)⟩)
theorem n500_2175 : Snd mt G 500 2175 (oIload 6 2177) := w_iload (hm := mm500) dL_law_2175
theorem n500_2177 : Snd mt G 500 2177 (oUn (fun x => .long x.toInt64) 2178) := w_i2l (hm := mm500) dL_law_2177
theorem n500_2178 : Snd mt G 500 2178 (oLbin (fun x y => .int (lg_cmp x y)) 2179) := w_lcmp (hm := mm500) dL_law_2178
theorem n500_2179 : Snd mt G 500 2179 (oIfEq 2184 2182) := w_if_eq (hm := mm500) dL_law_2179 rfl
theorem n500_2182 : Snd mt G 500 2182 (oConst (.int 0) 2183) := w_iconst (hm := mm500) dL_law_2182 rfl
theorem n500_2183 : Snd mt G 500 2183 (oRetI .boolean) := w_zret (hm := mm500) dL_law_2183 rfl
theorem n500_2184 : Snd mt G 500 2184 (oGoto 4258) := w_goto (hm := mm500) dL_law_2184 rfl
theorem n500_2187 : Snd mt G 500 2187 (oAload 1 2188) := w_aload_n (hm := mm500) dL_law_2187
theorem n500_2188 : Snd mt G 500 2188 (oAload 0 2189) := w_aload_n (hm := mm500) dL_law_2188
theorem n500_2189 : Snd mt G 500 2189 (oIload 4 2191) := w_iload (hm := mm500) dL_law_2189
theorem n500_2191 : Snd mt G 500 2191 (oConst (.int 1) 2192) := w_iconst (hm := mm500) dL_law_2191 rfl
theorem n500_2192 : Snd mt G 500 2192 (oBin (fun x y => x + y) 2193) := w_iadd (hm := mm500) dL_law_2192
theorem n500_2193 : Snd mt G 500 2193 (oAld [1100] 2194) := w_iaload (hm := mm500) (kt := 0) dL_law_2193 at_0 (Nat.le_of_ble_eq_true rfl) (List.forall_mem_cons.mpr ⟨Or.inr rfl, (fun t ht => nomatch ht)⟩)
theorem n500_2194 : Snd mt G 500 2194 (oAload 3 2195) := w_aload_n (hm := mm500) dL_law_2194
theorem n500_2195 : Snd mt G 500 2195 (oCall 3 (fS 23 4) 0 2198 xOut) := s_callS (m' := 23) (n := 3) xsh_out (w_xok0 mm500) (w_cal mm500 mm23 pn_X0 (Nat.le_of_ble_eq_true rfl) (Nat.le_of_ble_eq_true rfl)) (fun h as hn => w_run_SX mm500 mm23 dL_law_2195 q2014 q2015 q128 q2016 pa23 hn)
theorem n500_2198 : Snd mt G 500 2198 (oIstore 5 2200) := w_istore (hm := mm500) dL_law_2198 (Nat.le_of_ble_eq_true rfl)
theorem n500_2200 : Snd mt G 500 2200 (oAload 2 2201) := w_aload_n (hm := mm500) dL_law_2200
theorem n500_2201 : Snd mt G 500 2201 (oAload 0 2202) := w_aload_n (hm := mm500) dL_law_2201
theorem n500_2202 : Snd mt G 500 2202 (oIload 4 2204) := w_iload (hm := mm500) dL_law_2202
theorem n500_2204 : Snd mt G 500 2204 (oConst (.int 1) 2205) := w_iconst (hm := mm500) dL_law_2204 rfl
theorem n500_2205 : Snd mt G 500 2205 (oBin (fun x y => x + y) 2206) := w_iadd (hm := mm500) dL_law_2205
theorem n500_2206 : Snd mt G 500 2206 (oAld [1100] 2207) := w_iaload (hm := mm500) (kt := 0) dL_law_2206 at_0 (Nat.le_of_ble_eq_true rfl) (List.forall_mem_cons.mpr ⟨Or.inr rfl, (fun t ht => nomatch ht)⟩)
theorem n500_2207 : Snd mt G 500 2207 (oCall 2 (fV [4] 358 5) 0 2210 xOut) := s_callV (m' := 358) (n := 1) xsh_out (w_xok0 mm500) (w_cal mm500 mm358 pn_X3 (Nat.le_of_ble_eq_true rfl) (Nat.le_of_ble_eq_true rfl)) (fun h b as hc hn => w_run_V (ci := 3) mm500 mm358 dL_law_2207 (Or.inl (List.mem_singleton.mp hc)) (Nat.le_of_ble_eq_true rfl) vc_3 rfl q2924 q2925 q2926 q150 q2927 pa358 hn)
theorem n500_2210 : Snd mt G 500 2210 (oIstore 6 2212) := w_istore (hm := mm500) dL_law_2210 (Nat.le_of_ble_eq_true rfl)
theorem n500_2212 : Snd mt G 500 2212 (oAload 2 2213) := w_aload_n (hm := mm500) dL_law_2212
theorem n500_2213 : Snd mt G 500 2213 (oCall 1 (fV [4] 281 1) 0 2216 xOut) := s_callV (m' := 281) (n := 0) xsh_out (w_xok0 mm500) (w_cal mm500 mm281 pn_X3 (Nat.le_of_ble_eq_true rfl) (Nat.le_of_ble_eq_true rfl)) (fun h b as hc hn => w_run_V (ci := 3) mm500 mm281 dL_law_2213 (Or.inl (List.mem_singleton.mp hc)) (Nat.le_of_ble_eq_true rfl) vc_3 rfl q2619 q2620 q2621 q150 q2622 pa281 hn)
theorem n500_2216 : Snd mt G 500 2216 (oIload 5 2218) := w_iload (hm := mm500) dL_law_2216
theorem n500_2218 : Snd mt G 500 2218 (oCmpEq 2223 2221) := w_icmp_eq (hm := mm500) dL_law_2218 rfl
theorem n500_2221 : Snd mt G 500 2221 (oConst (.int 0) 2222) := w_iconst (hm := mm500) dL_law_2221 rfl
theorem n500_2222 : Snd mt G 500 2222 (oRetI .boolean) := w_zret (hm := mm500) dL_law_2222 rfl
theorem n500_2223 : Snd mt G 500 2223 (oIload 5 2225) := w_iload (hm := mm500) dL_law_2223
theorem n500_2225 : Snd mt G 500 2225 (oIfEq 2228 2240) := w_if_ne (hm := mm500) dL_law_2225 rfl
theorem n500_2228 : Snd mt G 500 2228 (oAload 3 2229) := w_aload_n (hm := mm500) dL_law_2228
theorem n500_2229 : Snd mt G 500 2229 (oConst (.int 0) 2230) := w_iconst (hm := mm500) dL_law_2229 rfl
theorem n500_2230 : Snd mt G 500 2230 (oAld [102] 2231) := w_laload (hm := mm500) (kt := 2) dL_law_2230 at_2 (Nat.le_of_ble_eq_true rfl) (List.forall_mem_cons.mpr ⟨Or.inl rfl, (fun t ht => nomatch ht)⟩)
theorem n500_2231 : Snd mt G 500 2231 (oIload 6 2233) := w_iload (hm := mm500) dL_law_2231
theorem n500_2233 : Snd mt G 500 2233 (oUn (fun x => .long x.toInt64) 2234) := w_i2l (hm := mm500) dL_law_2233
theorem n500_2234 : Snd mt G 500 2234 (oLbin (fun x y => .int (lg_cmp x y)) 2235) := w_lcmp (hm := mm500) dL_law_2234
theorem n500_2235 : Snd mt G 500 2235 (oIfEq 2240 2238) := w_if_eq (hm := mm500) dL_law_2235 rfl
theorem n500_2238 : Snd mt G 500 2238 (oConst (.int 0) 2239) := w_iconst (hm := mm500) dL_law_2238 rfl
theorem n500_2239 : Snd mt G 500 2239 (oRetI .boolean) := w_zret (hm := mm500) dL_law_2239 rfl
theorem n500_2240 : Snd mt G 500 2240 (oGoto 4258) := w_goto (hm := mm500) dL_law_2240 rfl
theorem n500_2243 : Snd mt G 500 2243 (oAload 1 2244) := w_aload_n (hm := mm500) dL_law_2243
theorem n500_2244 : Snd mt G 500 2244 (oCall 1 (fV [1] 66 3) 0 2247 xOut) := s_callV (m' := 66) (n := 0) xsh_out (w_xok0 mm500) (w_cal mm500 mm66 pn_X1 (Nat.le_of_ble_eq_true rfl) (Nat.le_of_ble_eq_true rfl)) (fun h b as hc hn => w_run_V (ci := 0) mm500 mm66 dL_law_2244 (Or.inl (List.mem_singleton.mp hc)) (Nat.le_of_ble_eq_true rfl) vc_0 rfl q853 q854 q855 q129 q856 pa66 hn)
theorem n500_2247 : Snd mt G 500 2247 (oAload 2 2248) := w_aload_n (hm := mm500) dL_law_2247
theorem n500_2248 : Snd mt G 500 2248 (oCall 1 (fV [4] 360 3) 0 2251 xOut) := s_callV (m' := 360) (n := 0) xsh_out (w_xok0 mm500) (w_cal mm500 mm360 pn_X3 (Nat.le_of_ble_eq_true rfl) (Nat.le_of_ble_eq_true rfl)) (fun h b as hc hn => w_run_V (ci := 3) mm500 mm360 dL_law_2248 (Or.inl (List.mem_singleton.mp hc)) (Nat.le_of_ble_eq_true rfl) vc_3 rfl q2932 q2933 q2934 q150 q2935 pa360 hn)
theorem n500_2251 : Snd mt G 500 2251 (oCmpEq 4258 2254) := w_icmp_eq (hm := mm500) dL_law_2251 rfl
theorem n500_2254 : Snd mt G 500 2254 (oConst (.int 0) 2255) := w_iconst (hm := mm500) dL_law_2254 rfl
theorem n500_2255 : Snd mt G 500 2255 (oRetI .boolean) := w_zret (hm := mm500) dL_law_2255 rfl
theorem n500_2256 : Snd mt G 500 2256 (oAload 1 2257) := w_aload_n (hm := mm500) dL_law_2256
theorem n500_2257 : Snd mt G 500 2257 (oAload 0 2258) := w_aload_n (hm := mm500) dL_law_2257
theorem n500_2258 : Snd mt G 500 2258 (oIload 4 2260) := w_iload (hm := mm500) dL_law_2258
theorem n500_2260 : Snd mt G 500 2260 (oConst (.int 1) 2261) := w_iconst (hm := mm500) dL_law_2260 rfl
theorem n500_2261 : Snd mt G 500 2261 (oBin (fun x y => x + y) 2262) := w_iadd (hm := mm500) dL_law_2261
theorem n500_2262 : Snd mt G 500 2262 (oAld [1100] 2263) := w_iaload (hm := mm500) (kt := 0) dL_law_2262 at_0 (Nat.le_of_ble_eq_true rfl) (List.forall_mem_cons.mpr ⟨Or.inr rfl, (fun t ht => nomatch ht)⟩)
theorem n500_2263 : Snd mt G 500 2263 (oAload 0 2264) := w_aload_n (hm := mm500) dL_law_2263
theorem n500_2264 : Snd mt G 500 2264 (oIload 4 2266) := w_iload (hm := mm500) dL_law_2264
theorem n500_2266 : Snd mt G 500 2266 (oConst (.int 2) 2267) := w_iconst (hm := mm500) dL_law_2266 rfl
theorem n500_2267 : Snd mt G 500 2267 (oBin (fun x y => x + y) 2268) := w_iadd (hm := mm500) dL_law_2267
theorem n500_2268 : Snd mt G 500 2268 (oAld [1100] 2269) := w_iaload (hm := mm500) (kt := 0) dL_law_2268 at_0 (Nat.le_of_ble_eq_true rfl) (List.forall_mem_cons.mpr ⟨Or.inr rfl, (fun t ht => nomatch ht)⟩)
theorem n500_2269 : Snd mt G 500 2269 (oAload 3 2270) := w_aload_n (hm := mm500) dL_law_2269
theorem n500_2270 : Snd mt G 500 2270 (oCall 4 (fS 24 5) 0 2273 xOut) := s_callS (m' := 24) (n := 4) xsh_out (w_xok0 mm500) (w_cal mm500 mm24 pn_X0 (Nat.le_of_ble_eq_true rfl) (Nat.le_of_ble_eq_true rfl)) (fun h as hn => w_run_SX mm500 mm24 dL_law_2270 q2025 q2026 q128 q2027 pa24 hn)
theorem n500_2273 : Snd mt G 500 2273 (oIstore 5 2275) := w_istore (hm := mm500) dL_law_2273 (Nat.le_of_ble_eq_true rfl)
theorem n500_2275 : Snd mt G 500 2275 (oAload 2 2276) := w_aload_n (hm := mm500) dL_law_2275
theorem n500_2276 : Snd mt G 500 2276 (oAload 0 2277) := w_aload_n (hm := mm500) dL_law_2276
theorem n500_2277 : Snd mt G 500 2277 (oIload 4 2279) := w_iload (hm := mm500) dL_law_2277
theorem n500_2279 : Snd mt G 500 2279 (oConst (.int 1) 2280) := w_iconst (hm := mm500) dL_law_2279 rfl
theorem n500_2280 : Snd mt G 500 2280 (oBin (fun x y => x + y) 2281) := w_iadd (hm := mm500) dL_law_2280
theorem n500_2281 : Snd mt G 500 2281 (oAld [1100] 2282) := w_iaload (hm := mm500) (kt := 0) dL_law_2281 at_0 (Nat.le_of_ble_eq_true rfl) (List.forall_mem_cons.mpr ⟨Or.inr rfl, (fun t ht => nomatch ht)⟩)
theorem n500_2282 : Snd mt G 500 2282 (oAload 0 2283) := w_aload_n (hm := mm500) dL_law_2282
theorem n500_2283 : Snd mt G 500 2283 (oIload 4 2285) := w_iload (hm := mm500) dL_law_2283
theorem n500_2285 : Snd mt G 500 2285 (oConst (.int 2) 2286) := w_iconst (hm := mm500) dL_law_2285 rfl
theorem n500_2286 : Snd mt G 500 2286 (oBin (fun x y => x + y) 2287) := w_iadd (hm := mm500) dL_law_2286
theorem n500_2287 : Snd mt G 500 2287 (oAld [1100] 2288) := w_iaload (hm := mm500) (kt := 0) dL_law_2287 at_0 (Nat.le_of_ble_eq_true rfl) (List.forall_mem_cons.mpr ⟨Or.inr rfl, (fun t ht => nomatch ht)⟩)
theorem n500_2288 : Snd mt G 500 2288 (oCall 3 (fV [4] 363 4) 0 2291 xOut) := s_callV (m' := 363) (n := 2) xsh_out (w_xok0 mm500) (w_cal mm500 mm363 pn_X3 (Nat.le_of_ble_eq_true rfl) (Nat.le_of_ble_eq_true rfl)) (fun h b as hc hn => w_run_V (ci := 3) mm500 mm363 dL_law_2288 (Or.inl (List.mem_singleton.mp hc)) (Nat.le_of_ble_eq_true rfl) vc_3 rfl q2944 q2945 q2946 q150 q2947 pa363 hn)
theorem n500_2291 : Snd mt G 500 2291 (oIstore 6 2293) := w_istore (hm := mm500) dL_law_2291 (Nat.le_of_ble_eq_true rfl)
theorem n500_2293 : Snd mt G 500 2293 (oAload 2 2294) := w_aload_n (hm := mm500) dL_law_2293
theorem n500_2294 : Snd mt G 500 2294 (oCall 1 (fV [4] 281 1) 0 2297 xOut) := s_callV (m' := 281) (n := 0) xsh_out (w_xok0 mm500) (w_cal mm500 mm281 pn_X3 (Nat.le_of_ble_eq_true rfl) (Nat.le_of_ble_eq_true rfl)) (fun h b as hc hn => w_run_V (ci := 3) mm500 mm281 dL_law_2294 (Or.inl (List.mem_singleton.mp hc)) (Nat.le_of_ble_eq_true rfl) vc_3 rfl q2619 q2620 q2621 q150 q2622 pa281 hn)
theorem n500_2297 : Snd mt G 500 2297 (oIload 5 2299) := w_iload (hm := mm500) dL_law_2297
theorem n500_2299 : Snd mt G 500 2299 (oCmpEq 2304 2302) := w_icmp_eq (hm := mm500) dL_law_2299 rfl
theorem n500_2302 : Snd mt G 500 2302 (oConst (.int 0) 2303) := w_iconst (hm := mm500) dL_law_2302 rfl
theorem n500_2303 : Snd mt G 500 2303 (oRetI .boolean) := w_zret (hm := mm500) dL_law_2303 rfl
theorem n500_2304 : Snd mt G 500 2304 (oIload 5 2306) := w_iload (hm := mm500) dL_law_2304
theorem n500_2306 : Snd mt G 500 2306 (oIfEq 2309 2321) := w_if_ne (hm := mm500) dL_law_2306 rfl
theorem n500_2309 : Snd mt G 500 2309 (oAload 3 2310) := w_aload_n (hm := mm500) dL_law_2309
theorem n500_2310 : Snd mt G 500 2310 (oConst (.int 0) 2311) := w_iconst (hm := mm500) dL_law_2310 rfl
theorem n500_2311 : Snd mt G 500 2311 (oAld [102] 2312) := w_laload (hm := mm500) (kt := 2) dL_law_2311 at_2 (Nat.le_of_ble_eq_true rfl) (List.forall_mem_cons.mpr ⟨Or.inl rfl, (fun t ht => nomatch ht)⟩)
theorem n500_2312 : Snd mt G 500 2312 (oIload 6 2314) := w_iload (hm := mm500) dL_law_2312
theorem n500_2314 : Snd mt G 500 2314 (oUn (fun x => .long x.toInt64) 2315) := w_i2l (hm := mm500) dL_law_2314
theorem n500_2315 : Snd mt G 500 2315 (oLbin (fun x y => .int (lg_cmp x y)) 2316) := w_lcmp (hm := mm500) dL_law_2315
theorem n500_2316 : Snd mt G 500 2316 (oIfEq 2321 2319) := w_if_eq (hm := mm500) dL_law_2316 rfl
theorem n500_2319 : Snd mt G 500 2319 (oConst (.int 0) 2320) := w_iconst (hm := mm500) dL_law_2319 rfl
theorem n500_2320 : Snd mt G 500 2320 (oRetI .boolean) := w_zret (hm := mm500) dL_law_2320 rfl
theorem n500_2321 : Snd mt G 500 2321 (oGoto 4258) := w_goto (hm := mm500) dL_law_2321 rfl
theorem n500_2324 : Snd mt G 500 2324 (oAload 1 2325) := w_aload_n (hm := mm500) dL_law_2324
theorem n500_2325 : Snd mt G 500 2325 (oAload 0 2326) := w_aload_n (hm := mm500) dL_law_2325
theorem n500_2326 : Snd mt G 500 2326 (oIload 4 2328) := w_iload (hm := mm500) dL_law_2326
theorem n500_2328 : Snd mt G 500 2328 (oConst (.int 1) 2329) := w_iconst (hm := mm500) dL_law_2328 rfl
theorem n500_2329 : Snd mt G 500 2329 (oBin (fun x y => x + y) 2330) := w_iadd (hm := mm500) dL_law_2329
theorem n500_2330 : Snd mt G 500 2330 (oAld [1100] 2331) := w_iaload (hm := mm500) (kt := 0) dL_law_2330 at_0 (Nat.le_of_ble_eq_true rfl) (List.forall_mem_cons.mpr ⟨Or.inr rfl, (fun t ht => nomatch ht)⟩)
theorem n500_2331 : Snd mt G 500 2331 (oAload 3 2332) := w_aload_n (hm := mm500) dL_law_2331
theorem n500_2332 : Snd mt G 500 2332 (oCall 3 (fS 25 4) 0 2335 xOut) := s_callS (m' := 25) (n := 3) xsh_out (w_xok0 mm500) (w_cal mm500 mm25 pn_X0 (Nat.le_of_ble_eq_true rfl) (Nat.le_of_ble_eq_true rfl)) (fun h as hn => w_run_SX mm500 mm25 dL_law_2332 q2036 q2037 q128 q2038 pa25 hn)
theorem n500_2335 : Snd mt G 500 2335 (oIstore 5 2337) := w_istore (hm := mm500) dL_law_2335 (Nat.le_of_ble_eq_true rfl)
theorem n500_2337 : Snd mt G 500 2337 (oAload 2 2338) := w_aload_n (hm := mm500) dL_law_2337
theorem n500_2338 : Snd mt G 500 2338 (oAload 0 2339) := w_aload_n (hm := mm500) dL_law_2338
theorem n500_2339 : Snd mt G 500 2339 (oIload 4 2341) := w_iload (hm := mm500) dL_law_2339
theorem n500_2341 : Snd mt G 500 2341 (oConst (.int 1) 2342) := w_iconst (hm := mm500) dL_law_2341 rfl
theorem n500_2342 : Snd mt G 500 2342 (oBin (fun x y => x + y) 2343) := w_iadd (hm := mm500) dL_law_2342
theorem n500_2343 : Snd mt G 500 2343 (oAld [1100] 2344) := w_iaload (hm := mm500) (kt := 0) dL_law_2343 at_0 (Nat.le_of_ble_eq_true rfl) (List.forall_mem_cons.mpr ⟨Or.inr rfl, (fun t ht => nomatch ht)⟩)
theorem n500_2344 : Snd mt G 500 2344 (oCall 2 (fV [4] 365 2) 0 2347 xOut) := s_callV (m' := 365) (n := 1) xsh_out (w_xok0 mm500) (w_cal mm500 mm365 pn_X3 (Nat.le_of_ble_eq_true rfl) (Nat.le_of_ble_eq_true rfl)) (fun h b as hc hn => w_run_V (ci := 3) mm500 mm365 dL_law_2344 (Or.inl (List.mem_singleton.mp hc)) (Nat.le_of_ble_eq_true rfl) vc_3 rfl q2952 q2953 q2954 q150 q2955 pa365 hn)
theorem n500_2347 : Snd mt G 500 2347 (oIstore 6 2349) := w_istore (hm := mm500) dL_law_2347 (Nat.le_of_ble_eq_true rfl)
theorem n500_2349 : Snd mt G 500 2349 (oAload 2 2350) := w_aload_n (hm := mm500) dL_law_2349
theorem n500_2350 : Snd mt G 500 2350 (oCall 1 (fV [4] 281 1) 0 2353 xOut) := s_callV (m' := 281) (n := 0) xsh_out (w_xok0 mm500) (w_cal mm500 mm281 pn_X3 (Nat.le_of_ble_eq_true rfl) (Nat.le_of_ble_eq_true rfl)) (fun h b as hc hn => w_run_V (ci := 3) mm500 mm281 dL_law_2350 (Or.inl (List.mem_singleton.mp hc)) (Nat.le_of_ble_eq_true rfl) vc_3 rfl q2619 q2620 q2621 q150 q2622 pa281 hn)
theorem n500_2353 : Snd mt G 500 2353 (oIload 5 2355) := w_iload (hm := mm500) dL_law_2353
theorem n500_2355 : Snd mt G 500 2355 (oCmpEq 2360 2358) := w_icmp_eq (hm := mm500) dL_law_2355 rfl
theorem n500_2358 : Snd mt G 500 2358 (oConst (.int 0) 2359) := w_iconst (hm := mm500) dL_law_2358 rfl
theorem n500_2359 : Snd mt G 500 2359 (oRetI .boolean) := w_zret (hm := mm500) dL_law_2359 rfl
theorem n500_2360 : Snd mt G 500 2360 (oIload 5 2362) := w_iload (hm := mm500) dL_law_2360
theorem n500_2362 : Snd mt G 500 2362 (oIfEq 2365 2377) := w_if_ne (hm := mm500) dL_law_2362 rfl
theorem n500_2365 : Snd mt G 500 2365 (oAload 3 2366) := w_aload_n (hm := mm500) dL_law_2365
theorem n500_2366 : Snd mt G 500 2366 (oConst (.int 0) 2367) := w_iconst (hm := mm500) dL_law_2366 rfl
theorem n500_2367 : Snd mt G 500 2367 (oAld [102] 2368) := w_laload (hm := mm500) (kt := 2) dL_law_2367 at_2 (Nat.le_of_ble_eq_true rfl) (List.forall_mem_cons.mpr ⟨Or.inl rfl, (fun t ht => nomatch ht)⟩)
theorem n500_2368 : Snd mt G 500 2368 (oIload 6 2370) := w_iload (hm := mm500) dL_law_2368
theorem n500_2370 : Snd mt G 500 2370 (oUn (fun x => .long x.toInt64) 2371) := w_i2l (hm := mm500) dL_law_2370
theorem n500_2371 : Snd mt G 500 2371 (oLbin (fun x y => .int (lg_cmp x y)) 2372) := w_lcmp (hm := mm500) dL_law_2371
theorem n500_2372 : Snd mt G 500 2372 (oIfEq 2377 2375) := w_if_eq (hm := mm500) dL_law_2372 rfl
theorem n500_2375 : Snd mt G 500 2375 (oConst (.int 0) 2376) := w_iconst (hm := mm500) dL_law_2375 rfl
theorem n500_2376 : Snd mt G 500 2376 (oRetI .boolean) := w_zret (hm := mm500) dL_law_2376 rfl
theorem n500_2377 : Snd mt G 500 2377 (oGoto 4258) := w_goto (hm := mm500) dL_law_2377 rfl
theorem n500_2380 : Snd mt G 500 2380 (oAload 1 2381) := w_aload_n (hm := mm500) dL_law_2380
theorem n500_2381 : Snd mt G 500 2381 (oAload 0 2382) := w_aload_n (hm := mm500) dL_law_2381
theorem n500_2382 : Snd mt G 500 2382 (oIload 4 2384) := w_iload (hm := mm500) dL_law_2382
theorem n500_2384 : Snd mt G 500 2384 (oConst (.int 1) 2385) := w_iconst (hm := mm500) dL_law_2384 rfl
theorem n500_2385 : Snd mt G 500 2385 (oBin (fun x y => x + y) 2386) := w_iadd (hm := mm500) dL_law_2385
theorem n500_2386 : Snd mt G 500 2386 (oAld [1100] 2387) := w_iaload (hm := mm500) (kt := 0) dL_law_2386 at_0 (Nat.le_of_ble_eq_true rfl) (List.forall_mem_cons.mpr ⟨Or.inr rfl, (fun t ht => nomatch ht)⟩)
theorem n500_2387 : Snd mt G 500 2387 (oAload 3 2388) := w_aload_n (hm := mm500) dL_law_2387
theorem n500_2388 : Snd mt G 500 2388 (oCall 3 (fS 26 4) 0 2391 xOut) := s_callS (m' := 26) (n := 3) xsh_out (w_xok0 mm500) (w_cal mm500 mm26 pn_X0 (Nat.le_of_ble_eq_true rfl) (Nat.le_of_ble_eq_true rfl)) (fun h as hn => w_run_SX mm500 mm26 dL_law_2388 q2043 q2044 q128 q2045 pa26 hn)
theorem n500_2391 : Snd mt G 500 2391 (oIstore 5 2393) := w_istore (hm := mm500) dL_law_2391 (Nat.le_of_ble_eq_true rfl)
theorem n500_2393 : Snd mt G 500 2393 (oAload 2 2394) := w_aload_n (hm := mm500) dL_law_2393
theorem n500_2394 : Snd mt G 500 2394 (oAload 0 2395) := w_aload_n (hm := mm500) dL_law_2394
theorem n500_2395 : Snd mt G 500 2395 (oIload 4 2397) := w_iload (hm := mm500) dL_law_2395
theorem n500_2397 : Snd mt G 500 2397 (oConst (.int 1) 2398) := w_iconst (hm := mm500) dL_law_2397 rfl
theorem n500_2398 : Snd mt G 500 2398 (oBin (fun x y => x + y) 2399) := w_iadd (hm := mm500) dL_law_2398
theorem n500_2399 : Snd mt G 500 2399 (oAld [1100] 2400) := w_iaload (hm := mm500) (kt := 0) dL_law_2399 at_0 (Nat.le_of_ble_eq_true rfl) (List.forall_mem_cons.mpr ⟨Or.inr rfl, (fun t ht => nomatch ht)⟩)
theorem n500_2400 : Snd mt G 500 2400 (oCall 2 (fV [4] 366 2) 0 2403 xOut) := s_callV (m' := 366) (n := 1) xsh_out (w_xok0 mm500) (w_cal mm500 mm366 pn_X3 (Nat.le_of_ble_eq_true rfl) (Nat.le_of_ble_eq_true rfl)) (fun h b as hc hn => w_run_V (ci := 3) mm500 mm366 dL_law_2400 (Or.inl (List.mem_singleton.mp hc)) (Nat.le_of_ble_eq_true rfl) vc_3 rfl q2956 q2957 q2958 q150 q2959 pa366 hn)
theorem n500_2403 : Snd mt G 500 2403 (oIstore 6 2405) := w_istore (hm := mm500) dL_law_2403 (Nat.le_of_ble_eq_true rfl)
theorem n500_2405 : Snd mt G 500 2405 (oAload 2 2406) := w_aload_n (hm := mm500) dL_law_2405
theorem n500_2406 : Snd mt G 500 2406 (oCall 1 (fV [4] 281 1) 0 2409 xOut) := s_callV (m' := 281) (n := 0) xsh_out (w_xok0 mm500) (w_cal mm500 mm281 pn_X3 (Nat.le_of_ble_eq_true rfl) (Nat.le_of_ble_eq_true rfl)) (fun h b as hc hn => w_run_V (ci := 3) mm500 mm281 dL_law_2406 (Or.inl (List.mem_singleton.mp hc)) (Nat.le_of_ble_eq_true rfl) vc_3 rfl q2619 q2620 q2621 q150 q2622 pa281 hn)
theorem n500_2409 : Snd mt G 500 2409 (oIload 5 2411) := w_iload (hm := mm500) dL_law_2409
theorem n500_2411 : Snd mt G 500 2411 (oCmpEq 2416 2414) := w_icmp_eq (hm := mm500) dL_law_2411 rfl
theorem n500_2414 : Snd mt G 500 2414 (oConst (.int 0) 2415) := w_iconst (hm := mm500) dL_law_2414 rfl
theorem n500_2415 : Snd mt G 500 2415 (oRetI .boolean) := w_zret (hm := mm500) dL_law_2415 rfl
theorem n500_2416 : Snd mt G 500 2416 (oIload 5 2418) := w_iload (hm := mm500) dL_law_2416
theorem n500_2418 : Snd mt G 500 2418 (oIfEq 2421 2433) := w_if_ne (hm := mm500) dL_law_2418 rfl
theorem n500_2421 : Snd mt G 500 2421 (oAload 3 2422) := w_aload_n (hm := mm500) dL_law_2421
theorem n500_2422 : Snd mt G 500 2422 (oConst (.int 0) 2423) := w_iconst (hm := mm500) dL_law_2422 rfl
theorem n500_2423 : Snd mt G 500 2423 (oAld [102] 2424) := w_laload (hm := mm500) (kt := 2) dL_law_2423 at_2 (Nat.le_of_ble_eq_true rfl) (List.forall_mem_cons.mpr ⟨Or.inl rfl, (fun t ht => nomatch ht)⟩)
theorem n500_2424 : Snd mt G 500 2424 (oIload 6 2426) := w_iload (hm := mm500) dL_law_2424
theorem n500_2426 : Snd mt G 500 2426 (oUn (fun x => .long x.toInt64) 2427) := w_i2l (hm := mm500) dL_law_2426
theorem n500_2427 : Snd mt G 500 2427 (oLbin (fun x y => .int (lg_cmp x y)) 2428) := w_lcmp (hm := mm500) dL_law_2427
theorem n500_2428 : Snd mt G 500 2428 (oIfEq 2433 2431) := w_if_eq (hm := mm500) dL_law_2428 rfl
theorem n500_2431 : Snd mt G 500 2431 (oConst (.int 0) 2432) := w_iconst (hm := mm500) dL_law_2431 rfl
theorem n500_2432 : Snd mt G 500 2432 (oRetI .boolean) := w_zret (hm := mm500) dL_law_2432 rfl
theorem n500_2433 : Snd mt G 500 2433 (oGoto 4258) := w_goto (hm := mm500) dL_law_2433 rfl
theorem n500_2436 : Snd mt G 500 2436 (oAload 1 2437) := w_aload_n (hm := mm500) dL_law_2436
theorem n500_2437 : Snd mt G 500 2437 (oAload 0 2438) := w_aload_n (hm := mm500) dL_law_2437
theorem n500_2438 : Snd mt G 500 2438 (oIload 4 2440) := w_iload (hm := mm500) dL_law_2438
theorem n500_2440 : Snd mt G 500 2440 (oConst (.int 1) 2441) := w_iconst (hm := mm500) dL_law_2440 rfl
theorem n500_2441 : Snd mt G 500 2441 (oBin (fun x y => x + y) 2442) := w_iadd (hm := mm500) dL_law_2441
theorem n500_2442 : Snd mt G 500 2442 (oAld [1100] 2443) := w_iaload (hm := mm500) (kt := 0) dL_law_2442 at_0 (Nat.le_of_ble_eq_true rfl) (List.forall_mem_cons.mpr ⟨Or.inr rfl, (fun t ht => nomatch ht)⟩)
theorem n500_2443 : Snd mt G 500 2443 (oAload 0 2444) := w_aload_n (hm := mm500) dL_law_2443
theorem n500_2444 : Snd mt G 500 2444 (oIload 4 2446) := w_iload (hm := mm500) dL_law_2444
theorem n500_2446 : Snd mt G 500 2446 (oConst (.int 2) 2447) := w_iconst (hm := mm500) dL_law_2446 rfl
theorem n500_2447 : Snd mt G 500 2447 (oBin (fun x y => x + y) 2448) := w_iadd (hm := mm500) dL_law_2447
theorem n500_2448 : Snd mt G 500 2448 (oAld [1100] 2449) := w_iaload (hm := mm500) (kt := 0) dL_law_2448 at_0 (Nat.le_of_ble_eq_true rfl) (List.forall_mem_cons.mpr ⟨Or.inr rfl, (fun t ht => nomatch ht)⟩)
theorem n500_2449 : Snd mt G 500 2449 (oAload 3 2450) := w_aload_n (hm := mm500) dL_law_2449
theorem n500_2450 : Snd mt G 500 2450 (oCall 4 (fS 27 5) 0 2453 xOut) := s_callS (m' := 27) (n := 4) xsh_out (w_xok0 mm500) (w_cal mm500 mm27 pn_X0 (Nat.le_of_ble_eq_true rfl) (Nat.le_of_ble_eq_true rfl)) (fun h as hn => w_run_SX mm500 mm27 dL_law_2450 q2052 q2053 q128 q2054 pa27 hn)
theorem n500_2453 : Snd mt G 500 2453 (oIstore 5 2455) := w_istore (hm := mm500) dL_law_2453 (Nat.le_of_ble_eq_true rfl)
theorem n500_2455 : Snd mt G 500 2455 (oAload 2 2456) := w_aload_n (hm := mm500) dL_law_2455
theorem n500_2456 : Snd mt G 500 2456 (oAload 0 2457) := w_aload_n (hm := mm500) dL_law_2456
theorem n500_2457 : Snd mt G 500 2457 (oIload 4 2459) := w_iload (hm := mm500) dL_law_2457
theorem n500_2459 : Snd mt G 500 2459 (oConst (.int 1) 2460) := w_iconst (hm := mm500) dL_law_2459 rfl
theorem n500_2460 : Snd mt G 500 2460 (oBin (fun x y => x + y) 2461) := w_iadd (hm := mm500) dL_law_2460
theorem n500_2461 : Snd mt G 500 2461 (oAld [1100] 2462) := w_iaload (hm := mm500) (kt := 0) dL_law_2461 at_0 (Nat.le_of_ble_eq_true rfl) (List.forall_mem_cons.mpr ⟨Or.inr rfl, (fun t ht => nomatch ht)⟩)
theorem n500_2462 : Snd mt G 500 2462 (oAload 0 2463) := w_aload_n (hm := mm500) dL_law_2462
theorem n500_2463 : Snd mt G 500 2463 (oIload 4 2465) := w_iload (hm := mm500) dL_law_2463
theorem n500_2465 : Snd mt G 500 2465 (oConst (.int 2) 2466) := w_iconst (hm := mm500) dL_law_2465 rfl
theorem n500_2466 : Snd mt G 500 2466 (oBin (fun x y => x + y) 2467) := w_iadd (hm := mm500) dL_law_2466
theorem n500_2467 : Snd mt G 500 2467 (oAld [1100] 2468) := w_iaload (hm := mm500) (kt := 0) dL_law_2467 at_0 (Nat.le_of_ble_eq_true rfl) (List.forall_mem_cons.mpr ⟨Or.inr rfl, (fun t ht => nomatch ht)⟩)
theorem n500_2468 : Snd mt G 500 2468 (oCall 3 (fV [4] 367 3) 0 2471 xOut) := s_callV (m' := 367) (n := 2) xsh_out (w_xok0 mm500) (w_cal mm500 mm367 pn_X3 (Nat.le_of_ble_eq_true rfl) (Nat.le_of_ble_eq_true rfl)) (fun h b as hc hn => w_run_V (ci := 3) mm500 mm367 dL_law_2468 (Or.inl (List.mem_singleton.mp hc)) (Nat.le_of_ble_eq_true rfl) vc_3 rfl q2960 q2961 q2962 q150 q2963 pa367 hn)
theorem n500_2471 : Snd mt G 500 2471 (oIstore 6 2473) := w_istore (hm := mm500) dL_law_2471 (Nat.le_of_ble_eq_true rfl)
theorem n500_2473 : Snd mt G 500 2473 (oAload 2 2474) := w_aload_n (hm := mm500) dL_law_2473
theorem n500_2474 : Snd mt G 500 2474 (oCall 1 (fV [4] 281 1) 0 2477 xOut) := s_callV (m' := 281) (n := 0) xsh_out (w_xok0 mm500) (w_cal mm500 mm281 pn_X3 (Nat.le_of_ble_eq_true rfl) (Nat.le_of_ble_eq_true rfl)) (fun h b as hc hn => w_run_V (ci := 3) mm500 mm281 dL_law_2474 (Or.inl (List.mem_singleton.mp hc)) (Nat.le_of_ble_eq_true rfl) vc_3 rfl q2619 q2620 q2621 q150 q2622 pa281 hn)
theorem n500_2477 : Snd mt G 500 2477 (oIload 5 2479) := w_iload (hm := mm500) dL_law_2477
theorem n500_2479 : Snd mt G 500 2479 (oCmpEq 2484 2482) := w_icmp_eq (hm := mm500) dL_law_2479 rfl
theorem n500_2482 : Snd mt G 500 2482 (oConst (.int 0) 2483) := w_iconst (hm := mm500) dL_law_2482 rfl
theorem n500_2483 : Snd mt G 500 2483 (oRetI .boolean) := w_zret (hm := mm500) dL_law_2483 rfl
theorem n500_2484 : Snd mt G 500 2484 (oIload 5 2486) := w_iload (hm := mm500) dL_law_2484
theorem n500_2486 : Snd mt G 500 2486 (oIfEq 2489 2501) := w_if_ne (hm := mm500) dL_law_2486 rfl
theorem n500_2489 : Snd mt G 500 2489 (oAload 3 2490) := w_aload_n (hm := mm500) dL_law_2489
theorem n500_2490 : Snd mt G 500 2490 (oConst (.int 0) 2491) := w_iconst (hm := mm500) dL_law_2490 rfl
theorem n500_2491 : Snd mt G 500 2491 (oAld [102] 2492) := w_laload (hm := mm500) (kt := 2) dL_law_2491 at_2 (Nat.le_of_ble_eq_true rfl) (List.forall_mem_cons.mpr ⟨Or.inl rfl, (fun t ht => nomatch ht)⟩)
theorem n500_2492 : Snd mt G 500 2492 (oIload 6 2494) := w_iload (hm := mm500) dL_law_2492
theorem n500_2494 : Snd mt G 500 2494 (oUn (fun x => .long x.toInt64) 2495) := w_i2l (hm := mm500) dL_law_2494
theorem n500_2495 : Snd mt G 500 2495 (oLbin (fun x y => .int (lg_cmp x y)) 2496) := w_lcmp (hm := mm500) dL_law_2495
theorem n500_2496 : Snd mt G 500 2496 (oIfEq 2501 2499) := w_if_eq (hm := mm500) dL_law_2496 rfl
theorem n500_2499 : Snd mt G 500 2499 (oConst (.int 0) 2500) := w_iconst (hm := mm500) dL_law_2499 rfl
theorem n500_2500 : Snd mt G 500 2500 (oRetI .boolean) := w_zret (hm := mm500) dL_law_2500 rfl
theorem n500_2501 : Snd mt G 500 2501 (oGoto 4258) := w_goto (hm := mm500) dL_law_2501 rfl
theorem n500_2504 : Snd mt G 500 2504 (oAload 1 2505) := w_aload_n (hm := mm500) dL_law_2504
theorem n500_2505 : Snd mt G 500 2505 (oAload 0 2506) := w_aload_n (hm := mm500) dL_law_2505
theorem n500_2506 : Snd mt G 500 2506 (oIload 4 2508) := w_iload (hm := mm500) dL_law_2506
theorem n500_2508 : Snd mt G 500 2508 (oConst (.int 1) 2509) := w_iconst (hm := mm500) dL_law_2508 rfl
theorem n500_2509 : Snd mt G 500 2509 (oBin (fun x y => x + y) 2510) := w_iadd (hm := mm500) dL_law_2509
theorem n500_2510 : Snd mt G 500 2510 (oAld [1100] 2511) := w_iaload (hm := mm500) (kt := 0) dL_law_2510 at_0 (Nat.le_of_ble_eq_true rfl) (List.forall_mem_cons.mpr ⟨Or.inr rfl, (fun t ht => nomatch ht)⟩)
theorem n500_2511 : Snd mt G 500 2511 (oAload 3 2512) := w_aload_n (hm := mm500) dL_law_2511
theorem n500_2512 : Snd mt G 500 2512 (oCall 3 (fS 28 4) 0 2515 xOut) := s_callS (m' := 28) (n := 3) xsh_out (w_xok0 mm500) (w_cal mm500 mm28 pn_X0 (Nat.le_of_ble_eq_true rfl) (Nat.le_of_ble_eq_true rfl)) (fun h as hn => w_run_SX mm500 mm28 dL_law_2512 q2086 q2087 q128 q2088 pa28 hn)
theorem n500_2515 : Snd mt G 500 2515 (oIstore 5 2517) := w_istore (hm := mm500) dL_law_2515 (Nat.le_of_ble_eq_true rfl)
theorem n500_2517 : Snd mt G 500 2517 (oAload 2 2518) := w_aload_n (hm := mm500) dL_law_2517
theorem n500_2518 : Snd mt G 500 2518 (oAload 0 2519) := w_aload_n (hm := mm500) dL_law_2518
theorem n500_2519 : Snd mt G 500 2519 (oIload 4 2521) := w_iload (hm := mm500) dL_law_2519
theorem n500_2521 : Snd mt G 500 2521 (oConst (.int 1) 2522) := w_iconst (hm := mm500) dL_law_2521 rfl
theorem n500_2522 : Snd mt G 500 2522 (oBin (fun x y => x + y) 2523) := w_iadd (hm := mm500) dL_law_2522
theorem n500_2523 : Snd mt G 500 2523 (oAld [1100] 2524) := w_iaload (hm := mm500) (kt := 0) dL_law_2523 at_0 (Nat.le_of_ble_eq_true rfl) (List.forall_mem_cons.mpr ⟨Or.inr rfl, (fun t ht => nomatch ht)⟩)
theorem n500_2524 : Snd mt G 500 2524 (oCall 2 (fV [4] 369 2) 0 2527 xOut) := s_callV (m' := 369) (n := 1) xsh_out (w_xok0 mm500) (w_cal mm500 mm369 pn_X3 (Nat.le_of_ble_eq_true rfl) (Nat.le_of_ble_eq_true rfl)) (fun h b as hc hn => w_run_V (ci := 3) mm500 mm369 dL_law_2524 (Or.inl (List.mem_singleton.mp hc)) (Nat.le_of_ble_eq_true rfl) vc_3 rfl q2968 q2969 q2970 q150 q2971 pa369 hn)
theorem n500_2527 : Snd mt G 500 2527 (oIstore 6 2529) := w_istore (hm := mm500) dL_law_2527 (Nat.le_of_ble_eq_true rfl)
theorem n500_2529 : Snd mt G 500 2529 (oAload 2 2530) := w_aload_n (hm := mm500) dL_law_2529
theorem n500_2530 : Snd mt G 500 2530 (oCall 1 (fV [4] 281 1) 0 2533 xOut) := s_callV (m' := 281) (n := 0) xsh_out (w_xok0 mm500) (w_cal mm500 mm281 pn_X3 (Nat.le_of_ble_eq_true rfl) (Nat.le_of_ble_eq_true rfl)) (fun h b as hc hn => w_run_V (ci := 3) mm500 mm281 dL_law_2530 (Or.inl (List.mem_singleton.mp hc)) (Nat.le_of_ble_eq_true rfl) vc_3 rfl q2619 q2620 q2621 q150 q2622 pa281 hn)
theorem n500_2533 : Snd mt G 500 2533 (oIload 5 2535) := w_iload (hm := mm500) dL_law_2533
theorem n500_2535 : Snd mt G 500 2535 (oCmpEq 2540 2538) := w_icmp_eq (hm := mm500) dL_law_2535 rfl
theorem n500_2538 : Snd mt G 500 2538 (oConst (.int 0) 2539) := w_iconst (hm := mm500) dL_law_2538 rfl
theorem n500_2539 : Snd mt G 500 2539 (oRetI .boolean) := w_zret (hm := mm500) dL_law_2539 rfl
theorem n500_2540 : Snd mt G 500 2540 (oIload 5 2542) := w_iload (hm := mm500) dL_law_2540
theorem n500_2542 : Snd mt G 500 2542 (oIfEq 2545 2557) := w_if_ne (hm := mm500) dL_law_2542 rfl
theorem n500_2545 : Snd mt G 500 2545 (oAload 3 2546) := w_aload_n (hm := mm500) dL_law_2545
theorem n500_2546 : Snd mt G 500 2546 (oConst (.int 0) 2547) := w_iconst (hm := mm500) dL_law_2546 rfl
theorem n500_2547 : Snd mt G 500 2547 (oAld [102] 2548) := w_laload (hm := mm500) (kt := 2) dL_law_2547 at_2 (Nat.le_of_ble_eq_true rfl) (List.forall_mem_cons.mpr ⟨Or.inl rfl, (fun t ht => nomatch ht)⟩)
theorem n500_2548 : Snd mt G 500 2548 (oIload 6 2550) := w_iload (hm := mm500) dL_law_2548
theorem n500_2550 : Snd mt G 500 2550 (oUn (fun x => .long x.toInt64) 2551) := w_i2l (hm := mm500) dL_law_2550
theorem n500_2551 : Snd mt G 500 2551 (oLbin (fun x y => .int (lg_cmp x y)) 2552) := w_lcmp (hm := mm500) dL_law_2551
theorem n500_2552 : Snd mt G 500 2552 (oIfEq 2557 2555) := w_if_eq (hm := mm500) dL_law_2552 rfl
theorem n500_2555 : Snd mt G 500 2555 (oConst (.int 0) 2556) := w_iconst (hm := mm500) dL_law_2555 rfl
theorem n500_2556 : Snd mt G 500 2556 (oRetI .boolean) := w_zret (hm := mm500) dL_law_2556 rfl
theorem n500_2557 : Snd mt G 500 2557 (oGoto 4258) := w_goto (hm := mm500) dL_law_2557 rfl
theorem n500_2560 : Snd mt G 500 2560 (oAload 1 2561) := w_aload_n (hm := mm500) dL_law_2560
theorem n500_2561 : Snd mt G 500 2561 (oAload 0 2562) := w_aload_n (hm := mm500) dL_law_2561
theorem n500_2562 : Snd mt G 500 2562 (oIload 4 2564) := w_iload (hm := mm500) dL_law_2562
theorem n500_2564 : Snd mt G 500 2564 (oConst (.int 1) 2565) := w_iconst (hm := mm500) dL_law_2564 rfl
theorem n500_2565 : Snd mt G 500 2565 (oBin (fun x y => x + y) 2566) := w_iadd (hm := mm500) dL_law_2565
theorem n500_2566 : Snd mt G 500 2566 (oAld [1100] 2567) := w_iaload (hm := mm500) (kt := 0) dL_law_2566 at_0 (Nat.le_of_ble_eq_true rfl) (List.forall_mem_cons.mpr ⟨Or.inr rfl, (fun t ht => nomatch ht)⟩)
theorem n500_2567 : Snd mt G 500 2567 (oAload 3 2568) := w_aload_n (hm := mm500) dL_law_2567
theorem n500_2568 : Snd mt G 500 2568 (oCall 3 (fS 29 4) 0 2571 xOut) := s_callS (m' := 29) (n := 3) xsh_out (w_xok0 mm500) (w_cal mm500 mm29 pn_X0 (Nat.le_of_ble_eq_true rfl) (Nat.le_of_ble_eq_true rfl)) (fun h as hn => w_run_SX mm500 mm29 dL_law_2568 q2113 q2114 q128 q2115 pa29 hn)
theorem n500_2571 : Snd mt G 500 2571 (oIstore 5 2573) := w_istore (hm := mm500) dL_law_2571 (Nat.le_of_ble_eq_true rfl)
theorem n500_2573 : Snd mt G 500 2573 (oAload 2 2574) := w_aload_n (hm := mm500) dL_law_2573
theorem n500_2574 : Snd mt G 500 2574 (oAload 0 2575) := w_aload_n (hm := mm500) dL_law_2574
theorem n500_2575 : Snd mt G 500 2575 (oIload 4 2577) := w_iload (hm := mm500) dL_law_2575
theorem n500_2577 : Snd mt G 500 2577 (oConst (.int 1) 2578) := w_iconst (hm := mm500) dL_law_2577 rfl
theorem n500_2578 : Snd mt G 500 2578 (oBin (fun x y => x + y) 2579) := w_iadd (hm := mm500) dL_law_2578
theorem n500_2579 : Snd mt G 500 2579 (oAld [1100] 2580) := w_iaload (hm := mm500) (kt := 0) dL_law_2579 at_0 (Nat.le_of_ble_eq_true rfl) (List.forall_mem_cons.mpr ⟨Or.inr rfl, (fun t ht => nomatch ht)⟩)
theorem n500_2580 : Snd mt G 500 2580 (oCall 2 (fV [4] 371 2) 0 2583 xOut) := s_callV (m' := 371) (n := 1) xsh_out (w_xok0 mm500) (w_cal mm500 mm371 pn_X3 (Nat.le_of_ble_eq_true rfl) (Nat.le_of_ble_eq_true rfl)) (fun h b as hc hn => w_run_V (ci := 3) mm500 mm371 dL_law_2580 (Or.inl (List.mem_singleton.mp hc)) (Nat.le_of_ble_eq_true rfl) vc_3 rfl q2976 q2977 q2978 q150 q2979 pa371 hn)
theorem n500_2583 : Snd mt G 500 2583 (oIstore 6 2585) := w_istore (hm := mm500) dL_law_2583 (Nat.le_of_ble_eq_true rfl)
theorem n500_2585 : Snd mt G 500 2585 (oAload 2 2586) := w_aload_n (hm := mm500) dL_law_2585
theorem n500_2586 : Snd mt G 500 2586 (oCall 1 (fV [4] 281 1) 0 2589 xOut) := s_callV (m' := 281) (n := 0) xsh_out (w_xok0 mm500) (w_cal mm500 mm281 pn_X3 (Nat.le_of_ble_eq_true rfl) (Nat.le_of_ble_eq_true rfl)) (fun h b as hc hn => w_run_V (ci := 3) mm500 mm281 dL_law_2586 (Or.inl (List.mem_singleton.mp hc)) (Nat.le_of_ble_eq_true rfl) vc_3 rfl q2619 q2620 q2621 q150 q2622 pa281 hn)
theorem n500_2589 : Snd mt G 500 2589 (oIload 5 2591) := w_iload (hm := mm500) dL_law_2589
theorem n500_2591 : Snd mt G 500 2591 (oCmpEq 2596 2594) := w_icmp_eq (hm := mm500) dL_law_2591 rfl
theorem n500_2594 : Snd mt G 500 2594 (oConst (.int 0) 2595) := w_iconst (hm := mm500) dL_law_2594 rfl
theorem n500_2595 : Snd mt G 500 2595 (oRetI .boolean) := w_zret (hm := mm500) dL_law_2595 rfl
theorem n500_2596 : Snd mt G 500 2596 (oIload 5 2598) := w_iload (hm := mm500) dL_law_2596
theorem n500_2598 : Snd mt G 500 2598 (oIfEq 2601 2613) := w_if_ne (hm := mm500) dL_law_2598 rfl
theorem n500_2601 : Snd mt G 500 2601 (oAload 3 2602) := w_aload_n (hm := mm500) dL_law_2601
theorem n500_2602 : Snd mt G 500 2602 (oConst (.int 0) 2603) := w_iconst (hm := mm500) dL_law_2602 rfl
theorem n500_2603 : Snd mt G 500 2603 (oAld [102] 2604) := w_laload (hm := mm500) (kt := 2) dL_law_2603 at_2 (Nat.le_of_ble_eq_true rfl) (List.forall_mem_cons.mpr ⟨Or.inl rfl, (fun t ht => nomatch ht)⟩)
theorem n500_2604 : Snd mt G 500 2604 (oIload 6 2606) := w_iload (hm := mm500) dL_law_2604
theorem n500_2606 : Snd mt G 500 2606 (oUn (fun x => .long x.toInt64) 2607) := w_i2l (hm := mm500) dL_law_2606
theorem n500_2607 : Snd mt G 500 2607 (oLbin (fun x y => .int (lg_cmp x y)) 2608) := w_lcmp (hm := mm500) dL_law_2607
theorem n500_2608 : Snd mt G 500 2608 (oIfEq 2613 2611) := w_if_eq (hm := mm500) dL_law_2608 rfl
theorem n500_2611 : Snd mt G 500 2611 (oConst (.int 0) 2612) := w_iconst (hm := mm500) dL_law_2611 rfl
theorem n500_2612 : Snd mt G 500 2612 (oRetI .boolean) := w_zret (hm := mm500) dL_law_2612 rfl
theorem n500_2613 : Snd mt G 500 2613 (oGoto 4258) := w_goto (hm := mm500) dL_law_2613 rfl
theorem n500_2616 : Snd mt G 500 2616 (oAload 1 2617) := w_aload_n (hm := mm500) dL_law_2616
theorem n500_2617 : Snd mt G 500 2617 (oAload 0 2618) := w_aload_n (hm := mm500) dL_law_2617
theorem n500_2618 : Snd mt G 500 2618 (oIload 4 2620) := w_iload (hm := mm500) dL_law_2618
theorem n500_2620 : Snd mt G 500 2620 (oConst (.int 1) 2621) := w_iconst (hm := mm500) dL_law_2620 rfl
theorem n500_2621 : Snd mt G 500 2621 (oBin (fun x y => x + y) 2622) := w_iadd (hm := mm500) dL_law_2621
theorem n500_2622 : Snd mt G 500 2622 (oAld [1100] 2623) := w_iaload (hm := mm500) (kt := 0) dL_law_2622 at_0 (Nat.le_of_ble_eq_true rfl) (List.forall_mem_cons.mpr ⟨Or.inr rfl, (fun t ht => nomatch ht)⟩)
theorem n500_2623 : Snd mt G 500 2623 (oAload 0 2624) := w_aload_n (hm := mm500) dL_law_2623
theorem n500_2624 : Snd mt G 500 2624 (oIload 4 2626) := w_iload (hm := mm500) dL_law_2624
theorem n500_2626 : Snd mt G 500 2626 (oConst (.int 2) 2627) := w_iconst (hm := mm500) dL_law_2626 rfl
theorem n500_2627 : Snd mt G 500 2627 (oBin (fun x y => x + y) 2628) := w_iadd (hm := mm500) dL_law_2627
theorem n500_2628 : Snd mt G 500 2628 (oAld [1100] 2629) := w_iaload (hm := mm500) (kt := 0) dL_law_2628 at_0 (Nat.le_of_ble_eq_true rfl) (List.forall_mem_cons.mpr ⟨Or.inr rfl, (fun t ht => nomatch ht)⟩)
theorem n500_2629 : Snd mt G 500 2629 (oIfEq 2636 2632) := w_if_eq (hm := mm500) dL_law_2629 rfl
theorem n500_2632 : Snd mt G 500 2632 (oConst (.int 1) 2633) := w_iconst (hm := mm500) dL_law_2632 rfl
theorem n500_2633 : Snd mt G 500 2633 (oGoto 2637) := w_goto (hm := mm500) dL_law_2633 rfl
theorem n500_2636 : Snd mt G 500 2636 (oConst (.int 0) 2637) := w_iconst (hm := mm500) dL_law_2636 rfl
theorem n500_2637 : Snd mt G 500 2637 (oAload 3 2638) := w_aload_n (hm := mm500) dL_law_2637
theorem n500_2638 : Snd mt G 500 2638 (oCall 4 (fS 30 5) 0 2641 xOut) := s_callS (m' := 30) (n := 4) xsh_out (w_xok0 mm500) (w_cal mm500 mm30 pn_X0 (Nat.le_of_ble_eq_true rfl) (Nat.le_of_ble_eq_true rfl)) (fun h as hn => w_run_SX mm500 mm30 dL_law_2638 q2120 q2121 q128 q2122 pa30 hn)
theorem n500_2641 : Snd mt G 500 2641 (oIstore 5 2643) := w_istore (hm := mm500) dL_law_2641 (Nat.le_of_ble_eq_true rfl)
theorem n500_2643 : Snd mt G 500 2643 (oAload 2 2644) := w_aload_n (hm := mm500) dL_law_2643
theorem n500_2644 : Snd mt G 500 2644 (oAload 0 2645) := w_aload_n (hm := mm500) dL_law_2644
theorem n500_2645 : Snd mt G 500 2645 (oIload 4 2647) := w_iload (hm := mm500) dL_law_2645
theorem n500_2647 : Snd mt G 500 2647 (oConst (.int 1) 2648) := w_iconst (hm := mm500) dL_law_2647 rfl
theorem n500_2648 : Snd mt G 500 2648 (oBin (fun x y => x + y) 2649) := w_iadd (hm := mm500) dL_law_2648
theorem n500_2649 : Snd mt G 500 2649 (oAld [1100] 2650) := w_iaload (hm := mm500) (kt := 0) dL_law_2649 at_0 (Nat.le_of_ble_eq_true rfl) (List.forall_mem_cons.mpr ⟨Or.inr rfl, (fun t ht => nomatch ht)⟩)
theorem n500_2650 : Snd mt G 500 2650 (oAload 0 2651) := w_aload_n (hm := mm500) dL_law_2650
theorem n500_2651 : Snd mt G 500 2651 (oIload 4 2653) := w_iload (hm := mm500) dL_law_2651
theorem n500_2653 : Snd mt G 500 2653 (oConst (.int 2) 2654) := w_iconst (hm := mm500) dL_law_2653 rfl
theorem n500_2654 : Snd mt G 500 2654 (oBin (fun x y => x + y) 2655) := w_iadd (hm := mm500) dL_law_2654
theorem n500_2655 : Snd mt G 500 2655 (oAld [1100] 2656) := w_iaload (hm := mm500) (kt := 0) dL_law_2655 at_0 (Nat.le_of_ble_eq_true rfl) (List.forall_mem_cons.mpr ⟨Or.inr rfl, (fun t ht => nomatch ht)⟩)
theorem n500_2656 : Snd mt G 500 2656 (oIfEq 2663 2659) := w_if_eq (hm := mm500) dL_law_2656 rfl
theorem n500_2659 : Snd mt G 500 2659 (oConst (.int 1) 2660) := w_iconst (hm := mm500) dL_law_2659 rfl
theorem n500_2660 : Snd mt G 500 2660 (oGoto 2664) := w_goto (hm := mm500) dL_law_2660 rfl
theorem n500_2663 : Snd mt G 500 2663 (oConst (.int 0) 2664) := w_iconst (hm := mm500) dL_law_2663 rfl
theorem n500_2664 : Snd mt G 500 2664 (oCall 3 (fV [4] 372 3) 0 2667 xOut) := s_callV (m' := 372) (n := 2) xsh_out (w_xok0 mm500) (w_cal mm500 mm372 pn_X3 (Nat.le_of_ble_eq_true rfl) (Nat.le_of_ble_eq_true rfl)) (fun h b as hc hn => w_run_V (ci := 3) mm500 mm372 dL_law_2664 (Or.inl (List.mem_singleton.mp hc)) (Nat.le_of_ble_eq_true rfl) vc_3 rfl q2980 q2981 q2982 q150 q2983 pa372 hn)
theorem n500_2667 : Snd mt G 500 2667 (oIstore 6 2669) := w_istore (hm := mm500) dL_law_2667 (Nat.le_of_ble_eq_true rfl)
theorem n500_2669 : Snd mt G 500 2669 (oAload 2 2670) := w_aload_n (hm := mm500) dL_law_2669
theorem n500_2670 : Snd mt G 500 2670 (oCall 1 (fV [4] 281 1) 0 2673 xOut) := s_callV (m' := 281) (n := 0) xsh_out (w_xok0 mm500) (w_cal mm500 mm281 pn_X3 (Nat.le_of_ble_eq_true rfl) (Nat.le_of_ble_eq_true rfl)) (fun h b as hc hn => w_run_V (ci := 3) mm500 mm281 dL_law_2670 (Or.inl (List.mem_singleton.mp hc)) (Nat.le_of_ble_eq_true rfl) vc_3 rfl q2619 q2620 q2621 q150 q2622 pa281 hn)
theorem n500_2673 : Snd mt G 500 2673 (oIload 5 2675) := w_iload (hm := mm500) dL_law_2673
theorem n500_2675 : Snd mt G 500 2675 (oCmpEq 2680 2678) := w_icmp_eq (hm := mm500) dL_law_2675 rfl
theorem n500_2678 : Snd mt G 500 2678 (oConst (.int 0) 2679) := w_iconst (hm := mm500) dL_law_2678 rfl
theorem n500_2679 : Snd mt G 500 2679 (oRetI .boolean) := w_zret (hm := mm500) dL_law_2679 rfl
theorem n500_2680 : Snd mt G 500 2680 (oIload 5 2682) := w_iload (hm := mm500) dL_law_2680
theorem n500_2682 : Snd mt G 500 2682 (oIfEq 2685 2697) := w_if_ne (hm := mm500) dL_law_2682 rfl
theorem n500_2685 : Snd mt G 500 2685 (oAload 3 2686) := w_aload_n (hm := mm500) dL_law_2685
theorem n500_2686 : Snd mt G 500 2686 (oConst (.int 0) 2687) := w_iconst (hm := mm500) dL_law_2686 rfl
theorem n500_2687 : Snd mt G 500 2687 (oAld [102] 2688) := w_laload (hm := mm500) (kt := 2) dL_law_2687 at_2 (Nat.le_of_ble_eq_true rfl) (List.forall_mem_cons.mpr ⟨Or.inl rfl, (fun t ht => nomatch ht)⟩)
theorem n500_2688 : Snd mt G 500 2688 (oIload 6 2690) := w_iload (hm := mm500) dL_law_2688
theorem n500_2690 : Snd mt G 500 2690 (oUn (fun x => .long x.toInt64) 2691) := w_i2l (hm := mm500) dL_law_2690
theorem n500_2691 : Snd mt G 500 2691 (oLbin (fun x y => .int (lg_cmp x y)) 2692) := w_lcmp (hm := mm500) dL_law_2691
theorem n500_2692 : Snd mt G 500 2692 (oIfEq 2697 2695) := w_if_eq (hm := mm500) dL_law_2692 rfl
theorem n500_2695 : Snd mt G 500 2695 (oConst (.int 0) 2696) := w_iconst (hm := mm500) dL_law_2695 rfl
theorem n500_2696 : Snd mt G 500 2696 (oRetI .boolean) := w_zret (hm := mm500) dL_law_2696 rfl
theorem n500_2697 : Snd mt G 500 2697 (oGoto 4258) := w_goto (hm := mm500) dL_law_2697 rfl
theorem n500_2700 : Snd mt G 500 2700 (oAload 1 2701) := w_aload_n (hm := mm500) dL_law_2700
theorem n500_2701 : Snd mt G 500 2701 (oAload 0 2702) := w_aload_n (hm := mm500) dL_law_2701
theorem n500_2702 : Snd mt G 500 2702 (oIload 4 2704) := w_iload (hm := mm500) dL_law_2702
theorem n500_2704 : Snd mt G 500 2704 (oConst (.int 1) 2705) := w_iconst (hm := mm500) dL_law_2704 rfl
theorem n500_2705 : Snd mt G 500 2705 (oBin (fun x y => x + y) 2706) := w_iadd (hm := mm500) dL_law_2705
theorem n500_2706 : Snd mt G 500 2706 (oAld [1100] 2707) := w_iaload (hm := mm500) (kt := 0) dL_law_2706 at_0 (Nat.le_of_ble_eq_true rfl) (List.forall_mem_cons.mpr ⟨Or.inr rfl, (fun t ht => nomatch ht)⟩)
theorem n500_2707 : Snd mt G 500 2707 (oAload 0 2708) := w_aload_n (hm := mm500) dL_law_2707
theorem n500_2708 : Snd mt G 500 2708 (oIload 4 2710) := w_iload (hm := mm500) dL_law_2708
theorem n500_2710 : Snd mt G 500 2710 (oConst (.int 2) 2711) := w_iconst (hm := mm500) dL_law_2710 rfl
theorem n500_2711 : Snd mt G 500 2711 (oBin (fun x y => x + y) 2712) := w_iadd (hm := mm500) dL_law_2711
theorem n500_2712 : Snd mt G 500 2712 (oAld [1100] 2713) := w_iaload (hm := mm500) (kt := 0) dL_law_2712 at_0 (Nat.le_of_ble_eq_true rfl) (List.forall_mem_cons.mpr ⟨Or.inr rfl, (fun t ht => nomatch ht)⟩)
theorem n500_2713 : Snd mt G 500 2713 (oAload 3 2714) := w_aload_n (hm := mm500) dL_law_2713
theorem n500_2714 : Snd mt G 500 2714 (oCall 4 (fS 31 5) 0 2717 xOut) := s_callS (m' := 31) (n := 4) xsh_out (w_xok0 mm500) (w_cal mm500 mm31 pn_X0 (Nat.le_of_ble_eq_true rfl) (Nat.le_of_ble_eq_true rfl)) (fun h as hn => w_run_SX mm500 mm31 dL_law_2714 q2127 q2128 q128 q2129 pa31 hn)
theorem n500_2717 : Snd mt G 500 2717 (oIstore 5 2719) := w_istore (hm := mm500) dL_law_2717 (Nat.le_of_ble_eq_true rfl)
theorem n500_2719 : Snd mt G 500 2719 (oAload 2 2720) := w_aload_n (hm := mm500) dL_law_2719
theorem n500_2720 : Snd mt G 500 2720 (oAload 0 2721) := w_aload_n (hm := mm500) dL_law_2720
theorem n500_2721 : Snd mt G 500 2721 (oIload 4 2723) := w_iload (hm := mm500) dL_law_2721
theorem n500_2723 : Snd mt G 500 2723 (oConst (.int 1) 2724) := w_iconst (hm := mm500) dL_law_2723 rfl
theorem n500_2724 : Snd mt G 500 2724 (oBin (fun x y => x + y) 2725) := w_iadd (hm := mm500) dL_law_2724
theorem n500_2725 : Snd mt G 500 2725 (oAld [1100] 2726) := w_iaload (hm := mm500) (kt := 0) dL_law_2725 at_0 (Nat.le_of_ble_eq_true rfl) (List.forall_mem_cons.mpr ⟨Or.inr rfl, (fun t ht => nomatch ht)⟩)
theorem n500_2726 : Snd mt G 500 2726 (oAload 0 2727) := w_aload_n (hm := mm500) dL_law_2726
theorem n500_2727 : Snd mt G 500 2727 (oIload 4 2729) := w_iload (hm := mm500) dL_law_2727
theorem n500_2729 : Snd mt G 500 2729 (oConst (.int 2) 2730) := w_iconst (hm := mm500) dL_law_2729 rfl
theorem n500_2730 : Snd mt G 500 2730 (oBin (fun x y => x + y) 2731) := w_iadd (hm := mm500) dL_law_2730
theorem n500_2731 : Snd mt G 500 2731 (oAld [1100] 2732) := w_iaload (hm := mm500) (kt := 0) dL_law_2731 at_0 (Nat.le_of_ble_eq_true rfl) (List.forall_mem_cons.mpr ⟨Or.inr rfl, (fun t ht => nomatch ht)⟩)
theorem n500_2732 : Snd mt G 500 2732 (oCall 3 (fV [4] 374 5) 0 2735 xOut) := s_callV (m' := 374) (n := 2) xsh_out (w_xok0 mm500) (w_cal mm500 mm374 pn_X3 (Nat.le_of_ble_eq_true rfl) (Nat.le_of_ble_eq_true rfl)) (fun h b as hc hn => w_run_V (ci := 3) mm500 mm374 dL_law_2732 (Or.inl (List.mem_singleton.mp hc)) (Nat.le_of_ble_eq_true rfl) vc_3 rfl q2988 q2989 q2990 q150 q2991 pa374 hn)
theorem n500_2735 : Snd mt G 500 2735 (oIstore 6 2737) := w_istore (hm := mm500) dL_law_2735 (Nat.le_of_ble_eq_true rfl)
theorem n500_2737 : Snd mt G 500 2737 (oAload 2 2738) := w_aload_n (hm := mm500) dL_law_2737
theorem n500_2738 : Snd mt G 500 2738 (oCall 1 (fV [4] 281 1) 0 2741 xOut) := s_callV (m' := 281) (n := 0) xsh_out (w_xok0 mm500) (w_cal mm500 mm281 pn_X3 (Nat.le_of_ble_eq_true rfl) (Nat.le_of_ble_eq_true rfl)) (fun h b as hc hn => w_run_V (ci := 3) mm500 mm281 dL_law_2738 (Or.inl (List.mem_singleton.mp hc)) (Nat.le_of_ble_eq_true rfl) vc_3 rfl q2619 q2620 q2621 q150 q2622 pa281 hn)
theorem n500_2741 : Snd mt G 500 2741 (oIload 5 2743) := w_iload (hm := mm500) dL_law_2741
theorem n500_2743 : Snd mt G 500 2743 (oCmpEq 2748 2746) := w_icmp_eq (hm := mm500) dL_law_2743 rfl
theorem n500_2746 : Snd mt G 500 2746 (oConst (.int 0) 2747) := w_iconst (hm := mm500) dL_law_2746 rfl
theorem n500_2747 : Snd mt G 500 2747 (oRetI .boolean) := w_zret (hm := mm500) dL_law_2747 rfl
theorem n500_2748 : Snd mt G 500 2748 (oIload 5 2750) := w_iload (hm := mm500) dL_law_2748
theorem n500_2750 : Snd mt G 500 2750 (oIfEq 2753 2765) := w_if_ne (hm := mm500) dL_law_2750 rfl
theorem n500_2753 : Snd mt G 500 2753 (oAload 3 2754) := w_aload_n (hm := mm500) dL_law_2753
theorem n500_2754 : Snd mt G 500 2754 (oConst (.int 0) 2755) := w_iconst (hm := mm500) dL_law_2754 rfl
theorem n500_2755 : Snd mt G 500 2755 (oAld [102] 2756) := w_laload (hm := mm500) (kt := 2) dL_law_2755 at_2 (Nat.le_of_ble_eq_true rfl) (List.forall_mem_cons.mpr ⟨Or.inl rfl, (fun t ht => nomatch ht)⟩)
theorem n500_2756 : Snd mt G 500 2756 (oIload 6 2758) := w_iload (hm := mm500) dL_law_2756
theorem n500_2758 : Snd mt G 500 2758 (oUn (fun x => .long x.toInt64) 2759) := w_i2l (hm := mm500) dL_law_2758
theorem n500_2759 : Snd mt G 500 2759 (oLbin (fun x y => .int (lg_cmp x y)) 2760) := w_lcmp (hm := mm500) dL_law_2759
theorem n500_2760 : Snd mt G 500 2760 (oIfEq 2765 2763) := w_if_eq (hm := mm500) dL_law_2760 rfl
theorem n500_2763 : Snd mt G 500 2763 (oConst (.int 0) 2764) := w_iconst (hm := mm500) dL_law_2763 rfl
theorem n500_2764 : Snd mt G 500 2764 (oRetI .boolean) := w_zret (hm := mm500) dL_law_2764 rfl
theorem n500_2765 : Snd mt G 500 2765 (oGoto 4258) := w_goto (hm := mm500) dL_law_2765 rfl
theorem n500_2768 : Snd mt G 500 2768 (oAload 1 2769) := w_aload_n (hm := mm500) dL_law_2768
theorem n500_2769 : Snd mt G 500 2769 (oAload 0 2770) := w_aload_n (hm := mm500) dL_law_2769
theorem n500_2770 : Snd mt G 500 2770 (oIload 4 2772) := w_iload (hm := mm500) dL_law_2770
theorem n500_2772 : Snd mt G 500 2772 (oConst (.int 1) 2773) := w_iconst (hm := mm500) dL_law_2772 rfl
theorem n500_2773 : Snd mt G 500 2773 (oBin (fun x y => x + y) 2774) := w_iadd (hm := mm500) dL_law_2773
theorem n500_2774 : Snd mt G 500 2774 (oAld [1100] 2775) := w_iaload (hm := mm500) (kt := 0) dL_law_2774 at_0 (Nat.le_of_ble_eq_true rfl) (List.forall_mem_cons.mpr ⟨Or.inr rfl, (fun t ht => nomatch ht)⟩)
theorem n500_2775 : Snd mt G 500 2775 (oAload 3 2776) := w_aload_n (hm := mm500) dL_law_2775
theorem n500_2776 : Snd mt G 500 2776 (oCall 3 (fS 32 4) 0 2779 xOut) := s_callS (m' := 32) (n := 3) xsh_out (w_xok0 mm500) (w_cal mm500 mm32 pn_X0 (Nat.le_of_ble_eq_true rfl) (Nat.le_of_ble_eq_true rfl)) (fun h as hn => w_run_SX mm500 mm32 dL_law_2776 q2134 q2135 q128 q2136 pa32 hn)
theorem n500_2779 : Snd mt G 500 2779 (oIstore 5 2781) := w_istore (hm := mm500) dL_law_2779 (Nat.le_of_ble_eq_true rfl)
theorem n500_2781 : Snd mt G 500 2781 (oAload 2 2782) := w_aload_n (hm := mm500) dL_law_2781
theorem n500_2782 : Snd mt G 500 2782 (oAload 0 2783) := w_aload_n (hm := mm500) dL_law_2782
theorem n500_2783 : Snd mt G 500 2783 (oIload 4 2785) := w_iload (hm := mm500) dL_law_2783
theorem n500_2785 : Snd mt G 500 2785 (oConst (.int 1) 2786) := w_iconst (hm := mm500) dL_law_2785 rfl
theorem n500_2786 : Snd mt G 500 2786 (oBin (fun x y => x + y) 2787) := w_iadd (hm := mm500) dL_law_2786
theorem n500_2787 : Snd mt G 500 2787 (oAld [1100] 2788) := w_iaload (hm := mm500) (kt := 0) dL_law_2787 at_0 (Nat.le_of_ble_eq_true rfl) (List.forall_mem_cons.mpr ⟨Or.inr rfl, (fun t ht => nomatch ht)⟩)
theorem n500_2788 : Snd mt G 500 2788 (oCall 2 (fV [4] 375 2) 0 2791 xOut) := s_callV (m' := 375) (n := 1) xsh_out (w_xok0 mm500) (w_cal mm500 mm375 pn_X3 (Nat.le_of_ble_eq_true rfl) (Nat.le_of_ble_eq_true rfl)) (fun h b as hc hn => w_run_V (ci := 3) mm500 mm375 dL_law_2788 (Or.inl (List.mem_singleton.mp hc)) (Nat.le_of_ble_eq_true rfl) vc_3 rfl q2992 q2993 q2994 q150 q2995 pa375 hn)
theorem n500_2791 : Snd mt G 500 2791 (oIstore 6 2793) := w_istore (hm := mm500) dL_law_2791 (Nat.le_of_ble_eq_true rfl)
theorem n500_2793 : Snd mt G 500 2793 (oAload 2 2794) := w_aload_n (hm := mm500) dL_law_2793
theorem n500_2794 : Snd mt G 500 2794 (oCall 1 (fV [4] 281 1) 0 2797 xOut) := s_callV (m' := 281) (n := 0) xsh_out (w_xok0 mm500) (w_cal mm500 mm281 pn_X3 (Nat.le_of_ble_eq_true rfl) (Nat.le_of_ble_eq_true rfl)) (fun h b as hc hn => w_run_V (ci := 3) mm500 mm281 dL_law_2794 (Or.inl (List.mem_singleton.mp hc)) (Nat.le_of_ble_eq_true rfl) vc_3 rfl q2619 q2620 q2621 q150 q2622 pa281 hn)
theorem n500_2797 : Snd mt G 500 2797 (oIload 5 2799) := w_iload (hm := mm500) dL_law_2797
theorem n500_2799 : Snd mt G 500 2799 (oCmpEq 2804 2802) := w_icmp_eq (hm := mm500) dL_law_2799 rfl
theorem n500_2802 : Snd mt G 500 2802 (oConst (.int 0) 2803) := w_iconst (hm := mm500) dL_law_2802 rfl
theorem n500_2803 : Snd mt G 500 2803 (oRetI .boolean) := w_zret (hm := mm500) dL_law_2803 rfl
theorem n500_2804 : Snd mt G 500 2804 (oIload 5 2806) := w_iload (hm := mm500) dL_law_2804
theorem n500_2806 : Snd mt G 500 2806 (oIfEq 2809 2821) := w_if_ne (hm := mm500) dL_law_2806 rfl
theorem n500_2809 : Snd mt G 500 2809 (oAload 3 2810) := w_aload_n (hm := mm500) dL_law_2809
theorem n500_2810 : Snd mt G 500 2810 (oConst (.int 0) 2811) := w_iconst (hm := mm500) dL_law_2810 rfl
theorem n500_2811 : Snd mt G 500 2811 (oAld [102] 2812) := w_laload (hm := mm500) (kt := 2) dL_law_2811 at_2 (Nat.le_of_ble_eq_true rfl) (List.forall_mem_cons.mpr ⟨Or.inl rfl, (fun t ht => nomatch ht)⟩)
theorem n500_2812 : Snd mt G 500 2812 (oIload 6 2814) := w_iload (hm := mm500) dL_law_2812
theorem n500_2814 : Snd mt G 500 2814 (oUn (fun x => .long x.toInt64) 2815) := w_i2l (hm := mm500) dL_law_2814
theorem n500_2815 : Snd mt G 500 2815 (oLbin (fun x y => .int (lg_cmp x y)) 2816) := w_lcmp (hm := mm500) dL_law_2815
theorem n500_2816 : Snd mt G 500 2816 (oIfEq 2821 2819) := w_if_eq (hm := mm500) dL_law_2816 rfl
theorem n500_2819 : Snd mt G 500 2819 (oConst (.int 0) 2820) := w_iconst (hm := mm500) dL_law_2819 rfl
theorem n500_2820 : Snd mt G 500 2820 (oRetI .boolean) := w_zret (hm := mm500) dL_law_2820 rfl
theorem n500_2821 : Snd mt G 500 2821 (oGoto 4258) := w_goto (hm := mm500) dL_law_2821 rfl
theorem n500_2824 : Snd mt G 500 2824 (oAload 1 2825) := w_aload_n (hm := mm500) dL_law_2824
theorem n500_2825 : Snd mt G 500 2825 (oAload 0 2826) := w_aload_n (hm := mm500) dL_law_2825
theorem n500_2826 : Snd mt G 500 2826 (oIload 4 2828) := w_iload (hm := mm500) dL_law_2826
theorem n500_2828 : Snd mt G 500 2828 (oConst (.int 1) 2829) := w_iconst (hm := mm500) dL_law_2828 rfl
theorem n500_2829 : Snd mt G 500 2829 (oBin (fun x y => x + y) 2830) := w_iadd (hm := mm500) dL_law_2829
theorem n500_2830 : Snd mt G 500 2830 (oAld [1100] 2831) := w_iaload (hm := mm500) (kt := 0) dL_law_2830 at_0 (Nat.le_of_ble_eq_true rfl) (List.forall_mem_cons.mpr ⟨Or.inr rfl, (fun t ht => nomatch ht)⟩)
theorem n500_2831 : Snd mt G 500 2831 (oAload 3 2832) := w_aload_n (hm := mm500) dL_law_2831
theorem n500_2832 : Snd mt G 500 2832 (oCall 3 (fS 33 4) 0 2835 xOut) := s_callS (m' := 33) (n := 3) xsh_out (w_xok0 mm500) (w_cal mm500 mm33 pn_X0 (Nat.le_of_ble_eq_true rfl) (Nat.le_of_ble_eq_true rfl)) (fun h as hn => w_run_SX mm500 mm33 dL_law_2832 q2141 q2142 q128 q2143 pa33 hn)
theorem n500_2835 : Snd mt G 500 2835 (oIstore 5 2837) := w_istore (hm := mm500) dL_law_2835 (Nat.le_of_ble_eq_true rfl)
theorem n500_2837 : Snd mt G 500 2837 (oAload 2 2838) := w_aload_n (hm := mm500) dL_law_2837
theorem n500_2838 : Snd mt G 500 2838 (oAload 0 2839) := w_aload_n (hm := mm500) dL_law_2838
theorem n500_2839 : Snd mt G 500 2839 (oIload 4 2841) := w_iload (hm := mm500) dL_law_2839
theorem n500_2841 : Snd mt G 500 2841 (oConst (.int 1) 2842) := w_iconst (hm := mm500) dL_law_2841 rfl
theorem n500_2842 : Snd mt G 500 2842 (oBin (fun x y => x + y) 2843) := w_iadd (hm := mm500) dL_law_2842
theorem n500_2843 : Snd mt G 500 2843 (oAld [1100] 2844) := w_iaload (hm := mm500) (kt := 0) dL_law_2843 at_0 (Nat.le_of_ble_eq_true rfl) (List.forall_mem_cons.mpr ⟨Or.inr rfl, (fun t ht => nomatch ht)⟩)
theorem n500_2844 : Snd mt G 500 2844 (oCall 2 (fV [4] 376 2) 0 2847 xOut) := s_callV (m' := 376) (n := 1) xsh_out (w_xok0 mm500) (w_cal mm500 mm376 pn_X3 (Nat.le_of_ble_eq_true rfl) (Nat.le_of_ble_eq_true rfl)) (fun h b as hc hn => w_run_V (ci := 3) mm500 mm376 dL_law_2844 (Or.inl (List.mem_singleton.mp hc)) (Nat.le_of_ble_eq_true rfl) vc_3 rfl q2996 q2997 q2998 q150 q2999 pa376 hn)
theorem n500_2847 : Snd mt G 500 2847 (oIstore 6 2849) := w_istore (hm := mm500) dL_law_2847 (Nat.le_of_ble_eq_true rfl)
theorem n500_2849 : Snd mt G 500 2849 (oAload 2 2850) := w_aload_n (hm := mm500) dL_law_2849
theorem n500_2850 : Snd mt G 500 2850 (oCall 1 (fV [4] 281 1) 0 2853 xOut) := s_callV (m' := 281) (n := 0) xsh_out (w_xok0 mm500) (w_cal mm500 mm281 pn_X3 (Nat.le_of_ble_eq_true rfl) (Nat.le_of_ble_eq_true rfl)) (fun h b as hc hn => w_run_V (ci := 3) mm500 mm281 dL_law_2850 (Or.inl (List.mem_singleton.mp hc)) (Nat.le_of_ble_eq_true rfl) vc_3 rfl q2619 q2620 q2621 q150 q2622 pa281 hn)
theorem n500_2853 : Snd mt G 500 2853 (oIload 5 2855) := w_iload (hm := mm500) dL_law_2853
theorem n500_2855 : Snd mt G 500 2855 (oCmpEq 2860 2858) := w_icmp_eq (hm := mm500) dL_law_2855 rfl
theorem n500_2858 : Snd mt G 500 2858 (oConst (.int 0) 2859) := w_iconst (hm := mm500) dL_law_2858 rfl
theorem n500_2859 : Snd mt G 500 2859 (oRetI .boolean) := w_zret (hm := mm500) dL_law_2859 rfl
theorem n500_2860 : Snd mt G 500 2860 (oIload 5 2862) := w_iload (hm := mm500) dL_law_2860
theorem n500_2862 : Snd mt G 500 2862 (oIfEq 2865 2877) := w_if_ne (hm := mm500) dL_law_2862 rfl
theorem n500_2865 : Snd mt G 500 2865 (oAload 3 2866) := w_aload_n (hm := mm500) dL_law_2865
theorem n500_2866 : Snd mt G 500 2866 (oConst (.int 0) 2867) := w_iconst (hm := mm500) dL_law_2866 rfl
theorem n500_2867 : Snd mt G 500 2867 (oAld [102] 2868) := w_laload (hm := mm500) (kt := 2) dL_law_2867 at_2 (Nat.le_of_ble_eq_true rfl) (List.forall_mem_cons.mpr ⟨Or.inl rfl, (fun t ht => nomatch ht)⟩)
theorem n500_2868 : Snd mt G 500 2868 (oIload 6 2870) := w_iload (hm := mm500) dL_law_2868
theorem n500_2870 : Snd mt G 500 2870 (oUn (fun x => .long x.toInt64) 2871) := w_i2l (hm := mm500) dL_law_2870
theorem n500_2871 : Snd mt G 500 2871 (oLbin (fun x y => .int (lg_cmp x y)) 2872) := w_lcmp (hm := mm500) dL_law_2871
theorem n500_2872 : Snd mt G 500 2872 (oIfEq 2877 2875) := w_if_eq (hm := mm500) dL_law_2872 rfl
theorem n500_2875 : Snd mt G 500 2875 (oConst (.int 0) 2876) := w_iconst (hm := mm500) dL_law_2875 rfl
theorem n500_2876 : Snd mt G 500 2876 (oRetI .boolean) := w_zret (hm := mm500) dL_law_2876 rfl
theorem n500_2877 : Snd mt G 500 2877 (oGoto 4258) := w_goto (hm := mm500) dL_law_2877 rfl
theorem n500_2880 : Snd mt G 500 2880 (oAload 1 2881) := w_aload_n (hm := mm500) dL_law_2880
theorem n500_2881 : Snd mt G 500 2881 (oAload 0 2882) := w_aload_n (hm := mm500) dL_law_2881
theorem n500_2882 : Snd mt G 500 2882 (oIload 4 2884) := w_iload (hm := mm500) dL_law_2882
theorem n500_2884 : Snd mt G 500 2884 (oConst (.int 1) 2885) := w_iconst (hm := mm500) dL_law_2884 rfl
theorem n500_2885 : Snd mt G 500 2885 (oBin (fun x y => x + y) 2886) := w_iadd (hm := mm500) dL_law_2885
theorem n500_2886 : Snd mt G 500 2886 (oAld [1100] 2887) := w_iaload (hm := mm500) (kt := 0) dL_law_2886 at_0 (Nat.le_of_ble_eq_true rfl) (List.forall_mem_cons.mpr ⟨Or.inr rfl, (fun t ht => nomatch ht)⟩)
theorem n500_2887 : Snd mt G 500 2887 (oAload 3 2888) := w_aload_n (hm := mm500) dL_law_2887
theorem n500_2888 : Snd mt G 500 2888 (oCall 3 (fS 34 4) 0 2891 xOut) := s_callS (m' := 34) (n := 3) xsh_out (w_xok0 mm500) (w_cal mm500 mm34 pn_X0 (Nat.le_of_ble_eq_true rfl) (Nat.le_of_ble_eq_true rfl)) (fun h as hn => w_run_SX mm500 mm34 dL_law_2888 q2148 q2149 q128 q2150 pa34 hn)
theorem n500_2891 : Snd mt G 500 2891 (oIstore 5 2893) := w_istore (hm := mm500) dL_law_2891 (Nat.le_of_ble_eq_true rfl)
theorem n500_2893 : Snd mt G 500 2893 (oAload 2 2894) := w_aload_n (hm := mm500) dL_law_2893
theorem n500_2894 : Snd mt G 500 2894 (oAload 0 2895) := w_aload_n (hm := mm500) dL_law_2894
theorem n500_2895 : Snd mt G 500 2895 (oIload 4 2897) := w_iload (hm := mm500) dL_law_2895
theorem n500_2897 : Snd mt G 500 2897 (oConst (.int 1) 2898) := w_iconst (hm := mm500) dL_law_2897 rfl
theorem n500_2898 : Snd mt G 500 2898 (oBin (fun x y => x + y) 2899) := w_iadd (hm := mm500) dL_law_2898
theorem n500_2899 : Snd mt G 500 2899 (oAld [1100] 2900) := w_iaload (hm := mm500) (kt := 0) dL_law_2899 at_0 (Nat.le_of_ble_eq_true rfl) (List.forall_mem_cons.mpr ⟨Or.inr rfl, (fun t ht => nomatch ht)⟩)
theorem n500_2900 : Snd mt G 500 2900 (oCall 2 (fV [4] 377 6) 0 2903 xOut) := s_callV (m' := 377) (n := 1) xsh_out (w_xok0 mm500) (w_cal mm500 mm377 pn_X3 (Nat.le_of_ble_eq_true rfl) (Nat.le_of_ble_eq_true rfl)) (fun h b as hc hn => w_run_V (ci := 3) mm500 mm377 dL_law_2900 (Or.inl (List.mem_singleton.mp hc)) (Nat.le_of_ble_eq_true rfl) vc_3 rfl q3000 q3001 q3002 q150 q3003 pa377 hn)
theorem n500_2903 : Snd mt G 500 2903 (oIstore 6 2905) := w_istore (hm := mm500) dL_law_2903 (Nat.le_of_ble_eq_true rfl)
theorem n500_2905 : Snd mt G 500 2905 (oAload 2 2906) := w_aload_n (hm := mm500) dL_law_2905
theorem n500_2906 : Snd mt G 500 2906 (oCall 1 (fV [4] 281 1) 0 2909 xOut) := s_callV (m' := 281) (n := 0) xsh_out (w_xok0 mm500) (w_cal mm500 mm281 pn_X3 (Nat.le_of_ble_eq_true rfl) (Nat.le_of_ble_eq_true rfl)) (fun h b as hc hn => w_run_V (ci := 3) mm500 mm281 dL_law_2906 (Or.inl (List.mem_singleton.mp hc)) (Nat.le_of_ble_eq_true rfl) vc_3 rfl q2619 q2620 q2621 q150 q2622 pa281 hn)
theorem n500_2909 : Snd mt G 500 2909 (oIload 5 2911) := w_iload (hm := mm500) dL_law_2909
theorem n500_2911 : Snd mt G 500 2911 (oCmpEq 2916 2914) := w_icmp_eq (hm := mm500) dL_law_2911 rfl
theorem n500_2914 : Snd mt G 500 2914 (oConst (.int 0) 2915) := w_iconst (hm := mm500) dL_law_2914 rfl
theorem n500_2915 : Snd mt G 500 2915 (oRetI .boolean) := w_zret (hm := mm500) dL_law_2915 rfl
theorem n500_2916 : Snd mt G 500 2916 (oIload 5 2918) := w_iload (hm := mm500) dL_law_2916
theorem n500_2918 : Snd mt G 500 2918 (oIfEq 2921 2933) := w_if_ne (hm := mm500) dL_law_2918 rfl
theorem n500_2921 : Snd mt G 500 2921 (oAload 3 2922) := w_aload_n (hm := mm500) dL_law_2921
theorem n500_2922 : Snd mt G 500 2922 (oConst (.int 0) 2923) := w_iconst (hm := mm500) dL_law_2922 rfl
theorem n500_2923 : Snd mt G 500 2923 (oAld [102] 2924) := w_laload (hm := mm500) (kt := 2) dL_law_2923 at_2 (Nat.le_of_ble_eq_true rfl) (List.forall_mem_cons.mpr ⟨Or.inl rfl, (fun t ht => nomatch ht)⟩)
theorem n500_2924 : Snd mt G 500 2924 (oIload 6 2926) := w_iload (hm := mm500) dL_law_2924
theorem n500_2926 : Snd mt G 500 2926 (oUn (fun x => .long x.toInt64) 2927) := w_i2l (hm := mm500) dL_law_2926
theorem n500_2927 : Snd mt G 500 2927 (oLbin (fun x y => .int (lg_cmp x y)) 2928) := w_lcmp (hm := mm500) dL_law_2927
theorem n500_2928 : Snd mt G 500 2928 (oIfEq 2933 2931) := w_if_eq (hm := mm500) dL_law_2928 rfl
theorem n500_2931 : Snd mt G 500 2931 (oConst (.int 0) 2932) := w_iconst (hm := mm500) dL_law_2931 rfl
theorem n500_2932 : Snd mt G 500 2932 (oRetI .boolean) := w_zret (hm := mm500) dL_law_2932 rfl
theorem n500_2933 : Snd mt G 500 2933 (oGoto 4258) := w_goto (hm := mm500) dL_law_2933 rfl
theorem n500_2936 : Snd mt G 500 2936 (oAload 1 2937) := w_aload_n (hm := mm500) dL_law_2936
theorem n500_2937 : Snd mt G 500 2937 (oCall 1 (fV [1] 71 1) 0 2940 xOut) := s_callV (m' := 71) (n := 0) xsh_out (w_xok0 mm500) (w_cal mm500 mm71 pn_X1 (Nat.le_of_ble_eq_true rfl) (Nat.le_of_ble_eq_true rfl)) (fun h b as hc hn => w_run_V (ci := 0) mm500 mm71 dL_law_2937 (Or.inl (List.mem_singleton.mp hc)) (Nat.le_of_ble_eq_true rfl) vc_0 rfl q876 q877 q878 q129 q879 pa71 hn)
theorem n500_2940 : Snd mt G 500 2940 (oAload 2 2941) := w_aload_n (hm := mm500) dL_law_2940
theorem n500_2941 : Snd mt G 500 2941 (oCall 1 (fV [4] 380 1) 0 2944 xOut) := s_callV (m' := 380) (n := 0) xsh_out (w_xok0 mm500) (w_cal mm500 mm380 pn_X3 (Nat.le_of_ble_eq_true rfl) (Nat.le_of_ble_eq_true rfl)) (fun h b as hc hn => w_run_V (ci := 3) mm500 mm380 dL_law_2941 (Or.inl (List.mem_singleton.mp hc)) (Nat.le_of_ble_eq_true rfl) vc_3 rfl q3012 q3013 q3014 q150 q3015 pa380 hn)
theorem n500_2944 : Snd mt G 500 2944 (oCmpEq 4258 2947) := w_icmp_eq (hm := mm500) dL_law_2944 rfl
theorem n500_2947 : Snd mt G 500 2947 (oConst (.int 0) 2948) := w_iconst (hm := mm500) dL_law_2947 rfl
theorem n500_2948 : Snd mt G 500 2948 (oRetI .boolean) := w_zret (hm := mm500) dL_law_2948 rfl
theorem n500_2949 : Snd mt G 500 2949 (oAload 1 2950) := w_aload_n (hm := mm500) dL_law_2949
theorem n500_2950 : Snd mt G 500 2950 (oAload 0 2951) := w_aload_n (hm := mm500) dL_law_2950
theorem n500_2951 : Snd mt G 500 2951 (oIload 4 2953) := w_iload (hm := mm500) dL_law_2951
theorem n500_2953 : Snd mt G 500 2953 (oConst (.int 1) 2954) := w_iconst (hm := mm500) dL_law_2953 rfl
theorem n500_2954 : Snd mt G 500 2954 (oBin (fun x y => x + y) 2955) := w_iadd (hm := mm500) dL_law_2954
theorem n500_2955 : Snd mt G 500 2955 (oAld [1100] 2956) := w_iaload (hm := mm500) (kt := 0) dL_law_2955 at_0 (Nat.le_of_ble_eq_true rfl) (List.forall_mem_cons.mpr ⟨Or.inr rfl, (fun t ht => nomatch ht)⟩)
theorem n500_2956 : Snd mt G 500 2956 (oAload 0 2957) := w_aload_n (hm := mm500) dL_law_2956
theorem n500_2957 : Snd mt G 500 2957 (oIload 4 2959) := w_iload (hm := mm500) dL_law_2957
theorem n500_2959 : Snd mt G 500 2959 (oConst (.int 2) 2960) := w_iconst (hm := mm500) dL_law_2959 rfl
theorem n500_2960 : Snd mt G 500 2960 (oBin (fun x y => x + y) 2961) := w_iadd (hm := mm500) dL_law_2960
theorem n500_2961 : Snd mt G 500 2961 (oAld [1100] 2962) := w_iaload (hm := mm500) (kt := 0) dL_law_2961 at_0 (Nat.le_of_ble_eq_true rfl) (List.forall_mem_cons.mpr ⟨Or.inr rfl, (fun t ht => nomatch ht)⟩)
theorem n500_2962 : Snd mt G 500 2962 (oAload 0 2963) := w_aload_n (hm := mm500) dL_law_2962
theorem n500_2963 : Snd mt G 500 2963 (oIload 4 2965) := w_iload (hm := mm500) dL_law_2963
theorem n500_2965 : Snd mt G 500 2965 (oConst (.int 3) 2966) := w_iconst (hm := mm500) dL_law_2965 rfl
theorem n500_2966 : Snd mt G 500 2966 (oBin (fun x y => x + y) 2967) := w_iadd (hm := mm500) dL_law_2966
theorem n500_2967 : Snd mt G 500 2967 (oAld [1100] 2968) := w_iaload (hm := mm500) (kt := 0) dL_law_2967 at_0 (Nat.le_of_ble_eq_true rfl) (List.forall_mem_cons.mpr ⟨Or.inr rfl, (fun t ht => nomatch ht)⟩)
theorem n500_2968 : Snd mt G 500 2968 (oAload 3 2969) := w_aload_n (hm := mm500) dL_law_2968
theorem n500_2969 : Snd mt G 500 2969 (oCall 5 (fS 35 6) 0 2972 xOut) := s_callS (m' := 35) (n := 5) xsh_out (w_xok0 mm500) (w_cal mm500 mm35 pn_X0 (Nat.le_of_ble_eq_true rfl) (Nat.le_of_ble_eq_true rfl)) (fun h as hn => w_run_SX mm500 mm35 dL_law_2969 q2155 q2156 q128 q2157 pa35 hn)
theorem n500_2972 : Snd mt G 500 2972 (oIstore 5 2974) := w_istore (hm := mm500) dL_law_2972 (Nat.le_of_ble_eq_true rfl)
theorem n500_2974 : Snd mt G 500 2974 (oAload 2 2975) := w_aload_n (hm := mm500) dL_law_2974
theorem n500_2975 : Snd mt G 500 2975 (oAload 0 2976) := w_aload_n (hm := mm500) dL_law_2975
theorem n500_2976 : Snd mt G 500 2976 (oIload 4 2978) := w_iload (hm := mm500) dL_law_2976
theorem n500_2978 : Snd mt G 500 2978 (oConst (.int 1) 2979) := w_iconst (hm := mm500) dL_law_2978 rfl
theorem n500_2979 : Snd mt G 500 2979 (oBin (fun x y => x + y) 2980) := w_iadd (hm := mm500) dL_law_2979
theorem n500_2980 : Snd mt G 500 2980 (oAld [1100] 2981) := w_iaload (hm := mm500) (kt := 0) dL_law_2980 at_0 (Nat.le_of_ble_eq_true rfl) (List.forall_mem_cons.mpr ⟨Or.inr rfl, (fun t ht => nomatch ht)⟩)
theorem n500_2981 : Snd mt G 500 2981 (oAload 0 2982) := w_aload_n (hm := mm500) dL_law_2981
theorem n500_2982 : Snd mt G 500 2982 (oIload 4 2984) := w_iload (hm := mm500) dL_law_2982
theorem n500_2984 : Snd mt G 500 2984 (oConst (.int 2) 2985) := w_iconst (hm := mm500) dL_law_2984 rfl
theorem n500_2985 : Snd mt G 500 2985 (oBin (fun x y => x + y) 2986) := w_iadd (hm := mm500) dL_law_2985
theorem n500_2986 : Snd mt G 500 2986 (oAld [1100] 2987) := w_iaload (hm := mm500) (kt := 0) dL_law_2986 at_0 (Nat.le_of_ble_eq_true rfl) (List.forall_mem_cons.mpr ⟨Or.inr rfl, (fun t ht => nomatch ht)⟩)
theorem n500_2987 : Snd mt G 500 2987 (oAload 0 2988) := w_aload_n (hm := mm500) dL_law_2987
theorem n500_2988 : Snd mt G 500 2988 (oIload 4 2990) := w_iload (hm := mm500) dL_law_2988
theorem n500_2990 : Snd mt G 500 2990 (oConst (.int 3) 2991) := w_iconst (hm := mm500) dL_law_2990 rfl
theorem n500_2991 : Snd mt G 500 2991 (oBin (fun x y => x + y) 2992) := w_iadd (hm := mm500) dL_law_2991
theorem n500_2992 : Snd mt G 500 2992 (oAld [1100] 2993) := w_iaload (hm := mm500) (kt := 0) dL_law_2992 at_0 (Nat.le_of_ble_eq_true rfl) (List.forall_mem_cons.mpr ⟨Or.inr rfl, (fun t ht => nomatch ht)⟩)
theorem n500_2993 : Snd mt G 500 2993 (oCall 4 (fV [4] 381 7) 0 2996 xOut) := s_callV (m' := 381) (n := 3) xsh_out (w_xok0 mm500) (w_cal mm500 mm381 pn_X3 (Nat.le_of_ble_eq_true rfl) (Nat.le_of_ble_eq_true rfl)) (fun h b as hc hn => w_run_V (ci := 3) mm500 mm381 dL_law_2993 (Or.inl (List.mem_singleton.mp hc)) (Nat.le_of_ble_eq_true rfl) vc_3 rfl q3016 q3017 q3018 q150 q3019 pa381 hn)
theorem n500_2996 : Snd mt G 500 2996 (oIstore 6 2998) := w_istore (hm := mm500) dL_law_2996 (Nat.le_of_ble_eq_true rfl)
theorem n500_2998 : Snd mt G 500 2998 (oAload 2 2999) := w_aload_n (hm := mm500) dL_law_2998
theorem n500_2999 : Snd mt G 500 2999 (oCall 1 (fV [4] 281 1) 0 3002 xOut) := s_callV (m' := 281) (n := 0) xsh_out (w_xok0 mm500) (w_cal mm500 mm281 pn_X3 (Nat.le_of_ble_eq_true rfl) (Nat.le_of_ble_eq_true rfl)) (fun h b as hc hn => w_run_V (ci := 3) mm500 mm281 dL_law_2999 (Or.inl (List.mem_singleton.mp hc)) (Nat.le_of_ble_eq_true rfl) vc_3 rfl q2619 q2620 q2621 q150 q2622 pa281 hn)
theorem n500_3002 : Snd mt G 500 3002 (oIload 5 3004) := w_iload (hm := mm500) dL_law_3002
theorem n500_3004 : Snd mt G 500 3004 (oCmpEq 3009 3007) := w_icmp_eq (hm := mm500) dL_law_3004 rfl
theorem n500_3007 : Snd mt G 500 3007 (oConst (.int 0) 3008) := w_iconst (hm := mm500) dL_law_3007 rfl
theorem n500_3008 : Snd mt G 500 3008 (oRetI .boolean) := w_zret (hm := mm500) dL_law_3008 rfl
theorem n500_3009 : Snd mt G 500 3009 (oIload 5 3011) := w_iload (hm := mm500) dL_law_3009
theorem n500_3011 : Snd mt G 500 3011 (oIfEq 3014 3026) := w_if_ne (hm := mm500) dL_law_3011 rfl
theorem n500_3014 : Snd mt G 500 3014 (oAload 3 3015) := w_aload_n (hm := mm500) dL_law_3014
theorem n500_3015 : Snd mt G 500 3015 (oConst (.int 0) 3016) := w_iconst (hm := mm500) dL_law_3015 rfl
theorem n500_3016 : Snd mt G 500 3016 (oAld [102] 3017) := w_laload (hm := mm500) (kt := 2) dL_law_3016 at_2 (Nat.le_of_ble_eq_true rfl) (List.forall_mem_cons.mpr ⟨Or.inl rfl, (fun t ht => nomatch ht)⟩)
theorem n500_3017 : Snd mt G 500 3017 (oIload 6 3019) := w_iload (hm := mm500) dL_law_3017
theorem n500_3019 : Snd mt G 500 3019 (oUn (fun x => .long x.toInt64) 3020) := w_i2l (hm := mm500) dL_law_3019
theorem n500_3020 : Snd mt G 500 3020 (oLbin (fun x y => .int (lg_cmp x y)) 3021) := w_lcmp (hm := mm500) dL_law_3020
theorem n500_3021 : Snd mt G 500 3021 (oIfEq 3026 3024) := w_if_eq (hm := mm500) dL_law_3021 rfl
theorem n500_3024 : Snd mt G 500 3024 (oConst (.int 0) 3025) := w_iconst (hm := mm500) dL_law_3024 rfl
theorem n500_3025 : Snd mt G 500 3025 (oRetI .boolean) := w_zret (hm := mm500) dL_law_3025 rfl
theorem n500_3026 : Snd mt G 500 3026 (oGoto 4258) := w_goto (hm := mm500) dL_law_3026 rfl
theorem n500_3029 : Snd mt G 500 3029 (oAload 1 3030) := w_aload_n (hm := mm500) dL_law_3029
theorem n500_3030 : Snd mt G 500 3030 (oCall 1 (fV [1] 74 3) 0 3033 xOut) := s_callV (m' := 74) (n := 0) xsh_out (w_xok0 mm500) (w_cal mm500 mm74 pn_X1 (Nat.le_of_ble_eq_true rfl) (Nat.le_of_ble_eq_true rfl)) (fun h b as hc hn => w_run_V (ci := 0) mm500 mm74 dL_law_3030 (Or.inl (List.mem_singleton.mp hc)) (Nat.le_of_ble_eq_true rfl) vc_0 rfl q889 q890 q891 q129 q892 pa74 hn)
theorem n500_3033 : Snd mt G 500 3033 (oAload 2 3034) := w_aload_n (hm := mm500) dL_law_3033
theorem n500_3034 : Snd mt G 500 3034 (oCall 1 (fV [4] 382 3) 0 3037 xOut) := s_callV (m' := 382) (n := 0) xsh_out (w_xok0 mm500) (w_cal mm500 mm382 pn_X3 (Nat.le_of_ble_eq_true rfl) (Nat.le_of_ble_eq_true rfl)) (fun h b as hc hn => w_run_V (ci := 3) mm500 mm382 dL_law_3034 (Or.inl (List.mem_singleton.mp hc)) (Nat.le_of_ble_eq_true rfl) vc_3 rfl q3020 q3021 q3022 q150 q3023 pa382 hn)
theorem n500_3037 : Snd mt G 500 3037 (oCmpEq 4258 3040) := w_icmp_eq (hm := mm500) dL_law_3037 rfl
theorem n500_3040 : Snd mt G 500 3040 (oConst (.int 0) 3041) := w_iconst (hm := mm500) dL_law_3040 rfl
theorem n500_3041 : Snd mt G 500 3041 (oRetI .boolean) := w_zret (hm := mm500) dL_law_3041 rfl
theorem n500_3042 : Snd mt G 500 3042 (oAload 1 3043) := w_aload_n (hm := mm500) dL_law_3042
theorem n500_3043 : Snd mt G 500 3043 (oAload 0 3044) := w_aload_n (hm := mm500) dL_law_3043
theorem n500_3044 : Snd mt G 500 3044 (oIload 4 3046) := w_iload (hm := mm500) dL_law_3044
theorem n500_3046 : Snd mt G 500 3046 (oConst (.int 1) 3047) := w_iconst (hm := mm500) dL_law_3046 rfl
theorem n500_3047 : Snd mt G 500 3047 (oBin (fun x y => x + y) 3048) := w_iadd (hm := mm500) dL_law_3047
theorem n500_3048 : Snd mt G 500 3048 (oAld [1100] 3049) := w_iaload (hm := mm500) (kt := 0) dL_law_3048 at_0 (Nat.le_of_ble_eq_true rfl) (List.forall_mem_cons.mpr ⟨Or.inr rfl, (fun t ht => nomatch ht)⟩)
theorem n500_3049 : Snd mt G 500 3049 (oAload 0 3050) := w_aload_n (hm := mm500) dL_law_3049
theorem n500_3050 : Snd mt G 500 3050 (oIload 4 3052) := w_iload (hm := mm500) dL_law_3050
theorem n500_3052 : Snd mt G 500 3052 (oConst (.int 2) 3053) := w_iconst (hm := mm500) dL_law_3052 rfl
theorem n500_3053 : Snd mt G 500 3053 (oBin (fun x y => x + y) 3054) := w_iadd (hm := mm500) dL_law_3053
theorem n500_3054 : Snd mt G 500 3054 (oAld [1100] 3055) := w_iaload (hm := mm500) (kt := 0) dL_law_3054 at_0 (Nat.le_of_ble_eq_true rfl) (List.forall_mem_cons.mpr ⟨Or.inr rfl, (fun t ht => nomatch ht)⟩)
theorem n500_3055 : Snd mt G 500 3055 (oAload 3 3056) := w_aload_n (hm := mm500) dL_law_3055
theorem n500_3056 : Snd mt G 500 3056 (oCall 4 (fS 36 5) 0 3059 xOut) := s_callS (m' := 36) (n := 4) xsh_out (w_xok0 mm500) (w_cal mm500 mm36 pn_X0 (Nat.le_of_ble_eq_true rfl) (Nat.le_of_ble_eq_true rfl)) (fun h as hn => w_run_SX mm500 mm36 dL_law_3056 q2162 q2163 q128 q2164 pa36 hn)
theorem n500_3059 : Snd mt G 500 3059 (oIstore 5 3061) := w_istore (hm := mm500) dL_law_3059 (Nat.le_of_ble_eq_true rfl)
theorem n500_3061 : Snd mt G 500 3061 (oAload 2 3062) := w_aload_n (hm := mm500) dL_law_3061
theorem n500_3062 : Snd mt G 500 3062 (oAload 0 3063) := w_aload_n (hm := mm500) dL_law_3062
theorem n500_3063 : Snd mt G 500 3063 (oIload 4 3065) := w_iload (hm := mm500) dL_law_3063
theorem n500_3065 : Snd mt G 500 3065 (oConst (.int 1) 3066) := w_iconst (hm := mm500) dL_law_3065 rfl
theorem n500_3066 : Snd mt G 500 3066 (oBin (fun x y => x + y) 3067) := w_iadd (hm := mm500) dL_law_3066
theorem n500_3067 : Snd mt G 500 3067 (oAld [1100] 3068) := w_iaload (hm := mm500) (kt := 0) dL_law_3067 at_0 (Nat.le_of_ble_eq_true rfl) (List.forall_mem_cons.mpr ⟨Or.inr rfl, (fun t ht => nomatch ht)⟩)
theorem n500_3068 : Snd mt G 500 3068 (oAload 0 3069) := w_aload_n (hm := mm500) dL_law_3068
theorem n500_3069 : Snd mt G 500 3069 (oIload 4 3071) := w_iload (hm := mm500) dL_law_3069
theorem n500_3071 : Snd mt G 500 3071 (oConst (.int 2) 3072) := w_iconst (hm := mm500) dL_law_3071 rfl
theorem n500_3072 : Snd mt G 500 3072 (oBin (fun x y => x + y) 3073) := w_iadd (hm := mm500) dL_law_3072
theorem n500_3073 : Snd mt G 500 3073 (oAld [1100] 3074) := w_iaload (hm := mm500) (kt := 0) dL_law_3073 at_0 (Nat.le_of_ble_eq_true rfl) (List.forall_mem_cons.mpr ⟨Or.inr rfl, (fun t ht => nomatch ht)⟩)
theorem n500_3074 : Snd mt G 500 3074 (oCall 3 (fV [4] 384 6) 0 3077 xOut) := s_callV (m' := 384) (n := 2) xsh_out (w_xok0 mm500) (w_cal mm500 mm384 pn_X3 (Nat.le_of_ble_eq_true rfl) (Nat.le_of_ble_eq_true rfl)) (fun h b as hc hn => w_run_V (ci := 3) mm500 mm384 dL_law_3074 (Or.inl (List.mem_singleton.mp hc)) (Nat.le_of_ble_eq_true rfl) vc_3 rfl q3028 q3029 q3030 q150 q3031 pa384 hn)
theorem n500_3077 : Snd mt G 500 3077 (oIstore 6 3079) := w_istore (hm := mm500) dL_law_3077 (Nat.le_of_ble_eq_true rfl)
theorem n500_3079 : Snd mt G 500 3079 (oAload 2 3080) := w_aload_n (hm := mm500) dL_law_3079
theorem n500_3080 : Snd mt G 500 3080 (oCall 1 (fV [4] 281 1) 0 3083 xOut) := s_callV (m' := 281) (n := 0) xsh_out (w_xok0 mm500) (w_cal mm500 mm281 pn_X3 (Nat.le_of_ble_eq_true rfl) (Nat.le_of_ble_eq_true rfl)) (fun h b as hc hn => w_run_V (ci := 3) mm500 mm281 dL_law_3080 (Or.inl (List.mem_singleton.mp hc)) (Nat.le_of_ble_eq_true rfl) vc_3 rfl q2619 q2620 q2621 q150 q2622 pa281 hn)
theorem n500_3083 : Snd mt G 500 3083 (oIload 5 3085) := w_iload (hm := mm500) dL_law_3083
theorem n500_3085 : Snd mt G 500 3085 (oCmpEq 3090 3088) := w_icmp_eq (hm := mm500) dL_law_3085 rfl
theorem n500_3088 : Snd mt G 500 3088 (oConst (.int 0) 3089) := w_iconst (hm := mm500) dL_law_3088 rfl
theorem n500_3089 : Snd mt G 500 3089 (oRetI .boolean) := w_zret (hm := mm500) dL_law_3089 rfl
theorem n500_3090 : Snd mt G 500 3090 (oIload 5 3092) := w_iload (hm := mm500) dL_law_3090
theorem n500_3092 : Snd mt G 500 3092 (oIfEq 3095 3107) := w_if_ne (hm := mm500) dL_law_3092 rfl
theorem n500_3095 : Snd mt G 500 3095 (oAload 3 3096) := w_aload_n (hm := mm500) dL_law_3095
theorem n500_3096 : Snd mt G 500 3096 (oConst (.int 0) 3097) := w_iconst (hm := mm500) dL_law_3096 rfl
theorem n500_3097 : Snd mt G 500 3097 (oAld [102] 3098) := w_laload (hm := mm500) (kt := 2) dL_law_3097 at_2 (Nat.le_of_ble_eq_true rfl) (List.forall_mem_cons.mpr ⟨Or.inl rfl, (fun t ht => nomatch ht)⟩)
theorem n500_3098 : Snd mt G 500 3098 (oIload 6 3100) := w_iload (hm := mm500) dL_law_3098
theorem n500_3100 : Snd mt G 500 3100 (oUn (fun x => .long x.toInt64) 3101) := w_i2l (hm := mm500) dL_law_3100
theorem n500_3101 : Snd mt G 500 3101 (oLbin (fun x y => .int (lg_cmp x y)) 3102) := w_lcmp (hm := mm500) dL_law_3101
theorem n500_3102 : Snd mt G 500 3102 (oIfEq 3107 3105) := w_if_eq (hm := mm500) dL_law_3102 rfl
theorem n500_3105 : Snd mt G 500 3105 (oConst (.int 0) 3106) := w_iconst (hm := mm500) dL_law_3105 rfl
theorem n500_3106 : Snd mt G 500 3106 (oRetI .boolean) := w_zret (hm := mm500) dL_law_3106 rfl
theorem n500_3107 : Snd mt G 500 3107 (oGoto 4258) := w_goto (hm := mm500) dL_law_3107 rfl
theorem n500_3110 : Snd mt G 500 3110 (oAload 1 3111) := w_aload_n (hm := mm500) dL_law_3110
theorem n500_3111 : Snd mt G 500 3111 (oAload 0 3112) := w_aload_n (hm := mm500) dL_law_3111
theorem n500_3112 : Snd mt G 500 3112 (oIload 4 3114) := w_iload (hm := mm500) dL_law_3112
theorem n500_3114 : Snd mt G 500 3114 (oConst (.int 1) 3115) := w_iconst (hm := mm500) dL_law_3114 rfl
theorem n500_3115 : Snd mt G 500 3115 (oBin (fun x y => x + y) 3116) := w_iadd (hm := mm500) dL_law_3115
theorem n500_3116 : Snd mt G 500 3116 (oAld [1100] 3117) := w_iaload (hm := mm500) (kt := 0) dL_law_3116 at_0 (Nat.le_of_ble_eq_true rfl) (List.forall_mem_cons.mpr ⟨Or.inr rfl, (fun t ht => nomatch ht)⟩)
theorem n500_3117 : Snd mt G 500 3117 (oAload 0 3118) := w_aload_n (hm := mm500) dL_law_3117
theorem n500_3118 : Snd mt G 500 3118 (oIload 4 3120) := w_iload (hm := mm500) dL_law_3118
theorem n500_3120 : Snd mt G 500 3120 (oConst (.int 2) 3121) := w_iconst (hm := mm500) dL_law_3120 rfl
theorem n500_3121 : Snd mt G 500 3121 (oBin (fun x y => x + y) 3122) := w_iadd (hm := mm500) dL_law_3121
theorem n500_3122 : Snd mt G 500 3122 (oAld [1100] 3123) := w_iaload (hm := mm500) (kt := 0) dL_law_3122 at_0 (Nat.le_of_ble_eq_true rfl) (List.forall_mem_cons.mpr ⟨Or.inr rfl, (fun t ht => nomatch ht)⟩)
theorem n500_3123 : Snd mt G 500 3123 (oAload 0 3124) := w_aload_n (hm := mm500) dL_law_3123
theorem n500_3124 : Snd mt G 500 3124 (oIload 4 3126) := w_iload (hm := mm500) dL_law_3124
theorem n500_3126 : Snd mt G 500 3126 (oConst (.int 3) 3127) := w_iconst (hm := mm500) dL_law_3126 rfl
theorem n500_3127 : Snd mt G 500 3127 (oBin (fun x y => x + y) 3128) := w_iadd (hm := mm500) dL_law_3127
theorem n500_3128 : Snd mt G 500 3128 (oAld [1100] 3129) := w_iaload (hm := mm500) (kt := 0) dL_law_3128 at_0 (Nat.le_of_ble_eq_true rfl) (List.forall_mem_cons.mpr ⟨Or.inr rfl, (fun t ht => nomatch ht)⟩)
theorem n500_3129 : Snd mt G 500 3129 (oAload 3 3130) := w_aload_n (hm := mm500) dL_law_3129
theorem n500_3130 : Snd mt G 500 3130 (oCall 5 (fS 37 6) 0 3133 xOut) := s_callS (m' := 37) (n := 5) xsh_out (w_xok0 mm500) (w_cal mm500 mm37 pn_X0 (Nat.le_of_ble_eq_true rfl) (Nat.le_of_ble_eq_true rfl)) (fun h as hn => w_run_SX mm500 mm37 dL_law_3130 q2169 q2170 q128 q2171 pa37 hn)
theorem n500_3133 : Snd mt G 500 3133 (oIstore 5 3135) := w_istore (hm := mm500) dL_law_3133 (Nat.le_of_ble_eq_true rfl)
theorem n500_3135 : Snd mt G 500 3135 (oAload 2 3136) := w_aload_n (hm := mm500) dL_law_3135
theorem n500_3136 : Snd mt G 500 3136 (oAload 0 3137) := w_aload_n (hm := mm500) dL_law_3136
theorem n500_3137 : Snd mt G 500 3137 (oIload 4 3139) := w_iload (hm := mm500) dL_law_3137
theorem n500_3139 : Snd mt G 500 3139 (oConst (.int 1) 3140) := w_iconst (hm := mm500) dL_law_3139 rfl
theorem n500_3140 : Snd mt G 500 3140 (oBin (fun x y => x + y) 3141) := w_iadd (hm := mm500) dL_law_3140
theorem n500_3141 : Snd mt G 500 3141 (oAld [1100] 3142) := w_iaload (hm := mm500) (kt := 0) dL_law_3141 at_0 (Nat.le_of_ble_eq_true rfl) (List.forall_mem_cons.mpr ⟨Or.inr rfl, (fun t ht => nomatch ht)⟩)
theorem n500_3142 : Snd mt G 500 3142 (oAload 0 3143) := w_aload_n (hm := mm500) dL_law_3142
theorem n500_3143 : Snd mt G 500 3143 (oIload 4 3145) := w_iload (hm := mm500) dL_law_3143
theorem n500_3145 : Snd mt G 500 3145 (oConst (.int 2) 3146) := w_iconst (hm := mm500) dL_law_3145 rfl
theorem n500_3146 : Snd mt G 500 3146 (oBin (fun x y => x + y) 3147) := w_iadd (hm := mm500) dL_law_3146
theorem n500_3147 : Snd mt G 500 3147 (oAld [1100] 3148) := w_iaload (hm := mm500) (kt := 0) dL_law_3147 at_0 (Nat.le_of_ble_eq_true rfl) (List.forall_mem_cons.mpr ⟨Or.inr rfl, (fun t ht => nomatch ht)⟩)
theorem n500_3148 : Snd mt G 500 3148 (oAload 0 3149) := w_aload_n (hm := mm500) dL_law_3148
theorem n500_3149 : Snd mt G 500 3149 (oIload 4 3151) := w_iload (hm := mm500) dL_law_3149
theorem n500_3151 : Snd mt G 500 3151 (oConst (.int 3) 3152) := w_iconst (hm := mm500) dL_law_3151 rfl
theorem n500_3152 : Snd mt G 500 3152 (oBin (fun x y => x + y) 3153) := w_iadd (hm := mm500) dL_law_3152
theorem n500_3153 : Snd mt G 500 3153 (oAld [1100] 3154) := w_iaload (hm := mm500) (kt := 0) dL_law_3153 at_0 (Nat.le_of_ble_eq_true rfl) (List.forall_mem_cons.mpr ⟨Or.inr rfl, (fun t ht => nomatch ht)⟩)
theorem n500_3154 : Snd mt G 500 3154 (oCall 4 (fV [4] 385 5) 0 3157 xOut) := s_callV (m' := 385) (n := 3) xsh_out (w_xok0 mm500) (w_cal mm500 mm385 pn_X3 (Nat.le_of_ble_eq_true rfl) (Nat.le_of_ble_eq_true rfl)) (fun h b as hc hn => w_run_V (ci := 3) mm500 mm385 dL_law_3154 (Or.inl (List.mem_singleton.mp hc)) (Nat.le_of_ble_eq_true rfl) vc_3 rfl q3032 q3033 q3034 q150 q3035 pa385 hn)
theorem n500_3157 : Snd mt G 500 3157 (oIstore 6 3159) := w_istore (hm := mm500) dL_law_3157 (Nat.le_of_ble_eq_true rfl)
theorem n500_3159 : Snd mt G 500 3159 (oAload 2 3160) := w_aload_n (hm := mm500) dL_law_3159
theorem n500_3160 : Snd mt G 500 3160 (oCall 1 (fV [4] 281 1) 0 3163 xOut) := s_callV (m' := 281) (n := 0) xsh_out (w_xok0 mm500) (w_cal mm500 mm281 pn_X3 (Nat.le_of_ble_eq_true rfl) (Nat.le_of_ble_eq_true rfl)) (fun h b as hc hn => w_run_V (ci := 3) mm500 mm281 dL_law_3160 (Or.inl (List.mem_singleton.mp hc)) (Nat.le_of_ble_eq_true rfl) vc_3 rfl q2619 q2620 q2621 q150 q2622 pa281 hn)
theorem n500_3163 : Snd mt G 500 3163 (oIload 5 3165) := w_iload (hm := mm500) dL_law_3163
theorem n500_3165 : Snd mt G 500 3165 (oCmpEq 3170 3168) := w_icmp_eq (hm := mm500) dL_law_3165 rfl
theorem n500_3168 : Snd mt G 500 3168 (oConst (.int 0) 3169) := w_iconst (hm := mm500) dL_law_3168 rfl
theorem n500_3169 : Snd mt G 500 3169 (oRetI .boolean) := w_zret (hm := mm500) dL_law_3169 rfl
theorem n500_3170 : Snd mt G 500 3170 (oIload 5 3172) := w_iload (hm := mm500) dL_law_3170
theorem n500_3172 : Snd mt G 500 3172 (oIfEq 3175 3187) := w_if_ne (hm := mm500) dL_law_3172 rfl
theorem n500_3175 : Snd mt G 500 3175 (oAload 3 3176) := w_aload_n (hm := mm500) dL_law_3175
theorem n500_3176 : Snd mt G 500 3176 (oConst (.int 0) 3177) := w_iconst (hm := mm500) dL_law_3176 rfl
theorem n500_3177 : Snd mt G 500 3177 (oAld [102] 3178) := w_laload (hm := mm500) (kt := 2) dL_law_3177 at_2 (Nat.le_of_ble_eq_true rfl) (List.forall_mem_cons.mpr ⟨Or.inl rfl, (fun t ht => nomatch ht)⟩)
theorem n500_3178 : Snd mt G 500 3178 (oIload 6 3180) := w_iload (hm := mm500) dL_law_3178
theorem n500_3180 : Snd mt G 500 3180 (oUn (fun x => .long x.toInt64) 3181) := w_i2l (hm := mm500) dL_law_3180
theorem n500_3181 : Snd mt G 500 3181 (oLbin (fun x y => .int (lg_cmp x y)) 3182) := w_lcmp (hm := mm500) dL_law_3181
theorem n500_3182 : Snd mt G 500 3182 (oIfEq 3187 3185) := w_if_eq (hm := mm500) dL_law_3182 rfl
theorem n500_3185 : Snd mt G 500 3185 (oConst (.int 0) 3186) := w_iconst (hm := mm500) dL_law_3185 rfl
theorem n500_3186 : Snd mt G 500 3186 (oRetI .boolean) := w_zret (hm := mm500) dL_law_3186 rfl
theorem n500_3187 : Snd mt G 500 3187 (oGoto 4258) := w_goto (hm := mm500) dL_law_3187 rfl
theorem n500_3190 : Snd mt G 500 3190 (oAload 1 3191) := w_aload_n (hm := mm500) dL_law_3190
theorem n500_3191 : Snd mt G 500 3191 (oAload 0 3192) := w_aload_n (hm := mm500) dL_law_3191
theorem n500_3192 : Snd mt G 500 3192 (oIload 4 3194) := w_iload (hm := mm500) dL_law_3192
theorem n500_3194 : Snd mt G 500 3194 (oConst (.int 1) 3195) := w_iconst (hm := mm500) dL_law_3194 rfl
theorem n500_3195 : Snd mt G 500 3195 (oBin (fun x y => x + y) 3196) := w_iadd (hm := mm500) dL_law_3195
theorem n500_3196 : Snd mt G 500 3196 (oAld [1100] 3197) := w_iaload (hm := mm500) (kt := 0) dL_law_3196 at_0 (Nat.le_of_ble_eq_true rfl) (List.forall_mem_cons.mpr ⟨Or.inr rfl, (fun t ht => nomatch ht)⟩)
theorem n500_3197 : Snd mt G 500 3197 (oAload 0 3198) := w_aload_n (hm := mm500) dL_law_3197
theorem n500_3198 : Snd mt G 500 3198 (oIload 4 3200) := w_iload (hm := mm500) dL_law_3198
theorem n500_3200 : Snd mt G 500 3200 (oConst (.int 2) 3201) := w_iconst (hm := mm500) dL_law_3200 rfl
theorem n500_3201 : Snd mt G 500 3201 (oBin (fun x y => x + y) 3202) := w_iadd (hm := mm500) dL_law_3201
theorem n500_3202 : Snd mt G 500 3202 (oAld [1100] 3203) := w_iaload (hm := mm500) (kt := 0) dL_law_3202 at_0 (Nat.le_of_ble_eq_true rfl) (List.forall_mem_cons.mpr ⟨Or.inr rfl, (fun t ht => nomatch ht)⟩)
theorem n500_3203 : Snd mt G 500 3203 (oAload 3 3204) := w_aload_n (hm := mm500) dL_law_3203
theorem n500_3204 : Snd mt G 500 3204 (oCall 4 (fS 38 5) 0 3207 xOut) := s_callS (m' := 38) (n := 4) xsh_out (w_xok0 mm500) (w_cal mm500 mm38 pn_X0 (Nat.le_of_ble_eq_true rfl) (Nat.le_of_ble_eq_true rfl)) (fun h as hn => w_run_SX mm500 mm38 dL_law_3204 q2199 q2200 q128 q2201 pa38 hn)
theorem n500_3207 : Snd mt G 500 3207 (oIstore 5 3209) := w_istore (hm := mm500) dL_law_3207 (Nat.le_of_ble_eq_true rfl)
theorem n500_3209 : Snd mt G 500 3209 (oAload 2 3210) := w_aload_n (hm := mm500) dL_law_3209
theorem n500_3210 : Snd mt G 500 3210 (oAload 0 3211) := w_aload_n (hm := mm500) dL_law_3210
theorem n500_3211 : Snd mt G 500 3211 (oIload 4 3213) := w_iload (hm := mm500) dL_law_3211
theorem n500_3213 : Snd mt G 500 3213 (oConst (.int 1) 3214) := w_iconst (hm := mm500) dL_law_3213 rfl
theorem n500_3214 : Snd mt G 500 3214 (oBin (fun x y => x + y) 3215) := w_iadd (hm := mm500) dL_law_3214
theorem n500_3215 : Snd mt G 500 3215 (oAld [1100] 3216) := w_iaload (hm := mm500) (kt := 0) dL_law_3215 at_0 (Nat.le_of_ble_eq_true rfl) (List.forall_mem_cons.mpr ⟨Or.inr rfl, (fun t ht => nomatch ht)⟩)
theorem n500_3216 : Snd mt G 500 3216 (oAload 0 3217) := w_aload_n (hm := mm500) dL_law_3216
theorem n500_3217 : Snd mt G 500 3217 (oIload 4 3219) := w_iload (hm := mm500) dL_law_3217
theorem n500_3219 : Snd mt G 500 3219 (oConst (.int 2) 3220) := w_iconst (hm := mm500) dL_law_3219 rfl
theorem n500_3220 : Snd mt G 500 3220 (oBin (fun x y => x + y) 3221) := w_iadd (hm := mm500) dL_law_3220
theorem n500_3221 : Snd mt G 500 3221 (oAld [1100] 3222) := w_iaload (hm := mm500) (kt := 0) dL_law_3221 at_0 (Nat.le_of_ble_eq_true rfl) (List.forall_mem_cons.mpr ⟨Or.inr rfl, (fun t ht => nomatch ht)⟩)
theorem n500_3222 : Snd mt G 500 3222 (oCall 3 (fV [4] 387 3) 0 3225 xOut) := s_callV (m' := 387) (n := 2) xsh_out (w_xok0 mm500) (w_cal mm500 mm387 pn_X3 (Nat.le_of_ble_eq_true rfl) (Nat.le_of_ble_eq_true rfl)) (fun h b as hc hn => w_run_V (ci := 3) mm500 mm387 dL_law_3222 (Or.inl (List.mem_singleton.mp hc)) (Nat.le_of_ble_eq_true rfl) vc_3 rfl q3040 q3041 q3042 q150 q3043 pa387 hn)
theorem n500_3225 : Snd mt G 500 3225 (oIstore 6 3227) := w_istore (hm := mm500) dL_law_3225 (Nat.le_of_ble_eq_true rfl)
theorem n500_3227 : Snd mt G 500 3227 (oAload 2 3228) := w_aload_n (hm := mm500) dL_law_3227
theorem n500_3228 : Snd mt G 500 3228 (oCall 1 (fV [4] 281 1) 0 3231 xOut) := s_callV (m' := 281) (n := 0) xsh_out (w_xok0 mm500) (w_cal mm500 mm281 pn_X3 (Nat.le_of_ble_eq_true rfl) (Nat.le_of_ble_eq_true rfl)) (fun h b as hc hn => w_run_V (ci := 3) mm500 mm281 dL_law_3228 (Or.inl (List.mem_singleton.mp hc)) (Nat.le_of_ble_eq_true rfl) vc_3 rfl q2619 q2620 q2621 q150 q2622 pa281 hn)
theorem n500_3231 : Snd mt G 500 3231 (oIload 5 3233) := w_iload (hm := mm500) dL_law_3231
theorem n500_3233 : Snd mt G 500 3233 (oCmpEq 3238 3236) := w_icmp_eq (hm := mm500) dL_law_3233 rfl
theorem n500_3236 : Snd mt G 500 3236 (oConst (.int 0) 3237) := w_iconst (hm := mm500) dL_law_3236 rfl
theorem n500_3237 : Snd mt G 500 3237 (oRetI .boolean) := w_zret (hm := mm500) dL_law_3237 rfl
theorem n500_3238 : Snd mt G 500 3238 (oIload 5 3240) := w_iload (hm := mm500) dL_law_3238
theorem n500_3240 : Snd mt G 500 3240 (oIfEq 3243 3255) := w_if_ne (hm := mm500) dL_law_3240 rfl
theorem n500_3243 : Snd mt G 500 3243 (oAload 3 3244) := w_aload_n (hm := mm500) dL_law_3243
theorem n500_3244 : Snd mt G 500 3244 (oConst (.int 0) 3245) := w_iconst (hm := mm500) dL_law_3244 rfl
theorem n500_3245 : Snd mt G 500 3245 (oAld [102] 3246) := w_laload (hm := mm500) (kt := 2) dL_law_3245 at_2 (Nat.le_of_ble_eq_true rfl) (List.forall_mem_cons.mpr ⟨Or.inl rfl, (fun t ht => nomatch ht)⟩)
theorem n500_3246 : Snd mt G 500 3246 (oIload 6 3248) := w_iload (hm := mm500) dL_law_3246
theorem n500_3248 : Snd mt G 500 3248 (oUn (fun x => .long x.toInt64) 3249) := w_i2l (hm := mm500) dL_law_3248
theorem n500_3249 : Snd mt G 500 3249 (oLbin (fun x y => .int (lg_cmp x y)) 3250) := w_lcmp (hm := mm500) dL_law_3249
theorem n500_3250 : Snd mt G 500 3250 (oIfEq 3255 3253) := w_if_eq (hm := mm500) dL_law_3250 rfl
theorem n500_3253 : Snd mt G 500 3253 (oConst (.int 0) 3254) := w_iconst (hm := mm500) dL_law_3253 rfl
theorem n500_3254 : Snd mt G 500 3254 (oRetI .boolean) := w_zret (hm := mm500) dL_law_3254 rfl
theorem n500_3255 : Snd mt G 500 3255 (oGoto 4258) := w_goto (hm := mm500) dL_law_3255 rfl
theorem n500_3258 : Snd mt G 500 3258 (oAload 1 3259) := w_aload_n (hm := mm500) dL_law_3258
theorem n500_3259 : Snd mt G 500 3259 (oAload 0 3260) := w_aload_n (hm := mm500) dL_law_3259
theorem n500_3260 : Snd mt G 500 3260 (oIload 4 3262) := w_iload (hm := mm500) dL_law_3260
theorem n500_3262 : Snd mt G 500 3262 (oConst (.int 1) 3263) := w_iconst (hm := mm500) dL_law_3262 rfl
theorem n500_3263 : Snd mt G 500 3263 (oBin (fun x y => x + y) 3264) := w_iadd (hm := mm500) dL_law_3263
theorem n500_3264 : Snd mt G 500 3264 (oAld [1100] 3265) := w_iaload (hm := mm500) (kt := 0) dL_law_3264 at_0 (Nat.le_of_ble_eq_true rfl) (List.forall_mem_cons.mpr ⟨Or.inr rfl, (fun t ht => nomatch ht)⟩)
theorem n500_3265 : Snd mt G 500 3265 (oAload 0 3266) := w_aload_n (hm := mm500) dL_law_3265
theorem n500_3266 : Snd mt G 500 3266 (oIload 4 3268) := w_iload (hm := mm500) dL_law_3266
theorem n500_3268 : Snd mt G 500 3268 (oConst (.int 2) 3269) := w_iconst (hm := mm500) dL_law_3268 rfl
theorem n500_3269 : Snd mt G 500 3269 (oBin (fun x y => x + y) 3270) := w_iadd (hm := mm500) dL_law_3269
theorem n500_3270 : Snd mt G 500 3270 (oAld [1100] 3271) := w_iaload (hm := mm500) (kt := 0) dL_law_3270 at_0 (Nat.le_of_ble_eq_true rfl) (List.forall_mem_cons.mpr ⟨Or.inr rfl, (fun t ht => nomatch ht)⟩)
theorem n500_3271 : Snd mt G 500 3271 (oAload 0 3272) := w_aload_n (hm := mm500) dL_law_3271
theorem n500_3272 : Snd mt G 500 3272 (oIload 4 3274) := w_iload (hm := mm500) dL_law_3272
theorem n500_3274 : Snd mt G 500 3274 (oConst (.int 3) 3275) := w_iconst (hm := mm500) dL_law_3274 rfl
theorem n500_3275 : Snd mt G 500 3275 (oBin (fun x y => x + y) 3276) := w_iadd (hm := mm500) dL_law_3275
theorem n500_3276 : Snd mt G 500 3276 (oAld [1100] 3277) := w_iaload (hm := mm500) (kt := 0) dL_law_3276 at_0 (Nat.le_of_ble_eq_true rfl) (List.forall_mem_cons.mpr ⟨Or.inr rfl, (fun t ht => nomatch ht)⟩)
theorem n500_3277 : Snd mt G 500 3277 (oIfEq 3284 3280) := w_if_eq (hm := mm500) dL_law_3277 rfl
theorem n500_3280 : Snd mt G 500 3280 (oConst (.int 1) 3281) := w_iconst (hm := mm500) dL_law_3280 rfl
theorem n500_3281 : Snd mt G 500 3281 (oGoto 3285) := w_goto (hm := mm500) dL_law_3281 rfl
theorem n500_3284 : Snd mt G 500 3284 (oConst (.int 0) 3285) := w_iconst (hm := mm500) dL_law_3284 rfl
theorem n500_3285 : Snd mt G 500 3285 (oAload 3 3286) := w_aload_n (hm := mm500) dL_law_3285
theorem n500_3286 : Snd mt G 500 3286 (oCall 5 (fS 39 6) 0 3289 xOut) := s_callS (m' := 39) (n := 5) xsh_out (w_xok0 mm500) (w_cal mm500 mm39 pn_X0 (Nat.le_of_ble_eq_true rfl) (Nat.le_of_ble_eq_true rfl)) (fun h as hn => w_run_SX mm500 mm39 dL_law_3286 q2242 q2243 q128 q2244 pa39 hn)
theorem n500_3289 : Snd mt G 500 3289 (oIstore 5 3291) := w_istore (hm := mm500) dL_law_3289 (Nat.le_of_ble_eq_true rfl)
theorem n500_3291 : Snd mt G 500 3291 (oAload 2 3292) := w_aload_n (hm := mm500) dL_law_3291
theorem n500_3292 : Snd mt G 500 3292 (oAload 0 3293) := w_aload_n (hm := mm500) dL_law_3292
theorem n500_3293 : Snd mt G 500 3293 (oIload 4 3295) := w_iload (hm := mm500) dL_law_3293
theorem n500_3295 : Snd mt G 500 3295 (oConst (.int 1) 3296) := w_iconst (hm := mm500) dL_law_3295 rfl
theorem n500_3296 : Snd mt G 500 3296 (oBin (fun x y => x + y) 3297) := w_iadd (hm := mm500) dL_law_3296
theorem n500_3297 : Snd mt G 500 3297 (oAld [1100] 3298) := w_iaload (hm := mm500) (kt := 0) dL_law_3297 at_0 (Nat.le_of_ble_eq_true rfl) (List.forall_mem_cons.mpr ⟨Or.inr rfl, (fun t ht => nomatch ht)⟩)
theorem n500_3298 : Snd mt G 500 3298 (oAload 0 3299) := w_aload_n (hm := mm500) dL_law_3298
theorem n500_3299 : Snd mt G 500 3299 (oIload 4 3301) := w_iload (hm := mm500) dL_law_3299
theorem n500_3301 : Snd mt G 500 3301 (oConst (.int 2) 3302) := w_iconst (hm := mm500) dL_law_3301 rfl
theorem n500_3302 : Snd mt G 500 3302 (oBin (fun x y => x + y) 3303) := w_iadd (hm := mm500) dL_law_3302
theorem n500_3303 : Snd mt G 500 3303 (oAld [1100] 3304) := w_iaload (hm := mm500) (kt := 0) dL_law_3303 at_0 (Nat.le_of_ble_eq_true rfl) (List.forall_mem_cons.mpr ⟨Or.inr rfl, (fun t ht => nomatch ht)⟩)
theorem n500_3304 : Snd mt G 500 3304 (oAload 0 3305) := w_aload_n (hm := mm500) dL_law_3304
theorem n500_3305 : Snd mt G 500 3305 (oIload 4 3307) := w_iload (hm := mm500) dL_law_3305
theorem n500_3307 : Snd mt G 500 3307 (oConst (.int 3) 3308) := w_iconst (hm := mm500) dL_law_3307 rfl
theorem n500_3308 : Snd mt G 500 3308 (oBin (fun x y => x + y) 3309) := w_iadd (hm := mm500) dL_law_3308
theorem n500_3309 : Snd mt G 500 3309 (oAld [1100] 3310) := w_iaload (hm := mm500) (kt := 0) dL_law_3309 at_0 (Nat.le_of_ble_eq_true rfl) (List.forall_mem_cons.mpr ⟨Or.inr rfl, (fun t ht => nomatch ht)⟩)
theorem n500_3310 : Snd mt G 500 3310 (oIfEq 3317 3313) := w_if_eq (hm := mm500) dL_law_3310 rfl
theorem n500_3313 : Snd mt G 500 3313 (oConst (.int 1) 3314) := w_iconst (hm := mm500) dL_law_3313 rfl
theorem n500_3314 : Snd mt G 500 3314 (oGoto 3318) := w_goto (hm := mm500) dL_law_3314 rfl
theorem n500_3317 : Snd mt G 500 3317 (oConst (.int 0) 3318) := w_iconst (hm := mm500) dL_law_3317 rfl
theorem n500_3318 : Snd mt G 500 3318 (oCall 4 (fV [4] 391 4) 0 3321 xOut) := s_callV (m' := 391) (n := 3) xsh_out (w_xok0 mm500) (w_cal mm500 mm391 pn_X3 (Nat.le_of_ble_eq_true rfl) (Nat.le_of_ble_eq_true rfl)) (fun h b as hc hn => w_run_V (ci := 3) mm500 mm391 dL_law_3318 (Or.inl (List.mem_singleton.mp hc)) (Nat.le_of_ble_eq_true rfl) vc_3 rfl q3056 q3057 q3058 q150 q3059 pa391 hn)
theorem n500_3321 : Snd mt G 500 3321 (oIstore 6 3323) := w_istore (hm := mm500) dL_law_3321 (Nat.le_of_ble_eq_true rfl)
theorem n500_3323 : Snd mt G 500 3323 (oAload 2 3324) := w_aload_n (hm := mm500) dL_law_3323
theorem n500_3324 : Snd mt G 500 3324 (oCall 1 (fV [4] 281 1) 0 3327 xOut) := s_callV (m' := 281) (n := 0) xsh_out (w_xok0 mm500) (w_cal mm500 mm281 pn_X3 (Nat.le_of_ble_eq_true rfl) (Nat.le_of_ble_eq_true rfl)) (fun h b as hc hn => w_run_V (ci := 3) mm500 mm281 dL_law_3324 (Or.inl (List.mem_singleton.mp hc)) (Nat.le_of_ble_eq_true rfl) vc_3 rfl q2619 q2620 q2621 q150 q2622 pa281 hn)
theorem n500_3327 : Snd mt G 500 3327 (oIload 5 3329) := w_iload (hm := mm500) dL_law_3327
theorem n500_3329 : Snd mt G 500 3329 (oCmpEq 3334 3332) := w_icmp_eq (hm := mm500) dL_law_3329 rfl
theorem n500_3332 : Snd mt G 500 3332 (oConst (.int 0) 3333) := w_iconst (hm := mm500) dL_law_3332 rfl
theorem n500_3333 : Snd mt G 500 3333 (oRetI .boolean) := w_zret (hm := mm500) dL_law_3333 rfl
theorem n500_3334 : Snd mt G 500 3334 (oIload 5 3336) := w_iload (hm := mm500) dL_law_3334
theorem n500_3336 : Snd mt G 500 3336 (oIfEq 3339 3351) := w_if_ne (hm := mm500) dL_law_3336 rfl
theorem n500_3339 : Snd mt G 500 3339 (oAload 3 3340) := w_aload_n (hm := mm500) dL_law_3339
theorem n500_3340 : Snd mt G 500 3340 (oConst (.int 0) 3341) := w_iconst (hm := mm500) dL_law_3340 rfl
theorem n500_3341 : Snd mt G 500 3341 (oAld [102] 3342) := w_laload (hm := mm500) (kt := 2) dL_law_3341 at_2 (Nat.le_of_ble_eq_true rfl) (List.forall_mem_cons.mpr ⟨Or.inl rfl, (fun t ht => nomatch ht)⟩)
theorem n500_3342 : Snd mt G 500 3342 (oIload 6 3344) := w_iload (hm := mm500) dL_law_3342
theorem n500_3344 : Snd mt G 500 3344 (oUn (fun x => .long x.toInt64) 3345) := w_i2l (hm := mm500) dL_law_3344
theorem n500_3345 : Snd mt G 500 3345 (oLbin (fun x y => .int (lg_cmp x y)) 3346) := w_lcmp (hm := mm500) dL_law_3345
theorem n500_3346 : Snd mt G 500 3346 (oIfEq 3351 3349) := w_if_eq (hm := mm500) dL_law_3346 rfl
theorem n500_3349 : Snd mt G 500 3349 (oConst (.int 0) 3350) := w_iconst (hm := mm500) dL_law_3349 rfl
theorem n500_3350 : Snd mt G 500 3350 (oRetI .boolean) := w_zret (hm := mm500) dL_law_3350 rfl
theorem n500_3351 : Snd mt G 500 3351 (oGoto 4258) := w_goto (hm := mm500) dL_law_3351 rfl
theorem n500_3354 : Snd mt G 500 3354 (oAload 1 3355) := w_aload_n (hm := mm500) dL_law_3354
theorem n500_3355 : Snd mt G 500 3355 (oAload 0 3356) := w_aload_n (hm := mm500) dL_law_3355
theorem n500_3356 : Snd mt G 500 3356 (oIload 4 3358) := w_iload (hm := mm500) dL_law_3356
theorem n500_3358 : Snd mt G 500 3358 (oConst (.int 1) 3359) := w_iconst (hm := mm500) dL_law_3358 rfl
theorem n500_3359 : Snd mt G 500 3359 (oBin (fun x y => x + y) 3360) := w_iadd (hm := mm500) dL_law_3359
theorem n500_3360 : Snd mt G 500 3360 (oAld [1100] 3361) := w_iaload (hm := mm500) (kt := 0) dL_law_3360 at_0 (Nat.le_of_ble_eq_true rfl) (List.forall_mem_cons.mpr ⟨Or.inr rfl, (fun t ht => nomatch ht)⟩)
theorem n500_3361 : Snd mt G 500 3361 (oAload 0 3362) := w_aload_n (hm := mm500) dL_law_3361
theorem n500_3362 : Snd mt G 500 3362 (oIload 4 3364) := w_iload (hm := mm500) dL_law_3362
theorem n500_3364 : Snd mt G 500 3364 (oConst (.int 2) 3365) := w_iconst (hm := mm500) dL_law_3364 rfl
theorem n500_3365 : Snd mt G 500 3365 (oBin (fun x y => x + y) 3366) := w_iadd (hm := mm500) dL_law_3365
theorem n500_3366 : Snd mt G 500 3366 (oAld [1100] 3367) := w_iaload (hm := mm500) (kt := 0) dL_law_3366 at_0 (Nat.le_of_ble_eq_true rfl) (List.forall_mem_cons.mpr ⟨Or.inr rfl, (fun t ht => nomatch ht)⟩)
theorem n500_3367 : Snd mt G 500 3367 (oAload 0 3368) := w_aload_n (hm := mm500) dL_law_3367
theorem n500_3368 : Snd mt G 500 3368 (oIload 4 3370) := w_iload (hm := mm500) dL_law_3368
theorem n500_3370 : Snd mt G 500 3370 (oConst (.int 3) 3371) := w_iconst (hm := mm500) dL_law_3370 rfl
theorem n500_3371 : Snd mt G 500 3371 (oBin (fun x y => x + y) 3372) := w_iadd (hm := mm500) dL_law_3371
theorem n500_3372 : Snd mt G 500 3372 (oAld [1100] 3373) := w_iaload (hm := mm500) (kt := 0) dL_law_3372 at_0 (Nat.le_of_ble_eq_true rfl) (List.forall_mem_cons.mpr ⟨Or.inr rfl, (fun t ht => nomatch ht)⟩)
theorem n500_3373 : Snd mt G 500 3373 (oAload 3 3374) := w_aload_n (hm := mm500) dL_law_3373
theorem n500_3374 : Snd mt G 500 3374 (oCall 5 (fS 40 6) 0 3377 xOut) := s_callS (m' := 40) (n := 5) xsh_out (w_xok0 mm500) (w_cal mm500 mm40 pn_X0 (Nat.le_of_ble_eq_true rfl) (Nat.le_of_ble_eq_true rfl)) (fun h as hn => w_run_SX mm500 mm40 dL_law_3374 q2257 q2258 q128 q2259 pa40 hn)
theorem n500_3377 : Snd mt G 500 3377 (oIstore 5 3379) := w_istore (hm := mm500) dL_law_3377 (Nat.le_of_ble_eq_true rfl)
theorem n500_3379 : Snd mt G 500 3379 (oAload 2 3380) := w_aload_n (hm := mm500) dL_law_3379
theorem n500_3380 : Snd mt G 500 3380 (oAload 0 3381) := w_aload_n (hm := mm500) dL_law_3380
theorem n500_3381 : Snd mt G 500 3381 (oIload 4 3383) := w_iload (hm := mm500) dL_law_3381
theorem n500_3383 : Snd mt G 500 3383 (oConst (.int 1) 3384) := w_iconst (hm := mm500) dL_law_3383 rfl
theorem n500_3384 : Snd mt G 500 3384 (oBin (fun x y => x + y) 3385) := w_iadd (hm := mm500) dL_law_3384
theorem n500_3385 : Snd mt G 500 3385 (oAld [1100] 3386) := w_iaload (hm := mm500) (kt := 0) dL_law_3385 at_0 (Nat.le_of_ble_eq_true rfl) (List.forall_mem_cons.mpr ⟨Or.inr rfl, (fun t ht => nomatch ht)⟩)
theorem n500_3386 : Snd mt G 500 3386 (oAload 0 3387) := w_aload_n (hm := mm500) dL_law_3386
theorem n500_3387 : Snd mt G 500 3387 (oIload 4 3389) := w_iload (hm := mm500) dL_law_3387
theorem n500_3389 : Snd mt G 500 3389 (oConst (.int 2) 3390) := w_iconst (hm := mm500) dL_law_3389 rfl
theorem n500_3390 : Snd mt G 500 3390 (oBin (fun x y => x + y) 3391) := w_iadd (hm := mm500) dL_law_3390
theorem n500_3391 : Snd mt G 500 3391 (oAld [1100] 3392) := w_iaload (hm := mm500) (kt := 0) dL_law_3391 at_0 (Nat.le_of_ble_eq_true rfl) (List.forall_mem_cons.mpr ⟨Or.inr rfl, (fun t ht => nomatch ht)⟩)
theorem n500_3392 : Snd mt G 500 3392 (oAload 0 3393) := w_aload_n (hm := mm500) dL_law_3392
theorem n500_3393 : Snd mt G 500 3393 (oIload 4 3395) := w_iload (hm := mm500) dL_law_3393
theorem n500_3395 : Snd mt G 500 3395 (oConst (.int 3) 3396) := w_iconst (hm := mm500) dL_law_3395 rfl
theorem n500_3396 : Snd mt G 500 3396 (oBin (fun x y => x + y) 3397) := w_iadd (hm := mm500) dL_law_3396
theorem n500_3397 : Snd mt G 500 3397 (oAld [1100] 3398) := w_iaload (hm := mm500) (kt := 0) dL_law_3397 at_0 (Nat.le_of_ble_eq_true rfl) (List.forall_mem_cons.mpr ⟨Or.inr rfl, (fun t ht => nomatch ht)⟩)
theorem n500_3398 : Snd mt G 500 3398 (oCall 4 (fV [4] 393 8) 0 3401 xOut) := s_callV (m' := 393) (n := 3) xsh_out (w_xok0 mm500) (w_cal mm500 mm393 pn_X3 (Nat.le_of_ble_eq_true rfl) (Nat.le_of_ble_eq_true rfl)) (fun h b as hc hn => w_run_V (ci := 3) mm500 mm393 dL_law_3398 (Or.inl (List.mem_singleton.mp hc)) (Nat.le_of_ble_eq_true rfl) vc_3 rfl q3065 q3066 q3067 q150 q3068 pa393 hn)
theorem n500_3401 : Snd mt G 500 3401 (oIstore 6 3403) := w_istore (hm := mm500) dL_law_3401 (Nat.le_of_ble_eq_true rfl)
theorem n500_3403 : Snd mt G 500 3403 (oAload 2 3404) := w_aload_n (hm := mm500) dL_law_3403
theorem n500_3404 : Snd mt G 500 3404 (oCall 1 (fV [4] 281 1) 0 3407 xOut) := s_callV (m' := 281) (n := 0) xsh_out (w_xok0 mm500) (w_cal mm500 mm281 pn_X3 (Nat.le_of_ble_eq_true rfl) (Nat.le_of_ble_eq_true rfl)) (fun h b as hc hn => w_run_V (ci := 3) mm500 mm281 dL_law_3404 (Or.inl (List.mem_singleton.mp hc)) (Nat.le_of_ble_eq_true rfl) vc_3 rfl q2619 q2620 q2621 q150 q2622 pa281 hn)
theorem n500_3407 : Snd mt G 500 3407 (oIload 5 3409) := w_iload (hm := mm500) dL_law_3407
theorem n500_3409 : Snd mt G 500 3409 (oCmpEq 3414 3412) := w_icmp_eq (hm := mm500) dL_law_3409 rfl
theorem n500_3412 : Snd mt G 500 3412 (oConst (.int 0) 3413) := w_iconst (hm := mm500) dL_law_3412 rfl
theorem n500_3413 : Snd mt G 500 3413 (oRetI .boolean) := w_zret (hm := mm500) dL_law_3413 rfl
theorem n500_3414 : Snd mt G 500 3414 (oIload 5 3416) := w_iload (hm := mm500) dL_law_3414
theorem n500_3416 : Snd mt G 500 3416 (oIfEq 3419 3431) := w_if_ne (hm := mm500) dL_law_3416 rfl
theorem n500_3419 : Snd mt G 500 3419 (oAload 3 3420) := w_aload_n (hm := mm500) dL_law_3419
theorem n500_3420 : Snd mt G 500 3420 (oConst (.int 0) 3421) := w_iconst (hm := mm500) dL_law_3420 rfl
theorem n500_3421 : Snd mt G 500 3421 (oAld [102] 3422) := w_laload (hm := mm500) (kt := 2) dL_law_3421 at_2 (Nat.le_of_ble_eq_true rfl) (List.forall_mem_cons.mpr ⟨Or.inl rfl, (fun t ht => nomatch ht)⟩)
theorem n500_3422 : Snd mt G 500 3422 (oIload 6 3424) := w_iload (hm := mm500) dL_law_3422
theorem n500_3424 : Snd mt G 500 3424 (oUn (fun x => .long x.toInt64) 3425) := w_i2l (hm := mm500) dL_law_3424
theorem n500_3425 : Snd mt G 500 3425 (oLbin (fun x y => .int (lg_cmp x y)) 3426) := w_lcmp (hm := mm500) dL_law_3425
theorem n500_3426 : Snd mt G 500 3426 (oIfEq 3431 3429) := w_if_eq (hm := mm500) dL_law_3426 rfl
theorem n500_3429 : Snd mt G 500 3429 (oConst (.int 0) 3430) := w_iconst (hm := mm500) dL_law_3429 rfl
theorem n500_3430 : Snd mt G 500 3430 (oRetI .boolean) := w_zret (hm := mm500) dL_law_3430 rfl
theorem n500_3431 : Snd mt G 500 3431 (oGoto 4258) := w_goto (hm := mm500) dL_law_3431 rfl
theorem n500_3434 : Snd mt G 500 3434 (oAload 1 3435) := w_aload_n (hm := mm500) dL_law_3434
theorem n500_3435 : Snd mt G 500 3435 (oAload 0 3436) := w_aload_n (hm := mm500) dL_law_3435
theorem n500_3436 : Snd mt G 500 3436 (oIload 4 3438) := w_iload (hm := mm500) dL_law_3436
theorem n500_3438 : Snd mt G 500 3438 (oConst (.int 1) 3439) := w_iconst (hm := mm500) dL_law_3438 rfl
theorem n500_3439 : Snd mt G 500 3439 (oBin (fun x y => x + y) 3440) := w_iadd (hm := mm500) dL_law_3439
theorem n500_3440 : Snd mt G 500 3440 (oAld [1100] 3441) := w_iaload (hm := mm500) (kt := 0) dL_law_3440 at_0 (Nat.le_of_ble_eq_true rfl) (List.forall_mem_cons.mpr ⟨Or.inr rfl, (fun t ht => nomatch ht)⟩)
theorem n500_3441 : Snd mt G 500 3441 (oAload 3 3442) := w_aload_n (hm := mm500) dL_law_3441
theorem n500_3442 : Snd mt G 500 3442 (oCall 3 (fS 41 4) 0 3445 xOut) := s_callS (m' := 41) (n := 3) xsh_out (w_xok0 mm500) (w_cal mm500 mm41 pn_X0 (Nat.le_of_ble_eq_true rfl) (Nat.le_of_ble_eq_true rfl)) (fun h as hn => w_run_SX mm500 mm41 dL_law_3442 q2264 q2265 q128 q2266 pa41 hn)
theorem n500_3445 : Snd mt G 500 3445 (oIstore 5 3447) := w_istore (hm := mm500) dL_law_3445 (Nat.le_of_ble_eq_true rfl)
theorem n500_3447 : Snd mt G 500 3447 (oAload 2 3448) := w_aload_n (hm := mm500) dL_law_3447
theorem n500_3448 : Snd mt G 500 3448 (oAload 0 3449) := w_aload_n (hm := mm500) dL_law_3448
theorem n500_3449 : Snd mt G 500 3449 (oIload 4 3451) := w_iload (hm := mm500) dL_law_3449
theorem n500_3451 : Snd mt G 500 3451 (oConst (.int 1) 3452) := w_iconst (hm := mm500) dL_law_3451 rfl
theorem n500_3452 : Snd mt G 500 3452 (oBin (fun x y => x + y) 3453) := w_iadd (hm := mm500) dL_law_3452
theorem n500_3453 : Snd mt G 500 3453 (oAld [1100] 3454) := w_iaload (hm := mm500) (kt := 0) dL_law_3453 at_0 (Nat.le_of_ble_eq_true rfl) (List.forall_mem_cons.mpr ⟨Or.inr rfl, (fun t ht => nomatch ht)⟩)
theorem n500_3454 : Snd mt G 500 3454 (oCall 2 (fV [4] 394 3) 0 3457 xOut) := s_callV (m' := 394) (n := 1) xsh_out (w_xok0 mm500) (w_cal mm500 mm394 pn_X3 (Nat.le_of_ble_eq_true rfl) (Nat.le_of_ble_eq_true rfl)) (fun h b as hc hn => w_run_V (ci := 3) mm500 mm394 dL_law_3454 (Or.inl (List.mem_singleton.mp hc)) (Nat.le_of_ble_eq_true rfl) vc_3 rfl q3069 q3070 q3071 q150 q3072 pa394 hn)
theorem n500_3457 : Snd mt G 500 3457 (oIstore 6 3459) := w_istore (hm := mm500) dL_law_3457 (Nat.le_of_ble_eq_true rfl)
theorem n500_3459 : Snd mt G 500 3459 (oAload 2 3460) := w_aload_n (hm := mm500) dL_law_3459
theorem n500_3460 : Snd mt G 500 3460 (oCall 1 (fV [4] 281 1) 0 3463 xOut) := s_callV (m' := 281) (n := 0) xsh_out (w_xok0 mm500) (w_cal mm500 mm281 pn_X3 (Nat.le_of_ble_eq_true rfl) (Nat.le_of_ble_eq_true rfl)) (fun h b as hc hn => w_run_V (ci := 3) mm500 mm281 dL_law_3460 (Or.inl (List.mem_singleton.mp hc)) (Nat.le_of_ble_eq_true rfl) vc_3 rfl q2619 q2620 q2621 q150 q2622 pa281 hn)
theorem n500_3463 : Snd mt G 500 3463 (oIload 5 3465) := w_iload (hm := mm500) dL_law_3463
theorem n500_3465 : Snd mt G 500 3465 (oCmpEq 3470 3468) := w_icmp_eq (hm := mm500) dL_law_3465 rfl
theorem n500_3468 : Snd mt G 500 3468 (oConst (.int 0) 3469) := w_iconst (hm := mm500) dL_law_3468 rfl
theorem n500_3469 : Snd mt G 500 3469 (oRetI .boolean) := w_zret (hm := mm500) dL_law_3469 rfl
theorem n500_3470 : Snd mt G 500 3470 (oIload 5 3472) := w_iload (hm := mm500) dL_law_3470
theorem n500_3472 : Snd mt G 500 3472 (oIfEq 3475 3487) := w_if_ne (hm := mm500) dL_law_3472 rfl
theorem n500_3475 : Snd mt G 500 3475 (oAload 3 3476) := w_aload_n (hm := mm500) dL_law_3475
theorem n500_3476 : Snd mt G 500 3476 (oConst (.int 0) 3477) := w_iconst (hm := mm500) dL_law_3476 rfl
theorem n500_3477 : Snd mt G 500 3477 (oAld [102] 3478) := w_laload (hm := mm500) (kt := 2) dL_law_3477 at_2 (Nat.le_of_ble_eq_true rfl) (List.forall_mem_cons.mpr ⟨Or.inl rfl, (fun t ht => nomatch ht)⟩)
theorem n500_3478 : Snd mt G 500 3478 (oIload 6 3480) := w_iload (hm := mm500) dL_law_3478
theorem n500_3480 : Snd mt G 500 3480 (oUn (fun x => .long x.toInt64) 3481) := w_i2l (hm := mm500) dL_law_3480
theorem n500_3481 : Snd mt G 500 3481 (oLbin (fun x y => .int (lg_cmp x y)) 3482) := w_lcmp (hm := mm500) dL_law_3481
theorem n500_3482 : Snd mt G 500 3482 (oIfEq 3487 3485) := w_if_eq (hm := mm500) dL_law_3482 rfl
theorem n500_3485 : Snd mt G 500 3485 (oConst (.int 0) 3486) := w_iconst (hm := mm500) dL_law_3485 rfl
theorem n500_3486 : Snd mt G 500 3486 (oRetI .boolean) := w_zret (hm := mm500) dL_law_3486 rfl
theorem n500_3487 : Snd mt G 500 3487 (oGoto 4258) := w_goto (hm := mm500) dL_law_3487 rfl
theorem n500_3490 : Snd mt G 500 3490 (oAload 1 3491) := w_aload_n (hm := mm500) dL_law_3490
theorem n500_3491 : Snd mt G 500 3491 (oAload 0 3492) := w_aload_n (hm := mm500) dL_law_3491
theorem n500_3492 : Snd mt G 500 3492 (oIload 4 3494) := w_iload (hm := mm500) dL_law_3492
theorem n500_3494 : Snd mt G 500 3494 (oConst (.int 1) 3495) := w_iconst (hm := mm500) dL_law_3494 rfl
theorem n500_3495 : Snd mt G 500 3495 (oBin (fun x y => x + y) 3496) := w_iadd (hm := mm500) dL_law_3495
theorem n500_3496 : Snd mt G 500 3496 (oAld [1100] 3497) := w_iaload (hm := mm500) (kt := 0) dL_law_3496 at_0 (Nat.le_of_ble_eq_true rfl) (List.forall_mem_cons.mpr ⟨Or.inr rfl, (fun t ht => nomatch ht)⟩)
theorem n500_3497 : Snd mt G 500 3497 (oAload 3 3498) := w_aload_n (hm := mm500) dL_law_3497
theorem n500_3498 : Snd mt G 500 3498 (oCall 3 (fS 42 4) 0 3501 xOut) := s_callS (m' := 42) (n := 3) xsh_out (w_xok0 mm500) (w_cal mm500 mm42 pn_X0 (Nat.le_of_ble_eq_true rfl) (Nat.le_of_ble_eq_true rfl)) (fun h as hn => w_run_SX mm500 mm42 dL_law_3498 q2274 q2275 q128 q2276 pa42 hn)
theorem n500_3501 : Snd mt G 500 3501 (oIstore 5 3503) := w_istore (hm := mm500) dL_law_3501 (Nat.le_of_ble_eq_true rfl)
theorem n500_3503 : Snd mt G 500 3503 (oAload 2 3504) := w_aload_n (hm := mm500) dL_law_3503
theorem n500_3504 : Snd mt G 500 3504 (oAload 0 3505) := w_aload_n (hm := mm500) dL_law_3504
theorem n500_3505 : Snd mt G 500 3505 (oIload 4 3507) := w_iload (hm := mm500) dL_law_3505
theorem n500_3507 : Snd mt G 500 3507 (oConst (.int 1) 3508) := w_iconst (hm := mm500) dL_law_3507 rfl
theorem n500_3508 : Snd mt G 500 3508 (oBin (fun x y => x + y) 3509) := w_iadd (hm := mm500) dL_law_3508
theorem n500_3509 : Snd mt G 500 3509 (oAld [1100] 3510) := w_iaload (hm := mm500) (kt := 0) dL_law_3509 at_0 (Nat.le_of_ble_eq_true rfl) (List.forall_mem_cons.mpr ⟨Or.inr rfl, (fun t ht => nomatch ht)⟩)
theorem n500_3510 : Snd mt G 500 3510 (oCall 2 (fV [4] 396 4) 0 3513 xOut) := s_callV (m' := 396) (n := 1) xsh_out (w_xok0 mm500) (w_cal mm500 mm396 pn_X3 (Nat.le_of_ble_eq_true rfl) (Nat.le_of_ble_eq_true rfl)) (fun h b as hc hn => w_run_V (ci := 3) mm500 mm396 dL_law_3510 (Or.inl (List.mem_singleton.mp hc)) (Nat.le_of_ble_eq_true rfl) vc_3 rfl q3076 q3077 q3078 q150 q3079 pa396 hn)
theorem n500_3513 : Snd mt G 500 3513 (oIstore 6 3515) := w_istore (hm := mm500) dL_law_3513 (Nat.le_of_ble_eq_true rfl)
theorem n500_3515 : Snd mt G 500 3515 (oAload 2 3516) := w_aload_n (hm := mm500) dL_law_3515
theorem n500_3516 : Snd mt G 500 3516 (oCall 1 (fV [4] 281 1) 0 3519 xOut) := s_callV (m' := 281) (n := 0) xsh_out (w_xok0 mm500) (w_cal mm500 mm281 pn_X3 (Nat.le_of_ble_eq_true rfl) (Nat.le_of_ble_eq_true rfl)) (fun h b as hc hn => w_run_V (ci := 3) mm500 mm281 dL_law_3516 (Or.inl (List.mem_singleton.mp hc)) (Nat.le_of_ble_eq_true rfl) vc_3 rfl q2619 q2620 q2621 q150 q2622 pa281 hn)
theorem n500_3519 : Snd mt G 500 3519 (oIload 5 3521) := w_iload (hm := mm500) dL_law_3519
theorem n500_3521 : Snd mt G 500 3521 (oCmpEq 3526 3524) := w_icmp_eq (hm := mm500) dL_law_3521 rfl
theorem n500_3524 : Snd mt G 500 3524 (oConst (.int 0) 3525) := w_iconst (hm := mm500) dL_law_3524 rfl
theorem n500_3525 : Snd mt G 500 3525 (oRetI .boolean) := w_zret (hm := mm500) dL_law_3525 rfl
theorem n500_3526 : Snd mt G 500 3526 (oIload 5 3528) := w_iload (hm := mm500) dL_law_3526
theorem n500_3528 : Snd mt G 500 3528 (oIfEq 3531 3543) := w_if_ne (hm := mm500) dL_law_3528 rfl
theorem n500_3531 : Snd mt G 500 3531 (oAload 3 3532) := w_aload_n (hm := mm500) dL_law_3531
theorem n500_3532 : Snd mt G 500 3532 (oConst (.int 0) 3533) := w_iconst (hm := mm500) dL_law_3532 rfl
theorem n500_3533 : Snd mt G 500 3533 (oAld [102] 3534) := w_laload (hm := mm500) (kt := 2) dL_law_3533 at_2 (Nat.le_of_ble_eq_true rfl) (List.forall_mem_cons.mpr ⟨Or.inl rfl, (fun t ht => nomatch ht)⟩)
theorem n500_3534 : Snd mt G 500 3534 (oIload 6 3536) := w_iload (hm := mm500) dL_law_3534
theorem n500_3536 : Snd mt G 500 3536 (oUn (fun x => .long x.toInt64) 3537) := w_i2l (hm := mm500) dL_law_3536
theorem n500_3537 : Snd mt G 500 3537 (oLbin (fun x y => .int (lg_cmp x y)) 3538) := w_lcmp (hm := mm500) dL_law_3537
theorem n500_3538 : Snd mt G 500 3538 (oIfEq 3543 3541) := w_if_eq (hm := mm500) dL_law_3538 rfl
theorem n500_3541 : Snd mt G 500 3541 (oConst (.int 0) 3542) := w_iconst (hm := mm500) dL_law_3541 rfl
theorem n500_3542 : Snd mt G 500 3542 (oRetI .boolean) := w_zret (hm := mm500) dL_law_3542 rfl
theorem n500_3543 : Snd mt G 500 3543 (oGoto 4258) := w_goto (hm := mm500) dL_law_3543 rfl
theorem n500_3546 : Snd mt G 500 3546 (oAload 1 3547) := w_aload_n (hm := mm500) dL_law_3546
theorem n500_3547 : Snd mt G 500 3547 (oAload 0 3548) := w_aload_n (hm := mm500) dL_law_3547
theorem n500_3548 : Snd mt G 500 3548 (oIload 4 3550) := w_iload (hm := mm500) dL_law_3548
theorem n500_3550 : Snd mt G 500 3550 (oConst (.int 1) 3551) := w_iconst (hm := mm500) dL_law_3550 rfl
theorem n500_3551 : Snd mt G 500 3551 (oBin (fun x y => x + y) 3552) := w_iadd (hm := mm500) dL_law_3551
theorem n500_3552 : Snd mt G 500 3552 (oAld [1100] 3553) := w_iaload (hm := mm500) (kt := 0) dL_law_3552 at_0 (Nat.le_of_ble_eq_true rfl) (List.forall_mem_cons.mpr ⟨Or.inr rfl, (fun t ht => nomatch ht)⟩)
theorem n500_3553 : Snd mt G 500 3553 (oAload 0 3554) := w_aload_n (hm := mm500) dL_law_3553
theorem n500_3554 : Snd mt G 500 3554 (oIload 4 3556) := w_iload (hm := mm500) dL_law_3554
theorem n500_3556 : Snd mt G 500 3556 (oConst (.int 2) 3557) := w_iconst (hm := mm500) dL_law_3556 rfl
theorem n500_3557 : Snd mt G 500 3557 (oBin (fun x y => x + y) 3558) := w_iadd (hm := mm500) dL_law_3557
theorem n500_3558 : Snd mt G 500 3558 (oAld [1100] 3559) := w_iaload (hm := mm500) (kt := 0) dL_law_3558 at_0 (Nat.le_of_ble_eq_true rfl) (List.forall_mem_cons.mpr ⟨Or.inr rfl, (fun t ht => nomatch ht)⟩)
theorem n500_3559 : Snd mt G 500 3559 (oIfEq 3566 3562) := w_if_eq (hm := mm500) dL_law_3559 rfl
theorem n500_3562 : Snd mt G 500 3562 (oConst (.int 1) 3563) := w_iconst (hm := mm500) dL_law_3562 rfl
theorem n500_3563 : Snd mt G 500 3563 (oGoto 3567) := w_goto (hm := mm500) dL_law_3563 rfl
theorem n500_3566 : Snd mt G 500 3566 (oConst (.int 0) 3567) := w_iconst (hm := mm500) dL_law_3566 rfl
theorem n500_3567 : Snd mt G 500 3567 (oAload 0 3568) := w_aload_n (hm := mm500) dL_law_3567
theorem n500_3568 : Snd mt G 500 3568 (oIload 4 3570) := w_iload (hm := mm500) dL_law_3568
theorem n500_3570 : Snd mt G 500 3570 (oConst (.int 3) 3571) := w_iconst (hm := mm500) dL_law_3570 rfl
theorem n500_3571 : Snd mt G 500 3571 (oBin (fun x y => x + y) 3572) := w_iadd (hm := mm500) dL_law_3571
theorem n500_3572 : Snd mt G 500 3572 (oAld [1100] 3573) := w_iaload (hm := mm500) (kt := 0) dL_law_3572 at_0 (Nat.le_of_ble_eq_true rfl) (List.forall_mem_cons.mpr ⟨Or.inr rfl, (fun t ht => nomatch ht)⟩)
theorem n500_3573 : Snd mt G 500 3573 (oAload 3 3574) := w_aload_n (hm := mm500) dL_law_3573
theorem n500_3574 : Snd mt G 500 3574 (oCall 5 (fS 43 6) 0 3577 xOut) := s_callS (m' := 43) (n := 5) xsh_out (w_xok0 mm500) (w_cal mm500 mm43 pn_X0 (Nat.le_of_ble_eq_true rfl) (Nat.le_of_ble_eq_true rfl)) (fun h as hn => w_run_SX mm500 mm43 dL_law_3574 q2281 q2282 q128 q2283 pa43 hn)
theorem n500_3577 : Snd mt G 500 3577 (oIstore 5 3579) := w_istore (hm := mm500) dL_law_3577 (Nat.le_of_ble_eq_true rfl)
theorem n500_3579 : Snd mt G 500 3579 (oAload 2 3580) := w_aload_n (hm := mm500) dL_law_3579
theorem n500_3580 : Snd mt G 500 3580 (oAload 0 3581) := w_aload_n (hm := mm500) dL_law_3580
theorem n500_3581 : Snd mt G 500 3581 (oIload 4 3583) := w_iload (hm := mm500) dL_law_3581
theorem n500_3583 : Snd mt G 500 3583 (oConst (.int 1) 3584) := w_iconst (hm := mm500) dL_law_3583 rfl
theorem n500_3584 : Snd mt G 500 3584 (oBin (fun x y => x + y) 3585) := w_iadd (hm := mm500) dL_law_3584
theorem n500_3585 : Snd mt G 500 3585 (oAld [1100] 3586) := w_iaload (hm := mm500) (kt := 0) dL_law_3585 at_0 (Nat.le_of_ble_eq_true rfl) (List.forall_mem_cons.mpr ⟨Or.inr rfl, (fun t ht => nomatch ht)⟩)
theorem n500_3586 : Snd mt G 500 3586 (oAload 0 3587) := w_aload_n (hm := mm500) dL_law_3586
theorem n500_3587 : Snd mt G 500 3587 (oIload 4 3589) := w_iload (hm := mm500) dL_law_3587
theorem n500_3589 : Snd mt G 500 3589 (oConst (.int 2) 3590) := w_iconst (hm := mm500) dL_law_3589 rfl
theorem n500_3590 : Snd mt G 500 3590 (oBin (fun x y => x + y) 3591) := w_iadd (hm := mm500) dL_law_3590
theorem n500_3591 : Snd mt G 500 3591 (oAld [1100] 3592) := w_iaload (hm := mm500) (kt := 0) dL_law_3591 at_0 (Nat.le_of_ble_eq_true rfl) (List.forall_mem_cons.mpr ⟨Or.inr rfl, (fun t ht => nomatch ht)⟩)
theorem n500_3592 : Snd mt G 500 3592 (oIfEq 3599 3595) := w_if_eq (hm := mm500) dL_law_3592 rfl
theorem n500_3595 : Snd mt G 500 3595 (oConst (.int 1) 3596) := w_iconst (hm := mm500) dL_law_3595 rfl
theorem n500_3596 : Snd mt G 500 3596 (oGoto 3600) := w_goto (hm := mm500) dL_law_3596 rfl
theorem n500_3599 : Snd mt G 500 3599 (oConst (.int 0) 3600) := w_iconst (hm := mm500) dL_law_3599 rfl
theorem n500_3600 : Snd mt G 500 3600 (oAload 0 3601) := w_aload_n (hm := mm500) dL_law_3600
theorem n500_3601 : Snd mt G 500 3601 (oIload 4 3603) := w_iload (hm := mm500) dL_law_3601
theorem n500_3603 : Snd mt G 500 3603 (oConst (.int 3) 3604) := w_iconst (hm := mm500) dL_law_3603 rfl
theorem n500_3604 : Snd mt G 500 3604 (oBin (fun x y => x + y) 3605) := w_iadd (hm := mm500) dL_law_3604
theorem n500_3605 : Snd mt G 500 3605 (oAld [1100] 3606) := w_iaload (hm := mm500) (kt := 0) dL_law_3605 at_0 (Nat.le_of_ble_eq_true rfl) (List.forall_mem_cons.mpr ⟨Or.inr rfl, (fun t ht => nomatch ht)⟩)
theorem n500_3606 : Snd mt G 500 3606 (oCall 4 (fV [4] 397 4) 0 3609 xOut) := s_callV (m' := 397) (n := 3) xsh_out (w_xok0 mm500) (w_cal mm500 mm397 pn_X3 (Nat.le_of_ble_eq_true rfl) (Nat.le_of_ble_eq_true rfl)) (fun h b as hc hn => w_run_V (ci := 3) mm500 mm397 dL_law_3606 (Or.inl (List.mem_singleton.mp hc)) (Nat.le_of_ble_eq_true rfl) vc_3 rfl q3080 q3081 q3082 q150 q3083 pa397 hn)
theorem n500_3609 : Snd mt G 500 3609 (oIstore 6 3611) := w_istore (hm := mm500) dL_law_3609 (Nat.le_of_ble_eq_true rfl)
theorem n500_3611 : Snd mt G 500 3611 (oAload 2 3612) := w_aload_n (hm := mm500) dL_law_3611
theorem n500_3612 : Snd mt G 500 3612 (oCall 1 (fV [4] 281 1) 0 3615 xOut) := s_callV (m' := 281) (n := 0) xsh_out (w_xok0 mm500) (w_cal mm500 mm281 pn_X3 (Nat.le_of_ble_eq_true rfl) (Nat.le_of_ble_eq_true rfl)) (fun h b as hc hn => w_run_V (ci := 3) mm500 mm281 dL_law_3612 (Or.inl (List.mem_singleton.mp hc)) (Nat.le_of_ble_eq_true rfl) vc_3 rfl q2619 q2620 q2621 q150 q2622 pa281 hn)
theorem n500_3615 : Snd mt G 500 3615 (oIload 5 3617) := w_iload (hm := mm500) dL_law_3615
theorem n500_3617 : Snd mt G 500 3617 (oCmpEq 3622 3620) := w_icmp_eq (hm := mm500) dL_law_3617 rfl
theorem n500_3620 : Snd mt G 500 3620 (oConst (.int 0) 3621) := w_iconst (hm := mm500) dL_law_3620 rfl
theorem n500_3621 : Snd mt G 500 3621 (oRetI .boolean) := w_zret (hm := mm500) dL_law_3621 rfl
theorem n500_3622 : Snd mt G 500 3622 (oIload 5 3624) := w_iload (hm := mm500) dL_law_3622
theorem n500_3624 : Snd mt G 500 3624 (oIfEq 3627 3639) := w_if_ne (hm := mm500) dL_law_3624 rfl
theorem n500_3627 : Snd mt G 500 3627 (oAload 3 3628) := w_aload_n (hm := mm500) dL_law_3627
theorem n500_3628 : Snd mt G 500 3628 (oConst (.int 0) 3629) := w_iconst (hm := mm500) dL_law_3628 rfl
theorem n500_3629 : Snd mt G 500 3629 (oAld [102] 3630) := w_laload (hm := mm500) (kt := 2) dL_law_3629 at_2 (Nat.le_of_ble_eq_true rfl) (List.forall_mem_cons.mpr ⟨Or.inl rfl, (fun t ht => nomatch ht)⟩)
theorem n500_3630 : Snd mt G 500 3630 (oIload 6 3632) := w_iload (hm := mm500) dL_law_3630
theorem n500_3632 : Snd mt G 500 3632 (oUn (fun x => .long x.toInt64) 3633) := w_i2l (hm := mm500) dL_law_3632
theorem n500_3633 : Snd mt G 500 3633 (oLbin (fun x y => .int (lg_cmp x y)) 3634) := w_lcmp (hm := mm500) dL_law_3633
theorem n500_3634 : Snd mt G 500 3634 (oIfEq 3639 3637) := w_if_eq (hm := mm500) dL_law_3634 rfl
theorem n500_3637 : Snd mt G 500 3637 (oConst (.int 0) 3638) := w_iconst (hm := mm500) dL_law_3637 rfl
theorem n500_3638 : Snd mt G 500 3638 (oRetI .boolean) := w_zret (hm := mm500) dL_law_3638 rfl
theorem n500_3639 : Snd mt G 500 3639 (oGoto 4258) := w_goto (hm := mm500) dL_law_3639 rfl
theorem n500_3642 : Snd mt G 500 3642 (oAload 1 3643) := w_aload_n (hm := mm500) dL_law_3642
theorem n500_3643 : Snd mt G 500 3643 (oAload 0 3644) := w_aload_n (hm := mm500) dL_law_3643
theorem n500_3644 : Snd mt G 500 3644 (oIload 4 3646) := w_iload (hm := mm500) dL_law_3644
theorem n500_3646 : Snd mt G 500 3646 (oConst (.int 1) 3647) := w_iconst (hm := mm500) dL_law_3646 rfl
theorem n500_3647 : Snd mt G 500 3647 (oBin (fun x y => x + y) 3648) := w_iadd (hm := mm500) dL_law_3647
theorem n500_3648 : Snd mt G 500 3648 (oAld [1100] 3649) := w_iaload (hm := mm500) (kt := 0) dL_law_3648 at_0 (Nat.le_of_ble_eq_true rfl) (List.forall_mem_cons.mpr ⟨Or.inr rfl, (fun t ht => nomatch ht)⟩)
theorem n500_3649 : Snd mt G 500 3649 (oAload 0 3650) := w_aload_n (hm := mm500) dL_law_3649
theorem n500_3650 : Snd mt G 500 3650 (oIload 4 3652) := w_iload (hm := mm500) dL_law_3650
theorem n500_3652 : Snd mt G 500 3652 (oConst (.int 2) 3653) := w_iconst (hm := mm500) dL_law_3652 rfl
theorem n500_3653 : Snd mt G 500 3653 (oBin (fun x y => x + y) 3654) := w_iadd (hm := mm500) dL_law_3653
theorem n500_3654 : Snd mt G 500 3654 (oAld [1100] 3655) := w_iaload (hm := mm500) (kt := 0) dL_law_3654 at_0 (Nat.le_of_ble_eq_true rfl) (List.forall_mem_cons.mpr ⟨Or.inr rfl, (fun t ht => nomatch ht)⟩)
theorem n500_3655 : Snd mt G 500 3655 (oAload 0 3656) := w_aload_n (hm := mm500) dL_law_3655
theorem n500_3656 : Snd mt G 500 3656 (oIload 4 3658) := w_iload (hm := mm500) dL_law_3656
theorem n500_3658 : Snd mt G 500 3658 (oConst (.int 3) 3659) := w_iconst (hm := mm500) dL_law_3658 rfl
theorem n500_3659 : Snd mt G 500 3659 (oBin (fun x y => x + y) 3660) := w_iadd (hm := mm500) dL_law_3659
theorem n500_3660 : Snd mt G 500 3660 (oAld [1100] 3661) := w_iaload (hm := mm500) (kt := 0) dL_law_3660 at_0 (Nat.le_of_ble_eq_true rfl) (List.forall_mem_cons.mpr ⟨Or.inr rfl, (fun t ht => nomatch ht)⟩)
theorem n500_3661 : Snd mt G 500 3661 (oAload 3 3662) := w_aload_n (hm := mm500) dL_law_3661
theorem n500_3662 : Snd mt G 500 3662 (oCall 5 (fS 44 6) 0 3665 xOut) := s_callS (m' := 44) (n := 5) xsh_out (w_xok0 mm500) (w_cal mm500 mm44 pn_X0 (Nat.le_of_ble_eq_true rfl) (Nat.le_of_ble_eq_true rfl)) (fun h as hn => w_run_SX mm500 mm44 dL_law_3662 q2295 q2296 q128 q2297 pa44 hn)
theorem n500_3665 : Snd mt G 500 3665 (oIstore 5 3667) := w_istore (hm := mm500) dL_law_3665 (Nat.le_of_ble_eq_true rfl)
theorem n500_3667 : Snd mt G 500 3667 (oAload 2 3668) := w_aload_n (hm := mm500) dL_law_3667
theorem n500_3668 : Snd mt G 500 3668 (oAload 0 3669) := w_aload_n (hm := mm500) dL_law_3668
theorem n500_3669 : Snd mt G 500 3669 (oIload 4 3671) := w_iload (hm := mm500) dL_law_3669
theorem n500_3671 : Snd mt G 500 3671 (oConst (.int 1) 3672) := w_iconst (hm := mm500) dL_law_3671 rfl
theorem n500_3672 : Snd mt G 500 3672 (oBin (fun x y => x + y) 3673) := w_iadd (hm := mm500) dL_law_3672
theorem n500_3673 : Snd mt G 500 3673 (oAld [1100] 3674) := w_iaload (hm := mm500) (kt := 0) dL_law_3673 at_0 (Nat.le_of_ble_eq_true rfl) (List.forall_mem_cons.mpr ⟨Or.inr rfl, (fun t ht => nomatch ht)⟩)
theorem n500_3674 : Snd mt G 500 3674 (oAload 0 3675) := w_aload_n (hm := mm500) dL_law_3674
theorem n500_3675 : Snd mt G 500 3675 (oIload 4 3677) := w_iload (hm := mm500) dL_law_3675
theorem n500_3677 : Snd mt G 500 3677 (oConst (.int 2) 3678) := w_iconst (hm := mm500) dL_law_3677 rfl
theorem n500_3678 : Snd mt G 500 3678 (oBin (fun x y => x + y) 3679) := w_iadd (hm := mm500) dL_law_3678
theorem n500_3679 : Snd mt G 500 3679 (oAld [1100] 3680) := w_iaload (hm := mm500) (kt := 0) dL_law_3679 at_0 (Nat.le_of_ble_eq_true rfl) (List.forall_mem_cons.mpr ⟨Or.inr rfl, (fun t ht => nomatch ht)⟩)
theorem n500_3680 : Snd mt G 500 3680 (oAload 0 3681) := w_aload_n (hm := mm500) dL_law_3680
theorem n500_3681 : Snd mt G 500 3681 (oIload 4 3683) := w_iload (hm := mm500) dL_law_3681
theorem n500_3683 : Snd mt G 500 3683 (oConst (.int 3) 3684) := w_iconst (hm := mm500) dL_law_3683 rfl
theorem n500_3684 : Snd mt G 500 3684 (oBin (fun x y => x + y) 3685) := w_iadd (hm := mm500) dL_law_3684
theorem n500_3685 : Snd mt G 500 3685 (oAld [1100] 3686) := w_iaload (hm := mm500) (kt := 0) dL_law_3685 at_0 (Nat.le_of_ble_eq_true rfl) (List.forall_mem_cons.mpr ⟨Or.inr rfl, (fun t ht => nomatch ht)⟩)
theorem n500_3686 : Snd mt G 500 3686 (oCall 4 (fV [4] 399 6) 0 3689 xOut) := s_callV (m' := 399) (n := 3) xsh_out (w_xok0 mm500) (w_cal mm500 mm399 pn_X3 (Nat.le_of_ble_eq_true rfl) (Nat.le_of_ble_eq_true rfl)) (fun h b as hc hn => w_run_V (ci := 3) mm500 mm399 dL_law_3686 (Or.inl (List.mem_singleton.mp hc)) (Nat.le_of_ble_eq_true rfl) vc_3 rfl q3088 q3089 q3090 q150 q3091 pa399 hn)
theorem n500_3689 : Snd mt G 500 3689 (oIstore 6 3691) := w_istore (hm := mm500) dL_law_3689 (Nat.le_of_ble_eq_true rfl)
theorem n500_3691 : Snd mt G 500 3691 (oAload 2 3692) := w_aload_n (hm := mm500) dL_law_3691
theorem n500_3692 : Snd mt G 500 3692 (oCall 1 (fV [4] 281 1) 0 3695 xOut) := s_callV (m' := 281) (n := 0) xsh_out (w_xok0 mm500) (w_cal mm500 mm281 pn_X3 (Nat.le_of_ble_eq_true rfl) (Nat.le_of_ble_eq_true rfl)) (fun h b as hc hn => w_run_V (ci := 3) mm500 mm281 dL_law_3692 (Or.inl (List.mem_singleton.mp hc)) (Nat.le_of_ble_eq_true rfl) vc_3 rfl q2619 q2620 q2621 q150 q2622 pa281 hn)
theorem n500_3695 : Snd mt G 500 3695 (oIload 5 3697) := w_iload (hm := mm500) dL_law_3695
theorem n500_3697 : Snd mt G 500 3697 (oCmpEq 3702 3700) := w_icmp_eq (hm := mm500) dL_law_3697 rfl
theorem n500_3700 : Snd mt G 500 3700 (oConst (.int 0) 3701) := w_iconst (hm := mm500) dL_law_3700 rfl
theorem n500_3701 : Snd mt G 500 3701 (oRetI .boolean) := w_zret (hm := mm500) dL_law_3701 rfl
theorem n500_3702 : Snd mt G 500 3702 (oIload 5 3704) := w_iload (hm := mm500) dL_law_3702
theorem n500_3704 : Snd mt G 500 3704 (oIfEq 3707 3719) := w_if_ne (hm := mm500) dL_law_3704 rfl
theorem n500_3707 : Snd mt G 500 3707 (oAload 3 3708) := w_aload_n (hm := mm500) dL_law_3707
theorem n500_3708 : Snd mt G 500 3708 (oConst (.int 0) 3709) := w_iconst (hm := mm500) dL_law_3708 rfl
theorem n500_3709 : Snd mt G 500 3709 (oAld [102] 3710) := w_laload (hm := mm500) (kt := 2) dL_law_3709 at_2 (Nat.le_of_ble_eq_true rfl) (List.forall_mem_cons.mpr ⟨Or.inl rfl, (fun t ht => nomatch ht)⟩)
theorem n500_3710 : Snd mt G 500 3710 (oIload 6 3712) := w_iload (hm := mm500) dL_law_3710
theorem n500_3712 : Snd mt G 500 3712 (oUn (fun x => .long x.toInt64) 3713) := w_i2l (hm := mm500) dL_law_3712
theorem n500_3713 : Snd mt G 500 3713 (oLbin (fun x y => .int (lg_cmp x y)) 3714) := w_lcmp (hm := mm500) dL_law_3713
theorem n500_3714 : Snd mt G 500 3714 (oIfEq 3719 3717) := w_if_eq (hm := mm500) dL_law_3714 rfl
theorem n500_3717 : Snd mt G 500 3717 (oConst (.int 0) 3718) := w_iconst (hm := mm500) dL_law_3717 rfl
theorem n500_3718 : Snd mt G 500 3718 (oRetI .boolean) := w_zret (hm := mm500) dL_law_3718 rfl
theorem n500_3719 : Snd mt G 500 3719 (oGoto 4258) := w_goto (hm := mm500) dL_law_3719 rfl
theorem n500_3722 : Snd mt G 500 3722 (oAload 1 3723) := w_aload_n (hm := mm500) dL_law_3722
theorem n500_3723 : Snd mt G 500 3723 (oAload 0 3724) := w_aload_n (hm := mm500) dL_law_3723
theorem n500_3724 : Snd mt G 500 3724 (oIload 4 3726) := w_iload (hm := mm500) dL_law_3724
theorem n500_3726 : Snd mt G 500 3726 (oConst (.int 1) 3727) := w_iconst (hm := mm500) dL_law_3726 rfl
theorem n500_3727 : Snd mt G 500 3727 (oBin (fun x y => x + y) 3728) := w_iadd (hm := mm500) dL_law_3727
theorem n500_3728 : Snd mt G 500 3728 (oAld [1100] 3729) := w_iaload (hm := mm500) (kt := 0) dL_law_3728 at_0 (Nat.le_of_ble_eq_true rfl) (List.forall_mem_cons.mpr ⟨Or.inr rfl, (fun t ht => nomatch ht)⟩)
theorem n500_3729 : Snd mt G 500 3729 (oAload 0 3730) := w_aload_n (hm := mm500) dL_law_3729
theorem n500_3730 : Snd mt G 500 3730 (oIload 4 3732) := w_iload (hm := mm500) dL_law_3730
theorem n500_3732 : Snd mt G 500 3732 (oConst (.int 2) 3733) := w_iconst (hm := mm500) dL_law_3732 rfl
theorem n500_3733 : Snd mt G 500 3733 (oBin (fun x y => x + y) 3734) := w_iadd (hm := mm500) dL_law_3733
theorem n500_3734 : Snd mt G 500 3734 (oAld [1100] 3735) := w_iaload (hm := mm500) (kt := 0) dL_law_3734 at_0 (Nat.le_of_ble_eq_true rfl) (List.forall_mem_cons.mpr ⟨Or.inr rfl, (fun t ht => nomatch ht)⟩)
theorem n500_3735 : Snd mt G 500 3735 (oAload 3 3736) := w_aload_n (hm := mm500) dL_law_3735
theorem n500_3736 : Snd mt G 500 3736 (oCall 4 (fS 45 5) 0 3739 xOut) := s_callS (m' := 45) (n := 4) xsh_out (w_xok0 mm500) (w_cal mm500 mm45 pn_X0 (Nat.le_of_ble_eq_true rfl) (Nat.le_of_ble_eq_true rfl)) (fun h as hn => w_run_SX mm500 mm45 dL_law_3736 q2305 q2306 q128 q2307 pa45 hn)
theorem n500_3739 : Snd mt G 500 3739 (oIstore 5 3741) := w_istore (hm := mm500) dL_law_3739 (Nat.le_of_ble_eq_true rfl)
theorem n500_3741 : Snd mt G 500 3741 (oAload 2 3742) := w_aload_n (hm := mm500) dL_law_3741
theorem n500_3742 : Snd mt G 500 3742 (oAload 0 3743) := w_aload_n (hm := mm500) dL_law_3742
theorem n500_3743 : Snd mt G 500 3743 (oIload 4 3745) := w_iload (hm := mm500) dL_law_3743
theorem n500_3745 : Snd mt G 500 3745 (oConst (.int 1) 3746) := w_iconst (hm := mm500) dL_law_3745 rfl
theorem n500_3746 : Snd mt G 500 3746 (oBin (fun x y => x + y) 3747) := w_iadd (hm := mm500) dL_law_3746
theorem n500_3747 : Snd mt G 500 3747 (oAld [1100] 3748) := w_iaload (hm := mm500) (kt := 0) dL_law_3747 at_0 (Nat.le_of_ble_eq_true rfl) (List.forall_mem_cons.mpr ⟨Or.inr rfl, (fun t ht => nomatch ht)⟩)
theorem n500_3748 : Snd mt G 500 3748 (oAload 0 3749) := w_aload_n (hm := mm500) dL_law_3748
theorem n500_3749 : Snd mt G 500 3749 (oIload 4 3751) := w_iload (hm := mm500) dL_law_3749
theorem n500_3751 : Snd mt G 500 3751 (oConst (.int 2) 3752) := w_iconst (hm := mm500) dL_law_3751 rfl
theorem n500_3752 : Snd mt G 500 3752 (oBin (fun x y => x + y) 3753) := w_iadd (hm := mm500) dL_law_3752
theorem n500_3753 : Snd mt G 500 3753 (oAld [1100] 3754) := w_iaload (hm := mm500) (kt := 0) dL_law_3753 at_0 (Nat.le_of_ble_eq_true rfl) (List.forall_mem_cons.mpr ⟨Or.inr rfl, (fun t ht => nomatch ht)⟩)
theorem n500_3754 : Snd mt G 500 3754 (oCall 3 (fV [4] 400 3) 0 3757 xOut) := s_callV (m' := 400) (n := 2) xsh_out (w_xok0 mm500) (w_cal mm500 mm400 pn_X3 (Nat.le_of_ble_eq_true rfl) (Nat.le_of_ble_eq_true rfl)) (fun h b as hc hn => w_run_V (ci := 3) mm500 mm400 dL_law_3754 (Or.inl (List.mem_singleton.mp hc)) (Nat.le_of_ble_eq_true rfl) vc_3 rfl q3092 q3093 q3094 q150 q3095 pa400 hn)
theorem n500_3757 : Snd mt G 500 3757 (oIstore 6 3759) := w_istore (hm := mm500) dL_law_3757 (Nat.le_of_ble_eq_true rfl)
theorem n500_3759 : Snd mt G 500 3759 (oAload 2 3760) := w_aload_n (hm := mm500) dL_law_3759
theorem n500_3760 : Snd mt G 500 3760 (oCall 1 (fV [4] 281 1) 0 3763 xOut) := s_callV (m' := 281) (n := 0) xsh_out (w_xok0 mm500) (w_cal mm500 mm281 pn_X3 (Nat.le_of_ble_eq_true rfl) (Nat.le_of_ble_eq_true rfl)) (fun h b as hc hn => w_run_V (ci := 3) mm500 mm281 dL_law_3760 (Or.inl (List.mem_singleton.mp hc)) (Nat.le_of_ble_eq_true rfl) vc_3 rfl q2619 q2620 q2621 q150 q2622 pa281 hn)
theorem n500_3763 : Snd mt G 500 3763 (oIload 5 3765) := w_iload (hm := mm500) dL_law_3763
theorem n500_3765 : Snd mt G 500 3765 (oCmpEq 3770 3768) := w_icmp_eq (hm := mm500) dL_law_3765 rfl
theorem n500_3768 : Snd mt G 500 3768 (oConst (.int 0) 3769) := w_iconst (hm := mm500) dL_law_3768 rfl
theorem n500_3769 : Snd mt G 500 3769 (oRetI .boolean) := w_zret (hm := mm500) dL_law_3769 rfl
theorem n500_3770 : Snd mt G 500 3770 (oIload 5 3772) := w_iload (hm := mm500) dL_law_3770
theorem n500_3772 : Snd mt G 500 3772 (oIfEq 3775 3787) := w_if_ne (hm := mm500) dL_law_3772 rfl
theorem n500_3775 : Snd mt G 500 3775 (oAload 3 3776) := w_aload_n (hm := mm500) dL_law_3775
theorem n500_3776 : Snd mt G 500 3776 (oConst (.int 0) 3777) := w_iconst (hm := mm500) dL_law_3776 rfl
theorem n500_3777 : Snd mt G 500 3777 (oAld [102] 3778) := w_laload (hm := mm500) (kt := 2) dL_law_3777 at_2 (Nat.le_of_ble_eq_true rfl) (List.forall_mem_cons.mpr ⟨Or.inl rfl, (fun t ht => nomatch ht)⟩)
theorem n500_3778 : Snd mt G 500 3778 (oIload 6 3780) := w_iload (hm := mm500) dL_law_3778
theorem n500_3780 : Snd mt G 500 3780 (oUn (fun x => .long x.toInt64) 3781) := w_i2l (hm := mm500) dL_law_3780
theorem n500_3781 : Snd mt G 500 3781 (oLbin (fun x y => .int (lg_cmp x y)) 3782) := w_lcmp (hm := mm500) dL_law_3781
theorem n500_3782 : Snd mt G 500 3782 (oIfEq 3787 3785) := w_if_eq (hm := mm500) dL_law_3782 rfl
theorem n500_3785 : Snd mt G 500 3785 (oConst (.int 0) 3786) := w_iconst (hm := mm500) dL_law_3785 rfl
theorem n500_3786 : Snd mt G 500 3786 (oRetI .boolean) := w_zret (hm := mm500) dL_law_3786 rfl
theorem n500_3787 : Snd mt G 500 3787 (oGoto 4258) := w_goto (hm := mm500) dL_law_3787 rfl
theorem n500_3790 : Snd mt G 500 3790 (oAload 1 3791) := w_aload_n (hm := mm500) dL_law_3790
theorem n500_3791 : Snd mt G 500 3791 (oCall 1 (fV [1] 76 1) 0 3794 xOut) := s_callV (m' := 76) (n := 0) xsh_out (w_xok0 mm500) (w_cal mm500 mm76 pn_X1 (Nat.le_of_ble_eq_true rfl) (Nat.le_of_ble_eq_true rfl)) (fun h b as hc hn => w_run_V (ci := 0) mm500 mm76 dL_law_3791 (Or.inl (List.mem_singleton.mp hc)) (Nat.le_of_ble_eq_true rfl) vc_0 rfl q923 q924 q925 q129 q926 pa76 hn)
theorem n500_3794 : Snd mt G 500 3794 (oAload 2 3795) := w_aload_n (hm := mm500) dL_law_3794
theorem n500_3795 : Snd mt G 500 3795 (oCall 1 (fV [4] 401 1) 0 3798 xOut) := s_callV (m' := 401) (n := 0) xsh_out (w_xok0 mm500) (w_cal mm500 mm401 pn_X3 (Nat.le_of_ble_eq_true rfl) (Nat.le_of_ble_eq_true rfl)) (fun h b as hc hn => w_run_V (ci := 3) mm500 mm401 dL_law_3795 (Or.inl (List.mem_singleton.mp hc)) (Nat.le_of_ble_eq_true rfl) vc_3 rfl q3096 q3097 q3098 q150 q3099 pa401 hn)
theorem n500_3798 : Snd mt G 500 3798 (oCmpEq 4258 3801) := w_icmp_eq (hm := mm500) dL_law_3798 rfl
theorem n500_3801 : Snd mt G 500 3801 (oConst (.int 0) 3802) := w_iconst (hm := mm500) dL_law_3801 rfl
theorem n500_3802 : Snd mt G 500 3802 (oRetI .boolean) := w_zret (hm := mm500) dL_law_3802 rfl
theorem n500_3803 : Snd mt G 500 3803 (oAload 1 3804) := w_aload_n (hm := mm500) dL_law_3803
theorem n500_3804 : Snd mt G 500 3804 (oCall 1 (fV [1] 78 3) 0 3807 xOut) := s_callV (m' := 78) (n := 0) xsh_out (w_xok0 mm500) (w_cal mm500 mm78 pn_X1 (Nat.le_of_ble_eq_true rfl) (Nat.le_of_ble_eq_true rfl)) (fun h b as hc hn => w_run_V (ci := 0) mm500 mm78 dL_law_3804 (Or.inl (List.mem_singleton.mp hc)) (Nat.le_of_ble_eq_true rfl) vc_0 rfl q932 q933 q934 q129 q935 pa78 hn)
theorem n500_3807 : Snd mt G 500 3807 (oAload 2 3808) := w_aload_n (hm := mm500) dL_law_3807
theorem n500_3808 : Snd mt G 500 3808 (oCall 1 (fV [4] 403 3) 0 3811 xOut) := s_callV (m' := 403) (n := 0) xsh_out (w_xok0 mm500) (w_cal mm500 mm403 pn_X3 (Nat.le_of_ble_eq_true rfl) (Nat.le_of_ble_eq_true rfl)) (fun h b as hc hn => w_run_V (ci := 3) mm500 mm403 dL_law_3808 (Or.inl (List.mem_singleton.mp hc)) (Nat.le_of_ble_eq_true rfl) vc_3 rfl q3104 q3105 q3106 q150 q3107 pa403 hn)
theorem n500_3811 : Snd mt G 500 3811 (oCmpEq 4258 3814) := w_icmp_eq (hm := mm500) dL_law_3811 rfl
theorem n500_3814 : Snd mt G 500 3814 (oConst (.int 0) 3815) := w_iconst (hm := mm500) dL_law_3814 rfl
theorem n500_3815 : Snd mt G 500 3815 (oRetI .boolean) := w_zret (hm := mm500) dL_law_3815 rfl
theorem n500_3816 : Snd mt G 500 3816 (oAload 1 3817) := w_aload_n (hm := mm500) dL_law_3816
theorem n500_3817 : Snd mt G 500 3817 (oCall 1 (fV [1] 79 2) 0 3820 xOut) := s_callV (m' := 79) (n := 0) xsh_out (w_xok0 mm500) (w_cal mm500 mm79 pn_X1 (Nat.le_of_ble_eq_true rfl) (Nat.le_of_ble_eq_true rfl)) (fun h b as hc hn => w_run_V (ci := 0) mm500 mm79 dL_law_3817 (Or.inl (List.mem_singleton.mp hc)) (Nat.le_of_ble_eq_true rfl) vc_0 rfl q936 q937 q938 q129 q939 pa79 hn)
theorem n500_3820 : Snd mt G 500 3820 (oAload 2 3821) := w_aload_n (hm := mm500) dL_law_3820
theorem n500_3821 : Snd mt G 500 3821 (oCall 1 (fV [4] 404 2) 0 3824 xOut) := s_callV (m' := 404) (n := 0) xsh_out (w_xok0 mm500) (w_cal mm500 mm404 pn_X3 (Nat.le_of_ble_eq_true rfl) (Nat.le_of_ble_eq_true rfl)) (fun h b as hc hn => w_run_V (ci := 3) mm500 mm404 dL_law_3821 (Or.inl (List.mem_singleton.mp hc)) (Nat.le_of_ble_eq_true rfl) vc_3 rfl q3108 q3109 q3110 q150 q3111 pa404 hn)
theorem n500_3824 : Snd mt G 500 3824 (oCmpEq 4258 3827) := w_icmp_eq (hm := mm500) dL_law_3824 rfl
theorem n500_3827 : Snd mt G 500 3827 (oConst (.int 0) 3828) := w_iconst (hm := mm500) dL_law_3827 rfl
theorem n500_3828 : Snd mt G 500 3828 (oRetI .boolean) := w_zret (hm := mm500) dL_law_3828 rfl
theorem n500_3829 : Snd mt G 500 3829 (oAload 1 3830) := w_aload_n (hm := mm500) dL_law_3829
theorem n500_3830 : Snd mt G 500 3830 (oAload 0 3831) := w_aload_n (hm := mm500) dL_law_3830
theorem n500_3831 : Snd mt G 500 3831 (oIload 4 3833) := w_iload (hm := mm500) dL_law_3831
theorem n500_3833 : Snd mt G 500 3833 (oConst (.int 1) 3834) := w_iconst (hm := mm500) dL_law_3833 rfl
theorem n500_3834 : Snd mt G 500 3834 (oBin (fun x y => x + y) 3835) := w_iadd (hm := mm500) dL_law_3834
theorem n500_3835 : Snd mt G 500 3835 (oAld [1100] 3836) := w_iaload (hm := mm500) (kt := 0) dL_law_3835 at_0 (Nat.le_of_ble_eq_true rfl) (List.forall_mem_cons.mpr ⟨Or.inr rfl, (fun t ht => nomatch ht)⟩)
theorem n500_3836 : Snd mt G 500 3836 (oAload 0 3837) := w_aload_n (hm := mm500) dL_law_3836
theorem n500_3837 : Snd mt G 500 3837 (oIload 4 3839) := w_iload (hm := mm500) dL_law_3837
theorem n500_3839 : Snd mt G 500 3839 (oConst (.int 2) 3840) := w_iconst (hm := mm500) dL_law_3839 rfl
theorem n500_3840 : Snd mt G 500 3840 (oBin (fun x y => x + y) 3841) := w_iadd (hm := mm500) dL_law_3840
theorem n500_3841 : Snd mt G 500 3841 (oAld [1100] 3842) := w_iaload (hm := mm500) (kt := 0) dL_law_3841 at_0 (Nat.le_of_ble_eq_true rfl) (List.forall_mem_cons.mpr ⟨Or.inr rfl, (fun t ht => nomatch ht)⟩)
theorem n500_3842 : Snd mt G 500 3842 (oAload 3 3843) := w_aload_n (hm := mm500) dL_law_3842
theorem n500_3843 : Snd mt G 500 3843 (oCall 4 (fS 46 5) 0 3846 xOut) := s_callS (m' := 46) (n := 4) xsh_out (w_xok0 mm500) (w_cal mm500 mm46 pn_X0 (Nat.le_of_ble_eq_true rfl) (Nat.le_of_ble_eq_true rfl)) (fun h as hn => w_run_SX mm500 mm46 dL_law_3843 q2326 q2327 q128 q2328 pa46 hn)
theorem n500_3846 : Snd mt G 500 3846 (oIstore 5 3848) := w_istore (hm := mm500) dL_law_3846 (Nat.le_of_ble_eq_true rfl)
theorem n500_3848 : Snd mt G 500 3848 (oAload 2 3849) := w_aload_n (hm := mm500) dL_law_3848
theorem n500_3849 : Snd mt G 500 3849 (oAload 0 3850) := w_aload_n (hm := mm500) dL_law_3849
theorem n500_3850 : Snd mt G 500 3850 (oIload 4 3852) := w_iload (hm := mm500) dL_law_3850
theorem n500_3852 : Snd mt G 500 3852 (oConst (.int 1) 3853) := w_iconst (hm := mm500) dL_law_3852 rfl
theorem n500_3853 : Snd mt G 500 3853 (oBin (fun x y => x + y) 3854) := w_iadd (hm := mm500) dL_law_3853
theorem n500_3854 : Snd mt G 500 3854 (oAld [1100] 3855) := w_iaload (hm := mm500) (kt := 0) dL_law_3854 at_0 (Nat.le_of_ble_eq_true rfl) (List.forall_mem_cons.mpr ⟨Or.inr rfl, (fun t ht => nomatch ht)⟩)
theorem n500_3855 : Snd mt G 500 3855 (oAload 0 3856) := w_aload_n (hm := mm500) dL_law_3855
theorem n500_3856 : Snd mt G 500 3856 (oIload 4 3858) := w_iload (hm := mm500) dL_law_3856
theorem n500_3858 : Snd mt G 500 3858 (oConst (.int 2) 3859) := w_iconst (hm := mm500) dL_law_3858 rfl
theorem n500_3859 : Snd mt G 500 3859 (oBin (fun x y => x + y) 3860) := w_iadd (hm := mm500) dL_law_3859
theorem n500_3860 : Snd mt G 500 3860 (oAld [1100] 3861) := w_iaload (hm := mm500) (kt := 0) dL_law_3860 at_0 (Nat.le_of_ble_eq_true rfl) (List.forall_mem_cons.mpr ⟨Or.inr rfl, (fun t ht => nomatch ht)⟩)
theorem n500_3861 : Snd mt G 500 3861 (oCall 3 (fV [4] 405 3) 0 3864 xOut) := s_callV (m' := 405) (n := 2) xsh_out (w_xok0 mm500) (w_cal mm500 mm405 pn_X3 (Nat.le_of_ble_eq_true rfl) (Nat.le_of_ble_eq_true rfl)) (fun h b as hc hn => w_run_V (ci := 3) mm500 mm405 dL_law_3861 (Or.inl (List.mem_singleton.mp hc)) (Nat.le_of_ble_eq_true rfl) vc_3 rfl q3112 q3113 q3114 q150 q3115 pa405 hn)
theorem n500_3864 : Snd mt G 500 3864 (oIstore 6 3866) := w_istore (hm := mm500) dL_law_3864 (Nat.le_of_ble_eq_true rfl)
theorem n500_3866 : Snd mt G 500 3866 (oAload 2 3867) := w_aload_n (hm := mm500) dL_law_3866
theorem n500_3867 : Snd mt G 500 3867 (oCall 1 (fV [4] 281 1) 0 3870 xOut) := s_callV (m' := 281) (n := 0) xsh_out (w_xok0 mm500) (w_cal mm500 mm281 pn_X3 (Nat.le_of_ble_eq_true rfl) (Nat.le_of_ble_eq_true rfl)) (fun h b as hc hn => w_run_V (ci := 3) mm500 mm281 dL_law_3867 (Or.inl (List.mem_singleton.mp hc)) (Nat.le_of_ble_eq_true rfl) vc_3 rfl q2619 q2620 q2621 q150 q2622 pa281 hn)
theorem n500_3870 : Snd mt G 500 3870 (oIload 5 3872) := w_iload (hm := mm500) dL_law_3870
theorem n500_3872 : Snd mt G 500 3872 (oCmpEq 3877 3875) := w_icmp_eq (hm := mm500) dL_law_3872 rfl
theorem n500_3875 : Snd mt G 500 3875 (oConst (.int 0) 3876) := w_iconst (hm := mm500) dL_law_3875 rfl
theorem n500_3876 : Snd mt G 500 3876 (oRetI .boolean) := w_zret (hm := mm500) dL_law_3876 rfl
theorem n500_3877 : Snd mt G 500 3877 (oIload 5 3879) := w_iload (hm := mm500) dL_law_3877
theorem n500_3879 : Snd mt G 500 3879 (oIfEq 3882 3894) := w_if_ne (hm := mm500) dL_law_3879 rfl
theorem n500_3882 : Snd mt G 500 3882 (oAload 3 3883) := w_aload_n (hm := mm500) dL_law_3882
theorem n500_3883 : Snd mt G 500 3883 (oConst (.int 0) 3884) := w_iconst (hm := mm500) dL_law_3883 rfl
theorem n500_3884 : Snd mt G 500 3884 (oAld [102] 3885) := w_laload (hm := mm500) (kt := 2) dL_law_3884 at_2 (Nat.le_of_ble_eq_true rfl) (List.forall_mem_cons.mpr ⟨Or.inl rfl, (fun t ht => nomatch ht)⟩)
theorem n500_3885 : Snd mt G 500 3885 (oIload 6 3887) := w_iload (hm := mm500) dL_law_3885
theorem n500_3887 : Snd mt G 500 3887 (oUn (fun x => .long x.toInt64) 3888) := w_i2l (hm := mm500) dL_law_3887
theorem n500_3888 : Snd mt G 500 3888 (oLbin (fun x y => .int (lg_cmp x y)) 3889) := w_lcmp (hm := mm500) dL_law_3888
theorem n500_3889 : Snd mt G 500 3889 (oIfEq 3894 3892) := w_if_eq (hm := mm500) dL_law_3889 rfl
theorem n500_3892 : Snd mt G 500 3892 (oConst (.int 0) 3893) := w_iconst (hm := mm500) dL_law_3892 rfl
theorem n500_3893 : Snd mt G 500 3893 (oRetI .boolean) := w_zret (hm := mm500) dL_law_3893 rfl
theorem n500_3894 : Snd mt G 500 3894 (oGoto 4258) := w_goto (hm := mm500) dL_law_3894 rfl
theorem n500_3897 : Snd mt G 500 3897 (oAload 1 3898) := w_aload_n (hm := mm500) dL_law_3897
theorem n500_3898 : Snd mt G 500 3898 (oAload 0 3899) := w_aload_n (hm := mm500) dL_law_3898
theorem n500_3899 : Snd mt G 500 3899 (oIload 4 3901) := w_iload (hm := mm500) dL_law_3899
theorem n500_3901 : Snd mt G 500 3901 (oConst (.int 1) 3902) := w_iconst (hm := mm500) dL_law_3901 rfl
theorem n500_3902 : Snd mt G 500 3902 (oBin (fun x y => x + y) 3903) := w_iadd (hm := mm500) dL_law_3902
theorem n500_3903 : Snd mt G 500 3903 (oAld [1100] 3904) := w_iaload (hm := mm500) (kt := 0) dL_law_3903 at_0 (Nat.le_of_ble_eq_true rfl) (List.forall_mem_cons.mpr ⟨Or.inr rfl, (fun t ht => nomatch ht)⟩)
theorem n500_3904 : Snd mt G 500 3904 (oAload 0 3905) := w_aload_n (hm := mm500) dL_law_3904
theorem n500_3905 : Snd mt G 500 3905 (oIload 4 3907) := w_iload (hm := mm500) dL_law_3905
theorem n500_3907 : Snd mt G 500 3907 (oConst (.int 2) 3908) := w_iconst (hm := mm500) dL_law_3907 rfl
theorem n500_3908 : Snd mt G 500 3908 (oBin (fun x y => x + y) 3909) := w_iadd (hm := mm500) dL_law_3908
theorem n500_3909 : Snd mt G 500 3909 (oAld [1100] 3910) := w_iaload (hm := mm500) (kt := 0) dL_law_3909 at_0 (Nat.le_of_ble_eq_true rfl) (List.forall_mem_cons.mpr ⟨Or.inr rfl, (fun t ht => nomatch ht)⟩)
theorem n500_3910 : Snd mt G 500 3910 (oAload 3 3911) := w_aload_n (hm := mm500) dL_law_3910
theorem n500_3911 : Snd mt G 500 3911 (oCall 4 (fS 47 5) 0 3914 xOut) := s_callS (m' := 47) (n := 4) xsh_out (w_xok0 mm500) (w_cal mm500 mm47 pn_X0 (Nat.le_of_ble_eq_true rfl) (Nat.le_of_ble_eq_true rfl)) (fun h as hn => w_run_SX mm500 mm47 dL_law_3911 q2350 q2351 q128 q2352 pa47 hn)
theorem n500_3914 : Snd mt G 500 3914 (oIstore 5 3916) := w_istore (hm := mm500) dL_law_3914 (Nat.le_of_ble_eq_true rfl)
theorem n500_3916 : Snd mt G 500 3916 (oAload 2 3917) := w_aload_n (hm := mm500) dL_law_3916
theorem n500_3917 : Snd mt G 500 3917 (oAload 0 3918) := w_aload_n (hm := mm500) dL_law_3917
theorem n500_3918 : Snd mt G 500 3918 (oIload 4 3920) := w_iload (hm := mm500) dL_law_3918
theorem n500_3920 : Snd mt G 500 3920 (oConst (.int 1) 3921) := w_iconst (hm := mm500) dL_law_3920 rfl
theorem n500_3921 : Snd mt G 500 3921 (oBin (fun x y => x + y) 3922) := w_iadd (hm := mm500) dL_law_3921
theorem n500_3922 : Snd mt G 500 3922 (oAld [1100] 3923) := w_iaload (hm := mm500) (kt := 0) dL_law_3922 at_0 (Nat.le_of_ble_eq_true rfl) (List.forall_mem_cons.mpr ⟨Or.inr rfl, (fun t ht => nomatch ht)⟩)
theorem n500_3923 : Snd mt G 500 3923 (oAload 0 3924) := w_aload_n (hm := mm500) dL_law_3923
theorem n500_3924 : Snd mt G 500 3924 (oIload 4 3926) := w_iload (hm := mm500) dL_law_3924
theorem n500_3926 : Snd mt G 500 3926 (oConst (.int 2) 3927) := w_iconst (hm := mm500) dL_law_3926 rfl
theorem n500_3927 : Snd mt G 500 3927 (oBin (fun x y => x + y) 3928) := w_iadd (hm := mm500) dL_law_3927
theorem n500_3928 : Snd mt G 500 3928 (oAld [1100] 3929) := w_iaload (hm := mm500) (kt := 0) dL_law_3928 at_0 (Nat.le_of_ble_eq_true rfl) (List.forall_mem_cons.mpr ⟨Or.inr rfl, (fun t ht => nomatch ht)⟩)
theorem n500_3929 : Snd mt G 500 3929 (oCall 3 (fV [4] 406 3) 0 3932 xOut) := s_callV (m' := 406) (n := 2) xsh_out (w_xok0 mm500) (w_cal mm500 mm406 pn_X3 (Nat.le_of_ble_eq_true rfl) (Nat.le_of_ble_eq_true rfl)) (fun h b as hc hn => w_run_V (ci := 3) mm500 mm406 dL_law_3929 (Or.inl (List.mem_singleton.mp hc)) (Nat.le_of_ble_eq_true rfl) vc_3 rfl q3116 q3117 q3118 q150 q3119 pa406 hn)
theorem n500_3932 : Snd mt G 500 3932 (oIstore 6 3934) := w_istore (hm := mm500) dL_law_3932 (Nat.le_of_ble_eq_true rfl)
theorem n500_3934 : Snd mt G 500 3934 (oAload 2 3935) := w_aload_n (hm := mm500) dL_law_3934
theorem n500_3935 : Snd mt G 500 3935 (oCall 1 (fV [4] 281 1) 0 3938 xOut) := s_callV (m' := 281) (n := 0) xsh_out (w_xok0 mm500) (w_cal mm500 mm281 pn_X3 (Nat.le_of_ble_eq_true rfl) (Nat.le_of_ble_eq_true rfl)) (fun h b as hc hn => w_run_V (ci := 3) mm500 mm281 dL_law_3935 (Or.inl (List.mem_singleton.mp hc)) (Nat.le_of_ble_eq_true rfl) vc_3 rfl q2619 q2620 q2621 q150 q2622 pa281 hn)
theorem n500_3938 : Snd mt G 500 3938 (oIload 5 3940) := w_iload (hm := mm500) dL_law_3938
theorem n500_3940 : Snd mt G 500 3940 (oCmpEq 3945 3943) := w_icmp_eq (hm := mm500) dL_law_3940 rfl
theorem n500_3943 : Snd mt G 500 3943 (oConst (.int 0) 3944) := w_iconst (hm := mm500) dL_law_3943 rfl
theorem n500_3944 : Snd mt G 500 3944 (oRetI .boolean) := w_zret (hm := mm500) dL_law_3944 rfl
theorem n500_3945 : Snd mt G 500 3945 (oIload 5 3947) := w_iload (hm := mm500) dL_law_3945
theorem n500_3947 : Snd mt G 500 3947 (oIfEq 3950 3962) := w_if_ne (hm := mm500) dL_law_3947 rfl
theorem n500_3950 : Snd mt G 500 3950 (oAload 3 3951) := w_aload_n (hm := mm500) dL_law_3950
theorem n500_3951 : Snd mt G 500 3951 (oConst (.int 0) 3952) := w_iconst (hm := mm500) dL_law_3951 rfl
theorem n500_3952 : Snd mt G 500 3952 (oAld [102] 3953) := w_laload (hm := mm500) (kt := 2) dL_law_3952 at_2 (Nat.le_of_ble_eq_true rfl) (List.forall_mem_cons.mpr ⟨Or.inl rfl, (fun t ht => nomatch ht)⟩)
theorem n500_3953 : Snd mt G 500 3953 (oIload 6 3955) := w_iload (hm := mm500) dL_law_3953
theorem n500_3955 : Snd mt G 500 3955 (oUn (fun x => .long x.toInt64) 3956) := w_i2l (hm := mm500) dL_law_3955
theorem n500_3956 : Snd mt G 500 3956 (oLbin (fun x y => .int (lg_cmp x y)) 3957) := w_lcmp (hm := mm500) dL_law_3956
theorem n500_3957 : Snd mt G 500 3957 (oIfEq 3962 3960) := w_if_eq (hm := mm500) dL_law_3957 rfl
theorem n500_3960 : Snd mt G 500 3960 (oConst (.int 0) 3961) := w_iconst (hm := mm500) dL_law_3960 rfl
theorem n500_3961 : Snd mt G 500 3961 (oRetI .boolean) := w_zret (hm := mm500) dL_law_3961 rfl
theorem n500_3962 : Snd mt G 500 3962 (oGoto 4258) := w_goto (hm := mm500) dL_law_3962 rfl
theorem n500_3965 : Snd mt G 500 3965 (oAload 1 3966) := w_aload_n (hm := mm500) dL_law_3965
theorem n500_3966 : Snd mt G 500 3966 (oCall 1 (fV [1] 80 2) 0 3969 xOut) := s_callV (m' := 80) (n := 0) xsh_out (w_xok0 mm500) (w_cal mm500 mm80 pn_X1 (Nat.le_of_ble_eq_true rfl) (Nat.le_of_ble_eq_true rfl)) (fun h b as hc hn => w_run_V (ci := 0) mm500 mm80 dL_law_3966 (Or.inl (List.mem_singleton.mp hc)) (Nat.le_of_ble_eq_true rfl) vc_0 rfl q944 q945 q946 q129 q947 pa80 hn)
theorem n500_3969 : Snd mt G 500 3969 (oAload 2 3970) := w_aload_n (hm := mm500) dL_law_3969
theorem n500_3970 : Snd mt G 500 3970 (oCall 1 (fV [4] 409 3) 0 3973 xOut) := s_callV (m' := 409) (n := 0) xsh_out (w_xok0 mm500) (w_cal mm500 mm409 pn_X3 (Nat.le_of_ble_eq_true rfl) (Nat.le_of_ble_eq_true rfl)) (fun h b as hc hn => w_run_V (ci := 3) mm500 mm409 dL_law_3970 (Or.inl (List.mem_singleton.mp hc)) (Nat.le_of_ble_eq_true rfl) vc_3 rfl q3128 q3129 q3130 q150 q3131 pa409 hn)
theorem n500_3973 : Snd mt G 500 3973 (oCmpEq 4258 3976) := w_icmp_eq (hm := mm500) dL_law_3973 rfl
theorem n500_3976 : Snd mt G 500 3976 (oConst (.int 0) 3977) := w_iconst (hm := mm500) dL_law_3976 rfl
theorem n500_3977 : Snd mt G 500 3977 (oRetI .boolean) := w_zret (hm := mm500) dL_law_3977 rfl
theorem n500_3978 : Snd mt G 500 3978 (oAload 1 3979) := w_aload_n (hm := mm500) dL_law_3978
theorem n500_3979 : Snd mt G 500 3979 (oCall 1 (fV [1] 83 8) 0 3982 xOut) := s_callV (m' := 83) (n := 0) xsh_out (w_xok0 mm500) (w_cal mm500 mm83 pn_X1 (Nat.le_of_ble_eq_true rfl) (Nat.le_of_ble_eq_true rfl)) (fun h b as hc hn => w_run_V (ci := 0) mm500 mm83 dL_law_3979 (Or.inl (List.mem_singleton.mp hc)) (Nat.le_of_ble_eq_true rfl) vc_0 rfl q967 q968 q969 q129 q970 pa83 hn)
theorem n500_3982 : Snd mt G 500 3982 (oAload 2 3983) := w_aload_n (hm := mm500) dL_law_3982
theorem n500_3983 : Snd mt G 500 3983 (oCall 1 (fV [4] 410 7) 0 3986 xOut) := s_callV (m' := 410) (n := 0) xsh_out (w_xok0 mm500) (w_cal mm500 mm410 pn_X3 (Nat.le_of_ble_eq_true rfl) (Nat.le_of_ble_eq_true rfl)) (fun h b as hc hn => w_run_V (ci := 3) mm500 mm410 dL_law_3983 (Or.inl (List.mem_singleton.mp hc)) (Nat.le_of_ble_eq_true rfl) vc_3 rfl q3132 q3133 q3134 q150 q3135 pa410 hn)
theorem n500_3986 : Snd mt G 500 3986 (oCmpEq 4258 3989) := w_icmp_eq (hm := mm500) dL_law_3986 rfl
theorem n500_3989 : Snd mt G 500 3989 (oConst (.int 0) 3990) := w_iconst (hm := mm500) dL_law_3989 rfl
theorem n500_3990 : Snd mt G 500 3990 (oRetI .boolean) := w_zret (hm := mm500) dL_law_3990 rfl
theorem n500_3991 : Snd mt G 500 3991 (oAload 1 3992) := w_aload_n (hm := mm500) dL_law_3991
theorem n500_3992 : Snd mt G 500 3992 (oAload 0 3993) := w_aload_n (hm := mm500) dL_law_3992
theorem n500_3993 : Snd mt G 500 3993 (oIload 4 3995) := w_iload (hm := mm500) dL_law_3993
theorem n500_3995 : Snd mt G 500 3995 (oConst (.int 1) 3996) := w_iconst (hm := mm500) dL_law_3995 rfl
theorem n500_3996 : Snd mt G 500 3996 (oBin (fun x y => x + y) 3997) := w_iadd (hm := mm500) dL_law_3996
theorem n500_3997 : Snd mt G 500 3997 (oAld [1100] 3998) := w_iaload (hm := mm500) (kt := 0) dL_law_3997 at_0 (Nat.le_of_ble_eq_true rfl) (List.forall_mem_cons.mpr ⟨Or.inr rfl, (fun t ht => nomatch ht)⟩)
theorem n500_3998 : Snd mt G 500 3998 (oAload 0 3999) := w_aload_n (hm := mm500) dL_law_3998
theorem n500_3999 : Snd mt G 500 3999 (oIload 4 4001) := w_iload (hm := mm500) dL_law_3999
theorem n500_4001 : Snd mt G 500 4001 (oConst (.int 2) 4002) := w_iconst (hm := mm500) dL_law_4001 rfl
theorem n500_4002 : Snd mt G 500 4002 (oBin (fun x y => x + y) 4003) := w_iadd (hm := mm500) dL_law_4002
theorem n500_4003 : Snd mt G 500 4003 (oAld [1100] 4004) := w_iaload (hm := mm500) (kt := 0) dL_law_4003 at_0 (Nat.le_of_ble_eq_true rfl) (List.forall_mem_cons.mpr ⟨Or.inr rfl, (fun t ht => nomatch ht)⟩)
theorem n500_4004 : Snd mt G 500 4004 (oAload 0 4005) := w_aload_n (hm := mm500) dL_law_4004
theorem n500_4005 : Snd mt G 500 4005 (oIload 4 4007) := w_iload (hm := mm500) dL_law_4005
theorem n500_4007 : Snd mt G 500 4007 (oConst (.int 3) 4008) := w_iconst (hm := mm500) dL_law_4007 rfl
theorem n500_4008 : Snd mt G 500 4008 (oBin (fun x y => x + y) 4009) := w_iadd (hm := mm500) dL_law_4008
theorem n500_4009 : Snd mt G 500 4009 (oAld [1100] 4010) := w_iaload (hm := mm500) (kt := 0) dL_law_4009 at_0 (Nat.le_of_ble_eq_true rfl) (List.forall_mem_cons.mpr ⟨Or.inr rfl, (fun t ht => nomatch ht)⟩)
theorem n500_4010 : Snd mt G 500 4010 (oAload 3 4011) := w_aload_n (hm := mm500) dL_law_4010
theorem n500_4011 : Snd mt G 500 4011 (oCall 5 (fS 48 6) 0 4014 xOut) := s_callS (m' := 48) (n := 5) xsh_out (w_xok0 mm500) (w_cal mm500 mm48 pn_X0 (Nat.le_of_ble_eq_true rfl) (Nat.le_of_ble_eq_true rfl)) (fun h as hn => w_run_SX mm500 mm48 dL_law_4011 q2357 q2358 q128 q2359 pa48 hn)
theorem n500_4014 : Snd mt G 500 4014 (oIstore 5 4016) := w_istore (hm := mm500) dL_law_4014 (Nat.le_of_ble_eq_true rfl)
theorem n500_4016 : Snd mt G 500 4016 (oAload 2 4017) := w_aload_n (hm := mm500) dL_law_4016
theorem n500_4017 : Snd mt G 500 4017 (oAload 0 4018) := w_aload_n (hm := mm500) dL_law_4017
theorem n500_4018 : Snd mt G 500 4018 (oIload 4 4020) := w_iload (hm := mm500) dL_law_4018
theorem n500_4020 : Snd mt G 500 4020 (oConst (.int 1) 4021) := w_iconst (hm := mm500) dL_law_4020 rfl
theorem n500_4021 : Snd mt G 500 4021 (oBin (fun x y => x + y) 4022) := w_iadd (hm := mm500) dL_law_4021
theorem n500_4022 : Snd mt G 500 4022 (oAld [1100] 4023) := w_iaload (hm := mm500) (kt := 0) dL_law_4022 at_0 (Nat.le_of_ble_eq_true rfl) (List.forall_mem_cons.mpr ⟨Or.inr rfl, (fun t ht => nomatch ht)⟩)
theorem n500_4023 : Snd mt G 500 4023 (oAload 0 4024) := w_aload_n (hm := mm500) dL_law_4023
theorem n500_4024 : Snd mt G 500 4024 (oIload 4 4026) := w_iload (hm := mm500) dL_law_4024
theorem n500_4026 : Snd mt G 500 4026 (oConst (.int 2) 4027) := w_iconst (hm := mm500) dL_law_4026 rfl
theorem n500_4027 : Snd mt G 500 4027 (oBin (fun x y => x + y) 4028) := w_iadd (hm := mm500) dL_law_4027
theorem n500_4028 : Snd mt G 500 4028 (oAld [1100] 4029) := w_iaload (hm := mm500) (kt := 0) dL_law_4028 at_0 (Nat.le_of_ble_eq_true rfl) (List.forall_mem_cons.mpr ⟨Or.inr rfl, (fun t ht => nomatch ht)⟩)
theorem n500_4029 : Snd mt G 500 4029 (oAload 0 4030) := w_aload_n (hm := mm500) dL_law_4029
theorem n500_4030 : Snd mt G 500 4030 (oIload 4 4032) := w_iload (hm := mm500) dL_law_4030
theorem n500_4032 : Snd mt G 500 4032 (oConst (.int 3) 4033) := w_iconst (hm := mm500) dL_law_4032 rfl
theorem n500_4033 : Snd mt G 500 4033 (oBin (fun x y => x + y) 4034) := w_iadd (hm := mm500) dL_law_4033
theorem n500_4034 : Snd mt G 500 4034 (oAld [1100] 4035) := w_iaload (hm := mm500) (kt := 0) dL_law_4034 at_0 (Nat.le_of_ble_eq_true rfl) (List.forall_mem_cons.mpr ⟨Or.inr rfl, (fun t ht => nomatch ht)⟩)
theorem n500_4035 : Snd mt G 500 4035 (oCall 4 (fV [4] 411 4) 0 4038 xOut) := s_callV (m' := 411) (n := 3) xsh_out (w_xok0 mm500) (w_cal mm500 mm411 pn_X3 (Nat.le_of_ble_eq_true rfl) (Nat.le_of_ble_eq_true rfl)) (fun h b as hc hn => w_run_V (ci := 3) mm500 mm411 dL_law_4035 (Or.inl (List.mem_singleton.mp hc)) (Nat.le_of_ble_eq_true rfl) vc_3 rfl q3136 q3137 q3138 q150 q3139 pa411 hn)
theorem n500_4038 : Snd mt G 500 4038 (oIstore 6 4040) := w_istore (hm := mm500) dL_law_4038 (Nat.le_of_ble_eq_true rfl)
theorem n500_4040 : Snd mt G 500 4040 (oAload 2 4041) := w_aload_n (hm := mm500) dL_law_4040
theorem n500_4041 : Snd mt G 500 4041 (oCall 1 (fV [4] 281 1) 0 4044 xOut) := s_callV (m' := 281) (n := 0) xsh_out (w_xok0 mm500) (w_cal mm500 mm281 pn_X3 (Nat.le_of_ble_eq_true rfl) (Nat.le_of_ble_eq_true rfl)) (fun h b as hc hn => w_run_V (ci := 3) mm500 mm281 dL_law_4041 (Or.inl (List.mem_singleton.mp hc)) (Nat.le_of_ble_eq_true rfl) vc_3 rfl q2619 q2620 q2621 q150 q2622 pa281 hn)
theorem n500_4044 : Snd mt G 500 4044 (oIload 5 4046) := w_iload (hm := mm500) dL_law_4044
theorem n500_4046 : Snd mt G 500 4046 (oCmpEq 4051 4049) := w_icmp_eq (hm := mm500) dL_law_4046 rfl
theorem n500_4049 : Snd mt G 500 4049 (oConst (.int 0) 4050) := w_iconst (hm := mm500) dL_law_4049 rfl
theorem n500_4050 : Snd mt G 500 4050 (oRetI .boolean) := w_zret (hm := mm500) dL_law_4050 rfl
theorem n500_4051 : Snd mt G 500 4051 (oIload 5 4053) := w_iload (hm := mm500) dL_law_4051
theorem n500_4053 : Snd mt G 500 4053 (oIfEq 4056 4068) := w_if_ne (hm := mm500) dL_law_4053 rfl
theorem n500_4056 : Snd mt G 500 4056 (oAload 3 4057) := w_aload_n (hm := mm500) dL_law_4056
theorem n500_4057 : Snd mt G 500 4057 (oConst (.int 0) 4058) := w_iconst (hm := mm500) dL_law_4057 rfl
theorem n500_4058 : Snd mt G 500 4058 (oAld [102] 4059) := w_laload (hm := mm500) (kt := 2) dL_law_4058 at_2 (Nat.le_of_ble_eq_true rfl) (List.forall_mem_cons.mpr ⟨Or.inl rfl, (fun t ht => nomatch ht)⟩)
theorem n500_4059 : Snd mt G 500 4059 (oIload 6 4061) := w_iload (hm := mm500) dL_law_4059
theorem n500_4061 : Snd mt G 500 4061 (oUn (fun x => .long x.toInt64) 4062) := w_i2l (hm := mm500) dL_law_4061
theorem n500_4062 : Snd mt G 500 4062 (oLbin (fun x y => .int (lg_cmp x y)) 4063) := w_lcmp (hm := mm500) dL_law_4062
theorem n500_4063 : Snd mt G 500 4063 (oIfEq 4068 4066) := w_if_eq (hm := mm500) dL_law_4063 rfl
theorem n500_4066 : Snd mt G 500 4066 (oConst (.int 0) 4067) := w_iconst (hm := mm500) dL_law_4066 rfl
theorem n500_4067 : Snd mt G 500 4067 (oRetI .boolean) := w_zret (hm := mm500) dL_law_4067 rfl
theorem n500_4068 : Snd mt G 500 4068 (oGoto 4258) := w_goto (hm := mm500) dL_law_4068 rfl
theorem n500_4071 : Snd mt G 500 4071 (oAload 1 4072) := w_aload_n (hm := mm500) dL_law_4071
theorem n500_4072 : Snd mt G 500 4072 (oAload 0 4073) := w_aload_n (hm := mm500) dL_law_4072
theorem n500_4073 : Snd mt G 500 4073 (oIload 4 4075) := w_iload (hm := mm500) dL_law_4073
theorem n500_4075 : Snd mt G 500 4075 (oConst (.int 1) 4076) := w_iconst (hm := mm500) dL_law_4075 rfl
theorem n500_4076 : Snd mt G 500 4076 (oBin (fun x y => x + y) 4077) := w_iadd (hm := mm500) dL_law_4076
theorem n500_4077 : Snd mt G 500 4077 (oAld [1100] 4078) := w_iaload (hm := mm500) (kt := 0) dL_law_4077 at_0 (Nat.le_of_ble_eq_true rfl) (List.forall_mem_cons.mpr ⟨Or.inr rfl, (fun t ht => nomatch ht)⟩)
theorem n500_4078 : Snd mt G 500 4078 (oAload 0 4079) := w_aload_n (hm := mm500) dL_law_4078
theorem n500_4079 : Snd mt G 500 4079 (oIload 4 4081) := w_iload (hm := mm500) dL_law_4079
theorem n500_4081 : Snd mt G 500 4081 (oConst (.int 2) 4082) := w_iconst (hm := mm500) dL_law_4081 rfl
theorem n500_4082 : Snd mt G 500 4082 (oBin (fun x y => x + y) 4083) := w_iadd (hm := mm500) dL_law_4082
theorem n500_4083 : Snd mt G 500 4083 (oAld [1100] 4084) := w_iaload (hm := mm500) (kt := 0) dL_law_4083 at_0 (Nat.le_of_ble_eq_true rfl) (List.forall_mem_cons.mpr ⟨Or.inr rfl, (fun t ht => nomatch ht)⟩)
theorem n500_4084 : Snd mt G 500 4084 (oAload 3 4085) := w_aload_n (hm := mm500) dL_law_4084
theorem n500_4085 : Snd mt G 500 4085 (oCall 4 (fS 49 5) 0 4088 xOut) := s_callS (m' := 49) (n := 4) xsh_out (w_xok0 mm500) (w_cal mm500 mm49 pn_X0 (Nat.le_of_ble_eq_true rfl) (Nat.le_of_ble_eq_true rfl)) (fun h as hn => w_run_SX mm500 mm49 dL_law_4085 q2383 q2384 q128 q2385 pa49 hn)
theorem n500_4088 : Snd mt G 500 4088 (oIstore 5 4090) := w_istore (hm := mm500) dL_law_4088 (Nat.le_of_ble_eq_true rfl)
theorem n500_4090 : Snd mt G 500 4090 (oAload 2 4091) := w_aload_n (hm := mm500) dL_law_4090
theorem n500_4091 : Snd mt G 500 4091 (oAload 0 4092) := w_aload_n (hm := mm500) dL_law_4091
theorem n500_4092 : Snd mt G 500 4092 (oIload 4 4094) := w_iload (hm := mm500) dL_law_4092
theorem n500_4094 : Snd mt G 500 4094 (oConst (.int 1) 4095) := w_iconst (hm := mm500) dL_law_4094 rfl
theorem n500_4095 : Snd mt G 500 4095 (oBin (fun x y => x + y) 4096) := w_iadd (hm := mm500) dL_law_4095
theorem n500_4096 : Snd mt G 500 4096 (oAld [1100] 4097) := w_iaload (hm := mm500) (kt := 0) dL_law_4096 at_0 (Nat.le_of_ble_eq_true rfl) (List.forall_mem_cons.mpr ⟨Or.inr rfl, (fun t ht => nomatch ht)⟩)
theorem n500_4097 : Snd mt G 500 4097 (oAload 0 4098) := w_aload_n (hm := mm500) dL_law_4097
theorem n500_4098 : Snd mt G 500 4098 (oIload 4 4100) := w_iload (hm := mm500) dL_law_4098
theorem n500_4100 : Snd mt G 500 4100 (oConst (.int 2) 4101) := w_iconst (hm := mm500) dL_law_4100 rfl
theorem n500_4101 : Snd mt G 500 4101 (oBin (fun x y => x + y) 4102) := w_iadd (hm := mm500) dL_law_4101
theorem n500_4102 : Snd mt G 500 4102 (oAld [1100] 4103) := w_iaload (hm := mm500) (kt := 0) dL_law_4102 at_0 (Nat.le_of_ble_eq_true rfl) (List.forall_mem_cons.mpr ⟨Or.inr rfl, (fun t ht => nomatch ht)⟩)
theorem n500_4103 : Snd mt G 500 4103 (oCall 3 (fV [4] 412 10) 0 4106 xOut) := s_callV (m' := 412) (n := 2) xsh_out (w_xok0 mm500) (w_cal mm500 mm412 pn_X3 (Nat.le_of_ble_eq_true rfl) (Nat.le_of_ble_eq_true rfl)) (fun h b as hc hn => w_run_V (ci := 3) mm500 mm412 dL_law_4103 (Or.inl (List.mem_singleton.mp hc)) (Nat.le_of_ble_eq_true rfl) vc_3 rfl q3140 q3141 q3142 q150 q3143 pa412 hn)
theorem n500_4106 : Snd mt G 500 4106 (oIstore 6 4108) := w_istore (hm := mm500) dL_law_4106 (Nat.le_of_ble_eq_true rfl)
theorem n500_4108 : Snd mt G 500 4108 (oAload 2 4109) := w_aload_n (hm := mm500) dL_law_4108
theorem n500_4109 : Snd mt G 500 4109 (oCall 1 (fV [4] 281 1) 0 4112 xOut) := s_callV (m' := 281) (n := 0) xsh_out (w_xok0 mm500) (w_cal mm500 mm281 pn_X3 (Nat.le_of_ble_eq_true rfl) (Nat.le_of_ble_eq_true rfl)) (fun h b as hc hn => w_run_V (ci := 3) mm500 mm281 dL_law_4109 (Or.inl (List.mem_singleton.mp hc)) (Nat.le_of_ble_eq_true rfl) vc_3 rfl q2619 q2620 q2621 q150 q2622 pa281 hn)
theorem n500_4112 : Snd mt G 500 4112 (oIload 5 4114) := w_iload (hm := mm500) dL_law_4112
theorem n500_4114 : Snd mt G 500 4114 (oCmpEq 4119 4117) := w_icmp_eq (hm := mm500) dL_law_4114 rfl
theorem n500_4117 : Snd mt G 500 4117 (oConst (.int 0) 4118) := w_iconst (hm := mm500) dL_law_4117 rfl
theorem n500_4118 : Snd mt G 500 4118 (oRetI .boolean) := w_zret (hm := mm500) dL_law_4118 rfl
theorem n500_4119 : Snd mt G 500 4119 (oIload 5 4121) := w_iload (hm := mm500) dL_law_4119
theorem n500_4121 : Snd mt G 500 4121 (oIfEq 4124 4136) := w_if_ne (hm := mm500) dL_law_4121 rfl
theorem n500_4124 : Snd mt G 500 4124 (oAload 3 4125) := w_aload_n (hm := mm500) dL_law_4124
theorem n500_4125 : Snd mt G 500 4125 (oConst (.int 0) 4126) := w_iconst (hm := mm500) dL_law_4125 rfl
theorem n500_4126 : Snd mt G 500 4126 (oAld [102] 4127) := w_laload (hm := mm500) (kt := 2) dL_law_4126 at_2 (Nat.le_of_ble_eq_true rfl) (List.forall_mem_cons.mpr ⟨Or.inl rfl, (fun t ht => nomatch ht)⟩)
theorem n500_4127 : Snd mt G 500 4127 (oIload 6 4129) := w_iload (hm := mm500) dL_law_4127
theorem n500_4129 : Snd mt G 500 4129 (oUn (fun x => .long x.toInt64) 4130) := w_i2l (hm := mm500) dL_law_4129
theorem n500_4130 : Snd mt G 500 4130 (oLbin (fun x y => .int (lg_cmp x y)) 4131) := w_lcmp (hm := mm500) dL_law_4130
theorem n500_4131 : Snd mt G 500 4131 (oIfEq 4136 4134) := w_if_eq (hm := mm500) dL_law_4131 rfl
theorem n500_4134 : Snd mt G 500 4134 (oConst (.int 0) 4135) := w_iconst (hm := mm500) dL_law_4134 rfl
theorem n500_4135 : Snd mt G 500 4135 (oRetI .boolean) := w_zret (hm := mm500) dL_law_4135 rfl
theorem n500_4136 : Snd mt G 500 4136 (oGoto 4258) := w_goto (hm := mm500) dL_law_4136 rfl
theorem n500_4139 : Snd mt G 500 4139 (oAload 1 4140) := w_aload_n (hm := mm500) dL_law_4139
theorem n500_4140 : Snd mt G 500 4140 (oAload 0 4141) := w_aload_n (hm := mm500) dL_law_4140
theorem n500_4141 : Snd mt G 500 4141 (oIload 4 4143) := w_iload (hm := mm500) dL_law_4141
theorem n500_4143 : Snd mt G 500 4143 (oConst (.int 1) 4144) := w_iconst (hm := mm500) dL_law_4143 rfl
theorem n500_4144 : Snd mt G 500 4144 (oBin (fun x y => x + y) 4145) := w_iadd (hm := mm500) dL_law_4144
theorem n500_4145 : Snd mt G 500 4145 (oAld [1100] 4146) := w_iaload (hm := mm500) (kt := 0) dL_law_4145 at_0 (Nat.le_of_ble_eq_true rfl) (List.forall_mem_cons.mpr ⟨Or.inr rfl, (fun t ht => nomatch ht)⟩)
theorem n500_4146 : Snd mt G 500 4146 (oAload 0 4147) := w_aload_n (hm := mm500) dL_law_4146
theorem n500_4147 : Snd mt G 500 4147 (oIload 4 4149) := w_iload (hm := mm500) dL_law_4147
theorem n500_4149 : Snd mt G 500 4149 (oConst (.int 2) 4150) := w_iconst (hm := mm500) dL_law_4149 rfl
theorem n500_4150 : Snd mt G 500 4150 (oBin (fun x y => x + y) 4151) := w_iadd (hm := mm500) dL_law_4150
theorem n500_4151 : Snd mt G 500 4151 (oAld [1100] 4152) := w_iaload (hm := mm500) (kt := 0) dL_law_4151 at_0 (Nat.le_of_ble_eq_true rfl) (List.forall_mem_cons.mpr ⟨Or.inr rfl, (fun t ht => nomatch ht)⟩)
theorem n500_4152 : Snd mt G 500 4152 (oAload 3 4153) := w_aload_n (hm := mm500) dL_law_4152
theorem n500_4153 : Snd mt G 500 4153 (oCall 4 (fS 50 5) 0 4156 xOut) := s_callS (m' := 50) (n := 4) xsh_out (w_xok0 mm500) (w_cal mm500 mm50 pn_X0 (Nat.le_of_ble_eq_true rfl) (Nat.le_of_ble_eq_true rfl)) (fun h as hn => w_run_SX mm500 mm50 dL_law_4153 q2390 q2391 q128 q2392 pa50 hn)
theorem n500_4156 : Snd mt G 500 4156 (oIstore 5 4158) := w_istore (hm := mm500) dL_law_4156 (Nat.le_of_ble_eq_true rfl)
theorem n500_4158 : Snd mt G 500 4158 (oAload 2 4159) := w_aload_n (hm := mm500) dL_law_4158
theorem n500_4159 : Snd mt G 500 4159 (oAload 0 4160) := w_aload_n (hm := mm500) dL_law_4159
theorem n500_4160 : Snd mt G 500 4160 (oIload 4 4162) := w_iload (hm := mm500) dL_law_4160
theorem n500_4162 : Snd mt G 500 4162 (oConst (.int 1) 4163) := w_iconst (hm := mm500) dL_law_4162 rfl
theorem n500_4163 : Snd mt G 500 4163 (oBin (fun x y => x + y) 4164) := w_iadd (hm := mm500) dL_law_4163
theorem n500_4164 : Snd mt G 500 4164 (oAld [1100] 4165) := w_iaload (hm := mm500) (kt := 0) dL_law_4164 at_0 (Nat.le_of_ble_eq_true rfl) (List.forall_mem_cons.mpr ⟨Or.inr rfl, (fun t ht => nomatch ht)⟩)
theorem n500_4165 : Snd mt G 500 4165 (oAload 0 4166) := w_aload_n (hm := mm500) dL_law_4165
theorem n500_4166 : Snd mt G 500 4166 (oIload 4 4168) := w_iload (hm := mm500) dL_law_4166
theorem n500_4168 : Snd mt G 500 4168 (oConst (.int 2) 4169) := w_iconst (hm := mm500) dL_law_4168 rfl
theorem n500_4169 : Snd mt G 500 4169 (oBin (fun x y => x + y) 4170) := w_iadd (hm := mm500) dL_law_4169
theorem n500_4170 : Snd mt G 500 4170 (oAld [1100] 4171) := w_iaload (hm := mm500) (kt := 0) dL_law_4170 at_0 (Nat.le_of_ble_eq_true rfl) (List.forall_mem_cons.mpr ⟨Or.inr rfl, (fun t ht => nomatch ht)⟩)
theorem n500_4171 : Snd mt G 500 4171 (oCall 3 (fV [4] 413 5) 0 4174 xOut) := s_callV (m' := 413) (n := 2) xsh_out (w_xok0 mm500) (w_cal mm500 mm413 pn_X3 (Nat.le_of_ble_eq_true rfl) (Nat.le_of_ble_eq_true rfl)) (fun h b as hc hn => w_run_V (ci := 3) mm500 mm413 dL_law_4171 (Or.inl (List.mem_singleton.mp hc)) (Nat.le_of_ble_eq_true rfl) vc_3 rfl q3144 q3145 q3146 q150 q3147 pa413 hn)
theorem n500_4174 : Snd mt G 500 4174 (oIstore 6 4176) := w_istore (hm := mm500) dL_law_4174 (Nat.le_of_ble_eq_true rfl)
theorem n500_4176 : Snd mt G 500 4176 (oAload 2 4177) := w_aload_n (hm := mm500) dL_law_4176
theorem n500_4177 : Snd mt G 500 4177 (oCall 1 (fV [4] 281 1) 0 4180 xOut) := s_callV (m' := 281) (n := 0) xsh_out (w_xok0 mm500) (w_cal mm500 mm281 pn_X3 (Nat.le_of_ble_eq_true rfl) (Nat.le_of_ble_eq_true rfl)) (fun h b as hc hn => w_run_V (ci := 3) mm500 mm281 dL_law_4177 (Or.inl (List.mem_singleton.mp hc)) (Nat.le_of_ble_eq_true rfl) vc_3 rfl q2619 q2620 q2621 q150 q2622 pa281 hn)
theorem n500_4180 : Snd mt G 500 4180 (oIload 5 4182) := w_iload (hm := mm500) dL_law_4180
theorem n500_4182 : Snd mt G 500 4182 (oCmpEq 4187 4185) := w_icmp_eq (hm := mm500) dL_law_4182 rfl
theorem n500_4185 : Snd mt G 500 4185 (oConst (.int 0) 4186) := w_iconst (hm := mm500) dL_law_4185 rfl
theorem n500_4186 : Snd mt G 500 4186 (oRetI .boolean) := w_zret (hm := mm500) dL_law_4186 rfl
theorem n500_4187 : Snd mt G 500 4187 (oIload 5 4189) := w_iload (hm := mm500) dL_law_4187
theorem n500_4189 : Snd mt G 500 4189 (oIfEq 4192 4204) := w_if_ne (hm := mm500) dL_law_4189 rfl
theorem n500_4192 : Snd mt G 500 4192 (oAload 3 4193) := w_aload_n (hm := mm500) dL_law_4192
theorem n500_4193 : Snd mt G 500 4193 (oConst (.int 0) 4194) := w_iconst (hm := mm500) dL_law_4193 rfl
theorem n500_4194 : Snd mt G 500 4194 (oAld [102] 4195) := w_laload (hm := mm500) (kt := 2) dL_law_4194 at_2 (Nat.le_of_ble_eq_true rfl) (List.forall_mem_cons.mpr ⟨Or.inl rfl, (fun t ht => nomatch ht)⟩)
theorem n500_4195 : Snd mt G 500 4195 (oIload 6 4197) := w_iload (hm := mm500) dL_law_4195
theorem n500_4197 : Snd mt G 500 4197 (oUn (fun x => .long x.toInt64) 4198) := w_i2l (hm := mm500) dL_law_4197
theorem n500_4198 : Snd mt G 500 4198 (oLbin (fun x y => .int (lg_cmp x y)) 4199) := w_lcmp (hm := mm500) dL_law_4198
theorem n500_4199 : Snd mt G 500 4199 (oIfEq 4204 4202) := w_if_eq (hm := mm500) dL_law_4199 rfl
theorem n500_4202 : Snd mt G 500 4202 (oConst (.int 0) 4203) := w_iconst (hm := mm500) dL_law_4202 rfl
theorem n500_4203 : Snd mt G 500 4203 (oRetI .boolean) := w_zret (hm := mm500) dL_law_4203 rfl
theorem n500_4204 : Snd mt G 500 4204 (oGoto 4258) := w_goto (hm := mm500) dL_law_4204 rfl
theorem n500_4207 : Snd mt G 500 4207 (oAload 1 4208) := w_aload_n (hm := mm500) dL_law_4207
theorem n500_4208 : Snd mt G 500 4208 (oCall 1 (fV [1] 84 1) 0 4211 xOut) := s_callV (m' := 84) (n := 0) xsh_out (w_xok0 mm500) (w_cal mm500 mm84 pn_X1 (Nat.le_of_ble_eq_true rfl) (Nat.le_of_ble_eq_true rfl)) (fun h b as hc hn => w_run_V (ci := 0) mm500 mm84 dL_law_4208 (Or.inl (List.mem_singleton.mp hc)) (Nat.le_of_ble_eq_true rfl) vc_0 rfl q971 q972 q973 q129 q974 pa84 hn)
theorem n500_4211 : Snd mt G 500 4211 (oAload 2 4212) := w_aload_n (hm := mm500) dL_law_4211
theorem n500_4212 : Snd mt G 500 4212 (oCall 1 (fV [4] 414 1) 0 4215 xOut) := s_callV (m' := 414) (n := 0) xsh_out (w_xok0 mm500) (w_cal mm500 mm414 pn_X3 (Nat.le_of_ble_eq_true rfl) (Nat.le_of_ble_eq_true rfl)) (fun h b as hc hn => w_run_V (ci := 3) mm500 mm414 dL_law_4212 (Or.inl (List.mem_singleton.mp hc)) (Nat.le_of_ble_eq_true rfl) vc_3 rfl q3148 q3149 q3150 q150 q3151 pa414 hn)
theorem n500_4215 : Snd mt G 500 4215 (oCmpEq 4258 4218) := w_icmp_eq (hm := mm500) dL_law_4215 rfl
theorem n500_4218 : Snd mt G 500 4218 (oConst (.int 0) 4219) := w_iconst (hm := mm500) dL_law_4218 rfl
theorem n500_4219 : Snd mt G 500 4219 (oRetI .boolean) := w_zret (hm := mm500) dL_law_4219 rfl
theorem n500_4220 : Snd mt G 500 4220 (oAload 1 4221) := w_aload_n (hm := mm500) dL_law_4220
theorem n500_4221 : Snd mt G 500 4221 (oCall 1 (fV [1] 85 1) 0 4224 xOut) := s_callV (m' := 85) (n := 0) xsh_out (w_xok0 mm500) (w_cal mm500 mm85 pn_X1 (Nat.le_of_ble_eq_true rfl) (Nat.le_of_ble_eq_true rfl)) (fun h b as hc hn => w_run_V (ci := 0) mm500 mm85 dL_law_4221 (Or.inl (List.mem_singleton.mp hc)) (Nat.le_of_ble_eq_true rfl) vc_0 rfl q1160 q1161 q1162 q129 q1163 pa85 hn)
theorem n500_4224 : Snd mt G 500 4224 (oAload 2 4225) := w_aload_n (hm := mm500) dL_law_4224
theorem n500_4225 : Snd mt G 500 4225 (oCall 1 (fV [4] 419 1) 0 4228 xOut) := s_callV (m' := 419) (n := 0) xsh_out (w_xok0 mm500) (w_cal mm500 mm419 pn_X3 (Nat.le_of_ble_eq_true rfl) (Nat.le_of_ble_eq_true rfl)) (fun h b as hc hn => w_run_V (ci := 3) mm500 mm419 dL_law_4225 (Or.inl (List.mem_singleton.mp hc)) (Nat.le_of_ble_eq_true rfl) vc_3 rfl q3168 q3169 q3170 q150 q3171 pa419 hn)
theorem n500_4228 : Snd mt G 500 4228 (oCmpEq 4258 4231) := w_icmp_eq (hm := mm500) dL_law_4228 rfl
theorem n500_4231 : Snd mt G 500 4231 (oConst (.int 0) 4232) := w_iconst (hm := mm500) dL_law_4231 rfl
theorem n500_4232 : Snd mt G 500 4232 (oRetI .boolean) := w_zret (hm := mm500) dL_law_4232 rfl
theorem n500_4233 : Snd mt G 500 4233 (oAload 1 4234) := w_aload_n (hm := mm500) dL_law_4233
theorem n500_4234 : Snd mt G 500 4234 (oAload 0 4235) := w_aload_n (hm := mm500) dL_law_4234
theorem n500_4235 : Snd mt G 500 4235 (oIload 4 4237) := w_iload (hm := mm500) dL_law_4235
theorem n500_4237 : Snd mt G 500 4237 (oConst (.int 1) 4238) := w_iconst (hm := mm500) dL_law_4237 rfl
theorem n500_4238 : Snd mt G 500 4238 (oBin (fun x y => x + y) 4239) := w_iadd (hm := mm500) dL_law_4238
theorem n500_4239 : Snd mt G 500 4239 (oAld [1100] 4240) := w_iaload (hm := mm500) (kt := 0) dL_law_4239 at_0 (Nat.le_of_ble_eq_true rfl) (List.forall_mem_cons.mpr ⟨Or.inr rfl, (fun t ht => nomatch ht)⟩)
theorem n500_4240 : Snd mt G 500 4240 (oCall 2 (fV [1] 86 2) 0 4243 xOut) := s_callV (m' := 86) (n := 1) xsh_out (w_xok0 mm500) (w_cal mm500 mm86 pn_X1 (Nat.le_of_ble_eq_true rfl) (Nat.le_of_ble_eq_true rfl)) (fun h b as hc hn => w_run_V (ci := 0) mm500 mm86 dL_law_4240 (Or.inl (List.mem_singleton.mp hc)) (Nat.le_of_ble_eq_true rfl) vc_0 rfl q1164 q1165 q1166 q129 q1167 pa86 hn)
theorem n500_4243 : Snd mt G 500 4243 (oAload 2 4244) := w_aload_n (hm := mm500) dL_law_4243
theorem n500_4244 : Snd mt G 500 4244 (oAload 0 4245) := w_aload_n (hm := mm500) dL_law_4244
theorem n500_4245 : Snd mt G 500 4245 (oIload 4 4247) := w_iload (hm := mm500) dL_law_4245
theorem n500_4247 : Snd mt G 500 4247 (oConst (.int 1) 4248) := w_iconst (hm := mm500) dL_law_4247 rfl
theorem n500_4248 : Snd mt G 500 4248 (oBin (fun x y => x + y) 4249) := w_iadd (hm := mm500) dL_law_4248
theorem n500_4249 : Snd mt G 500 4249 (oAld [1100] 4250) := w_iaload (hm := mm500) (kt := 0) dL_law_4249 at_0 (Nat.le_of_ble_eq_true rfl) (List.forall_mem_cons.mpr ⟨Or.inr rfl, (fun t ht => nomatch ht)⟩)
theorem n500_4250 : Snd mt G 500 4250 (oCall 2 (fV [4] 420 2) 0 4253 xOut) := s_callV (m' := 420) (n := 1) xsh_out (w_xok0 mm500) (w_cal mm500 mm420 pn_X3 (Nat.le_of_ble_eq_true rfl) (Nat.le_of_ble_eq_true rfl)) (fun h b as hc hn => w_run_V (ci := 3) mm500 mm420 dL_law_4250 (Or.inl (List.mem_singleton.mp hc)) (Nat.le_of_ble_eq_true rfl) vc_3 rfl q3172 q3173 q3174 q150 q3175 pa420 hn)
theorem n500_4253 : Snd mt G 500 4253 (oCmpEq 4258 4256) := w_icmp_eq (hm := mm500) dL_law_4253 rfl
theorem n500_4256 : Snd mt G 500 4256 (oConst (.int 0) 4257) := w_iconst (hm := mm500) dL_law_4256 rfl
theorem n500_4257 : Snd mt G 500 4257 (oRetI .boolean) := w_zret (hm := mm500) dL_law_4257 rfl
theorem n500_4258 : Snd mt G 500 4258 (oIinc 4 6 4261) := w_iinc (hm := mm500) dL_law_4258 rfl (Nat.le_of_ble_eq_true rfl)
theorem n500_4261 : Snd mt G 500 4261 (oGoto 23) := w_goto (hm := mm500) dL_law_4261 rfl
theorem n500_4264 : Snd mt G 500 4264 (oConst (.int 1) 4265) := w_iconst (hm := mm500) dL_law_4264 rfl
theorem n500_4265 : Snd mt G 500 4265 (oRetI .boolean) := w_zret (hm := mm500) dL_law_4265 rfl
theorem sj500 : ∀ pc, Snd mt G 500 pc (j500 pc) := fun pc => (snd_br ((snd_br ((snd_br ((snd_br ((snd_br ((snd_br ((snd_br ((snd_br ((snd_br ((snd_br ((snd_br ((snd_br ((snd_lf n500_4265)) ((snd_lf n500_4264)))) ((snd_lf n500_4261)))) ((snd_br ((snd_br ((snd_lf n500_4258)) ((snd_lf n500_4257)))) ((snd_lf n500_4256)))))) ((snd_br ((snd_br ((snd_br ((snd_lf n500_4253)) ((snd_lf n500_4250)))) ((snd_lf n500_4249)))) ((snd_br ((snd_lf n500_4248)) ((snd_lf n500_4247)))))))) ((snd_br ((snd_br ((snd_br ((snd_br ((snd_lf n500_4245)) ((snd_lf n500_4244)))) ((snd_lf n500_4243)))) ((snd_br ((snd_lf n500_4240)) ((snd_lf n500_4239)))))) ((snd_br ((snd_br ((snd_br ((snd_lf n500_4238)) ((snd_lf n500_4237)))) ((snd_lf n500_4235)))) ((snd_br ((snd_lf n500_4234)) ((snd_lf n500_4233)))))))))) ((snd_br ((snd_br ((snd_br ((snd_br ((snd_br ((snd_lf n500_4232)) ((snd_lf n500_4231)))) ((snd_lf n500_4228)))) ((snd_br ((snd_br ((snd_lf n500_4225)) ((snd_lf n500_4224)))) ((snd_lf n500_4221)))))) ((snd_br ((snd_br ((snd_br ((snd_lf n500_4220)) ((snd_lf n500_4219)))) ((snd_lf n500_4218)))) ((snd_br ((snd_lf n500_4215)) ((snd_lf n500_4212)))))))) ((snd_br ((snd_br ((snd_br ((snd_br ((snd_lf n500_4211)) ((snd_lf n500_4208)))) ((snd_lf n500_4207)))) ((snd_br ((snd_lf n500_4204)) ((snd_lf n500_4203)))))) ((snd_br ((snd_br ((snd_br ((snd_lf n500_4202)) ((snd_lf n500_4199)))) ((snd_lf n500_4198)))) ((snd_br ((snd_lf n500_4197)) ((snd_lf n500_4195)))))))))))) ((snd_br ((snd_br ((snd_br ((snd_br ((snd_br ((snd_br ((snd_lf n500_4194)) ((snd_lf n500_4193)))) ((snd_lf n500_4192)))) ((snd_br ((snd_br ((snd_lf n500_4189)) ((snd_lf n500_4187)))) ((snd_lf n500_4186)))))) ((snd_br ((snd_br ((snd_br ((snd_lf n500_4185)) ((snd_lf n500_4182)))) ((snd_lf n500_4180)))) ((snd_br ((snd_lf n500_4177)) ((snd_lf n500_4176)))))))) ((snd_br ((snd_br ((snd_br ((snd_br ((snd_lf n500_4174)) ((snd_lf n500_4171)))) ((snd_lf n500_4170)))) ((snd_br ((snd_lf n500_4169)) ((snd_lf n500_4168)))))) ((snd_br ((snd_br ((snd_br ((snd_lf n500_4166)) ((snd_lf n500_4165)))) ((snd_lf n500_4164)))) ((snd_br ((snd_lf n500_4163)) ((snd_lf n500_4162)))))))))) ((snd_br ((snd_br ((snd_br ((snd_br ((snd_br ((snd_lf n500_4160)) ((snd_lf n500_4159)))) ((snd_lf n500_4158)))) ((snd_br ((snd_lf n500_4156)) ((snd_lf n500_4153)))))) ((snd_br ((snd_br ((snd_br ((snd_lf n500_4152)) ((snd_lf n500_4151)))) ((snd_lf n500_4150)))) ((snd_br ((snd_lf n500_4149)) ((snd_lf n500_4147)))))))) ((snd_br ((snd_br ((snd_br ((snd_br ((snd_lf n500_4146)) ((snd_lf n500_4145)))) ((snd_lf n500_4144)))) ((snd_br ((snd_lf n500_4143)) ((snd_lf n500_4141)))))) ((snd_br ((snd_br ((snd_br ((snd_lf n500_4140)) ((snd_lf n500_4139)))) ((snd_lf n500_4136)))) ((snd_br ((snd_lf n500_4135)) ((snd_lf n500_4134)))))))))))))) ((snd_br ((snd_br ((snd_br ((snd_br ((snd_br ((snd_br ((snd_br ((snd_lf n500_4131)) ((snd_lf n500_4130)))) ((snd_lf n500_4129)))) ((snd_br ((snd_br ((snd_lf n500_4127)) ((snd_lf n500_4126)))) ((snd_lf n500_4125)))))) ((snd_br ((snd_br ((snd_br ((snd_lf n500_4124)) ((snd_lf n500_4121)))) ((snd_lf n500_4119)))) ((snd_br ((snd_lf n500_4118)) ((snd_lf n500_4117)))))))) ((snd_br ((snd_br ((snd_br ((snd_br ((snd_lf n500_4114)) ((snd_lf n500_4112)))) ((snd_lf n500_4109)))) ((snd_br ((snd_lf n500_4108)) ((snd_lf n500_4106)))))) ((snd_br ((snd_br ((snd_br ((snd_lf n500_4103)) ((snd_lf n500_4102)))) ((snd_lf n500_4101)))) ((snd_br ((snd_lf n500_4100)) ((snd_lf n500_4098)))))))))) ((snd_br ((snd_br ((snd_br ((snd_br ((snd_br ((snd_lf n500_4097)) ((snd_lf n500_4096)))) ((snd_lf n500_4095)))) ((snd_br ((snd_lf n500_4094)) ((snd_lf n500_4092)))))) ((snd_br ((snd_br ((snd_br ((snd_lf n500_4091)) ((snd_lf n500_4090)))) ((snd_lf n500_4088)))) ((snd_br ((snd_lf n500_4085)) ((snd_lf n500_4084)))))))) ((snd_br ((snd_br ((snd_br ((snd_br ((snd_lf n500_4083)) ((snd_lf n500_4082)))) ((snd_lf n500_4081)))) ((snd_br ((snd_lf n500_4079)) ((snd_lf n500_4078)))))) ((snd_br ((snd_br ((snd_br ((snd_lf n500_4077)) ((snd_lf n500_4076)))) ((snd_lf n500_4075)))) ((snd_br ((snd_lf n500_4073)) ((snd_lf n500_4072)))))))))))) ((snd_br ((snd_br ((snd_br ((snd_br ((snd_br ((snd_br ((snd_lf n500_4071)) ((snd_lf n500_4068)))) ((snd_lf n500_4067)))) ((snd_br ((snd_br ((snd_lf n500_4066)) ((snd_lf n500_4063)))) ((snd_lf n500_4062)))))) ((snd_br ((snd_br ((snd_br ((snd_lf n500_4061)) ((snd_lf n500_4059)))) ((snd_lf n500_4058)))) ((snd_br ((snd_lf n500_4057)) ((snd_lf n500_4056)))))))) ((snd_br ((snd_br ((snd_br ((snd_br ((snd_lf n500_4053)) ((snd_lf n500_4051)))) ((snd_lf n500_4050)))) ((snd_br ((snd_lf n500_4049)) ((snd_lf n500_4046)))))) ((snd_br ((snd_br ((snd_br ((snd_lf n500_4044)) ((snd_lf n500_4041)))) ((snd_lf n500_4040)))) ((snd_br ((snd_lf n500_4038)) ((snd_lf n500_4035)))))))))) ((snd_br ((snd_br ((snd_br ((snd_br ((snd_br ((snd_lf n500_4034)) ((snd_lf n500_4033)))) ((snd_lf n500_4032)))) ((snd_br ((snd_lf n500_4030)) ((snd_lf n500_4029)))))) ((snd_br ((snd_br ((snd_br ((snd_lf n500_4028)) ((snd_lf n500_4027)))) ((snd_lf n500_4026)))) ((snd_br ((snd_lf n500_4024)) ((snd_lf n500_4023)))))))) ((snd_br ((snd_br ((snd_br ((snd_br ((snd_lf n500_4022)) ((snd_lf n500_4021)))) ((snd_lf n500_4020)))) ((snd_br ((snd_lf n500_4018)) ((snd_lf n500_4017)))))) ((snd_br ((snd_br ((snd_br ((snd_lf n500_4016)) ((snd_lf n500_4014)))) ((snd_lf n500_4011)))) ((snd_br ((snd_lf n500_4010)) ((snd_lf n500_4009)))))))))))))))) ((snd_br ((snd_br ((snd_br ((snd_br ((snd_br ((snd_br ((snd_br ((snd_br ((snd_lf n500_4008)) ((snd_lf n500_4007)))) ((snd_lf n500_4005)))) ((snd_br ((snd_br ((snd_lf n500_4004)) ((snd_lf n500_4003)))) ((snd_lf n500_4002)))))) ((snd_br ((snd_br ((snd_br ((snd_lf n500_4001)) ((snd_lf n500_3999)))) ((snd_lf n500_3998)))) ((snd_br ((snd_lf n500_3997)) ((snd_lf n500_3996)))))))) ((snd_br ((snd_br ((snd_br ((snd_br ((snd_lf n500_3995)) ((snd_lf n500_3993)))) ((snd_lf n500_3992)))) ((snd_br ((snd_lf n500_3991)) ((snd_lf n500_3990)))))) ((snd_br ((snd_br ((snd_br ((snd_lf n500_3989)) ((snd_lf n500_3986)))) ((snd_lf n500_3983)))) ((snd_br ((snd_lf n500_3982)) ((snd_lf n500_3979)))))))))) ((snd_br ((snd_br ((snd_br ((snd_br ((snd_br ((snd_lf n500_3978)) ((snd_lf n500_3977)))) ((snd_lf n500_3976)))) ((snd_br ((snd_br ((snd_lf n500_3973)) ((snd_lf n500_3970)))) ((snd_lf n500_3969)))))) ((snd_br ((snd_br ((snd_br ((snd_lf n500_3966)) ((snd_lf n500_3965)))) ((snd_lf n500_3962)))) ((snd_br ((snd_lf n500_3961)) ((snd_lf n500_3960)))))))) ((snd_br ((snd_br ((snd_br ((snd_br ((snd_lf n500_3957)) ((snd_lf n500_3956)))) ((snd_lf n500_3955)))) ((snd_br ((snd_lf n500_3953)) ((snd_lf n500_3952)))))) ((snd_br ((snd_br ((snd_br ((snd_lf n500_3951)) ((snd_lf n500_3950)))) ((snd_lf n500_3947)))) ((snd_br ((snd_lf n500_3945)) ((snd_lf n500_3944)))))))))))) ((snd_br ((snd_br ((snd_br ((snd_br ((snd_br ((snd_br ((snd_lf n500_3943)) ((snd_lf n500_3940)))) ((snd_lf n500_3938)))) ((snd_br ((snd_br ((snd_lf n500_3935)) ((snd_lf n500_3934)))) ((snd_lf n500_3932)))))) ((snd_br ((snd_br ((snd_br ((snd_lf n500_3929)) ((snd_lf n500_3928)))) ((snd_lf n500_3927)))) ((snd_br ((snd_lf n500_3926)) ((snd_lf n500_3924)))))))) ((snd_br ((snd_br ((snd_br ((snd_br ((snd_lf n500_3923)) ((snd_lf n500_3922)))) ((snd_lf n500_3921)))) ((snd_br ((snd_lf n500_3920)) ((snd_lf n500_3918)))))) ((snd_br ((snd_br ((snd_br ((snd_lf n500_3917)) ((snd_lf n500_3916)))) ((snd_lf n500_3914)))) ((snd_br ((snd_lf n500_3911)) ((snd_lf n500_3910)))))))))) ((snd_br ((snd_br ((snd_br ((snd_br ((snd_br ((snd_lf n500_3909)) ((snd_lf n500_3908)))) ((snd_lf n500_3907)))) ((snd_br ((snd_lf n500_3905)) ((snd_lf n500_3904)))))) ((snd_br ((snd_br ((snd_br ((snd_lf n500_3903)) ((snd_lf n500_3902)))) ((snd_lf n500_3901)))) ((snd_br ((snd_lf n500_3899)) ((snd_lf n500_3898)))))))) ((snd_br ((snd_br ((snd_br ((snd_br ((snd_lf n500_3897)) ((snd_lf n500_3894)))) ((snd_lf n500_3893)))) ((snd_br ((snd_lf n500_3892)) ((snd_lf n500_3889)))))) ((snd_br ((snd_br ((snd_br ((snd_lf n500_3888)) ((snd_lf n500_3887)))) ((snd_lf n500_3885)))) ((snd_br ((snd_lf n500_3884)) ((snd_lf n500_3883)))))))))))))) ((snd_br ((snd_br ((snd_br ((snd_br ((snd_br ((snd_br ((snd_br ((snd_lf n500_3882)) ((snd_lf n500_3879)))) ((snd_lf n500_3877)))) ((snd_br ((snd_br ((snd_lf n500_3876)) ((snd_lf n500_3875)))) ((snd_lf n500_3872)))))) ((snd_br ((snd_br ((snd_br ((snd_lf n500_3870)) ((snd_lf n500_3867)))) ((snd_lf n500_3866)))) ((snd_br ((snd_lf n500_3864)) ((snd_lf n500_3861)))))))) ((snd_br ((snd_br ((snd_br ((snd_br ((snd_lf n500_3860)) ((snd_lf n500_3859)))) ((snd_lf n500_3858)))) ((snd_br ((snd_lf n500_3856)) ((snd_lf n500_3855)))))) ((snd_br ((snd_br ((snd_br ((snd_lf n500_3854)) ((snd_lf n500_3853)))) ((snd_lf n500_3852)))) ((snd_br ((snd_lf n500_3850)) ((snd_lf n500_3849)))))))))) ((snd_br ((snd_br ((snd_br ((snd_br ((snd_br ((snd_lf n500_3848)) ((snd_lf n500_3846)))) ((snd_lf n500_3843)))) ((snd_br ((snd_lf n500_3842)) ((snd_lf n500_3841)))))) ((snd_br ((snd_br ((snd_br ((snd_lf n500_3840)) ((snd_lf n500_3839)))) ((snd_lf n500_3837)))) ((snd_br ((snd_lf n500_3836)) ((snd_lf n500_3835)))))))) ((snd_br ((snd_br ((snd_br ((snd_br ((snd_lf n500_3834)) ((snd_lf n500_3833)))) ((snd_lf n500_3831)))) ((snd_br ((snd_lf n500_3830)) ((snd_lf n500_3829)))))) ((snd_br ((snd_br ((snd_br ((snd_lf n500_3828)) ((snd_lf n500_3827)))) ((snd_lf n500_3824)))) ((snd_br ((snd_lf n500_3821)) ((snd_lf n500_3820)))))))))))) ((snd_br ((snd_br ((snd_br ((snd_br ((snd_br ((snd_br ((snd_lf n500_3817)) ((snd_lf n500_3816)))) ((snd_lf n500_3815)))) ((snd_br ((snd_br ((snd_lf n500_3814)) ((snd_lf n500_3811)))) ((snd_lf n500_3808)))))) ((snd_br ((snd_br ((snd_br ((snd_lf n500_3807)) ((snd_lf n500_3804)))) ((snd_lf n500_3803)))) ((snd_br ((snd_lf n500_3802)) ((snd_lf n500_3801)))))))) ((snd_br ((snd_br ((snd_br ((snd_br ((snd_lf n500_3798)) ((snd_lf n500_3795)))) ((snd_lf n500_3794)))) ((snd_br ((snd_lf n500_3791)) ((snd_lf n500_3790)))))) ((snd_br ((snd_br ((snd_br ((snd_lf n500_3787)) ((snd_lf n500_3786)))) ((snd_lf n500_3785)))) ((snd_br ((snd_lf n500_3782)) ((snd_lf n500_3781)))))))))) ((snd_br ((snd_br ((snd_br ((snd_br ((snd_br ((snd_lf n500_3780)) ((snd_lf n500_3778)))) ((snd_lf n500_3777)))) ((snd_br ((snd_lf n500_3776)) ((snd_lf n500_3775)))))) ((snd_br ((snd_br ((snd_br ((snd_lf n500_3772)) ((snd_lf n500_3770)))) ((snd_lf n500_3769)))) ((snd_br ((snd_lf n500_3768)) ((snd_lf n500_3765)))))))) ((snd_br ((snd_br ((snd_br ((snd_br ((snd_lf n500_3763)) ((snd_lf n500_3760)))) ((snd_lf n500_3759)))) ((snd_br ((snd_lf n500_3757)) ((snd_lf n500_3754)))))) ((snd_br ((snd_br ((snd_br ((snd_lf n500_3753)) ((snd_lf n500_3752)))) ((snd_lf n500_3751)))) ((snd_br ((snd_lf n500_3749)) ((snd_lf n500_3748)))))))))))))))))) ((snd_br ((snd_br ((snd_br ((snd_br ((snd_br ((snd_br ((snd_br ((snd_br ((snd_br ((snd_lf n500_3747)) ((snd_lf n500_3746)))) ((snd_lf n500_3745)))) ((snd_br ((snd_br ((snd_lf n500_3743)) ((snd_lf n500_3742)))) ((snd_lf n500_3741)))))) ((snd_br ((snd_br ((snd_br ((snd_lf n500_3739)) ((snd_lf n500_3736)))) ((snd_lf n500_3735)))) ((snd_br ((snd_lf n500_3734)) ((snd_lf n500_3733)))))))) ((snd_br ((snd_br ((snd_br ((snd_br ((snd_lf n500_3732)) ((snd_lf n500_3730)))) ((snd_lf n500_3729)))) ((snd_br ((snd_lf n500_3728)) ((snd_lf n500_3727)))))) ((snd_br ((snd_br ((snd_br ((snd_lf n500_3726)) ((snd_lf n500_3724)))) ((snd_lf n500_3723)))) ((snd_br ((snd_lf n500_3722)) ((snd_lf n500_3719)))))))))) ((snd_br ((snd_br ((snd_br ((snd_br ((snd_br ((snd_lf n500_3718)) ((snd_lf n500_3717)))) ((snd_lf n500_3714)))) ((snd_br ((snd_br ((snd_lf n500_3713)) ((snd_lf n500_3712)))) ((snd_lf n500_3710)))))) ((snd_br ((snd_br ((snd_br ((snd_lf n500_3709)) ((snd_lf n500_3708)))) ((snd_lf n500_3707)))) ((snd_br ((snd_lf n500_3704)) ((snd_lf n500_3702)))))))) ((snd_br ((snd_br ((snd_br ((snd_br ((snd_lf n500_3701)) ((snd_lf n500_3700)))) ((snd_lf n500_3697)))) ((snd_br ((snd_lf n500_3695)) ((snd_lf n500_3692)))))) ((snd_br ((snd_br ((snd_br ((snd_lf n500_3691)) ((snd_lf n500_3689)))) ((snd_lf n500_3686)))) ((snd_br ((snd_lf n500_3685)) ((snd_lf n500_3684)))))))))))) ((snd_br ((snd_br ((snd_br ((snd_br ((snd_br ((snd_br ((snd_lf n500_3683)) ((snd_lf n500_3681)))) ((snd_lf n500_3680)))) ((snd_br ((snd_br ((snd_lf n500_3679)) ((snd_lf n500_3678)))) ((snd_lf n500_3677)))))) ((snd_br ((snd_br ((snd_br ((snd_lf n500_3675)) ((snd_lf n500_3674)))) ((snd_lf n500_3673)))) ((snd_br ((snd_lf n500_3672)) ((snd_lf n500_3671)))))))) ((snd_br ((snd_br ((snd_br ((snd_br ((snd_lf n500_3669)) ((snd_lf n500_3668)))) ((snd_lf n500_3667)))) ((snd_br ((snd_lf n500_3665)) ((snd_lf n500_3662)))))) ((snd_br ((snd_br ((snd_br ((snd_lf n500_3661)) ((snd_lf n500_3660)))) ((snd_lf n500_3659)))) ((snd_br ((snd_lf n500_3658)) ((snd_lf n500_3656)))))))))) ((snd_br ((snd_br ((snd_br ((snd_br ((snd_br ((snd_lf n500_3655)) ((snd_lf n500_3654)))) ((snd_lf n500_3653)))) ((snd_br ((snd_lf n500_3652)) ((snd_lf n500_3650)))))) ((snd_br ((snd_br ((snd_br ((snd_lf n500_3649)) ((snd_lf n500_3648)))) ((snd_lf n500_3647)))) ((snd_br ((snd_lf n500_3646)) ((snd_lf n500_3644)))))))) ((snd_br ((snd_br ((snd_br ((snd_br ((snd_lf n500_3643)) ((snd_lf n500_3642)))) ((snd_lf n500_3639)))) ((snd_br ((snd_lf n500_3638)) ((snd_lf n500_3637)))))) ((snd_br ((snd_br ((snd_br ((snd_lf n500_3634)) ((snd_lf n500_3633)))) ((snd_lf n500_3632)))) ((snd_br ((snd_lf n500_3630)) ((snd_lf n500_3629)))))))))))))) ((snd_br ((snd_br ((snd_br ((snd_br ((snd_br ((snd_br ((snd_br ((snd_lf n500_3628)) ((snd_lf n500_3627)))) ((snd_lf n500_3624)))) ((snd_br ((snd_br ((snd_lf n500_3622)) ((snd_lf n500_3621)))) ((snd_lf n500_3620)))))) ((snd_br ((snd_br ((snd_br ((snd_lf n500_3617)) ((snd_lf n500_3615)))) ((snd_lf n500_3612)))) ((snd_br ((snd_lf n500_3611)) ((snd_lf n500_3609)))))))) ((snd_br ((snd_br ((snd_br ((snd_br ((snd_lf n500_3606)) ((snd_lf n500_3605)))) ((snd_lf n500_3604)))) ((snd_br ((snd_lf n500_3603)) ((snd_lf n500_3601)))))) ((snd_br ((snd_br ((snd_br ((snd_lf n500_3600)) ((snd_lf n500_3599)))) ((snd_lf n500_3596)))) ((snd_br ((snd_lf n500_3595)) ((snd_lf n500_3592)))))))))) ((snd_br ((snd_br ((snd_br ((snd_br ((snd_br ((snd_lf n500_3591)) ((snd_lf n500_3590)))) ((snd_lf n500_3589)))) ((snd_br ((snd_lf n500_3587)) ((snd_lf n500_3586)))))) ((snd_br ((snd_br ((snd_br ((snd_lf n500_3585)) ((snd_lf n500_3584)))) ((snd_lf n500_3583)))) ((snd_br ((snd_lf n500_3581)) ((snd_lf n500_3580)))))))) ((snd_br ((snd_br ((snd_br ((snd_br ((snd_lf n500_3579)) ((snd_lf n500_3577)))) ((snd_lf n500_3574)))) ((snd_br ((snd_lf n500_3573)) ((snd_lf n500_3572)))))) ((snd_br ((snd_br ((snd_br ((snd_lf n500_3571)) ((snd_lf n500_3570)))) ((snd_lf n500_3568)))) ((snd_br ((snd_lf n500_3567)) ((snd_lf n500_3566)))))))))))) ((snd_br ((snd_br ((snd_br ((snd_br ((snd_br ((snd_br ((snd_lf n500_3563)) ((snd_lf n500_3562)))) ((snd_lf n500_3559)))) ((snd_br ((snd_br ((snd_lf n500_3558)) ((snd_lf n500_3557)))) ((snd_lf n500_3556)))))) ((snd_br ((snd_br ((snd_br ((snd_lf n500_3554)) ((snd_lf n500_3553)))) ((snd_lf n500_3552)))) ((snd_br ((snd_lf n500_3551)) ((snd_lf n500_3550)))))))) ((snd_br ((snd_br ((snd_br ((snd_br ((snd_lf n500_3548)) ((snd_lf n500_3547)))) ((snd_lf n500_3546)))) ((snd_br ((snd_lf n500_3543)) ((snd_lf n500_3542)))))) ((snd_br ((snd_br ((snd_br ((snd_lf n500_3541)) ((snd_lf n500_3538)))) ((snd_lf n500_3537)))) ((snd_br ((snd_lf n500_3536)) ((snd_lf n500_3534)))))))))) ((snd_br ((snd_br ((snd_br ((snd_br ((snd_br ((snd_lf n500_3533)) ((snd_lf n500_3532)))) ((snd_lf n500_3531)))) ((snd_br ((snd_lf n500_3528)) ((snd_lf n500_3526)))))) ((snd_br ((snd_br ((snd_br ((snd_lf n500_3525)) ((snd_lf n500_3524)))) ((snd_lf n500_3521)))) ((snd_br ((snd_lf n500_3519)) ((snd_lf n500_3516)))))))) ((snd_br ((snd_br ((snd_br ((snd_br ((snd_lf n500_3515)) ((snd_lf n500_3513)))) ((snd_lf n500_3510)))) ((snd_br ((snd_lf n500_3509)) ((snd_lf n500_3508)))))) ((snd_br ((snd_br ((snd_br ((snd_lf n500_3507)) ((snd_lf n500_3505)))) ((snd_lf n500_3504)))) ((snd_br ((snd_lf n500_3503)) ((snd_lf n500_3501)))))))))))))))) ((snd_br ((snd_br ((snd_br ((snd_br ((snd_br ((snd_br ((snd_br ((snd_br ((snd_lf n500_3498)) ((snd_lf n500_3497)))) ((snd_lf n500_3496)))) ((snd_br ((snd_br ((snd_lf n500_3495)) ((snd_lf n500_3494)))) ((snd_lf n500_3492)))))) ((snd_br ((snd_br ((snd_br ((snd_lf n500_3491)) ((snd_lf n500_3490)))) ((snd_lf n500_3487)))) ((snd_br ((snd_lf n500_3486)) ((snd_lf n500_3485)))))))) ((snd_br ((snd_br ((snd_br ((snd_br ((snd_lf n500_3482)) ((snd_lf n500_3481)))) ((snd_lf n500_3480)))) ((snd_br ((snd_lf n500_3478)) ((snd_lf n500_3477)))))) ((snd_br ((snd_br ((snd_br ((snd_lf n500_3476)) ((snd_lf n500_3475)))) ((snd_lf n500_3472)))) ((snd_br ((snd_lf n500_3470)) ((snd_lf n500_3469)))))))))) ((snd_br ((snd_br ((snd_br ((snd_br ((snd_br ((snd_lf n500_3468)) ((snd_lf n500_3465)))) ((snd_lf n500_3463)))) ((snd_br ((snd_lf n500_3460)) ((snd_lf n500_3459)))))) ((snd_br ((snd_br ((snd_br ((snd_lf n500_3457)) ((snd_lf n500_3454)))) ((snd_lf n500_3453)))) ((snd_br ((snd_lf n500_3452)) ((snd_lf n500_3451)))))))) ((snd_br ((snd_br ((snd_br ((snd_br ((snd_lf n500_3449)) ((snd_lf n500_3448)))) ((snd_lf n500_3447)))) ((snd_br ((snd_lf n500_3445)) ((snd_lf n500_3442)))))) ((snd_br ((snd_br ((snd_br ((snd_lf n500_3441)) ((snd_lf n500_3440)))) ((snd_lf n500_3439)))) ((snd_br ((snd_lf n500_3438)) ((snd_lf n500_3436)))))))))))) ((snd_br ((snd_br ((snd_br ((snd_br ((snd_br ((snd_br ((snd_lf n500_3435)) ((snd_lf n500_3434)))) ((snd_lf n500_3431)))) ((snd_br ((snd_br ((snd_lf n500_3430)) ((snd_lf n500_3429)))) ((snd_lf n500_3426)))))) ((snd_br ((snd_br ((snd_br ((snd_lf n500_3425)) ((snd_lf n500_3424)))) ((snd_lf n500_3422)))) ((snd_br ((snd_lf n500_3421)) ((snd_lf n500_3420)))))))) ((snd_br ((snd_br ((snd_br ((snd_br ((snd_lf n500_3419)) ((snd_lf n500_3416)))) ((snd_lf n500_3414)))) ((snd_br ((snd_lf n500_3413)) ((snd_lf n500_3412)))))) ((snd_br ((snd_br ((snd_br ((snd_lf n500_3409)) ((snd_lf n500_3407)))) ((snd_lf n500_3404)))) ((snd_br ((snd_lf n500_3403)) ((snd_lf n500_3401)))))))))) ((snd_br ((snd_br ((snd_br ((snd_br ((snd_br ((snd_lf n500_3398)) ((snd_lf n500_3397)))) ((snd_lf n500_3396)))) ((snd_br ((snd_lf n500_3395)) ((snd_lf n500_3393)))))) ((snd_br ((snd_br ((snd_br ((snd_lf n500_3392)) ((snd_lf n500_3391)))) ((snd_lf n500_3390)))) ((snd_br ((snd_lf n500_3389)) ((snd_lf n500_3387)))))))) ((snd_br ((snd_br ((snd_br ((snd_br ((snd_lf n500_3386)) ((snd_lf n500_3385)))) ((snd_lf n500_3384)))) ((snd_br ((snd_lf n500_3383)) ((snd_lf n500_3381)))))) ((snd_br ((snd_br ((snd_br ((snd_lf n500_3380)) ((snd_lf n500_3379)))) ((snd_lf n500_3377)))) ((snd_br ((snd_lf n500_3374)) ((snd_lf n500_3373)))))))))))))) ((snd_br ((snd_br ((snd_br ((snd_br ((snd_br ((snd_br ((snd_br ((snd_lf n500_3372)) ((snd_lf n500_3371)))) ((snd_lf n500_3370)))) ((snd_br ((snd_br ((snd_lf n500_3368)) ((snd_lf n500_3367)))) ((snd_lf n500_3366)))))) ((snd_br ((snd_br ((snd_br ((snd_lf n500_3365)) ((snd_lf n500_3364)))) ((snd_lf n500_3362)))) ((snd_br ((snd_lf n500_3361)) ((snd_lf n500_3360)))))))) ((snd_br ((snd_br ((snd_br ((snd_br ((snd_lf n500_3359)) ((snd_lf n500_3358)))) ((snd_lf n500_3356)))) ((snd_br ((snd_lf n500_3355)) ((snd_lf n500_3354)))))) ((snd_br ((snd_br ((snd_br ((snd_lf n500_3351)) ((snd_lf n500_3350)))) ((snd_lf n500_3349)))) ((snd_br ((snd_lf n500_3346)) ((snd_lf n500_3345)))))))))) ((snd_br ((snd_br ((snd_br ((snd_br ((snd_br ((snd_lf n500_3344)) ((snd_lf n500_3342)))) ((snd_lf n500_3341)))) ((snd_br ((snd_lf n500_3340)) ((snd_lf n500_3339)))))) ((snd_br ((snd_br ((snd_br ((snd_lf n500_3336)) ((snd_lf n500_3334)))) ((snd_lf n500_3333)))) ((snd_br ((snd_lf n500_3332)) ((snd_lf n500_3329)))))))) ((snd_br ((snd_br ((snd_br ((snd_br ((snd_lf n500_3327)) ((snd_lf n500_3324)))) ((snd_lf n500_3323)))) ((snd_br ((snd_lf n500_3321)) ((snd_lf n500_3318)))))) ((snd_br ((snd_br ((snd_br ((snd_lf n500_3317)) ((snd_lf n500_3314)))) ((snd_lf n500_3313)))) ((snd_br ((snd_lf n500_3310)) ((snd_lf n500_3309)))))))))))) ((snd_br ((snd_br ((snd_br ((snd_br ((snd_br ((snd_br ((snd_lf n500_3308)) ((snd_lf n500_3307)))) ((snd_lf n500_3305)))) ((snd_br ((snd_br ((snd_lf n500_3304)) ((snd_lf n500_3303)))) ((snd_lf n500_3302)))))) ((snd_br ((snd_br ((snd_br ((snd_lf n500_3301)) ((snd_lf n500_3299)))) ((snd_lf n500_3298)))) ((snd_br ((snd_lf n500_3297)) ((snd_lf n500_3296)))))))) ((snd_br ((snd_br ((snd_br ((snd_br ((snd_lf n500_3295)) ((snd_lf n500_3293)))) ((snd_lf n500_3292)))) ((snd_br ((snd_lf n500_3291)) ((snd_lf n500_3289)))))) ((snd_br ((snd_br ((snd_br ((snd_lf n500_3286)) ((snd_lf n500_3285)))) ((snd_lf n500_3284)))) ((snd_br ((snd_lf n500_3281)) ((snd_lf n500_3280)))))))))) ((snd_br ((snd_br ((snd_br ((snd_br ((snd_br ((snd_lf n500_3277)) ((snd_lf n500_3276)))) ((snd_lf n500_3275)))) ((snd_br ((snd_lf n500_3274)) ((snd_lf n500_3272)))))) ((snd_br ((snd_br ((snd_br ((snd_lf n500_3271)) ((snd_lf n500_3270)))) ((snd_lf n500_3269)))) ((snd_br ((snd_lf n500_3268)) ((snd_lf n500_3266)))))))) ((snd_br ((snd_br ((snd_br ((snd_br ((snd_lf n500_3265)) ((snd_lf n500_3264)))) ((snd_lf n500_3263)))) ((snd_br ((snd_lf n500_3262)) ((snd_lf n500_3260)))))) ((snd_br ((snd_br ((snd_br ((snd_lf n500_3259)) ((snd_lf n500_3258)))) ((snd_lf n500_3255)))) ((snd_br ((snd_lf n500_3254)) ((snd_lf n500_3253)))))))))))))))))))) ((snd_br ((snd_br ((snd_br ((snd_br ((snd_br ((snd_br ((snd_br ((snd_br ((snd_br ((snd_br ((snd_lf n500_3250)) ((snd_lf n500_3249)))) ((snd_lf n500_3248)))) ((snd_br ((snd_br ((snd_lf n500_3246)) ((snd_lf n500_3245)))) ((snd_lf n500_3244)))))) ((snd_br ((snd_br ((snd_br ((snd_lf n500_3243)) ((snd_lf n500_3240)))) ((snd_lf n500_3238)))) ((snd_br ((snd_lf n500_3237)) ((snd_lf n500_3236)))))))) ((snd_br ((snd_br ((snd_br ((snd_br ((snd_lf n500_3233)) ((snd_lf n500_3231)))) ((snd_lf n500_3228)))) ((snd_br ((snd_lf n500_3227)) ((snd_lf n500_3225)))))) ((snd_br ((snd_br ((snd_br ((snd_lf n500_3222)) ((snd_lf n500_3221)))) ((snd_lf n500_3220)))) ((snd_br ((snd_lf n500_3219)) ((snd_lf n500_3217)))))))))) ((snd_br ((snd_br ((snd_br ((snd_br ((snd_br ((snd_lf n500_3216)) ((snd_lf n500_3215)))) ((snd_lf n500_3214)))) ((snd_br ((snd_br ((snd_lf n500_3213)) ((snd_lf n500_3211)))) ((snd_lf n500_3210)))))) ((snd_br ((snd_br ((snd_br ((snd_lf n500_3209)) ((snd_lf n500_3207)))) ((snd_lf n500_3204)))) ((snd_br ((snd_lf n500_3203)) ((snd_lf n500_3202)))))))) ((snd_br ((snd_br ((snd_br ((snd_br ((snd_lf n500_3201)) ((snd_lf n500_3200)))) ((snd_lf n500_3198)))) ((snd_br ((snd_lf n500_3197)) ((snd_lf n500_3196)))))) ((snd_br ((snd_br ((snd_br ((snd_lf n500_3195)) ((snd_lf n500_3194)))) ((snd_lf n500_3192)))) ((snd_br ((snd_lf n500_3191)) ((snd_lf n500_3190)))))))))))) ((snd_br ((snd_br ((snd_br ((snd_br ((snd_br ((snd_br ((snd_lf n500_3187)) ((snd_lf n500_3186)))) ((snd_lf n500_3185)))) ((snd_br ((snd_br ((snd_lf n500_3182)) ((snd_lf n500_3181)))) ((snd_lf n500_3180)))))) ((snd_br ((snd_br ((snd_br ((snd_lf n500_3178)) ((snd_lf n500_3177)))) ((snd_lf n500_3176)))) ((snd_br ((snd_lf n500_3175)) ((snd_lf n500_3172)))))))) ((snd_br ((snd_br ((snd_br ((snd_br ((snd_lf n500_3170)) ((snd_lf n500_3169)))) ((snd_lf n500_3168)))) ((snd_br ((snd_lf n500_3165)) ((snd_lf n500_3163)))))) ((snd_br ((snd_br ((snd_br ((snd_lf n500_3160)) ((snd_lf n500_3159)))) ((snd_lf n500_3157)))) ((snd_br ((snd_lf n500_3154)) ((snd_lf n500_3153)))))))))) ((snd_br ((snd_br ((snd_br ((snd_br ((snd_br ((snd_lf n500_3152)) ((snd_lf n500_3151)))) ((snd_lf n500_3149)))) ((snd_br ((snd_lf n500_3148)) ((snd_lf n500_3147)))))) ((snd_br ((snd_br ((snd_br ((snd_lf n500_3146)) ((snd_lf n500_3145)))) ((snd_lf n500_3143)))) ((snd_br ((snd_lf n500_3142)) ((snd_lf n500_3141)))))))) ((snd_br ((snd_br ((snd_br ((snd_br ((snd_lf n500_3140)) ((snd_lf n500_3139)))) ((snd_lf n500_3137)))) ((snd_br ((snd_lf n500_3136)) ((snd_lf n500_3135)))))) ((snd_br ((snd_br ((snd_br ((snd_lf n500_3133)) ((snd_lf n500_3130)))) ((snd_lf n500_3129)))) ((snd_br ((snd_lf n500_3128)) ((snd_lf n500_3127)))))))))))))) ((snd_br ((snd_br ((snd_br ((snd_br ((snd_br ((snd_br ((snd_br ((snd_lf n500_3126)) ((snd_lf n500_3124)))) ((snd_lf n500_3123)))) ((snd_br ((snd_br ((snd_lf n500_3122)) ((snd_lf n500_3121)))) ((snd_lf n500_3120)))))) ((snd_br ((snd_br ((snd_br ((snd_lf n500_3118)) ((snd_lf n500_3117)))) ((snd_lf n500_3116)))) ((snd_br ((snd_lf n500_3115)) ((snd_lf n500_3114)))))))) ((snd_br ((snd_br ((snd_br ((snd_br ((snd_lf n500_3112)) ((snd_lf n500_3111)))) ((snd_lf n500_3110)))) ((snd_br ((snd_lf n500_3107)) ((snd_lf n500_3106)))))) ((snd_br ((snd_br ((snd_br ((snd_lf n500_3105)) ((snd_lf n500_3102)))) ((snd_lf n500_3101)))) ((snd_br ((snd_lf n500_3100)) ((snd_lf n500_3098)))))))))) ((snd_br ((snd_br ((snd_br ((snd_br ((snd_br ((snd_lf n500_3097)) ((snd_lf n500_3096)))) ((snd_lf n500_3095)))) ((snd_br ((snd_lf n500_3092)) ((snd_lf n500_3090)))))) ((snd_br ((snd_br ((snd_br ((snd_lf n500_3089)) ((snd_lf n500_3088)))) ((snd_lf n500_3085)))) ((snd_br ((snd_lf n500_3083)) ((snd_lf n500_3080)))))))) ((snd_br ((snd_br ((snd_br ((snd_br ((snd_lf n500_3079)) ((snd_lf n500_3077)))) ((snd_lf n500_3074)))) ((snd_br ((snd_lf n500_3073)) ((snd_lf n500_3072)))))) ((snd_br ((snd_br ((snd_br ((snd_lf n500_3071)) ((snd_lf n500_3069)))) ((snd_lf n500_3068)))) ((snd_br ((snd_lf n500_3067)) ((snd_lf n500_3066)))))))))))) ((snd_br ((snd_br ((snd_br ((snd_br ((snd_br ((snd_br ((snd_lf n500_3065)) ((snd_lf n500_3063)))) ((snd_lf n500_3062)))) ((snd_br ((snd_br ((snd_lf n500_3061)) ((snd_lf n500_3059)))) ((snd_lf n500_3056)))))) ((snd_br ((snd_br ((snd_br ((snd_lf n500_3055)) ((snd_lf n500_3054)))) ((snd_lf n500_3053)))) ((snd_br ((snd_lf n500_3052)) ((snd_lf n500_3050)))))))) ((snd_br ((snd_br ((snd_br ((snd_br ((snd_lf n500_3049)) ((snd_lf n500_3048)))) ((snd_lf n500_3047)))) ((snd_br ((snd_lf n500_3046)) ((snd_lf n500_3044)))))) ((snd_br ((snd_br ((snd_br ((snd_lf n500_3043)) ((snd_lf n500_3042)))) ((snd_lf n500_3041)))) ((snd_br ((snd_lf n500_3040)) ((snd_lf n500_3037)))))))))) ((snd_br ((snd_br ((snd_br ((snd_br ((snd_br ((snd_lf n500_3034)) ((snd_lf n500_3033)))) ((snd_lf n500_3030)))) ((snd_br ((snd_lf n500_3029)) ((snd_lf n500_3026)))))) ((snd_br ((snd_br ((snd_br ((snd_lf n500_3025)) ((snd_lf n500_3024)))) ((snd_lf n500_3021)))) ((snd_br ((snd_lf n500_3020)) ((snd_lf n500_3019)))))))) ((snd_br ((snd_br ((snd_br ((snd_br ((snd_lf n500_3017)) ((snd_lf n500_3016)))) ((snd_lf n500_3015)))) ((snd_br ((snd_lf n500_3014)) ((snd_lf n500_3011)))))) ((snd_br ((snd_br ((snd_br ((snd_lf n500_3009)) ((snd_lf n500_3008)))) ((snd_lf n500_3007)))) ((snd_br ((snd_lf n500_3004)) ((snd_lf n500_3002)))))))))))))))) ((snd_br ((snd_br ((snd_br ((snd_br ((snd_br ((snd_br ((snd_br ((snd_br ((snd_lf n500_2999)) ((snd_lf n500_2998)))) ((snd_lf n500_2996)))) ((snd_br ((snd_br ((snd_lf n500_2993)) ((snd_lf n500_2992)))) ((snd_lf n500_2991)))))) ((snd_br ((snd_br ((snd_br ((snd_lf n500_2990)) ((snd_lf n500_2988)))) ((snd_lf n500_2987)))) ((snd_br ((snd_lf n500_2986)) ((snd_lf n500_2985)))))))) ((snd_br ((snd_br ((snd_br ((snd_br ((snd_lf n500_2984)) ((snd_lf n500_2982)))) ((snd_lf n500_2981)))) ((snd_br ((snd_lf n500_2980)) ((snd_lf n500_2979)))))) ((snd_br ((snd_br ((snd_br ((snd_lf n500_2978)) ((snd_lf n500_2976)))) ((snd_lf n500_2975)))) ((snd_br ((snd_lf n500_2974)) ((snd_lf n500_2972)))))))))) ((snd_br ((snd_br ((snd_br ((snd_br ((snd_br ((snd_lf n500_2969)) ((snd_lf n500_2968)))) ((snd_lf n500_2967)))) ((snd_br ((snd_lf n500_2966)) ((snd_lf n500_2965)))))) ((snd_br ((snd_br ((snd_br ((snd_lf n500_2963)) ((snd_lf n500_2962)))) ((snd_lf n500_2961)))) ((snd_br ((snd_lf n500_2960)) ((snd_lf n500_2959)))))))) ((snd_br ((snd_br ((snd_br ((snd_br ((snd_lf n500_2957)) ((snd_lf n500_2956)))) ((snd_lf n500_2955)))) ((snd_br ((snd_lf n500_2954)) ((snd_lf n500_2953)))))) ((snd_br ((snd_br ((snd_br ((snd_lf n500_2951)) ((snd_lf n500_2950)))) ((snd_lf n500_2949)))) ((snd_br ((snd_lf n500_2948)) ((snd_lf n500_2947)))))))))))) ((snd_br ((snd_br ((snd_br ((snd_br ((snd_br ((snd_br ((snd_lf n500_2944)) ((snd_lf n500_2941)))) ((snd_lf n500_2940)))) ((snd_br ((snd_br ((snd_lf n500_2937)) ((snd_lf n500_2936)))) ((snd_lf n500_2933)))))) ((snd_br ((snd_br ((snd_br ((snd_lf n500_2932)) ((snd_lf n500_2931)))) ((snd_lf n500_2928)))) ((snd_br ((snd_lf n500_2927)) ((snd_lf n500_2926)))))))) ((snd_br ((snd_br ((snd_br ((snd_br ((snd_lf n500_2924)) ((snd_lf n500_2923)))) ((snd_lf n500_2922)))) ((snd_br ((snd_lf n500_2921)) ((snd_lf n500_2918)))))) ((snd_br ((snd_br ((snd_br ((snd_lf n500_2916)) ((snd_lf n500_2915)))) ((snd_lf n500_2914)))) ((snd_br ((snd_lf n500_2911)) ((snd_lf n500_2909)))))))))) ((snd_br ((snd_br ((snd_br ((snd_br ((snd_br ((snd_lf n500_2906)) ((snd_lf n500_2905)))) ((snd_lf n500_2903)))) ((snd_br ((snd_lf n500_2900)) ((snd_lf n500_2899)))))) ((snd_br ((snd_br ((snd_br ((snd_lf n500_2898)) ((snd_lf n500_2897)))) ((snd_lf n500_2895)))) ((snd_br ((snd_lf n500_2894)) ((snd_lf n500_2893)))))))) ((snd_br ((snd_br ((snd_br ((snd_br ((snd_lf n500_2891)) ((snd_lf n500_2888)))) ((snd_lf n500_2887)))) ((snd_br ((snd_lf n500_2886)) ((snd_lf n500_2885)))))) ((snd_br ((snd_br ((snd_br ((snd_lf n500_2884)) ((snd_lf n500_2882)))) ((snd_lf n500_2881)))) ((snd_br ((snd_lf n500_2880)) ((snd_lf n500_2877)))))))))))))) ((snd_br ((snd_br ((snd_br ((snd_br ((snd_br ((snd_br ((snd_br ((snd_lf n500_2876)) ((snd_lf n500_2875)))) ((snd_lf n500_2872)))) ((snd_br ((snd_br ((snd_lf n500_2871)) ((snd_lf n500_2870)))) ((snd_lf n500_2868)))))) ((snd_br ((snd_br ((snd_br ((snd_lf n500_2867)) ((snd_lf n500_2866)))) ((snd_lf n500_2865)))) ((snd_br ((snd_lf n500_2862)) ((snd_lf n500_2860)))))))) ((snd_br ((snd_br ((snd_br ((snd_br ((snd_lf n500_2859)) ((snd_lf n500_2858)))) ((snd_lf n500_2855)))) ((snd_br ((snd_lf n500_2853)) ((snd_lf n500_2850)))))) ((snd_br ((snd_br ((snd_br ((snd_lf n500_2849)) ((snd_lf n500_2847)))) ((snd_lf n500_2844)))) ((snd_br ((snd_lf n500_2843)) ((snd_lf n500_2842)))))))))) ((snd_br ((snd_br ((snd_br ((snd_br ((snd_br ((snd_lf n500_2841)) ((snd_lf n500_2839)))) ((snd_lf n500_2838)))) ((snd_br ((snd_lf n500_2837)) ((snd_lf n500_2835)))))) ((snd_br ((snd_br ((snd_br ((snd_lf n500_2832)) ((snd_lf n500_2831)))) ((snd_lf n500_2830)))) ((snd_br ((snd_lf n500_2829)) ((snd_lf n500_2828)))))))) ((snd_br ((snd_br ((snd_br ((snd_br ((snd_lf n500_2826)) ((snd_lf n500_2825)))) ((snd_lf n500_2824)))) ((snd_br ((snd_lf n500_2821)) ((snd_lf n500_2820)))))) ((snd_br ((snd_br ((snd_br ((snd_lf n500_2819)) ((snd_lf n500_2816)))) ((snd_lf n500_2815)))) ((snd_br ((snd_lf n500_2814)) ((snd_lf n500_2812)))))))))))) ((snd_br ((snd_br ((snd_br ((snd_br ((snd_br ((snd_br ((snd_lf n500_2811)) ((snd_lf n500_2810)))) ((snd_lf n500_2809)))) ((snd_br ((snd_br ((snd_lf n500_2806)) ((snd_lf n500_2804)))) ((snd_lf n500_2803)))))) ((snd_br ((snd_br ((snd_br ((snd_lf n500_2802)) ((snd_lf n500_2799)))) ((snd_lf n500_2797)))) ((snd_br ((snd_lf n500_2794)) ((snd_lf n500_2793)))))))) ((snd_br ((snd_br ((snd_br ((snd_br ((snd_lf n500_2791)) ((snd_lf n500_2788)))) ((snd_lf n500_2787)))) ((snd_br ((snd_lf n500_2786)) ((snd_lf n500_2785)))))) ((snd_br ((snd_br ((snd_br ((snd_lf n500_2783)) ((snd_lf n500_2782)))) ((snd_lf n500_2781)))) ((snd_br ((snd_lf n500_2779)) ((snd_lf n500_2776)))))))))) ((snd_br ((snd_br ((snd_br ((snd_br ((snd_br ((snd_lf n500_2775)) ((snd_lf n500_2774)))) ((snd_lf n500_2773)))) ((snd_br ((snd_lf n500_2772)) ((snd_lf n500_2770)))))) ((snd_br ((snd_br ((snd_br ((snd_lf n500_2769)) ((snd_lf n500_2768)))) ((snd_lf n500_2765)))) ((snd_br ((snd_lf n500_2764)) ((snd_lf n500_2763)))))))) ((snd_br ((snd_br ((snd_br ((snd_br ((snd_lf n500_2760)) ((snd_lf n500_2759)))) ((snd_lf n500_2758)))) ((snd_br ((snd_lf n500_2756)) ((snd_lf n500_2755)))))) ((snd_br ((snd_br ((snd_br ((snd_lf n500_2754)) ((snd_lf n500_2753)))) ((snd_lf n500_2750)))) ((snd_br ((snd_lf n500_2748)) ((snd_lf n500_2747)))))))))))))))))) ((snd_br ((snd_br ((snd_br ((snd_br ((snd_br ((snd_br ((snd_br ((snd_br ((snd_br ((snd_lf n500_2746)) ((snd_lf n500_2743)))) ((snd_lf n500_2741)))) ((snd_br ((snd_br ((snd_lf n500_2738)) ((snd_lf n500_2737)))) ((snd_lf n500_2735)))))) ((snd_br ((snd_br ((snd_br ((snd_lf n500_2732)) ((snd_lf n500_2731)))) ((snd_lf n500_2730)))) ((snd_br ((snd_lf n500_2729)) ((snd_lf n500_2727)))))))) ((snd_br ((snd_br ((snd_br ((snd_br ((snd_lf n500_2726)) ((snd_lf n500_2725)))) ((snd_lf n500_2724)))) ((snd_br ((snd_lf n500_2723)) ((snd_lf n500_2721)))))) ((snd_br ((snd_br ((snd_br ((snd_lf n500_2720)) ((snd_lf n500_2719)))) ((snd_lf n500_2717)))) ((snd_br ((snd_lf n500_2714)) ((snd_lf n500_2713)))))))))) ((snd_br ((snd_br ((snd_br ((snd_br ((snd_br ((snd_lf n500_2712)) ((snd_lf n500_2711)))) ((snd_lf n500_2710)))) ((snd_br ((snd_br ((snd_lf n500_2708)) ((snd_lf n500_2707)))) ((snd_lf n500_2706)))))) ((snd_br ((snd_br ((snd_br ((snd_lf n500_2705)) ((snd_lf n500_2704)))) ((snd_lf n500_2702)))) ((snd_br ((snd_lf n500_2701)) ((snd_lf n500_2700)))))))) ((snd_br ((snd_br ((snd_br ((snd_br ((snd_lf n500_2697)) ((snd_lf n500_2696)))) ((snd_lf n500_2695)))) ((snd_br ((snd_lf n500_2692)) ((snd_lf n500_2691)))))) ((snd_br ((snd_br ((snd_br ((snd_lf n500_2690)) ((snd_lf n500_2688)))) ((snd_lf n500_2687)))) ((snd_br ((snd_lf n500_2686)) ((snd_lf n500_2685)))))))))))) ((snd_br ((snd_br ((snd_br ((snd_br ((snd_br ((snd_br ((snd_lf n500_2682)) ((snd_lf n500_2680)))) ((snd_lf n500_2679)))) ((snd_br ((snd_br ((snd_lf n500_2678)) ((snd_lf n500_2675)))) ((snd_lf n500_2673)))))) ((snd_br ((snd_br ((snd_br ((snd_lf n500_2670)) ((snd_lf n500_2669)))) ((snd_lf n500_2667)))) ((snd_br ((snd_lf n500_2664)) ((snd_lf n500_2663)))))))) ((snd_br ((snd_br ((snd_br ((snd_br ((snd_lf n500_2660)) ((snd_lf n500_2659)))) ((snd_lf n500_2656)))) ((snd_br ((snd_lf n500_2655)) ((snd_lf n500_2654)))))) ((snd_br ((snd_br ((snd_br ((snd_lf n500_2653)) ((snd_lf n500_2651)))) ((snd_lf n500_2650)))) ((snd_br ((snd_lf n500_2649)) ((snd_lf n500_2648)))))))))) ((snd_br ((snd_br ((snd_br ((snd_br ((snd_br ((snd_lf n500_2647)) ((snd_lf n500_2645)))) ((snd_lf n500_2644)))) ((snd_br ((snd_lf n500_2643)) ((snd_lf n500_2641)))))) ((snd_br ((snd_br ((snd_br ((snd_lf n500_2638)) ((snd_lf n500_2637)))) ((snd_lf n500_2636)))) ((snd_br ((snd_lf n500_2633)) ((snd_lf n500_2632)))))))) ((snd_br ((snd_br ((snd_br ((snd_br ((snd_lf n500_2629)) ((snd_lf n500_2628)))) ((snd_lf n500_2627)))) ((snd_br ((snd_lf n500_2626)) ((snd_lf n500_2624)))))) ((snd_br ((snd_br ((snd_br ((snd_lf n500_2623)) ((snd_lf n500_2622)))) ((snd_lf n500_2621)))) ((snd_br ((snd_lf n500_2620)) ((snd_lf n500_2618)))))))))))))) ((snd_br ((snd_br ((snd_br ((snd_br ((snd_br ((snd_br ((snd_br ((snd_lf n500_2617)) ((snd_lf n500_2616)))) ((snd_lf n500_2613)))) ((snd_br ((snd_br ((snd_lf n500_2612)) ((snd_lf n500_2611)))) ((snd_lf n500_2608)))))) ((snd_br ((snd_br ((snd_br ((snd_lf n500_2607)) ((snd_lf n500_2606)))) ((snd_lf n500_2604)))) ((snd_br ((snd_lf n500_2603)) ((snd_lf n500_2602)))))))) ((snd_br ((snd_br ((snd_br ((snd_br ((snd_lf n500_2601)) ((snd_lf n500_2598)))) ((snd_lf n500_2596)))) ((snd_br ((snd_lf n500_2595)) ((snd_lf n500_2594)))))) ((snd_br ((snd_br ((snd_br ((snd_lf n500_2591)) ((snd_lf n500_2589)))) ((snd_lf n500_2586)))) ((snd_br ((snd_lf n500_2585)) ((snd_lf n500_2583)))))))))) ((snd_br ((snd_br ((snd_br ((snd_br ((snd_br ((snd_lf n500_2580)) ((snd_lf n500_2579)))) ((snd_lf n500_2578)))) ((snd_br ((snd_lf n500_2577)) ((snd_lf n500_2575)))))) ((snd_br ((snd_br ((snd_br ((snd_lf n500_2574)) ((snd_lf n500_2573)))) ((snd_lf n500_2571)))) ((snd_br ((snd_lf n500_2568)) ((snd_lf n500_2567)))))))) ((snd_br ((snd_br ((snd_br ((snd_br ((snd_lf n500_2566)) ((snd_lf n500_2565)))) ((snd_lf n500_2564)))) ((snd_br ((snd_lf n500_2562)) ((snd_lf n500_2561)))))) ((snd_br ((snd_br ((snd_br ((snd_lf n500_2560)) ((snd_lf n500_2557)))) ((snd_lf n500_2556)))) ((snd_br ((snd_lf n500_2555)) ((snd_lf n500_2552)))))))))))) ((snd_br ((snd_br ((snd_br ((snd_br ((snd_br ((snd_br ((snd_lf n500_2551)) ((snd_lf n500_2550)))) ((snd_lf n500_2548)))) ((snd_br ((snd_br ((snd_lf n500_2547)) ((snd_lf n500_2546)))) ((snd_lf n500_2545)))))) ((snd_br ((snd_br ((snd_br ((snd_lf n500_2542)) ((snd_lf n500_2540)))) ((snd_lf n500_2539)))) ((snd_br ((snd_lf n500_2538)) ((snd_lf n500_2535)))))))) ((snd_br ((snd_br ((snd_br ((snd_br ((snd_lf n500_2533)) ((snd_lf n500_2530)))) ((snd_lf n500_2529)))) ((snd_br ((snd_lf n500_2527)) ((snd_lf n500_2524)))))) ((snd_br ((snd_br ((snd_br ((snd_lf n500_2523)) ((snd_lf n500_2522)))) ((snd_lf n500_2521)))) ((snd_br ((snd_lf n500_2519)) ((snd_lf n500_2518)))))))))) ((snd_br ((snd_br ((snd_br ((snd_br ((snd_br ((snd_lf n500_2517)) ((snd_lf n500_2515)))) ((snd_lf n500_2512)))) ((snd_br ((snd_lf n500_2511)) ((snd_lf n500_2510)))))) ((snd_br ((snd_br ((snd_br ((snd_lf n500_2509)) ((snd_lf n500_2508)))) ((snd_lf n500_2506)))) ((snd_br ((snd_lf n500_2505)) ((snd_lf n500_2504)))))))) ((snd_br ((snd_br ((snd_br ((snd_br ((snd_lf n500_2501)) ((snd_lf n500_2500)))) ((snd_lf n500_2499)))) ((snd_br ((snd_lf n500_2496)) ((snd_lf n500_2495)))))) ((snd_br ((snd_br ((snd_br ((snd_lf n500_2494)) ((snd_lf n500_2492)))) ((snd_lf n500_2491)))) ((snd_br ((snd_lf n500_2490)) ((snd_lf n500_2489)))))))))))))))) ((snd_br ((snd_br ((snd_br ((snd_br ((snd_br ((snd_br ((snd_br ((snd_br ((snd_lf n500_2486)) ((snd_lf n500_2484)))) ((snd_lf n500_2483)))) ((snd_br ((snd_br ((snd_lf n500_2482)) ((snd_lf n500_2479)))) ((snd_lf n500_2477)))))) ((snd_br ((snd_br ((snd_br ((snd_lf n500_2474)) ((snd_lf n500_2473)))) ((snd_lf n500_2471)))) ((snd_br ((snd_lf n500_2468)) ((snd_lf n500_2467)))))))) ((snd_br ((snd_br ((snd_br ((snd_br ((snd_lf n500_2466)) ((snd_lf n500_2465)))) ((snd_lf n500_2463)))) ((snd_br ((snd_lf n500_2462)) ((snd_lf n500_2461)))))) ((snd_br ((snd_br ((snd_br ((snd_lf n500_2460)) ((snd_lf n500_2459)))) ((snd_lf n500_2457)))) ((snd_br ((snd_lf n500_2456)) ((snd_lf n500_2455)))))))))) ((snd_br ((snd_br ((snd_br ((snd_br ((snd_br ((snd_lf n500_2453)) ((snd_lf n500_2450)))) ((snd_lf n500_2449)))) ((snd_br ((snd_lf n500_2448)) ((snd_lf n500_2447)))))) ((snd_br ((snd_br ((snd_br ((snd_lf n500_2446)) ((snd_lf n500_2444)))) ((snd_lf n500_2443)))) ((snd_br ((snd_lf n500_2442)) ((snd_lf n500_2441)))))))) ((snd_br ((snd_br ((snd_br ((snd_br ((snd_lf n500_2440)) ((snd_lf n500_2438)))) ((snd_lf n500_2437)))) ((snd_br ((snd_lf n500_2436)) ((snd_lf n500_2433)))))) ((snd_br ((snd_br ((snd_br ((snd_lf n500_2432)) ((snd_lf n500_2431)))) ((snd_lf n500_2428)))) ((snd_br ((snd_lf n500_2427)) ((snd_lf n500_2426)))))))))))) ((snd_br ((snd_br ((snd_br ((snd_br ((snd_br ((snd_br ((snd_lf n500_2424)) ((snd_lf n500_2423)))) ((snd_lf n500_2422)))) ((snd_br ((snd_br ((snd_lf n500_2421)) ((snd_lf n500_2418)))) ((snd_lf n500_2416)))))) ((snd_br ((snd_br ((snd_br ((snd_lf n500_2415)) ((snd_lf n500_2414)))) ((snd_lf n500_2411)))) ((snd_br ((snd_lf n500_2409)) ((snd_lf n500_2406)))))))) ((snd_br ((snd_br ((snd_br ((snd_br ((snd_lf n500_2405)) ((snd_lf n500_2403)))) ((snd_lf n500_2400)))) ((snd_br ((snd_lf n500_2399)) ((snd_lf n500_2398)))))) ((snd_br ((snd_br ((snd_br ((snd_lf n500_2397)) ((snd_lf n500_2395)))) ((snd_lf n500_2394)))) ((snd_br ((snd_lf n500_2393)) ((snd_lf n500_2391)))))))))) ((snd_br ((snd_br ((snd_br ((snd_br ((snd_br ((snd_lf n500_2388)) ((snd_lf n500_2387)))) ((snd_lf n500_2386)))) ((snd_br ((snd_lf n500_2385)) ((snd_lf n500_2384)))))) ((snd_br ((snd_br ((snd_br ((snd_lf n500_2382)) ((snd_lf n500_2381)))) ((snd_lf n500_2380)))) ((snd_br ((snd_lf n500_2377)) ((snd_lf n500_2376)))))))) ((snd_br ((snd_br ((snd_br ((snd_br ((snd_lf n500_2375)) ((snd_lf n500_2372)))) ((snd_lf n500_2371)))) ((snd_br ((snd_lf n500_2370)) ((snd_lf n500_2368)))))) ((snd_br ((snd_br ((snd_br ((snd_lf n500_2367)) ((snd_lf n500_2366)))) ((snd_lf n500_2365)))) ((snd_br ((snd_lf n500_2362)) ((snd_lf n500_2360)))))))))))))) ((snd_br ((snd_br ((snd_br ((snd_br ((snd_br ((snd_br ((snd_br ((snd_lf n500_2359)) ((snd_lf n500_2358)))) ((snd_lf n500_2355)))) ((snd_br ((snd_br ((snd_lf n500_2353)) ((snd_lf n500_2350)))) ((snd_lf n500_2349)))))) ((snd_br ((snd_br ((snd_br ((snd_lf n500_2347)) ((snd_lf n500_2344)))) ((snd_lf n500_2343)))) ((snd_br ((snd_lf n500_2342)) ((snd_lf n500_2341)))))))) ((snd_br ((snd_br ((snd_br ((snd_br ((snd_lf n500_2339)) ((snd_lf n500_2338)))) ((snd_lf n500_2337)))) ((snd_br ((snd_lf n500_2335)) ((snd_lf n500_2332)))))) ((snd_br ((snd_br ((snd_br ((snd_lf n500_2331)) ((snd_lf n500_2330)))) ((snd_lf n500_2329)))) ((snd_br ((snd_lf n500_2328)) ((snd_lf n500_2326)))))))))) ((snd_br ((snd_br ((snd_br ((snd_br ((snd_br ((snd_lf n500_2325)) ((snd_lf n500_2324)))) ((snd_lf n500_2321)))) ((snd_br ((snd_lf n500_2320)) ((snd_lf n500_2319)))))) ((snd_br ((snd_br ((snd_br ((snd_lf n500_2316)) ((snd_lf n500_2315)))) ((snd_lf n500_2314)))) ((snd_br ((snd_lf n500_2312)) ((snd_lf n500_2311)))))))) ((snd_br ((snd_br ((snd_br ((snd_br ((snd_lf n500_2310)) ((snd_lf n500_2309)))) ((snd_lf n500_2306)))) ((snd_br ((snd_lf n500_2304)) ((snd_lf n500_2303)))))) ((snd_br ((snd_br ((snd_br ((snd_lf n500_2302)) ((snd_lf n500_2299)))) ((snd_lf n500_2297)))) ((snd_br ((snd_lf n500_2294)) ((snd_lf n500_2293)))))))))))) ((snd_br ((snd_br ((snd_br ((snd_br ((snd_br ((snd_br ((snd_lf n500_2291)) ((snd_lf n500_2288)))) ((snd_lf n500_2287)))) ((snd_br ((snd_br ((snd_lf n500_2286)) ((snd_lf n500_2285)))) ((snd_lf n500_2283)))))) ((snd_br ((snd_br ((snd_br ((snd_lf n500_2282)) ((snd_lf n500_2281)))) ((snd_lf n500_2280)))) ((snd_br ((snd_lf n500_2279)) ((snd_lf n500_2277)))))))) ((snd_br ((snd_br ((snd_br ((snd_br ((snd_lf n500_2276)) ((snd_lf n500_2275)))) ((snd_lf n500_2273)))) ((snd_br ((snd_lf n500_2270)) ((snd_lf n500_2269)))))) ((snd_br ((snd_br ((snd_br ((snd_lf n500_2268)) ((snd_lf n500_2267)))) ((snd_lf n500_2266)))) ((snd_br ((snd_lf n500_2264)) ((snd_lf n500_2263)))))))))) ((snd_br ((snd_br ((snd_br ((snd_br ((snd_br ((snd_lf n500_2262)) ((snd_lf n500_2261)))) ((snd_lf n500_2260)))) ((snd_br ((snd_lf n500_2258)) ((snd_lf n500_2257)))))) ((snd_br ((snd_br ((snd_br ((snd_lf n500_2256)) ((snd_lf n500_2255)))) ((snd_lf n500_2254)))) ((snd_br ((snd_lf n500_2251)) ((snd_lf n500_2248)))))))) ((snd_br ((snd_br ((snd_br ((snd_br ((snd_lf n500_2247)) ((snd_lf n500_2244)))) ((snd_lf n500_2243)))) ((snd_br ((snd_lf n500_2240)) ((snd_lf n500_2239)))))) ((snd_br ((snd_br ((snd_br ((snd_lf n500_2238)) ((snd_lf n500_2235)))) ((snd_lf n500_2234)))) ((snd_br ((snd_lf n500_2233)) ((snd_lf n500_2231)))))))))))))))))))))) ((snd_br ((snd_br ((snd_br ((snd_br ((snd_br ((snd_br ((snd_br ((snd_br ((snd_br ((snd_br ((snd_br ((snd_lf n500_2230)) ((snd_lf n500_2229)))) ((snd_lf n500_2228)))) ((snd_br ((snd_br ((snd_lf n500_2225)) ((snd_lf n500_2223)))) ((snd_lf n500_2222)))))) ((snd_br ((snd_br ((snd_br ((snd_lf n500_2221)) ((snd_lf n500_2218)))) ((snd_lf n500_2216)))) ((snd_br ((snd_lf n500_2213)) ((snd_lf n500_2212)))))))) ((snd_br ((snd_br ((snd_br ((snd_br ((snd_lf n500_2210)) ((snd_lf n500_2207)))) ((snd_lf n500_2206)))) ((snd_br ((snd_lf n500_2205)) ((snd_lf n500_2204)))))) ((snd_br ((snd_br ((snd_br ((snd_lf n500_2202)) ((snd_lf n500_2201)))) ((snd_lf n500_2200)))) ((snd_br ((snd_lf n500_2198)) ((snd_lf n500_2195)))))))))) ((snd_br ((snd_br ((snd_br ((snd_br ((snd_br ((snd_lf n500_2194)) ((snd_lf n500_2193)))) ((snd_lf n500_2192)))) ((snd_br ((snd_br ((snd_lf n500_2191)) ((snd_lf n500_2189)))) ((snd_lf n500_2188)))))) ((snd_br ((snd_br ((snd_br ((snd_lf n500_2187)) ((snd_lf n500_2184)))) ((snd_lf n500_2183)))) ((snd_br ((snd_lf n500_2182)) ((snd_lf n500_2179)))))))) ((snd_br ((snd_br ((snd_br ((snd_br ((snd_lf n500_2178)) ((snd_lf n500_2177)))) ((snd_lf n500_2175)))) ((snd_br ((snd_lf n500_2174)) ((snd_lf n500_2173)))))) ((snd_br ((snd_br ((snd_br ((snd_lf n500_2172)) ((snd_lf n500_2169)))) ((snd_lf n500_2167)))) ((snd_br ((snd_lf n500_2166)) ((snd_lf n500_2165)))))))))))) ((snd_br ((snd_br ((snd_br ((snd_br ((snd_br ((snd_br ((snd_lf n500_2162)) ((snd_lf n500_2160)))) ((snd_lf n500_2157)))) ((snd_br ((snd_br ((snd_lf n500_2156)) ((snd_lf n500_2154)))) ((snd_lf n500_2151)))))) ((snd_br ((snd_br ((snd_br ((snd_lf n500_2150)) ((snd_lf n500_2149)))) ((snd_lf n500_2148)))) ((snd_br ((snd_lf n500_2146)) ((snd_lf n500_2145)))))))) ((snd_br ((snd_br ((snd_br ((snd_br ((snd_lf n500_2144)) ((snd_lf n500_2142)))) ((snd_lf n500_2139)))) ((snd_br ((snd_lf n500_2138)) ((snd_lf n500_2137)))))) ((snd_br ((snd_br ((snd_br ((snd_lf n500_2136)) ((snd_lf n500_2135)))) ((snd_lf n500_2133)))) ((snd_br ((snd_lf n500_2132)) ((snd_lf n500_2131)))))))))) ((snd_br ((snd_br ((snd_br ((snd_br ((snd_br ((snd_lf n500_2128)) ((snd_lf n500_2127)))) ((snd_lf n500_2126)))) ((snd_br ((snd_lf n500_2123)) ((snd_lf n500_2122)))))) ((snd_br ((snd_br ((snd_br ((snd_lf n500_2121)) ((snd_lf n500_2119)))) ((snd_lf n500_2118)))) ((snd_br ((snd_lf n500_2117)) ((snd_lf n500_2116)))))))) ((snd_br ((snd_br ((snd_br ((snd_br ((snd_lf n500_2113)) ((snd_lf n500_2111)))) ((snd_lf n500_2110)))) ((snd_br ((snd_lf n500_2109)) ((snd_lf n500_2106)))))) ((snd_br ((snd_br ((snd_br ((snd_lf n500_2104)) ((snd_lf n500_2101)))) ((snd_lf n500_2100)))) ((snd_br ((snd_lf n500_2098)) ((snd_lf n500_2095)))))))))))))) ((snd_br ((snd_br ((snd_br ((snd_br ((snd_br ((snd_br ((snd_br ((snd_lf n500_2094)) ((snd_lf n500_2093)))) ((snd_lf n500_2092)))) ((snd_br ((snd_br ((snd_lf n500_2090)) ((snd_lf n500_2089)))) ((snd_lf n500_2088)))))) ((snd_br ((snd_br ((snd_br ((snd_lf n500_2087)) ((snd_lf n500_2086)))) ((snd_lf n500_2084)))) ((snd_br ((snd_lf n500_2083)) ((snd_lf n500_2082)))))))) ((snd_br ((snd_br ((snd_br ((snd_br ((snd_lf n500_2081)) ((snd_lf n500_2080)))) ((snd_lf n500_2078)))) ((snd_br ((snd_lf n500_2077)) ((snd_lf n500_2076)))))) ((snd_br ((snd_br ((snd_br ((snd_lf n500_2075)) ((snd_lf n500_2074)))) ((snd_lf n500_2072)))) ((snd_br ((snd_lf n500_2071)) ((snd_lf n500_2070)))))))))) ((snd_br ((snd_br ((snd_br ((snd_br ((snd_br ((snd_lf n500_2068)) ((snd_lf n500_2065)))) ((snd_lf n500_2064)))) ((snd_br ((snd_lf n500_2063)) ((snd_lf n500_2062)))))) ((snd_br ((snd_br ((snd_br ((snd_lf n500_2061)) ((snd_lf n500_2059)))) ((snd_lf n500_2058)))) ((snd_br ((snd_lf n500_2057)) ((snd_lf n500_2056)))))))) ((snd_br ((snd_br ((snd_br ((snd_br ((snd_lf n500_2055)) ((snd_lf n500_2053)))) ((snd_lf n500_2052)))) ((snd_br ((snd_lf n500_2051)) ((snd_lf n500_2050)))))) ((snd_br ((snd_br ((snd_br ((snd_lf n500_2049)) ((snd_lf n500_2047)))) ((snd_lf n500_2046)))) ((snd_br ((snd_lf n500_2045)) ((snd_lf n500_2044)))))))))))) ((snd_br ((snd_br ((snd_br ((snd_br ((snd_br ((snd_br ((snd_lf n500_2043)) ((snd_lf n500_2041)))) ((snd_lf n500_2040)))) ((snd_br ((snd_br ((snd_lf n500_2039)) ((snd_lf n500_2036)))) ((snd_lf n500_2035)))))) ((snd_br ((snd_br ((snd_br ((snd_lf n500_2034)) ((snd_lf n500_2031)))) ((snd_lf n500_2030)))) ((snd_br ((snd_lf n500_2029)) ((snd_lf n500_2027)))))))) ((snd_br ((snd_br ((snd_br ((snd_br ((snd_lf n500_2026)) ((snd_lf n500_2025)))) ((snd_lf n500_2024)))) ((snd_br ((snd_lf n500_2021)) ((snd_lf n500_2019)))))) ((snd_br ((snd_br ((snd_br ((snd_lf n500_2018)) ((snd_lf n500_2017)))) ((snd_lf n500_2014)))) ((snd_br ((snd_lf n500_2012)) ((snd_lf n500_2009)))))))))) ((snd_br ((snd_br ((snd_br ((snd_br ((snd_br ((snd_lf n500_2008)) ((snd_lf n500_2006)))) ((snd_lf n500_2003)))) ((snd_br ((snd_lf n500_2002)) ((snd_lf n500_2001)))))) ((snd_br ((snd_br ((snd_br ((snd_lf n500_2000)) ((snd_lf n500_1998)))) ((snd_lf n500_1997)))) ((snd_br ((snd_lf n500_1996)) ((snd_lf n500_1995)))))))) ((snd_br ((snd_br ((snd_br ((snd_br ((snd_lf n500_1994)) ((snd_lf n500_1992)))) ((snd_lf n500_1991)))) ((snd_br ((snd_lf n500_1990)) ((snd_lf n500_1988)))))) ((snd_br ((snd_br ((snd_br ((snd_lf n500_1985)) ((snd_lf n500_1984)))) ((snd_lf n500_1983)))) ((snd_br ((snd_lf n500_1982)) ((snd_lf n500_1981)))))))))))))))) ((snd_br ((snd_br ((snd_br ((snd_br ((snd_br ((snd_br ((snd_br ((snd_br ((snd_lf n500_1979)) ((snd_lf n500_1978)))) ((snd_lf n500_1977)))) ((snd_br ((snd_br ((snd_lf n500_1976)) ((snd_lf n500_1975)))) ((snd_lf n500_1973)))))) ((snd_br ((snd_br ((snd_br ((snd_lf n500_1972)) ((snd_lf n500_1971)))) ((snd_lf n500_1968)))) ((snd_br ((snd_lf n500_1967)) ((snd_lf n500_1966)))))))) ((snd_br ((snd_br ((snd_br ((snd_br ((snd_lf n500_1963)) ((snd_lf n500_1962)))) ((snd_lf n500_1961)))) ((snd_br ((snd_lf n500_1959)) ((snd_lf n500_1958)))))) ((snd_br ((snd_br ((snd_br ((snd_lf n500_1957)) ((snd_lf n500_1956)))) ((snd_lf n500_1953)))) ((snd_br ((snd_lf n500_1951)) ((snd_lf n500_1950)))))))))) ((snd_br ((snd_br ((snd_br ((snd_br ((snd_br ((snd_lf n500_1949)) ((snd_lf n500_1946)))) ((snd_lf n500_1944)))) ((snd_br ((snd_br ((snd_lf n500_1941)) ((snd_lf n500_1940)))) ((snd_lf n500_1938)))))) ((snd_br ((snd_br ((snd_br ((snd_lf n500_1935)) ((snd_lf n500_1934)))) ((snd_lf n500_1933)))) ((snd_br ((snd_lf n500_1932)) ((snd_lf n500_1930)))))))) ((snd_br ((snd_br ((snd_br ((snd_br ((snd_lf n500_1929)) ((snd_lf n500_1928)))) ((snd_lf n500_1927)))) ((snd_br ((snd_lf n500_1926)) ((snd_lf n500_1924)))))) ((snd_br ((snd_br ((snd_br ((snd_lf n500_1923)) ((snd_lf n500_1922)))) ((snd_lf n500_1920)))) ((snd_br ((snd_lf n500_1917)) ((snd_lf n500_1916)))))))))))) ((snd_br ((snd_br ((snd_br ((snd_br ((snd_br ((snd_br ((snd_lf n500_1915)) ((snd_lf n500_1914)))) ((snd_lf n500_1913)))) ((snd_br ((snd_br ((snd_lf n500_1911)) ((snd_lf n500_1910)))) ((snd_lf n500_1909)))))) ((snd_br ((snd_br ((snd_br ((snd_lf n500_1908)) ((snd_lf n500_1907)))) ((snd_lf n500_1905)))) ((snd_br ((snd_lf n500_1904)) ((snd_lf n500_1903)))))))) ((snd_br ((snd_br ((snd_br ((snd_br ((snd_lf n500_1900)) ((snd_lf n500_1899)))) ((snd_lf n500_1898)))) ((snd_br ((snd_lf n500_1895)) ((snd_lf n500_1894)))))) ((snd_br ((snd_br ((snd_br ((snd_lf n500_1893)) ((snd_lf n500_1891)))) ((snd_lf n500_1890)))) ((snd_br ((snd_lf n500_1889)) ((snd_lf n500_1888)))))))))) ((snd_br ((snd_br ((snd_br ((snd_br ((snd_br ((snd_lf n500_1885)) ((snd_lf n500_1883)))) ((snd_lf n500_1882)))) ((snd_br ((snd_lf n500_1881)) ((snd_lf n500_1878)))))) ((snd_br ((snd_br ((snd_br ((snd_lf n500_1876)) ((snd_lf n500_1873)))) ((snd_lf n500_1872)))) ((snd_br ((snd_lf n500_1870)) ((snd_lf n500_1867)))))))) ((snd_br ((snd_br ((snd_br ((snd_br ((snd_lf n500_1866)) ((snd_lf n500_1865)))) ((snd_lf n500_1864)))) ((snd_br ((snd_lf n500_1862)) ((snd_lf n500_1861)))))) ((snd_br ((snd_br ((snd_br ((snd_lf n500_1860)) ((snd_lf n500_1859)))) ((snd_lf n500_1858)))) ((snd_br ((snd_lf n500_1856)) ((snd_lf n500_1855)))))))))))))) ((snd_br ((snd_br ((snd_br ((snd_br ((snd_br ((snd_br ((snd_br ((snd_lf n500_1854)) ((snd_lf n500_1852)))) ((snd_lf n500_1849)))) ((snd_br ((snd_br ((snd_lf n500_1848)) ((snd_lf n500_1847)))) ((snd_lf n500_1846)))))) ((snd_br ((snd_br ((snd_br ((snd_lf n500_1845)) ((snd_lf n500_1843)))) ((snd_lf n500_1842)))) ((snd_br ((snd_lf n500_1841)) ((snd_lf n500_1840)))))))) ((snd_br ((snd_br ((snd_br ((snd_br ((snd_lf n500_1839)) ((snd_lf n500_1837)))) ((snd_lf n500_1836)))) ((snd_br ((snd_lf n500_1835)) ((snd_lf n500_1834)))))) ((snd_br ((snd_br ((snd_br ((snd_lf n500_1833)) ((snd_lf n500_1830)))) ((snd_lf n500_1827)))) ((snd_br ((snd_lf n500_1826)) ((snd_lf n500_1825)))))))))) ((snd_br ((snd_br ((snd_br ((snd_br ((snd_br ((snd_lf n500_1824)) ((snd_lf n500_1822)))) ((snd_lf n500_1821)))) ((snd_br ((snd_lf n500_1820)) ((snd_lf n500_1817)))))) ((snd_br ((snd_br ((snd_br ((snd_lf n500_1816)) ((snd_lf n500_1815)))) ((snd_lf n500_1814)))) ((snd_br ((snd_lf n500_1812)) ((snd_lf n500_1811)))))))) ((snd_br ((snd_br ((snd_br ((snd_br ((snd_lf n500_1810)) ((snd_lf n500_1809)))) ((snd_lf n500_1808)))) ((snd_br ((snd_lf n500_1805)) ((snd_lf n500_1802)))))) ((snd_br ((snd_br ((snd_br ((snd_lf n500_1801)) ((snd_lf n500_1798)))) ((snd_lf n500_1797)))) ((snd_br ((snd_lf n500_1794)) ((snd_lf n500_1793)))))))))))) ((snd_br ((snd_br ((snd_br ((snd_br ((snd_br ((snd_br ((snd_lf n500_1792)) ((snd_lf n500_1789)))) ((snd_lf n500_1788)))) ((snd_br ((snd_br ((snd_lf n500_1787)) ((snd_lf n500_1785)))) ((snd_lf n500_1784)))))) ((snd_br ((snd_br ((snd_br ((snd_lf n500_1783)) ((snd_lf n500_1782)))) ((snd_lf n500_1779)))) ((snd_br ((snd_lf n500_1777)) ((snd_lf n500_1776)))))))) ((snd_br ((snd_br ((snd_br ((snd_br ((snd_lf n500_1775)) ((snd_lf n500_1772)))) ((snd_lf n500_1770)))) ((snd_br ((snd_lf n500_1767)) ((snd_lf n500_1766)))))) ((snd_br ((snd_br ((snd_br ((snd_lf n500_1764)) ((snd_lf n500_1761)))) ((snd_lf n500_1760)))) ((snd_br ((snd_lf n500_1759)) ((snd_lf n500_1758)))))))))) ((snd_br ((snd_br ((snd_br ((snd_br ((snd_br ((snd_lf n500_1756)) ((snd_lf n500_1755)))) ((snd_lf n500_1754)))) ((snd_br ((snd_lf n500_1753)) ((snd_lf n500_1752)))))) ((snd_br ((snd_br ((snd_br ((snd_lf n500_1750)) ((snd_lf n500_1749)))) ((snd_lf n500_1748)))) ((snd_br ((snd_lf n500_1746)) ((snd_lf n500_1743)))))))) ((snd_br ((snd_br ((snd_br ((snd_br ((snd_lf n500_1742)) ((snd_lf n500_1741)))) ((snd_lf n500_1740)))) ((snd_br ((snd_lf n500_1739)) ((snd_lf n500_1737)))))) ((snd_br ((snd_br ((snd_br ((snd_lf n500_1736)) ((snd_lf n500_1735)))) ((snd_lf n500_1734)))) ((snd_br ((snd_lf n500_1733)) ((snd_lf n500_1731)))))))))))))))))) ((snd_br ((snd_br ((snd_br ((snd_br ((snd_br ((snd_br ((snd_br ((snd_br ((snd_br ((snd_lf n500_1730)) ((snd_lf n500_1729)))) ((snd_lf n500_1726)))) ((snd_br ((snd_br ((snd_lf n500_1725)) ((snd_lf n500_1724)))) ((snd_lf n500_1721)))))) ((snd_br ((snd_br ((snd_br ((snd_lf n500_1720)) ((snd_lf n500_1719)))) ((snd_lf n500_1717)))) ((snd_br ((snd_lf n500_1716)) ((snd_lf n500_1715)))))))) ((snd_br ((snd_br ((snd_br ((snd_br ((snd_lf n500_1714)) ((snd_lf n500_1711)))) ((snd_lf n500_1709)))) ((snd_br ((snd_lf n500_1708)) ((snd_lf n500_1707)))))) ((snd_br ((snd_br ((snd_br ((snd_lf n500_1704)) ((snd_lf n500_1702)))) ((snd_lf n500_1699)))) ((snd_br ((snd_lf n500_1698)) ((snd_lf n500_1696)))))))))) ((snd_br ((snd_br ((snd_br ((snd_br ((snd_br ((snd_lf n500_1693)) ((snd_lf n500_1692)))) ((snd_lf n500_1691)))) ((snd_br ((snd_br ((snd_lf n500_1690)) ((snd_lf n500_1688)))) ((snd_lf n500_1687)))))) ((snd_br ((snd_br ((snd_br ((snd_lf n500_1686)) ((snd_lf n500_1685)))) ((snd_lf n500_1684)))) ((snd_br ((snd_lf n500_1682)) ((snd_lf n500_1681)))))))) ((snd_br ((snd_br ((snd_br ((snd_br ((snd_lf n500_1680)) ((snd_lf n500_1679)))) ((snd_lf n500_1678)))) ((snd_br ((snd_lf n500_1676)) ((snd_lf n500_1675)))))) ((snd_br ((snd_br ((snd_br ((snd_lf n500_1674)) ((snd_lf n500_1672)))) ((snd_lf n500_1669)))) ((snd_br ((snd_lf n500_1668)) ((snd_lf n500_1667)))))))))))) ((snd_br ((snd_br ((snd_br ((snd_br ((snd_br ((snd_br ((snd_lf n500_1666)) ((snd_lf n500_1665)))) ((snd_lf n500_1663)))) ((snd_br ((snd_br ((snd_lf n500_1662)) ((snd_lf n500_1661)))) ((snd_lf n500_1660)))))) ((snd_br ((snd_br ((snd_br ((snd_lf n500_1659)) ((snd_lf n500_1657)))) ((snd_lf n500_1656)))) ((snd_br ((snd_lf n500_1655)) ((snd_lf n500_1654)))))))) ((snd_br ((snd_br ((snd_br ((snd_br ((snd_lf n500_1653)) ((snd_lf n500_1651)))) ((snd_lf n500_1650)))) ((snd_br ((snd_lf n500_1649)) ((snd_lf n500_1646)))))) ((snd_br ((snd_br ((snd_br ((snd_lf n500_1645)) ((snd_lf n500_1644)))) ((snd_lf n500_1641)))) ((snd_br ((snd_lf n500_1640)) ((snd_lf n500_1639)))))))))) ((snd_br ((snd_br ((snd_br ((snd_br ((snd_br ((snd_lf n500_1637)) ((snd_lf n500_1636)))) ((snd_lf n500_1635)))) ((snd_br ((snd_lf n500_1634)) ((snd_lf n500_1631)))))) ((snd_br ((snd_br ((snd_br ((snd_lf n500_1629)) ((snd_lf n500_1628)))) ((snd_lf n500_1627)))) ((snd_br ((snd_lf n500_1624)) ((snd_lf n500_1622)))))))) ((snd_br ((snd_br ((snd_br ((snd_br ((snd_lf n500_1619)) ((snd_lf n500_1618)))) ((snd_lf n500_1616)))) ((snd_br ((snd_lf n500_1613)) ((snd_lf n500_1612)))))) ((snd_br ((snd_br ((snd_br ((snd_lf n500_1611)) ((snd_lf n500_1610)))) ((snd_lf n500_1608)))) ((snd_br ((snd_lf n500_1607)) ((snd_lf n500_1606)))))))))))))) ((snd_br ((snd_br ((snd_br ((snd_br ((snd_br ((snd_br ((snd_br ((snd_lf n500_1605)) ((snd_lf n500_1604)))) ((snd_lf n500_1602)))) ((snd_br ((snd_br ((snd_lf n500_1601)) ((snd_lf n500_1600)))) ((snd_lf n500_1598)))))) ((snd_br ((snd_br ((snd_br ((snd_lf n500_1595)) ((snd_lf n500_1594)))) ((snd_lf n500_1593)))) ((snd_br ((snd_lf n500_1592)) ((snd_lf n500_1591)))))))) ((snd_br ((snd_br ((snd_br ((snd_br ((snd_lf n500_1589)) ((snd_lf n500_1588)))) ((snd_lf n500_1587)))) ((snd_br ((snd_lf n500_1586)) ((snd_lf n500_1585)))))) ((snd_br ((snd_br ((snd_br ((snd_lf n500_1583)) ((snd_lf n500_1582)))) ((snd_lf n500_1581)))) ((snd_br ((snd_lf n500_1578)) ((snd_lf n500_1577)))))))))) ((snd_br ((snd_br ((snd_br ((snd_br ((snd_br ((snd_lf n500_1576)) ((snd_lf n500_1573)))) ((snd_lf n500_1572)))) ((snd_br ((snd_lf n500_1571)) ((snd_lf n500_1569)))))) ((snd_br ((snd_br ((snd_br ((snd_lf n500_1568)) ((snd_lf n500_1567)))) ((snd_lf n500_1566)))) ((snd_br ((snd_lf n500_1563)) ((snd_lf n500_1561)))))))) ((snd_br ((snd_br ((snd_br ((snd_br ((snd_lf n500_1560)) ((snd_lf n500_1559)))) ((snd_lf n500_1556)))) ((snd_br ((snd_lf n500_1554)) ((snd_lf n500_1551)))))) ((snd_br ((snd_br ((snd_br ((snd_lf n500_1550)) ((snd_lf n500_1548)))) ((snd_lf n500_1545)))) ((snd_br ((snd_lf n500_1544)) ((snd_lf n500_1543)))))))))))) ((snd_br ((snd_br ((snd_br ((snd_br ((snd_br ((snd_br ((snd_lf n500_1542)) ((snd_lf n500_1540)))) ((snd_lf n500_1539)))) ((snd_br ((snd_br ((snd_lf n500_1538)) ((snd_lf n500_1537)))) ((snd_lf n500_1536)))))) ((snd_br ((snd_br ((snd_br ((snd_lf n500_1534)) ((snd_lf n500_1533)))) ((snd_lf n500_1532)))) ((snd_br ((snd_lf n500_1531)) ((snd_lf n500_1530)))))))) ((snd_br ((snd_br ((snd_br ((snd_br ((snd_lf n500_1528)) ((snd_lf n500_1527)))) ((snd_lf n500_1526)))) ((snd_br ((snd_lf n500_1524)) ((snd_lf n500_1521)))))) ((snd_br ((snd_br ((snd_br ((snd_lf n500_1520)) ((snd_lf n500_1519)))) ((snd_lf n500_1518)))) ((snd_br ((snd_lf n500_1517)) ((snd_lf n500_1515)))))))))) ((snd_br ((snd_br ((snd_br ((snd_br ((snd_br ((snd_lf n500_1514)) ((snd_lf n500_1513)))) ((snd_lf n500_1512)))) ((snd_br ((snd_lf n500_1511)) ((snd_lf n500_1509)))))) ((snd_br ((snd_br ((snd_br ((snd_lf n500_1508)) ((snd_lf n500_1507)))) ((snd_lf n500_1506)))) ((snd_br ((snd_lf n500_1505)) ((snd_lf n500_1503)))))))) ((snd_br ((snd_br ((snd_br ((snd_br ((snd_lf n500_1502)) ((snd_lf n500_1501)))) ((snd_lf n500_1498)))) ((snd_br ((snd_lf n500_1497)) ((snd_lf n500_1496)))))) ((snd_br ((snd_br ((snd_br ((snd_lf n500_1493)) ((snd_lf n500_1492)))) ((snd_lf n500_1491)))) ((snd_br ((snd_lf n500_1489)) ((snd_lf n500_1488)))))))))))))))) ((snd_br ((snd_br ((snd_br ((snd_br ((snd_br ((snd_br ((snd_br ((snd_br ((snd_lf n500_1487)) ((snd_lf n500_1486)))) ((snd_lf n500_1483)))) ((snd_br ((snd_br ((snd_lf n500_1481)) ((snd_lf n500_1480)))) ((snd_lf n500_1479)))))) ((snd_br ((snd_br ((snd_br ((snd_lf n500_1476)) ((snd_lf n500_1474)))) ((snd_lf n500_1471)))) ((snd_br ((snd_lf n500_1470)) ((snd_lf n500_1468)))))))) ((snd_br ((snd_br ((snd_br ((snd_br ((snd_lf n500_1465)) ((snd_lf n500_1464)))) ((snd_lf n500_1463)))) ((snd_br ((snd_lf n500_1462)) ((snd_lf n500_1460)))))) ((snd_br ((snd_br ((snd_br ((snd_lf n500_1459)) ((snd_lf n500_1458)))) ((snd_lf n500_1457)))) ((snd_br ((snd_lf n500_1456)) ((snd_lf n500_1454)))))))))) ((snd_br ((snd_br ((snd_br ((snd_br ((snd_br ((snd_lf n500_1453)) ((snd_lf n500_1452)))) ((snd_lf n500_1450)))) ((snd_br ((snd_lf n500_1447)) ((snd_lf n500_1446)))))) ((snd_br ((snd_br ((snd_br ((snd_lf n500_1445)) ((snd_lf n500_1444)))) ((snd_lf n500_1443)))) ((snd_br ((snd_lf n500_1441)) ((snd_lf n500_1440)))))))) ((snd_br ((snd_br ((snd_br ((snd_br ((snd_lf n500_1439)) ((snd_lf n500_1438)))) ((snd_lf n500_1437)))) ((snd_br ((snd_lf n500_1435)) ((snd_lf n500_1434)))))) ((snd_br ((snd_br ((snd_br ((snd_lf n500_1433)) ((snd_lf n500_1430)))) ((snd_lf n500_1429)))) ((snd_br ((snd_lf n500_1428)) ((snd_lf n500_1425)))))))))))) ((snd_br ((snd_br ((snd_br ((snd_br ((snd_br ((snd_br ((snd_lf n500_1424)) ((snd_lf n500_1423)))) ((snd_lf n500_1421)))) ((snd_br ((snd_br ((snd_lf n500_1420)) ((snd_lf n500_1419)))) ((snd_lf n500_1418)))))) ((snd_br ((snd_br ((snd_br ((snd_lf n500_1415)) ((snd_lf n500_1413)))) ((snd_lf n500_1412)))) ((snd_br ((snd_lf n500_1411)) ((snd_lf n500_1408)))))))) ((snd_br ((snd_br ((snd_br ((snd_br ((snd_lf n500_1406)) ((snd_lf n500_1403)))) ((snd_lf n500_1402)))) ((snd_br ((snd_lf n500_1400)) ((snd_lf n500_1397)))))) ((snd_br ((snd_br ((snd_br ((snd_lf n500_1396)) ((snd_lf n500_1395)))) ((snd_lf n500_1394)))) ((snd_br ((snd_lf n500_1392)) ((snd_lf n500_1391)))))))))) ((snd_br ((snd_br ((snd_br ((snd_br ((snd_br ((snd_lf n500_1390)) ((snd_lf n500_1389)))) ((snd_lf n500_1388)))) ((snd_br ((snd_lf n500_1386)) ((snd_lf n500_1385)))))) ((snd_br ((snd_br ((snd_br ((snd_lf n500_1384)) ((snd_lf n500_1383)))) ((snd_lf n500_1382)))) ((snd_br ((snd_lf n500_1380)) ((snd_lf n500_1379)))))))) ((snd_br ((snd_br ((snd_br ((snd_br ((snd_lf n500_1378)) ((snd_lf n500_1376)))) ((snd_lf n500_1373)))) ((snd_br ((snd_lf n500_1372)) ((snd_lf n500_1371)))))) ((snd_br ((snd_br ((snd_br ((snd_lf n500_1370)) ((snd_lf n500_1369)))) ((snd_lf n500_1367)))) ((snd_br ((snd_lf n500_1366)) ((snd_lf n500_1365)))))))))))))) ((snd_br ((snd_br ((snd_br ((snd_br ((snd_br ((snd_br ((snd_br ((snd_lf n500_1364)) ((snd_lf n500_1363)))) ((snd_lf n500_1361)))) ((snd_br ((snd_br ((snd_lf n500_1360)) ((snd_lf n500_1359)))) ((snd_lf n500_1358)))))) ((snd_br ((snd_br ((snd_br ((snd_lf n500_1357)) ((snd_lf n500_1355)))) ((snd_lf n500_1354)))) ((snd_br ((snd_lf n500_1353)) ((snd_lf n500_1350)))))))) ((snd_br ((snd_br ((snd_br ((snd_br ((snd_lf n500_1349)) ((snd_lf n500_1348)))) ((snd_lf n500_1345)))) ((snd_br ((snd_lf n500_1344)) ((snd_lf n500_1343)))))) ((snd_br ((snd_br ((snd_br ((snd_lf n500_1341)) ((snd_lf n500_1340)))) ((snd_lf n500_1339)))) ((snd_br ((snd_lf n500_1338)) ((snd_lf n500_1335)))))))))) ((snd_br ((snd_br ((snd_br ((snd_br ((snd_br ((snd_lf n500_1333)) ((snd_lf n500_1332)))) ((snd_lf n500_1331)))) ((snd_br ((snd_lf n500_1328)) ((snd_lf n500_1326)))))) ((snd_br ((snd_br ((snd_br ((snd_lf n500_1323)) ((snd_lf n500_1322)))) ((snd_lf n500_1320)))) ((snd_br ((snd_lf n500_1317)) ((snd_lf n500_1316)))))))) ((snd_br ((snd_br ((snd_br ((snd_br ((snd_lf n500_1315)) ((snd_lf n500_1314)))) ((snd_lf n500_1312)))) ((snd_br ((snd_lf n500_1311)) ((snd_lf n500_1310)))))) ((snd_br ((snd_br ((snd_br ((snd_lf n500_1309)) ((snd_lf n500_1308)))) ((snd_lf n500_1306)))) ((snd_br ((snd_lf n500_1305)) ((snd_lf n500_1304)))))))))))) ((snd_br ((snd_br ((snd_br ((snd_br ((snd_br ((snd_br ((snd_lf n500_1303)) ((snd_lf n500_1302)))) ((snd_lf n500_1300)))) ((snd_br ((snd_br ((snd_lf n500_1299)) ((snd_lf n500_1298)))) ((snd_lf n500_1296)))))) ((snd_br ((snd_br ((snd_br ((snd_lf n500_1293)) ((snd_lf n500_1292)))) ((snd_lf n500_1291)))) ((snd_br ((snd_lf n500_1290)) ((snd_lf n500_1289)))))))) ((snd_br ((snd_br ((snd_br ((snd_br ((snd_lf n500_1287)) ((snd_lf n500_1286)))) ((snd_lf n500_1285)))) ((snd_br ((snd_lf n500_1284)) ((snd_lf n500_1283)))))) ((snd_br ((snd_br ((snd_br ((snd_lf n500_1281)) ((snd_lf n500_1280)))) ((snd_lf n500_1279)))) ((snd_br ((snd_lf n500_1278)) ((snd_lf n500_1277)))))))))) ((snd_br ((snd_br ((snd_br ((snd_br ((snd_br ((snd_lf n500_1275)) ((snd_lf n500_1274)))) ((snd_lf n500_1273)))) ((snd_br ((snd_lf n500_1270)) ((snd_lf n500_1269)))))) ((snd_br ((snd_br ((snd_br ((snd_lf n500_1268)) ((snd_lf n500_1265)))) ((snd_lf n500_1264)))) ((snd_br ((snd_lf n500_1263)) ((snd_lf n500_1261)))))))) ((snd_br ((snd_br ((snd_br ((snd_br ((snd_lf n500_1260)) ((snd_lf n500_1259)))) ((snd_lf n500_1258)))) ((snd_br ((snd_lf n500_1255)) ((snd_lf n500_1253)))))) ((snd_br ((snd_br ((snd_br ((snd_lf n500_1252)) ((snd_lf n500_1251)))) ((snd_lf n500_1248)))) ((snd_br ((snd_lf n500_1246)) ((snd_lf n500_1243)))))))))))))))))))) ((snd_br ((snd_br ((snd_br ((snd_br ((snd_br ((snd_br ((snd_br ((snd_br ((snd_br ((snd_br ((snd_lf n500_1242)) ((snd_lf n500_1240)))) ((snd_lf n500_1237)))) ((snd_br ((snd_br ((snd_lf n500_1236)) ((snd_lf n500_1235)))) ((snd_lf n500_1234)))))) ((snd_br ((snd_br ((snd_br ((snd_lf n500_1232)) ((snd_lf n500_1231)))) ((snd_lf n500_1230)))) ((snd_br ((snd_lf n500_1229)) ((snd_lf n500_1228)))))))) ((snd_br ((snd_br ((snd_br ((snd_br ((snd_lf n500_1226)) ((snd_lf n500_1225)))) ((snd_lf n500_1224)))) ((snd_br ((snd_lf n500_1223)) ((snd_lf n500_1222)))))) ((snd_br ((snd_br ((snd_br ((snd_lf n500_1220)) ((snd_lf n500_1219)))) ((snd_lf n500_1218)))) ((snd_br ((snd_lf n500_1216)) ((snd_lf n500_1213)))))))))) ((snd_br ((snd_br ((snd_br ((snd_br ((snd_br ((snd_lf n500_1212)) ((snd_lf n500_1211)))) ((snd_lf n500_1210)))) ((snd_br ((snd_br ((snd_lf n500_1209)) ((snd_lf n500_1207)))) ((snd_lf n500_1206)))))) ((snd_br ((snd_br ((snd_br ((snd_lf n500_1205)) ((snd_lf n500_1204)))) ((snd_lf n500_1203)))) ((snd_br ((snd_lf n500_1201)) ((snd_lf n500_1200)))))))) ((snd_br ((snd_br ((snd_br ((snd_br ((snd_lf n500_1199)) ((snd_lf n500_1198)))) ((snd_lf n500_1197)))) ((snd_br ((snd_lf n500_1195)) ((snd_lf n500_1194)))))) ((snd_br ((snd_br ((snd_br ((snd_lf n500_1193)) ((snd_lf n500_1190)))) ((snd_lf n500_1189)))) ((snd_br ((snd_lf n500_1188)) ((snd_lf n500_1185)))))))))))) ((snd_br ((snd_br ((snd_br ((snd_br ((snd_br ((snd_br ((snd_lf n500_1184)) ((snd_lf n500_1183)))) ((snd_lf n500_1180)))) ((snd_br ((snd_br ((snd_lf n500_1179)) ((snd_lf n500_1176)))) ((snd_lf n500_1174)))))) ((snd_br ((snd_br ((snd_br ((snd_lf n500_1173)) ((snd_lf n500_1172)))) ((snd_lf n500_1171)))) ((snd_br ((snd_lf n500_1168)) ((snd_lf n500_1166)))))))) ((snd_br ((snd_br ((snd_br ((snd_br ((snd_lf n500_1165)) ((snd_lf n500_1164)))) ((snd_lf n500_1161)))) ((snd_br ((snd_lf n500_1159)) ((snd_lf n500_1156)))))) ((snd_br ((snd_br ((snd_br ((snd_lf n500_1155)) ((snd_lf n500_1153)))) ((snd_lf n500_1150)))) ((snd_br ((snd_lf n500_1149)) ((snd_lf n500_1148)))))))))) ((snd_br ((snd_br ((snd_br ((snd_br ((snd_br ((snd_lf n500_1147)) ((snd_lf n500_1145)))) ((snd_lf n500_1144)))) ((snd_br ((snd_lf n500_1143)) ((snd_lf n500_1142)))))) ((snd_br ((snd_br ((snd_br ((snd_lf n500_1141)) ((snd_lf n500_1139)))) ((snd_lf n500_1138)))) ((snd_br ((snd_lf n500_1137)) ((snd_lf n500_1136)))))))) ((snd_br ((snd_br ((snd_br ((snd_br ((snd_lf n500_1135)) ((snd_lf n500_1133)))) ((snd_lf n500_1132)))) ((snd_br ((snd_lf n500_1131)) ((snd_lf n500_1129)))))) ((snd_br ((snd_br ((snd_br ((snd_lf n500_1126)) ((snd_lf n500_1125)))) ((snd_lf n500_1124)))) ((snd_br ((snd_lf n500_1123)) ((snd_lf n500_1122)))))))))))))) ((snd_br ((snd_br ((snd_br ((snd_br ((snd_br ((snd_br ((snd_br ((snd_lf n500_1120)) ((snd_lf n500_1119)))) ((snd_lf n500_1118)))) ((snd_br ((snd_br ((snd_lf n500_1117)) ((snd_lf n500_1116)))) ((snd_lf n500_1114)))))) ((snd_br ((snd_br ((snd_br ((snd_lf n500_1113)) ((snd_lf n500_1112)))) ((snd_lf n500_1111)))) ((snd_br ((snd_lf n500_1110)) ((snd_lf n500_1108)))))))) ((snd_br ((snd_br ((snd_br ((snd_br ((snd_lf n500_1107)) ((snd_lf n500_1106)))) ((snd_lf n500_1103)))) ((snd_br ((snd_lf n500_1102)) ((snd_lf n500_1101)))))) ((snd_br ((snd_br ((snd_br ((snd_lf n500_1098)) ((snd_lf n500_1097)))) ((snd_lf n500_1096)))) ((snd_br ((snd_lf n500_1094)) ((snd_lf n500_1093)))))))))) ((snd_br ((snd_br ((snd_br ((snd_br ((snd_br ((snd_lf n500_1092)) ((snd_lf n500_1091)))) ((snd_lf n500_1088)))) ((snd_br ((snd_lf n500_1086)) ((snd_lf n500_1085)))))) ((snd_br ((snd_br ((snd_br ((snd_lf n500_1084)) ((snd_lf n500_1081)))) ((snd_lf n500_1079)))) ((snd_br ((snd_lf n500_1076)) ((snd_lf n500_1075)))))))) ((snd_br ((snd_br ((snd_br ((snd_br ((snd_lf n500_1073)) ((snd_lf n500_1070)))) ((snd_lf n500_1069)))) ((snd_br ((snd_lf n500_1068)) ((snd_lf n500_1067)))))) ((snd_br ((snd_br ((snd_br ((snd_lf n500_1065)) ((snd_lf n500_1064)))) ((snd_lf n500_1063)))) ((snd_br ((snd_lf n500_1062)) ((snd_lf n500_1061)))))))))))) ((snd_br ((snd_br ((snd_br ((snd_br ((snd_br ((snd_br ((snd_lf n500_1059)) ((snd_lf n500_1058)))) ((snd_lf n500_1057)))) ((snd_br ((snd_br ((snd_lf n500_1056)) ((snd_lf n500_1055)))) ((snd_lf n500_1053)))))) ((snd_br ((snd_br ((snd_br ((snd_lf n500_1052)) ((snd_lf n500_1051)))) ((snd_lf n500_1049)))) ((snd_br ((snd_lf n500_1046)) ((snd_lf n500_1045)))))))) ((snd_br ((snd_br ((snd_br ((snd_br ((snd_lf n500_1044)) ((snd_lf n500_1043)))) ((snd_lf n500_1042)))) ((snd_br ((snd_lf n500_1040)) ((snd_lf n500_1039)))))) ((snd_br ((snd_br ((snd_br ((snd_lf n500_1038)) ((snd_lf n500_1037)))) ((snd_lf n500_1036)))) ((snd_br ((snd_lf n500_1034)) ((snd_lf n500_1033)))))))))) ((snd_br ((snd_br ((snd_br ((snd_br ((snd_br ((snd_lf n500_1032)) ((snd_lf n500_1031)))) ((snd_lf n500_1030)))) ((snd_br ((snd_lf n500_1028)) ((snd_lf n500_1027)))))) ((snd_br ((snd_br ((snd_br ((snd_lf n500_1026)) ((snd_lf n500_1023)))) ((snd_lf n500_1022)))) ((snd_br ((snd_lf n500_1021)) ((snd_lf n500_1018)))))))) ((snd_br ((snd_br ((snd_br ((snd_br ((snd_lf n500_1017)) ((snd_lf n500_1016)))) ((snd_lf n500_1014)))) ((snd_br ((snd_lf n500_1013)) ((snd_lf n500_1012)))))) ((snd_br ((snd_br ((snd_br ((snd_lf n500_1011)) ((snd_lf n500_1008)))) ((snd_lf n500_1006)))) ((snd_br ((snd_lf n500_1005)) ((snd_lf n500_1004)))))))))))))))) ((snd_br ((snd_br ((snd_br ((snd_br ((snd_br ((snd_br ((snd_br ((snd_br ((snd_lf n500_1001)) ((snd_lf n500_999)))) ((snd_lf n500_996)))) ((snd_br ((snd_br ((snd_lf n500_995)) ((snd_lf n500_993)))) ((snd_lf n500_990)))))) ((snd_br ((snd_br ((snd_br ((snd_lf n500_989)) ((snd_lf n500_988)))) ((snd_lf n500_987)))) ((snd_br ((snd_lf n500_985)) ((snd_lf n500_984)))))))) ((snd_br ((snd_br ((snd_br ((snd_br ((snd_lf n500_983)) ((snd_lf n500_982)))) ((snd_lf n500_981)))) ((snd_br ((snd_lf n500_979)) ((snd_lf n500_978)))))) ((snd_br ((snd_br ((snd_br ((snd_lf n500_977)) ((snd_lf n500_975)))) ((snd_lf n500_972)))) ((snd_br ((snd_lf n500_971)) ((snd_lf n500_970)))))))))) ((snd_br ((snd_br ((snd_br ((snd_br ((snd_br ((snd_lf n500_969)) ((snd_lf n500_968)))) ((snd_lf n500_966)))) ((snd_br ((snd_lf n500_965)) ((snd_lf n500_964)))))) ((snd_br ((snd_br ((snd_br ((snd_lf n500_963)) ((snd_lf n500_962)))) ((snd_lf n500_960)))) ((snd_br ((snd_lf n500_959)) ((snd_lf n500_958)))))))) ((snd_br ((snd_br ((snd_br ((snd_br ((snd_lf n500_955)) ((snd_lf n500_954)))) ((snd_lf n500_953)))) ((snd_br ((snd_lf n500_950)) ((snd_lf n500_949)))))) ((snd_br ((snd_br ((snd_br ((snd_lf n500_948)) ((snd_lf n500_946)))) ((snd_lf n500_945)))) ((snd_br ((snd_lf n500_944)) ((snd_lf n500_943)))))))))))) ((snd_br ((snd_br ((snd_br ((snd_br ((snd_br ((snd_br ((snd_lf n500_940)) ((snd_lf n500_938)))) ((snd_lf n500_937)))) ((snd_br ((snd_br ((snd_lf n500_936)) ((snd_lf n500_933)))) ((snd_lf n500_931)))))) ((snd_br ((snd_br ((snd_br ((snd_lf n500_928)) ((snd_lf n500_927)))) ((snd_lf n500_925)))) ((snd_br ((snd_lf n500_922)) ((snd_lf n500_921)))))))) ((snd_br ((snd_br ((snd_br ((snd_br ((snd_lf n500_920)) ((snd_lf n500_919)))) ((snd_lf n500_917)))) ((snd_br ((snd_lf n500_916)) ((snd_lf n500_915)))))) ((snd_br ((snd_br ((snd_br ((snd_lf n500_914)) ((snd_lf n500_913)))) ((snd_lf n500_911)))) ((snd_br ((snd_lf n500_910)) ((snd_lf n500_909)))))))))) ((snd_br ((snd_br ((snd_br ((snd_br ((snd_br ((snd_lf n500_908)) ((snd_lf n500_907)))) ((snd_lf n500_905)))) ((snd_br ((snd_lf n500_904)) ((snd_lf n500_903)))))) ((snd_br ((snd_br ((snd_br ((snd_lf n500_901)) ((snd_lf n500_898)))) ((snd_lf n500_897)))) ((snd_br ((snd_lf n500_896)) ((snd_lf n500_895)))))))) ((snd_br ((snd_br ((snd_br ((snd_br ((snd_lf n500_894)) ((snd_lf n500_892)))) ((snd_lf n500_891)))) ((snd_br ((snd_lf n500_890)) ((snd_lf n500_889)))))) ((snd_br ((snd_br ((snd_br ((snd_lf n500_888)) ((snd_lf n500_886)))) ((snd_lf n500_885)))) ((snd_br ((snd_lf n500_884)) ((snd_lf n500_883)))))))))))))) ((snd_br ((snd_br ((snd_br ((snd_br ((snd_br ((snd_br ((snd_br ((snd_lf n500_882)) ((snd_lf n500_880)))) ((snd_lf n500_879)))) ((snd_br ((snd_br ((snd_lf n500_878)) ((snd_lf n500_875)))) ((snd_lf n500_874)))))) ((snd_br ((snd_br ((snd_br ((snd_lf n500_873)) ((snd_lf n500_870)))) ((snd_lf n500_869)))) ((snd_br ((snd_lf n500_868)) ((snd_lf n500_866)))))))) ((snd_br ((snd_br ((snd_br ((snd_br ((snd_lf n500_865)) ((snd_lf n500_864)))) ((snd_lf n500_863)))) ((snd_br ((snd_lf n500_860)) ((snd_lf n500_858)))))) ((snd_br ((snd_br ((snd_br ((snd_lf n500_857)) ((snd_lf n500_856)))) ((snd_lf n500_853)))) ((snd_br ((snd_lf n500_851)) ((snd_lf n500_848)))))))))) ((snd_br ((snd_br ((snd_br ((snd_br ((snd_br ((snd_lf n500_847)) ((snd_lf n500_845)))) ((snd_lf n500_842)))) ((snd_br ((snd_lf n500_841)) ((snd_lf n500_840)))))) ((snd_br ((snd_br ((snd_br ((snd_lf n500_839)) ((snd_lf n500_837)))) ((snd_lf n500_836)))) ((snd_br ((snd_lf n500_835)) ((snd_lf n500_834)))))))) ((snd_br ((snd_br ((snd_br ((snd_br ((snd_lf n500_833)) ((snd_lf n500_831)))) ((snd_lf n500_830)))) ((snd_br ((snd_lf n500_829)) ((snd_lf n500_828)))))) ((snd_br ((snd_br ((snd_br ((snd_lf n500_827)) ((snd_lf n500_825)))) ((snd_lf n500_824)))) ((snd_br ((snd_lf n500_823)) ((snd_lf n500_821)))))))))))) ((snd_br ((snd_br ((snd_br ((snd_br ((snd_br ((snd_br ((snd_lf n500_818)) ((snd_lf n500_817)))) ((snd_lf n500_816)))) ((snd_br ((snd_br ((snd_lf n500_815)) ((snd_lf n500_814)))) ((snd_lf n500_812)))))) ((snd_br ((snd_br ((snd_br ((snd_lf n500_811)) ((snd_lf n500_810)))) ((snd_lf n500_809)))) ((snd_br ((snd_lf n500_808)) ((snd_lf n500_806)))))))) ((snd_br ((snd_br ((snd_br ((snd_br ((snd_lf n500_805)) ((snd_lf n500_804)))) ((snd_lf n500_803)))) ((snd_br ((snd_lf n500_802)) ((snd_lf n500_800)))))) ((snd_br ((snd_br ((snd_br ((snd_lf n500_799)) ((snd_lf n500_798)))) ((snd_lf n500_795)))) ((snd_br ((snd_lf n500_794)) ((snd_lf n500_793)))))))))) ((snd_br ((snd_br ((snd_br ((snd_br ((snd_br ((snd_lf n500_790)) ((snd_lf n500_789)))) ((snd_lf n500_788)))) ((snd_br ((snd_lf n500_786)) ((snd_lf n500_785)))))) ((snd_br ((snd_br ((snd_br ((snd_lf n500_784)) ((snd_lf n500_783)))) ((snd_lf n500_780)))) ((snd_br ((snd_lf n500_778)) ((snd_lf n500_777)))))))) ((snd_br ((snd_br ((snd_br ((snd_br ((snd_lf n500_776)) ((snd_lf n500_773)))) ((snd_lf n500_771)))) ((snd_br ((snd_lf n500_768)) ((snd_lf n500_767)))))) ((snd_br ((snd_br ((snd_br ((snd_lf n500_765)) ((snd_lf n500_762)))) ((snd_lf n500_761)))) ((snd_br ((snd_lf n500_758)) ((snd_lf n500_757)))))))))))))))))) ((snd_br ((snd_br ((snd_br ((snd_br ((snd_br ((snd_br ((snd_br ((snd_br ((snd_br ((snd_lf n500_754)) ((snd_lf n500_753)))) ((snd_lf n500_752)))) ((snd_br ((snd_br ((snd_lf n500_751)) ((snd_lf n500_749)))) ((snd_lf n500_748)))))) ((snd_br ((snd_br ((snd_br ((snd_lf n500_747)) ((snd_lf n500_746)))) ((snd_lf n500_745)))) ((snd_br ((snd_lf n500_743)) ((snd_lf n500_742)))))))) ((snd_br ((snd_br ((snd_br ((snd_br ((snd_lf n500_741)) ((snd_lf n500_740)))) ((snd_lf n500_739)))) ((snd_br ((snd_lf n500_737)) ((snd_lf n500_736)))))) ((snd_br ((snd_br ((snd_br ((snd_lf n500_735)) ((snd_lf n500_734)))) ((snd_lf n500_733)))) ((snd_br ((snd_lf n500_731)) ((snd_lf n500_730)))))))))) ((snd_br ((snd_br ((snd_br ((snd_br ((snd_br ((snd_lf n500_729)) ((snd_lf n500_728)))) ((snd_lf n500_727)))) ((snd_br ((snd_br ((snd_lf n500_725)) ((snd_lf n500_724)))) ((snd_lf n500_723)))))) ((snd_br ((snd_br ((snd_br ((snd_lf n500_721)) ((snd_lf n500_718)))) ((snd_lf n500_717)))) ((snd_br ((snd_lf n500_716)) ((snd_lf n500_713)))))))) ((snd_br ((snd_br ((snd_br ((snd_br ((snd_lf n500_712)) ((snd_lf n500_709)))) ((snd_lf n500_708)))) ((snd_br ((snd_lf n500_707)) ((snd_lf n500_706)))))) ((snd_br ((snd_br ((snd_br ((snd_lf n500_704)) ((snd_lf n500_703)))) ((snd_lf n500_702)))) ((snd_br ((snd_lf n500_701)) ((snd_lf n500_700)))))))))))) ((snd_br ((snd_br ((snd_br ((snd_br ((snd_br ((snd_br ((snd_lf n500_698)) ((snd_lf n500_697)))) ((snd_lf n500_696)))) ((snd_br ((snd_br ((snd_lf n500_695)) ((snd_lf n500_694)))) ((snd_lf n500_692)))))) ((snd_br ((snd_br ((snd_br ((snd_lf n500_691)) ((snd_lf n500_690)))) ((snd_lf n500_689)))) ((snd_br ((snd_lf n500_688)) ((snd_lf n500_686)))))))) ((snd_br ((snd_br ((snd_br ((snd_br ((snd_lf n500_685)) ((snd_lf n500_684)))) ((snd_lf n500_683)))) ((snd_br ((snd_lf n500_682)) ((snd_lf n500_680)))))) ((snd_br ((snd_br ((snd_br ((snd_lf n500_679)) ((snd_lf n500_678)))) ((snd_lf n500_675)))) ((snd_br ((snd_lf n500_674)) ((snd_lf n500_673)))))))))) ((snd_br ((snd_br ((snd_br ((snd_br ((snd_br ((snd_lf n500_670)) ((snd_lf n500_669)))) ((snd_lf n500_668)))) ((snd_br ((snd_lf n500_666)) ((snd_lf n500_665)))))) ((snd_br ((snd_br ((snd_br ((snd_lf n500_664)) ((snd_lf n500_663)))) ((snd_lf n500_660)))) ((snd_br ((snd_lf n500_658)) ((snd_lf n500_657)))))))) ((snd_br ((snd_br ((snd_br ((snd_br ((snd_lf n500_656)) ((snd_lf n500_653)))) ((snd_lf n500_651)))) ((snd_br ((snd_lf n500_648)) ((snd_lf n500_647)))))) ((snd_br ((snd_br ((snd_br ((snd_lf n500_645)) ((snd_lf n500_642)))) ((snd_lf n500_641)))) ((snd_br ((snd_lf n500_640)) ((snd_lf n500_639)))))))))))))) ((snd_br ((snd_br ((snd_br ((snd_br ((snd_br ((snd_br ((snd_br ((snd_lf n500_637)) ((snd_lf n500_636)))) ((snd_lf n500_635)))) ((snd_br ((snd_br ((snd_lf n500_633)) ((snd_lf n500_630)))) ((snd_lf n500_629)))))) ((snd_br ((snd_br ((snd_br ((snd_lf n500_628)) ((snd_lf n500_627)))) ((snd_lf n500_626)))) ((snd_br ((snd_lf n500_624)) ((snd_lf n500_623)))))))) ((snd_br ((snd_br ((snd_br ((snd_br ((snd_lf n500_622)) ((snd_lf n500_619)))) ((snd_lf n500_618)))) ((snd_br ((snd_lf n500_617)) ((snd_lf n500_614)))))) ((snd_br ((snd_br ((snd_br ((snd_lf n500_613)) ((snd_lf n500_612)))) ((snd_lf n500_610)))) ((snd_br ((snd_lf n500_609)) ((snd_lf n500_608)))))))))) ((snd_br ((snd_br ((snd_br ((snd_br ((snd_br ((snd_lf n500_607)) ((snd_lf n500_604)))) ((snd_lf n500_602)))) ((snd_br ((snd_lf n500_601)) ((snd_lf n500_600)))))) ((snd_br ((snd_br ((snd_br ((snd_lf n500_597)) ((snd_lf n500_595)))) ((snd_lf n500_592)))) ((snd_br ((snd_lf n500_591)) ((snd_lf n500_589)))))))) ((snd_br ((snd_br ((snd_br ((snd_br ((snd_lf n500_586)) ((snd_lf n500_585)))) ((snd_lf n500_584)))) ((snd_br ((snd_lf n500_583)) ((snd_lf n500_581)))))) ((snd_br ((snd_br ((snd_br ((snd_lf n500_580)) ((snd_lf n500_579)))) ((snd_lf n500_578)))) ((snd_br ((snd_lf n500_577)) ((snd_lf n500_575)))))))))))) ((snd_br ((snd_br ((snd_br ((snd_br ((snd_br ((snd_br ((snd_lf n500_574)) ((snd_lf n500_573)))) ((snd_lf n500_572)))) ((snd_br ((snd_br ((snd_lf n500_571)) ((snd_lf n500_569)))) ((snd_lf n500_568)))))) ((snd_br ((snd_br ((snd_br ((snd_lf n500_567)) ((snd_lf n500_566)))) ((snd_lf n500_565)))) ((snd_br ((snd_lf n500_563)) ((snd_lf n500_562)))))))) ((snd_br ((snd_br ((snd_br ((snd_br ((snd_lf n500_561)) ((snd_lf n500_559)))) ((snd_lf n500_556)))) ((snd_br ((snd_lf n500_555)) ((snd_lf n500_554)))))) ((snd_br ((snd_br ((snd_br ((snd_lf n500_553)) ((snd_lf n500_552)))) ((snd_lf n500_550)))) ((snd_br ((snd_lf n500_549)) ((snd_lf n500_548)))))))))) ((snd_br ((snd_br ((snd_br ((snd_br ((snd_br ((snd_lf n500_547)) ((snd_lf n500_546)))) ((snd_lf n500_544)))) ((snd_br ((snd_lf n500_543)) ((snd_lf n500_542)))))) ((snd_br ((snd_br ((snd_br ((snd_lf n500_541)) ((snd_lf n500_540)))) ((snd_lf n500_538)))) ((snd_br ((snd_lf n500_537)) ((snd_lf n500_536)))))))) ((snd_br ((snd_br ((snd_br ((snd_br ((snd_lf n500_535)) ((snd_lf n500_534)))) ((snd_lf n500_532)))) ((snd_br ((snd_lf n500_531)) ((snd_lf n500_530)))))) ((snd_br ((snd_br ((snd_br ((snd_lf n500_529)) ((snd_lf n500_528)))) ((snd_lf n500_525)))) ((snd_br ((snd_lf n500_522)) ((snd_lf n500_521)))))))))))))))) ((snd_br ((snd_br ((snd_br ((snd_br ((snd_br ((snd_br ((snd_br ((snd_br ((snd_lf n500_518)) ((snd_lf n500_517)))) ((snd_lf n500_514)))) ((snd_br ((snd_br ((snd_lf n500_513)) ((snd_lf n500_512)))) ((snd_lf n500_509)))))) ((snd_br ((snd_br ((snd_br ((snd_lf n500_508)) ((snd_lf n500_507)))) ((snd_lf n500_505)))) ((snd_br ((snd_lf n500_504)) ((snd_lf n500_503)))))))) ((snd_br ((snd_br ((snd_br ((snd_br ((snd_lf n500_502)) ((snd_lf n500_499)))) ((snd_lf n500_497)))) ((snd_br ((snd_lf n500_496)) ((snd_lf n500_495)))))) ((snd_br ((snd_br ((snd_br ((snd_lf n500_492)) ((snd_lf n500_490)))) ((snd_lf n500_487)))) ((snd_br ((snd_lf n500_486)) ((snd_lf n500_484)))))))))) ((snd_br ((snd_br ((snd_br ((snd_br ((snd_br ((snd_lf n500_481)) ((snd_lf n500_480)))) ((snd_lf n500_479)))) ((snd_br ((snd_lf n500_478)) ((snd_lf n500_476)))))) ((snd_br ((snd_br ((snd_br ((snd_lf n500_475)) ((snd_lf n500_474)))) ((snd_lf n500_472)))) ((snd_br ((snd_lf n500_469)) ((snd_lf n500_468)))))))) ((snd_br ((snd_br ((snd_br ((snd_br ((snd_lf n500_467)) ((snd_lf n500_466)))) ((snd_lf n500_465)))) ((snd_br ((snd_lf n500_463)) ((snd_lf n500_462)))))) ((snd_br ((snd_br ((snd_br ((snd_lf n500_461)) ((snd_lf n500_458)))) ((snd_lf n500_457)))) ((snd_br ((snd_lf n500_456)) ((snd_lf n500_453)))))))))))) ((snd_br ((snd_br ((snd_br ((snd_br ((snd_br ((snd_br ((snd_lf n500_452)) ((snd_lf n500_451)))) ((snd_lf n500_449)))) ((snd_br ((snd_br ((snd_lf n500_448)) ((snd_lf n500_447)))) ((snd_lf n500_446)))))) ((snd_br ((snd_br ((snd_br ((snd_lf n500_443)) ((snd_lf n500_441)))) ((snd_lf n500_440)))) ((snd_br ((snd_lf n500_439)) ((snd_lf n500_436)))))))) ((snd_br ((snd_br ((snd_br ((snd_br ((snd_lf n500_434)) ((snd_lf n500_431)))) ((snd_lf n500_430)))) ((snd_br ((snd_lf n500_428)) ((snd_lf n500_425)))))) ((snd_br ((snd_br ((snd_br ((snd_lf n500_424)) ((snd_lf n500_423)))) ((snd_lf n500_422)))) ((snd_br ((snd_lf n500_420)) ((snd_lf n500_419)))))))))) ((snd_br ((snd_br ((snd_br ((snd_br ((snd_br ((snd_lf n500_418)) ((snd_lf n500_417)))) ((snd_lf n500_416)))) ((snd_br ((snd_lf n500_414)) ((snd_lf n500_413)))))) ((snd_br ((snd_br ((snd_br ((snd_lf n500_412)) ((snd_lf n500_410)))) ((snd_lf n500_407)))) ((snd_br ((snd_lf n500_406)) ((snd_lf n500_405)))))))) ((snd_br ((snd_br ((snd_br ((snd_br ((snd_lf n500_404)) ((snd_lf n500_403)))) ((snd_lf n500_401)))) ((snd_br ((snd_lf n500_400)) ((snd_lf n500_399)))))) ((snd_br ((snd_br ((snd_br ((snd_lf n500_398)) ((snd_lf n500_397)))) ((snd_lf n500_395)))) ((snd_br ((snd_lf n500_394)) ((snd_lf n500_393)))))))))))))) ((snd_br ((snd_br ((snd_br ((snd_br ((snd_br ((snd_br ((snd_br ((snd_lf n500_392)) ((snd_lf n500_391)))) ((snd_lf n500_388)))) ((snd_br ((snd_br ((snd_lf n500_385)) ((snd_lf n500_384)))) ((snd_lf n500_383)))))) ((snd_br ((snd_br ((snd_br ((snd_lf n500_382)) ((snd_lf n500_380)))) ((snd_lf n500_379)))) ((snd_br ((snd_lf n500_378)) ((snd_lf n500_377)))))))) ((snd_br ((snd_br ((snd_br ((snd_br ((snd_lf n500_376)) ((snd_lf n500_374)))) ((snd_lf n500_373)))) ((snd_br ((snd_lf n500_372)) ((snd_lf n500_371)))))) ((snd_br ((snd_br ((snd_br ((snd_lf n500_370)) ((snd_lf n500_368)))) ((snd_lf n500_367)))) ((snd_br ((snd_lf n500_366)) ((snd_lf n500_365)))))))))) ((snd_br ((snd_br ((snd_br ((snd_br ((snd_br ((snd_lf n500_364)) ((snd_lf n500_362)))) ((snd_lf n500_361)))) ((snd_br ((snd_lf n500_360)) ((snd_lf n500_359)))))) ((snd_br ((snd_br ((snd_br ((snd_lf n500_358)) ((snd_lf n500_356)))) ((snd_lf n500_355)))) ((snd_br ((snd_lf n500_354)) ((snd_lf n500_351)))))))) ((snd_br ((snd_br ((snd_br ((snd_br ((snd_lf n500_350)) ((snd_lf n500_349)))) ((snd_lf n500_348)))) ((snd_br ((snd_lf n500_346)) ((snd_lf n500_345)))))) ((snd_br ((snd_br ((snd_br ((snd_lf n500_344)) ((snd_lf n500_343)))) ((snd_lf n500_342)))) ((snd_br ((snd_lf n500_340)) ((snd_lf n500_339)))))))))))) ((snd_br ((snd_br ((snd_br ((snd_br ((snd_br ((snd_br ((snd_lf n500_338)) ((snd_lf n500_337)))) ((snd_lf n500_336)))) ((snd_br ((snd_br ((snd_lf n500_334)) ((snd_lf n500_333)))) ((snd_lf n500_332)))))) ((snd_br ((snd_br ((snd_br ((snd_lf n500_331)) ((snd_lf n500_330)))) ((snd_lf n500_328)))) ((snd_br ((snd_lf n500_327)) ((snd_lf n500_326)))))))) ((snd_br ((snd_br ((snd_br ((snd_br ((snd_lf n500_325)) ((snd_lf n500_324)))) ((snd_lf n500_322)))) ((snd_br ((snd_lf n500_321)) ((snd_lf n500_320)))))) ((snd_br ((snd_br ((snd_br ((snd_lf n500_40)) ((snd_lf n500_39)))) ((snd_lf n500_37)))) ((snd_br ((snd_lf n500_36)) ((snd_lf n500_34)))))))))) ((snd_br ((snd_br ((snd_br ((snd_br ((snd_br ((snd_lf n500_33)) ((snd_lf n500_30)))) ((snd_lf n500_29)))) ((snd_br ((snd_lf n500_27)) ((snd_lf n500_26)))))) ((snd_br ((snd_br ((snd_br ((snd_lf n500_25)) ((snd_lf n500_23)))) ((snd_lf n500_21)))) ((snd_br ((snd_lf n500_20)) ((snd_lf n500_19)))))))) ((snd_br ((snd_br ((snd_br ((snd_br ((snd_lf n500_17)) ((snd_lf n500_16)))) ((snd_lf n500_15)))) ((snd_br ((snd_lf n500_12)) ((snd_lf n500_11)))))) ((snd_br ((snd_br ((snd_br ((snd_lf n500_8)) ((snd_lf n500_7)))) ((snd_lf n500_4)))) ((snd_br ((snd_lf n500_3)) ((snd_lf n500_0)))))))))))))))))))))))
end
