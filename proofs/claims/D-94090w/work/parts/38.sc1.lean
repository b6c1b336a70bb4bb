/-! every instruction is sound (by gen3.py) -/
set_option maxRecDepth 100000
section
variable {G : AG}
theorem n110_0 : Snd mt G 110 0 (oAload 0 1) := w_aload_n (hm := mm110) dX1_yearNow_0
theorem n110_1 : Snd mt G 110 1 (oGetf [1] 0 4) := w_getf (hm := mm110) dX1_yearNow_1 (fok1 (k := 0) (T := TX1) 0 (Nat.le_of_ble_eq_true rfl) vc_0 (Nat.le_of_ble_eq_true rfl) q623)
theorem n110_4 : Snd mt G 110 4 (oGetf [2] 12 7) := w_getfN (hm := mm110) dX1_yearNow_4 (fokn1 (k := 12) (T := TX2) 1 (Nat.le_of_ble_eq_true rfl) vc_1 (Nat.le_of_ble_eq_true rfl) q567)
theorem n110_7 : Snd mt G 110 7 (oConst (.int 365) 10) := w_sipush (hm := mm110) dX1_yearNow_7 (by decide)
theorem n110_10 : Snd mt G 110 10 (oDiv (fun x y => x / y) 11) := w_idiv (hm := mm110) dX1_yearNow_10
theorem n110_11 : Snd mt G 110 11 (oRetI .int) := w_iret (hm := mm110) dX1_yearNow_11 rfl
theorem sj110 : ∀ pc, Snd mt G 110 pc (j110 pc) := fun pc => (snd_br ((snd_br ((snd_br ((snd_lf n110_11)) ((snd_lf n110_10)))) ((snd_lf n110_7)))) ((snd_br ((snd_br ((snd_lf n110_4)) ((snd_lf n110_1)))) ((snd_lf n110_0)))))
end
section
variable {G : AG}
theorem n111_0 : Snd mt G 111 0 (oAload 0 1) := w_aload_n (hm := mm111) dX1_part_0
theorem n111_1 : Snd mt G 111 1 (oIload 1 2) := w_iload_n (hm := mm111) dX1_part_1
theorem n111_2 : Snd mt G 111 2 (oCall 2 (fV [1] 97 2) 0 5 xOut) := s_callV (m' := 97) (n := 1) xsh_out (w_xok0 mm111) (w_cal mm111 mm97 pn_X1 (Nat.le_of_ble_eq_true rfl) (Nat.le_of_ble_eq_true rfl)) (fun h b as hc hn => w_run_V (ci := 0) mm111 mm97 dX1_part_2 (Or.inl (List.mem_singleton.mp hc)) (Nat.le_of_ble_eq_true rfl) vc_0 rfl q1688 q1690 qs41 q129 q1691 pa97 hn)
theorem n111_5 : Snd mt G 111 5 (oAstore 4 7) := w_astore (hm := mm111) dX1_part_5 (Nat.le_of_ble_eq_true rfl)
theorem n111_7 : Snd mt G 111 7 (oIload 2 8) := w_iload_n (hm := mm111) dX1_part_7
theorem n111_8 : Snd mt G 111 8 (oCall 1 (fS 92 1) 0 11 xOut) := s_callS (m' := 92) (n := 1) xsh_out (w_xok0 mm111) (w_cal mm111 mm92 pn_X1 (Nat.le_of_ble_eq_true rfl) (Nat.le_of_ble_eq_true rfl)) (fun h as hn => w_run_S mm111 mm92 dX1_part_8 q1620 q1621 q129 q1622 pa92 hn)
theorem n111_11 : Snd mt G 111 11 (oIfEq 27 14) := w_if_eq (hm := mm111) dX1_part_11 rfl
theorem n111_14 : Snd mt G 111 14 (oIload 3 15) := w_iload_n (hm := mm111) dX1_part_14
theorem n111_15 : Snd mt G 111 15 (oIfLt 27 18) := w_if_lt (hm := mm111) dX1_part_15 rfl
theorem n111_18 : Snd mt G 111 18 (oIload 3 19) := w_iload_n (hm := mm111) dX1_part_18
theorem n111_19 : Snd mt G 111 19 (oConst (.int 4) 20) := w_iconst (hm := mm111) dX1_part_19 rfl
theorem n111_20 : Snd mt G 111 20 (oCmpGt 27 23) := w_icmp_gt (hm := mm111) dX1_part_20 rfl
theorem n111_23 : Snd mt G 111 23 (oConst (.int 1) 24) := w_iconst (hm := mm111) dX1_part_23 rfl
theorem n111_24 : Snd mt G 111 24 (oGoto 28) := w_goto (hm := mm111) dX1_part_24 rfl
theorem n111_27 : Snd mt G 111 27 (oConst (.int 0) 28) := w_iconst (hm := mm111) dX1_part_27 rfl
theorem n111_28 : Snd mt G 111 28 (oCall 1 (fS 89 1) 0 31 xOut) := s_callS (m' := 89) (n := 1) xsh_out (w_xok0 mm111) (w_cal mm111 mm89 pn_X1 (Nat.le_of_ble_eq_true rfl) (Nat.le_of_ble_eq_true rfl)) (fun h as hn => w_run_S mm111 mm89 dX1_part_28 q1180 q1181 q129 q1182 pa89 hn)
theorem n111_31 : Snd mt G 111 31 (oAload 4 33) := w_aload (hm := mm111) dX1_part_31
theorem n111_33 : Snd mt G 111 33 (oGetf [19] 8 36) := w_getfN (hm := mm111) dX1_part_33 (fokn1 (k := 8) (T := TX20) 18 (Nat.le_of_ble_eq_true rfl) vc_18 (Nat.le_of_ble_eq_true rfl) q1083)
theorem n111_36 : Snd mt G 111 36 (oIload 2 37) := w_iload_n (hm := mm111) dX1_part_36
theorem n111_37 : Snd mt G 111 37 (oAld [104] 38) := w_aaload (hm := mm111) (kt := 4) dX1_part_37 rfl at_4 (Nat.le_of_ble_eq_true rfl) (List.forall_mem_cons.mpr ⟨Or.inl rfl, (fun t ht => nomatch ht)⟩)
theorem n111_38 : Snd mt G 111 38 (oAstore 5 40) := w_astore (hm := mm111) dX1_part_38 (Nat.le_of_ble_eq_true rfl)
theorem n111_40 : Snd mt G 111 40 (oAload 5 42) := w_aload (hm := mm111) dX1_part_40
theorem n111_42 : Snd mt G 111 42 (oIfNull 45 47) := w_ifnonnull (hm := mm111) dX1_part_42 rfl
theorem n111_45 : Snd mt G 111 45 (oConst (.int (-1)) 46) := w_iconst (hm := mm111) dX1_part_45 rfl
theorem n111_46 : Snd mt G 111 46 (oRetI .int) := w_iret (hm := mm111) dX1_part_46 rfl
theorem n111_47 : Snd mt G 111 47 (oIload 3 48) := w_iload_n (hm := mm111) dX1_part_47
theorem n111_48 : Snd mt G 111 48 (oSwitch sw111_48) := w_tableL (hm := mm111) (dfl := 112) (L := [80, 86, 92, 98]) dX1_part_48 rfl rfl (by decide +kernel)
theorem n111_80 : Snd mt G 111 80 (oAload 5 82) := w_aload (hm := mm111) dX1_part_80
theorem n111_82 : Snd mt G 111 82 (oGetf [20] 0 85) := w_getfN (hm := mm111) dX1_part_82 (fokn1 (k := 0) (T := TX21) 19 (Nat.le_of_ble_eq_true rfl) vc_19 (Nat.le_of_ble_eq_true rfl) q1829)
theorem n111_85 : Snd mt G 111 85 (oRetI .int) := w_iret (hm := mm111) dX1_part_85 rfl
theorem n111_86 : Snd mt G 111 86 (oAload 5 88) := w_aload (hm := mm111) dX1_part_86
theorem n111_88 : Snd mt G 111 88 (oGetf [20] 1 91) := w_getfN (hm := mm111) dX1_part_88 (fokn1 (k := 1) (T := TX21) 19 (Nat.le_of_ble_eq_true rfl) vc_19 (Nat.le_of_ble_eq_true rfl) q1832)
theorem n111_91 : Snd mt G 111 91 (oRetI .int) := w_iret (hm := mm111) dX1_part_91 rfl
theorem n111_92 : Snd mt G 111 92 (oAload 5 94) := w_aload (hm := mm111) dX1_part_92
theorem n111_94 : Snd mt G 111 94 (oGetf [20] 2 97) := w_getfN (hm := mm111) dX1_part_94 (fokn1 (k := 2) (T := TX21) 19 (Nat.le_of_ble_eq_true rfl) vc_19 (Nat.le_of_ble_eq_true rfl) q1835)
theorem n111_97 : Snd mt G 111 97 (oRetI .int) := w_iret (hm := mm111) dX1_part_97 rfl
theorem n111_98 : Snd mt G 111 98 (oAload 4 100) := w_aload (hm := mm111) dX1_part_98
theorem n111_100 : Snd mt G 111 100 (oIload 2 101) := w_iload_n (hm := mm111) dX1_part_100
theorem n111_101 : Snd mt G 111 101 (oAload 0 102) := w_aload_n (hm := mm111) dX1_part_101
theorem n111_102 : Snd mt G 111 102 (oGetf [1] 0 105) := w_getf (hm := mm111) dX1_part_102 (fok1 (k := 0) (T := TX1) 0 (Nat.le_of_ble_eq_true rfl) vc_0 (Nat.le_of_ble_eq_true rfl) q623)
theorem n111_105 : Snd mt G 111 105 (oGetf [2] 12 108) := w_getfN (hm := mm111) dX1_part_105 (fokn1 (k := 12) (T := TX2) 1 (Nat.le_of_ble_eq_true rfl) vc_1 (Nat.le_of_ble_eq_true rfl) q567)
theorem n111_108 : Snd mt G 111 108 (oCall 3 (fV [19] 476 3) 0 111 xOut) := s_callV (m' := 476) (n := 2) xsh_out (w_xok0 mm111) (w_cal mm111 mm476 pn_X20 (Nat.le_of_ble_eq_true rfl) (Nat.le_of_ble_eq_true rfl)) (fun h b as hc hn => w_run_V (ci := 18) mm111 mm476 dX1_part_108 (Or.inl (List.mem_singleton.mp hc)) (Nat.le_of_ble_eq_true rfl) vc_18 rfl q911 q912 q913 q169 q914 pa476 hn)
theorem n111_111 : Snd mt G 111 111 (oRetI .int) := w_iret (hm := mm111) dX1_part_111 rfl
theorem n111_112 : Snd mt G 111 112 (oAload 0 113) := w_aload_n (hm := mm111) dX1_part_112
theorem n111_113 : Snd mt G 111 113 (oAload 4 115) := w_aload (hm := mm111) dX1_part_113
theorem n111_115 : Snd mt G 111 115 (oIload 2 116) := w_iload_n (hm := mm111) dX1_part_115
theorem n111_116 : Snd mt G 111 116 (oAload 4 118) := w_aload (hm := mm111) dX1_part_116
theorem n111_118 : Snd mt G 111 118 (oCall 1 (fV [19] 477 1) 0 121 xOut) := s_callV (m' := 477) (n := 0) xsh_out (w_xok0 mm111) (w_cal mm111 mm477 pn_X20 (Nat.le_of_ble_eq_true rfl) (Nat.le_of_ble_eq_true rfl)) (fun h b as hc hn => w_run_V (ci := 18) mm111 mm477 dX1_part_118 (Or.inl (List.mem_singleton.mp hc)) (Nat.le_of_ble_eq_true rfl) vc_18 rfl q1885 q916 q917 q169 q918 pa477 hn)
theorem n111_121 : Snd mt G 111 121 (oCall 4 (fV [1] 112 6) 0 124 xOut) := s_callV (m' := 112) (n := 3) xsh_out (w_xok0 mm111) (w_cal mm111 mm112 pn_X1 (Nat.le_of_ble_eq_true rfl) (Nat.le_of_ble_eq_true rfl)) (fun h b as hc hn => w_run_V (ci := 0) mm111 mm112 dX1_part_121 (Or.inl (List.mem_singleton.mp hc)) (Nat.le_of_ble_eq_true rfl) vc_0 rfl q1886 q1888 qs49 q129 q1889 pa112 hn)
theorem n111_124 : Snd mt G 111 124 (oRetI .int) := w_iret (hm := mm111) dX1_part_124 rfl
theorem sj111 : ∀ pc, Snd mt G 111 pc (j111 pc) := fun pc => (snd_br ((snd_br ((snd_br ((snd_br ((snd_br ((snd_br ((snd_lf n111_124)) ((snd_lf n111_121)))) ((snd_br ((snd_lf n111_118)) ((snd_lf n111_116)))))) ((snd_br ((snd_br ((snd_lf n111_115)) ((snd_lf n111_113)))) ((snd_lf n111_112)))))) ((snd_br ((snd_br ((snd_br ((snd_lf n111_111)) ((snd_lf n111_108)))) ((snd_lf n111_105)))) ((snd_br ((snd_br ((snd_lf n111_102)) ((snd_lf n111_101)))) ((snd_lf n111_100)))))))) ((snd_br ((snd_br ((snd_br ((snd_br ((snd_lf n111_98)) ((snd_lf n111_97)))) ((snd_lf n111_94)))) ((snd_br ((snd_br ((snd_lf n111_92)) ((snd_lf n111_91)))) ((snd_lf n111_88)))))) ((snd_br ((snd_br ((snd_br ((snd_lf n111_86)) ((snd_lf n111_85)))) ((snd_lf n111_82)))) ((snd_br ((snd_br ((snd_lf n111_80)) ((snd_lf n111_48)))) ((snd_lf n111_47)))))))))) ((snd_br ((snd_br ((snd_br ((snd_br ((snd_br ((snd_lf n111_46)) ((snd_lf n111_45)))) ((snd_br ((snd_lf n111_42)) ((snd_lf n111_40)))))) ((snd_br ((snd_br ((snd_lf n111_38)) ((snd_lf n111_37)))) ((snd_lf n111_36)))))) ((snd_br ((snd_br ((snd_br ((snd_lf n111_33)) ((snd_lf n111_31)))) ((snd_lf n111_28)))) ((snd_br ((snd_br ((snd_lf n111_27)) ((snd_lf n111_24)))) ((snd_lf n111_23)))))))) ((snd_br ((snd_br ((snd_br ((snd_br ((snd_lf n111_20)) ((snd_lf n111_19)))) ((snd_lf n111_18)))) ((snd_br ((snd_br ((snd_lf n111_15)) ((snd_lf n111_14)))) ((snd_lf n111_11)))))) ((snd_br ((snd_br ((snd_br ((snd_lf n111_8)) ((snd_lf n111_7)))) ((snd_lf n111_5)))) ((snd_br ((snd_br ((snd_lf n111_2)) ((snd_lf n111_1)))) ((snd_lf n111_0)))))))))))
end
section
variable {G : AG}
theorem n112_0 : Snd mt G 112 0 (oAload 0 1) := w_aload_n (hm := mm112) dX1_dueOf_0
theorem n112_1 : Snd mt G 112 1 (oAload 1 2) := w_aload_n (hm := mm112) dX1_dueOf_1
theorem n112_2 : Snd mt G 112 2 (oIload 2 3) := w_iload_n (hm := mm112) dX1_dueOf_2
theorem n112_3 : Snd mt G 112 3 (oCall 3 (fV [1] 113 3) 0 6 xOut) := s_callV (m' := 113) (n := 2) xsh_out (w_xok0 mm112) (w_cal mm112 mm113 pn_X1 (Nat.le_of_ble_eq_true rfl) (Nat.le_of_ble_eq_true rfl)) (fun h b as hc hn => w_run_V (ci := 0) mm112 mm113 dX1_dueOf_3 (Or.inl (List.mem_singleton.mp hc)) (Nat.le_of_ble_eq_true rfl) vc_0 rfl q1890 q1892 qs50 q129 q1893 pa113 hn)
theorem n112_6 : Snd mt G 112 6 (oIstore 4 8) := w_istore (hm := mm112) dX1_dueOf_6 (Nat.le_of_ble_eq_true rfl)
theorem n112_8 : Snd mt G 112 8 (oIload 4 10) := w_iload (hm := mm112) dX1_dueOf_8
theorem n112_10 : Snd mt G 112 10 (oConst (.int (-1)) 11) := w_iconst (hm := mm112) dX1_dueOf_10 rfl
theorem n112_11 : Snd mt G 112 11 (oCmpEq 14 16) := w_icmp_ne (hm := mm112) dX1_dueOf_11 rfl
theorem n112_14 : Snd mt G 112 14 (oConst (.int (-1)) 15) := w_iconst (hm := mm112) dX1_dueOf_14 rfl
theorem n112_15 : Snd mt G 112 15 (oRetI .int) := w_iret (hm := mm112) dX1_dueOf_15 rfl
theorem n112_16 : Snd mt G 112 16 (oAload 0 17) := w_aload_n (hm := mm112) dX1_dueOf_16
theorem n112_17 : Snd mt G 112 17 (oGetf [1] 0 20) := w_getf (hm := mm112) dX1_dueOf_17 (fok1 (k := 0) (T := TX1) 0 (Nat.le_of_ble_eq_true rfl) vc_0 (Nat.le_of_ble_eq_true rfl) q623)
theorem n112_20 : Snd mt G 112 20 (oGetf [2] 12 23) := w_getfN (hm := mm112) dX1_dueOf_20 (fokn1 (k := 12) (T := TX2) 1 (Nat.le_of_ble_eq_true rfl) vc_1 (Nat.le_of_ble_eq_true rfl) q567)
theorem n112_23 : Snd mt G 112 23 (oIstore 5 25) := w_istore (hm := mm112) dX1_dueOf_23 (Nat.le_of_ble_eq_true rfl)
theorem n112_25 : Snd mt G 112 25 (oIload 5 27) := w_iload (hm := mm112) dX1_dueOf_25
theorem n112_27 : Snd mt G 112 27 (oConst (.int 20000) 30) := w_sipush (hm := mm112) dX1_dueOf_27 (by decide)
theorem n112_30 : Snd mt G 112 30 (oCmpGt 58 33) := w_icmp_gt (hm := mm112) dX1_dueOf_30 rfl
theorem n112_33 : Snd mt G 112 33 (oAload 1 34) := w_aload_n (hm := mm112) dX1_dueOf_33
theorem n112_34 : Snd mt G 112 34 (oIload 2 35) := w_iload_n (hm := mm112) dX1_dueOf_34
theorem n112_35 : Snd mt G 112 35 (oIload 5 37) := w_iload (hm := mm112) dX1_dueOf_35
theorem n112_37 : Snd mt G 112 37 (oIload 3 38) := w_iload_n (hm := mm112) dX1_dueOf_37
theorem n112_38 : Snd mt G 112 38 (oCall 4 (fV [19] 478 4) 0 41 xOut) := s_callV (m' := 478) (n := 3) xsh_out (w_xok0 mm112) (w_cal mm112 mm478 pn_X20 (Nat.le_of_ble_eq_true rfl) (Nat.le_of_ble_eq_true rfl)) (fun h b as hc hn => w_run_V (ci := 18) mm112 mm478 dX1_dueOf_38 (Or.inl (List.mem_singleton.mp hc)) (Nat.le_of_ble_eq_true rfl) vc_18 rfl q1894 q920 q921 q169 q922 pa478 hn)
theorem n112_41 : Snd mt G 112 41 (oConst (.int 10) 43) := w_bipush (hm := mm112) dX1_dueOf_41 (by decide)
theorem n112_43 : Snd mt G 112 43 (oIload 4 45) := w_iload (hm := mm112) dX1_dueOf_43
theorem n112_45 : Snd mt G 112 45 (oBin (fun x y => x * y) 46) := w_imul (hm := mm112) dX1_dueOf_45
theorem n112_46 : Snd mt G 112 46 (oCmpLt 52 49) := w_icmp_lt (hm := mm112) dX1_dueOf_46 rfl
theorem n112_49 : Snd mt G 112 49 (oIload 5 51) := w_iload (hm := mm112) dX1_dueOf_49
theorem n112_51 : Snd mt G 112 51 (oRetI .int) := w_iret (hm := mm112) dX1_dueOf_51 rfl
theorem n112_52 : Snd mt G 112 52 (oIinc 5 1 55) := w_iinc (hm := mm112) dX1_dueOf_52 rfl (Nat.le_of_ble_eq_true rfl)
theorem n112_55 : Snd mt G 112 55 (oGoto 25) := w_goto (hm := mm112) dX1_dueOf_55 rfl
theorem n112_58 : Snd mt G 112 58 (oConst (.int (-1)) 59) := w_iconst (hm := mm112) dX1_dueOf_58 rfl
theorem n112_59 : Snd mt G 112 59 (oRetI .int) := w_iret (hm := mm112) dX1_dueOf_59 rfl
theorem sj112 : ∀ pc, Snd mt G 112 pc (j112 pc) := fun pc => (snd_br ((snd_br ((snd_br ((snd_br ((snd_br ((snd_lf n112_59)) ((snd_lf n112_58)))) ((snd_br ((snd_lf n112_55)) ((snd_lf n112_52)))))) ((snd_br ((snd_br ((snd_lf n112_51)) ((snd_lf n112_49)))) ((snd_br ((snd_lf n112_46)) ((snd_lf n112_45)))))))) ((snd_br ((snd_br ((snd_br ((snd_lf n112_43)) ((snd_lf n112_41)))) ((snd_br ((snd_lf n112_38)) ((snd_lf n112_37)))))) ((snd_br ((snd_br ((snd_lf n112_35)) ((snd_lf n112_34)))) ((snd_br ((snd_lf n112_33)) ((snd_lf n112_30)))))))))) ((snd_br ((snd_br ((snd_br ((snd_br ((snd_lf n112_27)) ((snd_lf n112_25)))) ((snd_br ((snd_lf n112_23)) ((snd_lf n112_20)))))) ((snd_br ((snd_br ((snd_lf n112_17)) ((snd_lf n112_16)))) ((snd_br ((snd_lf n112_15)) ((snd_lf n112_14)))))))) ((snd_br ((snd_br ((snd_br ((snd_lf n112_11)) ((snd_lf n112_10)))) ((snd_br ((snd_lf n112_8)) ((snd_lf n112_6)))))) ((snd_br ((snd_br ((snd_lf n112_3)) ((snd_lf n112_2)))) ((snd_br ((snd_lf n112_1)) ((snd_lf n112_0)))))))))))
end
section
variable {G : AG}
theorem n113_0 : Snd mt G 113 0 (oAload 0 1) := w_aload_n (hm := mm113) dX1_lifeOf_0
theorem n113_1 : Snd mt G 113 1 (oAload 1 2) := w_aload_n (hm := mm113) dX1_lifeOf_1
theorem n113_2 : Snd mt G 113 2 (oCall 2 (fV [1] 57 2) 0 5 xOut) := s_callV (m' := 57) (n := 1) xsh_out (w_xok0 mm113) (w_cal mm113 mm57 pn_X1 (Nat.le_of_ble_eq_true rfl) (Nat.le_of_ble_eq_true rfl)) (fun h b as hc hn => w_run_V (ci := 0) mm113 mm57 dX1_lifeOf_2 (Or.inl (List.mem_singleton.mp hc)) (Nat.le_of_ble_eq_true rfl) vc_0 rfl q732 q734 qs3 q129 q735 pa57 hn)
theorem n113_5 : Snd mt G 113 5 (oAload 0 6) := w_aload_n (hm := mm113) dX1_lifeOf_5
theorem n113_6 : Snd mt G 113 6 (oConst (.int 108) 8) := w_bipush (hm := mm113) dX1_lifeOf_6 (by decide)
theorem n113_8 : Snd mt G 113 8 (oIload 2 9) := w_iload_n (hm := mm113) dX1_lifeOf_8
theorem n113_9 : Snd mt G 113 9 (oConst (.int 100000) 11) := w_ldc (hm := mm113) dX1_lifeOf_9 q745
theorem n113_11 : Snd mt G 113 11 (oCall 4 (fV [1] 60 5) 0 14 xOut) := s_callV (m' := 60) (n := 3) xsh_out (w_xok0 mm113) (w_cal mm113 mm60 pn_X1 (Nat.le_of_ble_eq_true rfl) (Nat.le_of_ble_eq_true rfl)) (fun h b as hc hn => w_run_V (ci := 0) mm113 mm60 dX1_lifeOf_11 (Or.inl (List.mem_singleton.mp hc)) (Nat.le_of_ble_eq_true rfl) vc_0 rfl q746 q748 qs6 q129 q749 pa60 hn)
theorem n113_14 : Snd mt G 113 14 (oRetI .int) := w_iret (hm := mm113) dX1_lifeOf_14 rfl
theorem sj113 : ∀ pc, Snd mt G 113 pc (j113 pc) := fun pc => (snd_br ((snd_br ((snd_br ((snd_br ((snd_lf n113_14)) ((snd_lf n113_11)))) ((snd_lf n113_9)))) ((snd_br ((snd_lf n113_8)) ((snd_lf n113_6)))))) ((snd_br ((snd_br ((snd_lf n113_5)) ((snd_lf n113_2)))) ((snd_br ((snd_lf n113_1)) ((snd_lf n113_0)))))))
end
section
variable {G : AG}
theorem n114_0 : Snd mt G 114 0 (oAload 0 1) := w_aload_n (hm := mm114) dX1_reuse_0
theorem n114_1 : Snd mt G 114 1 (oIload 1 2) := w_iload_n (hm := mm114) dX1_reuse_1
theorem n114_2 : Snd mt G 114 2 (oCall 2 (fV [1] 97 2) 0 5 xOut) := s_callV (m' := 97) (n := 1) xsh_out (w_xok0 mm114) (w_cal mm114 mm97 pn_X1 (Nat.le_of_ble_eq_true rfl) (Nat.le_of_ble_eq_true rfl)) (fun h b as hc hn => w_run_V (ci := 0) mm114 mm97 dX1_reuse_2 (Or.inl (List.mem_singleton.mp hc)) (Nat.le_of_ble_eq_true rfl) vc_0 rfl q1688 q1690 qs41 q129 q1691 pa97 hn)
theorem n114_5 : Snd mt G 114 5 (oAstore 4 7) := w_astore (hm := mm114) dX1_reuse_5 (Nat.le_of_ble_eq_true rfl)
theorem n114_7 : Snd mt G 114 7 (oAload 0 8) := w_aload_n (hm := mm114) dX1_reuse_7
theorem n114_8 : Snd mt G 114 8 (oIload 2 9) := w_iload_n (hm := mm114) dX1_reuse_8
theorem n114_9 : Snd mt G 114 9 (oCall 2 (fV [1] 97 2) 0 12 xOut) := s_callV (m' := 97) (n := 1) xsh_out (w_xok0 mm114) (w_cal mm114 mm97 pn_X1 (Nat.le_of_ble_eq_true rfl) (Nat.le_of_ble_eq_true rfl)) (fun h b as hc hn => w_run_V (ci := 0) mm114 mm97 dX1_reuse_9 (Or.inl (List.mem_singleton.mp hc)) (Nat.le_of_ble_eq_true rfl) vc_0 rfl q1688 q1690 qs41 q129 q1691 pa97 hn)
theorem n114_12 : Snd mt G 114 12 (oAstore 5 14) := w_astore (hm := mm114) dX1_reuse_12 (Nat.le_of_ble_eq_true rfl)
theorem n114_14 : Snd mt G 114 14 (oIload 3 15) := w_iload_n (hm := mm114) dX1_reuse_14
theorem n114_15 : Snd mt G 114 15 (oCall 1 (fS 92 1) 0 18 xOut) := s_callS (m' := 92) (n := 1) xsh_out (w_xok0 mm114) (w_cal mm114 mm92 pn_X1 (Nat.le_of_ble_eq_true rfl) (Nat.le_of_ble_eq_true rfl)) (fun h as hn => w_run_S mm114 mm92 dX1_reuse_15 q1620 q1621 q129 q1622 pa92 hn)
theorem n114_18 : Snd mt G 114 18 (oIfEq 30 21) := w_if_eq (hm := mm114) dX1_reuse_18 rfl
theorem n114_21 : Snd mt G 114 21 (oIload 1 22) := w_iload_n (hm := mm114) dX1_reuse_21
theorem n114_22 : Snd mt G 114 22 (oIload 2 23) := w_iload_n (hm := mm114) dX1_reuse_22
theorem n114_23 : Snd mt G 114 23 (oCmpEq 30 26) := w_icmp_eq (hm := mm114) dX1_reuse_23 rfl
theorem n114_26 : Snd mt G 114 26 (oConst (.int 1) 27) := w_iconst (hm := mm114) dX1_reuse_26 rfl
theorem n114_27 : Snd mt G 114 27 (oGoto 31) := w_goto (hm := mm114) dX1_reuse_27 rfl
theorem n114_30 : Snd mt G 114 30 (oConst (.int 0) 31) := w_iconst (hm := mm114) dX1_reuse_30 rfl
theorem n114_31 : Snd mt G 114 31 (oCall 1 (fS 89 1) 0 34 xOut) := s_callS (m' := 89) (n := 1) xsh_out (w_xok0 mm114) (w_cal mm114 mm89 pn_X1 (Nat.le_of_ble_eq_true rfl) (Nat.le_of_ble_eq_true rfl)) (fun h as hn => w_run_S mm114 mm89 dX1_reuse_31 q1180 q1181 q129 q1182 pa89 hn)
theorem n114_34 : Snd mt G 114 34 (oAload 4 36) := w_aload (hm := mm114) dX1_reuse_34
theorem n114_36 : Snd mt G 114 36 (oGetf [19] 8 39) := w_getfN (hm := mm114) dX1_reuse_36 (fokn1 (k := 8) (T := TX20) 18 (Nat.le_of_ble_eq_true rfl) vc_18 (Nat.le_of_ble_eq_true rfl) q1083)
theorem n114_39 : Snd mt G 114 39 (oIload 3 40) := w_iload_n (hm := mm114) dX1_reuse_39
theorem n114_40 : Snd mt G 114 40 (oAld [104] 41) := w_aaload (hm := mm114) (kt := 4) dX1_reuse_40 rfl at_4 (Nat.le_of_ble_eq_true rfl) (List.forall_mem_cons.mpr ⟨Or.inl rfl, (fun t ht => nomatch ht)⟩)
theorem n114_41 : Snd mt G 114 41 (oAstore 6 43) := w_astore (hm := mm114) dX1_reuse_41 (Nat.le_of_ble_eq_true rfl)
theorem n114_43 : Snd mt G 114 43 (oAload 6 45) := w_aload (hm := mm114) dX1_reuse_43
theorem n114_45 : Snd mt G 114 45 (oIfNull 48 50) := w_ifnonnull (hm := mm114) dX1_reuse_45 rfl
theorem n114_48 : Snd mt G 114 48 (oConst (.int (-1)) 49) := w_iconst (hm := mm114) dX1_reuse_48 rfl
theorem n114_49 : Snd mt G 114 49 (oRetI .int) := w_iret (hm := mm114) dX1_reuse_49 rfl
theorem n114_50 : Snd mt G 114 50 (oAload 0 51) := w_aload_n (hm := mm114) dX1_reuse_50
theorem n114_51 : Snd mt G 114 51 (oGetf [1] 0 54) := w_getf (hm := mm114) dX1_reuse_51 (fok1 (k := 0) (T := TX1) 0 (Nat.le_of_ble_eq_true rfl) vc_0 (Nat.le_of_ble_eq_true rfl) q623)
theorem n114_54 : Snd mt G 114 54 (oGetf [2] 0 57) := w_getfN (hm := mm114) dX1_reuse_54 (fokn1 (k := 0) (T := TX2) 1 (Nat.le_of_ble_eq_true rfl) vc_1 (Nat.le_of_ble_eq_true rfl) q543)
theorem n114_57 : Snd mt G 114 57 (oAload 6 59) := w_aload (hm := mm114) dX1_reuse_57
theorem n114_59 : Snd mt G 114 59 (oGetf [20] 0 62) := w_getfN (hm := mm114) dX1_reuse_59 (fokn1 (k := 0) (T := TX21) 19 (Nat.le_of_ble_eq_true rfl) vc_19 (Nat.le_of_ble_eq_true rfl) q1829)
theorem n114_62 : Snd mt G 114 62 (oCall 2 (fV [3] 176 2) 0 65 xOut) := s_callV (m' := 176) (n := 1) xsh_out (w_xok0 mm114) (w_cal mm114 mm176 pn_J2 (Nat.le_of_ble_eq_true rfl) (Nat.le_of_ble_eq_true rfl)) (fun h b as hc hn => w_run_V (ci := 2) mm114 mm176 dX1_reuse_62 (Or.inl (List.mem_singleton.mp hc)) (Nat.le_of_ble_eq_true rfl) vc_2 rfl q713 q714 q715 q133 q716 pa176 hn)
theorem n114_65 : Snd mt G 114 65 (oCast [18] 68) := w_cast (hm := mm114) dX1_reuse_65 q888 (List.forall_mem_cons.mpr ⟨⟨17, _, Or.inl rfl, (Nat.le_of_ble_eq_true rfl), vc_17, Or.inl rfl⟩, (fun t ht => nomatch ht)⟩)
theorem n114_68 : Snd mt G 114 68 (oGetf [18] 2 71) := w_getfN (hm := mm114) dX1_reuse_68 (fokn1 (k := 2) (T := TX19) 17 (Nat.le_of_ble_eq_true rfl) vc_17 (Nat.le_of_ble_eq_true rfl) q1634)
theorem n114_71 : Snd mt G 114 71 (oAload 5 73) := w_aload (hm := mm114) dX1_reuse_71
theorem n114_73 : Snd mt G 114 73 (oGetf [19] 0 76) := w_getfN (hm := mm114) dX1_reuse_73 (fokn1 (k := 0) (T := TX20) 18 (Nat.le_of_ble_eq_true rfl) vc_18 (Nat.le_of_ble_eq_true rfl) q1067)
theorem n114_76 : Snd mt G 114 76 (oCmpGe 82 79) := w_icmp_ge (hm := mm114) dX1_reuse_76 rfl
theorem n114_79 : Snd mt G 114 79 (oConst (.int (-2)) 81) := w_bipush (hm := mm114) dX1_reuse_79 (by decide)
theorem n114_81 : Snd mt G 114 81 (oRetI .int) := w_iret (hm := mm114) dX1_reuse_81 rfl
theorem n114_82 : Snd mt G 114 82 (oAload 0 83) := w_aload_n (hm := mm114) dX1_reuse_82
theorem n114_83 : Snd mt G 114 83 (oAload 5 85) := w_aload (hm := mm114) dX1_reuse_83
theorem n114_85 : Snd mt G 114 85 (oAload 6 87) := w_aload (hm := mm114) dX1_reuse_85
theorem n114_87 : Snd mt G 114 87 (oGetf [20] 0 90) := w_getfN (hm := mm114) dX1_reuse_87 (fokn1 (k := 0) (T := TX21) 19 (Nat.le_of_ble_eq_true rfl) vc_19 (Nat.le_of_ble_eq_true rfl) q1829)
theorem n114_90 : Snd mt G 114 90 (oCall 3 (fV [1] 108 5) 0 93 xOut) := s_callV (m' := 108) (n := 2) xsh_out (w_xok0 mm114) (w_cal mm114 mm108 pn_X1 (Nat.le_of_ble_eq_true rfl) (Nat.le_of_ble_eq_true rfl)) (fun h b as hc hn => w_run_V (ci := 0) mm114 mm108 dX1_reuse_90 (Or.inl (List.mem_singleton.mp hc)) (Nat.le_of_ble_eq_true rfl) vc_0 rfl q1813 q1815 qs46 q129 q1816 pa108 hn)
theorem n114_93 : Snd mt G 114 93 (oIfEq 99 96) := w_if_eq (hm := mm114) dX1_reuse_93 rfl
theorem n114_96 : Snd mt G 114 96 (oConst (.int (-3)) 98) := w_bipush (hm := mm114) dX1_reuse_96 (by decide)
theorem n114_98 : Snd mt G 114 98 (oRetI .int) := w_iret (hm := mm114) dX1_reuse_98 rfl
theorem n114_99 : Snd mt G 114 99 (oAload 4 101) := w_aload (hm := mm114) dX1_reuse_99
theorem n114_101 : Snd mt G 114 101 (oIload 3 102) := w_iload_n (hm := mm114) dX1_reuse_101
theorem n114_102 : Snd mt G 114 102 (oAload 0 103) := w_aload_n (hm := mm114) dX1_reuse_102
theorem n114_103 : Snd mt G 114 103 (oGetf [1] 0 106) := w_getf (hm := mm114) dX1_reuse_103 (fok1 (k := 0) (T := TX1) 0 (Nat.le_of_ble_eq_true rfl) vc_0 (Nat.le_of_ble_eq_true rfl) q623)
theorem n114_106 : Snd mt G 114 106 (oGetf [2] 12 109) := w_getfN (hm := mm114) dX1_reuse_106 (fokn1 (k := 12) (T := TX2) 1 (Nat.le_of_ble_eq_true rfl) vc_1 (Nat.le_of_ble_eq_true rfl) q567)
theorem n114_109 : Snd mt G 114 109 (oCall 3 (fV [19] 476 3) 0 112 xOut) := s_callV (m' := 476) (n := 2) xsh_out (w_xok0 mm114) (w_cal mm114 mm476 pn_X20 (Nat.le_of_ble_eq_true rfl) (Nat.le_of_ble_eq_true rfl)) (fun h b as hc hn => w_run_V (ci := 18) mm114 mm476 dX1_reuse_109 (Or.inl (List.mem_singleton.mp hc)) (Nat.le_of_ble_eq_true rfl) vc_18 rfl q911 q912 q913 q169 q914 pa476 hn)
theorem n114_112 : Snd mt G 114 112 (oIstore 7 114) := w_istore (hm := mm114) dX1_reuse_112 (Nat.le_of_ble_eq_true rfl)
theorem n114_114 : Snd mt G 114 114 (oAload 0 115) := w_aload_n (hm := mm114) dX1_reuse_114
theorem n114_115 : Snd mt G 114 115 (oAload 5 117) := w_aload (hm := mm114) dX1_reuse_115
theorem n114_117 : Snd mt G 114 117 (oCall 2 (fV [1] 57 2) 0 120 xOut) := s_callV (m' := 57) (n := 1) xsh_out (w_xok0 mm114) (w_cal mm114 mm57 pn_X1 (Nat.le_of_ble_eq_true rfl) (Nat.le_of_ble_eq_true rfl)) (fun h b as hc hn => w_run_V (ci := 0) mm114 mm57 dX1_reuse_117 (Or.inl (List.mem_singleton.mp hc)) (Nat.le_of_ble_eq_true rfl) vc_0 rfl q732 q734 qs3 q129 q735 pa57 hn)
theorem n114_120 : Snd mt G 114 120 (oAload 0 121) := w_aload_n (hm := mm114) dX1_reuse_120
theorem n114_121 : Snd mt G 114 121 (oConst (.int 117) 123) := w_bipush (hm := mm114) dX1_reuse_121 (by decide)
theorem n114_123 : Snd mt G 114 123 (oIload 3 124) := w_iload_n (hm := mm114) dX1_reuse_123
theorem n114_124 : Snd mt G 114 124 (oConst (.int 100000) 126) := w_ldc (hm := mm114) dX1_reuse_124 q745
theorem n114_126 : Snd mt G 114 126 (oCall 4 (fV [1] 60 5) 0 129 xOut) := s_callV (m' := 60) (n := 3) xsh_out (w_xok0 mm114) (w_cal mm114 mm60 pn_X1 (Nat.le_of_ble_eq_true rfl) (Nat.le_of_ble_eq_true rfl)) (fun h b as hc hn => w_run_V (ci := 0) mm114 mm60 dX1_reuse_126 (Or.inl (List.mem_singleton.mp hc)) (Nat.le_of_ble_eq_true rfl) vc_0 rfl q746 q748 qs6 q129 q749 pa60 hn)
theorem n114_129 : Snd mt G 114 129 (oIstore 8 131) := w_istore (hm := mm114) dX1_reuse_129 (Nat.le_of_ble_eq_true rfl)
theorem n114_131 : Snd mt G 114 131 (oIload 8 133) := w_iload (hm := mm114) dX1_reuse_131
theorem n114_133 : Snd mt G 114 133 (oConst (.int (-1)) 134) := w_iconst (hm := mm114) dX1_reuse_133 rfl
theorem n114_134 : Snd mt G 114 134 (oCmpEq 150 137) := w_icmp_eq (hm := mm114) dX1_reuse_134 rfl
theorem n114_137 : Snd mt G 114 137 (oIload 7 139) := w_iload (hm := mm114) dX1_reuse_137
theorem n114_139 : Snd mt G 114 139 (oConst (.int 10) 141) := w_bipush (hm := mm114) dX1_reuse_139 (by decide)
theorem n114_141 : Snd mt G 114 141 (oIload 8 143) := w_iload (hm := mm114) dX1_reuse_141
theorem n114_143 : Snd mt G 114 143 (oBin (fun x y => x * y) 144) := w_imul (hm := mm114) dX1_reuse_143
theorem n114_144 : Snd mt G 114 144 (oCmpLt 150 147) := w_icmp_lt (hm := mm114) dX1_reuse_144 rfl
theorem n114_147 : Snd mt G 114 147 (oConst (.int (-4)) 149) := w_bipush (hm := mm114) dX1_reuse_147 (by decide)
theorem n114_149 : Snd mt G 114 149 (oRetI .int) := w_iret (hm := mm114) dX1_reuse_149 rfl
theorem n114_150 : Snd mt G 114 150 (oAload 0 151) := w_aload_n (hm := mm114) dX1_reuse_150
theorem n114_151 : Snd mt G 114 151 (oGetf [1] 0 154) := w_getf (hm := mm114) dX1_reuse_151 (fok1 (k := 0) (T := TX1) 0 (Nat.le_of_ble_eq_true rfl) vc_0 (Nat.le_of_ble_eq_true rfl) q623)
theorem n114_154 : Snd mt G 114 154 (oGetf [2] 5 157) := w_getfN (hm := mm114) dX1_reuse_154 (fokn1 (k := 5) (T := TX2) 1 (Nat.le_of_ble_eq_true rfl) vc_1 (Nat.le_of_ble_eq_true rfl) q553)
theorem n114_157 : Snd mt G 114 157 (oCall 1 (fV [3] 175 1) 0 160 xOut) := s_callV (m' := 175) (n := 0) xsh_out (w_xok0 mm114) (w_cal mm114 mm175 pn_J2 (Nat.le_of_ble_eq_true rfl) (Nat.le_of_ble_eq_true rfl)) (fun h b as hc hn => w_run_V (ci := 2) mm114 mm175 dX1_reuse_157 (Or.inl (List.mem_singleton.mp hc)) (Nat.le_of_ble_eq_true rfl) vc_2 rfl q709 q710 q711 q133 q712 pa175 hn)
theorem n114_160 : Snd mt G 114 160 (oConst (.int 200) 163) := w_sipush (hm := mm114) dX1_reuse_160 (by decide)
theorem n114_163 : Snd mt G 114 163 (oCmpEq 166 169) := w_icmp_ne (hm := mm114) dX1_reuse_163 rfl
theorem n114_166 : Snd mt G 114 166 (oConst (.int (-5)) 168) := w_bipush (hm := mm114) dX1_reuse_166 (by decide)
theorem n114_168 : Snd mt G 114 168 (oRetI .int) := w_iret (hm := mm114) dX1_reuse_168 rfl
theorem n114_169 : Snd mt G 114 169 (oAload 0 170) := w_aload_n (hm := mm114) dX1_reuse_169
theorem n114_170 : Snd mt G 114 170 (oAload 5 172) := w_aload (hm := mm114) dX1_reuse_170
theorem n114_172 : Snd mt G 114 172 (oAload 6 174) := w_aload (hm := mm114) dX1_reuse_172
theorem n114_174 : Snd mt G 114 174 (oGetf [20] 0 177) := w_getfN (hm := mm114) dX1_reuse_174 (fokn1 (k := 0) (T := TX21) 19 (Nat.le_of_ble_eq_true rfl) vc_19 (Nat.le_of_ble_eq_true rfl) q1829)
theorem n114_177 : Snd mt G 114 177 (oAload 6 179) := w_aload (hm := mm114) dX1_reuse_177
theorem n114_179 : Snd mt G 114 179 (oGetf [20] 1 182) := w_getfN (hm := mm114) dX1_reuse_179 (fokn1 (k := 1) (T := TX21) 19 (Nat.le_of_ble_eq_true rfl) vc_19 (Nat.le_of_ble_eq_true rfl) q1832)
theorem n114_182 : Snd mt G 114 182 (oIload 7 184) := w_iload (hm := mm114) dX1_reuse_182
theorem n114_184 : Snd mt G 114 184 (oCall 5 (fV [1] 109 6) 0 187 xOut) := s_callV (m' := 109) (n := 4) xsh_out (w_xok0 mm114) (w_cal mm114 mm109 pn_X1 (Nat.le_of_ble_eq_true rfl) (Nat.le_of_ble_eq_true rfl)) (fun h b as hc hn => w_run_V (ci := 0) mm114 mm109 dX1_reuse_184 (Or.inl (List.mem_singleton.mp hc)) (Nat.le_of_ble_eq_true rfl) vc_0 rfl q1817 q1819 qs47 q129 q1820 pa109 hn)
theorem n114_187 : Snd mt G 114 187 (oAload 4 189) := w_aload (hm := mm114) dX1_reuse_187
theorem n114_189 : Snd mt G 114 189 (oGetf [19] 8 192) := w_getfN (hm := mm114) dX1_reuse_189 (fokn1 (k := 8) (T := TX20) 18 (Nat.le_of_ble_eq_true rfl) vc_18 (Nat.le_of_ble_eq_true rfl) q1083)
theorem n114_192 : Snd mt G 114 192 (oIload 3 193) := w_iload_n (hm := mm114) dX1_reuse_192
theorem n114_193 : Snd mt G 114 193 (oConst .null 194) := w_null (hm := mm114) dX1_reuse_193
theorem n114_194 : Snd mt G 114 194 (oAast [104] es4 195) := w_aastore (hm := mm114) (kt := 4) dX1_reuse_194 at_4 (Nat.le_of_ble_eq_true rfl) (List.forall_mem_cons.mpr ⟨rfl, (fun t ht => nomatch ht)⟩) es4_ok
theorem n114_195 : Snd mt G 114 195 (oAload 4 197) := w_aload (hm := mm114) dX1_reuse_195
theorem n114_197 : Snd mt G 114 197 (oGetf [19] 11 200) := w_getfN (hm := mm114) dX1_reuse_197 (fokn1 (k := 11) (T := TX20) 18 (Nat.le_of_ble_eq_true rfl) vc_18 (Nat.le_of_ble_eq_true rfl) q1089)
theorem n114_200 : Snd mt G 114 200 (oIload 3 201) := w_iload_n (hm := mm114) dX1_reuse_200
theorem n114_201 : Snd mt G 114 201 (oAload 0 202) := w_aload_n (hm := mm114) dX1_reuse_201
theorem n114_202 : Snd mt G 114 202 (oGetf [1] 0 205) := w_getf (hm := mm114) dX1_reuse_202 (fok1 (k := 0) (T := TX1) 0 (Nat.le_of_ble_eq_true rfl) vc_0 (Nat.le_of_ble_eq_true rfl) q623)
theorem n114_205 : Snd mt G 114 205 (oGetf [2] 12 208) := w_getfN (hm := mm114) dX1_reuse_205 (fokn1 (k := 12) (T := TX2) 1 (Nat.le_of_ble_eq_true rfl) vc_1 (Nat.le_of_ble_eq_true rfl) q567)
theorem n114_208 : Snd mt G 114 208 (oIast [100] 209) := w_iastore (hm := mm114) (kt := 0) dX1_reuse_208 at_0 (Nat.le_of_ble_eq_true rfl) (List.forall_mem_cons.mpr ⟨rfl, (fun t ht => nomatch ht)⟩)
theorem n114_209 : Snd mt G 114 209 (oIload 7 211) := w_iload (hm := mm114) dX1_reuse_209
theorem n114_211 : Snd mt G 114 211 (oRetI .int) := w_iret (hm := mm114) dX1_reuse_211 rfl
theorem sj114 : ∀ pc, Snd mt G 114 pc (j114 pc) := fun pc => (snd_br ((snd_br ((snd_br ((snd_br ((snd_br ((snd_br ((snd_br ((snd_lf n114_211)) ((snd_lf n114_209)))) ((snd_br ((snd_lf n114_208)) ((snd_lf n114_205)))))) ((snd_br ((snd_br ((snd_lf n114_202)) ((snd_lf n114_201)))) ((snd_lf n114_200)))))) ((snd_br ((snd_br ((snd_br ((snd_lf n114_197)) ((snd_lf n114_195)))) ((snd_lf n114_194)))) ((snd_br ((snd_br ((snd_lf n114_193)) ((snd_lf n114_192)))) ((snd_lf n114_189)))))))) ((snd_br ((snd_br ((snd_br ((snd_br ((snd_lf n114_187)) ((snd_lf n114_184)))) ((snd_br ((snd_lf n114_182)) ((snd_lf n114_179)))))) ((snd_br ((snd_br ((snd_lf n114_177)) ((snd_lf n114_174)))) ((snd_lf n114_172)))))) ((snd_br ((snd_br ((snd_br ((snd_lf n114_170)) ((snd_lf n114_169)))) ((snd_lf n114_168)))) ((snd_br ((snd_br ((snd_lf n114_166)) ((snd_lf n114_163)))) ((snd_lf n114_160)))))))))) ((snd_br ((snd_br ((snd_br ((snd_br ((snd_br ((snd_lf n114_157)) ((snd_lf n114_154)))) ((snd_br ((snd_lf n114_151)) ((snd_lf n114_150)))))) ((snd_br ((snd_br ((snd_lf n114_149)) ((snd_lf n114_147)))) ((snd_lf n114_144)))))) ((snd_br ((snd_br ((snd_br ((snd_lf n114_143)) ((snd_lf n114_141)))) ((snd_lf n114_139)))) ((snd_br ((snd_br ((snd_lf n114_137)) ((snd_lf n114_134)))) ((snd_lf n114_133)))))))) ((snd_br ((snd_br ((snd_br ((snd_br ((snd_lf n114_131)) ((snd_lf n114_129)))) ((snd_br ((snd_lf n114_126)) ((snd_lf n114_124)))))) ((snd_br ((snd_br ((snd_lf n114_123)) ((snd_lf n114_121)))) ((snd_lf n114_120)))))) ((snd_br ((snd_br ((snd_br ((snd_lf n114_117)) ((snd_lf n114_115)))) ((snd_lf n114_114)))) ((snd_br ((snd_br ((snd_lf n114_112)) ((snd_lf n114_109)))) ((snd_lf n114_106)))))))))))) ((snd_br ((snd_br ((snd_br ((snd_br ((snd_br ((snd_br ((snd_lf n114_103)) ((snd_lf n114_102)))) ((snd_br ((snd_lf n114_101)) ((snd_lf n114_99)))))) ((snd_br ((snd_br ((snd_lf n114_98)) ((snd_lf n114_96)))) ((snd_lf n114_93)))))) ((snd_br ((snd_br ((snd_br ((snd_lf n114_90)) ((snd_lf n114_87)))) ((snd_lf n114_85)))) ((snd_br ((snd_br ((snd_lf n114_83)) ((snd_lf n114_82)))) ((snd_lf n114_81)))))))) ((snd_br ((snd_br ((snd_br ((snd_br ((snd_lf n114_79)) ((snd_lf n114_76)))) ((snd_br ((snd_lf n114_73)) ((snd_lf n114_71)))))) ((snd_br ((snd_br ((snd_lf n114_68)) ((snd_lf n114_65)))) ((snd_lf n114_62)))))) ((snd_br ((snd_br ((snd_br ((snd_lf n114_59)) ((snd_lf n114_57)))) ((snd_lf n114_54)))) ((snd_br ((snd_br ((snd_lf n114_51)) ((snd_lf n114_50)))) ((snd_lf n114_49)))))))))) ((snd_br ((snd_br ((snd_br ((snd_br ((snd_br ((snd_lf n114_48)) ((snd_lf n114_45)))) ((snd_br ((snd_lf n114_43)) ((snd_lf n114_41)))))) ((snd_br ((snd_br ((snd_lf n114_40)) ((snd_lf n114_39)))) ((snd_lf n114_36)))))) ((snd_br ((snd_br ((snd_br ((snd_lf n114_34)) ((snd_lf n114_31)))) ((snd_lf n114_30)))) ((snd_br ((snd_br ((snd_lf n114_27)) ((snd_lf n114_26)))) ((snd_lf n114_23)))))))) ((snd_br ((snd_br ((snd_br ((snd_br ((snd_lf n114_22)) ((snd_lf n114_21)))) ((snd_br ((snd_lf n114_18)) ((snd_lf n114_15)))))) ((snd_br ((snd_br ((snd_lf n114_14)) ((snd_lf n114_12)))) ((snd_lf n114_9)))))) ((snd_br ((snd_br ((snd_br ((snd_lf n114_8)) ((snd_lf n114_7)))) ((snd_lf n114_5)))) ((snd_br ((snd_br ((snd_lf n114_2)) ((snd_lf n114_1)))) ((snd_lf n114_0)))))))))))))
end
section
variable {G : AG}
theorem n115_0 : Snd mt G 115 0 (oAload 0 1) := w_aload_n (hm := mm115) dX1_next_0
theorem n115_1 : Snd mt G 115 1 (oIload 1 2) := w_iload_n (hm := mm115) dX1_next_1
theorem n115_2 : Snd mt G 115 2 (oCall 2 (fV [1] 97 2) 0 5 xOut) := s_callV (m' := 97) (n := 1) xsh_out (w_xok0 mm115) (w_cal mm115 mm97 pn_X1 (Nat.le_of_ble_eq_true rfl) (Nat.le_of_ble_eq_true rfl)) (fun h b as hc hn => w_run_V (ci := 0) mm115 mm97 dX1_next_2 (Or.inl (List.mem_singleton.mp hc)) (Nat.le_of_ble_eq_true rfl) vc_0 rfl q1688 q1690 qs41 q129 q1691 pa97 hn)
theorem n115_5 : Snd mt G 115 5 (oAstore 3 6) := w_astore_n (hm := mm115) dX1_next_5 (Nat.le_of_ble_eq_true rfl)
theorem n115_6 : Snd mt G 115 6 (oIload 2 7) := w_iload_n (hm := mm115) dX1_next_6
theorem n115_7 : Snd mt G 115 7 (oCall 1 (fS 116 1) 0 10 xOut) := s_callS (m' := 116) (n := 1) xsh_out (w_xok0 mm115) (w_cal mm115 mm116 pn_X1 (Nat.le_of_ble_eq_true rfl) (Nat.le_of_ble_eq_true rfl)) (fun h as hn => w_run_S mm115 mm116 dX1_next_7 q1909 q1910 q129 q1911 pa116 hn)
theorem n115_10 : Snd mt G 115 10 (oCall 1 (fS 89 1) 0 13 xOut) := s_callS (m' := 89) (n := 1) xsh_out (w_xok0 mm115) (w_cal mm115 mm89 pn_X1 (Nat.le_of_ble_eq_true rfl) (Nat.le_of_ble_eq_true rfl)) (fun h as hn => w_run_S mm115 mm89 dX1_next_10 q1180 q1181 q129 q1182 pa89 hn)
theorem n115_13 : Snd mt G 115 13 (oAload 3 14) := w_aload_n (hm := mm115) dX1_next_13
theorem n115_14 : Snd mt G 115 14 (oGetf [19] 8 17) := w_getfN (hm := mm115) dX1_next_14 (fokn1 (k := 8) (T := TX20) 18 (Nat.le_of_ble_eq_true rfl) vc_18 (Nat.le_of_ble_eq_true rfl) q1083)
theorem n115_17 : Snd mt G 115 17 (oConst (.int 2) 18) := w_iconst (hm := mm115) dX1_next_17 rfl
theorem n115_18 : Snd mt G 115 18 (oAld [104] 19) := w_aaload (hm := mm115) (kt := 4) dX1_next_18 rfl at_4 (Nat.le_of_ble_eq_true rfl) (List.forall_mem_cons.mpr ⟨Or.inl rfl, (fun t ht => nomatch ht)⟩)
theorem n115_19 : Snd mt G 115 19 (oAstore 4 21) := w_astore (hm := mm115) dX1_next_19 (Nat.le_of_ble_eq_true rfl)
theorem n115_21 : Snd mt G 115 21 (oAload 4 23) := w_aload (hm := mm115) dX1_next_21
theorem n115_23 : Snd mt G 115 23 (oIfNull 26 28) := w_ifnonnull (hm := mm115) dX1_next_23 rfl
theorem n115_26 : Snd mt G 115 26 (oConst (.int (-1)) 27) := w_iconst (hm := mm115) dX1_next_26 rfl
theorem n115_27 : Snd mt G 115 27 (oRetI .int) := w_iret (hm := mm115) dX1_next_27 rfl
theorem n115_28 : Snd mt G 115 28 (oAload 0 29) := w_aload_n (hm := mm115) dX1_next_28
theorem n115_29 : Snd mt G 115 29 (oGetf [1] 0 32) := w_getf (hm := mm115) dX1_next_29 (fok1 (k := 0) (T := TX1) 0 (Nat.le_of_ble_eq_true rfl) vc_0 (Nat.le_of_ble_eq_true rfl) q623)
theorem n115_32 : Snd mt G 115 32 (oGetf [2] 12 35) := w_getfN (hm := mm115) dX1_next_32 (fokn1 (k := 12) (T := TX2) 1 (Nat.le_of_ble_eq_true rfl) vc_1 (Nat.le_of_ble_eq_true rfl) q567)
theorem n115_35 : Snd mt G 115 35 (oIstore 5 37) := w_istore (hm := mm115) dX1_next_35 (Nat.le_of_ble_eq_true rfl)
theorem n115_37 : Snd mt G 115 37 (oIload 5 39) := w_iload (hm := mm115) dX1_next_37
theorem n115_39 : Snd mt G 115 39 (oConst (.int 20000) 42) := w_sipush (hm := mm115) dX1_next_39 (by decide)
theorem n115_42 : Snd mt G 115 42 (oCmpGt 73 45) := w_icmp_gt (hm := mm115) dX1_next_42 rfl
theorem n115_45 : Snd mt G 115 45 (oAload 3 46) := w_aload_n (hm := mm115) dX1_next_45
theorem n115_46 : Snd mt G 115 46 (oIload 5 48) := w_iload (hm := mm115) dX1_next_46
theorem n115_48 : Snd mt G 115 48 (oCall 2 (fV [19] 481 2) 0 51 xOut) := s_callV (m' := 481) (n := 1) xsh_out (w_xok0 mm115) (w_cal mm115 mm481 pn_X20 (Nat.le_of_ble_eq_true rfl) (Nat.le_of_ble_eq_true rfl)) (fun h b as hc hn => w_run_V (ci := 18) mm115 mm481 dX1_next_48 (Or.inl (List.mem_singleton.mp hc)) (Nat.le_of_ble_eq_true rfl) vc_18 rfl q1707 q1708 q1709 q169 q1710 pa481 hn)
theorem n115_51 : Snd mt G 115 51 (oAload 4 53) := w_aload (hm := mm115) dX1_next_51
theorem n115_53 : Snd mt G 115 53 (oGetf [20] 4 56) := w_getfN (hm := mm115) dX1_next_53 (fokn1 (k := 4) (T := TX21) 19 (Nat.le_of_ble_eq_true rfl) vc_19 (Nat.le_of_ble_eq_true rfl) q1839)
theorem n115_56 : Snd mt G 115 56 (oBin (fun x y => x - y) 57) := w_isub (hm := mm115) dX1_next_56
theorem n115_57 : Snd mt G 115 57 (oMath1 (fun x => if 0 ≤ x then x else 0 - x) 60) := w_mabs (hm := mm115) dX1_next_57 (Nat.le_of_ble_eq_true rfl) q1912 q1913 q143 q1914
theorem n115_60 : Snd mt G 115 60 (oIload 2 61) := w_iload_n (hm := mm115) dX1_next_60
theorem n115_61 : Snd mt G 115 61 (oCmpLe 67 64) := w_icmp_le (hm := mm115) dX1_next_61 rfl
theorem n115_64 : Snd mt G 115 64 (oIload 5 66) := w_iload (hm := mm115) dX1_next_64
theorem n115_66 : Snd mt G 115 66 (oRetI .int) := w_iret (hm := mm115) dX1_next_66 rfl
theorem n115_67 : Snd mt G 115 67 (oIinc 5 1 70) := w_iinc (hm := mm115) dX1_next_67 rfl (Nat.le_of_ble_eq_true rfl)
theorem n115_70 : Snd mt G 115 70 (oGoto 37) := w_goto (hm := mm115) dX1_next_70 rfl
theorem n115_73 : Snd mt G 115 73 (oConst (.int (-1)) 74) := w_iconst (hm := mm115) dX1_next_73 rfl
theorem n115_74 : Snd mt G 115 74 (oRetI .int) := w_iret (hm := mm115) dX1_next_74 rfl
theorem sj115 : ∀ pc, Snd mt G 115 pc (j115 pc) := fun pc => (snd_br ((snd_br ((snd_br ((snd_br ((snd_br ((snd_br ((snd_lf n115_74)) ((snd_lf n115_73)))) ((snd_lf n115_70)))) ((snd_br ((snd_lf n115_67)) ((snd_lf n115_66)))))) ((snd_br ((snd_br ((snd_br ((snd_lf n115_64)) ((snd_lf n115_61)))) ((snd_lf n115_60)))) ((snd_br ((snd_lf n115_57)) ((snd_lf n115_56)))))))) ((snd_br ((snd_br ((snd_br ((snd_br ((snd_lf n115_53)) ((snd_lf n115_51)))) ((snd_lf n115_48)))) ((snd_br ((snd_lf n115_46)) ((snd_lf n115_45)))))) ((snd_br ((snd_br ((snd_lf n115_42)) ((snd_lf n115_39)))) ((snd_br ((snd_lf n115_37)) ((snd_lf n115_35)))))))))) ((snd_br ((snd_br ((snd_br ((snd_br ((snd_br ((snd_lf n115_32)) ((snd_lf n115_29)))) ((snd_lf n115_28)))) ((snd_br ((snd_lf n115_27)) ((snd_lf n115_26)))))) ((snd_br ((snd_br ((snd_br ((snd_lf n115_23)) ((snd_lf n115_21)))) ((snd_lf n115_19)))) ((snd_br ((snd_lf n115_18)) ((snd_lf n115_17)))))))) ((snd_br ((snd_br ((snd_br ((snd_br ((snd_lf n115_14)) ((snd_lf n115_13)))) ((snd_lf n115_10)))) ((snd_br ((snd_lf n115_7)) ((snd_lf n115_6)))))) ((snd_br ((snd_br ((snd_lf n115_5)) ((snd_lf n115_2)))) ((snd_br ((snd_lf n115_1)) ((snd_lf n115_0)))))))))))
end
section
variable {G : AG}
theorem n116_0 : Snd mt G 116 0 (oIload 0 1) := w_iload_n (hm := mm116) dX1_isPlay_0
theorem n116_1 : Snd mt G 116 1 (oIfLt 14 4) := w_if_lt (hm := mm116) dX1_isPlay_1 rfl
theorem n116_4 : Snd mt G 116 4 (oIload 0 5) := w_iload_n (hm := mm116) dX1_isPlay_4
theorem n116_5 : Snd mt G 116 5 (oConst (.int 99) 7) := w_bipush (hm := mm116) dX1_isPlay_5 (by decide)
theorem n116_7 : Snd mt G 116 7 (oCmpGt 14 10) := w_icmp_gt (hm := mm116) dX1_isPlay_7 rfl
theorem n116_10 : Snd mt G 116 10 (oConst (.int 1) 11) := w_iconst (hm := mm116) dX1_isPlay_10 rfl
theorem n116_11 : Snd mt G 116 11 (oGoto 15) := w_goto (hm := mm116) dX1_isPlay_11 rfl
theorem n116_14 : Snd mt G 116 14 (oConst (.int 0) 15) := w_iconst (hm := mm116) dX1_isPlay_14 rfl
theorem n116_15 : Snd mt G 116 15 (oRetI .boolean) := w_zret (hm := mm116) dX1_isPlay_15 rfl
theorem sj116 : ∀ pc, Snd mt G 116 pc (j116 pc) := fun pc => (snd_br ((snd_br ((snd_br ((snd_br ((snd_lf n116_15)) ((snd_lf n116_14)))) ((snd_lf n116_11)))) ((snd_br ((snd_lf n116_10)) ((snd_lf n116_7)))))) ((snd_br ((snd_br ((snd_lf n116_5)) ((snd_lf n116_4)))) ((snd_br ((snd_lf n116_1)) ((snd_lf n116_0)))))))
end
section
variable {G : AG}
theorem n117_0 : Snd mt G 117 0 (oAload 0 1) := w_aload_n (hm := mm117) dX1_take_0
theorem n117_1 : Snd mt G 117 1 (oIload 1 2) := w_iload_n (hm := mm117) dX1_take_1
theorem n117_2 : Snd mt G 117 2 (oCall 2 (fV [1] 97 2) 0 5 xOut) := s_callV (m' := 97) (n := 1) xsh_out (w_xok0 mm117) (w_cal mm117 mm97 pn_X1 (Nat.le_of_ble_eq_true rfl) (Nat.le_of_ble_eq_true rfl)) (fun h b as hc hn => w_run_V (ci := 0) mm117 mm97 dX1_take_2 (Or.inl (List.mem_singleton.mp hc)) (Nat.le_of_ble_eq_true rfl) vc_0 rfl q1688 q1690 qs41 q129 q1691 pa97 hn)
theorem n117_5 : Snd mt G 117 5 (oAstore 4 7) := w_astore (hm := mm117) dX1_take_5 (Nat.le_of_ble_eq_true rfl)
theorem n117_7 : Snd mt G 117 7 (oAload 0 8) := w_aload_n (hm := mm117) dX1_take_7
theorem n117_8 : Snd mt G 117 8 (oIload 2 9) := w_iload_n (hm := mm117) dX1_take_8
theorem n117_9 : Snd mt G 117 9 (oCall 2 (fV [1] 103 2) 0 12 xOut) := s_callV (m' := 103) (n := 1) xsh_out (w_xok0 mm117) (w_cal mm117 mm103 pn_X1 (Nat.le_of_ble_eq_true rfl) (Nat.le_of_ble_eq_true rfl)) (fun h b as hc hn => w_run_V (ci := 0) mm117 mm103 dX1_take_9 (Or.inl (List.mem_singleton.mp hc)) (Nat.le_of_ble_eq_true rfl) vc_0 rfl q1763 q1765 qs43 q129 q1766 pa103 hn)
theorem n117_12 : Snd mt G 117 12 (oPop 13) := w_pop (hm := mm117) dX1_take_12
theorem n117_13 : Snd mt G 117 13 (oIload 3 14) := w_iload_n (hm := mm117) dX1_take_13
theorem n117_14 : Snd mt G 117 14 (oCall 1 (fS 106 1) 0 17 xOut) := s_callS (m' := 106) (n := 1) xsh_out (w_xok0 mm117) (w_cal mm117 mm106 pn_X1 (Nat.le_of_ble_eq_true rfl) (Nat.le_of_ble_eq_true rfl)) (fun h as hn => w_run_S mm117 mm106 dX1_take_14 q1806 q1807 q129 q1808 pa106 hn)
theorem n117_17 : Snd mt G 117 17 (oCall 1 (fS 89 1) 0 20 xOut) := s_callS (m' := 89) (n := 1) xsh_out (w_xok0 mm117) (w_cal mm117 mm89 pn_X1 (Nat.le_of_ble_eq_true rfl) (Nat.le_of_ble_eq_true rfl)) (fun h as hn => w_run_S mm117 mm89 dX1_take_17 q1180 q1181 q129 q1182 pa89 hn)
theorem n117_20 : Snd mt G 117 20 (oAload 0 21) := w_aload_n (hm := mm117) dX1_take_20
theorem n117_21 : Snd mt G 117 21 (oAload 4 23) := w_aload (hm := mm117) dX1_take_21
theorem n117_23 : Snd mt G 117 23 (oIload 2 24) := w_iload_n (hm := mm117) dX1_take_23
theorem n117_24 : Snd mt G 117 24 (oIload 3 25) := w_iload_n (hm := mm117) dX1_take_24
theorem n117_25 : Snd mt G 117 25 (oConst (.int 1) 26) := w_iconst (hm := mm117) dX1_take_25 rfl
theorem n117_26 : Snd mt G 117 26 (oCall 5 (fV [1] 107 6) 0 29 xOut) := s_callV (m' := 107) (n := 4) xsh_out (w_xok0 mm117) (w_cal mm117 mm107 pn_X1 (Nat.le_of_ble_eq_true rfl) (Nat.le_of_ble_eq_true rfl)) (fun h b as hc hn => w_run_V (ci := 0) mm117 mm107 dX1_take_26 (Or.inl (List.mem_singleton.mp hc)) (Nat.le_of_ble_eq_true rfl) vc_0 rfl q1809 q1811 qs45 q129 q1812 pa107 hn)
theorem n117_29 : Snd mt G 117 29 (oRetI .int) := w_iret (hm := mm117) dX1_take_29 rfl
theorem sj117 : ∀ pc, Snd mt G 117 pc (j117 pc) := fun pc => (snd_br ((snd_br ((snd_br ((snd_br ((snd_br ((snd_lf n117_29)) ((snd_lf n117_26)))) ((snd_lf n117_25)))) ((snd_br ((snd_lf n117_24)) ((snd_lf n117_23)))))) ((snd_br ((snd_br ((snd_lf n117_21)) ((snd_lf n117_20)))) ((snd_br ((snd_lf n117_17)) ((snd_lf n117_14)))))))) ((snd_br ((snd_br ((snd_br ((snd_br ((snd_lf n117_13)) ((snd_lf n117_12)))) ((snd_lf n117_9)))) ((snd_br ((snd_lf n117_8)) ((snd_lf n117_7)))))) ((snd_br ((snd_br ((snd_lf n117_5)) ((snd_lf n117_2)))) ((snd_br ((snd_lf n117_1)) ((snd_lf n117_0)))))))))
end
section
variable {G : AG}
theorem n118_0 : Snd mt G 118 0 (oAload 0 1) := w_aload_n (hm := mm118) dX1_beside_0
theorem n118_1 : Snd mt G 118 1 (oIload 1 2) := w_iload_n (hm := mm118) dX1_beside_1
theorem n118_2 : Snd mt G 118 2 (oCall 2 (fV [1] 97 2) 0 5 xOut) := s_callV (m' := 97) (n := 1) xsh_out (w_xok0 mm118) (w_cal mm118 mm97 pn_X1 (Nat.le_of_ble_eq_true rfl) (Nat.le_of_ble_eq_true rfl)) (fun h b as hc hn => w_run_V (ci := 0) mm118 mm97 dX1_beside_2 (Or.inl (List.mem_singleton.mp hc)) (Nat.le_of_ble_eq_true rfl) vc_0 rfl q1688 q1690 qs41 q129 q1691 pa97 hn)
theorem n118_5 : Snd mt G 118 5 (oAstore 3 6) := w_astore_n (hm := mm118) dX1_beside_5 (Nat.le_of_ble_eq_true rfl)
theorem n118_6 : Snd mt G 118 6 (oIload 2 7) := w_iload_n (hm := mm118) dX1_beside_6
theorem n118_7 : Snd mt G 118 7 (oCall 1 (fS 92 1) 0 10 xOut) := s_callS (m' := 92) (n := 1) xsh_out (w_xok0 mm118) (w_cal mm118 mm92 pn_X1 (Nat.le_of_ble_eq_true rfl) (Nat.le_of_ble_eq_true rfl)) (fun h as hn => w_run_S mm118 mm92 dX1_beside_7 q1620 q1621 q129 q1622 pa92 hn)
theorem n118_10 : Snd mt G 118 10 (oCall 1 (fS 89 1) 0 13 xOut) := s_callS (m' := 89) (n := 1) xsh_out (w_xok0 mm118) (w_cal mm118 mm89 pn_X1 (Nat.le_of_ble_eq_true rfl) (Nat.le_of_ble_eq_true rfl)) (fun h as hn => w_run_S mm118 mm89 dX1_beside_10 q1180 q1181 q129 q1182 pa89 hn)
theorem n118_13 : Snd mt G 118 13 (oAload 3 14) := w_aload_n (hm := mm118) dX1_beside_13
theorem n118_14 : Snd mt G 118 14 (oGetf [19] 8 17) := w_getfN (hm := mm118) dX1_beside_14 (fokn1 (k := 8) (T := TX20) 18 (Nat.le_of_ble_eq_true rfl) vc_18 (Nat.le_of_ble_eq_true rfl) q1083)
theorem n118_17 : Snd mt G 118 17 (oIload 2 18) := w_iload_n (hm := mm118) dX1_beside_17
theorem n118_18 : Snd mt G 118 18 (oAld [104] 19) := w_aaload (hm := mm118) (kt := 4) dX1_beside_18 rfl at_4 (Nat.le_of_ble_eq_true rfl) (List.forall_mem_cons.mpr ⟨Or.inl rfl, (fun t ht => nomatch ht)⟩)
theorem n118_19 : Snd mt G 118 19 (oIfNull 22 24) := w_ifnonnull (hm := mm118) dX1_beside_19 rfl
theorem n118_22 : Snd mt G 118 22 (oConst (.int (-1)) 23) := w_iconst (hm := mm118) dX1_beside_22 rfl
theorem n118_23 : Snd mt G 118 23 (oRetI .int) := w_iret (hm := mm118) dX1_beside_23 rfl
theorem n118_24 : Snd mt G 118 24 (oAload 0 25) := w_aload_n (hm := mm118) dX1_beside_24
theorem n118_25 : Snd mt G 118 25 (oAload 3 26) := w_aload_n (hm := mm118) dX1_beside_25
theorem n118_26 : Snd mt G 118 26 (oIload 2 27) := w_iload_n (hm := mm118) dX1_beside_26
theorem n118_27 : Snd mt G 118 27 (oAload 3 28) := w_aload_n (hm := mm118) dX1_beside_27
theorem n118_28 : Snd mt G 118 28 (oGetf [19] 2 31) := w_getfN (hm := mm118) dX1_beside_28 (fokn1 (k := 2) (T := TX20) 18 (Nat.le_of_ble_eq_true rfl) vc_18 (Nat.le_of_ble_eq_true rfl) q1071)
theorem n118_31 : Snd mt G 118 31 (oCall 4 (fV [1] 112 6) 0 34 xOut) := s_callV (m' := 112) (n := 3) xsh_out (w_xok0 mm118) (w_cal mm118 mm112 pn_X1 (Nat.le_of_ble_eq_true rfl) (Nat.le_of_ble_eq_true rfl)) (fun h b as hc hn => w_run_V (ci := 0) mm118 mm112 dX1_beside_31 (Or.inl (List.mem_singleton.mp hc)) (Nat.le_of_ble_eq_true rfl) vc_0 rfl q1886 q1888 qs49 q129 q1889 pa112 hn)
theorem n118_34 : Snd mt G 118 34 (oIstore 4 36) := w_istore (hm := mm118) dX1_beside_34 (Nat.le_of_ble_eq_true rfl)
theorem n118_36 : Snd mt G 118 36 (oAload 0 37) := w_aload_n (hm := mm118) dX1_beside_36
theorem n118_37 : Snd mt G 118 37 (oAload 3 38) := w_aload_n (hm := mm118) dX1_beside_37
theorem n118_38 : Snd mt G 118 38 (oIload 2 39) := w_iload_n (hm := mm118) dX1_beside_38
theorem n118_39 : Snd mt G 118 39 (oConst (.int 2) 40) := w_iconst (hm := mm118) dX1_beside_39 rfl
theorem n118_40 : Snd mt G 118 40 (oAload 3 41) := w_aload_n (hm := mm118) dX1_beside_40
theorem n118_41 : Snd mt G 118 41 (oGetf [19] 2 44) := w_getfN (hm := mm118) dX1_beside_41 (fokn1 (k := 2) (T := TX20) 18 (Nat.le_of_ble_eq_true rfl) vc_18 (Nat.le_of_ble_eq_true rfl) q1071)
theorem n118_44 : Snd mt G 118 44 (oBin (fun x y => x * y) 45) := w_imul (hm := mm118) dX1_beside_44
theorem n118_45 : Snd mt G 118 45 (oCall 4 (fV [1] 112 6) 0 48 xOut) := s_callV (m' := 112) (n := 3) xsh_out (w_xok0 mm118) (w_cal mm118 mm112 pn_X1 (Nat.le_of_ble_eq_true rfl) (Nat.le_of_ble_eq_true rfl)) (fun h b as hc hn => w_run_V (ci := 0) mm118 mm112 dX1_beside_45 (Or.inl (List.mem_singleton.mp hc)) (Nat.le_of_ble_eq_true rfl) vc_0 rfl q1886 q1888 qs49 q129 q1889 pa112 hn)
theorem n118_48 : Snd mt G 118 48 (oIstore 5 50) := w_istore (hm := mm118) dX1_beside_48 (Nat.le_of_ble_eq_true rfl)
theorem n118_50 : Snd mt G 118 50 (oIload 4 52) := w_iload (hm := mm118) dX1_beside_50
theorem n118_52 : Snd mt G 118 52 (oConst (.int (-1)) 53) := w_iconst (hm := mm118) dX1_beside_52 rfl
theorem n118_53 : Snd mt G 118 53 (oCmpEq 62 56) := w_icmp_eq (hm := mm118) dX1_beside_53 rfl
theorem n118_56 : Snd mt G 118 56 (oIload 5 58) := w_iload (hm := mm118) dX1_beside_56
theorem n118_58 : Snd mt G 118 58 (oConst (.int (-1)) 59) := w_iconst (hm := mm118) dX1_beside_58 rfl
theorem n118_59 : Snd mt G 118 59 (oCmpEq 62 66) := w_icmp_ne (hm := mm118) dX1_beside_59 rfl
theorem n118_62 : Snd mt G 118 62 (oConst (.int (-1)) 63) := w_iconst (hm := mm118) dX1_beside_62 rfl
theorem n118_63 : Snd mt G 118 63 (oGoto 71) := w_goto (hm := mm118) dX1_beside_63 rfl
theorem n118_66 : Snd mt G 118 66 (oIload 4 68) := w_iload (hm := mm118) dX1_beside_66
theorem n118_68 : Snd mt G 118 68 (oIload 5 70) := w_iload (hm := mm118) dX1_beside_68
theorem n118_70 : Snd mt G 118 70 (oBin (fun x y => x - y) 71) := w_isub (hm := mm118) dX1_beside_70
theorem n118_71 : Snd mt G 118 71 (oRetI .int) := w_iret (hm := mm118) dX1_beside_71 rfl
theorem sj118 : ∀ pc, Snd mt G 118 pc (j118 pc) := fun pc => (snd_br ((snd_br ((snd_br ((snd_br ((snd_br ((snd_br ((snd_lf n118_71)) ((snd_lf n118_70)))) ((snd_lf n118_68)))) ((snd_br ((snd_br ((snd_lf n118_66)) ((snd_lf n118_63)))) ((snd_lf n118_62)))))) ((snd_br ((snd_br ((snd_br ((snd_lf n118_59)) ((snd_lf n118_58)))) ((snd_lf n118_56)))) ((snd_br ((snd_lf n118_53)) ((snd_lf n118_52)))))))) ((snd_br ((snd_br ((snd_br ((snd_br ((snd_lf n118_50)) ((snd_lf n118_48)))) ((snd_lf n118_45)))) ((snd_br ((snd_lf n118_44)) ((snd_lf n118_41)))))) ((snd_br ((snd_br ((snd_br ((snd_lf n118_40)) ((snd_lf n118_39)))) ((snd_lf n118_38)))) ((snd_br ((snd_lf n118_37)) ((snd_lf n118_36)))))))))) ((snd_br ((snd_br ((snd_br ((snd_br ((snd_br ((snd_lf n118_34)) ((snd_lf n118_31)))) ((snd_lf n118_28)))) ((snd_br ((snd_br ((snd_lf n118_27)) ((snd_lf n118_26)))) ((snd_lf n118_25)))))) ((snd_br ((snd_br ((snd_br ((snd_lf n118_24)) ((snd_lf n118_23)))) ((snd_lf n118_22)))) ((snd_br ((snd_lf n118_19)) ((snd_lf n118_18)))))))) ((snd_br ((snd_br ((snd_br ((snd_br ((snd_lf n118_17)) ((snd_lf n118_14)))) ((snd_lf n118_13)))) ((snd_br ((snd_lf n118_10)) ((snd_lf n118_7)))))) ((snd_br ((snd_br ((snd_br ((snd_lf n118_6)) ((snd_lf n118_5)))) ((snd_lf n118_2)))) ((snd_br ((snd_lf n118_1)) ((snd_lf n118_0)))))))))))
end
section
variable {G : AG}
theorem n119_0 : Snd mt G 119 0 (oAload 0 1) := w_aload_n (hm := mm119) dX1_fits_3_0
theorem n119_1 : Snd mt G 119 1 (oIload 1 2) := w_iload_n (hm := mm119) dX1_fits_3_1
theorem n119_2 : Snd mt G 119 2 (oCall 2 (fV [1] 97 2) 0 5 xOut) := s_callV (m' := 97) (n := 1) xsh_out (w_xok0 mm119) (w_cal mm119 mm97 pn_X1 (Nat.le_of_ble_eq_true rfl) (Nat.le_of_ble_eq_true rfl)) (fun h b as hc hn => w_run_V (ci := 0) mm119 mm97 dX1_fits_3_2 (Or.inl (List.mem_singleton.mp hc)) (Nat.le_of_ble_eq_true rfl) vc_0 rfl q1688 q1690 qs41 q129 q1691 pa97 hn)
theorem n119_5 : Snd mt G 119 5 (oAstore 4 7) := w_astore (hm := mm119) dX1_fits_3_5 (Nat.le_of_ble_eq_true rfl)
theorem n119_7 : Snd mt G 119 7 (oIload 2 8) := w_iload_n (hm := mm119) dX1_fits_3_7
theorem n119_8 : Snd mt G 119 8 (oCall 1 (fS 92 1) 0 11 xOut) := s_callS (m' := 92) (n := 1) xsh_out (w_xok0 mm119) (w_cal mm119 mm92 pn_X1 (Nat.le_of_ble_eq_true rfl) (Nat.le_of_ble_eq_true rfl)) (fun h as hn => w_run_S mm119 mm92 dX1_fits_3_8 q1620 q1621 q129 q1622 pa92 hn)
theorem n119_11 : Snd mt G 119 11 (oIfEq 25 14) := w_if_eq (hm := mm119) dX1_fits_3_11 rfl
theorem n119_14 : Snd mt G 119 14 (oIload 3 15) := w_iload_n (hm := mm119) dX1_fits_3_14
theorem n119_15 : Snd mt G 119 15 (oCall 1 (fS 120 1) 0 18 xOut) := s_callS (m' := 120) (n := 1) xsh_out (w_xok0 mm119) (w_cal mm119 mm120 pn_X1 (Nat.le_of_ble_eq_true rfl) (Nat.le_of_ble_eq_true rfl)) (fun h as hn => w_run_S mm119 mm120 dX1_fits_3_15 q1936 q1937 q129 q1938 pa120 hn)
theorem n119_18 : Snd mt G 119 18 (oIfEq 25 21) := w_if_eq (hm := mm119) dX1_fits_3_18 rfl
theorem n119_21 : Snd mt G 119 21 (oConst (.int 1) 22) := w_iconst (hm := mm119) dX1_fits_3_21 rfl
theorem n119_22 : Snd mt G 119 22 (oGoto 26) := w_goto (hm := mm119) dX1_fits_3_22 rfl
theorem n119_25 : Snd mt G 119 25 (oConst (.int 0) 26) := w_iconst (hm := mm119) dX1_fits_3_25 rfl
theorem n119_26 : Snd mt G 119 26 (oCall 1 (fS 89 1) 0 29 xOut) := s_callS (m' := 89) (n := 1) xsh_out (w_xok0 mm119) (w_cal mm119 mm89 pn_X1 (Nat.le_of_ble_eq_true rfl) (Nat.le_of_ble_eq_true rfl)) (fun h as hn => w_run_S mm119 mm89 dX1_fits_3_26 q1180 q1181 q129 q1182 pa89 hn)
theorem n119_29 : Snd mt G 119 29 (oAload 4 31) := w_aload (hm := mm119) dX1_fits_3_29
theorem n119_31 : Snd mt G 119 31 (oGetf [19] 10 34) := w_getfN (hm := mm119) dX1_fits_3_31 (fokn1 (k := 10) (T := TX20) 18 (Nat.le_of_ble_eq_true rfl) vc_18 (Nat.le_of_ble_eq_true rfl) q1087)
theorem n119_34 : Snd mt G 119 34 (oConst (.int 55) 36) := w_bipush (hm := mm119) dX1_fits_3_34 (by decide)
theorem n119_36 : Snd mt G 119 36 (oIload 2 37) := w_iload_n (hm := mm119) dX1_fits_3_36
theorem n119_37 : Snd mt G 119 37 (oBin (fun x y => x * y) 38) := w_imul (hm := mm119) dX1_fits_3_37
theorem n119_38 : Snd mt G 119 38 (oIload 3 39) := w_iload_n (hm := mm119) dX1_fits_3_38
theorem n119_39 : Snd mt G 119 39 (oBin (fun x y => x + y) 40) := w_iadd (hm := mm119) dX1_fits_3_39
theorem n119_40 : Snd mt G 119 40 (oAld [100] 41) := w_iaload (hm := mm119) (kt := 0) dX1_fits_3_40 at_0 (Nat.le_of_ble_eq_true rfl) (List.forall_mem_cons.mpr ⟨Or.inl rfl, (fun t ht => nomatch ht)⟩)
theorem n119_41 : Snd mt G 119 41 (oRetI .int) := w_iret (hm := mm119) dX1_fits_3_41 rfl
theorem sj119 : ∀ pc, Snd mt G 119 pc (j119 pc) := fun pc => (snd_br ((snd_br ((snd_br ((snd_br ((snd_br ((snd_lf n119_41)) ((snd_lf n119_40)))) ((snd_lf n119_39)))) ((snd_br ((snd_br ((snd_lf n119_38)) ((snd_lf n119_37)))) ((snd_lf n119_36)))))) ((snd_br ((snd_br ((snd_br ((snd_lf n119_34)) ((snd_lf n119_31)))) ((snd_lf n119_29)))) ((snd_br ((snd_br ((snd_lf n119_26)) ((snd_lf n119_25)))) ((snd_lf n119_22)))))))) ((snd_br ((snd_br ((snd_br ((snd_br ((snd_lf n119_21)) ((snd_lf n119_18)))) ((snd_lf n119_15)))) ((snd_br ((snd_br ((snd_lf n119_14)) ((snd_lf n119_11)))) ((snd_lf n119_8)))))) ((snd_br ((snd_br ((snd_br ((snd_lf n119_7)) ((snd_lf n119_5)))) ((snd_lf n119_2)))) ((snd_br ((snd_lf n119_1)) ((snd_lf n119_0)))))))))
end
section
variable {G : AG}
theorem n120_0 : Snd mt G 120 0 (oIload 0 1) := w_iload_n (hm := mm120) dX1_isYear_0
theorem n120_1 : Snd mt G 120 1 (oIfLt 14 4) := w_if_lt (hm := mm120) dX1_isYear_1 rfl
theorem n120_4 : Snd mt G 120 4 (oIload 0 5) := w_iload_n (hm := mm120) dX1_isYear_4
theorem n120_5 : Snd mt G 120 5 (oConst (.int 55) 7) := w_bipush (hm := mm120) dX1_isYear_5 (by decide)
theorem n120_7 : Snd mt G 120 7 (oCmpGe 14 10) := w_icmp_ge (hm := mm120) dX1_isYear_7 rfl
theorem n120_10 : Snd mt G 120 10 (oConst (.int 1) 11) := w_iconst (hm := mm120) dX1_isYear_10 rfl
theorem n120_11 : Snd mt G 120 11 (oGoto 15) := w_goto (hm := mm120) dX1_isYear_11 rfl
theorem n120_14 : Snd mt G 120 14 (oConst (.int 0) 15) := w_iconst (hm := mm120) dX1_isYear_14 rfl
theorem n120_15 : Snd mt G 120 15 (oRetI .boolean) := w_zret (hm := mm120) dX1_isYear_15 rfl
theorem sj120 : ∀ pc, Snd mt G 120 pc (j120 pc) := fun pc => (snd_br ((snd_br ((snd_br ((snd_br ((snd_lf n120_15)) ((snd_lf n120_14)))) ((snd_lf n120_11)))) ((snd_br ((snd_lf n120_10)) ((snd_lf n120_7)))))) ((snd_br ((snd_br ((snd_lf n120_5)) ((snd_lf n120_4)))) ((snd_br ((snd_lf n120_1)) ((snd_lf n120_0)))))))
end
section
variable {G : AG}
theorem n121_0 : Snd mt G 121 0 (oAload 0 1) := w_aload_n (hm := mm121) dX1_lacks_0
theorem n121_1 : Snd mt G 121 1 (oIload 1 2) := w_iload_n (hm := mm121) dX1_lacks_1
theorem n121_2 : Snd mt G 121 2 (oCall 2 (fV [1] 97 2) 0 5 xOut) := s_callV (m' := 97) (n := 1) xsh_out (w_xok0 mm121) (w_cal mm121 mm97 pn_X1 (Nat.le_of_ble_eq_true rfl) (Nat.le_of_ble_eq_true rfl)) (fun h b as hc hn => w_run_V (ci := 0) mm121 mm97 dX1_lacks_2 (Or.inl (List.mem_singleton.mp hc)) (Nat.le_of_ble_eq_true rfl) vc_0 rfl q1688 q1690 qs41 q129 q1691 pa97 hn)
theorem n121_5 : Snd mt G 121 5 (oAstore 3 6) := w_astore_n (hm := mm121) dX1_lacks_5 (Nat.le_of_ble_eq_true rfl)
theorem n121_6 : Snd mt G 121 6 (oIload 2 7) := w_iload_n (hm := mm121) dX1_lacks_6
theorem n121_7 : Snd mt G 121 7 (oIfEq 15 10) := w_if_eq (hm := mm121) dX1_lacks_7 rfl
theorem n121_10 : Snd mt G 121 10 (oIload 2 11) := w_iload_n (hm := mm121) dX1_lacks_10
theorem n121_11 : Snd mt G 121 11 (oConst (.int 1) 12) := w_iconst (hm := mm121) dX1_lacks_11 rfl
theorem n121_12 : Snd mt G 121 12 (oCmpEq 15 19) := w_icmp_ne (hm := mm121) dX1_lacks_12 rfl
theorem n121_15 : Snd mt G 121 15 (oConst (.int 1) 16) := w_iconst (hm := mm121) dX1_lacks_15 rfl
theorem n121_16 : Snd mt G 121 16 (oGoto 20) := w_goto (hm := mm121) dX1_lacks_16 rfl
theorem n121_19 : Snd mt G 121 19 (oConst (.int 0) 20) := w_iconst (hm := mm121) dX1_lacks_19 rfl
theorem n121_20 : Snd mt G 121 20 (oCall 1 (fS 89 1) 0 23 xOut) := s_callS (m' := 89) (n := 1) xsh_out (w_xok0 mm121) (w_cal mm121 mm89 pn_X1 (Nat.le_of_ble_eq_true rfl) (Nat.le_of_ble_eq_true rfl)) (fun h as hn => w_run_S mm121 mm89 dX1_lacks_20 q1180 q1181 q129 q1182 pa89 hn)
theorem n121_23 : Snd mt G 121 23 (oIload 2 24) := w_iload_n (hm := mm121) dX1_lacks_23
theorem n121_24 : Snd mt G 121 24 (oIfEq 27 35) := w_if_ne (hm := mm121) dX1_lacks_24 rfl
theorem n121_27 : Snd mt G 121 27 (oAload 0 28) := w_aload_n (hm := mm121) dX1_lacks_27
theorem n121_28 : Snd mt G 121 28 (oAload 3 29) := w_aload_n (hm := mm121) dX1_lacks_28
theorem n121_29 : Snd mt G 121 29 (oCall 2 (fV [1] 63 4) 0 32 xOut) := s_callV (m' := 63) (n := 1) xsh_out (w_xok0 mm121) (w_cal mm121 mm63 pn_X1 (Nat.le_of_ble_eq_true rfl) (Nat.le_of_ble_eq_true rfl)) (fun h b as hc hn => w_run_V (ci := 0) mm121 mm63 dX1_lacks_29 (Or.inl (List.mem_singleton.mp hc)) (Nat.le_of_ble_eq_true rfl) vc_0 rfl q831 q833 qs9 q129 q834 pa63 hn)
theorem n121_32 : Snd mt G 121 32 (oGoto 40) := w_goto (hm := mm121) dX1_lacks_32 rfl
theorem n121_35 : Snd mt G 121 35 (oAload 0 36) := w_aload_n (hm := mm121) dX1_lacks_35
theorem n121_36 : Snd mt G 121 36 (oAload 3 37) := w_aload_n (hm := mm121) dX1_lacks_36
theorem n121_37 : Snd mt G 121 37 (oCall 2 (fV [1] 62 5) 0 40 xOut) := s_callV (m' := 62) (n := 1) xsh_out (w_xok0 mm121) (w_cal mm121 mm62 pn_X1 (Nat.le_of_ble_eq_true rfl) (Nat.le_of_ble_eq_true rfl)) (fun h b as hc hn => w_run_V (ci := 0) mm121 mm62 dX1_lacks_37 (Or.inl (List.mem_singleton.mp hc)) (Nat.le_of_ble_eq_true rfl) vc_0 rfl q827 q829 qs8 q129 q830 pa62 hn)
theorem n121_40 : Snd mt G 121 40 (oRetI .int) := w_iret (hm := mm121) dX1_lacks_40 rfl
theorem sj121 : ∀ pc, Snd mt G 121 pc (j121 pc) := fun pc => (snd_br ((snd_br ((snd_br ((snd_br ((snd_br ((snd_lf n121_40)) ((snd_lf n121_37)))) ((snd_lf n121_36)))) ((snd_br ((snd_br ((snd_lf n121_35)) ((snd_lf n121_32)))) ((snd_lf n121_29)))))) ((snd_br ((snd_br ((snd_br ((snd_lf n121_28)) ((snd_lf n121_27)))) ((snd_lf n121_24)))) ((snd_br ((snd_br ((snd_lf n121_23)) ((snd_lf n121_20)))) ((snd_lf n121_19)))))))) ((snd_br ((snd_br ((snd_br ((snd_br ((snd_lf n121_16)) ((snd_lf n121_15)))) ((snd_lf n121_12)))) ((snd_br ((snd_br ((snd_lf n121_11)) ((snd_lf n121_10)))) ((snd_lf n121_7)))))) ((snd_br ((snd_br ((snd_br ((snd_lf n121_6)) ((snd_lf n121_5)))) ((snd_lf n121_2)))) ((snd_br ((snd_lf n121_1)) ((snd_lf n121_0)))))))))
end
section
variable {G : AG}
theorem n122_0 : Snd mt G 122 0 (oAload 0 1) := w_aload_n (hm := mm122) dX1_choice_0
theorem n122_1 : Snd mt G 122 1 (oIload 1 2) := w_iload_n (hm := mm122) dX1_choice_1
theorem n122_2 : Snd mt G 122 2 (oCall 2 (fV [1] 97 2) 0 5 xOut) := s_callV (m' := 97) (n := 1) xsh_out (w_xok0 mm122) (w_cal mm122 mm97 pn_X1 (Nat.le_of_ble_eq_true rfl) (Nat.le_of_ble_eq_true rfl)) (fun h b as hc hn => w_run_V (ci := 0) mm122 mm97 dX1_choice_2 (Or.inl (List.mem_singleton.mp hc)) (Nat.le_of_ble_eq_true rfl) vc_0 rfl q1688 q1690 qs41 q129 q1691 pa97 hn)
theorem n122_5 : Snd mt G 122 5 (oAstore 3 6) := w_astore_n (hm := mm122) dX1_choice_5 (Nat.le_of_ble_eq_true rfl)
theorem n122_6 : Snd mt G 122 6 (oIload 2 7) := w_iload_n (hm := mm122) dX1_choice_6
theorem n122_7 : Snd mt G 122 7 (oCall 1 (fS 92 1) 0 10 xOut) := s_callS (m' := 92) (n := 1) xsh_out (w_xok0 mm122) (w_cal mm122 mm92 pn_X1 (Nat.le_of_ble_eq_true rfl) (Nat.le_of_ble_eq_true rfl)) (fun h as hn => w_run_S mm122 mm92 dX1_choice_7 q1620 q1621 q129 q1622 pa92 hn)
theorem n122_10 : Snd mt G 122 10 (oCall 1 (fS 89 1) 0 13 xOut) := s_callS (m' := 89) (n := 1) xsh_out (w_xok0 mm122) (w_cal mm122 mm89 pn_X1 (Nat.le_of_ble_eq_true rfl) (Nat.le_of_ble_eq_true rfl)) (fun h as hn => w_run_S mm122 mm89 dX1_choice_10 q1180 q1181 q129 q1182 pa89 hn)
theorem n122_13 : Snd mt G 122 13 (oAload 0 14) := w_aload_n (hm := mm122) dX1_choice_13
theorem n122_14 : Snd mt G 122 14 (oAload 3 15) := w_aload_n (hm := mm122) dX1_choice_14
theorem n122_15 : Snd mt G 122 15 (oCall 2 (fV [1] 123 3) 0 18 xOut) := s_callV (m' := 123) (n := 1) xsh_out (w_xok0 mm122) (w_cal mm122 mm123 pn_X1 (Nat.le_of_ble_eq_true rfl) (Nat.le_of_ble_eq_true rfl)) (fun h b as hc hn => w_run_V (ci := 0) mm122 mm123 dX1_choice_15 (Or.inl (List.mem_singleton.mp hc)) (Nat.le_of_ble_eq_true rfl) vc_0 rfl q1953 q1955 qs51 q129 q1956 pa123 hn)
theorem n122_18 : Snd mt G 122 18 (oIfEq 30 21) := w_if_eq (hm := mm122) dX1_choice_18 rfl
theorem n122_21 : Snd mt G 122 21 (oAload 0 22) := w_aload_n (hm := mm122) dX1_choice_21
theorem n122_22 : Snd mt G 122 22 (oGetf [1] 11 25) := w_getf (hm := mm122) dX1_choice_22 (fok1 (k := 11) (T := TX1) 0 (Nat.le_of_ble_eq_true rfl) vc_0 (Nat.le_of_ble_eq_true rfl) q634)
theorem n122_25 : Snd mt G 122 25 (oIload 2 26) := w_iload_n (hm := mm122) dX1_choice_25
theorem n122_26 : Snd mt G 122 26 (oAld [100] 27) := w_iaload (hm := mm122) (kt := 0) dX1_choice_26 at_0 (Nat.le_of_ble_eq_true rfl) (List.forall_mem_cons.mpr ⟨Or.inl rfl, (fun t ht => nomatch ht)⟩)
theorem n122_27 : Snd mt G 122 27 (oGoto 32) := w_goto (hm := mm122) dX1_choice_27 rfl
theorem n122_30 : Snd mt G 122 30 (oConst (.int (-2)) 32) := w_bipush (hm := mm122) dX1_choice_30 (by decide)
theorem n122_32 : Snd mt G 122 32 (oRetI .int) := w_iret (hm := mm122) dX1_choice_32 rfl
theorem sj122 : ∀ pc, Snd mt G 122 pc (j122 pc) := fun pc => (snd_br ((snd_br ((snd_br ((snd_br ((snd_br ((snd_lf n122_32)) ((snd_lf n122_30)))) ((snd_lf n122_27)))) ((snd_br ((snd_lf n122_26)) ((snd_lf n122_25)))))) ((snd_br ((snd_br ((snd_lf n122_22)) ((snd_lf n122_21)))) ((snd_br ((snd_lf n122_18)) ((snd_lf n122_15)))))))) ((snd_br ((snd_br ((snd_br ((snd_br ((snd_lf n122_14)) ((snd_lf n122_13)))) ((snd_lf n122_10)))) ((snd_br ((snd_lf n122_7)) ((snd_lf n122_6)))))) ((snd_br ((snd_br ((snd_lf n122_5)) ((snd_lf n122_2)))) ((snd_br ((snd_lf n122_1)) ((snd_lf n122_0)))))))))
end
section
variable {G : AG}
theorem n123_0 : Snd mt G 123 0 (oAload 0 1) := w_aload_n (hm := mm123) dX1_findChoice_0
theorem n123_1 : Snd mt G 123 1 (oConst (.int 0) 2) := w_iconst (hm := mm123) dX1_findChoice_1 rfl
theorem n123_2 : Snd mt G 123 2 (oPutf [1] 14 .boolean 5) := w_putf (hm := mm123) dX1_findChoice_2 (pok1 (k := 14) (T := TX1) 0 (Nat.le_of_ble_eq_true rfl) vc_0 (Nat.le_of_ble_eq_true rfl) rfl pd_X1_14 q637)
theorem n123_5 : Snd mt G 123 5 (oAload 0 6) := w_aload_n (hm := mm123) dX1_findChoice_5
theorem n123_6 : Snd mt G 123 6 (oAload 1 7) := w_aload_n (hm := mm123) dX1_findChoice_6
theorem n123_7 : Snd mt G 123 7 (oAload 0 8) := w_aload_n (hm := mm123) dX1_findChoice_7
theorem n123_8 : Snd mt G 123 8 (oGetf [1] 0 11) := w_getf (hm := mm123) dX1_findChoice_8 (fok1 (k := 0) (T := TX1) 0 (Nat.le_of_ble_eq_true rfl) vc_0 (Nat.le_of_ble_eq_true rfl) q623)
theorem n123_11 : Snd mt G 123 11 (oGetf [2] 12 14) := w_getfN (hm := mm123) dX1_findChoice_11 (fokn1 (k := 12) (T := TX2) 1 (Nat.le_of_ble_eq_true rfl) vc_1 (Nat.le_of_ble_eq_true rfl) q567)
theorem n123_14 : Snd mt G 123 14 (oCall 3 (fV [1] 101 3) 0 17 xOut) := s_callV (m' := 101) (n := 2) xsh_out (w_xok0 mm123) (w_cal mm123 mm101 pn_X1 (Nat.le_of_ble_eq_true rfl) (Nat.le_of_ble_eq_true rfl)) (fun h b as hc hn => w_run_V (ci := 0) mm123 mm101 dX1_findChoice_14 (Or.inl (List.mem_singleton.mp hc)) (Nat.le_of_ble_eq_true rfl) vc_0 rfl q1732 q1734 qs42 q129 q1735 pa101 hn)
theorem n123_17 : Snd mt G 123 17 (oAload 1 18) := w_aload_n (hm := mm123) dX1_findChoice_17
theorem n123_18 : Snd mt G 123 18 (oGetf [19] 9 21) := w_getfN (hm := mm123) dX1_findChoice_18 (fokn1 (k := 9) (T := TX20) 18 (Nat.le_of_ble_eq_true rfl) vc_18 (Nat.le_of_ble_eq_true rfl) q1085)
theorem n123_21 : Snd mt G 123 21 (oAload 0 22) := w_aload_n (hm := mm123) dX1_findChoice_21
theorem n123_22 : Snd mt G 123 22 (oCall 1 (fV [1] 110 1) 0 25 xOut) := s_callV (m' := 110) (n := 0) xsh_out (w_xok0 mm123) (w_cal mm123 mm110 pn_X1 (Nat.le_of_ble_eq_true rfl) (Nat.le_of_ble_eq_true rfl)) (fun h b as hc hn => w_run_V (ci := 0) mm123 mm110 dX1_findChoice_22 (Or.inl (List.mem_singleton.mp hc)) (Nat.le_of_ble_eq_true rfl) vc_0 rfl q1855 q1857 qs48 q129 q1858 pa110 hn)
theorem n123_25 : Snd mt G 123 25 (oAld [100] 26) := w_iaload (hm := mm123) (kt := 0) dX1_findChoice_25 at_0 (Nat.le_of_ble_eq_true rfl) (List.forall_mem_cons.mpr ⟨Or.inl rfl, (fun t ht => nomatch ht)⟩)
theorem n123_26 : Snd mt G 123 26 (oBin (fun x y => x - y) 27) := w_isub (hm := mm123) dX1_findChoice_26
theorem n123_27 : Snd mt G 123 27 (oIstore 2 28) := w_istore_n (hm := mm123) dX1_findChoice_27 (Nat.le_of_ble_eq_true rfl)
theorem n123_28 : Snd mt G 123 28 (oIload 2 29) := w_iload_n (hm := mm123) dX1_findChoice_28
theorem n123_29 : Snd mt G 123 29 (oIfLt 53 32) := w_if_lt (hm := mm123) dX1_findChoice_29 rfl
theorem n123_32 : Snd mt G 123 32 (oAload 0 33) := w_aload_n (hm := mm123) dX1_findChoice_32
theorem n123_33 : Snd mt G 123 33 (oAload 1 34) := w_aload_n (hm := mm123) dX1_findChoice_33
theorem n123_34 : Snd mt G 123 34 (oAload 0 35) := w_aload_n (hm := mm123) dX1_findChoice_34
theorem n123_35 : Snd mt G 123 35 (oAload 1 36) := w_aload_n (hm := mm123) dX1_findChoice_35
theorem n123_36 : Snd mt G 123 36 (oAload 0 37) := w_aload_n (hm := mm123) dX1_findChoice_36
theorem n123_37 : Snd mt G 123 37 (oGetf [1] 0 40) := w_getf (hm := mm123) dX1_findChoice_37 (fok1 (k := 0) (T := TX1) 0 (Nat.le_of_ble_eq_true rfl) vc_0 (Nat.le_of_ble_eq_true rfl) q623)
theorem n123_40 : Snd mt G 123 40 (oGetf [2] 12 43) := w_getfN (hm := mm123) dX1_findChoice_40 (fokn1 (k := 12) (T := TX2) 1 (Nat.le_of_ble_eq_true rfl) vc_1 (Nat.le_of_ble_eq_true rfl) q567)
theorem n123_43 : Snd mt G 123 43 (oCall 3 (fV [1] 64 5) 0 46 xOut) := s_callV (m' := 64) (n := 2) xsh_out (w_xok0 mm123) (w_cal mm123 mm64 pn_X1 (Nat.le_of_ble_eq_true rfl) (Nat.le_of_ble_eq_true rfl)) (fun h b as hc hn => w_run_V (ci := 0) mm123 mm64 dX1_findChoice_43 (Or.inl (List.mem_singleton.mp hc)) (Nat.le_of_ble_eq_true rfl) vc_0 rfl q835 q837 qs10 q129 q838 pa64 hn)
theorem n123_46 : Snd mt G 123 46 (oConst (.int 0) 47) := w_iconst (hm := mm123) dX1_findChoice_46 rfl
theorem n123_47 : Snd mt G 123 47 (oConst (.int 0) 48) := w_iconst (hm := mm123) dX1_findChoice_47 rfl
theorem n123_48 : Snd mt G 123 48 (oConst (.int 0) 49) := w_iconst (hm := mm123) dX1_findChoice_48 rfl
theorem n123_49 : Snd mt G 123 49 (oIload 2 50) := w_iload_n (hm := mm123) dX1_findChoice_49
theorem n123_50 : Snd mt G 123 50 (oCall 7 (fV [1] 124 9) 0 53 xOut) := s_callV (m' := 124) (n := 6) xsh_out (w_xok0 mm123) (w_cal mm123 mm124 pn_X1 (Nat.le_of_ble_eq_true rfl) (Nat.le_of_ble_eq_true rfl)) (fun h b as hc hn => w_run_V (ci := 0) mm123 mm124 dX1_findChoice_50 (Or.inl (List.mem_singleton.mp hc)) (Nat.le_of_ble_eq_true rfl) vc_0 rfl q1957 q1959 qs52 q129 q1960 pa124 hn)
theorem n123_53 : Snd mt G 123 53 (oAload 0 54) := w_aload_n (hm := mm123) dX1_findChoice_53
theorem n123_54 : Snd mt G 123 54 (oGetf [1] 14 57) := w_getf (hm := mm123) dX1_findChoice_54 (fok1 (k := 14) (T := TX1) 0 (Nat.le_of_ble_eq_true rfl) vc_0 (Nat.le_of_ble_eq_true rfl) q637)
theorem n123_57 : Snd mt G 123 57 (oRetI .boolean) := w_zret (hm := mm123) dX1_findChoice_57 rfl
theorem sj123 : ∀ pc, Snd mt G 123 pc (j123 pc) := fun pc => (snd_br ((snd_br ((snd_br ((snd_br ((snd_br ((snd_br ((snd_lf n123_57)) ((snd_lf n123_54)))) ((snd_lf n123_53)))) ((snd_br ((snd_lf n123_50)) ((snd_lf n123_49)))))) ((snd_br ((snd_br ((snd_lf n123_48)) ((snd_lf n123_47)))) ((snd_br ((snd_lf n123_46)) ((snd_lf n123_43)))))))) ((snd_br ((snd_br ((snd_br ((snd_lf n123_40)) ((snd_lf n123_37)))) ((snd_br ((snd_lf n123_36)) ((snd_lf n123_35)))))) ((snd_br ((snd_br ((snd_lf n123_34)) ((snd_lf n123_33)))) ((snd_br ((snd_lf n123_32)) ((snd_lf n123_29)))))))))) ((snd_br ((snd_br ((snd_br ((snd_br ((snd_br ((snd_lf n123_28)) ((snd_lf n123_27)))) ((snd_lf n123_26)))) ((snd_br ((snd_lf n123_25)) ((snd_lf n123_22)))))) ((snd_br ((snd_br ((snd_lf n123_21)) ((snd_lf n123_18)))) ((snd_br ((snd_lf n123_17)) ((snd_lf n123_14)))))))) ((snd_br ((snd_br ((snd_br ((snd_lf n123_11)) ((snd_lf n123_8)))) ((snd_br ((snd_lf n123_7)) ((snd_lf n123_6)))))) ((snd_br ((snd_br ((snd_lf n123_5)) ((snd_lf n123_2)))) ((snd_br ((snd_lf n123_1)) ((snd_lf n123_0)))))))))))
end
section
variable {G : AG}
theorem n124_0 : Snd mt G 124 0 (oIload 3 1) := w_iload_n (hm := mm124) dX1_picks_0
theorem n124_1 : Snd mt G 124 1 (oConst (.int 4) 2) := w_iconst (hm := mm124) dX1_picks_1 rfl
theorem n124_2 : Snd mt G 124 2 (oCmpEq 5 72) := w_icmp_ne (hm := mm124) dX1_picks_2 rfl
theorem n124_5 : Snd mt G 124 5 (oAload 0 6) := w_aload_n (hm := mm124) dX1_picks_5
theorem n124_6 : Snd mt G 124 6 (oGetf [1] 14 9) := w_getf (hm := mm124) dX1_picks_6 (fok1 (k := 14) (T := TX1) 0 (Nat.le_of_ble_eq_true rfl) vc_0 (Nat.le_of_ble_eq_true rfl) q637)
theorem n124_9 : Snd mt G 124 9 (oIfEq 40 12) := w_if_eq (hm := mm124) dX1_picks_9 rfl
theorem n124_12 : Snd mt G 124 12 (oIload 4 14) := w_iload (hm := mm124) dX1_picks_12
theorem n124_14 : Snd mt G 124 14 (oAload 0 15) := w_aload_n (hm := mm124) dX1_picks_14
theorem n124_15 : Snd mt G 124 15 (oGetf [1] 12 18) := w_getf (hm := mm124) dX1_picks_15 (fok1 (k := 12) (T := TX1) 0 (Nat.le_of_ble_eq_true rfl) vc_0 (Nat.le_of_ble_eq_true rfl) q635)
theorem n124_18 : Snd mt G 124 18 (oCmpLt 39 21) := w_icmp_lt (hm := mm124) dX1_picks_18 rfl
theorem n124_21 : Snd mt G 124 21 (oIload 4 23) := w_iload (hm := mm124) dX1_picks_21
theorem n124_23 : Snd mt G 124 23 (oAload 0 24) := w_aload_n (hm := mm124) dX1_picks_23
theorem n124_24 : Snd mt G 124 24 (oGetf [1] 12 27) := w_getf (hm := mm124) dX1_picks_24 (fok1 (k := 12) (T := TX1) 0 (Nat.le_of_ble_eq_true rfl) vc_0 (Nat.le_of_ble_eq_true rfl) q635)
theorem n124_27 : Snd mt G 124 27 (oCmpEq 30 40) := w_icmp_ne (hm := mm124) dX1_picks_27 rfl
theorem n124_30 : Snd mt G 124 30 (oIload 5 32) := w_iload (hm := mm124) dX1_picks_30
theorem n124_32 : Snd mt G 124 32 (oAload 0 33) := w_aload_n (hm := mm124) dX1_picks_32
theorem n124_33 : Snd mt G 124 33 (oGetf [1] 13 36) := w_getf (hm := mm124) dX1_picks_33 (fok1 (k := 13) (T := TX1) 0 (Nat.le_of_ble_eq_true rfl) vc_0 (Nat.le_of_ble_eq_true rfl) q636)
theorem n124_36 : Snd mt G 124 36 (oCmpLt 40 39) := w_icmp_lt (hm := mm124) dX1_picks_36 rfl
theorem n124_39 : Snd mt G 124 39 (oRetV) := w_vret (hm := mm124) dX1_picks_39 rfl
theorem n124_40 : Snd mt G 124 40 (oAload 0 41) := w_aload_n (hm := mm124) dX1_picks_40
theorem n124_41 : Snd mt G 124 41 (oConst (.int 1) 42) := w_iconst (hm := mm124) dX1_picks_41 rfl
theorem n124_42 : Snd mt G 124 42 (oPutf [1] 14 .boolean 45) := w_putf (hm := mm124) dX1_picks_42 (pok1 (k := 14) (T := TX1) 0 (Nat.le_of_ble_eq_true rfl) vc_0 (Nat.le_of_ble_eq_true rfl) rfl pd_X1_14 q637)
theorem n124_45 : Snd mt G 124 45 (oAload 0 46) := w_aload_n (hm := mm124) dX1_picks_45
theorem n124_46 : Snd mt G 124 46 (oIload 4 48) := w_iload (hm := mm124) dX1_picks_46
theorem n124_48 : Snd mt G 124 48 (oPutf [1] 12 .int 51) := w_putf (hm := mm124) dX1_picks_48 (pok1 (k := 12) (T := TX1) 0 (Nat.le_of_ble_eq_true rfl) vc_0 (Nat.le_of_ble_eq_true rfl) rfl pd_X1_12 q635)
theorem n124_51 : Snd mt G 124 51 (oAload 0 52) := w_aload_n (hm := mm124) dX1_picks_51
theorem n124_52 : Snd mt G 124 52 (oIload 5 54) := w_iload (hm := mm124) dX1_picks_52
theorem n124_54 : Snd mt G 124 54 (oPutf [1] 13 .int 57) := w_putf (hm := mm124) dX1_picks_54 (pok1 (k := 13) (T := TX1) 0 (Nat.le_of_ble_eq_true rfl) vc_0 (Nat.le_of_ble_eq_true rfl) rfl pd_X1_13 q636)
theorem n124_57 : Snd mt G 124 57 (oAload 0 58) := w_aload_n (hm := mm124) dX1_picks_57
theorem n124_58 : Snd mt G 124 58 (oGetf [1] 10 61) := w_getf (hm := mm124) dX1_picks_58 (fok1 (k := 10) (T := TX1) 0 (Nat.le_of_ble_eq_true rfl) vc_0 (Nat.le_of_ble_eq_true rfl) q633)
theorem n124_61 : Snd mt G 124 61 (oConst (.int 0) 62) := w_iconst (hm := mm124) dX1_picks_61 rfl
theorem n124_62 : Snd mt G 124 62 (oAload 0 63) := w_aload_n (hm := mm124) dX1_picks_62
theorem n124_63 : Snd mt G 124 63 (oGetf [1] 11 66) := w_getf (hm := mm124) dX1_picks_63 (fok1 (k := 11) (T := TX1) 0 (Nat.le_of_ble_eq_true rfl) vc_0 (Nat.le_of_ble_eq_true rfl) q634)
theorem n124_66 : Snd mt G 124 66 (oConst (.int 0) 67) := w_iconst (hm := mm124) dX1_picks_66 rfl
theorem n124_67 : Snd mt G 124 67 (oConst (.int 4) 68) := w_iconst (hm := mm124) dX1_picks_67 rfl
theorem n124_68 : Snd mt G 124 68 (oCopy [100] [100] (ckTy .int) 71) := w_copy (hm := mm124) (kt := 0) dX1_picks_68 (Nat.le_of_ble_eq_true rfl) at_0 (List.forall_mem_cons.mpr ⟨Or.inl rfl, (fun t ht => nomatch ht)⟩) (List.forall_mem_cons.mpr ⟨rfl, (fun t ht => nomatch ht)⟩) (fun s h H v _ _ e => ck_int s h H .int v e) (Nat.le_of_ble_eq_true rfl) q870 q335 q334 q145
theorem n124_71 : Snd mt G 124 71 (oRetV) := w_vret (hm := mm124) dX1_picks_71 rfl
theorem n124_72 : Snd mt G 124 72 (oAload 0 73) := w_aload_n (hm := mm124) dX1_picks_72
theorem n124_73 : Snd mt G 124 73 (oGetf [1] 10 76) := w_getf (hm := mm124) dX1_picks_73 (fok1 (k := 10) (T := TX1) 0 (Nat.le_of_ble_eq_true rfl) vc_0 (Nat.le_of_ble_eq_true rfl) q633)
theorem n124_76 : Snd mt G 124 76 (oIload 3 77) := w_iload_n (hm := mm124) dX1_picks_76
theorem n124_77 : Snd mt G 124 77 (oConst (.int (-1)) 78) := w_iconst (hm := mm124) dX1_picks_77 rfl
theorem n124_78 : Snd mt G 124 78 (oIast [100] 79) := w_iastore (hm := mm124) (kt := 0) dX1_picks_78 at_0 (Nat.le_of_ble_eq_true rfl) (List.forall_mem_cons.mpr ⟨rfl, (fun t ht => nomatch ht)⟩)
theorem n124_79 : Snd mt G 124 79 (oIload 2 80) := w_iload_n (hm := mm124) dX1_picks_79
theorem n124_80 : Snd mt G 124 80 (oIload 3 81) := w_iload_n (hm := mm124) dX1_picks_80
theorem n124_81 : Snd mt G 124 81 (oBin (fun x y => x >>> (y &&& 31)) 82) := w_ishr (hm := mm124) dX1_picks_81
theorem n124_82 : Snd mt G 124 82 (oConst (.int 1) 83) := w_iconst (hm := mm124) dX1_picks_82 rfl
theorem n124_83 : Snd mt G 124 83 (oBin (fun x y => x &&& y) 84) := w_iand (hm := mm124) dX1_picks_83
theorem n124_84 : Snd mt G 124 84 (oIfEq 87 103) := w_if_ne (hm := mm124) dX1_picks_84 rfl
theorem n124_87 : Snd mt G 124 87 (oAload 0 88) := w_aload_n (hm := mm124) dX1_picks_87
theorem n124_88 : Snd mt G 124 88 (oAload 1 89) := w_aload_n (hm := mm124) dX1_picks_88
theorem n124_89 : Snd mt G 124 89 (oIload 2 90) := w_iload_n (hm := mm124) dX1_picks_89
theorem n124_90 : Snd mt G 124 90 (oIload 3 91) := w_iload_n (hm := mm124) dX1_picks_90
theorem n124_91 : Snd mt G 124 91 (oConst (.int 1) 92) := w_iconst (hm := mm124) dX1_picks_91 rfl
theorem n124_92 : Snd mt G 124 92 (oBin (fun x y => x + y) 93) := w_iadd (hm := mm124) dX1_picks_92
theorem n124_93 : Snd mt G 124 93 (oIload 4 95) := w_iload (hm := mm124) dX1_picks_93
theorem n124_95 : Snd mt G 124 95 (oIload 5 97) := w_iload (hm := mm124) dX1_picks_95
theorem n124_97 : Snd mt G 124 97 (oIload 6 99) := w_iload (hm := mm124) dX1_picks_97
theorem n124_99 : Snd mt G 124 99 (oCall 7 (fV [1] 124 9) 1 102 xOut) := s_callV (m' := 124) (n := 6) xsh_out (w_xok0 mm124) (w_cal mm124 mm124 pn_X1 (Nat.le_of_ble_eq_true rfl) (Nat.le_of_ble_eq_true rfl)) (fun h b as hc hn => w_run_V (ci := 0) mm124 mm124 dX1_picks_99 (Or.inl (List.mem_singleton.mp hc)) (Nat.le_of_ble_eq_true rfl) vc_0 rfl q1957 q1959 qs52 q129 q1960 pa124 hn)
theorem n124_102 : Snd mt G 124 102 (oRetV) := w_vret (hm := mm124) dX1_picks_102 rfl
theorem n124_103 : Snd mt G 124 103 (oConst (.int 0) 104) := w_iconst (hm := mm124) dX1_picks_103 rfl
theorem n124_104 : Snd mt G 124 104 (oIstore 7 106) := w_istore (hm := mm124) dX1_picks_104 (Nat.le_of_ble_eq_true rfl)
theorem n124_106 : Snd mt G 124 106 (oIload 7 108) := w_iload (hm := mm124) dX1_picks_106
theorem n124_108 : Snd mt G 124 108 (oAload 0 109) := w_aload_n (hm := mm124) dX1_picks_108
theorem n124_109 : Snd mt G 124 109 (oGetf [1] 0 112) := w_getf (hm := mm124) dX1_picks_109 (fok1 (k := 0) (T := TX1) 0 (Nat.le_of_ble_eq_true rfl) vc_0 (Nat.le_of_ble_eq_true rfl) q623)
theorem n124_112 : Snd mt G 124 112 (oGetf [2] 0 115) := w_getfN (hm := mm124) dX1_picks_112 (fokn1 (k := 0) (T := TX2) 1 (Nat.le_of_ble_eq_true rfl) vc_1 (Nat.le_of_ble_eq_true rfl) q543)
theorem n124_115 : Snd mt G 124 115 (oCall 1 (fV [3] 175 1) 0 118 xOut) := s_callV (m' := 175) (n := 0) xsh_out (w_xok0 mm124) (w_cal mm124 mm175 pn_J2 (Nat.le_of_ble_eq_true rfl) (Nat.le_of_ble_eq_true rfl)) (fun h b as hc hn => w_run_V (ci := 2) mm124 mm175 dX1_picks_115 (Or.inl (List.mem_singleton.mp hc)) (Nat.le_of_ble_eq_true rfl) vc_2 rfl q709 q710 q711 q133 q712 pa175 hn)
theorem n124_118 : Snd mt G 124 118 (oCmpGe 232 121) := w_icmp_ge (hm := mm124) dX1_picks_118 rfl
theorem n124_121 : Snd mt G 124 121 (oAload 0 122) := w_aload_n (hm := mm124) dX1_picks_121
theorem n124_122 : Snd mt G 124 122 (oGetf [1] 0 125) := w_getf (hm := mm124) dX1_picks_122 (fok1 (k := 0) (T := TX1) 0 (Nat.le_of_ble_eq_true rfl) vc_0 (Nat.le_of_ble_eq_true rfl) q623)
theorem n124_125 : Snd mt G 124 125 (oGetf [2] 0 128) := w_getfN (hm := mm124) dX1_picks_125 (fokn1 (k := 0) (T := TX2) 1 (Nat.le_of_ble_eq_true rfl) vc_1 (Nat.le_of_ble_eq_true rfl) q543)
theorem n124_128 : Snd mt G 124 128 (oIload 7 130) := w_iload (hm := mm124) dX1_picks_128
theorem n124_130 : Snd mt G 124 130 (oCall 2 (fV [3] 176 2) 0 133 xOut) := s_callV (m' := 176) (n := 1) xsh_out (w_xok0 mm124) (w_cal mm124 mm176 pn_J2 (Nat.le_of_ble_eq_true rfl) (Nat.le_of_ble_eq_true rfl)) (fun h b as hc hn => w_run_V (ci := 2) mm124 mm176 dX1_picks_130 (Or.inl (List.mem_singleton.mp hc)) (Nat.le_of_ble_eq_true rfl) vc_2 rfl q713 q714 q715 q133 q716 pa176 hn)
theorem n124_133 : Snd mt G 124 133 (oCast [18] 136) := w_cast (hm := mm124) dX1_picks_133 q888 (List.forall_mem_cons.mpr ⟨⟨17, _, Or.inl rfl, (Nat.le_of_ble_eq_true rfl), vc_17, Or.inl rfl⟩, (fun t ht => nomatch ht)⟩)
theorem n124_136 : Snd mt G 124 136 (oAstore 8 138) := w_astore (hm := mm124) dX1_picks_136 (Nat.le_of_ble_eq_true rfl)
theorem n124_138 : Snd mt G 124 138 (oAload 8 140) := w_aload (hm := mm124) dX1_picks_138
theorem n124_140 : Snd mt G 124 140 (oGetf [18] 0 143) := w_getfN (hm := mm124) dX1_picks_140 (fokn1 (k := 0) (T := TX19) 17 (Nat.le_of_ble_eq_true rfl) vc_17 (Nat.le_of_ble_eq_true rfl) q1630)
theorem n124_143 : Snd mt G 124 143 (oIload 3 144) := w_iload_n (hm := mm124) dX1_picks_143
theorem n124_144 : Snd mt G 124 144 (oCmpEq 147 226) := w_icmp_ne (hm := mm124) dX1_picks_144 rfl
theorem n124_147 : Snd mt G 124 147 (oAload 8 149) := w_aload (hm := mm124) dX1_picks_147
theorem n124_149 : Snd mt G 124 149 (oGetf [18] 2 152) := w_getfN (hm := mm124) dX1_picks_149 (fokn1 (k := 2) (T := TX19) 17 (Nat.le_of_ble_eq_true rfl) vc_17 (Nat.le_of_ble_eq_true rfl) q1634)
theorem n124_152 : Snd mt G 124 152 (oAload 1 153) := w_aload_n (hm := mm124) dX1_picks_152
theorem n124_153 : Snd mt G 124 153 (oGetf [19] 0 156) := w_getfN (hm := mm124) dX1_picks_153 (fokn1 (k := 0) (T := TX20) 18 (Nat.le_of_ble_eq_true rfl) vc_18 (Nat.le_of_ble_eq_true rfl) q1067)
theorem n124_156 : Snd mt G 124 156 (oCmpLt 226 159) := w_icmp_lt (hm := mm124) dX1_picks_156 rfl
theorem n124_159 : Snd mt G 124 159 (oIload 5 161) := w_iload (hm := mm124) dX1_picks_159
theorem n124_161 : Snd mt G 124 161 (oAload 8 163) := w_aload (hm := mm124) dX1_picks_161
theorem n124_163 : Snd mt G 124 163 (oGetf [18] 1 166) := w_getfN (hm := mm124) dX1_picks_163 (fokn1 (k := 1) (T := TX19) 17 (Nat.le_of_ble_eq_true rfl) vc_17 (Nat.le_of_ble_eq_true rfl) q1632)
theorem n124_166 : Snd mt G 124 166 (oBin (fun x y => x + y) 167) := w_iadd (hm := mm124) dX1_picks_166
theorem n124_167 : Snd mt G 124 167 (oIload 6 169) := w_iload (hm := mm124) dX1_picks_167
theorem n124_169 : Snd mt G 124 169 (oCmpGt 226 172) := w_icmp_gt (hm := mm124) dX1_picks_169 rfl
theorem n124_172 : Snd mt G 124 172 (oAload 0 173) := w_aload_n (hm := mm124) dX1_picks_172
theorem n124_173 : Snd mt G 124 173 (oAload 1 174) := w_aload_n (hm := mm124) dX1_picks_173
theorem n124_174 : Snd mt G 124 174 (oIload 7 176) := w_iload (hm := mm124) dX1_picks_174
theorem n124_176 : Snd mt G 124 176 (oIload 3 177) := w_iload_n (hm := mm124) dX1_picks_176
theorem n124_177 : Snd mt G 124 177 (oCall 4 (fV [1] 125 5) 0 180 xOut) := s_callV (m' := 125) (n := 3) xsh_out (w_xok0 mm124) (w_cal mm124 mm125 pn_X1 (Nat.le_of_ble_eq_true rfl) (Nat.le_of_ble_eq_true rfl)) (fun h b as hc hn => w_run_V (ci := 0) mm124 mm125 dX1_picks_177 (Or.inl (List.mem_singleton.mp hc)) (Nat.le_of_ble_eq_true rfl) vc_0 rfl q1961 q1963 qs53 q129 q1964 pa125 hn)
theorem n124_180 : Snd mt G 124 180 (oIfEq 186 183) := w_if_eq (hm := mm124) dX1_picks_180 rfl
theorem n124_183 : Snd mt G 124 183 (oGoto 226) := w_goto (hm := mm124) dX1_picks_183 rfl
theorem n124_186 : Snd mt G 124 186 (oAload 0 187) := w_aload_n (hm := mm124) dX1_picks_186
theorem n124_187 : Snd mt G 124 187 (oGetf [1] 10 190) := w_getf (hm := mm124) dX1_picks_187 (fok1 (k := 10) (T := TX1) 0 (Nat.le_of_ble_eq_true rfl) vc_0 (Nat.le_of_ble_eq_true rfl) q633)
theorem n124_190 : Snd mt G 124 190 (oIload 3 191) := w_iload_n (hm := mm124) dX1_picks_190
theorem n124_191 : Snd mt G 124 191 (oIload 7 193) := w_iload (hm := mm124) dX1_picks_191
theorem n124_193 : Snd mt G 124 193 (oIast [100] 194) := w_iastore (hm := mm124) (kt := 0) dX1_picks_193 at_0 (Nat.le_of_ble_eq_true rfl) (List.forall_mem_cons.mpr ⟨rfl, (fun t ht => nomatch ht)⟩)
theorem n124_194 : Snd mt G 124 194 (oAload 0 195) := w_aload_n (hm := mm124) dX1_picks_194
theorem n124_195 : Snd mt G 124 195 (oAload 1 196) := w_aload_n (hm := mm124) dX1_picks_195
theorem n124_196 : Snd mt G 124 196 (oIload 2 197) := w_iload_n (hm := mm124) dX1_picks_196
theorem n124_197 : Snd mt G 124 197 (oIload 3 198) := w_iload_n (hm := mm124) dX1_picks_197
theorem n124_198 : Snd mt G 124 198 (oConst (.int 1) 199) := w_iconst (hm := mm124) dX1_picks_198 rfl
theorem n124_199 : Snd mt G 124 199 (oBin (fun x y => x + y) 200) := w_iadd (hm := mm124) dX1_picks_199
theorem n124_200 : Snd mt G 124 200 (oIload 4 202) := w_iload (hm := mm124) dX1_picks_200
theorem n124_202 : Snd mt G 124 202 (oAload 8 204) := w_aload (hm := mm124) dX1_picks_202
theorem n124_204 : Snd mt G 124 204 (oGetf [18] 3 207) := w_getfN (hm := mm124) dX1_picks_204 (fokn1 (k := 3) (T := TX19) 17 (Nat.le_of_ble_eq_true rfl) vc_17 (Nat.le_of_ble_eq_true rfl) q1636)
theorem n124_207 : Snd mt G 124 207 (oAload 1 208) := w_aload_n (hm := mm124) dX1_picks_207
theorem n124_208 : Snd mt G 124 208 (oGetf [19] 1 211) := w_getfN (hm := mm124) dX1_picks_208 (fokn1 (k := 1) (T := TX20) 18 (Nat.le_of_ble_eq_true rfl) vc_18 (Nat.le_of_ble_eq_true rfl) q1069)
theorem n124_211 : Snd mt G 124 211 (oAld [100] 212) := w_iaload (hm := mm124) (kt := 0) dX1_picks_211 at_0 (Nat.le_of_ble_eq_true rfl) (List.forall_mem_cons.mpr ⟨Or.inl rfl, (fun t ht => nomatch ht)⟩)
theorem n124_212 : Snd mt G 124 212 (oBin (fun x y => x + y) 213) := w_iadd (hm := mm124) dX1_picks_212
theorem n124_213 : Snd mt G 124 213 (oIload 5 215) := w_iload (hm := mm124) dX1_picks_213
theorem n124_215 : Snd mt G 124 215 (oAload 8 217) := w_aload (hm := mm124) dX1_picks_215
theorem n124_217 : Snd mt G 124 217 (oGetf [18] 1 220) := w_getfN (hm := mm124) dX1_picks_217 (fokn1 (k := 1) (T := TX19) 17 (Nat.le_of_ble_eq_true rfl) vc_17 (Nat.le_of_ble_eq_true rfl) q1632)
theorem n124_220 : Snd mt G 124 220 (oBin (fun x y => x + y) 221) := w_iadd (hm := mm124) dX1_picks_220
theorem n124_221 : Snd mt G 124 221 (oIload 6 223) := w_iload (hm := mm124) dX1_picks_221
theorem n124_223 : Snd mt G 124 223 (oCall 7 (fV [1] 124 9) 1 226 xOut) := s_callV (m' := 124) (n := 6) xsh_out (w_xok0 mm124) (w_cal mm124 mm124 pn_X1 (Nat.le_of_ble_eq_true rfl) (Nat.le_of_ble_eq_true rfl)) (fun h b as hc hn => w_run_V (ci := 0) mm124 mm124 dX1_picks_223 (Or.inl (List.mem_singleton.mp hc)) (Nat.le_of_ble_eq_true rfl) vc_0 rfl q1957 q1959 qs52 q129 q1960 pa124 hn)
theorem n124_226 : Snd mt G 124 226 (oIinc 7 1 229) := w_iinc (hm := mm124) dX1_picks_226 rfl (Nat.le_of_ble_eq_true rfl)
theorem n124_229 : Snd mt G 124 229 (oGoto 106) := w_goto (hm := mm124) dX1_picks_229 rfl
theorem n124_232 : Snd mt G 124 232 (oAload 0 233) := w_aload_n (hm := mm124) dX1_picks_232
theorem n124_233 : Snd mt G 124 233 (oGetf [1] 10 236) := w_getf (hm := mm124) dX1_picks_233 (fok1 (k := 10) (T := TX1) 0 (Nat.le_of_ble_eq_true rfl) vc_0 (Nat.le_of_ble_eq_true rfl) q633)
theorem n124_236 : Snd mt G 124 236 (oIload 3 237) := w_iload_n (hm := mm124) dX1_picks_236
theorem n124_237 : Snd mt G 124 237 (oConst (.int (-1)) 238) := w_iconst (hm := mm124) dX1_picks_237 rfl
theorem n124_238 : Snd mt G 124 238 (oIast [100] 239) := w_iastore (hm := mm124) (kt := 0) dX1_picks_238 at_0 (Nat.le_of_ble_eq_true rfl) (List.forall_mem_cons.mpr ⟨rfl, (fun t ht => nomatch ht)⟩)
theorem n124_239 : Snd mt G 124 239 (oRetV) := w_vret (hm := mm124) dX1_picks_239 rfl
theorem sj124 : ∀ pc, Snd mt G 124 pc (j124 pc) := fun pc => (snd_br ((snd_br ((snd_br ((snd_br ((snd_br ((snd_br ((snd_br ((snd_lf n124_239)) ((snd_lf n124_238)))) ((snd_br ((snd_lf n124_237)) ((snd_lf n124_236)))))) ((snd_br ((snd_br ((snd_lf n124_233)) ((snd_lf n124_232)))) ((snd_br ((snd_lf n124_229)) ((snd_lf n124_226)))))))) ((snd_br ((snd_br ((snd_br ((snd_lf n124_223)) ((snd_lf n124_221)))) ((snd_br ((snd_lf n124_220)) ((snd_lf n124_217)))))) ((snd_br ((snd_br ((snd_lf n124_215)) ((snd_lf n124_213)))) ((snd_br ((snd_lf n124_212)) ((snd_lf n124_211)))))))))) ((snd_br ((snd_br ((snd_br ((snd_br ((snd_lf n124_208)) ((snd_lf n124_207)))) ((snd_br ((snd_lf n124_204)) ((snd_lf n124_202)))))) ((snd_br ((snd_br ((snd_lf n124_200)) ((snd_lf n124_199)))) ((snd_br ((snd_lf n124_198)) ((snd_lf n124_197)))))))) ((snd_br ((snd_br ((snd_br ((snd_lf n124_196)) ((snd_lf n124_195)))) ((snd_br ((snd_lf n124_194)) ((snd_lf n124_193)))))) ((snd_br ((snd_br ((snd_lf n124_191)) ((snd_lf n124_190)))) ((snd_br ((snd_lf n124_187)) ((snd_lf n124_186)))))))))))) ((snd_br ((snd_br ((snd_br ((snd_br ((snd_br ((snd_lf n124_183)) ((snd_lf n124_180)))) ((snd_br ((snd_lf n124_177)) ((snd_lf n124_176)))))) ((snd_br ((snd_br ((snd_lf n124_174)) ((snd_lf n124_173)))) ((snd_br ((snd_lf n124_172)) ((snd_lf n124_169)))))))) ((snd_br ((snd_br ((snd_br ((snd_lf n124_167)) ((snd_lf n124_166)))) ((snd_br ((snd_lf n124_163)) ((snd_lf n124_161)))))) ((snd_br ((snd_br ((snd_lf n124_159)) ((snd_lf n124_156)))) ((snd_br ((snd_lf n124_153)) ((snd_lf n124_152)))))))))) ((snd_br ((snd_br ((snd_br ((snd_br ((snd_lf n124_149)) ((snd_lf n124_147)))) ((snd_br ((snd_lf n124_144)) ((snd_lf n124_143)))))) ((snd_br ((snd_br ((snd_lf n124_140)) ((snd_lf n124_138)))) ((snd_br ((snd_lf n124_136)) ((snd_lf n124_133)))))))) ((snd_br ((snd_br ((snd_br ((snd_lf n124_130)) ((snd_lf n124_128)))) ((snd_br ((snd_lf n124_125)) ((snd_lf n124_122)))))) ((snd_br ((snd_br ((snd_lf n124_121)) ((snd_lf n124_118)))) ((snd_br ((snd_lf n124_115)) ((snd_lf n124_112)))))))))))))) ((snd_br ((snd_br ((snd_br ((snd_br ((snd_br ((snd_br ((snd_lf n124_109)) ((snd_lf n124_108)))) ((snd_br ((snd_lf n124_106)) ((snd_lf n124_104)))))) ((snd_br ((snd_br ((snd_lf n124_103)) ((snd_lf n124_102)))) ((snd_br ((snd_lf n124_99)) ((snd_lf n124_97)))))))) ((snd_br ((snd_br ((snd_br ((snd_lf n124_95)) ((snd_lf n124_93)))) ((snd_br ((snd_lf n124_92)) ((snd_lf n124_91)))))) ((snd_br ((snd_br ((snd_lf n124_90)) ((snd_lf n124_89)))) ((snd_br ((snd_lf n124_88)) ((snd_lf n124_87)))))))))) ((snd_br ((snd_br ((snd_br ((snd_br ((snd_lf n124_84)) ((snd_lf n124_83)))) ((snd_br ((snd_lf n124_82)) ((snd_lf n124_81)))))) ((snd_br ((snd_br ((snd_lf n124_80)) ((snd_lf n124_79)))) ((snd_br ((snd_lf n124_78)) ((snd_lf n124_77)))))))) ((snd_br ((snd_br ((snd_br ((snd_lf n124_76)) ((snd_lf n124_73)))) ((snd_br ((snd_lf n124_72)) ((snd_lf n124_71)))))) ((snd_br ((snd_br ((snd_lf n124_68)) ((snd_lf n124_67)))) ((snd_br ((snd_lf n124_66)) ((snd_lf n124_63)))))))))))) ((snd_br ((snd_br ((snd_br ((snd_br ((snd_br ((snd_lf n124_62)) ((snd_lf n124_61)))) ((snd_br ((snd_lf n124_58)) ((snd_lf n124_57)))))) ((snd_br ((snd_br ((snd_lf n124_54)) ((snd_lf n124_52)))) ((snd_br ((snd_lf n124_51)) ((snd_lf n124_48)))))))) ((snd_br ((snd_br ((snd_br ((snd_lf n124_46)) ((snd_lf n124_45)))) ((snd_br ((snd_lf n124_42)) ((snd_lf n124_41)))))) ((snd_br ((snd_br ((snd_lf n124_40)) ((snd_lf n124_39)))) ((snd_br ((snd_lf n124_36)) ((snd_lf n124_33)))))))))) ((snd_br ((snd_br ((snd_br ((snd_br ((snd_lf n124_32)) ((snd_lf n124_30)))) ((snd_br ((snd_lf n124_27)) ((snd_lf n124_24)))))) ((snd_br ((snd_br ((snd_lf n124_23)) ((snd_lf n124_21)))) ((snd_br ((snd_lf n124_18)) ((snd_lf n124_15)))))))) ((snd_br ((snd_br ((snd_br ((snd_lf n124_14)) ((snd_lf n124_12)))) ((snd_br ((snd_lf n124_9)) ((snd_lf n124_6)))))) ((snd_br ((snd_br ((snd_lf n124_5)) ((snd_lf n124_2)))) ((snd_br ((snd_lf n124_1)) ((snd_lf n124_0)))))))))))))))
end
section
variable {G : AG}
theorem n125_0 : Snd mt G 125 0 (oConst (.int 0) 1) := w_iconst (hm := mm125) dX1_goesNot_0 rfl
theorem n125_1 : Snd mt G 125 1 (oIstore 4 3) := w_istore (hm := mm125) dX1_goesNot_1 (Nat.le_of_ble_eq_true rfl)
theorem n125_3 : Snd mt G 125 3 (oIload 4 5) := w_iload (hm := mm125) dX1_goesNot_3
theorem n125_5 : Snd mt G 125 5 (oIload 3 6) := w_iload_n (hm := mm125) dX1_goesNot_5
theorem n125_6 : Snd mt G 125 6 (oCmpGe 45 9) := w_icmp_ge (hm := mm125) dX1_goesNot_6 rfl
theorem n125_9 : Snd mt G 125 9 (oAload 0 10) := w_aload_n (hm := mm125) dX1_goesNot_9
theorem n125_10 : Snd mt G 125 10 (oGetf [1] 10 13) := w_getf (hm := mm125) dX1_goesNot_10 (fok1 (k := 10) (T := TX1) 0 (Nat.le_of_ble_eq_true rfl) vc_0 (Nat.le_of_ble_eq_true rfl) q633)
theorem n125_13 : Snd mt G 125 13 (oIload 4 15) := w_iload (hm := mm125) dX1_goesNot_13
theorem n125_15 : Snd mt G 125 15 (oAld [100] 16) := w_iaload (hm := mm125) (kt := 0) dX1_goesNot_15 at_0 (Nat.le_of_ble_eq_true rfl) (List.forall_mem_cons.mpr ⟨Or.inl rfl, (fun t ht => nomatch ht)⟩)
theorem n125_16 : Snd mt G 125 16 (oConst (.int (-1)) 17) := w_iconst (hm := mm125) dX1_goesNot_16 rfl
theorem n125_17 : Snd mt G 125 17 (oCmpEq 39 20) := w_icmp_eq (hm := mm125) dX1_goesNot_17 rfl
theorem n125_20 : Snd mt G 125 20 (oAload 0 21) := w_aload_n (hm := mm125) dX1_goesNot_20
theorem n125_21 : Snd mt G 125 21 (oAload 1 22) := w_aload_n (hm := mm125) dX1_goesNot_21
theorem n125_22 : Snd mt G 125 22 (oIload 2 23) := w_iload_n (hm := mm125) dX1_goesNot_22
theorem n125_23 : Snd mt G 125 23 (oAload 0 24) := w_aload_n (hm := mm125) dX1_goesNot_23
theorem n125_24 : Snd mt G 125 24 (oGetf [1] 10 27) := w_getf (hm := mm125) dX1_goesNot_24 (fok1 (k := 10) (T := TX1) 0 (Nat.le_of_ble_eq_true rfl) vc_0 (Nat.le_of_ble_eq_true rfl) q633)
theorem n125_27 : Snd mt G 125 27 (oIload 4 29) := w_iload (hm := mm125) dX1_goesNot_27
theorem n125_29 : Snd mt G 125 29 (oAld [100] 30) := w_iaload (hm := mm125) (kt := 0) dX1_goesNot_29 at_0 (Nat.le_of_ble_eq_true rfl) (List.forall_mem_cons.mpr ⟨Or.inl rfl, (fun t ht => nomatch ht)⟩)
theorem n125_30 : Snd mt G 125 30 (oCall 4 (fV [1] 104 5) 0 33 xOut) := s_callV (m' := 104) (n := 3) xsh_out (w_xok0 mm125) (w_cal mm125 mm104 pn_X1 (Nat.le_of_ble_eq_true rfl) (Nat.le_of_ble_eq_true rfl)) (fun h b as hc hn => w_run_V (ci := 0) mm125 mm104 dX1_goesNot_30 (Or.inl (List.mem_singleton.mp hc)) (Nat.le_of_ble_eq_true rfl) vc_0 rfl q1782 q1784 qs44 q129 q1785 pa104 hn)
theorem n125_33 : Snd mt G 125 33 (oConst (.int (-1)) 34) := w_iconst (hm := mm125) dX1_goesNot_33 rfl
theorem n125_34 : Snd mt G 125 34 (oCmpEq 39 37) := w_icmp_eq (hm := mm125) dX1_goesNot_34 rfl
theorem n125_37 : Snd mt G 125 37 (oConst (.int 1) 38) := w_iconst (hm := mm125) dX1_goesNot_37 rfl
theorem n125_38 : Snd mt G 125 38 (oRetI .boolean) := w_zret (hm := mm125) dX1_goesNot_38 rfl
theorem n125_39 : Snd mt G 125 39 (oIinc 4 1 42) := w_iinc (hm := mm125) dX1_goesNot_39 rfl (Nat.le_of_ble_eq_true rfl)
theorem n125_42 : Snd mt G 125 42 (oGoto 3) := w_goto (hm := mm125) dX1_goesNot_42 rfl
theorem n125_45 : Snd mt G 125 45 (oConst (.int 0) 46) := w_iconst (hm := mm125) dX1_goesNot_45 rfl
theorem n125_46 : Snd mt G 125 46 (oRetI .boolean) := w_zret (hm := mm125) dX1_goesNot_46 rfl
theorem sj125 : ∀ pc, Snd mt G 125 pc (j125 pc) := fun pc => (snd_br ((snd_br ((snd_br ((snd_br ((snd_br ((snd_lf n125_46)) ((snd_lf n125_45)))) ((snd_br ((snd_lf n125_42)) ((snd_lf n125_39)))))) ((snd_br ((snd_br ((snd_lf n125_38)) ((snd_lf n125_37)))) ((snd_lf n125_34)))))) ((snd_br ((snd_br ((snd_br ((snd_lf n125_33)) ((snd_lf n125_30)))) ((snd_br ((snd_lf n125_29)) ((snd_lf n125_27)))))) ((snd_br ((snd_br ((snd_lf n125_24)) ((snd_lf n125_23)))) ((snd_lf n125_22)))))))) ((snd_br ((snd_br ((snd_br ((snd_br ((snd_lf n125_21)) ((snd_lf n125_20)))) ((snd_br ((snd_lf n125_17)) ((snd_lf n125_16)))))) ((snd_br ((snd_br ((snd_lf n125_15)) ((snd_lf n125_13)))) ((snd_lf n125_10)))))) ((snd_br ((snd_br ((snd_br ((snd_lf n125_9)) ((snd_lf n125_6)))) ((snd_lf n125_5)))) ((snd_br ((snd_br ((snd_lf n125_3)) ((snd_lf n125_1)))) ((snd_lf n125_0)))))))))
end
section
variable {G : AG}
theorem n126_0 : Snd mt G 126 0 (oAload 0 1) := w_aload_n (hm := mm126) dX1_choose_0
theorem n126_1 : Snd mt G 126 1 (oIload 1 2) := w_iload_n (hm := mm126) dX1_choose_1
theorem n126_2 : Snd mt G 126 2 (oCall 2 (fV [1] 97 2) 0 5 xOut) := s_callV (m' := 97) (n := 1) xsh_out (w_xok0 mm126) (w_cal mm126 mm97 pn_X1 (Nat.le_of_ble_eq_true rfl) (Nat.le_of_ble_eq_true rfl)) (fun h b as hc hn => w_run_V (ci := 0) mm126 mm97 dX1_choose_2 (Or.inl (List.mem_singleton.mp hc)) (Nat.le_of_ble_eq_true rfl) vc_0 rfl q1688 q1690 qs41 q129 q1691 pa97 hn)
theorem n126_5 : Snd mt G 126 5 (oAstore 3 6) := w_astore_n (hm := mm126) dX1_choose_5 (Nat.le_of_ble_eq_true rfl)
theorem n126_6 : Snd mt G 126 6 (oIload 2 7) := w_iload_n (hm := mm126) dX1_choose_6
theorem n126_7 : Snd mt G 126 7 (oIfEq 15 10) := w_if_eq (hm := mm126) dX1_choose_7 rfl
theorem n126_10 : Snd mt G 126 10 (oIload 2 11) := w_iload_n (hm := mm126) dX1_choose_10
theorem n126_11 : Snd mt G 126 11 (oConst (.int 1) 12) := w_iconst (hm := mm126) dX1_choose_11 rfl
theorem n126_12 : Snd mt G 126 12 (oCmpEq 15 19) := w_icmp_ne (hm := mm126) dX1_choose_12 rfl
theorem n126_15 : Snd mt G 126 15 (oConst (.int 1) 16) := w_iconst (hm := mm126) dX1_choose_15 rfl
theorem n126_16 : Snd mt G 126 16 (oGoto 20) := w_goto (hm := mm126) dX1_choose_16 rfl
theorem n126_19 : Snd mt G 126 19 (oConst (.int 0) 20) := w_iconst (hm := mm126) dX1_choose_19 rfl
theorem n126_20 : Snd mt G 126 20 (oCall 1 (fS 89 1) 0 23 xOut) := s_callS (m' := 89) (n := 1) xsh_out (w_xok0 mm126) (w_cal mm126 mm89 pn_X1 (Nat.le_of_ble_eq_true rfl) (Nat.le_of_ble_eq_true rfl)) (fun h as hn => w_run_S mm126 mm89 dX1_choose_20 q1180 q1181 q129 q1182 pa89 hn)
theorem n126_23 : Snd mt G 126 23 (oAload 0 24) := w_aload_n (hm := mm126) dX1_choose_23
theorem n126_24 : Snd mt G 126 24 (oAload 3 25) := w_aload_n (hm := mm126) dX1_choose_24
theorem n126_25 : Snd mt G 126 25 (oCall 2 (fV [1] 123 3) 0 28 xOut) := s_callV (m' := 123) (n := 1) xsh_out (w_xok0 mm126) (w_cal mm126 mm123 pn_X1 (Nat.le_of_ble_eq_true rfl) (Nat.le_of_ble_eq_true rfl)) (fun h b as hc hn => w_run_V (ci := 0) mm126 mm123 dX1_choose_25 (Or.inl (List.mem_singleton.mp hc)) (Nat.le_of_ble_eq_true rfl) vc_0 rfl q1953 q1955 qs51 q129 q1956 pa123 hn)
theorem n126_28 : Snd mt G 126 28 (oIfEq 31 36) := w_if_ne (hm := mm126) dX1_choose_28 rfl
theorem n126_31 : Snd mt G 126 31 (oConst (.int (-2)) 33) := w_bipush (hm := mm126) dX1_choose_31 (by decide)
theorem n126_33 : Snd mt G 126 33 (oGoto 51) := w_goto (hm := mm126) dX1_choose_33 rfl
theorem n126_36 : Snd mt G 126 36 (oIload 2 37) := w_iload_n (hm := mm126) dX1_choose_36
theorem n126_37 : Snd mt G 126 37 (oIfEq 40 47) := w_if_ne (hm := mm126) dX1_choose_37 rfl
theorem n126_40 : Snd mt G 126 40 (oAload 0 41) := w_aload_n (hm := mm126) dX1_choose_40
theorem n126_41 : Snd mt G 126 41 (oGetf [1] 12 44) := w_getf (hm := mm126) dX1_choose_41 (fok1 (k := 12) (T := TX1) 0 (Nat.le_of_ble_eq_true rfl) vc_0 (Nat.le_of_ble_eq_true rfl) q635)
theorem n126_44 : Snd mt G 126 44 (oGoto 51) := w_goto (hm := mm126) dX1_choose_44 rfl
theorem n126_47 : Snd mt G 126 47 (oAload 0 48) := w_aload_n (hm := mm126) dX1_choose_47
theorem n126_48 : Snd mt G 126 48 (oGetf [1] 13 51) := w_getf (hm := mm126) dX1_choose_48 (fok1 (k := 13) (T := TX1) 0 (Nat.le_of_ble_eq_true rfl) vc_0 (Nat.le_of_ble_eq_true rfl) q636)
theorem n126_51 : Snd mt G 126 51 (oRetI .int) := w_iret (hm := mm126) dX1_choose_51 rfl
theorem sj126 : ∀ pc, Snd mt G 126 pc (j126 pc) := fun pc => (snd_br ((snd_br ((snd_br ((snd_br ((snd_br ((snd_lf n126_51)) ((snd_lf n126_48)))) ((snd_br ((snd_lf n126_47)) ((snd_lf n126_44)))))) ((snd_br ((snd_br ((snd_lf n126_41)) ((snd_lf n126_40)))) ((snd_lf n126_37)))))) ((snd_br ((snd_br ((snd_br ((snd_lf n126_36)) ((snd_lf n126_33)))) ((snd_br ((snd_lf n126_31)) ((snd_lf n126_28)))))) ((snd_br ((snd_br ((snd_lf n126_25)) ((snd_lf n126_24)))) ((snd_lf n126_23)))))))) ((snd_br ((snd_br ((snd_br ((snd_br ((snd_lf n126_20)) ((snd_lf n126_19)))) ((snd_br ((snd_lf n126_16)) ((snd_lf n126_15)))))) ((snd_br ((snd_br ((snd_lf n126_12)) ((snd_lf n126_11)))) ((snd_lf n126_10)))))) ((snd_br ((snd_br ((snd_br ((snd_lf n126_7)) ((snd_lf n126_6)))) ((snd_lf n126_5)))) ((snd_br ((snd_br ((snd_lf n126_2)) ((snd_lf n126_1)))) ((snd_lf n126_0)))))))))
end
section
variable {G : AG}
theorem n127_0 : Snd mt G 127 0 (oAload 0 1) := w_aload_n (hm := mm127) dX1_clause_0
theorem n127_1 : Snd mt G 127 1 (oIload 1 2) := w_iload_n (hm := mm127) dX1_clause_1
theorem n127_2 : Snd mt G 127 2 (oCall 2 (fV [1] 97 2) 0 5 xOut) := s_callV (m' := 97) (n := 1) xsh_out (w_xok0 mm127) (w_cal mm127 mm97 pn_X1 (Nat.le_of_ble_eq_true rfl) (Nat.le_of_ble_eq_true rfl)) (fun h b as hc hn => w_run_V (ci := 0) mm127 mm97 dX1_clause_2 (Or.inl (List.mem_singleton.mp hc)) (Nat.le_of_ble_eq_true rfl) vc_0 rfl q1688 q1690 qs41 q129 q1691 pa97 hn)
theorem n127_5 : Snd mt G 127 5 (oAstore 3 6) := w_astore_n (hm := mm127) dX1_clause_5 (Nat.le_of_ble_eq_true rfl)
theorem n127_6 : Snd mt G 127 6 (oIload 2 7) := w_iload_n (hm := mm127) dX1_clause_6
theorem n127_7 : Snd mt G 127 7 (oIfLt 21 10) := w_if_lt (hm := mm127) dX1_clause_7 rfl
theorem n127_10 : Snd mt G 127 10 (oIload 2 11) := w_iload_n (hm := mm127) dX1_clause_10
theorem n127_11 : Snd mt G 127 11 (oConst (.int 4096) 14) := w_sipush (hm := mm127) dX1_clause_11 (by decide)
theorem n127_14 : Snd mt G 127 14 (oCmpGe 21 17) := w_icmp_ge (hm := mm127) dX1_clause_14 rfl
theorem n127_17 : Snd mt G 127 17 (oConst (.int 1) 18) := w_iconst (hm := mm127) dX1_clause_17 rfl
theorem n127_18 : Snd mt G 127 18 (oGoto 22) := w_goto (hm := mm127) dX1_clause_18 rfl
theorem n127_21 : Snd mt G 127 21 (oConst (.int 0) 22) := w_iconst (hm := mm127) dX1_clause_21 rfl
theorem n127_22 : Snd mt G 127 22 (oCall 1 (fS 89 1) 0 25 xOut) := s_callS (m' := 89) (n := 1) xsh_out (w_xok0 mm127) (w_cal mm127 mm89 pn_X1 (Nat.le_of_ble_eq_true rfl) (Nat.le_of_ble_eq_true rfl)) (fun h as hn => w_run_S mm127 mm89 dX1_clause_22 q1180 q1181 q129 q1182 pa89 hn)
theorem n127_25 : Snd mt G 127 25 (oConst (.int (-1)) 26) := w_iconst (hm := mm127) dX1_clause_25 rfl
theorem n127_26 : Snd mt G 127 26 (oIstore 4 28) := w_istore (hm := mm127) dX1_clause_26 (Nat.le_of_ble_eq_true rfl)
theorem n127_28 : Snd mt G 127 28 (oConst (.int 0) 29) := w_iconst (hm := mm127) dX1_clause_28 rfl
theorem n127_29 : Snd mt G 127 29 (oIstore 5 31) := w_istore (hm := mm127) dX1_clause_29 (Nat.le_of_ble_eq_true rfl)
theorem n127_31 : Snd mt G 127 31 (oIload 5 33) := w_iload (hm := mm127) dX1_clause_31
theorem n127_33 : Snd mt G 127 33 (oConst (.int 12) 35) := w_bipush (hm := mm127) dX1_clause_33 (by decide)
theorem n127_35 : Snd mt G 127 35 (oCmpGe 118 38) := w_icmp_ge (hm := mm127) dX1_clause_35 rfl
theorem n127_38 : Snd mt G 127 38 (oIload 5 40) := w_iload (hm := mm127) dX1_clause_38
theorem n127_40 : Snd mt G 127 40 (oConst (.int 1) 41) := w_iconst (hm := mm127) dX1_clause_40 rfl
theorem n127_41 : Snd mt G 127 41 (oBin (fun x y => x + y) 42) := w_iadd (hm := mm127) dX1_clause_41
theorem n127_42 : Snd mt G 127 42 (oIstore 6 44) := w_istore (hm := mm127) dX1_clause_42 (Nat.le_of_ble_eq_true rfl)
theorem n127_44 : Snd mt G 127 44 (oIload 6 46) := w_iload (hm := mm127) dX1_clause_44
theorem n127_46 : Snd mt G 127 46 (oConst (.int 12) 48) := w_bipush (hm := mm127) dX1_clause_46 (by decide)
theorem n127_48 : Snd mt G 127 48 (oCmpGe 112 51) := w_icmp_ge (hm := mm127) dX1_clause_48 rfl
theorem n127_51 : Snd mt G 127 51 (oIload 2 52) := w_iload_n (hm := mm127) dX1_clause_51
theorem n127_52 : Snd mt G 127 52 (oIload 5 54) := w_iload (hm := mm127) dX1_clause_52
theorem n127_54 : Snd mt G 127 54 (oBin (fun x y => x >>> (y &&& 31)) 55) := w_ishr (hm := mm127) dX1_clause_54
theorem n127_55 : Snd mt G 127 55 (oConst (.int 1) 56) := w_iconst (hm := mm127) dX1_clause_55 rfl
theorem n127_56 : Snd mt G 127 56 (oBin (fun x y => x &&& y) 57) := w_iand (hm := mm127) dX1_clause_56
theorem n127_57 : Snd mt G 127 57 (oIfEq 106 60) := w_if_eq (hm := mm127) dX1_clause_57 rfl
theorem n127_60 : Snd mt G 127 60 (oIload 2 61) := w_iload_n (hm := mm127) dX1_clause_60
theorem n127_61 : Snd mt G 127 61 (oIload 6 63) := w_iload (hm := mm127) dX1_clause_61
theorem n127_63 : Snd mt G 127 63 (oBin (fun x y => x >>> (y &&& 31)) 64) := w_ishr (hm := mm127) dX1_clause_63
theorem n127_64 : Snd mt G 127 64 (oConst (.int 1) 65) := w_iconst (hm := mm127) dX1_clause_64 rfl
theorem n127_65 : Snd mt G 127 65 (oBin (fun x y => x &&& y) 66) := w_iand (hm := mm127) dX1_clause_65
theorem n127_66 : Snd mt G 127 66 (oIfEq 69 72) := w_if_ne (hm := mm127) dX1_clause_66 rfl
theorem n127_69 : Snd mt G 127 69 (oGoto 106) := w_goto (hm := mm127) dX1_clause_69 rfl
theorem n127_72 : Snd mt G 127 72 (oAload 0 73) := w_aload_n (hm := mm127) dX1_clause_72
theorem n127_73 : Snd mt G 127 73 (oAload 3 74) := w_aload_n (hm := mm127) dX1_clause_73
theorem n127_74 : Snd mt G 127 74 (oIload 5 76) := w_iload (hm := mm127) dX1_clause_74
theorem n127_76 : Snd mt G 127 76 (oIload 6 78) := w_iload (hm := mm127) dX1_clause_76
theorem n127_78 : Snd mt G 127 78 (oCall 4 (fV [1] 104 5) 0 81 xOut) := s_callV (m' := 104) (n := 3) xsh_out (w_xok0 mm127) (w_cal mm127 mm104 pn_X1 (Nat.le_of_ble_eq_true rfl) (Nat.le_of_ble_eq_true rfl)) (fun h b as hc hn => w_run_V (ci := 0) mm127 mm104 dX1_clause_78 (Or.inl (List.mem_singleton.mp hc)) (Nat.le_of_ble_eq_true rfl) vc_0 rfl q1782 q1784 qs44 q129 q1785 pa104 hn)
theorem n127_81 : Snd mt G 127 81 (oIstore 7 83) := w_istore (hm := mm127) dX1_clause_81 (Nat.le_of_ble_eq_true rfl)
theorem n127_83 : Snd mt G 127 83 (oIload 7 85) := w_iload (hm := mm127) dX1_clause_83
theorem n127_85 : Snd mt G 127 85 (oConst (.int (-1)) 86) := w_iconst (hm := mm127) dX1_clause_85 rfl
theorem n127_86 : Snd mt G 127 86 (oCmpEq 106 89) := w_icmp_eq (hm := mm127) dX1_clause_86 rfl
theorem n127_89 : Snd mt G 127 89 (oIload 4 91) := w_iload (hm := mm127) dX1_clause_89
theorem n127_91 : Snd mt G 127 91 (oConst (.int (-1)) 92) := w_iconst (hm := mm127) dX1_clause_91 rfl
theorem n127_92 : Snd mt G 127 92 (oCmpEq 102 95) := w_icmp_eq (hm := mm127) dX1_clause_92 rfl
theorem n127_95 : Snd mt G 127 95 (oIload 7 97) := w_iload (hm := mm127) dX1_clause_95
theorem n127_97 : Snd mt G 127 97 (oIload 4 99) := w_iload (hm := mm127) dX1_clause_97
theorem n127_99 : Snd mt G 127 99 (oCmpGe 106 102) := w_icmp_ge (hm := mm127) dX1_clause_99 rfl
theorem n127_102 : Snd mt G 127 102 (oIload 7 104) := w_iload (hm := mm127) dX1_clause_102
theorem n127_104 : Snd mt G 127 104 (oIstore 4 106) := w_istore (hm := mm127) dX1_clause_104 (Nat.le_of_ble_eq_true rfl)
theorem n127_106 : Snd mt G 127 106 (oIinc 6 1 109) := w_iinc (hm := mm127) dX1_clause_106 rfl (Nat.le_of_ble_eq_true rfl)
theorem n127_109 : Snd mt G 127 109 (oGoto 44) := w_goto (hm := mm127) dX1_clause_109 rfl
theorem n127_112 : Snd mt G 127 112 (oIinc 5 1 115) := w_iinc (hm := mm127) dX1_clause_112 rfl (Nat.le_of_ble_eq_true rfl)
theorem n127_115 : Snd mt G 127 115 (oGoto 31) := w_goto (hm := mm127) dX1_clause_115 rfl
theorem n127_118 : Snd mt G 127 118 (oIload 4 120) := w_iload (hm := mm127) dX1_clause_118
theorem n127_120 : Snd mt G 127 120 (oRetI .int) := w_iret (hm := mm127) dX1_clause_120 rfl
theorem sj127 : ∀ pc, Snd mt G 127 pc (j127 pc) := fun pc => (snd_br ((snd_br ((snd_br ((snd_br ((snd_br ((snd_br ((snd_lf n127_120)) ((snd_lf n127_118)))) ((snd_br ((snd_lf n127_115)) ((snd_lf n127_112)))))) ((snd_br ((snd_br ((snd_lf n127_109)) ((snd_lf n127_106)))) ((snd_br ((snd_lf n127_104)) ((snd_lf n127_102)))))))) ((snd_br ((snd_br ((snd_br ((snd_lf n127_99)) ((snd_lf n127_97)))) ((snd_br ((snd_lf n127_95)) ((snd_lf n127_92)))))) ((snd_br ((snd_br ((snd_lf n127_91)) ((snd_lf n127_89)))) ((snd_br ((snd_lf n127_86)) ((snd_lf n127_85)))))))))) ((snd_br ((snd_br ((snd_br ((snd_br ((snd_lf n127_83)) ((snd_lf n127_81)))) ((snd_br ((snd_lf n127_78)) ((snd_lf n127_76)))))) ((snd_br ((snd_br ((snd_lf n127_74)) ((snd_lf n127_73)))) ((snd_br ((snd_lf n127_72)) ((snd_lf n127_69)))))))) ((snd_br ((snd_br ((snd_br ((snd_lf n127_66)) ((snd_lf n127_65)))) ((snd_br ((snd_lf n127_64)) ((snd_lf n127_63)))))) ((snd_br ((snd_br ((snd_lf n127_61)) ((snd_lf n127_60)))) ((snd_br ((snd_lf n127_57)) ((snd_lf n127_56)))))))))))) ((snd_br ((snd_br ((snd_br ((snd_br ((snd_br ((snd_lf n127_55)) ((snd_lf n127_54)))) ((snd_br ((snd_lf n127_52)) ((snd_lf n127_51)))))) ((snd_br ((snd_br ((snd_lf n127_48)) ((snd_lf n127_46)))) ((snd_br ((snd_lf n127_44)) ((snd_lf n127_42)))))))) ((snd_br ((snd_br ((snd_br ((snd_lf n127_41)) ((snd_lf n127_40)))) ((snd_br ((snd_lf n127_38)) ((snd_lf n127_35)))))) ((snd_br ((snd_br ((snd_lf n127_33)) ((snd_lf n127_31)))) ((snd_br ((snd_lf n127_29)) ((snd_lf n127_28)))))))))) ((snd_br ((snd_br ((snd_br ((snd_br ((snd_lf n127_26)) ((snd_lf n127_25)))) ((snd_br ((snd_lf n127_22)) ((snd_lf n127_21)))))) ((snd_br ((snd_br ((snd_lf n127_18)) ((snd_lf n127_17)))) ((snd_br ((snd_lf n127_14)) ((snd_lf n127_11)))))))) ((snd_br ((snd_br ((snd_br ((snd_lf n127_10)) ((snd_lf n127_7)))) ((snd_br ((snd_lf n127_6)) ((snd_lf n127_5)))))) ((snd_br ((snd_br ((snd_lf n127_2)) ((snd_lf n127_1)))) ((snd_lf n127_0)))))))))))
end
section
variable {G : AG}
theorem n128_0 : Snd mt G 128 0 (oAload 0 1) := w_aload_n (hm := mm128) dX1_job_0
theorem n128_1 : Snd mt G 128 1 (oIload 1 2) := w_iload_n (hm := mm128) dX1_job_1
theorem n128_2 : Snd mt G 128 2 (oCall 2 (fV [1] 97 2) 0 5 xOut) := s_callV (m' := 97) (n := 1) xsh_out (w_xok0 mm128) (w_cal mm128 mm97 pn_X1 (Nat.le_of_ble_eq_true rfl) (Nat.le_of_ble_eq_true rfl)) (fun h b as hc hn => w_run_V (ci := 0) mm128 mm97 dX1_job_2 (Or.inl (List.mem_singleton.mp hc)) (Nat.le_of_ble_eq_true rfl) vc_0 rfl q1688 q1690 qs41 q129 q1691 pa97 hn)
theorem n128_5 : Snd mt G 128 5 (oPop 6) := w_pop (hm := mm128) dX1_job_5
theorem n128_6 : Snd mt G 128 6 (oIload 2 7) := w_iload_n (hm := mm128) dX1_job_6
theorem n128_7 : Snd mt G 128 7 (oConst (.int 1) 8) := w_iconst (hm := mm128) dX1_job_7 rfl
theorem n128_8 : Snd mt G 128 8 (oCmpLt 44 11) := w_icmp_lt (hm := mm128) dX1_job_8 rfl
theorem n128_11 : Snd mt G 128 11 (oIload 2 12) := w_iload_n (hm := mm128) dX1_job_11
theorem n128_12 : Snd mt G 128 12 (oConst (.int 99) 14) := w_bipush (hm := mm128) dX1_job_12 (by decide)
theorem n128_14 : Snd mt G 128 14 (oCmpGt 44 17) := w_icmp_gt (hm := mm128) dX1_job_14 rfl
theorem n128_17 : Snd mt G 128 17 (oIload 3 18) := w_iload_n (hm := mm128) dX1_job_17
theorem n128_18 : Snd mt G 128 18 (oIfLt 44 21) := w_if_lt (hm := mm128) dX1_job_18 rfl
theorem n128_21 : Snd mt G 128 21 (oIload 3 22) := w_iload_n (hm := mm128) dX1_job_21
theorem n128_22 : Snd mt G 128 22 (oConst (.int 99) 24) := w_bipush (hm := mm128) dX1_job_22 (by decide)
theorem n128_24 : Snd mt G 128 24 (oCmpGt 44 27) := w_icmp_gt (hm := mm128) dX1_job_24 rfl
theorem n128_27 : Snd mt G 128 27 (oIload 4 29) := w_iload (hm := mm128) dX1_job_27
theorem n128_29 : Snd mt G 128 29 (oIfLt 44 32) := w_if_lt (hm := mm128) dX1_job_29 rfl
theorem n128_32 : Snd mt G 128 32 (oIload 4 34) := w_iload (hm := mm128) dX1_job_32
theorem n128_34 : Snd mt G 128 34 (oConst (.int 999) 37) := w_sipush (hm := mm128) dX1_job_34 (by decide)
theorem n128_37 : Snd mt G 128 37 (oCmpGt 44 40) := w_icmp_gt (hm := mm128) dX1_job_37 rfl
theorem n128_40 : Snd mt G 128 40 (oConst (.int 1) 41) := w_iconst (hm := mm128) dX1_job_40 rfl
theorem n128_41 : Snd mt G 128 41 (oGoto 45) := w_goto (hm := mm128) dX1_job_41 rfl
theorem n128_44 : Snd mt G 128 44 (oConst (.int 0) 45) := w_iconst (hm := mm128) dX1_job_44 rfl
theorem n128_45 : Snd mt G 128 45 (oCall 1 (fS 89 1) 0 48 xOut) := s_callS (m' := 89) (n := 1) xsh_out (w_xok0 mm128) (w_cal mm128 mm89 pn_X1 (Nat.le_of_ble_eq_true rfl) (Nat.le_of_ble_eq_true rfl)) (fun h as hn => w_run_S mm128 mm89 dX1_job_45 q1180 q1181 q129 q1182 pa89 hn)
theorem n128_48 : Snd mt G 128 48 (oAload 0 49) := w_aload_n (hm := mm128) dX1_job_48
theorem n128_49 : Snd mt G 128 49 (oGetf [1] 0 52) := w_getf (hm := mm128) dX1_job_49 (fok1 (k := 0) (T := TX1) 0 (Nat.le_of_ble_eq_true rfl) vc_0 (Nat.le_of_ble_eq_true rfl) q623)
theorem n128_52 : Snd mt G 128 52 (oGetf [2] 2 55) := w_getfN (hm := mm128) dX1_job_52 (fokn1 (k := 2) (T := TX2) 1 (Nat.le_of_ble_eq_true rfl) vc_1 (Nat.le_of_ble_eq_true rfl) q547)
theorem n128_55 : Snd mt G 128 55 (oCall 1 (fV [3] 175 1) 0 58 xOut) := s_callV (m' := 175) (n := 0) xsh_out (w_xok0 mm128) (w_cal mm128 mm175 pn_J2 (Nat.le_of_ble_eq_true rfl) (Nat.le_of_ble_eq_true rfl)) (fun h b as hc hn => w_run_V (ci := 2) mm128 mm175 dX1_job_55 (Or.inl (List.mem_singleton.mp hc)) (Nat.le_of_ble_eq_true rfl) vc_2 rfl q709 q710 q711 q133 q712 pa175 hn)
theorem n128_58 : Snd mt G 128 58 (oConst (.int 7) 60) := w_bipush (hm := mm128) dX1_job_58 (by decide)
theorem n128_60 : Snd mt G 128 60 (oCmpEq 63 65) := w_icmp_ne (hm := mm128) dX1_job_60 rfl
theorem n128_63 : Snd mt G 128 63 (oConst (.int (-1)) 64) := w_iconst (hm := mm128) dX1_job_63 rfl
theorem n128_64 : Snd mt G 128 64 (oRetI .int) := w_iret (hm := mm128) dX1_job_64 rfl
theorem n128_65 : Snd mt G 128 65 (oAload 0 66) := w_aload_n (hm := mm128) dX1_job_65
theorem n128_66 : Snd mt G 128 66 (oGetf [1] 0 69) := w_getf (hm := mm128) dX1_job_66 (fok1 (k := 0) (T := TX1) 0 (Nat.le_of_ble_eq_true rfl) vc_0 (Nat.le_of_ble_eq_true rfl) q623)
theorem n128_69 : Snd mt G 128 69 (oGetf [2] 2 72) := w_getfN (hm := mm128) dX1_job_69 (fokn1 (k := 2) (T := TX2) 1 (Nat.le_of_ble_eq_true rfl) vc_1 (Nat.le_of_ble_eq_true rfl) q547)
theorem n128_72 : Snd mt G 128 72 (oNew 22 4 nfX23 75) := w_new (hm := mm128) (ci := 21) (T9 := TX23) (ty := tyX23) dX1_job_72 (Nat.le_of_ble_eq_true rfl) vc_21 tyX23_ok (fun _ _ => rfl) q875 q1986 q175
theorem n128_75 : Snd mt G 128 75 (oDup 76) := w_dup (hm := mm128) dX1_job_75
theorem n128_76 : Snd mt G 128 76 (oIload 1 77) := w_iload_n (hm := mm128) dX1_job_76
theorem n128_77 : Snd mt G 128 77 (oIload 2 78) := w_iload_n (hm := mm128) dX1_job_77
theorem n128_78 : Snd mt G 128 78 (oIload 3 79) := w_iload_n (hm := mm128) dX1_job_78
theorem n128_79 : Snd mt G 128 79 (oIload 4 81) := w_iload (hm := mm128) dX1_job_79
theorem n128_81 : Snd mt G 128 81 (oCall 5 (fI 488 5) 0 84 xOut) := s_callI (m' := 488) (n := 4) xsh_out (w_xok0 mm128) (w_cal mm128 mm488 pn_X23 (Nat.le_of_ble_eq_true rfl) (Nat.le_of_ble_eq_true rfl)) (fun h b as hn => w_run_I mm128 mm488 dX1_job_81 rfl rfl q1987 q1988 q175 q1989 pa488 hn)
theorem n128_84 : Snd mt G 128 84 (oCall 2 (fV [3] 179 2) 0 87 xOut) := s_callV (m' := 179) (n := 1) xsh_out (w_xok0 mm128) (w_cal mm128 mm179 pn_J2 (Nat.le_of_ble_eq_true rfl) (Nat.le_of_ble_eq_true rfl)) (fun h b as hc hn => w_run_V (ci := 2) mm128 mm179 dX1_job_84 (Or.inl (List.mem_singleton.mp hc)) (Nat.le_of_ble_eq_true rfl) vc_2 rfl q1605 q985 q986 q133 q987 pa179 hn)
theorem n128_87 : Snd mt G 128 87 (oPop 88) := w_pop (hm := mm128) dX1_job_87
theorem n128_88 : Snd mt G 128 88 (oAload 0 89) := w_aload_n (hm := mm128) dX1_job_88
theorem n128_89 : Snd mt G 128 89 (oGetf [1] 0 92) := w_getf (hm := mm128) dX1_job_89 (fok1 (k := 0) (T := TX1) 0 (Nat.le_of_ble_eq_true rfl) vc_0 (Nat.le_of_ble_eq_true rfl) q623)
theorem n128_92 : Snd mt G 128 92 (oGetf [2] 2 95) := w_getfN (hm := mm128) dX1_job_92 (fokn1 (k := 2) (T := TX2) 1 (Nat.le_of_ble_eq_true rfl) vc_1 (Nat.le_of_ble_eq_true rfl) q547)
theorem n128_95 : Snd mt G 128 95 (oCall 1 (fV [3] 175 1) 0 98 xOut) := s_callV (m' := 175) (n := 0) xsh_out (w_xok0 mm128) (w_cal mm128 mm175 pn_J2 (Nat.le_of_ble_eq_true rfl) (Nat.le_of_ble_eq_true rfl)) (fun h b as hc hn => w_run_V (ci := 2) mm128 mm175 dX1_job_95 (Or.inl (List.mem_singleton.mp hc)) (Nat.le_of_ble_eq_true rfl) vc_2 rfl q709 q710 q711 q133 q712 pa175 hn)
theorem n128_98 : Snd mt G 128 98 (oConst (.int 1) 99) := w_iconst (hm := mm128) dX1_job_98 rfl
theorem n128_99 : Snd mt G 128 99 (oBin (fun x y => x - y) 100) := w_isub (hm := mm128) dX1_job_99
theorem n128_100 : Snd mt G 128 100 (oRetI .int) := w_iret (hm := mm128) dX1_job_100 rfl
theorem sj128 : ∀ pc, Snd mt G 128 pc (j128 pc) := fun pc => (snd_br ((snd_br ((snd_br ((snd_br ((snd_br ((snd_br ((snd_lf n128_100)) ((snd_lf n128_99)))) ((snd_br ((snd_lf n128_98)) ((snd_lf n128_95)))))) ((snd_br ((snd_br ((snd_lf n128_92)) ((snd_lf n128_89)))) ((snd_lf n128_88)))))) ((snd_br ((snd_br ((snd_br ((snd_lf n128_87)) ((snd_lf n128_84)))) ((snd_lf n128_81)))) ((snd_br ((snd_br ((snd_lf n128_79)) ((snd_lf n128_78)))) ((snd_lf n128_77)))))))) ((snd_br ((snd_br ((snd_br ((snd_br ((snd_lf n128_76)) ((snd_lf n128_75)))) ((snd_br ((snd_lf n128_72)) ((snd_lf n128_69)))))) ((snd_br ((snd_br ((snd_lf n128_66)) ((snd_lf n128_65)))) ((snd_lf n128_64)))))) ((snd_br ((snd_br ((snd_br ((snd_lf n128_63)) ((snd_lf n128_60)))) ((snd_lf n128_58)))) ((snd_br ((snd_br ((snd_lf n128_55)) ((snd_lf n128_52)))) ((snd_lf n128_49)))))))))) ((snd_br ((snd_br ((snd_br ((snd_br ((snd_br ((snd_lf n128_48)) ((snd_lf n128_45)))) ((snd_br ((snd_lf n128_44)) ((snd_lf n128_41)))))) ((snd_br ((snd_br ((snd_lf n128_40)) ((snd_lf n128_37)))) ((snd_lf n128_34)))))) ((snd_br ((snd_br ((snd_br ((snd_lf n128_32)) ((snd_lf n128_29)))) ((snd_lf n128_27)))) ((snd_br ((snd_br ((snd_lf n128_24)) ((snd_lf n128_22)))) ((snd_lf n128_21)))))))) ((snd_br ((snd_br ((snd_br ((snd_br ((snd_lf n128_18)) ((snd_lf n128_17)))) ((snd_lf n128_14)))) ((snd_br ((snd_br ((snd_lf n128_12)) ((snd_lf n128_11)))) ((snd_lf n128_8)))))) ((snd_br ((snd_br ((snd_br ((snd_lf n128_7)) ((snd_lf n128_6)))) ((snd_lf n128_5)))) ((snd_br ((snd_br ((snd_lf n128_2)) ((snd_lf n128_1)))) ((snd_lf n128_0)))))))))))
end
section
variable {G : AG}
theorem n129_0 : Snd mt G 129 0 (oIload 1 1) := w_iload_n (hm := mm129) dX1_benches_0
theorem n129_1 : Snd mt G 129 1 (oConst (.int 1) 2) := w_iconst (hm := mm129) dX1_benches_1 rfl
theorem n129_2 : Snd mt G 129 2 (oCmpEq 10 5) := w_icmp_eq (hm := mm129) dX1_benches_2 rfl
theorem n129_5 : Snd mt G 129 5 (oIload 1 6) := w_iload_n (hm := mm129) dX1_benches_5
theorem n129_6 : Snd mt G 129 6 (oConst (.int 2) 7) := w_iconst (hm := mm129) dX1_benches_6 rfl
theorem n129_7 : Snd mt G 129 7 (oCmpEq 10 14) := w_icmp_ne (hm := mm129) dX1_benches_7 rfl
theorem n129_10 : Snd mt G 129 10 (oConst (.int 1) 11) := w_iconst (hm := mm129) dX1_benches_10 rfl
theorem n129_11 : Snd mt G 129 11 (oGoto 15) := w_goto (hm := mm129) dX1_benches_11 rfl
theorem n129_14 : Snd mt G 129 14 (oConst (.int 0) 15) := w_iconst (hm := mm129) dX1_benches_14 rfl
theorem n129_15 : Snd mt G 129 15 (oCall 1 (fS 89 1) 0 18 xOut) := s_callS (m' := 89) (n := 1) xsh_out (w_xok0 mm129) (w_cal mm129 mm89 pn_X1 (Nat.le_of_ble_eq_true rfl) (Nat.le_of_ble_eq_true rfl)) (fun h as hn => w_run_S mm129 mm89 dX1_benches_15 q1180 q1181 q129 q1182 pa89 hn)
theorem n129_18 : Snd mt G 129 18 (oAload 0 19) := w_aload_n (hm := mm129) dX1_benches_18
theorem n129_19 : Snd mt G 129 19 (oGetf [1] 0 22) := w_getf (hm := mm129) dX1_benches_19 (fok1 (k := 0) (T := TX1) 0 (Nat.le_of_ble_eq_true rfl) vc_0 (Nat.le_of_ble_eq_true rfl) q623)
theorem n129_22 : Snd mt G 129 22 (oGetf [2] 18 25) := w_getfN (hm := mm129) dX1_benches_22 (fokn1 (k := 18) (T := TX2) 1 (Nat.le_of_ble_eq_true rfl) vc_1 (Nat.le_of_ble_eq_true rfl) q579)
theorem n129_25 : Snd mt G 129 25 (oIstore 2 26) := w_istore_n (hm := mm129) dX1_benches_25 (Nat.le_of_ble_eq_true rfl)
theorem n129_26 : Snd mt G 129 26 (oAload 0 27) := w_aload_n (hm := mm129) dX1_benches_26
theorem n129_27 : Snd mt G 129 27 (oGetf [1] 0 30) := w_getf (hm := mm129) dX1_benches_27 (fok1 (k := 0) (T := TX1) 0 (Nat.le_of_ble_eq_true rfl) vc_0 (Nat.le_of_ble_eq_true rfl) q623)
theorem n129_30 : Snd mt G 129 30 (oIload 1 31) := w_iload_n (hm := mm129) dX1_benches_30
theorem n129_31 : Snd mt G 129 31 (oPutf [2] 18 .int 34) := w_putfN (hm := mm129) dX1_benches_31 (pnk1 (k := 18) (T := TX2) 1 (Nat.le_of_ble_eq_true rfl) vc_1 (Nat.le_of_ble_eq_true rfl) rfl pd_X2_18 q579)
theorem n129_34 : Snd mt G 129 34 (oIload 2 35) := w_iload_n (hm := mm129) dX1_benches_34
theorem n129_35 : Snd mt G 129 35 (oRetI .int) := w_iret (hm := mm129) dX1_benches_35 rfl
theorem sj129 : ∀ pc, Snd mt G 129 pc (j129 pc) := fun pc => (snd_br ((snd_br ((snd_br ((snd_br ((snd_br ((snd_lf n129_35)) ((snd_lf n129_34)))) ((snd_lf n129_31)))) ((snd_br ((snd_lf n129_30)) ((snd_lf n129_27)))))) ((snd_br ((snd_br ((snd_br ((snd_lf n129_26)) ((snd_lf n129_25)))) ((snd_lf n129_22)))) ((snd_br ((snd_lf n129_19)) ((snd_lf n129_18)))))))) ((snd_br ((snd_br ((snd_br ((snd_br ((snd_lf n129_15)) ((snd_lf n129_14)))) ((snd_lf n129_11)))) ((snd_br ((snd_lf n129_10)) ((snd_lf n129_7)))))) ((snd_br ((snd_br ((snd_br ((snd_lf n129_6)) ((snd_lf n129_5)))) ((snd_lf n129_2)))) ((snd_br ((snd_lf n129_1)) ((snd_lf n129_0)))))))))
end
section
variable {G : AG}
theorem n130_0 : Snd mt G 130 0 (oAload 0 1) := w_aload_n (hm := mm130) dX1_cost_0
theorem n130_1 : Snd mt G 130 1 (oGetf [1] 0 4) := w_getf (hm := mm130) dX1_cost_1 (fok1 (k := 0) (T := TX1) 0 (Nat.le_of_ble_eq_true rfl) vc_0 (Nat.le_of_ble_eq_true rfl) q623)
theorem n130_4 : Snd mt G 130 4 (oGetf [2] 2 7) := w_getfN (hm := mm130) dX1_cost_4 (fokn1 (k := 2) (T := TX2) 1 (Nat.le_of_ble_eq_true rfl) vc_1 (Nat.le_of_ble_eq_true rfl) q547)
theorem n130_7 : Snd mt G 130 7 (oCall 1 (fV [3] 175 1) 0 10 xOut) := s_callV (m' := 175) (n := 0) xsh_out (w_xok0 mm130) (w_cal mm130 mm175 pn_J2 (Nat.le_of_ble_eq_true rfl) (Nat.le_of_ble_eq_true rfl)) (fun h b as hc hn => w_run_V (ci := 2) mm130 mm175 dX1_cost_7 (Or.inl (List.mem_singleton.mp hc)) (Nat.le_of_ble_eq_true rfl) vc_2 rfl q709 q710 q711 q133 q712 pa175 hn)
theorem n130_10 : Snd mt G 130 10 (oIstore 2 11) := w_istore_n (hm := mm130) dX1_cost_10 (Nat.le_of_ble_eq_true rfl)
theorem n130_11 : Snd mt G 130 11 (oConst (.int 7) 13) := w_bipush (hm := mm130) dX1_cost_11 (by decide)
theorem n130_13 : Snd mt G 130 13 (oNewa 100 (.int 0) 15) := w_newa (hm := mm130) (kt := 0) dX1_cost_13 (Nat.le_of_ble_eq_true rfl) at_0 rfl (fun C q => nomatch q) (Nat.le_of_ble_eq_true rfl) q619
theorem n130_15 : Snd mt G 130 15 (oAstore 3 16) := w_astore_n (hm := mm130) dX1_cost_15 (Nat.le_of_ble_eq_true rfl)
theorem n130_16 : Snd mt G 130 16 (oIload 1 17) := w_iload_n (hm := mm130) dX1_cost_16
theorem n130_17 : Snd mt G 130 17 (oIstore 4 19) := w_istore (hm := mm130) dX1_cost_17 (Nat.le_of_ble_eq_true rfl)
theorem n130_19 : Snd mt G 130 19 (oConst (.int 0) 20) := w_iconst (hm := mm130) dX1_cost_19 rfl
theorem n130_20 : Snd mt G 130 20 (oIstore 5 22) := w_istore (hm := mm130) dX1_cost_20 (Nat.le_of_ble_eq_true rfl)
theorem n130_22 : Snd mt G 130 22 (oIload 2 23) := w_iload_n (hm := mm130) dX1_cost_22
theorem n130_23 : Snd mt G 130 23 (oConst (.int 1) 24) := w_iconst (hm := mm130) dX1_cost_23 rfl
theorem n130_24 : Snd mt G 130 24 (oBin (fun x y => x - y) 25) := w_isub (hm := mm130) dX1_cost_24
theorem n130_25 : Snd mt G 130 25 (oIstore 6 27) := w_istore (hm := mm130) dX1_cost_25 (Nat.le_of_ble_eq_true rfl)
theorem n130_27 : Snd mt G 130 27 (oIload 6 29) := w_iload (hm := mm130) dX1_cost_27
theorem n130_29 : Snd mt G 130 29 (oIfLt 100 32) := w_if_lt (hm := mm130) dX1_cost_29 rfl
theorem n130_32 : Snd mt G 130 32 (oAload 3 33) := w_aload_n (hm := mm130) dX1_cost_32
theorem n130_33 : Snd mt G 130 33 (oIload 6 35) := w_iload (hm := mm130) dX1_cost_33
theorem n130_35 : Snd mt G 130 35 (oIload 4 37) := w_iload (hm := mm130) dX1_cost_35
theorem n130_37 : Snd mt G 130 37 (oConst (.int 7) 39) := w_bipush (hm := mm130) dX1_cost_37 (by decide)
theorem n130_39 : Snd mt G 130 39 (oDiv (fun x y => x - x / y * y) 40) := w_irem (hm := mm130) dX1_cost_39
theorem n130_40 : Snd mt G 130 40 (oIast [100] 41) := w_iastore (hm := mm130) (kt := 0) dX1_cost_40 at_0 (Nat.le_of_ble_eq_true rfl) (List.forall_mem_cons.mpr ⟨rfl, (fun t ht => nomatch ht)⟩)
theorem n130_41 : Snd mt G 130 41 (oIload 4 43) := w_iload (hm := mm130) dX1_cost_41
theorem n130_43 : Snd mt G 130 43 (oConst (.int 7) 45) := w_bipush (hm := mm130) dX1_cost_43 (by decide)
theorem n130_45 : Snd mt G 130 45 (oDiv (fun x y => x / y) 46) := w_idiv (hm := mm130) dX1_cost_45
theorem n130_46 : Snd mt G 130 46 (oIstore 4 48) := w_istore (hm := mm130) dX1_cost_46 (Nat.le_of_ble_eq_true rfl)
theorem n130_48 : Snd mt G 130 48 (oAload 3 49) := w_aload_n (hm := mm130) dX1_cost_48
theorem n130_49 : Snd mt G 130 49 (oIload 6 51) := w_iload (hm := mm130) dX1_cost_49
theorem n130_51 : Snd mt G 130 51 (oAld [100] 52) := w_iaload (hm := mm130) (kt := 0) dX1_cost_51 at_0 (Nat.le_of_ble_eq_true rfl) (List.forall_mem_cons.mpr ⟨Or.inl rfl, (fun t ht => nomatch ht)⟩)
theorem n130_52 : Snd mt G 130 52 (oIfLt 79 55) := w_if_lt (hm := mm130) dX1_cost_52 rfl
theorem n130_55 : Snd mt G 130 55 (oAload 3 56) := w_aload_n (hm := mm130) dX1_cost_55
theorem n130_56 : Snd mt G 130 56 (oIload 6 58) := w_iload (hm := mm130) dX1_cost_56
theorem n130_58 : Snd mt G 130 58 (oAld [100] 59) := w_iaload (hm := mm130) (kt := 0) dX1_cost_58 at_0 (Nat.le_of_ble_eq_true rfl) (List.forall_mem_cons.mpr ⟨Or.inl rfl, (fun t ht => nomatch ht)⟩)
theorem n130_59 : Snd mt G 130 59 (oIload 2 60) := w_iload_n (hm := mm130) dX1_cost_59
theorem n130_60 : Snd mt G 130 60 (oCmpGe 79 63) := w_icmp_ge (hm := mm130) dX1_cost_60 rfl
theorem n130_63 : Snd mt G 130 63 (oIload 5 65) := w_iload (hm := mm130) dX1_cost_63
theorem n130_65 : Snd mt G 130 65 (oAload 3 66) := w_aload_n (hm := mm130) dX1_cost_65
theorem n130_66 : Snd mt G 130 66 (oIload 6 68) := w_iload (hm := mm130) dX1_cost_66
theorem n130_68 : Snd mt G 130 68 (oAld [100] 69) := w_iaload (hm := mm130) (kt := 0) dX1_cost_68 at_0 (Nat.le_of_ble_eq_true rfl) (List.forall_mem_cons.mpr ⟨Or.inl rfl, (fun t ht => nomatch ht)⟩)
theorem n130_69 : Snd mt G 130 69 (oBin (fun x y => x >>> (y &&& 31)) 70) := w_ishr (hm := mm130) dX1_cost_69
theorem n130_70 : Snd mt G 130 70 (oConst (.int 1) 71) := w_iconst (hm := mm130) dX1_cost_70 rfl
theorem n130_71 : Snd mt G 130 71 (oBin (fun x y => x &&& y) 72) := w_iand (hm := mm130) dX1_cost_71
theorem n130_72 : Snd mt G 130 72 (oIfEq 75 79) := w_if_ne (hm := mm130) dX1_cost_72 rfl
theorem n130_75 : Snd mt G 130 75 (oConst (.int 1) 76) := w_iconst (hm := mm130) dX1_cost_75 rfl
theorem n130_76 : Snd mt G 130 76 (oGoto 80) := w_goto (hm := mm130) dX1_cost_76 rfl
theorem n130_79 : Snd mt G 130 79 (oConst (.int 0) 80) := w_iconst (hm := mm130) dX1_cost_79 rfl
theorem n130_80 : Snd mt G 130 80 (oCall 1 (fS 89 1) 0 83 xOut) := s_callS (m' := 89) (n := 1) xsh_out (w_xok0 mm130) (w_cal mm130 mm89 pn_X1 (Nat.le_of_ble_eq_true rfl) (Nat.le_of_ble_eq_true rfl)) (fun h as hn => w_run_S mm130 mm89 dX1_cost_80 q1180 q1181 q129 q1182 pa89 hn)
theorem n130_83 : Snd mt G 130 83 (oIload 5 85) := w_iload (hm := mm130) dX1_cost_83
theorem n130_85 : Snd mt G 130 85 (oConst (.int 1) 86) := w_iconst (hm := mm130) dX1_cost_85 rfl
theorem n130_86 : Snd mt G 130 86 (oAload 3 87) := w_aload_n (hm := mm130) dX1_cost_86
theorem n130_87 : Snd mt G 130 87 (oIload 6 89) := w_iload (hm := mm130) dX1_cost_87
theorem n130_89 : Snd mt G 130 89 (oAld [100] 90) := w_iaload (hm := mm130) (kt := 0) dX1_cost_89 at_0 (Nat.le_of_ble_eq_true rfl) (List.forall_mem_cons.mpr ⟨Or.inl rfl, (fun t ht => nomatch ht)⟩)
theorem n130_90 : Snd mt G 130 90 (oBin (fun x y => x <<< (y &&& 31)) 91) := w_ishl (hm := mm130) dX1_cost_90
theorem n130_91 : Snd mt G 130 91 (oBin (fun x y => x ||| y) 92) := w_ior (hm := mm130) dX1_cost_91
theorem n130_92 : Snd mt G 130 92 (oIstore 5 94) := w_istore (hm := mm130) dX1_cost_92 (Nat.le_of_ble_eq_true rfl)
theorem n130_94 : Snd mt G 130 94 (oIinc 6 (-1) 97) := w_iinc (hm := mm130) dX1_cost_94 rfl (Nat.le_of_ble_eq_true rfl)
theorem n130_97 : Snd mt G 130 97 (oGoto 27) := w_goto (hm := mm130) dX1_cost_97 rfl
theorem n130_100 : Snd mt G 130 100 (oIload 4 102) := w_iload (hm := mm130) dX1_cost_100
theorem n130_102 : Snd mt G 130 102 (oIfEq 105 109) := w_if_ne (hm := mm130) dX1_cost_102 rfl
theorem n130_105 : Snd mt G 130 105 (oConst (.int 1) 106) := w_iconst (hm := mm130) dX1_cost_105 rfl
theorem n130_106 : Snd mt G 130 106 (oGoto 110) := w_goto (hm := mm130) dX1_cost_106 rfl
theorem n130_109 : Snd mt G 130 109 (oConst (.int 0) 110) := w_iconst (hm := mm130) dX1_cost_109 rfl
theorem n130_110 : Snd mt G 130 110 (oCall 1 (fS 89 1) 0 113 xOut) := s_callS (m' := 89) (n := 1) xsh_out (w_xok0 mm130) (w_cal mm130 mm89 pn_X1 (Nat.le_of_ble_eq_true rfl) (Nat.le_of_ble_eq_true rfl)) (fun h as hn => w_run_S mm130 mm89 dX1_cost_110 q1180 q1181 q129 q1182 pa89 hn)
theorem n130_113 : Snd mt G 130 113 (oConst (.int 0) 114) := w_iconst (hm := mm130) dX1_cost_113 rfl
theorem n130_114 : Snd mt G 130 114 (oIstore 6 116) := w_istore (hm := mm130) dX1_cost_114 (Nat.le_of_ble_eq_true rfl)
theorem n130_116 : Snd mt G 130 116 (oConst (.int 0) 117) := w_iconst (hm := mm130) dX1_cost_116 rfl
theorem n130_117 : Snd mt G 130 117 (oIstore 7 119) := w_istore (hm := mm130) dX1_cost_117 (Nat.le_of_ble_eq_true rfl)
theorem n130_119 : Snd mt G 130 119 (oIload 7 121) := w_iload (hm := mm130) dX1_cost_119
theorem n130_121 : Snd mt G 130 121 (oIload 2 122) := w_iload_n (hm := mm130) dX1_cost_121
theorem n130_122 : Snd mt G 130 122 (oCmpGe 164 125) := w_icmp_ge (hm := mm130) dX1_cost_122 rfl
theorem n130_125 : Snd mt G 130 125 (oIload 6 127) := w_iload (hm := mm130) dX1_cost_125
theorem n130_127 : Snd mt G 130 127 (oAload 0 128) := w_aload_n (hm := mm130) dX1_cost_127
theorem n130_128 : Snd mt G 130 128 (oGetf [1] 0 131) := w_getf (hm := mm130) dX1_cost_128 (fok1 (k := 0) (T := TX1) 0 (Nat.le_of_ble_eq_true rfl) vc_0 (Nat.le_of_ble_eq_true rfl) q623)
theorem n130_131 : Snd mt G 130 131 (oGetf [2] 2 134) := w_getfN (hm := mm130) dX1_cost_131 (fokn1 (k := 2) (T := TX2) 1 (Nat.le_of_ble_eq_true rfl) vc_1 (Nat.le_of_ble_eq_true rfl) q547)
theorem n130_134 : Snd mt G 130 134 (oAload 3 135) := w_aload_n (hm := mm130) dX1_cost_134
theorem n130_135 : Snd mt G 130 135 (oIload 7 137) := w_iload (hm := mm130) dX1_cost_135
theorem n130_137 : Snd mt G 130 137 (oAld [100] 138) := w_iaload (hm := mm130) (kt := 0) dX1_cost_137 at_0 (Nat.le_of_ble_eq_true rfl) (List.forall_mem_cons.mpr ⟨Or.inl rfl, (fun t ht => nomatch ht)⟩)
theorem n130_138 : Snd mt G 130 138 (oCall 2 (fV [3] 176 2) 0 141 xOut) := s_callV (m' := 176) (n := 1) xsh_out (w_xok0 mm130) (w_cal mm130 mm176 pn_J2 (Nat.le_of_ble_eq_true rfl) (Nat.le_of_ble_eq_true rfl)) (fun h b as hc hn => w_run_V (ci := 2) mm130 mm176 dX1_cost_138 (Or.inl (List.mem_singleton.mp hc)) (Nat.le_of_ble_eq_true rfl) vc_2 rfl q713 q714 q715 q133 q716 pa176 hn)
theorem n130_141 : Snd mt G 130 141 (oCast [22] 144) := w_cast (hm := mm130) dX1_cost_141 q875 (List.forall_mem_cons.mpr ⟨⟨21, _, Or.inl rfl, (Nat.le_of_ble_eq_true rfl), vc_21, Or.inl rfl⟩, (fun t ht => nomatch ht)⟩)
theorem n130_144 : Snd mt G 130 144 (oGetf [22] 2 147) := w_getfN (hm := mm130) dX1_cost_144 (fokn1 (k := 2) (T := TX23) 21 (Nat.le_of_ble_eq_true rfl) vc_21 (Nat.le_of_ble_eq_true rfl) q1995)
theorem n130_147 : Snd mt G 130 147 (oAload 0 148) := w_aload_n (hm := mm130) dX1_cost_147
theorem n130_148 : Snd mt G 130 148 (oAload 3 149) := w_aload_n (hm := mm130) dX1_cost_148
theorem n130_149 : Snd mt G 130 149 (oIload 7 151) := w_iload (hm := mm130) dX1_cost_149
theorem n130_151 : Snd mt G 130 151 (oCall 3 (fV [1] 131 8) 0 154 xOut) := s_callV (m' := 131) (n := 2) xsh_out (w_xok0 mm130) (w_cal mm130 mm131 pn_X1 (Nat.le_of_ble_eq_true rfl) (Nat.le_of_ble_eq_true rfl)) (fun h b as hc hn => w_run_V (ci := 0) mm130 mm131 dX1_cost_151 (Or.inl (List.mem_singleton.mp hc)) (Nat.le_of_ble_eq_true rfl) vc_0 rfl q2021 q2023 qs54 q129 q2024 pa131 hn)
theorem n130_154 : Snd mt G 130 154 (oBin (fun x y => x * y) 155) := w_imul (hm := mm130) dX1_cost_154
theorem n130_155 : Snd mt G 130 155 (oBin (fun x y => x + y) 156) := w_iadd (hm := mm130) dX1_cost_155
theorem n130_156 : Snd mt G 130 156 (oIstore 6 158) := w_istore (hm := mm130) dX1_cost_156 (Nat.le_of_ble_eq_true rfl)
theorem n130_158 : Snd mt G 130 158 (oIinc 7 1 161) := w_iinc (hm := mm130) dX1_cost_158 rfl (Nat.le_of_ble_eq_true rfl)
theorem n130_161 : Snd mt G 130 161 (oGoto 119) := w_goto (hm := mm130) dX1_cost_161 rfl
theorem n130_164 : Snd mt G 130 164 (oIload 6 166) := w_iload (hm := mm130) dX1_cost_164
theorem n130_166 : Snd mt G 130 166 (oRetI .int) := w_iret (hm := mm130) dX1_cost_166 rfl
theorem sj130 : ∀ pc, Snd mt G 130 pc (j130 pc) := fun pc => (snd_br ((snd_br ((snd_br ((snd_br ((snd_br ((snd_br ((snd_br ((snd_lf n130_166)) ((snd_lf n130_164)))) ((snd_lf n130_161)))) ((snd_br ((snd_br ((snd_lf n130_158)) ((snd_lf n130_156)))) ((snd_lf n130_155)))))) ((snd_br ((snd_br ((snd_br ((snd_lf n130_154)) ((snd_lf n130_151)))) ((snd_lf n130_149)))) ((snd_br ((snd_br ((snd_lf n130_148)) ((snd_lf n130_147)))) ((snd_lf n130_144)))))))) ((snd_br ((snd_br ((snd_br ((snd_br ((snd_lf n130_141)) ((snd_lf n130_138)))) ((snd_lf n130_137)))) ((snd_br ((snd_br ((snd_lf n130_135)) ((snd_lf n130_134)))) ((snd_lf n130_131)))))) ((snd_br ((snd_br ((snd_br ((snd_lf n130_128)) ((snd_lf n130_127)))) ((snd_lf n130_125)))) ((snd_br ((snd_br ((snd_lf n130_122)) ((snd_lf n130_121)))) ((snd_lf n130_119)))))))))) ((snd_br ((snd_br ((snd_br ((snd_br ((snd_br ((snd_lf n130_117)) ((snd_lf n130_116)))) ((snd_lf n130_114)))) ((snd_br ((snd_br ((snd_lf n130_113)) ((snd_lf n130_110)))) ((snd_lf n130_109)))))) ((snd_br ((snd_br ((snd_br ((snd_lf n130_106)) ((snd_lf n130_105)))) ((snd_lf n130_102)))) ((snd_br ((snd_br ((snd_lf n130_100)) ((snd_lf n130_97)))) ((snd_lf n130_94)))))))) ((snd_br ((snd_br ((snd_br ((snd_br ((snd_lf n130_92)) ((snd_lf n130_91)))) ((snd_lf n130_90)))) ((snd_br ((snd_br ((snd_lf n130_89)) ((snd_lf n130_87)))) ((snd_lf n130_86)))))) ((snd_br ((snd_br ((snd_br ((snd_lf n130_85)) ((snd_lf n130_83)))) ((snd_lf n130_80)))) ((snd_br ((snd_lf n130_79)) ((snd_lf n130_76)))))))))))) ((snd_br ((snd_br ((snd_br ((snd_br ((snd_br ((snd_br ((snd_lf n130_75)) ((snd_lf n130_72)))) ((snd_lf n130_71)))) ((snd_br ((snd_br ((snd_lf n130_70)) ((snd_lf n130_69)))) ((snd_lf n130_68)))))) ((snd_br ((snd_br ((snd_br ((snd_lf n130_66)) ((snd_lf n130_65)))) ((snd_lf n130_63)))) ((snd_br ((snd_br ((snd_lf n130_60)) ((snd_lf n130_59)))) ((snd_lf n130_58)))))))) ((snd_br ((snd_br ((snd_br ((snd_br ((snd_lf n130_56)) ((snd_lf n130_55)))) ((snd_lf n130_52)))) ((snd_br ((snd_br ((snd_lf n130_51)) ((snd_lf n130_49)))) ((snd_lf n130_48)))))) ((snd_br ((snd_br ((snd_br ((snd_lf n130_46)) ((snd_lf n130_45)))) ((snd_lf n130_43)))) ((snd_br ((snd_lf n130_41)) ((snd_lf n130_40)))))))))) ((snd_br ((snd_br ((snd_br ((snd_br ((snd_br ((snd_lf n130_39)) ((snd_lf n130_37)))) ((snd_lf n130_35)))) ((snd_br ((snd_br ((snd_lf n130_33)) ((snd_lf n130_32)))) ((snd_lf n130_29)))))) ((snd_br ((snd_br ((snd_br ((snd_lf n130_27)) ((snd_lf n130_25)))) ((snd_lf n130_24)))) ((snd_br ((snd_br ((snd_lf n130_23)) ((snd_lf n130_22)))) ((snd_lf n130_20)))))))) ((snd_br ((snd_br ((snd_br ((snd_br ((snd_lf n130_19)) ((snd_lf n130_17)))) ((snd_lf n130_16)))) ((snd_br ((snd_br ((snd_lf n130_15)) ((snd_lf n130_13)))) ((snd_lf n130_11)))))) ((snd_br ((snd_br ((snd_br ((snd_lf n130_10)) ((snd_lf n130_7)))) ((snd_lf n130_4)))) ((snd_br ((snd_lf n130_1)) ((snd_lf n130_0)))))))))))))
end
section
variable {G : AG}
theorem n131_0 : Snd mt G 131 0 (oConst (.int 0) 1) := w_iconst (hm := mm131) dX1_doneIn_0 rfl
theorem n131_1 : Snd mt G 131 1 (oIstore 3 2) := w_istore_n (hm := mm131) dX1_doneIn_1 (Nat.le_of_ble_eq_true rfl)
theorem n131_2 : Snd mt G 131 2 (oAload 0 3) := w_aload_n (hm := mm131) dX1_doneIn_2
theorem n131_3 : Snd mt G 131 3 (oCall 1 (fV [1] 68 1) 0 6 xOut) := s_callV (m' := 68) (n := 0) xsh_out (w_xok0 mm131) (w_cal mm131 mm68 pn_X1 (Nat.le_of_ble_eq_true rfl) (Nat.le_of_ble_eq_true rfl)) (fun h b as hc hn => w_run_V (ci := 0) mm131 mm68 dX1_doneIn_3 (Or.inl (List.mem_singleton.mp hc)) (Nat.le_of_ble_eq_true rfl) vc_0 rfl q861 q863 qs12 q129 q864 pa68 hn)
theorem n131_6 : Snd mt G 131 6 (oIstore 4 8) := w_istore (hm := mm131) dX1_doneIn_6 (Nat.le_of_ble_eq_true rfl)
theorem n131_8 : Snd mt G 131 8 (oConst (.int 0) 9) := w_iconst (hm := mm131) dX1_doneIn_8 rfl
theorem n131_9 : Snd mt G 131 9 (oIstore 5 11) := w_istore (hm := mm131) dX1_doneIn_9 (Nat.le_of_ble_eq_true rfl)
theorem n131_11 : Snd mt G 131 11 (oConst (.int 0) 12) := w_iconst (hm := mm131) dX1_doneIn_11 rfl
theorem n131_12 : Snd mt G 131 12 (oIstore 6 14) := w_istore (hm := mm131) dX1_doneIn_12 (Nat.le_of_ble_eq_true rfl)
theorem n131_14 : Snd mt G 131 14 (oIload 6 16) := w_iload (hm := mm131) dX1_doneIn_14
theorem n131_16 : Snd mt G 131 16 (oIload 2 17) := w_iload_n (hm := mm131) dX1_doneIn_16
theorem n131_17 : Snd mt G 131 17 (oCmpGt 86 20) := w_icmp_gt (hm := mm131) dX1_doneIn_17 rfl
theorem n131_20 : Snd mt G 131 20 (oIload 3 21) := w_iload_n (hm := mm131) dX1_doneIn_20
theorem n131_21 : Snd mt G 131 21 (oIload 4 23) := w_iload (hm := mm131) dX1_doneIn_21
theorem n131_23 : Snd mt G 131 23 (oCmpGt 30 26) := w_icmp_gt (hm := mm131) dX1_doneIn_23 rfl
theorem n131_26 : Snd mt G 131 26 (oConst (.int 1) 27) := w_iconst (hm := mm131) dX1_doneIn_26 rfl
theorem n131_27 : Snd mt G 131 27 (oGoto 31) := w_goto (hm := mm131) dX1_doneIn_27 rfl
theorem n131_30 : Snd mt G 131 30 (oConst (.int 0) 31) := w_iconst (hm := mm131) dX1_doneIn_30 rfl
theorem n131_31 : Snd mt G 131 31 (oIstore 7 33) := w_istore (hm := mm131) dX1_doneIn_31 (Nat.le_of_ble_eq_true rfl)
theorem n131_33 : Snd mt G 131 33 (oAload 0 34) := w_aload_n (hm := mm131) dX1_doneIn_33
theorem n131_34 : Snd mt G 131 34 (oAload 1 35) := w_aload_n (hm := mm131) dX1_doneIn_34
theorem n131_35 : Snd mt G 131 35 (oIload 6 37) := w_iload (hm := mm131) dX1_doneIn_35
theorem n131_37 : Snd mt G 131 37 (oAld [100] 38) := w_iaload (hm := mm131) (kt := 0) dX1_doneIn_37 at_0 (Nat.le_of_ble_eq_true rfl) (List.forall_mem_cons.mpr ⟨Or.inl rfl, (fun t ht => nomatch ht)⟩)
theorem n131_38 : Snd mt G 131 38 (oIload 7 40) := w_iload (hm := mm131) dX1_doneIn_38
theorem n131_40 : Snd mt G 131 40 (oIfEq 47 43) := w_if_eq (hm := mm131) dX1_doneIn_40 rfl
theorem n131_43 : Snd mt G 131 43 (oIload 3 44) := w_iload_n (hm := mm131) dX1_doneIn_43
theorem n131_44 : Snd mt G 131 44 (oGoto 49) := w_goto (hm := mm131) dX1_doneIn_44 rfl
theorem n131_47 : Snd mt G 131 47 (oIload 4 49) := w_iload (hm := mm131) dX1_doneIn_47
theorem n131_49 : Snd mt G 131 49 (oCall 3 (fV [1] 70 4) 0 52 xOut) := s_callV (m' := 70) (n := 2) xsh_out (w_xok0 mm131) (w_cal mm131 mm70 pn_X1 (Nat.le_of_ble_eq_true rfl) (Nat.le_of_ble_eq_true rfl)) (fun h b as hc hn => w_run_V (ci := 0) mm131 mm70 dX1_doneIn_49 (Or.inl (List.mem_singleton.mp hc)) (Nat.le_of_ble_eq_true rfl) vc_0 rfl q871 q873 qs14 q129 q874 pa70 hn)
theorem n131_52 : Snd mt G 131 52 (oIstore 5 54) := w_istore (hm := mm131) dX1_doneIn_52 (Nat.le_of_ble_eq_true rfl)
theorem n131_54 : Snd mt G 131 54 (oIload 7 56) := w_iload (hm := mm131) dX1_doneIn_54
theorem n131_56 : Snd mt G 131 56 (oIfEq 64 59) := w_if_eq (hm := mm131) dX1_doneIn_56 rfl
theorem n131_59 : Snd mt G 131 59 (oIload 5 61) := w_iload (hm := mm131) dX1_doneIn_59
theorem n131_61 : Snd mt G 131 61 (oGoto 65) := w_goto (hm := mm131) dX1_doneIn_61 rfl
theorem n131_64 : Snd mt G 131 64 (oIload 3 65) := w_iload_n (hm := mm131) dX1_doneIn_64
theorem n131_65 : Snd mt G 131 65 (oIstore 3 66) := w_istore_n (hm := mm131) dX1_doneIn_65 (Nat.le_of_ble_eq_true rfl)
theorem n131_66 : Snd mt G 131 66 (oIload 7 68) := w_iload (hm := mm131) dX1_doneIn_66
theorem n131_68 : Snd mt G 131 68 (oIfEq 76 71) := w_if_eq (hm := mm131) dX1_doneIn_68 rfl
theorem n131_71 : Snd mt G 131 71 (oIload 4 73) := w_iload (hm := mm131) dX1_doneIn_71
theorem n131_73 : Snd mt G 131 73 (oGoto 78) := w_goto (hm := mm131) dX1_doneIn_73 rfl
theorem n131_76 : Snd mt G 131 76 (oIload 5 78) := w_iload (hm := mm131) dX1_doneIn_76
theorem n131_78 : Snd mt G 131 78 (oIstore 4 80) := w_istore (hm := mm131) dX1_doneIn_78 (Nat.le_of_ble_eq_true rfl)
theorem n131_80 : Snd mt G 131 80 (oIinc 6 1 83) := w_iinc (hm := mm131) dX1_doneIn_80 rfl (Nat.le_of_ble_eq_true rfl)
theorem n131_83 : Snd mt G 131 83 (oGoto 14) := w_goto (hm := mm131) dX1_doneIn_83 rfl
theorem n131_86 : Snd mt G 131 86 (oIload 5 88) := w_iload (hm := mm131) dX1_doneIn_86
theorem n131_88 : Snd mt G 131 88 (oRetI .int) := w_iret (hm := mm131) dX1_doneIn_88 rfl
theorem sj131 : ∀ pc, Snd mt G 131 pc (j131 pc) := fun pc => (snd_br ((snd_br ((snd_br ((snd_br ((snd_br ((snd_br ((snd_lf n131_88)) ((snd_lf n131_86)))) ((snd_lf n131_83)))) ((snd_br ((snd_br ((snd_lf n131_80)) ((snd_lf n131_78)))) ((snd_lf n131_76)))))) ((snd_br ((snd_br ((snd_br ((snd_lf n131_73)) ((snd_lf n131_71)))) ((snd_lf n131_68)))) ((snd_br ((snd_br ((snd_lf n131_66)) ((snd_lf n131_65)))) ((snd_lf n131_64)))))))) ((snd_br ((snd_br ((snd_br ((snd_br ((snd_lf n131_61)) ((snd_lf n131_59)))) ((snd_lf n131_56)))) ((snd_br ((snd_br ((snd_lf n131_54)) ((snd_lf n131_52)))) ((snd_lf n131_49)))))) ((snd_br ((snd_br ((snd_br ((snd_lf n131_47)) ((snd_lf n131_44)))) ((snd_lf n131_43)))) ((snd_br ((snd_lf n131_40)) ((snd_lf n131_38)))))))))) ((snd_br ((snd_br ((snd_br ((snd_br ((snd_br ((snd_lf n131_37)) ((snd_lf n131_35)))) ((snd_lf n131_34)))) ((snd_br ((snd_br ((snd_lf n131_33)) ((snd_lf n131_31)))) ((snd_lf n131_30)))))) ((snd_br ((snd_br ((snd_br ((snd_lf n131_27)) ((snd_lf n131_26)))) ((snd_lf n131_23)))) ((snd_br ((snd_br ((snd_lf n131_21)) ((snd_lf n131_20)))) ((snd_lf n131_17)))))))) ((snd_br ((snd_br ((snd_br ((snd_br ((snd_lf n131_16)) ((snd_lf n131_14)))) ((snd_lf n131_12)))) ((snd_br ((snd_br ((snd_lf n131_11)) ((snd_lf n131_9)))) ((snd_lf n131_8)))))) ((snd_br ((snd_br ((snd_br ((snd_lf n131_6)) ((snd_lf n131_3)))) ((snd_lf n131_2)))) ((snd_br ((snd_lf n131_1)) ((snd_lf n131_0)))))))))))
end
section
variable {G : AG}
theorem n132_0 : Snd mt G 132 0 (oAload 0 1) := w_aload_n (hm := mm132) dX1_delay_0
theorem n132_1 : Snd mt G 132 1 (oIload 1 2) := w_iload_n (hm := mm132) dX1_delay_1
theorem n132_2 : Snd mt G 132 2 (oCall 2 (fV [1] 133 2) 0 5 xOut) := s_callV (m' := 133) (n := 1) xsh_out (w_xok0 mm132) (w_cal mm132 mm133 pn_X1 (Nat.le_of_ble_eq_true rfl) (Nat.le_of_ble_eq_true rfl)) (fun h b as hc hn => w_run_V (ci := 0) mm132 mm133 dX1_delay_2 (Or.inl (List.mem_singleton.mp hc)) (Nat.le_of_ble_eq_true rfl) vc_0 rfl q2032 q2034 qs55 q129 q2035 pa133 hn)
theorem n132_5 : Snd mt G 132 5 (oIload 2 6) := w_iload_n (hm := mm132) dX1_delay_5
theorem n132_6 : Snd mt G 132 6 (oIfLt 20 9) := w_if_lt (hm := mm132) dX1_delay_6 rfl
theorem n132_9 : Snd mt G 132 9 (oIload 2 10) := w_iload_n (hm := mm132) dX1_delay_9
theorem n132_10 : Snd mt G 132 10 (oConst (.int 999) 13) := w_sipush (hm := mm132) dX1_delay_10 (by decide)
theorem n132_13 : Snd mt G 132 13 (oCmpGt 20 16) := w_icmp_gt (hm := mm132) dX1_delay_13 rfl
theorem n132_16 : Snd mt G 132 16 (oConst (.int 1) 17) := w_iconst (hm := mm132) dX1_delay_16 rfl
theorem n132_17 : Snd mt G 132 17 (oGoto 21) := w_goto (hm := mm132) dX1_delay_17 rfl
theorem n132_20 : Snd mt G 132 20 (oConst (.int 0) 21) := w_iconst (hm := mm132) dX1_delay_20 rfl
theorem n132_21 : Snd mt G 132 21 (oCall 1 (fS 89 1) 0 24 xOut) := s_callS (m' := 89) (n := 1) xsh_out (w_xok0 mm132) (w_cal mm132 mm89 pn_X1 (Nat.le_of_ble_eq_true rfl) (Nat.le_of_ble_eq_true rfl)) (fun h as hn => w_run_S mm132 mm89 dX1_delay_21 q1180 q1181 q129 q1182 pa89 hn)
theorem n132_24 : Snd mt G 132 24 (oAload 0 25) := w_aload_n (hm := mm132) dX1_delay_24
theorem n132_25 : Snd mt G 132 25 (oCall 1 (fV [1] 67 1) 0 28 xOut) := s_callV (m' := 67) (n := 0) xsh_out (w_xok0 mm132) (w_cal mm132 mm67 pn_X1 (Nat.le_of_ble_eq_true rfl) (Nat.le_of_ble_eq_true rfl)) (fun h b as hc hn => w_run_V (ci := 0) mm132 mm67 dX1_delay_25 (Or.inl (List.mem_singleton.mp hc)) (Nat.le_of_ble_eq_true rfl) vc_0 rfl q857 q859 qs11 q129 q860 pa67 hn)
theorem n132_28 : Snd mt G 132 28 (oIstore 3 29) := w_istore_n (hm := mm132) dX1_delay_28 (Nat.le_of_ble_eq_true rfl)
theorem n132_29 : Snd mt G 132 29 (oAload 0 30) := w_aload_n (hm := mm132) dX1_delay_29
theorem n132_30 : Snd mt G 132 30 (oIload 1 31) := w_iload_n (hm := mm132) dX1_delay_30
theorem n132_31 : Snd mt G 132 31 (oPutf [1] 17 .int 34) := w_putf (hm := mm132) dX1_delay_31 (pok1 (k := 17) (T := TX1) 0 (Nat.le_of_ble_eq_true rfl) vc_0 (Nat.le_of_ble_eq_true rfl) rfl pd_X1_17 q640)
theorem n132_34 : Snd mt G 132 34 (oAload 0 35) := w_aload_n (hm := mm132) dX1_delay_34
theorem n132_35 : Snd mt G 132 35 (oIload 2 36) := w_iload_n (hm := mm132) dX1_delay_35
theorem n132_36 : Snd mt G 132 36 (oPutf [1] 18 .int 39) := w_putf (hm := mm132) dX1_delay_36 (pok1 (k := 18) (T := TX1) 0 (Nat.le_of_ble_eq_true rfl) vc_0 (Nat.le_of_ble_eq_true rfl) rfl pd_X1_18 q641)
theorem n132_39 : Snd mt G 132 39 (oAload 0 40) := w_aload_n (hm := mm132) dX1_delay_39
theorem n132_40 : Snd mt G 132 40 (oCall 1 (fV [1] 67 1) 0 43 xOut) := s_callV (m' := 67) (n := 0) xsh_out (w_xok0 mm132) (w_cal mm132 mm67 pn_X1 (Nat.le_of_ble_eq_true rfl) (Nat.le_of_ble_eq_true rfl)) (fun h b as hc hn => w_run_V (ci := 0) mm132 mm67 dX1_delay_40 (Or.inl (List.mem_singleton.mp hc)) (Nat.le_of_ble_eq_true rfl) vc_0 rfl q857 q859 qs11 q129 q860 pa67 hn)
theorem n132_43 : Snd mt G 132 43 (oIstore 4 45) := w_istore (hm := mm132) dX1_delay_43 (Nat.le_of_ble_eq_true rfl)
theorem n132_45 : Snd mt G 132 45 (oAload 0 46) := w_aload_n (hm := mm132) dX1_delay_45
theorem n132_46 : Snd mt G 132 46 (oConst (.int (-1)) 47) := w_iconst (hm := mm132) dX1_delay_46 rfl
theorem n132_47 : Snd mt G 132 47 (oPutf [1] 17 .int 50) := w_putf (hm := mm132) dX1_delay_47 (pok1 (k := 17) (T := TX1) 0 (Nat.le_of_ble_eq_true rfl) vc_0 (Nat.le_of_ble_eq_true rfl) rfl pd_X1_17 q640)
theorem n132_50 : Snd mt G 132 50 (oIload 4 52) := w_iload (hm := mm132) dX1_delay_50
theorem n132_52 : Snd mt G 132 52 (oIload 3 53) := w_iload_n (hm := mm132) dX1_delay_52
theorem n132_53 : Snd mt G 132 53 (oBin (fun x y => x - y) 54) := w_isub (hm := mm132) dX1_delay_53
theorem n132_54 : Snd mt G 132 54 (oRetI .int) := w_iret (hm := mm132) dX1_delay_54 rfl
theorem sj132 : ∀ pc, Snd mt G 132 pc (j132 pc) := fun pc => (snd_br ((snd_br ((snd_br ((snd_br ((snd_br ((snd_lf n132_54)) ((snd_lf n132_53)))) ((snd_br ((snd_lf n132_52)) ((snd_lf n132_50)))))) ((snd_br ((snd_br ((snd_lf n132_47)) ((snd_lf n132_46)))) ((snd_br ((snd_lf n132_45)) ((snd_lf n132_43)))))))) ((snd_br ((snd_br ((snd_br ((snd_lf n132_40)) ((snd_lf n132_39)))) ((snd_br ((snd_lf n132_36)) ((snd_lf n132_35)))))) ((snd_br ((snd_br ((snd_lf n132_34)) ((snd_lf n132_31)))) ((snd_br ((snd_lf n132_30)) ((snd_lf n132_29)))))))))) ((snd_br ((snd_br ((snd_br ((snd_br ((snd_lf n132_28)) ((snd_lf n132_25)))) ((snd_br ((snd_lf n132_24)) ((snd_lf n132_21)))))) ((snd_br ((snd_br ((snd_lf n132_20)) ((snd_lf n132_17)))) ((snd_br ((snd_lf n132_16)) ((snd_lf n132_13)))))))) ((snd_br ((snd_br ((snd_br ((snd_lf n132_10)) ((snd_lf n132_9)))) ((snd_br ((snd_lf n132_6)) ((snd_lf n132_5)))))) ((snd_br ((snd_br ((snd_lf n132_2)) ((snd_lf n132_1)))) ((snd_lf n132_0)))))))))
end
section
variable {G : AG}
theorem n133_0 : Snd mt G 133 0 (oIload 1 1) := w_iload_n (hm := mm133) dX1_isJob_0
theorem n133_1 : Snd mt G 133 1 (oIfLt 18 4) := w_if_lt (hm := mm133) dX1_isJob_1 rfl
theorem n133_4 : Snd mt G 133 4 (oIload 1 5) := w_iload_n (hm := mm133) dX1_isJob_4
theorem n133_5 : Snd mt G 133 5 (oAload 0 6) := w_aload_n (hm := mm133) dX1_isJob_5
theorem n133_6 : Snd mt G 133 6 (oGetf [1] 0 9) := w_getf (hm := mm133) dX1_isJob_6 (fok1 (k := 0) (T := TX1) 0 (Nat.le_of_ble_eq_true rfl) vc_0 (Nat.le_of_ble_eq_true rfl) q623)
theorem n133_9 : Snd mt G 133 9 (oGetf [2] 2 12) := w_getfN (hm := mm133) dX1_isJob_9 (fokn1 (k := 2) (T := TX2) 1 (Nat.le_of_ble_eq_true rfl) vc_1 (Nat.le_of_ble_eq_true rfl) q547)
theorem n133_12 : Snd mt G 133 12 (oCall 1 (fV [3] 175 1) 0 15 xOut) := s_callV (m' := 175) (n := 0) xsh_out (w_xok0 mm133) (w_cal mm133 mm175 pn_J2 (Nat.le_of_ble_eq_true rfl) (Nat.le_of_ble_eq_true rfl)) (fun h b as hc hn => w_run_V (ci := 2) mm133 mm175 dX1_isJob_12 (Or.inl (List.mem_singleton.mp hc)) (Nat.le_of_ble_eq_true rfl) vc_2 rfl q709 q710 q711 q133 q712 pa175 hn)
theorem n133_15 : Snd mt G 133 15 (oCmpLt 26 18) := w_icmp_lt (hm := mm133) dX1_isJob_15 rfl
theorem n133_18 : Snd mt G 133 18 (oThrow0 35) := w_throw0 (hm := mm133) (ci := 34) (Nat.le_of_ble_eq_true rfl) vc_34 rfl dX1_isJob_18 dX1_isJob_21 dX1_isJob_22 dX1_isJob_25 zt_X1_92_J21_f zt_X1_92_J21_n (Nat.le_of_ble_eq_true rfl) (Nat.le_of_ble_eq_true rfl) q1767 q171 zt_X1_92_J21_a zt_X1_92_J21_g (by decide)
theorem n133_21 : Snd mt G 133 21 (oDup 22) := w_dup (hm := mm133) dX1_isJob_21
theorem n133_22 : Snd mt G 133 22 (oCall 1 (fI 484 1) 0 25 xOut) := s_callI (m' := 484) (n := 0) xsh_out (w_xok0 mm133) (w_cal mm133 mm484 pn_J21 (Nat.le_of_ble_eq_true rfl) (Nat.le_of_ble_eq_true rfl)) (fun h b as hn => w_run_I mm133 mm484 dX1_isJob_22 rfl rfl q1776 q1777 q171 q1778 pa484 hn)
theorem n133_25 : Snd mt G 133 25 (oThrow [7]) := w_throw (hm := mm133) dX1_isJob_25 (List.forall_mem_cons.mpr ⟨⟨6, _, rfl, (Nat.le_of_ble_eq_true rfl), vc_6⟩, (fun t ht => nomatch ht)⟩) rfl
theorem n133_26 : Snd mt G 133 26 (oRetV) := w_vret (hm := mm133) dX1_isJob_26 rfl
theorem sj133 : ∀ pc, Snd mt G 133 pc (j133 pc) := fun pc => (snd_br ((snd_br ((snd_br ((snd_br ((snd_lf n133_26)) ((snd_lf n133_25)))) ((snd_br ((snd_lf n133_22)) ((snd_lf n133_21)))))) ((snd_br ((snd_br ((snd_lf n133_18)) ((snd_lf n133_15)))) ((snd_lf n133_12)))))) ((snd_br ((snd_br ((snd_br ((snd_lf n133_9)) ((snd_lf n133_6)))) ((snd_lf n133_5)))) ((snd_br ((snd_br ((snd_lf n133_4)) ((snd_lf n133_1)))) ((snd_lf n133_0)))))))
end
section
variable {G : AG}
theorem n134_0 : Snd mt G 134 0 (oAload 0 1) := w_aload_n (hm := mm134) dX1_done_0
theorem n134_1 : Snd mt G 134 1 (oIload 1 2) := w_iload_n (hm := mm134) dX1_done_1
theorem n134_2 : Snd mt G 134 2 (oCall 2 (fV [1] 133 2) 0 5 xOut) := s_callV (m' := 133) (n := 1) xsh_out (w_xok0 mm134) (w_cal mm134 mm133 pn_X1 (Nat.le_of_ble_eq_true rfl) (Nat.le_of_ble_eq_true rfl)) (fun h b as hc hn => w_run_V (ci := 0) mm134 mm133 dX1_done_2 (Or.inl (List.mem_singleton.mp hc)) (Nat.le_of_ble_eq_true rfl) vc_0 rfl q2032 q2034 qs55 q129 q2035 pa133 hn)
theorem n134_5 : Snd mt G 134 5 (oAload 0 6) := w_aload_n (hm := mm134) dX1_done_5
theorem n134_6 : Snd mt G 134 6 (oCall 1 (fV [1] 67 1) 0 9 xOut) := s_callV (m' := 67) (n := 0) xsh_out (w_xok0 mm134) (w_cal mm134 mm67 pn_X1 (Nat.le_of_ble_eq_true rfl) (Nat.le_of_ble_eq_true rfl)) (fun h b as hc hn => w_run_V (ci := 0) mm134 mm67 dX1_done_6 (Or.inl (List.mem_singleton.mp hc)) (Nat.le_of_ble_eq_true rfl) vc_0 rfl q857 q859 qs11 q129 q860 pa67 hn)
theorem n134_9 : Snd mt G 134 9 (oPop 10) := w_pop (hm := mm134) dX1_done_9
theorem n134_10 : Snd mt G 134 10 (oConst (.int 0) 11) := w_iconst (hm := mm134) dX1_done_10 rfl
theorem n134_11 : Snd mt G 134 11 (oIstore 2 12) := w_istore_n (hm := mm134) dX1_done_11 (Nat.le_of_ble_eq_true rfl)
theorem n134_12 : Snd mt G 134 12 (oAload 0 13) := w_aload_n (hm := mm134) dX1_done_12
theorem n134_13 : Snd mt G 134 13 (oGetf [1] 16 16) := w_getf (hm := mm134) dX1_done_13 (fok1 (k := 16) (T := TX1) 0 (Nat.le_of_ble_eq_true rfl) vc_0 (Nat.le_of_ble_eq_true rfl) q639)
theorem n134_16 : Snd mt G 134 16 (oIload 2 17) := w_iload_n (hm := mm134) dX1_done_16
theorem n134_17 : Snd mt G 134 17 (oAld [100] 18) := w_iaload (hm := mm134) (kt := 0) dX1_done_17 at_0 (Nat.le_of_ble_eq_true rfl) (List.forall_mem_cons.mpr ⟨Or.inl rfl, (fun t ht => nomatch ht)⟩)
theorem n134_18 : Snd mt G 134 18 (oIload 1 19) := w_iload_n (hm := mm134) dX1_done_18
theorem n134_19 : Snd mt G 134 19 (oCmpEq 28 22) := w_icmp_eq (hm := mm134) dX1_done_19 rfl
theorem n134_22 : Snd mt G 134 22 (oIinc 2 1 25) := w_iinc (hm := mm134) dX1_done_22 rfl (Nat.le_of_ble_eq_true rfl)
theorem n134_25 : Snd mt G 134 25 (oGoto 12) := w_goto (hm := mm134) dX1_done_25 rfl
theorem n134_28 : Snd mt G 134 28 (oAload 0 29) := w_aload_n (hm := mm134) dX1_done_28
theorem n134_29 : Snd mt G 134 29 (oAload 0 30) := w_aload_n (hm := mm134) dX1_done_29
theorem n134_30 : Snd mt G 134 30 (oGetf [1] 16 33) := w_getf (hm := mm134) dX1_done_30 (fok1 (k := 16) (T := TX1) 0 (Nat.le_of_ble_eq_true rfl) vc_0 (Nat.le_of_ble_eq_true rfl) q639)
theorem n134_33 : Snd mt G 134 33 (oIload 2 34) := w_iload_n (hm := mm134) dX1_done_33
theorem n134_34 : Snd mt G 134 34 (oCall 3 (fV [1] 131 8) 0 37 xOut) := s_callV (m' := 131) (n := 2) xsh_out (w_xok0 mm134) (w_cal mm134 mm131 pn_X1 (Nat.le_of_ble_eq_true rfl) (Nat.le_of_ble_eq_true rfl)) (fun h b as hc hn => w_run_V (ci := 0) mm134 mm131 dX1_done_34 (Or.inl (List.mem_singleton.mp hc)) (Nat.le_of_ble_eq_true rfl) vc_0 rfl q2021 q2023 qs54 q129 q2024 pa131 hn)
theorem n134_37 : Snd mt G 134 37 (oRetI .int) := w_iret (hm := mm134) dX1_done_37 rfl
theorem sj134 : ∀ pc, Snd mt G 134 pc (j134 pc) := fun pc => (snd_br ((snd_br ((snd_br ((snd_br ((snd_br ((snd_lf n134_37)) ((snd_lf n134_34)))) ((snd_lf n134_33)))) ((snd_br ((snd_br ((snd_lf n134_30)) ((snd_lf n134_29)))) ((snd_lf n134_28)))))) ((snd_br ((snd_br ((snd_br ((snd_lf n134_25)) ((snd_lf n134_22)))) ((snd_lf n134_19)))) ((snd_br ((snd_lf n134_18)) ((snd_lf n134_17)))))))) ((snd_br ((snd_br ((snd_br ((snd_br ((snd_lf n134_16)) ((snd_lf n134_13)))) ((snd_lf n134_12)))) ((snd_br ((snd_br ((snd_lf n134_11)) ((snd_lf n134_10)))) ((snd_lf n134_9)))))) ((snd_br ((snd_br ((snd_br ((snd_lf n134_6)) ((snd_lf n134_5)))) ((snd_lf n134_2)))) ((snd_br ((snd_lf n134_1)) ((snd_lf n134_0)))))))))
end
section
variable {G : AG}
theorem n135_0 : Snd mt G 135 0 (oIload 1 1) := w_iload_n (hm := mm135) dX1_maker_0
theorem n135_1 : Snd mt G 135 1 (oConst (.int 1) 2) := w_iconst (hm := mm135) dX1_maker_1 rfl
theorem n135_2 : Snd mt G 135 2 (oCmpLt 16 5) := w_icmp_lt (hm := mm135) dX1_maker_2 rfl
theorem n135_5 : Snd mt G 135 5 (oIload 1 6) := w_iload_n (hm := mm135) dX1_maker_5
theorem n135_6 : Snd mt G 135 6 (oConst (.int 200) 9) := w_sipush (hm := mm135) dX1_maker_6 (by decide)
theorem n135_9 : Snd mt G 135 9 (oCmpGt 16 12) := w_icmp_gt (hm := mm135) dX1_maker_9 rfl
theorem n135_12 : Snd mt G 135 12 (oConst (.int 1) 13) := w_iconst (hm := mm135) dX1_maker_12 rfl
theorem n135_13 : Snd mt G 135 13 (oGoto 17) := w_goto (hm := mm135) dX1_maker_13 rfl
theorem n135_16 : Snd mt G 135 16 (oConst (.int 0) 17) := w_iconst (hm := mm135) dX1_maker_16 rfl
theorem n135_17 : Snd mt G 135 17 (oCall 1 (fS 89 1) 0 20 xOut) := s_callS (m' := 89) (n := 1) xsh_out (w_xok0 mm135) (w_cal mm135 mm89 pn_X1 (Nat.le_of_ble_eq_true rfl) (Nat.le_of_ble_eq_true rfl)) (fun h as hn => w_run_S mm135 mm89 dX1_maker_17 q1180 q1181 q129 q1182 pa89 hn)
theorem n135_20 : Snd mt G 135 20 (oAload 0 21) := w_aload_n (hm := mm135) dX1_maker_20
theorem n135_21 : Snd mt G 135 21 (oGetf [1] 0 24) := w_getf (hm := mm135) dX1_maker_21 (fok1 (k := 0) (T := TX1) 0 (Nat.le_of_ble_eq_true rfl) vc_0 (Nat.le_of_ble_eq_true rfl) q623)
theorem n135_24 : Snd mt G 135 24 (oGetf [2] 6 27) := w_getfN (hm := mm135) dX1_maker_24 (fokn1 (k := 6) (T := TX2) 1 (Nat.le_of_ble_eq_true rfl) vc_1 (Nat.le_of_ble_eq_true rfl) q555)
theorem n135_27 : Snd mt G 135 27 (oCall 1 (fV [3] 175 1) 0 30 xOut) := s_callV (m' := 175) (n := 0) xsh_out (w_xok0 mm135) (w_cal mm135 mm175 pn_J2 (Nat.le_of_ble_eq_true rfl) (Nat.le_of_ble_eq_true rfl)) (fun h b as hc hn => w_run_V (ci := 2) mm135 mm175 dX1_maker_27 (Or.inl (List.mem_singleton.mp hc)) (Nat.le_of_ble_eq_true rfl) vc_2 rfl q709 q710 q711 q133 q712 pa175 hn)
theorem n135_30 : Snd mt G 135 30 (oConst (.int 4) 31) := w_iconst (hm := mm135) dX1_maker_30 rfl
theorem n135_31 : Snd mt G 135 31 (oCmpEq 34 36) := w_icmp_ne (hm := mm135) dX1_maker_31 rfl
theorem n135_34 : Snd mt G 135 34 (oConst (.int (-1)) 35) := w_iconst (hm := mm135) dX1_maker_34 rfl
theorem n135_35 : Snd mt G 135 35 (oRetI .int) := w_iret (hm := mm135) dX1_maker_35 rfl
theorem n135_36 : Snd mt G 135 36 (oAload 0 37) := w_aload_n (hm := mm135) dX1_maker_36
theorem n135_37 : Snd mt G 135 37 (oGetf [1] 0 40) := w_getf (hm := mm135) dX1_maker_37 (fok1 (k := 0) (T := TX1) 0 (Nat.le_of_ble_eq_true rfl) vc_0 (Nat.le_of_ble_eq_true rfl) q623)
theorem n135_40 : Snd mt G 135 40 (oGetf [2] 6 43) := w_getfN (hm := mm135) dX1_maker_40 (fokn1 (k := 6) (T := TX2) 1 (Nat.le_of_ble_eq_true rfl) vc_1 (Nat.le_of_ble_eq_true rfl) q555)
theorem n135_43 : Snd mt G 135 43 (oNew 23 6 nfX24 46) := w_new (hm := mm135) (ci := 22) (T9 := TX24) (ty := tyX24) dX1_maker_43 (Nat.le_of_ble_eq_true rfl) vc_22 tyX24_ok (fun _ _ => rfl) q2050 q1126 q176
theorem n135_46 : Snd mt G 135 46 (oDup 47) := w_dup (hm := mm135) dX1_maker_46
theorem n135_47 : Snd mt G 135 47 (oIload 1 48) := w_iload_n (hm := mm135) dX1_maker_47
theorem n135_48 : Snd mt G 135 48 (oCall 2 (fI 490 2) 0 51 xOut) := s_callI (m' := 490) (n := 1) xsh_out (w_xok0 mm135) (w_cal mm135 mm490 pn_X24 (Nat.le_of_ble_eq_true rfl) (Nat.le_of_ble_eq_true rfl)) (fun h b as hn => w_run_I mm135 mm490 dX1_maker_48 rfl rfl q2051 q1128 q176 q1129 pa490 hn)
theorem n135_51 : Snd mt G 135 51 (oCall 2 (fV [3] 179 2) 0 54 xOut) := s_callV (m' := 179) (n := 1) xsh_out (w_xok0 mm135) (w_cal mm135 mm179 pn_J2 (Nat.le_of_ble_eq_true rfl) (Nat.le_of_ble_eq_true rfl)) (fun h b as hc hn => w_run_V (ci := 2) mm135 mm179 dX1_maker_51 (Or.inl (List.mem_singleton.mp hc)) (Nat.le_of_ble_eq_true rfl) vc_2 rfl q1605 q985 q986 q133 q987 pa179 hn)
theorem n135_54 : Snd mt G 135 54 (oPop 55) := w_pop (hm := mm135) dX1_maker_54
theorem n135_55 : Snd mt G 135 55 (oAload 0 56) := w_aload_n (hm := mm135) dX1_maker_55
theorem n135_56 : Snd mt G 135 56 (oGetf [1] 0 59) := w_getf (hm := mm135) dX1_maker_56 (fok1 (k := 0) (T := TX1) 0 (Nat.le_of_ble_eq_true rfl) vc_0 (Nat.le_of_ble_eq_true rfl) q623)
theorem n135_59 : Snd mt G 135 59 (oGetf [2] 6 62) := w_getfN (hm := mm135) dX1_maker_59 (fokn1 (k := 6) (T := TX2) 1 (Nat.le_of_ble_eq_true rfl) vc_1 (Nat.le_of_ble_eq_true rfl) q555)
theorem n135_62 : Snd mt G 135 62 (oCall 1 (fV [3] 175 1) 0 65 xOut) := s_callV (m' := 175) (n := 0) xsh_out (w_xok0 mm135) (w_cal mm135 mm175 pn_J2 (Nat.le_of_ble_eq_true rfl) (Nat.le_of_ble_eq_true rfl)) (fun h b as hc hn => w_run_V (ci := 2) mm135 mm175 dX1_maker_62 (Or.inl (List.mem_singleton.mp hc)) (Nat.le_of_ble_eq_true rfl) vc_2 rfl q709 q710 q711 q133 q712 pa175 hn)
theorem n135_65 : Snd mt G 135 65 (oConst (.int 1) 66) := w_iconst (hm := mm135) dX1_maker_65 rfl
theorem n135_66 : Snd mt G 135 66 (oBin (fun x y => x - y) 67) := w_isub (hm := mm135) dX1_maker_66
theorem n135_67 : Snd mt G 135 67 (oRetI .int) := w_iret (hm := mm135) dX1_maker_67 rfl
theorem sj135 : ∀ pc, Snd mt G 135 pc (j135 pc) := fun pc => (snd_br ((snd_br ((snd_br ((snd_br ((snd_br ((snd_br ((snd_lf n135_67)) ((snd_lf n135_66)))) ((snd_lf n135_65)))) ((snd_br ((snd_lf n135_62)) ((snd_lf n135_59)))))) ((snd_br ((snd_br ((snd_lf n135_56)) ((snd_lf n135_55)))) ((snd_br ((snd_lf n135_54)) ((snd_lf n135_51)))))))) ((snd_br ((snd_br ((snd_br ((snd_lf n135_48)) ((snd_lf n135_47)))) ((snd_br ((snd_lf n135_46)) ((snd_lf n135_43)))))) ((snd_br ((snd_br ((snd_lf n135_40)) ((snd_lf n135_37)))) ((snd_br ((snd_lf n135_36)) ((snd_lf n135_35)))))))))) ((snd_br ((snd_br ((snd_br ((snd_br ((snd_br ((snd_lf n135_34)) ((snd_lf n135_31)))) ((snd_lf n135_30)))) ((snd_br ((snd_lf n135_27)) ((snd_lf n135_24)))))) ((snd_br ((snd_br ((snd_lf n135_21)) ((snd_lf n135_20)))) ((snd_br ((snd_lf n135_17)) ((snd_lf n135_16)))))))) ((snd_br ((snd_br ((snd_br ((snd_lf n135_13)) ((snd_lf n135_12)))) ((snd_br ((snd_lf n135_9)) ((snd_lf n135_6)))))) ((snd_br ((snd_br ((snd_lf n135_5)) ((snd_lf n135_2)))) ((snd_br ((snd_lf n135_1)) ((snd_lf n135_0)))))))))))
end
section
variable {G : AG}
theorem n136_0 : Snd mt G 136 0 (oAload 0 1) := w_aload_n (hm := mm136) dX1_order_0
theorem n136_1 : Snd mt G 136 1 (oIload 1 2) := w_iload_n (hm := mm136) dX1_order_1
theorem n136_2 : Snd mt G 136 2 (oCall 2 (fV [1] 137 2) 0 5 xOut) := s_callV (m' := 137) (n := 1) xsh_out (w_xok0 mm136) (w_cal mm136 mm137 pn_X1 (Nat.le_of_ble_eq_true rfl) (Nat.le_of_ble_eq_true rfl)) (fun h b as hc hn => w_run_V (ci := 0) mm136 mm137 dX1_order_2 (Or.inl (List.mem_singleton.mp hc)) (Nat.le_of_ble_eq_true rfl) vc_0 rfl q2059 q2061 qs56 q129 q2062 pa137 hn)
theorem n136_5 : Snd mt G 136 5 (oAstore 3 6) := w_astore_n (hm := mm136) dX1_order_5 (Nat.le_of_ble_eq_true rfl)
theorem n136_6 : Snd mt G 136 6 (oAload 0 7) := w_aload_n (hm := mm136) dX1_order_6
theorem n136_7 : Snd mt G 136 7 (oIload 2 8) := w_iload_n (hm := mm136) dX1_order_7
theorem n136_8 : Snd mt G 136 8 (oCall 2 (fV [1] 103 2) 0 11 xOut) := s_callV (m' := 103) (n := 1) xsh_out (w_xok0 mm136) (w_cal mm136 mm103 pn_X1 (Nat.le_of_ble_eq_true rfl) (Nat.le_of_ble_eq_true rfl)) (fun h b as hc hn => w_run_V (ci := 0) mm136 mm103 dX1_order_8 (Or.inl (List.mem_singleton.mp hc)) (Nat.le_of_ble_eq_true rfl) vc_0 rfl q1763 q1765 qs43 q129 q1766 pa103 hn)
theorem n136_11 : Snd mt G 136 11 (oPop 12) := w_pop (hm := mm136) dX1_order_11
theorem n136_12 : Snd mt G 136 12 (oAload 0 13) := w_aload_n (hm := mm136) dX1_order_12
theorem n136_13 : Snd mt G 136 13 (oGetf [1] 0 16) := w_getf (hm := mm136) dX1_order_13 (fok1 (k := 0) (T := TX1) 0 (Nat.le_of_ble_eq_true rfl) vc_0 (Nat.le_of_ble_eq_true rfl) q623)
theorem n136_16 : Snd mt G 136 16 (oGetf [2] 7 19) := w_getfN (hm := mm136) dX1_order_16 (fokn1 (k := 7) (T := TX2) 1 (Nat.le_of_ble_eq_true rfl) vc_1 (Nat.le_of_ble_eq_true rfl) q557)
theorem n136_19 : Snd mt G 136 19 (oCall 1 (fV [3] 175 1) 0 22 xOut) := s_callV (m' := 175) (n := 0) xsh_out (w_xok0 mm136) (w_cal mm136 mm175 pn_J2 (Nat.le_of_ble_eq_true rfl) (Nat.le_of_ble_eq_true rfl)) (fun h b as hc hn => w_run_V (ci := 2) mm136 mm175 dX1_order_19 (Or.inl (List.mem_singleton.mp hc)) (Nat.le_of_ble_eq_true rfl) vc_2 rfl q709 q710 q711 q133 q712 pa175 hn)
theorem n136_22 : Snd mt G 136 22 (oConst (.int 20) 24) := w_bipush (hm := mm136) dX1_order_22 (by decide)
theorem n136_24 : Snd mt G 136 24 (oCmpEq 27 29) := w_icmp_ne (hm := mm136) dX1_order_24 rfl
theorem n136_27 : Snd mt G 136 27 (oConst (.int (-1)) 28) := w_iconst (hm := mm136) dX1_order_27 rfl
theorem n136_28 : Snd mt G 136 28 (oRetI .int) := w_iret (hm := mm136) dX1_order_28 rfl
theorem n136_29 : Snd mt G 136 29 (oAload 0 30) := w_aload_n (hm := mm136) dX1_order_29
theorem n136_30 : Snd mt G 136 30 (oGetf [1] 0 33) := w_getf (hm := mm136) dX1_order_30 (fok1 (k := 0) (T := TX1) 0 (Nat.le_of_ble_eq_true rfl) vc_0 (Nat.le_of_ble_eq_true rfl) q623)
theorem n136_33 : Snd mt G 136 33 (oGetf [2] 7 36) := w_getfN (hm := mm136) dX1_order_33 (fokn1 (k := 7) (T := TX2) 1 (Nat.le_of_ble_eq_true rfl) vc_1 (Nat.le_of_ble_eq_true rfl) q557)
theorem n136_36 : Snd mt G 136 36 (oNew 24 4 nfX25 39) := w_new (hm := mm136) (ci := 23) (T9 := TX25) (ty := tyX25) dX1_order_36 (Nat.le_of_ble_eq_true rfl) vc_23 tyX25_ok (fun _ _ => rfl) q2063 q2064 q177
theorem n136_39 : Snd mt G 136 39 (oDup 40) := w_dup (hm := mm136) dX1_order_39
theorem n136_40 : Snd mt G 136 40 (oIload 1 41) := w_iload_n (hm := mm136) dX1_order_40
theorem n136_41 : Snd mt G 136 41 (oIload 2 42) := w_iload_n (hm := mm136) dX1_order_41
theorem n136_42 : Snd mt G 136 42 (oAload 0 43) := w_aload_n (hm := mm136) dX1_order_42
theorem n136_43 : Snd mt G 136 43 (oGetf [1] 0 46) := w_getf (hm := mm136) dX1_order_43 (fok1 (k := 0) (T := TX1) 0 (Nat.le_of_ble_eq_true rfl) vc_0 (Nat.le_of_ble_eq_true rfl) q623)
theorem n136_46 : Snd mt G 136 46 (oGetf [2] 12 49) := w_getfN (hm := mm136) dX1_order_46 (fokn1 (k := 12) (T := TX2) 1 (Nat.le_of_ble_eq_true rfl) vc_1 (Nat.le_of_ble_eq_true rfl) q567)
theorem n136_49 : Snd mt G 136 49 (oAload 3 50) := w_aload_n (hm := mm136) dX1_order_49
theorem n136_50 : Snd mt G 136 50 (oGetf [23] 0 53) := w_getfN (hm := mm136) dX1_order_50 (fokn1 (k := 0) (T := TX24) 22 (Nat.le_of_ble_eq_true rfl) vc_22 (Nat.le_of_ble_eq_true rfl) q1132)
theorem n136_53 : Snd mt G 136 53 (oBin (fun x y => x + y) 54) := w_iadd (hm := mm136) dX1_order_53
theorem n136_54 : Snd mt G 136 54 (oConst (.int 1) 55) := w_iconst (hm := mm136) dX1_order_54 rfl
theorem n136_55 : Snd mt G 136 55 (oCall 5 (fI 492 5) 0 58 xOut) := s_callI (m' := 492) (n := 4) xsh_out (w_xok0 mm136) (w_cal mm136 mm492 pn_X25 (Nat.le_of_ble_eq_true rfl) (Nat.le_of_ble_eq_true rfl)) (fun h b as hn => w_run_I mm136 mm492 dX1_order_55 rfl rfl q2065 q2066 q177 q2067 pa492 hn)
theorem n136_58 : Snd mt G 136 58 (oCall 2 (fV [3] 179 2) 0 61 xOut) := s_callV (m' := 179) (n := 1) xsh_out (w_xok0 mm136) (w_cal mm136 mm179 pn_J2 (Nat.le_of_ble_eq_true rfl) (Nat.le_of_ble_eq_true rfl)) (fun h b as hc hn => w_run_V (ci := 2) mm136 mm179 dX1_order_58 (Or.inl (List.mem_singleton.mp hc)) (Nat.le_of_ble_eq_true rfl) vc_2 rfl q1605 q985 q986 q133 q987 pa179 hn)
theorem n136_61 : Snd mt G 136 61 (oPop 62) := w_pop (hm := mm136) dX1_order_61
theorem n136_62 : Snd mt G 136 62 (oAload 0 63) := w_aload_n (hm := mm136) dX1_order_62
theorem n136_63 : Snd mt G 136 63 (oGetf [1] 0 66) := w_getf (hm := mm136) dX1_order_63 (fok1 (k := 0) (T := TX1) 0 (Nat.le_of_ble_eq_true rfl) vc_0 (Nat.le_of_ble_eq_true rfl) q623)
theorem n136_66 : Snd mt G 136 66 (oGetf [2] 7 69) := w_getfN (hm := mm136) dX1_order_66 (fokn1 (k := 7) (T := TX2) 1 (Nat.le_of_ble_eq_true rfl) vc_1 (Nat.le_of_ble_eq_true rfl) q557)
theorem n136_69 : Snd mt G 136 69 (oCall 1 (fV [3] 175 1) 0 72 xOut) := s_callV (m' := 175) (n := 0) xsh_out (w_xok0 mm136) (w_cal mm136 mm175 pn_J2 (Nat.le_of_ble_eq_true rfl) (Nat.le_of_ble_eq_true rfl)) (fun h b as hc hn => w_run_V (ci := 2) mm136 mm175 dX1_order_69 (Or.inl (List.mem_singleton.mp hc)) (Nat.le_of_ble_eq_true rfl) vc_2 rfl q709 q710 q711 q133 q712 pa175 hn)
theorem n136_72 : Snd mt G 136 72 (oConst (.int 1) 73) := w_iconst (hm := mm136) dX1_order_72 rfl
theorem n136_73 : Snd mt G 136 73 (oBin (fun x y => x - y) 74) := w_isub (hm := mm136) dX1_order_73
theorem n136_74 : Snd mt G 136 74 (oRetI .int) := w_iret (hm := mm136) dX1_order_74 rfl
theorem sj136 : ∀ pc, Snd mt G 136 pc (j136 pc) := fun pc => (snd_br ((snd_br ((snd_br ((snd_br ((snd_br ((snd_br ((snd_lf n136_74)) ((snd_lf n136_73)))) ((snd_lf n136_72)))) ((snd_br ((snd_lf n136_69)) ((snd_lf n136_66)))))) ((snd_br ((snd_br ((snd_br ((snd_lf n136_63)) ((snd_lf n136_62)))) ((snd_lf n136_61)))) ((snd_br ((snd_lf n136_58)) ((snd_lf n136_55)))))))) ((snd_br ((snd_br ((snd_br ((snd_br ((snd_lf n136_54)) ((snd_lf n136_53)))) ((snd_lf n136_50)))) ((snd_br ((snd_lf n136_49)) ((snd_lf n136_46)))))) ((snd_br ((snd_br ((snd_br ((snd_lf n136_43)) ((snd_lf n136_42)))) ((snd_lf n136_41)))) ((snd_br ((snd_lf n136_40)) ((snd_lf n136_39)))))))))) ((snd_br ((snd_br ((snd_br ((snd_br ((snd_br ((snd_lf n136_36)) ((snd_lf n136_33)))) ((snd_lf n136_30)))) ((snd_br ((snd_lf n136_29)) ((snd_lf n136_28)))))) ((snd_br ((snd_br ((snd_br ((snd_lf n136_27)) ((snd_lf n136_24)))) ((snd_lf n136_22)))) ((snd_br ((snd_lf n136_19)) ((snd_lf n136_16)))))))) ((snd_br ((snd_br ((snd_br ((snd_br ((snd_lf n136_13)) ((snd_lf n136_12)))) ((snd_lf n136_11)))) ((snd_br ((snd_lf n136_8)) ((snd_lf n136_7)))))) ((snd_br ((snd_br ((snd_br ((snd_lf n136_6)) ((snd_lf n136_5)))) ((snd_lf n136_2)))) ((snd_br ((snd_lf n136_1)) ((snd_lf n136_0)))))))))))
end
section
variable {G : AG}
theorem n137_0 : Snd mt G 137 0 (oIload 1 1) := w_iload_n (hm := mm137) dX1_makerOf_0
theorem n137_1 : Snd mt G 137 1 (oIfLt 18 4) := w_if_lt (hm := mm137) dX1_makerOf_1 rfl
theorem n137_4 : Snd mt G 137 4 (oIload 1 5) := w_iload_n (hm := mm137) dX1_makerOf_4
theorem n137_5 : Snd mt G 137 5 (oAload 0 6) := w_aload_n (hm := mm137) dX1_makerOf_5
theorem n137_6 : Snd mt G 137 6 (oGetf [1] 0 9) := w_getf (hm := mm137) dX1_makerOf_6 (fok1 (k := 0) (T := TX1) 0 (Nat.le_of_ble_eq_true rfl) vc_0 (Nat.le_of_ble_eq_true rfl) q623)
theorem n137_9 : Snd mt G 137 9 (oGetf [2] 6 12) := w_getfN (hm := mm137) dX1_makerOf_9 (fokn1 (k := 6) (T := TX2) 1 (Nat.le_of_ble_eq_true rfl) vc_1 (Nat.le_of_ble_eq_true rfl) q555)
theorem n137_12 : Snd mt G 137 12 (oCall 1 (fV [3] 175 1) 0 15 xOut) := s_callV (m' := 175) (n := 0) xsh_out (w_xok0 mm137) (w_cal mm137 mm175 pn_J2 (Nat.le_of_ble_eq_true rfl) (Nat.le_of_ble_eq_true rfl)) (fun h b as hc hn => w_run_V (ci := 2) mm137 mm175 dX1_makerOf_12 (Or.inl (List.mem_singleton.mp hc)) (Nat.le_of_ble_eq_true rfl) vc_2 rfl q709 q710 q711 q133 q712 pa175 hn)
theorem n137_15 : Snd mt G 137 15 (oCmpLt 26 18) := w_icmp_lt (hm := mm137) dX1_makerOf_15 rfl
theorem n137_18 : Snd mt G 137 18 (oThrow0 34) := w_throw0 (hm := mm137) (ci := 33) (Nat.le_of_ble_eq_true rfl) vc_33 rfl dX1_makerOf_18 dX1_makerOf_21 dX1_makerOf_22 dX1_makerOf_25 zt_X1_80_J20_f zt_X1_80_J20_n (Nat.le_of_ble_eq_true rfl) (Nat.le_of_ble_eq_true rfl) q1692 q170 zt_X1_80_J20_a zt_X1_80_J20_g (by decide)
theorem n137_21 : Snd mt G 137 21 (oDup 22) := w_dup (hm := mm137) dX1_makerOf_21
theorem n137_22 : Snd mt G 137 22 (oCall 1 (fI 482 1) 0 25 xOut) := s_callI (m' := 482) (n := 0) xsh_out (w_xok0 mm137) (w_cal mm137 mm482 pn_J20 (Nat.le_of_ble_eq_true rfl) (Nat.le_of_ble_eq_true rfl)) (fun h b as hn => w_run_I mm137 mm482 dX1_makerOf_22 rfl rfl q1701 q1702 q170 q1703 pa482 hn)
theorem n137_25 : Snd mt G 137 25 (oThrow [7]) := w_throw (hm := mm137) dX1_makerOf_25 (List.forall_mem_cons.mpr ⟨⟨6, _, rfl, (Nat.le_of_ble_eq_true rfl), vc_6⟩, (fun t ht => nomatch ht)⟩) rfl
theorem n137_26 : Snd mt G 137 26 (oAload 0 27) := w_aload_n (hm := mm137) dX1_makerOf_26
theorem n137_27 : Snd mt G 137 27 (oGetf [1] 0 30) := w_getf (hm := mm137) dX1_makerOf_27 (fok1 (k := 0) (T := TX1) 0 (Nat.le_of_ble_eq_true rfl) vc_0 (Nat.le_of_ble_eq_true rfl) q623)
theorem n137_30 : Snd mt G 137 30 (oGetf [2] 6 33) := w_getfN (hm := mm137) dX1_makerOf_30 (fokn1 (k := 6) (T := TX2) 1 (Nat.le_of_ble_eq_true rfl) vc_1 (Nat.le_of_ble_eq_true rfl) q555)
theorem n137_33 : Snd mt G 137 33 (oIload 1 34) := w_iload_n (hm := mm137) dX1_makerOf_33
theorem n137_34 : Snd mt G 137 34 (oCall 2 (fV [3] 176 2) 0 37 xOut) := s_callV (m' := 176) (n := 1) xsh_out (w_xok0 mm137) (w_cal mm137 mm176 pn_J2 (Nat.le_of_ble_eq_true rfl) (Nat.le_of_ble_eq_true rfl)) (fun h b as hc hn => w_run_V (ci := 2) mm137 mm176 dX1_makerOf_34 (Or.inl (List.mem_singleton.mp hc)) (Nat.le_of_ble_eq_true rfl) vc_2 rfl q713 q714 q715 q133 q716 pa176 hn)
theorem n137_37 : Snd mt G 137 37 (oCast [23] 40) := w_cast (hm := mm137) dX1_makerOf_37 q2050 (List.forall_mem_cons.mpr ⟨⟨22, _, Or.inl rfl, (Nat.le_of_ble_eq_true rfl), vc_22, Or.inl rfl⟩, (fun t ht => nomatch ht)⟩)
theorem n137_40 : Snd mt G 137 40 (oRetA) := w_aret (hm := mm137) dX1_makerOf_40 rfl (Or.inl ⟨_, rfl⟩)
theorem sj137 : ∀ pc, Snd mt G 137 pc (j137 pc) := fun pc => (snd_br ((snd_br ((snd_br ((snd_br ((snd_br ((snd_lf n137_40)) ((snd_lf n137_37)))) ((snd_lf n137_34)))) ((snd_br ((snd_lf n137_33)) ((snd_lf n137_30)))))) ((snd_br ((snd_br ((snd_br ((snd_lf n137_27)) ((snd_lf n137_26)))) ((snd_lf n137_25)))) ((snd_br ((snd_lf n137_22)) ((snd_lf n137_21)))))))) ((snd_br ((snd_br ((snd_br ((snd_br ((snd_lf n137_18)) ((snd_lf n137_15)))) ((snd_lf n137_12)))) ((snd_br ((snd_lf n137_9)) ((snd_lf n137_6)))))) ((snd_br ((snd_br ((snd_lf n137_5)) ((snd_lf n137_4)))) ((snd_br ((snd_lf n137_1)) ((snd_lf n137_0)))))))))
end
section
variable {G : AG}
theorem n138_0 : Snd mt G 138 0 (oAload 0 1) := w_aload_n (hm := mm138) dX1_arrive_0
theorem n138_1 : Snd mt G 138 1 (oIload 1 2) := w_iload_n (hm := mm138) dX1_arrive_1
theorem n138_2 : Snd mt G 138 2 (oCall 2 (fV [1] 139 2) 0 5 xOut) := s_callV (m' := 139) (n := 1) xsh_out (w_xok0 mm138) (w_cal mm138 mm139 pn_X1 (Nat.le_of_ble_eq_true rfl) (Nat.le_of_ble_eq_true rfl)) (fun h b as hc hn => w_run_V (ci := 0) mm138 mm139 dX1_arrive_2 (Or.inl (List.mem_singleton.mp hc)) (Nat.le_of_ble_eq_true rfl) vc_0 rfl q2093 q2095 qs57 q129 q2096 pa139 hn)
theorem n138_5 : Snd mt G 138 5 (oAstore 2 6) := w_astore_n (hm := mm138) dX1_arrive_5 (Nat.le_of_ble_eq_true rfl)
theorem n138_6 : Snd mt G 138 6 (oAload 2 7) := w_aload_n (hm := mm138) dX1_arrive_6
theorem n138_7 : Snd mt G 138 7 (oGetf [24] 3 10) := w_getfN (hm := mm138) dX1_arrive_7 (fokn1 (k := 3) (T := TX25) 23 (Nat.le_of_ble_eq_true rfl) vc_23 (Nat.le_of_ble_eq_true rfl) q2076)
theorem n138_10 : Snd mt G 138 10 (oIfEq 13 17) := w_if_ne (hm := mm138) dX1_arrive_10 rfl
theorem n138_13 : Snd mt G 138 13 (oConst (.int (-1000)) 16) := w_sipush (hm := mm138) dX1_arrive_13 (by decide)
theorem n138_16 : Snd mt G 138 16 (oRetI .int) := w_iret (hm := mm138) dX1_arrive_16 rfl
theorem n138_17 : Snd mt G 138 17 (oAload 0 18) := w_aload_n (hm := mm138) dX1_arrive_17
theorem n138_18 : Snd mt G 138 18 (oGetf [1] 0 21) := w_getf (hm := mm138) dX1_arrive_18 (fok1 (k := 0) (T := TX1) 0 (Nat.le_of_ble_eq_true rfl) vc_0 (Nat.le_of_ble_eq_true rfl) q623)
theorem n138_21 : Snd mt G 138 21 (oGetf [2] 7 24) := w_getfN (hm := mm138) dX1_arrive_21 (fokn1 (k := 7) (T := TX2) 1 (Nat.le_of_ble_eq_true rfl) vc_1 (Nat.le_of_ble_eq_true rfl) q557)
theorem n138_24 : Snd mt G 138 24 (oIload 1 25) := w_iload_n (hm := mm138) dX1_arrive_24
theorem n138_25 : Snd mt G 138 25 (oAload 2 26) := w_aload_n (hm := mm138) dX1_arrive_25
theorem n138_26 : Snd mt G 138 26 (oCall 1 (fV [24] 493 1) 0 29 xOut) := s_callV (m' := 493) (n := 0) xsh_out (w_xok0 mm138) (w_cal mm138 mm493 pn_X25 (Nat.le_of_ble_eq_true rfl) (Nat.le_of_ble_eq_true rfl)) (fun h b as hc hn => w_run_V (ci := 23) mm138 mm493 dX1_arrive_26 (Or.inl (List.mem_singleton.mp hc)) (Nat.le_of_ble_eq_true rfl) vc_23 rfl q2097 q2098 q2099 q177 q2100 pa493 hn)
theorem n138_29 : Snd mt G 138 29 (oCall 3 (fV [3] 183 4) 0 32 xOut) := s_callV (m' := 183) (n := 2) xsh_out (w_xok0 mm138) (w_cal mm138 mm183 pn_J2 (Nat.le_of_ble_eq_true rfl) (Nat.le_of_ble_eq_true rfl)) (fun h b as hc hn => w_run_V (ci := 2) mm138 mm183 dX1_arrive_29 (Or.inl (List.mem_singleton.mp hc)) (Nat.le_of_ble_eq_true rfl) vc_2 rfl q2103 q2104 q2105 q133 q2106 pa183 hn)
theorem n138_32 : Snd mt G 138 32 (oPop 33) := w_pop (hm := mm138) dX1_arrive_32
theorem n138_33 : Snd mt G 138 33 (oAload 0 34) := w_aload_n (hm := mm138) dX1_arrive_33
theorem n138_34 : Snd mt G 138 34 (oGetf [1] 0 37) := w_getf (hm := mm138) dX1_arrive_34 (fok1 (k := 0) (T := TX1) 0 (Nat.le_of_ble_eq_true rfl) vc_0 (Nat.le_of_ble_eq_true rfl) q623)
theorem n138_37 : Snd mt G 138 37 (oGetf [2] 11 40) := w_getfN (hm := mm138) dX1_arrive_37 (fokn1 (k := 11) (T := TX2) 1 (Nat.le_of_ble_eq_true rfl) vc_1 (Nat.le_of_ble_eq_true rfl) q565)
theorem n138_40 : Snd mt G 138 40 (oAload 2 41) := w_aload_n (hm := mm138) dX1_arrive_40
theorem n138_41 : Snd mt G 138 41 (oGetf [24] 1 44) := w_getfN (hm := mm138) dX1_arrive_41 (fokn1 (k := 1) (T := TX25) 23 (Nat.le_of_ble_eq_true rfl) vc_23 (Nat.le_of_ble_eq_true rfl) q2072)
theorem n138_44 : Snd mt G 138 44 (oDup2 45) := w_dup2 (hm := mm138) dX1_arrive_44
theorem n138_45 : Snd mt G 138 45 (oAld [100] 46) := w_iaload (hm := mm138) (kt := 0) dX1_arrive_45 at_0 (Nat.le_of_ble_eq_true rfl) (List.forall_mem_cons.mpr ⟨Or.inl rfl, (fun t ht => nomatch ht)⟩)
theorem n138_46 : Snd mt G 138 46 (oConst (.int 1) 47) := w_iconst (hm := mm138) dX1_arrive_46 rfl
theorem n138_47 : Snd mt G 138 47 (oBin (fun x y => x + y) 48) := w_iadd (hm := mm138) dX1_arrive_47
theorem n138_48 : Snd mt G 138 48 (oIast [100] 49) := w_iastore (hm := mm138) (kt := 0) dX1_arrive_48 at_0 (Nat.le_of_ble_eq_true rfl) (List.forall_mem_cons.mpr ⟨rfl, (fun t ht => nomatch ht)⟩)
theorem n138_49 : Snd mt G 138 49 (oAload 0 50) := w_aload_n (hm := mm138) dX1_arrive_49
theorem n138_50 : Snd mt G 138 50 (oGetf [1] 0 53) := w_getf (hm := mm138) dX1_arrive_50 (fok1 (k := 0) (T := TX1) 0 (Nat.le_of_ble_eq_true rfl) vc_0 (Nat.le_of_ble_eq_true rfl) q623)
theorem n138_53 : Snd mt G 138 53 (oGetf [2] 6 56) := w_getfN (hm := mm138) dX1_arrive_53 (fokn1 (k := 6) (T := TX2) 1 (Nat.le_of_ble_eq_true rfl) vc_1 (Nat.le_of_ble_eq_true rfl) q555)
theorem n138_56 : Snd mt G 138 56 (oAload 2 57) := w_aload_n (hm := mm138) dX1_arrive_56
theorem n138_57 : Snd mt G 138 57 (oGetf [24] 0 60) := w_getfN (hm := mm138) dX1_arrive_57 (fokn1 (k := 0) (T := TX25) 23 (Nat.le_of_ble_eq_true rfl) vc_23 (Nat.le_of_ble_eq_true rfl) q2070)
theorem n138_60 : Snd mt G 138 60 (oCall 2 (fV [3] 176 2) 0 63 xOut) := s_callV (m' := 176) (n := 1) xsh_out (w_xok0 mm138) (w_cal mm138 mm176 pn_J2 (Nat.le_of_ble_eq_true rfl) (Nat.le_of_ble_eq_true rfl)) (fun h b as hc hn => w_run_V (ci := 2) mm138 mm176 dX1_arrive_60 (Or.inl (List.mem_singleton.mp hc)) (Nat.le_of_ble_eq_true rfl) vc_2 rfl q713 q714 q715 q133 q716 pa176 hn)
theorem n138_63 : Snd mt G 138 63 (oCast [23] 66) := w_cast (hm := mm138) dX1_arrive_63 q2050 (List.forall_mem_cons.mpr ⟨⟨22, _, Or.inl rfl, (Nat.le_of_ble_eq_true rfl), vc_22, Or.inl rfl⟩, (fun t ht => nomatch ht)⟩)
theorem n138_66 : Snd mt G 138 66 (oAload 0 67) := w_aload_n (hm := mm138) dX1_arrive_66
theorem n138_67 : Snd mt G 138 67 (oGetf [1] 0 70) := w_getf (hm := mm138) dX1_arrive_67 (fok1 (k := 0) (T := TX1) 0 (Nat.le_of_ble_eq_true rfl) vc_0 (Nat.le_of_ble_eq_true rfl) q623)
theorem n138_70 : Snd mt G 138 70 (oGetf [2] 12 73) := w_getfN (hm := mm138) dX1_arrive_70 (fokn1 (k := 12) (T := TX2) 1 (Nat.le_of_ble_eq_true rfl) vc_1 (Nat.le_of_ble_eq_true rfl) q567)
theorem n138_73 : Snd mt G 138 73 (oAload 2 74) := w_aload_n (hm := mm138) dX1_arrive_73
theorem n138_74 : Snd mt G 138 74 (oGetf [24] 2 77) := w_getfN (hm := mm138) dX1_arrive_74 (fokn1 (k := 2) (T := TX25) 23 (Nat.le_of_ble_eq_true rfl) vc_23 (Nat.le_of_ble_eq_true rfl) q2074)
theorem n138_77 : Snd mt G 138 77 (oBin (fun x y => x - y) 78) := w_isub (hm := mm138) dX1_arrive_77
theorem n138_78 : Snd mt G 138 78 (oCall 2 (fV [23] 491 2) 0 81 xOut) := s_callV (m' := 491) (n := 1) xsh_out (w_xok0 mm138) (w_cal mm138 mm491 pn_X24 (Nat.le_of_ble_eq_true rfl) (Nat.le_of_ble_eq_true rfl)) (fun h b as hc hn => w_run_V (ci := 22) mm138 mm491 dX1_arrive_78 (Or.inl (List.mem_singleton.mp hc)) (Nat.le_of_ble_eq_true rfl) vc_22 rfl q2107 q2108 q2109 q176 q2110 pa491 hn)
theorem n138_81 : Snd mt G 138 81 (oAload 0 82) := w_aload_n (hm := mm138) dX1_arrive_81
theorem n138_82 : Snd mt G 138 82 (oGetf [1] 0 85) := w_getf (hm := mm138) dX1_arrive_82 (fok1 (k := 0) (T := TX1) 0 (Nat.le_of_ble_eq_true rfl) vc_0 (Nat.le_of_ble_eq_true rfl) q623)
theorem n138_85 : Snd mt G 138 85 (oGetf [2] 12 88) := w_getfN (hm := mm138) dX1_arrive_85 (fokn1 (k := 12) (T := TX2) 1 (Nat.le_of_ble_eq_true rfl) vc_1 (Nat.le_of_ble_eq_true rfl) q567)
theorem n138_88 : Snd mt G 138 88 (oAload 2 89) := w_aload_n (hm := mm138) dX1_arrive_88
theorem n138_89 : Snd mt G 138 89 (oGetf [24] 2 92) := w_getfN (hm := mm138) dX1_arrive_89 (fokn1 (k := 2) (T := TX25) 23 (Nat.le_of_ble_eq_true rfl) vc_23 (Nat.le_of_ble_eq_true rfl) q2074)
theorem n138_92 : Snd mt G 138 92 (oBin (fun x y => x - y) 93) := w_isub (hm := mm138) dX1_arrive_92
theorem n138_93 : Snd mt G 138 93 (oRetI .int) := w_iret (hm := mm138) dX1_arrive_93 rfl
theorem sj138 : ∀ pc, Snd mt G 138 pc (j138 pc) := fun pc => (snd_br ((snd_br ((snd_br ((snd_br ((snd_br ((snd_br ((snd_lf n138_93)) ((snd_lf n138_92)))) ((snd_lf n138_89)))) ((snd_br ((snd_br ((snd_lf n138_88)) ((snd_lf n138_85)))) ((snd_lf n138_82)))))) ((snd_br ((snd_br ((snd_br ((snd_lf n138_81)) ((snd_lf n138_78)))) ((snd_lf n138_77)))) ((snd_br ((snd_br ((snd_lf n138_74)) ((snd_lf n138_73)))) ((snd_lf n138_70)))))))) ((snd_br ((snd_br ((snd_br ((snd_br ((snd_lf n138_67)) ((snd_lf n138_66)))) ((snd_lf n138_63)))) ((snd_br ((snd_br ((snd_lf n138_60)) ((snd_lf n138_57)))) ((snd_lf n138_56)))))) ((snd_br ((snd_br ((snd_br ((snd_lf n138_53)) ((snd_lf n138_50)))) ((snd_lf n138_49)))) ((snd_br ((snd_br ((snd_lf n138_48)) ((snd_lf n138_47)))) ((snd_lf n138_46)))))))))) ((snd_br ((snd_br ((snd_br ((snd_br ((snd_br ((snd_lf n138_45)) ((snd_lf n138_44)))) ((snd_lf n138_41)))) ((snd_br ((snd_br ((snd_lf n138_40)) ((snd_lf n138_37)))) ((snd_lf n138_34)))))) ((snd_br ((snd_br ((snd_br ((snd_lf n138_33)) ((snd_lf n138_32)))) ((snd_lf n138_29)))) ((snd_br ((snd_br ((snd_lf n138_26)) ((snd_lf n138_25)))) ((snd_lf n138_24)))))))) ((snd_br ((snd_br ((snd_br ((snd_br ((snd_lf n138_21)) ((snd_lf n138_18)))) ((snd_lf n138_17)))) ((snd_br ((snd_br ((snd_lf n138_16)) ((snd_lf n138_13)))) ((snd_lf n138_10)))))) ((snd_br ((snd_br ((snd_br ((snd_lf n138_7)) ((snd_lf n138_6)))) ((snd_lf n138_5)))) ((snd_br ((snd_br ((snd_lf n138_2)) ((snd_lf n138_1)))) ((snd_lf n138_0)))))))))))
end
section
variable {G : AG}
theorem n139_0 : Snd mt G 139 0 (oIload 1 1) := w_iload_n (hm := mm139) dX1_orderedOf_0
theorem n139_1 : Snd mt G 139 1 (oIfLt 18 4) := w_if_lt (hm := mm139) dX1_orderedOf_1 rfl
theorem n139_4 : Snd mt G 139 4 (oIload 1 5) := w_iload_n (hm := mm139) dX1_orderedOf_4
theorem n139_5 : Snd mt G 139 5 (oAload 0 6) := w_aload_n (hm := mm139) dX1_orderedOf_5
theorem n139_6 : Snd mt G 139 6 (oGetf [1] 0 9) := w_getf (hm := mm139) dX1_orderedOf_6 (fok1 (k := 0) (T := TX1) 0 (Nat.le_of_ble_eq_true rfl) vc_0 (Nat.le_of_ble_eq_true rfl) q623)
theorem n139_9 : Snd mt G 139 9 (oGetf [2] 7 12) := w_getfN (hm := mm139) dX1_orderedOf_9 (fokn1 (k := 7) (T := TX2) 1 (Nat.le_of_ble_eq_true rfl) vc_1 (Nat.le_of_ble_eq_true rfl) q557)
theorem n139_12 : Snd mt G 139 12 (oCall 1 (fV [3] 175 1) 0 15 xOut) := s_callV (m' := 175) (n := 0) xsh_out (w_xok0 mm139) (w_cal mm139 mm175 pn_J2 (Nat.le_of_ble_eq_true rfl) (Nat.le_of_ble_eq_true rfl)) (fun h b as hc hn => w_run_V (ci := 2) mm139 mm175 dX1_orderedOf_12 (Or.inl (List.mem_singleton.mp hc)) (Nat.le_of_ble_eq_true rfl) vc_2 rfl q709 q710 q711 q133 q712 pa175 hn)
theorem n139_15 : Snd mt G 139 15 (oCmpLt 26 18) := w_icmp_lt (hm := mm139) dX1_orderedOf_15 rfl
theorem n139_18 : Snd mt G 139 18 (oThrow0 34) := w_throw0 (hm := mm139) (ci := 33) (Nat.le_of_ble_eq_true rfl) vc_33 rfl dX1_orderedOf_18 dX1_orderedOf_21 dX1_orderedOf_22 dX1_orderedOf_25 zt_X1_80_J20_f zt_X1_80_J20_n (Nat.le_of_ble_eq_true rfl) (Nat.le_of_ble_eq_true rfl) q1692 q170 zt_X1_80_J20_a zt_X1_80_J20_g (by decide)
theorem n139_21 : Snd mt G 139 21 (oDup 22) := w_dup (hm := mm139) dX1_orderedOf_21
theorem n139_22 : Snd mt G 139 22 (oCall 1 (fI 482 1) 0 25 xOut) := s_callI (m' := 482) (n := 0) xsh_out (w_xok0 mm139) (w_cal mm139 mm482 pn_J20 (Nat.le_of_ble_eq_true rfl) (Nat.le_of_ble_eq_true rfl)) (fun h b as hn => w_run_I mm139 mm482 dX1_orderedOf_22 rfl rfl q1701 q1702 q170 q1703 pa482 hn)
theorem n139_25 : Snd mt G 139 25 (oThrow [7]) := w_throw (hm := mm139) dX1_orderedOf_25 (List.forall_mem_cons.mpr ⟨⟨6, _, rfl, (Nat.le_of_ble_eq_true rfl), vc_6⟩, (fun t ht => nomatch ht)⟩) rfl
theorem n139_26 : Snd mt G 139 26 (oAload 0 27) := w_aload_n (hm := mm139) dX1_orderedOf_26
theorem n139_27 : Snd mt G 139 27 (oGetf [1] 0 30) := w_getf (hm := mm139) dX1_orderedOf_27 (fok1 (k := 0) (T := TX1) 0 (Nat.le_of_ble_eq_true rfl) vc_0 (Nat.le_of_ble_eq_true rfl) q623)
theorem n139_30 : Snd mt G 139 30 (oGetf [2] 7 33) := w_getfN (hm := mm139) dX1_orderedOf_30 (fokn1 (k := 7) (T := TX2) 1 (Nat.le_of_ble_eq_true rfl) vc_1 (Nat.le_of_ble_eq_true rfl) q557)
theorem n139_33 : Snd mt G 139 33 (oIload 1 34) := w_iload_n (hm := mm139) dX1_orderedOf_33
theorem n139_34 : Snd mt G 139 34 (oCall 2 (fV [3] 176 2) 0 37 xOut) := s_callV (m' := 176) (n := 1) xsh_out (w_xok0 mm139) (w_cal mm139 mm176 pn_J2 (Nat.le_of_ble_eq_true rfl) (Nat.le_of_ble_eq_true rfl)) (fun h b as hc hn => w_run_V (ci := 2) mm139 mm176 dX1_orderedOf_34 (Or.inl (List.mem_singleton.mp hc)) (Nat.le_of_ble_eq_true rfl) vc_2 rfl q713 q714 q715 q133 q716 pa176 hn)
theorem n139_37 : Snd mt G 139 37 (oCast [24] 40) := w_cast (hm := mm139) dX1_orderedOf_37 q2063 (List.forall_mem_cons.mpr ⟨⟨23, _, Or.inl rfl, (Nat.le_of_ble_eq_true rfl), vc_23, Or.inl rfl⟩, (fun t ht => nomatch ht)⟩)
theorem n139_40 : Snd mt G 139 40 (oRetA) := w_aret (hm := mm139) dX1_orderedOf_40 rfl (Or.inl ⟨_, rfl⟩)
theorem sj139 : ∀ pc, Snd mt G 139 pc (j139 pc) := fun pc => (snd_br ((snd_br ((snd_br ((snd_br ((snd_br ((snd_lf n139_40)) ((snd_lf n139_37)))) ((snd_lf n139_34)))) ((snd_br ((snd_lf n139_33)) ((snd_lf n139_30)))))) ((snd_br ((snd_br ((snd_br ((snd_lf n139_27)) ((snd_lf n139_26)))) ((snd_lf n139_25)))) ((snd_br ((snd_lf n139_22)) ((snd_lf n139_21)))))))) ((snd_br ((snd_br ((snd_br ((snd_br ((snd_lf n139_18)) ((snd_lf n139_15)))) ((snd_lf n139_12)))) ((snd_br ((snd_lf n139_9)) ((snd_lf n139_6)))))) ((snd_br ((snd_br ((snd_lf n139_5)) ((snd_lf n139_4)))) ((snd_br ((snd_lf n139_1)) ((snd_lf n139_0)))))))))
end
section
variable {G : AG}
theorem n140_0 : Snd mt G 140 0 (oAload 0 1) := w_aload_n (hm := mm140) dX1_lose_0
theorem n140_1 : Snd mt G 140 1 (oIload 1 2) := w_iload_n (hm := mm140) dX1_lose_1
theorem n140_2 : Snd mt G 140 2 (oCall 2 (fV [1] 139 2) 0 5 xOut) := s_callV (m' := 139) (n := 1) xsh_out (w_xok0 mm140) (w_cal mm140 mm139 pn_X1 (Nat.le_of_ble_eq_true rfl) (Nat.le_of_ble_eq_true rfl)) (fun h b as hc hn => w_run_V (ci := 0) mm140 mm139 dX1_lose_2 (Or.inl (List.mem_singleton.mp hc)) (Nat.le_of_ble_eq_true rfl) vc_0 rfl q2093 q2095 qs57 q129 q2096 pa139 hn)
theorem n140_5 : Snd mt G 140 5 (oAstore 2 6) := w_astore_n (hm := mm140) dX1_lose_5 (Nat.le_of_ble_eq_true rfl)
theorem n140_6 : Snd mt G 140 6 (oAload 2 7) := w_aload_n (hm := mm140) dX1_lose_6
theorem n140_7 : Snd mt G 140 7 (oGetf [24] 3 10) := w_getfN (hm := mm140) dX1_lose_7 (fokn1 (k := 3) (T := TX25) 23 (Nat.le_of_ble_eq_true rfl) vc_23 (Nat.le_of_ble_eq_true rfl) q2076)
theorem n140_10 : Snd mt G 140 10 (oIfEq 13 15) := w_if_ne (hm := mm140) dX1_lose_10 rfl
theorem n140_13 : Snd mt G 140 13 (oConst (.int 0) 14) := w_iconst (hm := mm140) dX1_lose_13 rfl
theorem n140_14 : Snd mt G 140 14 (oRetI .int) := w_iret (hm := mm140) dX1_lose_14 rfl
theorem n140_15 : Snd mt G 140 15 (oAload 0 16) := w_aload_n (hm := mm140) dX1_lose_15
theorem n140_16 : Snd mt G 140 16 (oGetf [1] 0 19) := w_getf (hm := mm140) dX1_lose_16 (fok1 (k := 0) (T := TX1) 0 (Nat.le_of_ble_eq_true rfl) vc_0 (Nat.le_of_ble_eq_true rfl) q623)
theorem n140_19 : Snd mt G 140 19 (oGetf [2] 7 22) := w_getfN (hm := mm140) dX1_lose_19 (fokn1 (k := 7) (T := TX2) 1 (Nat.le_of_ble_eq_true rfl) vc_1 (Nat.le_of_ble_eq_true rfl) q557)
theorem n140_22 : Snd mt G 140 22 (oIload 1 23) := w_iload_n (hm := mm140) dX1_lose_22
theorem n140_23 : Snd mt G 140 23 (oAload 2 24) := w_aload_n (hm := mm140) dX1_lose_23
theorem n140_24 : Snd mt G 140 24 (oCall 1 (fV [24] 493 1) 0 27 xOut) := s_callV (m' := 493) (n := 0) xsh_out (w_xok0 mm140) (w_cal mm140 mm493 pn_X25 (Nat.le_of_ble_eq_true rfl) (Nat.le_of_ble_eq_true rfl)) (fun h b as hc hn => w_run_V (ci := 23) mm140 mm493 dX1_lose_24 (Or.inl (List.mem_singleton.mp hc)) (Nat.le_of_ble_eq_true rfl) vc_23 rfl q2097 q2098 q2099 q177 q2100 pa493 hn)
theorem n140_27 : Snd mt G 140 27 (oCall 3 (fV [3] 183 4) 0 30 xOut) := s_callV (m' := 183) (n := 2) xsh_out (w_xok0 mm140) (w_cal mm140 mm183 pn_J2 (Nat.le_of_ble_eq_true rfl) (Nat.le_of_ble_eq_true rfl)) (fun h b as hc hn => w_run_V (ci := 2) mm140 mm183 dX1_lose_27 (Or.inl (List.mem_singleton.mp hc)) (Nat.le_of_ble_eq_true rfl) vc_2 rfl q2103 q2104 q2105 q133 q2106 pa183 hn)
theorem n140_30 : Snd mt G 140 30 (oPop 31) := w_pop (hm := mm140) dX1_lose_30
theorem n140_31 : Snd mt G 140 31 (oAload 0 32) := w_aload_n (hm := mm140) dX1_lose_31
theorem n140_32 : Snd mt G 140 32 (oGetf [1] 0 35) := w_getf (hm := mm140) dX1_lose_32 (fok1 (k := 0) (T := TX1) 0 (Nat.le_of_ble_eq_true rfl) vc_0 (Nat.le_of_ble_eq_true rfl) q623)
theorem n140_35 : Snd mt G 140 35 (oGetf [2] 6 38) := w_getfN (hm := mm140) dX1_lose_35 (fokn1 (k := 6) (T := TX2) 1 (Nat.le_of_ble_eq_true rfl) vc_1 (Nat.le_of_ble_eq_true rfl) q555)
theorem n140_38 : Snd mt G 140 38 (oAload 2 39) := w_aload_n (hm := mm140) dX1_lose_38
theorem n140_39 : Snd mt G 140 39 (oGetf [24] 0 42) := w_getfN (hm := mm140) dX1_lose_39 (fokn1 (k := 0) (T := TX25) 23 (Nat.le_of_ble_eq_true rfl) vc_23 (Nat.le_of_ble_eq_true rfl) q2070)
theorem n140_42 : Snd mt G 140 42 (oCall 2 (fV [3] 176 2) 0 45 xOut) := s_callV (m' := 176) (n := 1) xsh_out (w_xok0 mm140) (w_cal mm140 mm176 pn_J2 (Nat.le_of_ble_eq_true rfl) (Nat.le_of_ble_eq_true rfl)) (fun h b as hc hn => w_run_V (ci := 2) mm140 mm176 dX1_lose_42 (Or.inl (List.mem_singleton.mp hc)) (Nat.le_of_ble_eq_true rfl) vc_2 rfl q713 q714 q715 q133 q716 pa176 hn)
theorem n140_45 : Snd mt G 140 45 (oCast [23] 48) := w_cast (hm := mm140) dX1_lose_45 q2050 (List.forall_mem_cons.mpr ⟨⟨22, _, Or.inl rfl, (Nat.le_of_ble_eq_true rfl), vc_22, Or.inl rfl⟩, (fun t ht => nomatch ht)⟩)
theorem n140_48 : Snd mt G 140 48 (oDup 49) := w_dup (hm := mm140) dX1_lose_48
theorem n140_49 : Snd mt G 140 49 (oGetf [23] 2 52) := w_getfN (hm := mm140) dX1_lose_49 (fokn1 (k := 2) (T := TX24) 22 (Nat.le_of_ble_eq_true rfl) vc_22 (Nat.le_of_ble_eq_true rfl) q1136)
theorem n140_52 : Snd mt G 140 52 (oConst (.int 1) 53) := w_iconst (hm := mm140) dX1_lose_52 rfl
theorem n140_53 : Snd mt G 140 53 (oBin (fun x y => x + y) 54) := w_iadd (hm := mm140) dX1_lose_53
theorem n140_54 : Snd mt G 140 54 (oPutf [23] 2 .int 57) := w_putfN (hm := mm140) dX1_lose_54 (pnk1 (k := 2) (T := TX24) 22 (Nat.le_of_ble_eq_true rfl) vc_22 (Nat.le_of_ble_eq_true rfl) rfl pd_X24_2 q1136)
theorem n140_57 : Snd mt G 140 57 (oConst (.int 1) 58) := w_iconst (hm := mm140) dX1_lose_57 rfl
theorem n140_58 : Snd mt G 140 58 (oRetI .int) := w_iret (hm := mm140) dX1_lose_58 rfl
theorem sj140 : ∀ pc, Snd mt G 140 pc (j140 pc) := fun pc => (snd_br ((snd_br ((snd_br ((snd_br ((snd_br ((snd_lf n140_58)) ((snd_lf n140_57)))) ((snd_br ((snd_lf n140_54)) ((snd_lf n140_53)))))) ((snd_br ((snd_br ((snd_lf n140_52)) ((snd_lf n140_49)))) ((snd_br ((snd_lf n140_48)) ((snd_lf n140_45)))))))) ((snd_br ((snd_br ((snd_br ((snd_lf n140_42)) ((snd_lf n140_39)))) ((snd_br ((snd_lf n140_38)) ((snd_lf n140_35)))))) ((snd_br ((snd_br ((snd_lf n140_32)) ((snd_lf n140_31)))) ((snd_br ((snd_lf n140_30)) ((snd_lf n140_27)))))))))) ((snd_br ((snd_br ((snd_br ((snd_br ((snd_lf n140_24)) ((snd_lf n140_23)))) ((snd_br ((snd_lf n140_22)) ((snd_lf n140_19)))))) ((snd_br ((snd_br ((snd_lf n140_16)) ((snd_lf n140_15)))) ((snd_br ((snd_lf n140_14)) ((snd_lf n140_13)))))))) ((snd_br ((snd_br ((snd_br ((snd_lf n140_10)) ((snd_lf n140_7)))) ((snd_br ((snd_lf n140_6)) ((snd_lf n140_5)))))) ((snd_br ((snd_br ((snd_lf n140_2)) ((snd_lf n140_1)))) ((snd_lf n140_0)))))))))
end
section
variable {G : AG}
theorem n141_0 : Snd mt G 141 0 (oAload 0 1) := w_aload_n (hm := mm141) dX1_forecast_0
theorem n141_1 : Snd mt G 141 1 (oIload 1 2) := w_iload_n (hm := mm141) dX1_forecast_1
theorem n141_2 : Snd mt G 141 2 (oCall 2 (fV [1] 139 2) 0 5 xOut) := s_callV (m' := 139) (n := 1) xsh_out (w_xok0 mm141) (w_cal mm141 mm139 pn_X1 (Nat.le_of_ble_eq_true rfl) (Nat.le_of_ble_eq_true rfl)) (fun h b as hc hn => w_run_V (ci := 0) mm141 mm139 dX1_forecast_2 (Or.inl (List.mem_singleton.mp hc)) (Nat.le_of_ble_eq_true rfl) vc_0 rfl q2093 q2095 qs57 q129 q2096 pa139 hn)
theorem n141_5 : Snd mt G 141 5 (oAstore 3 6) := w_astore_n (hm := mm141) dX1_forecast_5 (Nat.le_of_ble_eq_true rfl)
theorem n141_6 : Snd mt G 141 6 (oAload 0 7) := w_aload_n (hm := mm141) dX1_forecast_6
theorem n141_7 : Snd mt G 141 7 (oGetf [1] 0 10) := w_getf (hm := mm141) dX1_forecast_7 (fok1 (k := 0) (T := TX1) 0 (Nat.le_of_ble_eq_true rfl) vc_0 (Nat.le_of_ble_eq_true rfl) q623)
theorem n141_10 : Snd mt G 141 10 (oGetf [2] 6 13) := w_getfN (hm := mm141) dX1_forecast_10 (fokn1 (k := 6) (T := TX2) 1 (Nat.le_of_ble_eq_true rfl) vc_1 (Nat.le_of_ble_eq_true rfl) q555)
theorem n141_13 : Snd mt G 141 13 (oAload 3 14) := w_aload_n (hm := mm141) dX1_forecast_13
theorem n141_14 : Snd mt G 141 14 (oGetf [24] 0 17) := w_getfN (hm := mm141) dX1_forecast_14 (fokn1 (k := 0) (T := TX25) 23 (Nat.le_of_ble_eq_true rfl) vc_23 (Nat.le_of_ble_eq_true rfl) q2070)
theorem n141_17 : Snd mt G 141 17 (oCall 2 (fV [3] 176 2) 0 20 xOut) := s_callV (m' := 176) (n := 1) xsh_out (w_xok0 mm141) (w_cal mm141 mm176 pn_J2 (Nat.le_of_ble_eq_true rfl) (Nat.le_of_ble_eq_true rfl)) (fun h b as hc hn => w_run_V (ci := 2) mm141 mm176 dX1_forecast_17 (Or.inl (List.mem_singleton.mp hc)) (Nat.le_of_ble_eq_true rfl) vc_2 rfl q713 q714 q715 q133 q716 pa176 hn)
theorem n141_20 : Snd mt G 141 20 (oCast [23] 23) := w_cast (hm := mm141) dX1_forecast_20 q2050 (List.forall_mem_cons.mpr ⟨⟨22, _, Or.inl rfl, (Nat.le_of_ble_eq_true rfl), vc_22, Or.inl rfl⟩, (fun t ht => nomatch ht)⟩)
theorem n141_23 : Snd mt G 141 23 (oAstore 4 25) := w_astore (hm := mm141) dX1_forecast_23 (Nat.le_of_ble_eq_true rfl)
theorem n141_25 : Snd mt G 141 25 (oAload 3 26) := w_aload_n (hm := mm141) dX1_forecast_25
theorem n141_26 : Snd mt G 141 26 (oGetf [24] 3 29) := w_getfN (hm := mm141) dX1_forecast_26 (fokn1 (k := 3) (T := TX25) 23 (Nat.le_of_ble_eq_true rfl) vc_23 (Nat.le_of_ble_eq_true rfl) q2076)
theorem n141_29 : Snd mt G 141 29 (oIfEq 67 32) := w_if_eq (hm := mm141) dX1_forecast_29 rfl
theorem n141_32 : Snd mt G 141 32 (oAload 0 33) := w_aload_n (hm := mm141) dX1_forecast_32
theorem n141_33 : Snd mt G 141 33 (oGetf [1] 0 36) := w_getf (hm := mm141) dX1_forecast_33 (fok1 (k := 0) (T := TX1) 0 (Nat.le_of_ble_eq_true rfl) vc_0 (Nat.le_of_ble_eq_true rfl) q623)
theorem n141_36 : Snd mt G 141 36 (oGetf [2] 12 39) := w_getfN (hm := mm141) dX1_forecast_36 (fokn1 (k := 12) (T := TX2) 1 (Nat.le_of_ble_eq_true rfl) vc_1 (Nat.le_of_ble_eq_true rfl) q567)
theorem n141_39 : Snd mt G 141 39 (oAload 3 40) := w_aload_n (hm := mm141) dX1_forecast_39
theorem n141_40 : Snd mt G 141 40 (oGetf [24] 2 43) := w_getfN (hm := mm141) dX1_forecast_40 (fokn1 (k := 2) (T := TX25) 23 (Nat.le_of_ble_eq_true rfl) vc_23 (Nat.le_of_ble_eq_true rfl) q2074)
theorem n141_43 : Snd mt G 141 43 (oIload 2 44) := w_iload_n (hm := mm141) dX1_forecast_43
theorem n141_44 : Snd mt G 141 44 (oIfEq 55 47) := w_if_eq (hm := mm141) dX1_forecast_44 rfl
theorem n141_47 : Snd mt G 141 47 (oAload 4 49) := w_aload (hm := mm141) dX1_forecast_47
theorem n141_49 : Snd mt G 141 49 (oGetf [23] 5 52) := w_getfN (hm := mm141) dX1_forecast_49 (fokn1 (k := 5) (T := TX24) 22 (Nat.le_of_ble_eq_true rfl) vc_22 (Nat.le_of_ble_eq_true rfl) q1142)
theorem n141_52 : Snd mt G 141 52 (oGoto 60) := w_goto (hm := mm141) dX1_forecast_52 rfl
theorem n141_55 : Snd mt G 141 55 (oAload 4 57) := w_aload (hm := mm141) dX1_forecast_55
theorem n141_57 : Snd mt G 141 57 (oGetf [23] 4 60) := w_getfN (hm := mm141) dX1_forecast_57 (fokn1 (k := 4) (T := TX24) 22 (Nat.le_of_ble_eq_true rfl) vc_22 (Nat.le_of_ble_eq_true rfl) q1140)
theorem n141_60 : Snd mt G 141 60 (oBin (fun x y => x + y) 61) := w_iadd (hm := mm141) dX1_forecast_60
theorem n141_61 : Snd mt G 141 61 (oMath2 (fun x y => if x < y then y else x) 64) := w_mmax (hm := mm141) dX1_forecast_61 (Nat.le_of_ble_eq_true rfl) q826 q313 q143 q314
theorem n141_64 : Snd mt G 141 64 (oGoto 68) := w_goto (hm := mm141) dX1_forecast_64 rfl
theorem n141_67 : Snd mt G 141 67 (oConst (.int (-1)) 68) := w_iconst (hm := mm141) dX1_forecast_67 rfl
theorem n141_68 : Snd mt G 141 68 (oRetI .int) := w_iret (hm := mm141) dX1_forecast_68 rfl
theorem sj141 : ∀ pc, Snd mt G 141 pc (j141 pc) := fun pc => (snd_br ((snd_br ((snd_br ((snd_br ((snd_br ((snd_lf n141_68)) ((snd_lf n141_67)))) ((snd_br ((snd_lf n141_64)) ((snd_lf n141_61)))))) ((snd_br ((snd_br ((snd_lf n141_60)) ((snd_lf n141_57)))) ((snd_br ((snd_lf n141_55)) ((snd_lf n141_52)))))))) ((snd_br ((snd_br ((snd_br ((snd_lf n141_49)) ((snd_lf n141_47)))) ((snd_br ((snd_lf n141_44)) ((snd_lf n141_43)))))) ((snd_br ((snd_br ((snd_lf n141_40)) ((snd_lf n141_39)))) ((snd_br ((snd_lf n141_36)) ((snd_lf n141_33)))))))))) ((snd_br ((snd_br ((snd_br ((snd_br ((snd_lf n141_32)) ((snd_lf n141_29)))) ((snd_br ((snd_lf n141_26)) ((snd_lf n141_25)))))) ((snd_br ((snd_br ((snd_lf n141_23)) ((snd_lf n141_20)))) ((snd_br ((snd_lf n141_17)) ((snd_lf n141_14)))))))) ((snd_br ((snd_br ((snd_br ((snd_lf n141_13)) ((snd_lf n141_10)))) ((snd_br ((snd_lf n141_7)) ((snd_lf n141_6)))))) ((snd_br ((snd_br ((snd_lf n141_5)) ((snd_lf n141_2)))) ((snd_br ((snd_lf n141_1)) ((snd_lf n141_0)))))))))))
end
section
variable {G : AG}
theorem n142_0 : Snd mt G 142 0 (oAload 0 1) := w_aload_n (hm := mm142) dX1_late_0
theorem n142_1 : Snd mt G 142 1 (oIload 1 2) := w_iload_n (hm := mm142) dX1_late_1
theorem n142_2 : Snd mt G 142 2 (oCall 2 (fV [1] 137 2) 0 5 xOut) := s_callV (m' := 137) (n := 1) xsh_out (w_xok0 mm142) (w_cal mm142 mm137 pn_X1 (Nat.le_of_ble_eq_true rfl) (Nat.le_of_ble_eq_true rfl)) (fun h b as hc hn => w_run_V (ci := 0) mm142 mm137 dX1_late_2 (Or.inl (List.mem_singleton.mp hc)) (Nat.le_of_ble_eq_true rfl) vc_0 rfl q2059 q2061 qs56 q129 q2062 pa137 hn)
theorem n142_5 : Snd mt G 142 5 (oAstore 3 6) := w_astore_n (hm := mm142) dX1_late_5 (Nat.le_of_ble_eq_true rfl)
theorem n142_6 : Snd mt G 142 6 (oIload 2 7) := w_iload_n (hm := mm142) dX1_late_6
theorem n142_7 : Snd mt G 142 7 (oIfLt 20 10) := w_if_lt (hm := mm142) dX1_late_7 rfl
theorem n142_10 : Snd mt G 142 10 (oIload 2 11) := w_iload_n (hm := mm142) dX1_late_10
theorem n142_11 : Snd mt G 142 11 (oConst (.int 6) 13) := w_bipush (hm := mm142) dX1_late_11 (by decide)
theorem n142_13 : Snd mt G 142 13 (oCmpGt 20 16) := w_icmp_gt (hm := mm142) dX1_late_13 rfl
theorem n142_16 : Snd mt G 142 16 (oConst (.int 1) 17) := w_iconst (hm := mm142) dX1_late_16 rfl
theorem n142_17 : Snd mt G 142 17 (oGoto 21) := w_goto (hm := mm142) dX1_late_17 rfl
theorem n142_20 : Snd mt G 142 20 (oConst (.int 0) 21) := w_iconst (hm := mm142) dX1_late_20 rfl
theorem n142_21 : Snd mt G 142 21 (oCall 1 (fS 89 1) 0 24 xOut) := s_callS (m' := 89) (n := 1) xsh_out (w_xok0 mm142) (w_cal mm142 mm89 pn_X1 (Nat.le_of_ble_eq_true rfl) (Nat.le_of_ble_eq_true rfl)) (fun h as hn => w_run_S mm142 mm89 dX1_late_21 q1180 q1181 q129 q1182 pa89 hn)
theorem n142_24 : Snd mt G 142 24 (oConst (.int 0) 25) := w_iconst (hm := mm142) dX1_late_24 rfl
theorem n142_25 : Snd mt G 142 25 (oIstore 4 27) := w_istore (hm := mm142) dX1_late_25 (Nat.le_of_ble_eq_true rfl)
theorem n142_27 : Snd mt G 142 27 (oConst (.int 0) 28) := w_iconst (hm := mm142) dX1_late_27 rfl
theorem n142_28 : Snd mt G 142 28 (oIstore 5 30) := w_istore (hm := mm142) dX1_late_28 (Nat.le_of_ble_eq_true rfl)
theorem n142_30 : Snd mt G 142 30 (oIload 5 32) := w_iload (hm := mm142) dX1_late_30
theorem n142_32 : Snd mt G 142 32 (oAload 0 33) := w_aload_n (hm := mm142) dX1_late_32
theorem n142_33 : Snd mt G 142 33 (oGetf [1] 0 36) := w_getf (hm := mm142) dX1_late_33 (fok1 (k := 0) (T := TX1) 0 (Nat.le_of_ble_eq_true rfl) vc_0 (Nat.le_of_ble_eq_true rfl) q623)
theorem n142_36 : Snd mt G 142 36 (oGetf [2] 7 39) := w_getfN (hm := mm142) dX1_late_36 (fokn1 (k := 7) (T := TX2) 1 (Nat.le_of_ble_eq_true rfl) vc_1 (Nat.le_of_ble_eq_true rfl) q557)
theorem n142_39 : Snd mt G 142 39 (oCall 1 (fV [3] 175 1) 0 42 xOut) := s_callV (m' := 175) (n := 0) xsh_out (w_xok0 mm142) (w_cal mm142 mm175 pn_J2 (Nat.le_of_ble_eq_true rfl) (Nat.le_of_ble_eq_true rfl)) (fun h b as hc hn => w_run_V (ci := 2) mm142 mm175 dX1_late_39 (Or.inl (List.mem_singleton.mp hc)) (Nat.le_of_ble_eq_true rfl) vc_2 rfl q709 q710 q711 q133 q712 pa175 hn)
theorem n142_42 : Snd mt G 142 42 (oCmpGe 104 45) := w_icmp_ge (hm := mm142) dX1_late_42 rfl
theorem n142_45 : Snd mt G 142 45 (oIload 4 47) := w_iload (hm := mm142) dX1_late_45
theorem n142_47 : Snd mt G 142 47 (oAload 0 48) := w_aload_n (hm := mm142) dX1_late_47
theorem n142_48 : Snd mt G 142 48 (oGetf [1] 0 51) := w_getf (hm := mm142) dX1_late_48 (fok1 (k := 0) (T := TX1) 0 (Nat.le_of_ble_eq_true rfl) vc_0 (Nat.le_of_ble_eq_true rfl) q623)
theorem n142_51 : Snd mt G 142 51 (oGetf [2] 7 54) := w_getfN (hm := mm142) dX1_late_51 (fokn1 (k := 7) (T := TX2) 1 (Nat.le_of_ble_eq_true rfl) vc_1 (Nat.le_of_ble_eq_true rfl) q557)
theorem n142_54 : Snd mt G 142 54 (oIload 5 56) := w_iload (hm := mm142) dX1_late_54
theorem n142_56 : Snd mt G 142 56 (oCall 2 (fV [3] 176 2) 0 59 xOut) := s_callV (m' := 176) (n := 1) xsh_out (w_xok0 mm142) (w_cal mm142 mm176 pn_J2 (Nat.le_of_ble_eq_true rfl) (Nat.le_of_ble_eq_true rfl)) (fun h b as hc hn => w_run_V (ci := 2) mm142 mm176 dX1_late_56 (Or.inl (List.mem_singleton.mp hc)) (Nat.le_of_ble_eq_true rfl) vc_2 rfl q713 q714 q715 q133 q716 pa176 hn)
theorem n142_59 : Snd mt G 142 59 (oCast [24] 62) := w_cast (hm := mm142) dX1_late_59 q2063 (List.forall_mem_cons.mpr ⟨⟨23, _, Or.inl rfl, (Nat.le_of_ble_eq_true rfl), vc_23, Or.inl rfl⟩, (fun t ht => nomatch ht)⟩)
theorem n142_62 : Snd mt G 142 62 (oGetf [24] 3 65) := w_getfN (hm := mm142) dX1_late_62 (fokn1 (k := 3) (T := TX25) 23 (Nat.le_of_ble_eq_true rfl) vc_23 (Nat.le_of_ble_eq_true rfl) q2076)
theorem n142_65 : Snd mt G 142 65 (oIfEq 94 68) := w_if_eq (hm := mm142) dX1_late_65 rfl
theorem n142_68 : Snd mt G 142 68 (oAload 0 69) := w_aload_n (hm := mm142) dX1_late_68
theorem n142_69 : Snd mt G 142 69 (oGetf [1] 0 72) := w_getf (hm := mm142) dX1_late_69 (fok1 (k := 0) (T := TX1) 0 (Nat.le_of_ble_eq_true rfl) vc_0 (Nat.le_of_ble_eq_true rfl) q623)
theorem n142_72 : Snd mt G 142 72 (oGetf [2] 7 75) := w_getfN (hm := mm142) dX1_late_72 (fokn1 (k := 7) (T := TX2) 1 (Nat.le_of_ble_eq_true rfl) vc_1 (Nat.le_of_ble_eq_true rfl) q557)
theorem n142_75 : Snd mt G 142 75 (oIload 5 77) := w_iload (hm := mm142) dX1_late_75
theorem n142_77 : Snd mt G 142 77 (oCall 2 (fV [3] 176 2) 0 80 xOut) := s_callV (m' := 176) (n := 1) xsh_out (w_xok0 mm142) (w_cal mm142 mm176 pn_J2 (Nat.le_of_ble_eq_true rfl) (Nat.le_of_ble_eq_true rfl)) (fun h b as hc hn => w_run_V (ci := 2) mm142 mm176 dX1_late_77 (Or.inl (List.mem_singleton.mp hc)) (Nat.le_of_ble_eq_true rfl) vc_2 rfl q713 q714 q715 q133 q716 pa176 hn)
theorem n142_80 : Snd mt G 142 80 (oCast [24] 83) := w_cast (hm := mm142) dX1_late_80 q2063 (List.forall_mem_cons.mpr ⟨⟨23, _, Or.inl rfl, (Nat.le_of_ble_eq_true rfl), vc_23, Or.inl rfl⟩, (fun t ht => nomatch ht)⟩)
theorem n142_83 : Snd mt G 142 83 (oGetf [24] 0 86) := w_getfN (hm := mm142) dX1_late_83 (fokn1 (k := 0) (T := TX25) 23 (Nat.le_of_ble_eq_true rfl) vc_23 (Nat.le_of_ble_eq_true rfl) q2070)
theorem n142_86 : Snd mt G 142 86 (oIload 1 87) := w_iload_n (hm := mm142) dX1_late_86
theorem n142_87 : Snd mt G 142 87 (oCmpEq 90 94) := w_icmp_ne (hm := mm142) dX1_late_87 rfl
theorem n142_90 : Snd mt G 142 90 (oConst (.int 1) 91) := w_iconst (hm := mm142) dX1_late_90 rfl
theorem n142_91 : Snd mt G 142 91 (oGoto 95) := w_goto (hm := mm142) dX1_late_91 rfl
theorem n142_94 : Snd mt G 142 94 (oConst (.int 0) 95) := w_iconst (hm := mm142) dX1_late_94 rfl
theorem n142_95 : Snd mt G 142 95 (oBin (fun x y => x + y) 96) := w_iadd (hm := mm142) dX1_late_95
theorem n142_96 : Snd mt G 142 96 (oIstore 4 98) := w_istore (hm := mm142) dX1_late_96 (Nat.le_of_ble_eq_true rfl)
theorem n142_98 : Snd mt G 142 98 (oIinc 5 1 101) := w_iinc (hm := mm142) dX1_late_98 rfl (Nat.le_of_ble_eq_true rfl)
theorem n142_101 : Snd mt G 142 101 (oGoto 30) := w_goto (hm := mm142) dX1_late_101 rfl
theorem n142_104 : Snd mt G 142 104 (oIload 2 105) := w_iload_n (hm := mm142) dX1_late_104
theorem n142_105 : Snd mt G 142 105 (oSwitch sw142_105) := w_tableL (hm := mm142) (dfl := 172) (L := [144, 149, 152, 157, 162, 167]) dX1_late_105 rfl rfl (by decide +kernel)
theorem n142_144 : Snd mt G 142 144 (oAload 3 145) := w_aload_n (hm := mm142) dX1_late_144
theorem n142_145 : Snd mt G 142 145 (oGetf [23] 0 148) := w_getfN (hm := mm142) dX1_late_145 (fokn1 (k := 0) (T := TX24) 22 (Nat.le_of_ble_eq_true rfl) vc_22 (Nat.le_of_ble_eq_true rfl) q1132)
theorem n142_148 : Snd mt G 142 148 (oRetI .int) := w_iret (hm := mm142) dX1_late_148 rfl
theorem n142_149 : Snd mt G 142 149 (oIload 4 151) := w_iload (hm := mm142) dX1_late_149
theorem n142_151 : Snd mt G 142 151 (oRetI .int) := w_iret (hm := mm142) dX1_late_151 rfl
theorem n142_152 : Snd mt G 142 152 (oAload 3 153) := w_aload_n (hm := mm142) dX1_late_152
theorem n142_153 : Snd mt G 142 153 (oGetf [23] 1 156) := w_getfN (hm := mm142) dX1_late_153 (fokn1 (k := 1) (T := TX24) 22 (Nat.le_of_ble_eq_true rfl) vc_22 (Nat.le_of_ble_eq_true rfl) q1134)
theorem n142_156 : Snd mt G 142 156 (oRetI .int) := w_iret (hm := mm142) dX1_late_156 rfl
theorem n142_157 : Snd mt G 142 157 (oAload 3 158) := w_aload_n (hm := mm142) dX1_late_157
theorem n142_158 : Snd mt G 142 158 (oGetf [23] 2 161) := w_getfN (hm := mm142) dX1_late_158 (fokn1 (k := 2) (T := TX24) 22 (Nat.le_of_ble_eq_true rfl) vc_22 (Nat.le_of_ble_eq_true rfl) q1136)
theorem n142_161 : Snd mt G 142 161 (oRetI .int) := w_iret (hm := mm142) dX1_late_161 rfl
theorem n142_162 : Snd mt G 142 162 (oAload 3 163) := w_aload_n (hm := mm142) dX1_late_162
theorem n142_163 : Snd mt G 142 163 (oGetf [23] 3 166) := w_getfN (hm := mm142) dX1_late_163 (fokn1 (k := 3) (T := TX24) 22 (Nat.le_of_ble_eq_true rfl) vc_22 (Nat.le_of_ble_eq_true rfl) q1138)
theorem n142_166 : Snd mt G 142 166 (oRetI .int) := w_iret (hm := mm142) dX1_late_166 rfl
theorem n142_167 : Snd mt G 142 167 (oAload 3 168) := w_aload_n (hm := mm142) dX1_late_167
theorem n142_168 : Snd mt G 142 168 (oGetf [23] 4 171) := w_getfN (hm := mm142) dX1_late_168 (fokn1 (k := 4) (T := TX24) 22 (Nat.le_of_ble_eq_true rfl) vc_22 (Nat.le_of_ble_eq_true rfl) q1140)
theorem n142_171 : Snd mt G 142 171 (oRetI .int) := w_iret (hm := mm142) dX1_late_171 rfl
theorem n142_172 : Snd mt G 142 172 (oAload 3 173) := w_aload_n (hm := mm142) dX1_late_172
theorem n142_173 : Snd mt G 142 173 (oGetf [23] 5 176) := w_getfN (hm := mm142) dX1_late_173 (fokn1 (k := 5) (T := TX24) 22 (Nat.le_of_ble_eq_true rfl) vc_22 (Nat.le_of_ble_eq_true rfl) q1142)
theorem n142_176 : Snd mt G 142 176 (oRetI .int) := w_iret (hm := mm142) dX1_late_176 rfl
theorem sj142 : ∀ pc, Snd mt G 142 pc (j142 pc) := fun pc => (snd_br ((snd_br ((snd_br ((snd_br ((snd_br ((snd_br ((snd_br ((snd_lf n142_176)) ((snd_lf n142_173)))) ((snd_lf n142_172)))) ((snd_br ((snd_lf n142_171)) ((snd_lf n142_168)))))) ((snd_br ((snd_br ((snd_lf n142_167)) ((snd_lf n142_166)))) ((snd_br ((snd_lf n142_163)) ((snd_lf n142_162)))))))) ((snd_br ((snd_br ((snd_br ((snd_br ((snd_lf n142_161)) ((snd_lf n142_158)))) ((snd_lf n142_157)))) ((snd_br ((snd_lf n142_156)) ((snd_lf n142_153)))))) ((snd_br ((snd_br ((snd_lf n142_152)) ((snd_lf n142_151)))) ((snd_br ((snd_lf n142_149)) ((snd_lf n142_148)))))))))) ((snd_br ((snd_br ((snd_br ((snd_br ((snd_br ((snd_lf n142_145)) ((snd_lf n142_144)))) ((snd_lf n142_105)))) ((snd_br ((snd_lf n142_104)) ((snd_lf n142_101)))))) ((snd_br ((snd_br ((snd_lf n142_98)) ((snd_lf n142_96)))) ((snd_br ((snd_lf n142_95)) ((snd_lf n142_94)))))))) ((snd_br ((snd_br ((snd_br ((snd_lf n142_91)) ((snd_lf n142_90)))) ((snd_br ((snd_lf n142_87)) ((snd_lf n142_86)))))) ((snd_br ((snd_br ((snd_lf n142_83)) ((snd_lf n142_80)))) ((snd_br ((snd_lf n142_77)) ((snd_lf n142_75)))))))))))) ((snd_br ((snd_br ((snd_br ((snd_br ((snd_br ((snd_br ((snd_lf n142_72)) ((snd_lf n142_69)))) ((snd_lf n142_68)))) ((snd_br ((snd_lf n142_65)) ((snd_lf n142_62)))))) ((snd_br ((snd_br ((snd_lf n142_59)) ((snd_lf n142_56)))) ((snd_br ((snd_lf n142_54)) ((snd_lf n142_51)))))))) ((snd_br ((snd_br ((snd_br ((snd_br ((snd_lf n142_48)) ((snd_lf n142_47)))) ((snd_lf n142_45)))) ((snd_br ((snd_lf n142_42)) ((snd_lf n142_39)))))) ((snd_br ((snd_br ((snd_lf n142_36)) ((snd_lf n142_33)))) ((snd_br ((snd_lf n142_32)) ((snd_lf n142_30)))))))))) ((snd_br ((snd_br ((snd_br ((snd_br ((snd_br ((snd_lf n142_28)) ((snd_lf n142_27)))) ((snd_lf n142_25)))) ((snd_br ((snd_lf n142_24)) ((snd_lf n142_21)))))) ((snd_br ((snd_br ((snd_lf n142_20)) ((snd_lf n142_17)))) ((snd_br ((snd_lf n142_16)) ((snd_lf n142_13)))))))) ((snd_br ((snd_br ((snd_br ((snd_lf n142_11)) ((snd_lf n142_10)))) ((snd_br ((snd_lf n142_7)) ((snd_lf n142_6)))))) ((snd_br ((snd_br ((snd_lf n142_5)) ((snd_lf n142_2)))) ((snd_br ((snd_lf n142_1)) ((snd_lf n142_0)))))))))))))
end
section
variable {G : AG}
theorem n143_0 : Snd mt G 143 0 (oAload 0 1) := w_aload_n (hm := mm143) dX1_stock_0
theorem n143_1 : Snd mt G 143 1 (oIload 1 2) := w_iload_n (hm := mm143) dX1_stock_1
theorem n143_2 : Snd mt G 143 2 (oCall 2 (fV [1] 103 2) 0 5 xOut) := s_callV (m' := 103) (n := 1) xsh_out (w_xok0 mm143) (w_cal mm143 mm103 pn_X1 (Nat.le_of_ble_eq_true rfl) (Nat.le_of_ble_eq_true rfl)) (fun h b as hc hn => w_run_V (ci := 0) mm143 mm103 dX1_stock_2 (Or.inl (List.mem_singleton.mp hc)) (Nat.le_of_ble_eq_true rfl) vc_0 rfl q1763 q1765 qs43 q129 q1766 pa103 hn)
theorem n143_5 : Snd mt G 143 5 (oPop 6) := w_pop (hm := mm143) dX1_stock_5
theorem n143_6 : Snd mt G 143 6 (oAload 0 7) := w_aload_n (hm := mm143) dX1_stock_6
theorem n143_7 : Snd mt G 143 7 (oGetf [1] 0 10) := w_getf (hm := mm143) dX1_stock_7 (fok1 (k := 0) (T := TX1) 0 (Nat.le_of_ble_eq_true rfl) vc_0 (Nat.le_of_ble_eq_true rfl) q623)
theorem n143_10 : Snd mt G 143 10 (oGetf [2] 11 13) := w_getfN (hm := mm143) dX1_stock_10 (fokn1 (k := 11) (T := TX2) 1 (Nat.le_of_ble_eq_true rfl) vc_1 (Nat.le_of_ble_eq_true rfl) q565)
theorem n143_13 : Snd mt G 143 13 (oIload 1 14) := w_iload_n (hm := mm143) dX1_stock_13
theorem n143_14 : Snd mt G 143 14 (oAld [100] 15) := w_iaload (hm := mm143) (kt := 0) dX1_stock_14 at_0 (Nat.le_of_ble_eq_true rfl) (List.forall_mem_cons.mpr ⟨Or.inl rfl, (fun t ht => nomatch ht)⟩)
theorem n143_15 : Snd mt G 143 15 (oRetI .int) := w_iret (hm := mm143) dX1_stock_15 rfl
theorem sj143 : ∀ pc, Snd mt G 143 pc (j143 pc) := fun pc => (snd_br ((snd_br ((snd_br ((snd_br ((snd_lf n143_15)) ((snd_lf n143_14)))) ((snd_lf n143_13)))) ((snd_br ((snd_lf n143_10)) ((snd_lf n143_7)))))) ((snd_br ((snd_br ((snd_br ((snd_lf n143_6)) ((snd_lf n143_5)))) ((snd_lf n143_2)))) ((snd_br ((snd_lf n143_1)) ((snd_lf n143_0)))))))
end
section
variable {G : AG}
theorem n144_0 : Snd mt G 144 0 (oAload 0 1) := w_aload_n (hm := mm144) dX1_spare_0
theorem n144_1 : Snd mt G 144 1 (oIload 1 2) := w_iload_n (hm := mm144) dX1_spare_1
theorem n144_2 : Snd mt G 144 2 (oCall 2 (fV [1] 103 2) 0 5 xOut) := s_callV (m' := 103) (n := 1) xsh_out (w_xok0 mm144) (w_cal mm144 mm103 pn_X1 (Nat.le_of_ble_eq_true rfl) (Nat.le_of_ble_eq_true rfl)) (fun h b as hc hn => w_run_V (ci := 0) mm144 mm103 dX1_spare_2 (Or.inl (List.mem_singleton.mp hc)) (Nat.le_of_ble_eq_true rfl) vc_0 rfl q1763 q1765 qs43 q129 q1766 pa103 hn)
theorem n144_5 : Snd mt G 144 5 (oPop 6) := w_pop (hm := mm144) dX1_spare_5
theorem n144_6 : Snd mt G 144 6 (oAload 0 7) := w_aload_n (hm := mm144) dX1_spare_6
theorem n144_7 : Snd mt G 144 7 (oGetf [1] 0 10) := w_getf (hm := mm144) dX1_spare_7 (fok1 (k := 0) (T := TX1) 0 (Nat.le_of_ble_eq_true rfl) vc_0 (Nat.le_of_ble_eq_true rfl) q623)
theorem n144_10 : Snd mt G 144 10 (oGetf [2] 13 13) := w_getfN (hm := mm144) dX1_spare_10 (fokn1 (k := 13) (T := TX2) 1 (Nat.le_of_ble_eq_true rfl) vc_1 (Nat.le_of_ble_eq_true rfl) q569)
theorem n144_13 : Snd mt G 144 13 (oConst (.int 6) 15) := w_bipush (hm := mm144) dX1_spare_13 (by decide)
theorem n144_15 : Snd mt G 144 15 (oCmpEq 18 20) := w_icmp_ne (hm := mm144) dX1_spare_15 rfl
theorem n144_18 : Snd mt G 144 18 (oConst (.int (-1)) 19) := w_iconst (hm := mm144) dX1_spare_18 rfl
theorem n144_19 : Snd mt G 144 19 (oRetI .int) := w_iret (hm := mm144) dX1_spare_19 rfl
theorem n144_20 : Snd mt G 144 20 (oAload 0 21) := w_aload_n (hm := mm144) dX1_spare_20
theorem n144_21 : Snd mt G 144 21 (oGetf [1] 0 24) := w_getf (hm := mm144) dX1_spare_21 (fok1 (k := 0) (T := TX1) 0 (Nat.le_of_ble_eq_true rfl) vc_0 (Nat.le_of_ble_eq_true rfl) q623)
theorem n144_24 : Snd mt G 144 24 (oGetf [2] 10 27) := w_getfN (hm := mm144) dX1_spare_24 (fokn1 (k := 10) (T := TX2) 1 (Nat.le_of_ble_eq_true rfl) vc_1 (Nat.le_of_ble_eq_true rfl) q563)
theorem n144_27 : Snd mt G 144 27 (oAload 0 28) := w_aload_n (hm := mm144) dX1_spare_27
theorem n144_28 : Snd mt G 144 28 (oGetf [1] 0 31) := w_getf (hm := mm144) dX1_spare_28 (fok1 (k := 0) (T := TX1) 0 (Nat.le_of_ble_eq_true rfl) vc_0 (Nat.le_of_ble_eq_true rfl) q623)
theorem n144_31 : Snd mt G 144 31 (oGetf [2] 13 34) := w_getfN (hm := mm144) dX1_spare_31 (fokn1 (k := 13) (T := TX2) 1 (Nat.le_of_ble_eq_true rfl) vc_1 (Nat.le_of_ble_eq_true rfl) q569)
theorem n144_34 : Snd mt G 144 34 (oIload 1 35) := w_iload_n (hm := mm144) dX1_spare_34
theorem n144_35 : Snd mt G 144 35 (oIast [100] 36) := w_iastore (hm := mm144) (kt := 0) dX1_spare_35 at_0 (Nat.le_of_ble_eq_true rfl) (List.forall_mem_cons.mpr ⟨rfl, (fun t ht => nomatch ht)⟩)
theorem n144_36 : Snd mt G 144 36 (oAload 0 37) := w_aload_n (hm := mm144) dX1_spare_36
theorem n144_37 : Snd mt G 144 37 (oGetf [1] 0 40) := w_getf (hm := mm144) dX1_spare_37 (fok1 (k := 0) (T := TX1) 0 (Nat.le_of_ble_eq_true rfl) vc_0 (Nat.le_of_ble_eq_true rfl) q623)
theorem n144_40 : Snd mt G 144 40 (oDup 41) := w_dup (hm := mm144) dX1_spare_40
theorem n144_41 : Snd mt G 144 41 (oGetf [2] 13 44) := w_getfN (hm := mm144) dX1_spare_41 (fokn1 (k := 13) (T := TX2) 1 (Nat.le_of_ble_eq_true rfl) vc_1 (Nat.le_of_ble_eq_true rfl) q569)
theorem n144_44 : Snd mt G 144 44 (oConst (.int 1) 45) := w_iconst (hm := mm144) dX1_spare_44 rfl
theorem n144_45 : Snd mt G 144 45 (oBin (fun x y => x + y) 46) := w_iadd (hm := mm144) dX1_spare_45
theorem n144_46 : Snd mt G 144 46 (oPutf [2] 13 .int 49) := w_putfN (hm := mm144) dX1_spare_46 (pnk1 (k := 13) (T := TX2) 1 (Nat.le_of_ble_eq_true rfl) vc_1 (Nat.le_of_ble_eq_true rfl) rfl pd_X2_13 q569)
theorem n144_49 : Snd mt G 144 49 (oAload 0 50) := w_aload_n (hm := mm144) dX1_spare_49
theorem n144_50 : Snd mt G 144 50 (oGetf [1] 0 53) := w_getf (hm := mm144) dX1_spare_50 (fok1 (k := 0) (T := TX1) 0 (Nat.le_of_ble_eq_true rfl) vc_0 (Nat.le_of_ble_eq_true rfl) q623)
theorem n144_53 : Snd mt G 144 53 (oGetf [2] 13 56) := w_getfN (hm := mm144) dX1_spare_53 (fokn1 (k := 13) (T := TX2) 1 (Nat.le_of_ble_eq_true rfl) vc_1 (Nat.le_of_ble_eq_true rfl) q569)
theorem n144_56 : Snd mt G 144 56 (oRetI .int) := w_iret (hm := mm144) dX1_spare_56 rfl
theorem sj144 : ∀ pc, Snd mt G 144 pc (j144 pc) := fun pc => (snd_br ((snd_br ((snd_br ((snd_br ((snd_br ((snd_lf n144_56)) ((snd_lf n144_53)))) ((snd_br ((snd_lf n144_50)) ((snd_lf n144_49)))))) ((snd_br ((snd_br ((snd_lf n144_46)) ((snd_lf n144_45)))) ((snd_br ((snd_lf n144_44)) ((snd_lf n144_41)))))))) ((snd_br ((snd_br ((snd_br ((snd_lf n144_40)) ((snd_lf n144_37)))) ((snd_br ((snd_lf n144_36)) ((snd_lf n144_35)))))) ((snd_br ((snd_br ((snd_lf n144_34)) ((snd_lf n144_31)))) ((snd_lf n144_28)))))))) ((snd_br ((snd_br ((snd_br ((snd_br ((snd_lf n144_27)) ((snd_lf n144_24)))) ((snd_br ((snd_lf n144_21)) ((snd_lf n144_20)))))) ((snd_br ((snd_br ((snd_lf n144_19)) ((snd_lf n144_18)))) ((snd_br ((snd_lf n144_15)) ((snd_lf n144_13)))))))) ((snd_br ((snd_br ((snd_br ((snd_lf n144_10)) ((snd_lf n144_7)))) ((snd_br ((snd_lf n144_6)) ((snd_lf n144_5)))))) ((snd_br ((snd_br ((snd_lf n144_2)) ((snd_lf n144_1)))) ((snd_lf n144_0)))))))))
end
section
variable {G : AG}
theorem n145_0 : Snd mt G 145 0 (oIload 1 1) := w_iload_n (hm := mm145) dX1_lent_0
theorem n145_1 : Snd mt G 145 1 (oIfLt 15 4) := w_if_lt (hm := mm145) dX1_lent_1 rfl
theorem n145_4 : Snd mt G 145 4 (oIload 1 5) := w_iload_n (hm := mm145) dX1_lent_4
theorem n145_5 : Snd mt G 145 5 (oAload 0 6) := w_aload_n (hm := mm145) dX1_lent_5
theorem n145_6 : Snd mt G 145 6 (oGetf [1] 0 9) := w_getf (hm := mm145) dX1_lent_6 (fok1 (k := 0) (T := TX1) 0 (Nat.le_of_ble_eq_true rfl) vc_0 (Nat.le_of_ble_eq_true rfl) q623)
theorem n145_9 : Snd mt G 145 9 (oGetf [2] 13 12) := w_getfN (hm := mm145) dX1_lent_9 (fokn1 (k := 13) (T := TX2) 1 (Nat.le_of_ble_eq_true rfl) vc_1 (Nat.le_of_ble_eq_true rfl) q569)
theorem n145_12 : Snd mt G 145 12 (oCmpLt 23 15) := w_icmp_lt (hm := mm145) dX1_lent_12 rfl
theorem n145_15 : Snd mt G 145 15 (oThrow0 34) := w_throw0 (hm := mm145) (ci := 33) (Nat.le_of_ble_eq_true rfl) vc_33 rfl dX1_lent_15 dX1_lent_18 dX1_lent_19 dX1_lent_22 zt_X1_80_J20_f zt_X1_80_J20_n (Nat.le_of_ble_eq_true rfl) (Nat.le_of_ble_eq_true rfl) q1692 q170 zt_X1_80_J20_a zt_X1_80_J20_g (by decide)
theorem n145_18 : Snd mt G 145 18 (oDup 19) := w_dup (hm := mm145) dX1_lent_18
theorem n145_19 : Snd mt G 145 19 (oCall 1 (fI 482 1) 0 22 xOut) := s_callI (m' := 482) (n := 0) xsh_out (w_xok0 mm145) (w_cal mm145 mm482 pn_J20 (Nat.le_of_ble_eq_true rfl) (Nat.le_of_ble_eq_true rfl)) (fun h b as hn => w_run_I mm145 mm482 dX1_lent_19 rfl rfl q1701 q1702 q170 q1703 pa482 hn)
theorem n145_22 : Snd mt G 145 22 (oThrow [7]) := w_throw (hm := mm145) dX1_lent_22 (List.forall_mem_cons.mpr ⟨⟨6, _, rfl, (Nat.le_of_ble_eq_true rfl), vc_6⟩, (fun t ht => nomatch ht)⟩) rfl
theorem n145_23 : Snd mt G 145 23 (oAload 0 24) := w_aload_n (hm := mm145) dX1_lent_23
theorem n145_24 : Snd mt G 145 24 (oCall 1 (fV [1] 72 1) 0 27 xOut) := s_callV (m' := 72) (n := 0) xsh_out (w_xok0 mm145) (w_cal mm145 mm72 pn_X1 (Nat.le_of_ble_eq_true rfl) (Nat.le_of_ble_eq_true rfl)) (fun h b as hc hn => w_run_V (ci := 0) mm145 mm72 dX1_lent_24 (Or.inl (List.mem_singleton.mp hc)) (Nat.le_of_ble_eq_true rfl) vc_0 rfl q880 q882 qs15 q129 q883 pa72 hn)
theorem n145_27 : Snd mt G 145 27 (oAload 0 28) := w_aload_n (hm := mm145) dX1_lent_27
theorem n145_28 : Snd mt G 145 28 (oGetf [1] 21 31) := w_getf (hm := mm145) dX1_lent_28 (fok1 (k := 21) (T := TX1) 0 (Nat.le_of_ble_eq_true rfl) vc_0 (Nat.le_of_ble_eq_true rfl) q644)
theorem n145_31 : Snd mt G 145 31 (oIload 1 32) := w_iload_n (hm := mm145) dX1_lent_31
theorem n145_32 : Snd mt G 145 32 (oAld [100] 33) := w_iaload (hm := mm145) (kt := 0) dX1_lent_32 at_0 (Nat.le_of_ble_eq_true rfl) (List.forall_mem_cons.mpr ⟨Or.inl rfl, (fun t ht => nomatch ht)⟩)
theorem n145_33 : Snd mt G 145 33 (oRetI .int) := w_iret (hm := mm145) dX1_lent_33 rfl
theorem sj145 : ∀ pc, Snd mt G 145 pc (j145 pc) := fun pc => (snd_br ((snd_br ((snd_br ((snd_br ((snd_br ((snd_lf n145_33)) ((snd_lf n145_32)))) ((snd_lf n145_31)))) ((snd_br ((snd_lf n145_28)) ((snd_lf n145_27)))))) ((snd_br ((snd_br ((snd_lf n145_24)) ((snd_lf n145_23)))) ((snd_br ((snd_lf n145_22)) ((snd_lf n145_19)))))))) ((snd_br ((snd_br ((snd_br ((snd_br ((snd_lf n145_18)) ((snd_lf n145_15)))) ((snd_lf n145_12)))) ((snd_br ((snd_lf n145_9)) ((snd_lf n145_6)))))) ((snd_br ((snd_br ((snd_lf n145_5)) ((snd_lf n145_4)))) ((snd_br ((snd_lf n145_1)) ((snd_lf n145_0)))))))))
end
section
variable {G : AG}
theorem n146_0 : Snd mt G 146 0 (oAload 0 1) := w_aload_n (hm := mm146) dX1_recall_0
theorem n146_1 : Snd mt G 146 1 (oIload 1 2) := w_iload_n (hm := mm146) dX1_recall_1
theorem n146_2 : Snd mt G 146 2 (oCall 2 (fV [1] 103 2) 0 5 xOut) := s_callV (m' := 103) (n := 1) xsh_out (w_xok0 mm146) (w_cal mm146 mm103 pn_X1 (Nat.le_of_ble_eq_true rfl) (Nat.le_of_ble_eq_true rfl)) (fun h b as hc hn => w_run_V (ci := 0) mm146 mm103 dX1_recall_2 (Or.inl (List.mem_singleton.mp hc)) (Nat.le_of_ble_eq_true rfl) vc_0 rfl q1763 q1765 qs43 q129 q1766 pa103 hn)
theorem n146_5 : Snd mt G 146 5 (oAstore 4 7) := w_astore (hm := mm146) dX1_recall_5 (Nat.le_of_ble_eq_true rfl)
theorem n146_7 : Snd mt G 146 7 (oIload 2 8) := w_iload_n (hm := mm146) dX1_recall_7
theorem n146_8 : Snd mt G 146 8 (oCall 1 (fS 106 1) 0 11 xOut) := s_callS (m' := 106) (n := 1) xsh_out (w_xok0 mm146) (w_cal mm146 mm106 pn_X1 (Nat.le_of_ble_eq_true rfl) (Nat.le_of_ble_eq_true rfl)) (fun h as hn => w_run_S mm146 mm106 dX1_recall_8 q1806 q1807 q129 q1808 pa106 hn)
theorem n146_11 : Snd mt G 146 11 (oIfEq 30 14) := w_if_eq (hm := mm146) dX1_recall_11 rfl
theorem n146_14 : Snd mt G 146 14 (oIload 3 15) := w_iload_n (hm := mm146) dX1_recall_14
theorem n146_15 : Snd mt G 146 15 (oCall 1 (fS 106 1) 0 18 xOut) := s_callS (m' := 106) (n := 1) xsh_out (w_xok0 mm146) (w_cal mm146 mm106 pn_X1 (Nat.le_of_ble_eq_true rfl) (Nat.le_of_ble_eq_true rfl)) (fun h as hn => w_run_S mm146 mm106 dX1_recall_15 q1806 q1807 q129 q1808 pa106 hn)
theorem n146_18 : Snd mt G 146 18 (oIfEq 30 21) := w_if_eq (hm := mm146) dX1_recall_18 rfl
theorem n146_21 : Snd mt G 146 21 (oIload 2 22) := w_iload_n (hm := mm146) dX1_recall_21
theorem n146_22 : Snd mt G 146 22 (oIload 3 23) := w_iload_n (hm := mm146) dX1_recall_22
theorem n146_23 : Snd mt G 146 23 (oCmpGt 30 26) := w_icmp_gt (hm := mm146) dX1_recall_23 rfl
theorem n146_26 : Snd mt G 146 26 (oConst (.int 1) 27) := w_iconst (hm := mm146) dX1_recall_26 rfl
theorem n146_27 : Snd mt G 146 27 (oGoto 31) := w_goto (hm := mm146) dX1_recall_27 rfl
theorem n146_30 : Snd mt G 146 30 (oConst (.int 0) 31) := w_iconst (hm := mm146) dX1_recall_30 rfl
theorem n146_31 : Snd mt G 146 31 (oCall 1 (fS 89 1) 0 34 xOut) := s_callS (m' := 89) (n := 1) xsh_out (w_xok0 mm146) (w_cal mm146 mm89 pn_X1 (Nat.le_of_ble_eq_true rfl) (Nat.le_of_ble_eq_true rfl)) (fun h as hn => w_run_S mm146 mm89 dX1_recall_31 q1180 q1181 q129 q1182 pa89 hn)
theorem n146_34 : Snd mt G 146 34 (oConst (.int 0) 35) := w_iconst (hm := mm146) dX1_recall_34 rfl
theorem n146_35 : Snd mt G 146 35 (oIstore 5 37) := w_istore (hm := mm146) dX1_recall_35 (Nat.le_of_ble_eq_true rfl)
theorem n146_37 : Snd mt G 146 37 (oConst (.int 0) 38) := w_iconst (hm := mm146) dX1_recall_37 rfl
theorem n146_38 : Snd mt G 146 38 (oIstore 6 40) := w_istore (hm := mm146) dX1_recall_38 (Nat.le_of_ble_eq_true rfl)
theorem n146_40 : Snd mt G 146 40 (oIload 6 42) := w_iload (hm := mm146) dX1_recall_40
theorem n146_42 : Snd mt G 146 42 (oAload 0 43) := w_aload_n (hm := mm146) dX1_recall_42
theorem n146_43 : Snd mt G 146 43 (oGetf [1] 0 46) := w_getf (hm := mm146) dX1_recall_43 (fok1 (k := 0) (T := TX1) 0 (Nat.le_of_ble_eq_true rfl) vc_0 (Nat.le_of_ble_eq_true rfl) q623)
theorem n146_46 : Snd mt G 146 46 (oGetf [2] 1 49) := w_getfN (hm := mm146) dX1_recall_46 (fokn1 (k := 1) (T := TX2) 1 (Nat.le_of_ble_eq_true rfl) vc_1 (Nat.le_of_ble_eq_true rfl) q545)
theorem n146_49 : Snd mt G 146 49 (oCall 1 (fV [3] 175 1) 0 52 xOut) := s_callV (m' := 175) (n := 0) xsh_out (w_xok0 mm146) (w_cal mm146 mm175 pn_J2 (Nat.le_of_ble_eq_true rfl) (Nat.le_of_ble_eq_true rfl)) (fun h b as hc hn => w_run_V (ci := 2) mm146 mm175 dX1_recall_49 (Or.inl (List.mem_singleton.mp hc)) (Nat.le_of_ble_eq_true rfl) vc_2 rfl q709 q710 q711 q133 q712 pa175 hn)
theorem n146_52 : Snd mt G 146 52 (oCmpGe 128 55) := w_icmp_ge (hm := mm146) dX1_recall_52 rfl
theorem n146_55 : Snd mt G 146 55 (oAload 0 56) := w_aload_n (hm := mm146) dX1_recall_55
theorem n146_56 : Snd mt G 146 56 (oGetf [1] 0 59) := w_getf (hm := mm146) dX1_recall_56 (fok1 (k := 0) (T := TX1) 0 (Nat.le_of_ble_eq_true rfl) vc_0 (Nat.le_of_ble_eq_true rfl) q623)
theorem n146_59 : Snd mt G 146 59 (oGetf [2] 1 62) := w_getfN (hm := mm146) dX1_recall_59 (fokn1 (k := 1) (T := TX2) 1 (Nat.le_of_ble_eq_true rfl) vc_1 (Nat.le_of_ble_eq_true rfl) q545)
theorem n146_62 : Snd mt G 146 62 (oIload 6 64) := w_iload (hm := mm146) dX1_recall_62
theorem n146_64 : Snd mt G 146 64 (oCall 2 (fV [3] 176 2) 0 67 xOut) := s_callV (m' := 176) (n := 1) xsh_out (w_xok0 mm146) (w_cal mm146 mm176 pn_J2 (Nat.le_of_ble_eq_true rfl) (Nat.le_of_ble_eq_true rfl)) (fun h b as hc hn => w_run_V (ci := 2) mm146 mm176 dX1_recall_64 (Or.inl (List.mem_singleton.mp hc)) (Nat.le_of_ble_eq_true rfl) vc_2 rfl q713 q714 q715 q133 q716 pa176 hn)
theorem n146_67 : Snd mt G 146 67 (oCast [19] 70) := w_cast (hm := mm146) dX1_recall_67 q727 (List.forall_mem_cons.mpr ⟨⟨18, _, Or.inl rfl, (Nat.le_of_ble_eq_true rfl), vc_18, Or.inl rfl⟩, (fun t ht => nomatch ht)⟩)
theorem n146_70 : Snd mt G 146 70 (oGetf [19] 8 73) := w_getfN (hm := mm146) dX1_recall_70 (fokn1 (k := 8) (T := TX20) 18 (Nat.le_of_ble_eq_true rfl) vc_18 (Nat.le_of_ble_eq_true rfl) q1083)
theorem n146_73 : Snd mt G 146 73 (oAload 4 75) := w_aload (hm := mm146) dX1_recall_73
theorem n146_75 : Snd mt G 146 75 (oGetf [18] 0 78) := w_getfN (hm := mm146) dX1_recall_75 (fokn1 (k := 0) (T := TX19) 17 (Nat.le_of_ble_eq_true rfl) vc_17 (Nat.le_of_ble_eq_true rfl) q1630)
theorem n146_78 : Snd mt G 146 78 (oAld [104] 79) := w_aaload (hm := mm146) (kt := 4) dX1_recall_78 rfl at_4 (Nat.le_of_ble_eq_true rfl) (List.forall_mem_cons.mpr ⟨Or.inl rfl, (fun t ht => nomatch ht)⟩)
theorem n146_79 : Snd mt G 146 79 (oAstore 7 81) := w_astore (hm := mm146) dX1_recall_79 (Nat.le_of_ble_eq_true rfl)
theorem n146_81 : Snd mt G 146 81 (oAload 7 83) := w_aload (hm := mm146) dX1_recall_81
theorem n146_83 : Snd mt G 146 83 (oIfNull 122 86) := w_ifnull (hm := mm146) dX1_recall_83 rfl
theorem n146_86 : Snd mt G 146 86 (oAload 7 88) := w_aload (hm := mm146) dX1_recall_86
theorem n146_88 : Snd mt G 146 88 (oGetf [20] 0 91) := w_getfN (hm := mm146) dX1_recall_88 (fokn1 (k := 0) (T := TX21) 19 (Nat.le_of_ble_eq_true rfl) vc_19 (Nat.le_of_ble_eq_true rfl) q1829)
theorem n146_91 : Snd mt G 146 91 (oIload 1 92) := w_iload_n (hm := mm146) dX1_recall_91
theorem n146_92 : Snd mt G 146 92 (oCmpEq 95 122) := w_icmp_ne (hm := mm146) dX1_recall_92 rfl
theorem n146_95 : Snd mt G 146 95 (oAload 7 97) := w_aload (hm := mm146) dX1_recall_95
theorem n146_97 : Snd mt G 146 97 (oGetf [20] 1 100) := w_getfN (hm := mm146) dX1_recall_97 (fokn1 (k := 1) (T := TX21) 19 (Nat.le_of_ble_eq_true rfl) vc_19 (Nat.le_of_ble_eq_true rfl) q1832)
theorem n146_100 : Snd mt G 146 100 (oIload 2 101) := w_iload_n (hm := mm146) dX1_recall_100
theorem n146_101 : Snd mt G 146 101 (oCmpLt 122 104) := w_icmp_lt (hm := mm146) dX1_recall_101 rfl
theorem n146_104 : Snd mt G 146 104 (oAload 7 106) := w_aload (hm := mm146) dX1_recall_104
theorem n146_106 : Snd mt G 146 106 (oGetf [20] 1 109) := w_getfN (hm := mm146) dX1_recall_106 (fokn1 (k := 1) (T := TX21) 19 (Nat.le_of_ble_eq_true rfl) vc_19 (Nat.le_of_ble_eq_true rfl) q1832)
theorem n146_109 : Snd mt G 146 109 (oIload 3 110) := w_iload_n (hm := mm146) dX1_recall_109
theorem n146_110 : Snd mt G 146 110 (oCmpGt 122 113) := w_icmp_gt (hm := mm146) dX1_recall_110 rfl
theorem n146_113 : Snd mt G 146 113 (oIload 5 115) := w_iload (hm := mm146) dX1_recall_113
theorem n146_115 : Snd mt G 146 115 (oConst (.int 1) 116) := w_iconst (hm := mm146) dX1_recall_115 rfl
theorem n146_116 : Snd mt G 146 116 (oIload 6 118) := w_iload (hm := mm146) dX1_recall_116
theorem n146_118 : Snd mt G 146 118 (oBin (fun x y => x <<< (y &&& 31)) 119) := w_ishl (hm := mm146) dX1_recall_118
theorem n146_119 : Snd mt G 146 119 (oBin (fun x y => x ||| y) 120) := w_ior (hm := mm146) dX1_recall_119
theorem n146_120 : Snd mt G 146 120 (oIstore 5 122) := w_istore (hm := mm146) dX1_recall_120 (Nat.le_of_ble_eq_true rfl)
theorem n146_122 : Snd mt G 146 122 (oIinc 6 1 125) := w_iinc (hm := mm146) dX1_recall_122 rfl (Nat.le_of_ble_eq_true rfl)
theorem n146_125 : Snd mt G 146 125 (oGoto 40) := w_goto (hm := mm146) dX1_recall_125 rfl
theorem n146_128 : Snd mt G 146 128 (oIload 5 130) := w_iload (hm := mm146) dX1_recall_128
theorem n146_130 : Snd mt G 146 130 (oRetI .int) := w_iret (hm := mm146) dX1_recall_130 rfl
theorem sj146 : ∀ pc, Snd mt G 146 pc (j146 pc) := fun pc => (snd_br ((snd_br ((snd_br ((snd_br ((snd_br ((snd_br ((snd_lf n146_130)) ((snd_lf n146_128)))) ((snd_br ((snd_lf n146_125)) ((snd_lf n146_122)))))) ((snd_br ((snd_br ((snd_lf n146_120)) ((snd_lf n146_119)))) ((snd_br ((snd_lf n146_118)) ((snd_lf n146_116)))))))) ((snd_br ((snd_br ((snd_br ((snd_lf n146_115)) ((snd_lf n146_113)))) ((snd_br ((snd_lf n146_110)) ((snd_lf n146_109)))))) ((snd_br ((snd_br ((snd_lf n146_106)) ((snd_lf n146_104)))) ((snd_br ((snd_lf n146_101)) ((snd_lf n146_100)))))))))) ((snd_br ((snd_br ((snd_br ((snd_br ((snd_lf n146_97)) ((snd_lf n146_95)))) ((snd_br ((snd_lf n146_92)) ((snd_lf n146_91)))))) ((snd_br ((snd_br ((snd_lf n146_88)) ((snd_lf n146_86)))) ((snd_br ((snd_lf n146_83)) ((snd_lf n146_81)))))))) ((snd_br ((snd_br ((snd_br ((snd_lf n146_79)) ((snd_lf n146_78)))) ((snd_br ((snd_lf n146_75)) ((snd_lf n146_73)))))) ((snd_br ((snd_br ((snd_lf n146_70)) ((snd_lf n146_67)))) ((snd_lf n146_64)))))))))) ((snd_br ((snd_br ((snd_br ((snd_br ((snd_br ((snd_lf n146_62)) ((snd_lf n146_59)))) ((snd_br ((snd_lf n146_56)) ((snd_lf n146_55)))))) ((snd_br ((snd_br ((snd_lf n146_52)) ((snd_lf n146_49)))) ((snd_br ((snd_lf n146_46)) ((snd_lf n146_43)))))))) ((snd_br ((snd_br ((snd_br ((snd_lf n146_42)) ((snd_lf n146_40)))) ((snd_br ((snd_lf n146_38)) ((snd_lf n146_37)))))) ((snd_br ((snd_br ((snd_lf n146_35)) ((snd_lf n146_34)))) ((snd_br ((snd_lf n146_31)) ((snd_lf n146_30)))))))))) ((snd_br ((snd_br ((snd_br ((snd_br ((snd_lf n146_27)) ((snd_lf n146_26)))) ((snd_br ((snd_lf n146_23)) ((snd_lf n146_22)))))) ((snd_br ((snd_br ((snd_lf n146_21)) ((snd_lf n146_18)))) ((snd_br ((snd_lf n146_15)) ((snd_lf n146_14)))))))) ((snd_br ((snd_br ((snd_br ((snd_lf n146_11)) ((snd_lf n146_8)))) ((snd_br ((snd_lf n146_7)) ((snd_lf n146_5)))))) ((snd_br ((snd_br ((snd_lf n146_2)) ((snd_lf n146_1)))) ((snd_lf n146_0)))))))))))
end
section
variable {G : AG}
theorem n147_0 : Snd mt G 147 0 (oAload 0 1) := w_aload_n (hm := mm147) dX1_seen_0
theorem n147_1 : Snd mt G 147 1 (oIload 1 2) := w_iload_n (hm := mm147) dX1_seen_1
theorem n147_2 : Snd mt G 147 2 (oCall 2 (fV [1] 97 2) 0 5 xOut) := s_callV (m' := 97) (n := 1) xsh_out (w_xok0 mm147) (w_cal mm147 mm97 pn_X1 (Nat.le_of_ble_eq_true rfl) (Nat.le_of_ble_eq_true rfl)) (fun h b as hc hn => w_run_V (ci := 0) mm147 mm97 dX1_seen_2 (Or.inl (List.mem_singleton.mp hc)) (Nat.le_of_ble_eq_true rfl) vc_0 rfl q1688 q1690 qs41 q129 q1691 pa97 hn)
theorem n147_5 : Snd mt G 147 5 (oAstore 3 6) := w_astore_n (hm := mm147) dX1_seen_5 (Nat.le_of_ble_eq_true rfl)
theorem n147_6 : Snd mt G 147 6 (oIload 2 7) := w_iload_n (hm := mm147) dX1_seen_6
theorem n147_7 : Snd mt G 147 7 (oConst (.int 1) 8) := w_iconst (hm := mm147) dX1_seen_7 rfl
theorem n147_8 : Snd mt G 147 8 (oCmpLt 20 11) := w_icmp_lt (hm := mm147) dX1_seen_8 rfl
theorem n147_11 : Snd mt G 147 11 (oIload 2 12) := w_iload_n (hm := mm147) dX1_seen_11
theorem n147_12 : Snd mt G 147 12 (oConst (.int 5) 13) := w_iconst (hm := mm147) dX1_seen_12 rfl
theorem n147_13 : Snd mt G 147 13 (oCmpGt 20 16) := w_icmp_gt (hm := mm147) dX1_seen_13 rfl
theorem n147_16 : Snd mt G 147 16 (oConst (.int 1) 17) := w_iconst (hm := mm147) dX1_seen_16 rfl
theorem n147_17 : Snd mt G 147 17 (oGoto 21) := w_goto (hm := mm147) dX1_seen_17 rfl
theorem n147_20 : Snd mt G 147 20 (oConst (.int 0) 21) := w_iconst (hm := mm147) dX1_seen_20 rfl
theorem n147_21 : Snd mt G 147 21 (oCall 1 (fS 89 1) 0 24 xOut) := s_callS (m' := 89) (n := 1) xsh_out (w_xok0 mm147) (w_cal mm147 mm89 pn_X1 (Nat.le_of_ble_eq_true rfl) (Nat.le_of_ble_eq_true rfl)) (fun h as hn => w_run_S mm147 mm89 dX1_seen_21 q1180 q1181 q129 q1182 pa89 hn)
theorem n147_24 : Snd mt G 147 24 (oAload 0 25) := w_aload_n (hm := mm147) dX1_seen_24
theorem n147_25 : Snd mt G 147 25 (oAload 3 26) := w_aload_n (hm := mm147) dX1_seen_25
theorem n147_26 : Snd mt G 147 26 (oCall 2 (fV [1] 75 6) 0 29 xOut) := s_callV (m' := 75) (n := 1) xsh_out (w_xok0 mm147) (w_cal mm147 mm75 pn_X1 (Nat.le_of_ble_eq_true rfl) (Nat.le_of_ble_eq_true rfl)) (fun h b as hc hn => w_run_V (ci := 0) mm147 mm75 dX1_seen_26 (Or.inl (List.mem_singleton.mp hc)) (Nat.le_of_ble_eq_true rfl) vc_0 rfl q893 q895 qs17 q129 q896 pa75 hn)
theorem n147_29 : Snd mt G 147 29 (oIstore 4 31) := w_istore (hm := mm147) dX1_seen_29 (Nat.le_of_ble_eq_true rfl)
theorem n147_31 : Snd mt G 147 31 (oIload 4 33) := w_iload (hm := mm147) dX1_seen_31
theorem n147_33 : Snd mt G 147 33 (oConst (.int (-1)) 34) := w_iconst (hm := mm147) dX1_seen_33 rfl
theorem n147_34 : Snd mt G 147 34 (oCmpEq 37 39) := w_icmp_ne (hm := mm147) dX1_seen_34 rfl
theorem n147_37 : Snd mt G 147 37 (oConst (.int (-1)) 38) := w_iconst (hm := mm147) dX1_seen_37 rfl
theorem n147_38 : Snd mt G 147 38 (oRetI .int) := w_iret (hm := mm147) dX1_seen_38 rfl
theorem n147_39 : Snd mt G 147 39 (oConst (.int 0) 40) := w_iconst (hm := mm147) dX1_seen_39 rfl
theorem n147_40 : Snd mt G 147 40 (oIstore 5 42) := w_istore (hm := mm147) dX1_seen_40 (Nat.le_of_ble_eq_true rfl)
theorem n147_42 : Snd mt G 147 42 (oConst (.int 0) 43) := w_iconst (hm := mm147) dX1_seen_42 rfl
theorem n147_43 : Snd mt G 147 43 (oIstore 6 45) := w_istore (hm := mm147) dX1_seen_43 (Nat.le_of_ble_eq_true rfl)
theorem n147_45 : Snd mt G 147 45 (oIload 6 47) := w_iload (hm := mm147) dX1_seen_45
theorem n147_47 : Snd mt G 147 47 (oAload 0 48) := w_aload_n (hm := mm147) dX1_seen_47
theorem n147_48 : Snd mt G 147 48 (oGetf [1] 0 51) := w_getf (hm := mm147) dX1_seen_48 (fok1 (k := 0) (T := TX1) 0 (Nat.le_of_ble_eq_true rfl) vc_0 (Nat.le_of_ble_eq_true rfl) q623)
theorem n147_51 : Snd mt G 147 51 (oGetf [2] 1 54) := w_getfN (hm := mm147) dX1_seen_51 (fokn1 (k := 1) (T := TX2) 1 (Nat.le_of_ble_eq_true rfl) vc_1 (Nat.le_of_ble_eq_true rfl) q545)
theorem n147_54 : Snd mt G 147 54 (oCall 1 (fV [3] 175 1) 0 57 xOut) := s_callV (m' := 175) (n := 0) xsh_out (w_xok0 mm147) (w_cal mm147 mm175 pn_J2 (Nat.le_of_ble_eq_true rfl) (Nat.le_of_ble_eq_true rfl)) (fun h b as hc hn => w_run_V (ci := 2) mm147 mm175 dX1_seen_54 (Or.inl (List.mem_singleton.mp hc)) (Nat.le_of_ble_eq_true rfl) vc_2 rfl q709 q710 q711 q133 q712 pa175 hn)
theorem n147_57 : Snd mt G 147 57 (oCmpGe 117 60) := w_icmp_ge (hm := mm147) dX1_seen_57 rfl
theorem n147_60 : Snd mt G 147 60 (oAload 0 61) := w_aload_n (hm := mm147) dX1_seen_60
theorem n147_61 : Snd mt G 147 61 (oAload 0 62) := w_aload_n (hm := mm147) dX1_seen_61
theorem n147_62 : Snd mt G 147 62 (oGetf [1] 0 65) := w_getf (hm := mm147) dX1_seen_62 (fok1 (k := 0) (T := TX1) 0 (Nat.le_of_ble_eq_true rfl) vc_0 (Nat.le_of_ble_eq_true rfl) q623)
theorem n147_65 : Snd mt G 147 65 (oGetf [2] 1 68) := w_getfN (hm := mm147) dX1_seen_65 (fokn1 (k := 1) (T := TX2) 1 (Nat.le_of_ble_eq_true rfl) vc_1 (Nat.le_of_ble_eq_true rfl) q545)
theorem n147_68 : Snd mt G 147 68 (oIload 6 70) := w_iload (hm := mm147) dX1_seen_68
theorem n147_70 : Snd mt G 147 70 (oCall 2 (fV [3] 176 2) 0 73 xOut) := s_callV (m' := 176) (n := 1) xsh_out (w_xok0 mm147) (w_cal mm147 mm176 pn_J2 (Nat.le_of_ble_eq_true rfl) (Nat.le_of_ble_eq_true rfl)) (fun h b as hc hn => w_run_V (ci := 2) mm147 mm176 dX1_seen_70 (Or.inl (List.mem_singleton.mp hc)) (Nat.le_of_ble_eq_true rfl) vc_2 rfl q713 q714 q715 q133 q716 pa176 hn)
theorem n147_73 : Snd mt G 147 73 (oCast [19] 76) := w_cast (hm := mm147) dX1_seen_73 q727 (List.forall_mem_cons.mpr ⟨⟨18, _, Or.inl rfl, (Nat.le_of_ble_eq_true rfl), vc_18, Or.inl rfl⟩, (fun t ht => nomatch ht)⟩)
theorem n147_76 : Snd mt G 147 76 (oCall 2 (fV [1] 75 6) 0 79 xOut) := s_callV (m' := 75) (n := 1) xsh_out (w_xok0 mm147) (w_cal mm147 mm75 pn_X1 (Nat.le_of_ble_eq_true rfl) (Nat.le_of_ble_eq_true rfl)) (fun h b as hc hn => w_run_V (ci := 0) mm147 mm75 dX1_seen_76 (Or.inl (List.mem_singleton.mp hc)) (Nat.le_of_ble_eq_true rfl) vc_0 rfl q893 q895 qs17 q129 q896 pa75 hn)
theorem n147_79 : Snd mt G 147 79 (oIstore 7 81) := w_istore (hm := mm147) dX1_seen_79 (Nat.le_of_ble_eq_true rfl)
theorem n147_81 : Snd mt G 147 81 (oIload 5 83) := w_iload (hm := mm147) dX1_seen_81
theorem n147_83 : Snd mt G 147 83 (oIload 7 85) := w_iload (hm := mm147) dX1_seen_83
theorem n147_85 : Snd mt G 147 85 (oIload 4 87) := w_iload (hm := mm147) dX1_seen_85
theorem n147_87 : Snd mt G 147 87 (oCmpGt 103 90) := w_icmp_gt (hm := mm147) dX1_seen_87 rfl
theorem n147_90 : Snd mt G 147 90 (oIload 7 92) := w_iload (hm := mm147) dX1_seen_90
theorem n147_92 : Snd mt G 147 92 (oIload 4 94) := w_iload (hm := mm147) dX1_seen_92
theorem n147_94 : Snd mt G 147 94 (oCmpEq 97 107) := w_icmp_ne (hm := mm147) dX1_seen_94 rfl
theorem n147_97 : Snd mt G 147 97 (oIload 6 99) := w_iload (hm := mm147) dX1_seen_97
theorem n147_99 : Snd mt G 147 99 (oIload 1 100) := w_iload_n (hm := mm147) dX1_seen_99
theorem n147_100 : Snd mt G 147 100 (oCmpGe 107 103) := w_icmp_ge (hm := mm147) dX1_seen_100 rfl
theorem n147_103 : Snd mt G 147 103 (oConst (.int 1) 104) := w_iconst (hm := mm147) dX1_seen_103 rfl
theorem n147_104 : Snd mt G 147 104 (oGoto 108) := w_goto (hm := mm147) dX1_seen_104 rfl
theorem n147_107 : Snd mt G 147 107 (oConst (.int 0) 108) := w_iconst (hm := mm147) dX1_seen_107 rfl
theorem n147_108 : Snd mt G 147 108 (oBin (fun x y => x + y) 109) := w_iadd (hm := mm147) dX1_seen_108
theorem n147_109 : Snd mt G 147 109 (oIstore 5 111) := w_istore (hm := mm147) dX1_seen_109 (Nat.le_of_ble_eq_true rfl)
theorem n147_111 : Snd mt G 147 111 (oIinc 6 1 114) := w_iinc (hm := mm147) dX1_seen_111 rfl (Nat.le_of_ble_eq_true rfl)
theorem n147_114 : Snd mt G 147 114 (oGoto 45) := w_goto (hm := mm147) dX1_seen_114 rfl
theorem n147_117 : Snd mt G 147 117 (oIload 5 119) := w_iload (hm := mm147) dX1_seen_117
theorem n147_119 : Snd mt G 147 119 (oIload 2 120) := w_iload_n (hm := mm147) dX1_seen_119
theorem n147_120 : Snd mt G 147 120 (oDiv (fun x y => x / y) 121) := w_idiv (hm := mm147) dX1_seen_120
theorem n147_121 : Snd mt G 147 121 (oRetI .int) := w_iret (hm := mm147) dX1_seen_121 rfl
theorem sj147 : ∀ pc, Snd mt G 147 pc (j147 pc) := fun pc => (snd_br ((snd_br ((snd_br ((snd_br ((snd_br ((snd_br ((snd_lf n147_121)) ((snd_lf n147_120)))) ((snd_br ((snd_lf n147_119)) ((snd_lf n147_117)))))) ((snd_br ((snd_br ((snd_lf n147_114)) ((snd_lf n147_111)))) ((snd_br ((snd_lf n147_109)) ((snd_lf n147_108)))))))) ((snd_br ((snd_br ((snd_br ((snd_lf n147_107)) ((snd_lf n147_104)))) ((snd_br ((snd_lf n147_103)) ((snd_lf n147_100)))))) ((snd_br ((snd_br ((snd_lf n147_99)) ((snd_lf n147_97)))) ((snd_br ((snd_lf n147_94)) ((snd_lf n147_92)))))))))) ((snd_br ((snd_br ((snd_br ((snd_br ((snd_lf n147_90)) ((snd_lf n147_87)))) ((snd_br ((snd_lf n147_85)) ((snd_lf n147_83)))))) ((snd_br ((snd_br ((snd_lf n147_81)) ((snd_lf n147_79)))) ((snd_br ((snd_lf n147_76)) ((snd_lf n147_73)))))))) ((snd_br ((snd_br ((snd_br ((snd_lf n147_70)) ((snd_lf n147_68)))) ((snd_br ((snd_lf n147_65)) ((snd_lf n147_62)))))) ((snd_br ((snd_br ((snd_lf n147_61)) ((snd_lf n147_60)))) ((snd_br ((snd_lf n147_57)) ((snd_lf n147_54)))))))))))) ((snd_br ((snd_br ((snd_br ((snd_br ((snd_br ((snd_lf n147_51)) ((snd_lf n147_48)))) ((snd_br ((snd_lf n147_47)) ((snd_lf n147_45)))))) ((snd_br ((snd_br ((snd_lf n147_43)) ((snd_lf n147_42)))) ((snd_br ((snd_lf n147_40)) ((snd_lf n147_39)))))))) ((snd_br ((snd_br ((snd_br ((snd_lf n147_38)) ((snd_lf n147_37)))) ((snd_br ((snd_lf n147_34)) ((snd_lf n147_33)))))) ((snd_br ((snd_br ((snd_lf n147_31)) ((snd_lf n147_29)))) ((snd_br ((snd_lf n147_26)) ((snd_lf n147_25)))))))))) ((snd_br ((snd_br ((snd_br ((snd_br ((snd_lf n147_24)) ((snd_lf n147_21)))) ((snd_br ((snd_lf n147_20)) ((snd_lf n147_17)))))) ((snd_br ((snd_br ((snd_lf n147_16)) ((snd_lf n147_13)))) ((snd_br ((snd_lf n147_12)) ((snd_lf n147_11)))))))) ((snd_br ((snd_br ((snd_br ((snd_lf n147_8)) ((snd_lf n147_7)))) ((snd_br ((snd_lf n147_6)) ((snd_lf n147_5)))))) ((snd_br ((snd_br ((snd_lf n147_2)) ((snd_lf n147_1)))) ((snd_lf n147_0)))))))))))
end
section
variable {G : AG}
theorem n148_0 : Snd mt G 148 0 (oAload 0 1) := w_aload_n (hm := mm148) dX1_measure_0
theorem n148_1 : Snd mt G 148 1 (oIload 1 2) := w_iload_n (hm := mm148) dX1_measure_1
theorem n148_2 : Snd mt G 148 2 (oCall 2 (fV [1] 97 2) 0 5 xOut) := s_callV (m' := 97) (n := 1) xsh_out (w_xok0 mm148) (w_cal mm148 mm97 pn_X1 (Nat.le_of_ble_eq_true rfl) (Nat.le_of_ble_eq_true rfl)) (fun h b as hc hn => w_run_V (ci := 0) mm148 mm97 dX1_measure_2 (Or.inl (List.mem_singleton.mp hc)) (Nat.le_of_ble_eq_true rfl) vc_0 rfl q1688 q1690 qs41 q129 q1691 pa97 hn)
theorem n148_5 : Snd mt G 148 5 (oPop 6) := w_pop (hm := mm148) dX1_measure_5
theorem n148_6 : Snd mt G 148 6 (oIload 2 7) := w_iload_n (hm := mm148) dX1_measure_6
theorem n148_7 : Snd mt G 148 7 (oIfLt 36 10) := w_if_lt (hm := mm148) dX1_measure_7 rfl
theorem n148_10 : Snd mt G 148 10 (oIload 2 11) := w_iload_n (hm := mm148) dX1_measure_10
theorem n148_11 : Snd mt G 148 11 (oAload 0 12) := w_aload_n (hm := mm148) dX1_measure_11
theorem n148_12 : Snd mt G 148 12 (oGetf [1] 0 15) := w_getf (hm := mm148) dX1_measure_12 (fok1 (k := 0) (T := TX1) 0 (Nat.le_of_ble_eq_true rfl) vc_0 (Nat.le_of_ble_eq_true rfl) q623)
theorem n148_15 : Snd mt G 148 15 (oGetf [2] 12 18) := w_getfN (hm := mm148) dX1_measure_15 (fokn1 (k := 12) (T := TX2) 1 (Nat.le_of_ble_eq_true rfl) vc_1 (Nat.le_of_ble_eq_true rfl) q567)
theorem n148_18 : Snd mt G 148 18 (oCmpGt 36 21) := w_icmp_gt (hm := mm148) dX1_measure_18 rfl
theorem n148_21 : Snd mt G 148 21 (oIload 3 22) := w_iload_n (hm := mm148) dX1_measure_21
theorem n148_22 : Snd mt G 148 22 (oIfLt 36 25) := w_if_lt (hm := mm148) dX1_measure_22 rfl
theorem n148_25 : Snd mt G 148 25 (oIload 3 26) := w_iload_n (hm := mm148) dX1_measure_25
theorem n148_26 : Snd mt G 148 26 (oConst (.int 999) 29) := w_sipush (hm := mm148) dX1_measure_26 (by decide)
theorem n148_29 : Snd mt G 148 29 (oCmpGt 36 32) := w_icmp_gt (hm := mm148) dX1_measure_29 rfl
theorem n148_32 : Snd mt G 148 32 (oConst (.int 1) 33) := w_iconst (hm := mm148) dX1_measure_32 rfl
theorem n148_33 : Snd mt G 148 33 (oGoto 37) := w_goto (hm := mm148) dX1_measure_33 rfl
theorem n148_36 : Snd mt G 148 36 (oConst (.int 0) 37) := w_iconst (hm := mm148) dX1_measure_36 rfl
theorem n148_37 : Snd mt G 148 37 (oCall 1 (fS 89 1) 0 40 xOut) := s_callS (m' := 89) (n := 1) xsh_out (w_xok0 mm148) (w_cal mm148 mm89 pn_X1 (Nat.le_of_ble_eq_true rfl) (Nat.le_of_ble_eq_true rfl)) (fun h as hn => w_run_S mm148 mm89 dX1_measure_37 q1180 q1181 q129 q1182 pa89 hn)
theorem n148_40 : Snd mt G 148 40 (oAload 0 41) := w_aload_n (hm := mm148) dX1_measure_40
theorem n148_41 : Snd mt G 148 41 (oGetf [1] 0 44) := w_getf (hm := mm148) dX1_measure_41 (fok1 (k := 0) (T := TX1) 0 (Nat.le_of_ble_eq_true rfl) vc_0 (Nat.le_of_ble_eq_true rfl) q623)
theorem n148_44 : Snd mt G 148 44 (oGetf [2] 8 47) := w_getfN (hm := mm148) dX1_measure_44 (fokn1 (k := 8) (T := TX2) 1 (Nat.le_of_ble_eq_true rfl) vc_1 (Nat.le_of_ble_eq_true rfl) q559)
theorem n148_47 : Snd mt G 148 47 (oCall 1 (fV [3] 175 1) 0 50 xOut) := s_callV (m' := 175) (n := 0) xsh_out (w_xok0 mm148) (w_cal mm148 mm175 pn_J2 (Nat.le_of_ble_eq_true rfl) (Nat.le_of_ble_eq_true rfl)) (fun h b as hc hn => w_run_V (ci := 2) mm148 mm175 dX1_measure_47 (Or.inl (List.mem_singleton.mp hc)) (Nat.le_of_ble_eq_true rfl) vc_2 rfl q709 q710 q711 q133 q712 pa175 hn)
theorem n148_50 : Snd mt G 148 50 (oConst (.int 24) 52) := w_bipush (hm := mm148) dX1_measure_50 (by decide)
theorem n148_52 : Snd mt G 148 52 (oCmpEq 55 57) := w_icmp_ne (hm := mm148) dX1_measure_52 rfl
theorem n148_55 : Snd mt G 148 55 (oConst (.int (-1)) 56) := w_iconst (hm := mm148) dX1_measure_55 rfl
theorem n148_56 : Snd mt G 148 56 (oRetI .int) := w_iret (hm := mm148) dX1_measure_56 rfl
theorem n148_57 : Snd mt G 148 57 (oAload 0 58) := w_aload_n (hm := mm148) dX1_measure_57
theorem n148_58 : Snd mt G 148 58 (oIload 1 59) := w_iload_n (hm := mm148) dX1_measure_58
theorem n148_59 : Snd mt G 148 59 (oCall 2 (fV [1] 149 4) 0 62 xOut) := s_callV (m' := 149) (n := 1) xsh_out (w_xok0 mm148) (w_cal mm148 mm149 pn_X1 (Nat.le_of_ble_eq_true rfl) (Nat.le_of_ble_eq_true rfl)) (fun h b as hc hn => w_run_V (ci := 0) mm148 mm149 dX1_measure_59 (Or.inl (List.mem_singleton.mp hc)) (Nat.le_of_ble_eq_true rfl) vc_0 rfl q2176 q2178 qs58 q129 q2179 pa149 hn)
theorem n148_62 : Snd mt G 148 62 (oAstore 4 64) := w_astore (hm := mm148) dX1_measure_62 (Nat.le_of_ble_eq_true rfl)
theorem n148_64 : Snd mt G 148 64 (oAload 4 66) := w_aload (hm := mm148) dX1_measure_64
theorem n148_66 : Snd mt G 148 66 (oIfNull 81 69) := w_ifnull (hm := mm148) dX1_measure_66 rfl
theorem n148_69 : Snd mt G 148 69 (oIload 2 70) := w_iload_n (hm := mm148) dX1_measure_69
theorem n148_70 : Snd mt G 148 70 (oAload 4 72) := w_aload (hm := mm148) dX1_measure_70
theorem n148_72 : Snd mt G 148 72 (oGetf [25] 1 75) := w_getfN (hm := mm148) dX1_measure_72 (fokn1 (k := 1) (T := TX26) 24 (Nat.le_of_ble_eq_true rfl) vc_24 (Nat.le_of_ble_eq_true rfl) q2189)
theorem n148_75 : Snd mt G 148 75 (oCmpGe 81 78) := w_icmp_ge (hm := mm148) dX1_measure_75 rfl
theorem n148_78 : Snd mt G 148 78 (oConst (.int (-2)) 80) := w_bipush (hm := mm148) dX1_measure_78 (by decide)
theorem n148_80 : Snd mt G 148 80 (oRetI .int) := w_iret (hm := mm148) dX1_measure_80 rfl
theorem n148_81 : Snd mt G 148 81 (oAload 0 82) := w_aload_n (hm := mm148) dX1_measure_81
theorem n148_82 : Snd mt G 148 82 (oGetf [1] 0 85) := w_getf (hm := mm148) dX1_measure_82 (fok1 (k := 0) (T := TX1) 0 (Nat.le_of_ble_eq_true rfl) vc_0 (Nat.le_of_ble_eq_true rfl) q623)
theorem n148_85 : Snd mt G 148 85 (oGetf [2] 8 88) := w_getfN (hm := mm148) dX1_measure_85 (fokn1 (k := 8) (T := TX2) 1 (Nat.le_of_ble_eq_true rfl) vc_1 (Nat.le_of_ble_eq_true rfl) q559)
theorem n148_88 : Snd mt G 148 88 (oNew 25 3 nfX26 91) := w_new (hm := mm148) (ci := 24) (T9 := TX26) (ty := tyX26) dX1_measure_88 (Nat.le_of_ble_eq_true rfl) vc_24 tyX26_ok (fun _ _ => rfl) q2180 q2181 q178
theorem n148_91 : Snd mt G 148 91 (oDup 92) := w_dup (hm := mm148) dX1_measure_91
theorem n148_92 : Snd mt G 148 92 (oIload 1 93) := w_iload_n (hm := mm148) dX1_measure_92
theorem n148_93 : Snd mt G 148 93 (oIload 2 94) := w_iload_n (hm := mm148) dX1_measure_93
theorem n148_94 : Snd mt G 148 94 (oIload 3 95) := w_iload_n (hm := mm148) dX1_measure_94
theorem n148_95 : Snd mt G 148 95 (oCall 4 (fI 494 4) 0 98 xOut) := s_callI (m' := 494) (n := 3) xsh_out (w_xok0 mm148) (w_cal mm148 mm494 pn_X26 (Nat.le_of_ble_eq_true rfl) (Nat.le_of_ble_eq_true rfl)) (fun h b as hn => w_run_I mm148 mm494 dX1_measure_95 rfl rfl q2182 q2183 q178 q2184 pa494 hn)
theorem n148_98 : Snd mt G 148 98 (oCall 2 (fV [3] 179 2) 0 101 xOut) := s_callV (m' := 179) (n := 1) xsh_out (w_xok0 mm148) (w_cal mm148 mm179 pn_J2 (Nat.le_of_ble_eq_true rfl) (Nat.le_of_ble_eq_true rfl)) (fun h b as hc hn => w_run_V (ci := 2) mm148 mm179 dX1_measure_98 (Or.inl (List.mem_singleton.mp hc)) (Nat.le_of_ble_eq_true rfl) vc_2 rfl q1605 q985 q986 q133 q987 pa179 hn)
theorem n148_101 : Snd mt G 148 101 (oPop 102) := w_pop (hm := mm148) dX1_measure_101
theorem n148_102 : Snd mt G 148 102 (oAload 0 103) := w_aload_n (hm := mm148) dX1_measure_102
theorem n148_103 : Snd mt G 148 103 (oGetf [1] 0 106) := w_getf (hm := mm148) dX1_measure_103 (fok1 (k := 0) (T := TX1) 0 (Nat.le_of_ble_eq_true rfl) vc_0 (Nat.le_of_ble_eq_true rfl) q623)
theorem n148_106 : Snd mt G 148 106 (oGetf [2] 8 109) := w_getfN (hm := mm148) dX1_measure_106 (fokn1 (k := 8) (T := TX2) 1 (Nat.le_of_ble_eq_true rfl) vc_1 (Nat.le_of_ble_eq_true rfl) q559)
theorem n148_109 : Snd mt G 148 109 (oCall 1 (fV [3] 175 1) 0 112 xOut) := s_callV (m' := 175) (n := 0) xsh_out (w_xok0 mm148) (w_cal mm148 mm175 pn_J2 (Nat.le_of_ble_eq_true rfl) (Nat.le_of_ble_eq_true rfl)) (fun h b as hc hn => w_run_V (ci := 2) mm148 mm175 dX1_measure_109 (Or.inl (List.mem_singleton.mp hc)) (Nat.le_of_ble_eq_true rfl) vc_2 rfl q709 q710 q711 q133 q712 pa175 hn)
theorem n148_112 : Snd mt G 148 112 (oRetI .int) := w_iret (hm := mm148) dX1_measure_112 rfl
theorem sj148 : ∀ pc, Snd mt G 148 pc (j148 pc) := fun pc => (snd_br ((snd_br ((snd_br ((snd_br ((snd_br ((snd_br ((snd_lf n148_112)) ((snd_lf n148_109)))) ((snd_br ((snd_lf n148_106)) ((snd_lf n148_103)))))) ((snd_br ((snd_br ((snd_lf n148_102)) ((snd_lf n148_101)))) ((snd_lf n148_98)))))) ((snd_br ((snd_br ((snd_br ((snd_lf n148_95)) ((snd_lf n148_94)))) ((snd_br ((snd_lf n148_93)) ((snd_lf n148_92)))))) ((snd_br ((snd_br ((snd_lf n148_91)) ((snd_lf n148_88)))) ((snd_lf n148_85)))))))) ((snd_br ((snd_br ((snd_br ((snd_br ((snd_lf n148_82)) ((snd_lf n148_81)))) ((snd_br ((snd_lf n148_80)) ((snd_lf n148_78)))))) ((snd_br ((snd_br ((snd_lf n148_75)) ((snd_lf n148_72)))) ((snd_lf n148_70)))))) ((snd_br ((snd_br ((snd_br ((snd_lf n148_69)) ((snd_lf n148_66)))) ((snd_br ((snd_lf n148_64)) ((snd_lf n148_62)))))) ((snd_br ((snd_br ((snd_lf n148_59)) ((snd_lf n148_58)))) ((snd_lf n148_57)))))))))) ((snd_br ((snd_br ((snd_br ((snd_br ((snd_br ((snd_lf n148_56)) ((snd_lf n148_55)))) ((snd_br ((snd_lf n148_52)) ((snd_lf n148_50)))))) ((snd_br ((snd_br ((snd_lf n148_47)) ((snd_lf n148_44)))) ((snd_lf n148_41)))))) ((snd_br ((snd_br ((snd_br ((snd_lf n148_40)) ((snd_lf n148_37)))) ((snd_br ((snd_lf n148_36)) ((snd_lf n148_33)))))) ((snd_br ((snd_br ((snd_lf n148_32)) ((snd_lf n148_29)))) ((snd_lf n148_26)))))))) ((snd_br ((snd_br ((snd_br ((snd_br ((snd_lf n148_25)) ((snd_lf n148_22)))) ((snd_br ((snd_lf n148_21)) ((snd_lf n148_18)))))) ((snd_br ((snd_br ((snd_lf n148_15)) ((snd_lf n148_12)))) ((snd_lf n148_11)))))) ((snd_br ((snd_br ((snd_br ((snd_lf n148_10)) ((snd_lf n148_7)))) ((snd_br ((snd_lf n148_6)) ((snd_lf n148_5)))))) ((snd_br ((snd_br ((snd_lf n148_2)) ((snd_lf n148_1)))) ((snd_lf n148_0)))))))))))
end
section
variable {G : AG}
theorem n149_0 : Snd mt G 149 0 (oConst .null 1) := w_null (hm := mm149) dX1_latestOf_0
theorem n149_1 : Snd mt G 149 1 (oAstore 2 2) := w_astore_n (hm := mm149) dX1_latestOf_1 (Nat.le_of_ble_eq_true rfl)
theorem n149_2 : Snd mt G 149 2 (oConst (.int 0) 3) := w_iconst (hm := mm149) dX1_latestOf_2 rfl
theorem n149_3 : Snd mt G 149 3 (oIstore 3 4) := w_istore_n (hm := mm149) dX1_latestOf_3 (Nat.le_of_ble_eq_true rfl)
theorem n149_4 : Snd mt G 149 4 (oIload 3 5) := w_iload_n (hm := mm149) dX1_latestOf_4
theorem n149_5 : Snd mt G 149 5 (oAload 0 6) := w_aload_n (hm := mm149) dX1_latestOf_5
theorem n149_6 : Snd mt G 149 6 (oGetf [1] 0 9) := w_getf (hm := mm149) dX1_latestOf_6 (fok1 (k := 0) (T := TX1) 0 (Nat.le_of_ble_eq_true rfl) vc_0 (Nat.le_of_ble_eq_true rfl) q623)
theorem n149_9 : Snd mt G 149 9 (oGetf [2] 8 12) := w_getfN (hm := mm149) dX1_latestOf_9 (fokn1 (k := 8) (T := TX2) 1 (Nat.le_of_ble_eq_true rfl) vc_1 (Nat.le_of_ble_eq_true rfl) q559)
theorem n149_12 : Snd mt G 149 12 (oCall 1 (fV [3] 175 1) 0 15 xOut) := s_callV (m' := 175) (n := 0) xsh_out (w_xok0 mm149) (w_cal mm149 mm175 pn_J2 (Nat.le_of_ble_eq_true rfl) (Nat.le_of_ble_eq_true rfl)) (fun h b as hc hn => w_run_V (ci := 2) mm149 mm175 dX1_latestOf_12 (Or.inl (List.mem_singleton.mp hc)) (Nat.le_of_ble_eq_true rfl) vc_2 rfl q709 q710 q711 q133 q712 pa175 hn)
theorem n149_15 : Snd mt G 149 15 (oCmpGe 60 18) := w_icmp_ge (hm := mm149) dX1_latestOf_15 rfl
theorem n149_18 : Snd mt G 149 18 (oAload 0 19) := w_aload_n (hm := mm149) dX1_latestOf_18
theorem n149_19 : Snd mt G 149 19 (oGetf [1] 0 22) := w_getf (hm := mm149) dX1_latestOf_19 (fok1 (k := 0) (T := TX1) 0 (Nat.le_of_ble_eq_true rfl) vc_0 (Nat.le_of_ble_eq_true rfl) q623)
theorem n149_22 : Snd mt G 149 22 (oGetf [2] 8 25) := w_getfN (hm := mm149) dX1_latestOf_22 (fokn1 (k := 8) (T := TX2) 1 (Nat.le_of_ble_eq_true rfl) vc_1 (Nat.le_of_ble_eq_true rfl) q559)
theorem n149_25 : Snd mt G 149 25 (oIload 3 26) := w_iload_n (hm := mm149) dX1_latestOf_25
theorem n149_26 : Snd mt G 149 26 (oCall 2 (fV [3] 176 2) 0 29 xOut) := s_callV (m' := 176) (n := 1) xsh_out (w_xok0 mm149) (w_cal mm149 mm176 pn_J2 (Nat.le_of_ble_eq_true rfl) (Nat.le_of_ble_eq_true rfl)) (fun h b as hc hn => w_run_V (ci := 2) mm149 mm176 dX1_latestOf_26 (Or.inl (List.mem_singleton.mp hc)) (Nat.le_of_ble_eq_true rfl) vc_2 rfl q713 q714 q715 q133 q716 pa176 hn)
theorem n149_29 : Snd mt G 149 29 (oCast [25] 32) := w_cast (hm := mm149) dX1_latestOf_29 q2180 (List.forall_mem_cons.mpr ⟨⟨24, _, Or.inl rfl, (Nat.le_of_ble_eq_true rfl), vc_24, Or.inl rfl⟩, (fun t ht => nomatch ht)⟩)
theorem n149_32 : Snd mt G 149 32 (oGetf [25] 0 35) := w_getfN (hm := mm149) dX1_latestOf_32 (fokn1 (k := 0) (T := TX26) 24 (Nat.le_of_ble_eq_true rfl) vc_24 (Nat.le_of_ble_eq_true rfl) q2187)
theorem n149_35 : Snd mt G 149 35 (oIload 1 36) := w_iload_n (hm := mm149) dX1_latestOf_35
theorem n149_36 : Snd mt G 149 36 (oCmpEq 39 54) := w_icmp_ne (hm := mm149) dX1_latestOf_36 rfl
theorem n149_39 : Snd mt G 149 39 (oAload 0 40) := w_aload_n (hm := mm149) dX1_latestOf_39
theorem n149_40 : Snd mt G 149 40 (oGetf [1] 0 43) := w_getf (hm := mm149) dX1_latestOf_40 (fok1 (k := 0) (T := TX1) 0 (Nat.le_of_ble_eq_true rfl) vc_0 (Nat.le_of_ble_eq_true rfl) q623)
theorem n149_43 : Snd mt G 149 43 (oGetf [2] 8 46) := w_getfN (hm := mm149) dX1_latestOf_43 (fokn1 (k := 8) (T := TX2) 1 (Nat.le_of_ble_eq_true rfl) vc_1 (Nat.le_of_ble_eq_true rfl) q559)
theorem n149_46 : Snd mt G 149 46 (oIload 3 47) := w_iload_n (hm := mm149) dX1_latestOf_46
theorem n149_47 : Snd mt G 149 47 (oCall 2 (fV [3] 176 2) 0 50 xOut) := s_callV (m' := 176) (n := 1) xsh_out (w_xok0 mm149) (w_cal mm149 mm176 pn_J2 (Nat.le_of_ble_eq_true rfl) (Nat.le_of_ble_eq_true rfl)) (fun h b as hc hn => w_run_V (ci := 2) mm149 mm176 dX1_latestOf_47 (Or.inl (List.mem_singleton.mp hc)) (Nat.le_of_ble_eq_true rfl) vc_2 rfl q713 q714 q715 q133 q716 pa176 hn)
theorem n149_50 : Snd mt G 149 50 (oCast [25] 53) := w_cast (hm := mm149) dX1_latestOf_50 q2180 (List.forall_mem_cons.mpr ⟨⟨24, _, Or.inl rfl, (Nat.le_of_ble_eq_true rfl), vc_24, Or.inl rfl⟩, (fun t ht => nomatch ht)⟩)
theorem n149_53 : Snd mt G 149 53 (oAstore 2 54) := w_astore_n (hm := mm149) dX1_latestOf_53 (Nat.le_of_ble_eq_true rfl)
theorem n149_54 : Snd mt G 149 54 (oIinc 3 1 57) := w_iinc (hm := mm149) dX1_latestOf_54 rfl (Nat.le_of_ble_eq_true rfl)
theorem n149_57 : Snd mt G 149 57 (oGoto 4) := w_goto (hm := mm149) dX1_latestOf_57 rfl
theorem n149_60 : Snd mt G 149 60 (oAload 2 61) := w_aload_n (hm := mm149) dX1_latestOf_60
theorem n149_61 : Snd mt G 149 61 (oRetA) := w_aret (hm := mm149) dX1_latestOf_61 rfl (Or.inl ⟨_, rfl⟩)
theorem sj149 : ∀ pc, Snd mt G 149 pc (j149 pc) := fun pc => (snd_br ((snd_br ((snd_br ((snd_br ((snd_br ((snd_lf n149_61)) ((snd_lf n149_60)))) ((snd_br ((snd_lf n149_57)) ((snd_lf n149_54)))))) ((snd_br ((snd_br ((snd_lf n149_53)) ((snd_lf n149_50)))) ((snd_br ((snd_lf n149_47)) ((snd_lf n149_46)))))))) ((snd_br ((snd_br ((snd_br ((snd_lf n149_43)) ((snd_lf n149_40)))) ((snd_br ((snd_lf n149_39)) ((snd_lf n149_36)))))) ((snd_br ((snd_br ((snd_lf n149_35)) ((snd_lf n149_32)))) ((snd_lf n149_29)))))))) ((snd_br ((snd_br ((snd_br ((snd_br ((snd_lf n149_26)) ((snd_lf n149_25)))) ((snd_br ((snd_lf n149_22)) ((snd_lf n149_19)))))) ((snd_br ((snd_br ((snd_lf n149_18)) ((snd_lf n149_15)))) ((snd_br ((snd_lf n149_12)) ((snd_lf n149_9)))))))) ((snd_br ((snd_br ((snd_br ((snd_lf n149_6)) ((snd_lf n149_5)))) ((snd_br ((snd_lf n149_4)) ((snd_lf n149_3)))))) ((snd_br ((snd_br ((snd_lf n149_2)) ((snd_lf n149_1)))) ((snd_lf n149_0)))))))))
end
section
variable {G : AG}
theorem n150_0 : Snd mt G 150 0 (oAload 0 1) := w_aload_n (hm := mm150) dX1_growth_0
theorem n150_1 : Snd mt G 150 1 (oIload 1 2) := w_iload_n (hm := mm150) dX1_growth_1
theorem n150_2 : Snd mt G 150 2 (oCall 2 (fV [1] 97 2) 0 5 xOut) := s_callV (m' := 97) (n := 1) xsh_out (w_xok0 mm150) (w_cal mm150 mm97 pn_X1 (Nat.le_of_ble_eq_true rfl) (Nat.le_of_ble_eq_true rfl)) (fun h b as hc hn => w_run_V (ci := 0) mm150 mm97 dX1_growth_2 (Or.inl (List.mem_singleton.mp hc)) (Nat.le_of_ble_eq_true rfl) vc_0 rfl q1688 q1690 qs41 q129 q1691 pa97 hn)
theorem n150_5 : Snd mt G 150 5 (oPop 6) := w_pop (hm := mm150) dX1_growth_5
theorem n150_6 : Snd mt G 150 6 (oIload 2 7) := w_iload_n (hm := mm150) dX1_growth_6
theorem n150_7 : Snd mt G 150 7 (oIfLt 19 10) := w_if_lt (hm := mm150) dX1_growth_7 rfl
theorem n150_10 : Snd mt G 150 10 (oIload 2 11) := w_iload_n (hm := mm150) dX1_growth_10
theorem n150_11 : Snd mt G 150 11 (oConst (.int 2) 12) := w_iconst (hm := mm150) dX1_growth_11 rfl
theorem n150_12 : Snd mt G 150 12 (oCmpGt 19 15) := w_icmp_gt (hm := mm150) dX1_growth_12 rfl
theorem n150_15 : Snd mt G 150 15 (oConst (.int 1) 16) := w_iconst (hm := mm150) dX1_growth_15 rfl
theorem n150_16 : Snd mt G 150 16 (oGoto 20) := w_goto (hm := mm150) dX1_growth_16 rfl
theorem n150_19 : Snd mt G 150 19 (oConst (.int 0) 20) := w_iconst (hm := mm150) dX1_growth_19 rfl
theorem n150_20 : Snd mt G 150 20 (oCall 1 (fS 89 1) 0 23 xOut) := s_callS (m' := 89) (n := 1) xsh_out (w_xok0 mm150) (w_cal mm150 mm89 pn_X1 (Nat.le_of_ble_eq_true rfl) (Nat.le_of_ble_eq_true rfl)) (fun h as hn => w_run_S mm150 mm89 dX1_growth_20 q1180 q1181 q129 q1182 pa89 hn)
theorem n150_23 : Snd mt G 150 23 (oAload 0 24) := w_aload_n (hm := mm150) dX1_growth_23
theorem n150_24 : Snd mt G 150 24 (oIload 1 25) := w_iload_n (hm := mm150) dX1_growth_24
theorem n150_25 : Snd mt G 150 25 (oCall 2 (fV [1] 151 6) 0 28 xOut) := s_callV (m' := 151) (n := 1) xsh_out (w_xok0 mm150) (w_cal mm150 mm151 pn_X1 (Nat.le_of_ble_eq_true rfl) (Nat.le_of_ble_eq_true rfl)) (fun h b as hc hn => w_run_V (ci := 0) mm150 mm151 dX1_growth_25 (Or.inl (List.mem_singleton.mp hc)) (Nat.le_of_ble_eq_true rfl) vc_0 rfl q2206 q2208 qs59 q129 q2209 pa151 hn)
theorem n150_28 : Snd mt G 150 28 (oAstore 3 29) := w_astore_n (hm := mm150) dX1_growth_28 (Nat.le_of_ble_eq_true rfl)
theorem n150_29 : Snd mt G 150 29 (oIload 2 30) := w_iload_n (hm := mm150) dX1_growth_29
theorem n150_30 : Snd mt G 150 30 (oIfEq 33 40) := w_if_ne (hm := mm150) dX1_growth_30 rfl
theorem n150_33 : Snd mt G 150 33 (oAload 3 34) := w_aload_n (hm := mm150) dX1_growth_33
theorem n150_34 : Snd mt G 150 34 (oCall 1 (fV [3] 175 1) 0 37 xOut) := s_callV (m' := 175) (n := 0) xsh_out (w_xok0 mm150) (w_cal mm150 mm175 pn_J2 (Nat.le_of_ble_eq_true rfl) (Nat.le_of_ble_eq_true rfl)) (fun h b as hc hn => w_run_V (ci := 2) mm150 mm175 dX1_growth_34 (Or.inl (List.mem_singleton.mp hc)) (Nat.le_of_ble_eq_true rfl) vc_2 rfl q709 q710 q711 q133 q712 pa175 hn)
theorem n150_37 : Snd mt G 150 37 (oGoto 54) := w_goto (hm := mm150) dX1_growth_37 rfl
theorem n150_40 : Snd mt G 150 40 (oAload 3 41) := w_aload_n (hm := mm150) dX1_growth_40
theorem n150_41 : Snd mt G 150 41 (oIload 2 42) := w_iload_n (hm := mm150) dX1_growth_41
theorem n150_42 : Snd mt G 150 42 (oConst (.int 2) 43) := w_iconst (hm := mm150) dX1_growth_42 rfl
theorem n150_43 : Snd mt G 150 43 (oCmpEq 46 50) := w_icmp_ne (hm := mm150) dX1_growth_43 rfl
theorem n150_46 : Snd mt G 150 46 (oConst (.int 1) 47) := w_iconst (hm := mm150) dX1_growth_46 rfl
theorem n150_47 : Snd mt G 150 47 (oGoto 51) := w_goto (hm := mm150) dX1_growth_47 rfl
theorem n150_50 : Snd mt G 150 50 (oConst (.int 0) 51) := w_iconst (hm := mm150) dX1_growth_50 rfl
theorem n150_51 : Snd mt G 150 51 (oCall 2 (fS 152 4) 0 54 xOut) := s_callS (m' := 152) (n := 2) xsh_out (w_xok0 mm150) (w_cal mm150 mm152 pn_X1 (Nat.le_of_ble_eq_true rfl) (Nat.le_of_ble_eq_true rfl)) (fun h as hn => w_run_S mm150 mm152 dX1_growth_51 q2230 q2231 q129 q2232 pa152 hn)
theorem n150_54 : Snd mt G 150 54 (oRetI .int) := w_iret (hm := mm150) dX1_growth_54 rfl
theorem sj150 : ∀ pc, Snd mt G 150 pc (j150 pc) := fun pc => (snd_br ((snd_br ((snd_br ((snd_br ((snd_br ((snd_lf n150_54)) ((snd_lf n150_51)))) ((snd_br ((snd_lf n150_50)) ((snd_lf n150_47)))))) ((snd_br ((snd_br ((snd_lf n150_46)) ((snd_lf n150_43)))) ((snd_br ((snd_lf n150_42)) ((snd_lf n150_41)))))))) ((snd_br ((snd_br ((snd_br ((snd_lf n150_40)) ((snd_lf n150_37)))) ((snd_br ((snd_lf n150_34)) ((snd_lf n150_33)))))) ((snd_br ((snd_br ((snd_lf n150_30)) ((snd_lf n150_29)))) ((snd_br ((snd_lf n150_28)) ((snd_lf n150_25)))))))))) ((snd_br ((snd_br ((snd_br ((snd_br ((snd_lf n150_24)) ((snd_lf n150_23)))) ((snd_br ((snd_lf n150_20)) ((snd_lf n150_19)))))) ((snd_br ((snd_br ((snd_lf n150_16)) ((snd_lf n150_15)))) ((snd_br ((snd_lf n150_12)) ((snd_lf n150_11)))))))) ((snd_br ((snd_br ((snd_br ((snd_lf n150_10)) ((snd_lf n150_7)))) ((snd_br ((snd_lf n150_6)) ((snd_lf n150_5)))))) ((snd_br ((snd_br ((snd_lf n150_2)) ((snd_lf n150_1)))) ((snd_lf n150_0)))))))))
end
section
variable {G : AG}
theorem n151_0 : Snd mt G 151 0 (oNew 3 3 nfJ2 3) := w_new (hm := mm151) (ci := 2) (T9 := TJ2) (ty := tyJ2) dX1_growths_0 (Nat.le_of_ble_eq_true rfl) vc_2 tyJ2_ok (fun _ _ => rfl) q620 q198 q133
theorem n151_3 : Snd mt G 151 3 (oDup 4) := w_dup (hm := mm151) dX1_growths_3
theorem n151_4 : Snd mt G 151 4 (oConst (.int 2) 5) := w_iconst (hm := mm151) dX1_growths_4 rfl
theorem n151_5 : Snd mt G 151 5 (oCall 2 (fI 174 2) 0 8 xOut) := s_callI (m' := 174) (n := 1) xsh_out (w_xok0 mm151) (w_cal mm151 mm174 pn_J2 (Nat.le_of_ble_eq_true rfl) (Nat.le_of_ble_eq_true rfl)) (fun h b as hn => w_run_I mm151 mm174 dX1_growths_5 rfl rfl q621 q200 q133 q201 pa174 hn)
theorem n151_8 : Snd mt G 151 8 (oAstore 2 9) := w_astore_n (hm := mm151) dX1_growths_8 (Nat.le_of_ble_eq_true rfl)
theorem n151_9 : Snd mt G 151 9 (oConst .null 10) := w_null (hm := mm151) dX1_growths_9
theorem n151_10 : Snd mt G 151 10 (oAstore 3 11) := w_astore_n (hm := mm151) dX1_growths_10 (Nat.le_of_ble_eq_true rfl)
theorem n151_11 : Snd mt G 151 11 (oConst (.int 0) 12) := w_iconst (hm := mm151) dX1_growths_11 rfl
theorem n151_12 : Snd mt G 151 12 (oIstore 4 14) := w_istore (hm := mm151) dX1_growths_12 (Nat.le_of_ble_eq_true rfl)
theorem n151_14 : Snd mt G 151 14 (oIload 4 16) := w_iload (hm := mm151) dX1_growths_14
theorem n151_16 : Snd mt G 151 16 (oAload 0 17) := w_aload_n (hm := mm151) dX1_growths_16
theorem n151_17 : Snd mt G 151 17 (oGetf [1] 0 20) := w_getf (hm := mm151) dX1_growths_17 (fok1 (k := 0) (T := TX1) 0 (Nat.le_of_ble_eq_true rfl) vc_0 (Nat.le_of_ble_eq_true rfl) q623)
theorem n151_20 : Snd mt G 151 20 (oGetf [2] 8 23) := w_getfN (hm := mm151) dX1_growths_20 (fokn1 (k := 8) (T := TX2) 1 (Nat.le_of_ble_eq_true rfl) vc_1 (Nat.le_of_ble_eq_true rfl) q559)
theorem n151_23 : Snd mt G 151 23 (oCall 1 (fV [3] 175 1) 0 26 xOut) := s_callV (m' := 175) (n := 0) xsh_out (w_xok0 mm151) (w_cal mm151 mm175 pn_J2 (Nat.le_of_ble_eq_true rfl) (Nat.le_of_ble_eq_true rfl)) (fun h b as hc hn => w_run_V (ci := 2) mm151 mm175 dX1_growths_23 (Or.inl (List.mem_singleton.mp hc)) (Nat.le_of_ble_eq_true rfl) vc_2 rfl q709 q710 q711 q133 q712 pa175 hn)
theorem n151_26 : Snd mt G 151 26 (oCmpGe 116 29) := w_icmp_ge (hm := mm151) dX1_growths_26 rfl
theorem n151_29 : Snd mt G 151 29 (oAload 0 30) := w_aload_n (hm := mm151) dX1_growths_29
theorem n151_30 : Snd mt G 151 30 (oGetf [1] 0 33) := w_getf (hm := mm151) dX1_growths_30 (fok1 (k := 0) (T := TX1) 0 (Nat.le_of_ble_eq_true rfl) vc_0 (Nat.le_of_ble_eq_true rfl) q623)
theorem n151_33 : Snd mt G 151 33 (oGetf [2] 8 36) := w_getfN (hm := mm151) dX1_growths_33 (fokn1 (k := 8) (T := TX2) 1 (Nat.le_of_ble_eq_true rfl) vc_1 (Nat.le_of_ble_eq_true rfl) q559)
theorem n151_36 : Snd mt G 151 36 (oIload 4 38) := w_iload (hm := mm151) dX1_growths_36
theorem n151_38 : Snd mt G 151 38 (oCall 2 (fV [3] 176 2) 0 41 xOut) := s_callV (m' := 176) (n := 1) xsh_out (w_xok0 mm151) (w_cal mm151 mm176 pn_J2 (Nat.le_of_ble_eq_true rfl) (Nat.le_of_ble_eq_true rfl)) (fun h b as hc hn => w_run_V (ci := 2) mm151 mm176 dX1_growths_38 (Or.inl (List.mem_singleton.mp hc)) (Nat.le_of_ble_eq_true rfl) vc_2 rfl q713 q714 q715 q133 q716 pa176 hn)
theorem n151_41 : Snd mt G 151 41 (oCast [25] 44) := w_cast (hm := mm151) dX1_growths_41 q2180 (List.forall_mem_cons.mpr ⟨⟨24, _, Or.inl rfl, (Nat.le_of_ble_eq_true rfl), vc_24, Or.inl rfl⟩, (fun t ht => nomatch ht)⟩)
theorem n151_44 : Snd mt G 151 44 (oAstore 5 46) := w_astore (hm := mm151) dX1_growths_44 (Nat.le_of_ble_eq_true rfl)
theorem n151_46 : Snd mt G 151 46 (oAload 5 48) := w_aload (hm := mm151) dX1_growths_46
theorem n151_48 : Snd mt G 151 48 (oGetf [25] 0 51) := w_getfN (hm := mm151) dX1_growths_48 (fokn1 (k := 0) (T := TX26) 24 (Nat.le_of_ble_eq_true rfl) vc_24 (Nat.le_of_ble_eq_true rfl) q2187)
theorem n151_51 : Snd mt G 151 51 (oIload 1 52) := w_iload_n (hm := mm151) dX1_growths_51
theorem n151_52 : Snd mt G 151 52 (oCmpEq 58 55) := w_icmp_eq (hm := mm151) dX1_growths_52 rfl
theorem n151_55 : Snd mt G 151 55 (oGoto 110) := w_goto (hm := mm151) dX1_growths_55 rfl
theorem n151_58 : Snd mt G 151 58 (oAload 3 59) := w_aload_n (hm := mm151) dX1_growths_58
theorem n151_59 : Snd mt G 151 59 (oIfNull 107 62) := w_ifnull (hm := mm151) dX1_growths_59 rfl
theorem n151_62 : Snd mt G 151 62 (oAload 3 63) := w_aload_n (hm := mm151) dX1_growths_62
theorem n151_63 : Snd mt G 151 63 (oGetf [25] 1 66) := w_getfN (hm := mm151) dX1_growths_63 (fokn1 (k := 1) (T := TX26) 24 (Nat.le_of_ble_eq_true rfl) vc_24 (Nat.le_of_ble_eq_true rfl) q2189)
theorem n151_66 : Snd mt G 151 66 (oAload 5 68) := w_aload (hm := mm151) dX1_growths_66
theorem n151_68 : Snd mt G 151 68 (oGetf [25] 1 71) := w_getfN (hm := mm151) dX1_growths_68 (fokn1 (k := 1) (T := TX26) 24 (Nat.le_of_ble_eq_true rfl) vc_24 (Nat.le_of_ble_eq_true rfl) q2189)
theorem n151_71 : Snd mt G 151 71 (oCmpEq 107 74) := w_icmp_eq (hm := mm151) dX1_growths_71 rfl
theorem n151_74 : Snd mt G 151 74 (oAload 2 75) := w_aload_n (hm := mm151) dX1_growths_74
theorem n151_75 : Snd mt G 151 75 (oAload 5 77) := w_aload (hm := mm151) dX1_growths_75
theorem n151_77 : Snd mt G 151 77 (oGetf [25] 2 80) := w_getfN (hm := mm151) dX1_growths_77 (fokn1 (k := 2) (T := TX26) 24 (Nat.le_of_ble_eq_true rfl) vc_24 (Nat.le_of_ble_eq_true rfl) q2191)
theorem n151_80 : Snd mt G 151 80 (oAload 3 81) := w_aload_n (hm := mm151) dX1_growths_80
theorem n151_81 : Snd mt G 151 81 (oGetf [25] 2 84) := w_getfN (hm := mm151) dX1_growths_81 (fokn1 (k := 2) (T := TX26) 24 (Nat.le_of_ble_eq_true rfl) vc_24 (Nat.le_of_ble_eq_true rfl) q2191)
theorem n151_84 : Snd mt G 151 84 (oBin (fun x y => x - y) 85) := w_isub (hm := mm151) dX1_growths_84
theorem n151_85 : Snd mt G 151 85 (oConst (.int 365) 88) := w_sipush (hm := mm151) dX1_growths_85 (by decide)
theorem n151_88 : Snd mt G 151 88 (oBin (fun x y => x * y) 89) := w_imul (hm := mm151) dX1_growths_88
theorem n151_89 : Snd mt G 151 89 (oAload 5 91) := w_aload (hm := mm151) dX1_growths_89
theorem n151_91 : Snd mt G 151 91 (oGetf [25] 1 94) := w_getfN (hm := mm151) dX1_growths_91 (fokn1 (k := 1) (T := TX26) 24 (Nat.le_of_ble_eq_true rfl) vc_24 (Nat.le_of_ble_eq_true rfl) q2189)
theorem n151_94 : Snd mt G 151 94 (oAload 3 95) := w_aload_n (hm := mm151) dX1_growths_94
theorem n151_95 : Snd mt G 151 95 (oGetf [25] 1 98) := w_getfN (hm := mm151) dX1_growths_95 (fokn1 (k := 1) (T := TX26) 24 (Nat.le_of_ble_eq_true rfl) vc_24 (Nat.le_of_ble_eq_true rfl) q2189)
theorem n151_98 : Snd mt G 151 98 (oBin (fun x y => x - y) 99) := w_isub (hm := mm151) dX1_growths_98
theorem n151_99 : Snd mt G 151 99 (oDiv (fun x y => x / y) 100) := w_idiv (hm := mm151) dX1_growths_99
theorem n151_100 : Snd mt G 151 100 (oCall 1 (fS 276 1) 0 103 xOut) := s_callS (m' := 276) (n := 1) xsh_out (w_xok0 mm151) (w_cal mm151 mm276 pn_J17 (Nat.le_of_ble_eq_true rfl) (Nat.le_of_ble_eq_true rfl)) (fun h as hn => w_run_S mm151 mm276 dX1_growths_100 q2210 q2211 q149 q2212 pa276 hn)
theorem n151_103 : Snd mt G 151 103 (oCall 2 (fV [3] 179 2) 0 106 xOut) := s_callV (m' := 179) (n := 1) xsh_out (w_xok0 mm151) (w_cal mm151 mm179 pn_J2 (Nat.le_of_ble_eq_true rfl) (Nat.le_of_ble_eq_true rfl)) (fun h b as hc hn => w_run_V (ci := 2) mm151 mm179 dX1_growths_103 (Or.inl (List.mem_singleton.mp hc)) (Nat.le_of_ble_eq_true rfl) vc_2 rfl q1605 q985 q986 q133 q987 pa179 hn)
theorem n151_106 : Snd mt G 151 106 (oPop 107) := w_pop (hm := mm151) dX1_growths_106
theorem n151_107 : Snd mt G 151 107 (oAload 5 109) := w_aload (hm := mm151) dX1_growths_107
theorem n151_109 : Snd mt G 151 109 (oAstore 3 110) := w_astore_n (hm := mm151) dX1_growths_109 (Nat.le_of_ble_eq_true rfl)
theorem n151_110 : Snd mt G 151 110 (oIinc 4 1 113) := w_iinc (hm := mm151) dX1_growths_110 rfl (Nat.le_of_ble_eq_true rfl)
theorem n151_113 : Snd mt G 151 113 (oGoto 14) := w_goto (hm := mm151) dX1_growths_113 rfl
theorem n151_116 : Snd mt G 151 116 (oAload 2 117) := w_aload_n (hm := mm151) dX1_growths_116
theorem n151_117 : Snd mt G 151 117 (oRetA) := w_aret (hm := mm151) dX1_growths_117 rfl (Or.inl ⟨_, rfl⟩)
theorem sj151 : ∀ pc, Snd mt G 151 pc (j151 pc) := fun pc => (snd_br ((snd_br ((snd_br ((snd_br ((snd_br ((snd_br ((snd_lf n151_117)) ((snd_lf n151_116)))) ((snd_br ((snd_lf n151_113)) ((snd_lf n151_110)))))) ((snd_br ((snd_br ((snd_lf n151_109)) ((snd_lf n151_107)))) ((snd_br ((snd_lf n151_106)) ((snd_lf n151_103)))))))) ((snd_br ((snd_br ((snd_br ((snd_lf n151_100)) ((snd_lf n151_99)))) ((snd_br ((snd_lf n151_98)) ((snd_lf n151_95)))))) ((snd_br ((snd_br ((snd_lf n151_94)) ((snd_lf n151_91)))) ((snd_lf n151_89)))))))) ((snd_br ((snd_br ((snd_br ((snd_br ((snd_lf n151_88)) ((snd_lf n151_85)))) ((snd_br ((snd_lf n151_84)) ((snd_lf n151_81)))))) ((snd_br ((snd_br ((snd_lf n151_80)) ((snd_lf n151_77)))) ((snd_lf n151_75)))))) ((snd_br ((snd_br ((snd_br ((snd_lf n151_74)) ((snd_lf n151_71)))) ((snd_br ((snd_lf n151_68)) ((snd_lf n151_66)))))) ((snd_br ((snd_br ((snd_lf n151_63)) ((snd_lf n151_62)))) ((snd_lf n151_59)))))))))) ((snd_br ((snd_br ((snd_br ((snd_br ((snd_br ((snd_lf n151_58)) ((snd_lf n151_55)))) ((snd_br ((snd_lf n151_52)) ((snd_lf n151_51)))))) ((snd_br ((snd_br ((snd_lf n151_48)) ((snd_lf n151_46)))) ((snd_lf n151_44)))))) ((snd_br ((snd_br ((snd_br ((snd_lf n151_41)) ((snd_lf n151_38)))) ((snd_br ((snd_lf n151_36)) ((snd_lf n151_33)))))) ((snd_br ((snd_br ((snd_lf n151_30)) ((snd_lf n151_29)))) ((snd_lf n151_26)))))))) ((snd_br ((snd_br ((snd_br ((snd_br ((snd_lf n151_23)) ((snd_lf n151_20)))) ((snd_br ((snd_lf n151_17)) ((snd_lf n151_16)))))) ((snd_br ((snd_br ((snd_lf n151_14)) ((snd_lf n151_12)))) ((snd_lf n151_11)))))) ((snd_br ((snd_br ((snd_br ((snd_lf n151_10)) ((snd_lf n151_9)))) ((snd_br ((snd_lf n151_8)) ((snd_lf n151_5)))))) ((snd_br ((snd_br ((snd_lf n151_4)) ((snd_lf n151_3)))) ((snd_lf n151_0)))))))))))
end
section
variable {G : AG}
theorem n152_0 : Snd mt G 152 0 (oAload 0 1) := w_aload_n (hm := mm152) dX1_extreme_0
theorem n152_1 : Snd mt G 152 1 (oCall 1 (fV [3] 184 1) 0 4 xOut) := s_callV (m' := 184) (n := 0) xsh_out (w_xok0 mm152) (w_cal mm152 mm184 pn_J2 (Nat.le_of_ble_eq_true rfl) (Nat.le_of_ble_eq_true rfl)) (fun h b as hc hn => w_run_V (ci := 2) mm152 mm184 dX1_extreme_1 (Or.inl (List.mem_singleton.mp hc)) (Nat.le_of_ble_eq_true rfl) vc_2 rfl q2233 q2234 q2235 q133 q2236 pa184 hn)
theorem n152_4 : Snd mt G 152 4 (oIfEq 11 7) := w_if_eq (hm := mm152) dX1_extreme_4 rfl
theorem n152_7 : Snd mt G 152 7 (oConst (.int 0) 8) := w_iconst (hm := mm152) dX1_extreme_7 rfl
theorem n152_8 : Snd mt G 152 8 (oGoto 22) := w_goto (hm := mm152) dX1_extreme_8 rfl
theorem n152_11 : Snd mt G 152 11 (oAload 0 12) := w_aload_n (hm := mm152) dX1_extreme_11
theorem n152_12 : Snd mt G 152 12 (oConst (.int 0) 13) := w_iconst (hm := mm152) dX1_extreme_12 rfl
theorem n152_13 : Snd mt G 152 13 (oCall 2 (fV [3] 176 2) 0 16 xOut) := s_callV (m' := 176) (n := 1) xsh_out (w_xok0 mm152) (w_cal mm152 mm176 pn_J2 (Nat.le_of_ble_eq_true rfl) (Nat.le_of_ble_eq_true rfl)) (fun h b as hc hn => w_run_V (ci := 2) mm152 mm176 dX1_extreme_13 (Or.inl (List.mem_singleton.mp hc)) (Nat.le_of_ble_eq_true rfl) vc_2 rfl q713 q714 q715 q133 q716 pa176 hn)
theorem n152_16 : Snd mt G 152 16 (oCast [31, 1031] 19) := w_cast (hm := mm152) dX1_extreme_16 q2237 (List.forall_mem_cons.mpr ⟨⟨30, _, Or.inl rfl, (Nat.le_of_ble_eq_true rfl), vc_30, Or.inl rfl⟩, (List.forall_mem_cons.mpr ⟨⟨30, _, Or.inr rfl, (Nat.le_of_ble_eq_true rfl), vc_30, Or.inl rfl⟩, (fun t ht => nomatch ht)⟩)⟩)
theorem n152_19 : Snd mt G 152 19 (oCall 1 (fV [31, 1031] 278 1) 0 22 xOut) := s_callV (m' := 278) (n := 0) xsh_out (w_xok0 mm152) (w_cal mm152 mm278 pn_J17 (Nat.le_of_ble_eq_true rfl) (Nat.le_of_ble_eq_true rfl)) (fun h b as hc hn => w_run_V (ci := 30) mm152 mm278 dX1_extreme_19 ((List.mem_cons.mp hc).imp id (fun z => List.mem_singleton.mp z)) (Nat.le_of_ble_eq_true rfl) vc_30 rfl q2238 q2239 q2240 q149 q2241 pa278 hn)
theorem n152_22 : Snd mt G 152 22 (oIstore 2 23) := w_istore_n (hm := mm152) dX1_extreme_22 (Nat.le_of_ble_eq_true rfl)
theorem n152_23 : Snd mt G 152 23 (oConst (.int 1) 24) := w_iconst (hm := mm152) dX1_extreme_23 rfl
theorem n152_24 : Snd mt G 152 24 (oIstore 3 25) := w_istore_n (hm := mm152) dX1_extreme_24 (Nat.le_of_ble_eq_true rfl)
theorem n152_25 : Snd mt G 152 25 (oIload 3 26) := w_iload_n (hm := mm152) dX1_extreme_25
theorem n152_26 : Snd mt G 152 26 (oAload 0 27) := w_aload_n (hm := mm152) dX1_extreme_26
theorem n152_27 : Snd mt G 152 27 (oCall 1 (fV [3] 175 1) 0 30 xOut) := s_callV (m' := 175) (n := 0) xsh_out (w_xok0 mm152) (w_cal mm152 mm175 pn_J2 (Nat.le_of_ble_eq_true rfl) (Nat.le_of_ble_eq_true rfl)) (fun h b as hc hn => w_run_V (ci := 2) mm152 mm175 dX1_extreme_27 (Or.inl (List.mem_singleton.mp hc)) (Nat.le_of_ble_eq_true rfl) vc_2 rfl q709 q710 q711 q133 q712 pa175 hn)
theorem n152_30 : Snd mt G 152 30 (oCmpGe 77 33) := w_icmp_ge (hm := mm152) dX1_extreme_30 rfl
theorem n152_33 : Snd mt G 152 33 (oIload 1 34) := w_iload_n (hm := mm152) dX1_extreme_33
theorem n152_34 : Snd mt G 152 34 (oIfEq 55 37) := w_if_eq (hm := mm152) dX1_extreme_34 rfl
theorem n152_37 : Snd mt G 152 37 (oIload 2 38) := w_iload_n (hm := mm152) dX1_extreme_37
theorem n152_38 : Snd mt G 152 38 (oAload 0 39) := w_aload_n (hm := mm152) dX1_extreme_38
theorem n152_39 : Snd mt G 152 39 (oIload 3 40) := w_iload_n (hm := mm152) dX1_extreme_39
theorem n152_40 : Snd mt G 152 40 (oCall 2 (fV [3] 176 2) 0 43 xOut) := s_callV (m' := 176) (n := 1) xsh_out (w_xok0 mm152) (w_cal mm152 mm176 pn_J2 (Nat.le_of_ble_eq_true rfl) (Nat.le_of_ble_eq_true rfl)) (fun h b as hc hn => w_run_V (ci := 2) mm152 mm176 dX1_extreme_40 (Or.inl (List.mem_singleton.mp hc)) (Nat.le_of_ble_eq_true rfl) vc_2 rfl q713 q714 q715 q133 q716 pa176 hn)
theorem n152_43 : Snd mt G 152 43 (oCast [31, 1031] 46) := w_cast (hm := mm152) dX1_extreme_43 q2237 (List.forall_mem_cons.mpr ⟨⟨30, _, Or.inl rfl, (Nat.le_of_ble_eq_true rfl), vc_30, Or.inl rfl⟩, (List.forall_mem_cons.mpr ⟨⟨30, _, Or.inr rfl, (Nat.le_of_ble_eq_true rfl), vc_30, Or.inl rfl⟩, (fun t ht => nomatch ht)⟩)⟩)
theorem n152_46 : Snd mt G 152 46 (oCall 1 (fV [31, 1031] 278 1) 0 49 xOut) := s_callV (m' := 278) (n := 0) xsh_out (w_xok0 mm152) (w_cal mm152 mm278 pn_J17 (Nat.le_of_ble_eq_true rfl) (Nat.le_of_ble_eq_true rfl)) (fun h b as hc hn => w_run_V (ci := 30) mm152 mm278 dX1_extreme_46 ((List.mem_cons.mp hc).imp id (fun z => List.mem_singleton.mp z)) (Nat.le_of_ble_eq_true rfl) vc_30 rfl q2238 q2239 q2240 q149 q2241 pa278 hn)
theorem n152_49 : Snd mt G 152 49 (oMath2 (fun x y => if x < y then y else x) 52) := w_mmax (hm := mm152) dX1_extreme_49 (Nat.le_of_ble_eq_true rfl) q826 q313 q143 q314
theorem n152_52 : Snd mt G 152 52 (oGoto 70) := w_goto (hm := mm152) dX1_extreme_52 rfl
theorem n152_55 : Snd mt G 152 55 (oIload 2 56) := w_iload_n (hm := mm152) dX1_extreme_55
theorem n152_56 : Snd mt G 152 56 (oAload 0 57) := w_aload_n (hm := mm152) dX1_extreme_56
theorem n152_57 : Snd mt G 152 57 (oIload 3 58) := w_iload_n (hm := mm152) dX1_extreme_57
theorem n152_58 : Snd mt G 152 58 (oCall 2 (fV [3] 176 2) 0 61 xOut) := s_callV (m' := 176) (n := 1) xsh_out (w_xok0 mm152) (w_cal mm152 mm176 pn_J2 (Nat.le_of_ble_eq_true rfl) (Nat.le_of_ble_eq_true rfl)) (fun h b as hc hn => w_run_V (ci := 2) mm152 mm176 dX1_extreme_58 (Or.inl (List.mem_singleton.mp hc)) (Nat.le_of_ble_eq_true rfl) vc_2 rfl q713 q714 q715 q133 q716 pa176 hn)
theorem n152_61 : Snd mt G 152 61 (oCast [31, 1031] 64) := w_cast (hm := mm152) dX1_extreme_61 q2237 (List.forall_mem_cons.mpr ⟨⟨30, _, Or.inl rfl, (Nat.le_of_ble_eq_true rfl), vc_30, Or.inl rfl⟩, (List.forall_mem_cons.mpr ⟨⟨30, _, Or.inr rfl, (Nat.le_of_ble_eq_true rfl), vc_30, Or.inl rfl⟩, (fun t ht => nomatch ht)⟩)⟩)
theorem n152_64 : Snd mt G 152 64 (oCall 1 (fV [31, 1031] 278 1) 0 67 xOut) := s_callV (m' := 278) (n := 0) xsh_out (w_xok0 mm152) (w_cal mm152 mm278 pn_J17 (Nat.le_of_ble_eq_true rfl) (Nat.le_of_ble_eq_true rfl)) (fun h b as hc hn => w_run_V (ci := 30) mm152 mm278 dX1_extreme_64 ((List.mem_cons.mp hc).imp id (fun z => List.mem_singleton.mp z)) (Nat.le_of_ble_eq_true rfl) vc_30 rfl q2238 q2239 q2240 q149 q2241 pa278 hn)
theorem n152_67 : Snd mt G 152 67 (oMath2 (fun x y => if y < x then y else x) 70) := w_mmin (hm := mm152) dX1_extreme_67 (Nat.le_of_ble_eq_true rfl) q825 q331 q143 q332
theorem n152_70 : Snd mt G 152 70 (oIstore 2 71) := w_istore_n (hm := mm152) dX1_extreme_70 (Nat.le_of_ble_eq_true rfl)
theorem n152_71 : Snd mt G 152 71 (oIinc 3 1 74) := w_iinc (hm := mm152) dX1_extreme_71 rfl (Nat.le_of_ble_eq_true rfl)
theorem n152_74 : Snd mt G 152 74 (oGoto 25) := w_goto (hm := mm152) dX1_extreme_74 rfl
theorem n152_77 : Snd mt G 152 77 (oIload 2 78) := w_iload_n (hm := mm152) dX1_extreme_77
theorem n152_78 : Snd mt G 152 78 (oRetI .int) := w_iret (hm := mm152) dX1_extreme_78 rfl
theorem sj152 : ∀ pc, Snd mt G 152 pc (j152 pc) := fun pc => (snd_br ((snd_br ((snd_br ((snd_br ((snd_br ((snd_br ((snd_lf n152_78)) ((snd_lf n152_77)))) ((snd_lf n152_74)))) ((snd_br ((snd_lf n152_71)) ((snd_lf n152_70)))))) ((snd_br ((snd_br ((snd_br ((snd_lf n152_67)) ((snd_lf n152_64)))) ((snd_lf n152_61)))) ((snd_br ((snd_lf n152_58)) ((snd_lf n152_57)))))))) ((snd_br ((snd_br ((snd_br ((snd_br ((snd_lf n152_56)) ((snd_lf n152_55)))) ((snd_lf n152_52)))) ((snd_br ((snd_lf n152_49)) ((snd_lf n152_46)))))) ((snd_br ((snd_br ((snd_br ((snd_lf n152_43)) ((snd_lf n152_40)))) ((snd_lf n152_39)))) ((snd_br ((snd_lf n152_38)) ((snd_lf n152_37)))))))))) ((snd_br ((snd_br ((snd_br ((snd_br ((snd_br ((snd_lf n152_34)) ((snd_lf n152_33)))) ((snd_lf n152_30)))) ((snd_br ((snd_lf n152_27)) ((snd_lf n152_26)))))) ((snd_br ((snd_br ((snd_br ((snd_lf n152_25)) ((snd_lf n152_24)))) ((snd_lf n152_23)))) ((snd_br ((snd_lf n152_22)) ((snd_lf n152_19)))))))) ((snd_br ((snd_br ((snd_br ((snd_br ((snd_lf n152_16)) ((snd_lf n152_13)))) ((snd_lf n152_12)))) ((snd_br ((snd_lf n152_11)) ((snd_lf n152_8)))))) ((snd_br ((snd_br ((snd_lf n152_7)) ((snd_lf n152_4)))) ((snd_br ((snd_lf n152_1)) ((snd_lf n152_0)))))))))))
end
section
variable {G : AG}
theorem n153_0 : Snd mt G 153 0 (oAload 0 1) := w_aload_n (hm := mm153) dX1_nextBy_0
theorem n153_1 : Snd mt G 153 1 (oIload 1 2) := w_iload_n (hm := mm153) dX1_nextBy_1
theorem n153_2 : Snd mt G 153 2 (oCall 2 (fV [1] 97 2) 0 5 xOut) := s_callV (m' := 97) (n := 1) xsh_out (w_xok0 mm153) (w_cal mm153 mm97 pn_X1 (Nat.le_of_ble_eq_true rfl) (Nat.le_of_ble_eq_true rfl)) (fun h b as hc hn => w_run_V (ci := 0) mm153 mm97 dX1_nextBy_2 (Or.inl (List.mem_singleton.mp hc)) (Nat.le_of_ble_eq_true rfl) vc_0 rfl q1688 q1690 qs41 q129 q1691 pa97 hn)
theorem n153_5 : Snd mt G 153 5 (oAstore 4 7) := w_astore (hm := mm153) dX1_nextBy_5 (Nat.le_of_ble_eq_true rfl)
theorem n153_7 : Snd mt G 153 7 (oIload 2 8) := w_iload_n (hm := mm153) dX1_nextBy_7
theorem n153_8 : Snd mt G 153 8 (oCall 1 (fS 116 1) 0 11 xOut) := s_callS (m' := 116) (n := 1) xsh_out (w_xok0 mm153) (w_cal mm153 mm116 pn_X1 (Nat.le_of_ble_eq_true rfl) (Nat.le_of_ble_eq_true rfl)) (fun h as hn => w_run_S mm153 mm116 dX1_nextBy_8 q1909 q1910 q129 q1911 pa116 hn)
theorem n153_11 : Snd mt G 153 11 (oCall 1 (fS 89 1) 0 14 xOut) := s_callS (m' := 89) (n := 1) xsh_out (w_xok0 mm153) (w_cal mm153 mm89 pn_X1 (Nat.le_of_ble_eq_true rfl) (Nat.le_of_ble_eq_true rfl)) (fun h as hn => w_run_S mm153 mm89 dX1_nextBy_11 q1180 q1181 q129 q1182 pa89 hn)
theorem n153_14 : Snd mt G 153 14 (oAload 0 15) := w_aload_n (hm := mm153) dX1_nextBy_14
theorem n153_15 : Snd mt G 153 15 (oIload 1 16) := w_iload_n (hm := mm153) dX1_nextBy_15
theorem n153_16 : Snd mt G 153 16 (oCall 2 (fV [1] 151 6) 0 19 xOut) := s_callV (m' := 151) (n := 1) xsh_out (w_xok0 mm153) (w_cal mm153 mm151 pn_X1 (Nat.le_of_ble_eq_true rfl) (Nat.le_of_ble_eq_true rfl)) (fun h b as hc hn => w_run_V (ci := 0) mm153 mm151 dX1_nextBy_16 (Or.inl (List.mem_singleton.mp hc)) (Nat.le_of_ble_eq_true rfl) vc_0 rfl q2206 q2208 qs59 q129 q2209 pa151 hn)
theorem n153_19 : Snd mt G 153 19 (oAstore 5 21) := w_astore (hm := mm153) dX1_nextBy_19 (Nat.le_of_ble_eq_true rfl)
theorem n153_21 : Snd mt G 153 21 (oAload 4 23) := w_aload (hm := mm153) dX1_nextBy_21
theorem n153_23 : Snd mt G 153 23 (oGetf [19] 8 26) := w_getfN (hm := mm153) dX1_nextBy_23 (fokn1 (k := 8) (T := TX20) 18 (Nat.le_of_ble_eq_true rfl) vc_18 (Nat.le_of_ble_eq_true rfl) q1083)
theorem n153_26 : Snd mt G 153 26 (oConst (.int 2) 27) := w_iconst (hm := mm153) dX1_nextBy_26 rfl
theorem n153_27 : Snd mt G 153 27 (oAld [104] 28) := w_aaload (hm := mm153) (kt := 4) dX1_nextBy_27 rfl at_4 (Nat.le_of_ble_eq_true rfl) (List.forall_mem_cons.mpr ⟨Or.inl rfl, (fun t ht => nomatch ht)⟩)
theorem n153_28 : Snd mt G 153 28 (oIfNull 39 31) := w_ifnull (hm := mm153) dX1_nextBy_28 rfl
theorem n153_31 : Snd mt G 153 31 (oAload 5 33) := w_aload (hm := mm153) dX1_nextBy_31
theorem n153_33 : Snd mt G 153 33 (oCall 1 (fV [3] 184 1) 0 36 xOut) := s_callV (m' := 184) (n := 0) xsh_out (w_xok0 mm153) (w_cal mm153 mm184 pn_J2 (Nat.le_of_ble_eq_true rfl) (Nat.le_of_ble_eq_true rfl)) (fun h b as hc hn => w_run_V (ci := 2) mm153 mm184 dX1_nextBy_33 (Or.inl (List.mem_singleton.mp hc)) (Nat.le_of_ble_eq_true rfl) vc_2 rfl q2233 q2234 q2235 q133 q2236 pa184 hn)
theorem n153_36 : Snd mt G 153 36 (oIfEq 43 39) := w_if_eq (hm := mm153) dX1_nextBy_36 rfl
theorem n153_39 : Snd mt G 153 39 (oConst (.int (-1)) 40) := w_iconst (hm := mm153) dX1_nextBy_39 rfl
theorem n153_40 : Snd mt G 153 40 (oGoto 61) := w_goto (hm := mm153) dX1_nextBy_40 rfl
theorem n153_43 : Snd mt G 153 43 (oAload 0 44) := w_aload_n (hm := mm153) dX1_nextBy_43
theorem n153_44 : Snd mt G 153 44 (oAload 4 46) := w_aload (hm := mm153) dX1_nextBy_44
theorem n153_46 : Snd mt G 153 46 (oAload 0 47) := w_aload_n (hm := mm153) dX1_nextBy_46
theorem n153_47 : Snd mt G 153 47 (oIload 1 48) := w_iload_n (hm := mm153) dX1_nextBy_47
theorem n153_48 : Snd mt G 153 48 (oCall 2 (fV [1] 149 4) 0 51 xOut) := s_callV (m' := 149) (n := 1) xsh_out (w_xok0 mm153) (w_cal mm153 mm149 pn_X1 (Nat.le_of_ble_eq_true rfl) (Nat.le_of_ble_eq_true rfl)) (fun h b as hc hn => w_run_V (ci := 0) mm153 mm149 dX1_nextBy_48 (Or.inl (List.mem_singleton.mp hc)) (Nat.le_of_ble_eq_true rfl) vc_0 rfl q2176 q2178 qs58 q129 q2179 pa149 hn)
theorem n153_51 : Snd mt G 153 51 (oAload 5 53) := w_aload (hm := mm153) dX1_nextBy_51
theorem n153_53 : Snd mt G 153 53 (oIload 3 54) := w_iload_n (hm := mm153) dX1_nextBy_53
theorem n153_54 : Snd mt G 153 54 (oCall 2 (fS 152 4) 0 57 xOut) := s_callS (m' := 152) (n := 2) xsh_out (w_xok0 mm153) (w_cal mm153 mm152 pn_X1 (Nat.le_of_ble_eq_true rfl) (Nat.le_of_ble_eq_true rfl)) (fun h as hn => w_run_S mm153 mm152 dX1_nextBy_54 q2230 q2231 q129 q2232 pa152 hn)
theorem n153_57 : Snd mt G 153 57 (oIload 2 58) := w_iload_n (hm := mm153) dX1_nextBy_57
theorem n153_58 : Snd mt G 153 58 (oCall 5 (fV [1] 154 6) 0 61 xOut) := s_callV (m' := 154) (n := 4) xsh_out (w_xok0 mm153) (w_cal mm153 mm154 pn_X1 (Nat.le_of_ble_eq_true rfl) (Nat.le_of_ble_eq_true rfl)) (fun h b as hc hn => w_run_V (ci := 0) mm153 mm154 dX1_nextBy_58 (Or.inl (List.mem_singleton.mp hc)) (Nat.le_of_ble_eq_true rfl) vc_0 rfl q2249 q2251 qs60 q129 q2252 pa154 hn)
theorem n153_61 : Snd mt G 153 61 (oRetI .int) := w_iret (hm := mm153) dX1_nextBy_61 rfl
theorem sj153 : ∀ pc, Snd mt G 153 pc (j153 pc) := fun pc => (snd_br ((snd_br ((snd_br ((snd_br ((snd_br ((snd_lf n153_61)) ((snd_lf n153_58)))) ((snd_br ((snd_lf n153_57)) ((snd_lf n153_54)))))) ((snd_br ((snd_br ((snd_lf n153_53)) ((snd_lf n153_51)))) ((snd_br ((snd_lf n153_48)) ((snd_lf n153_47)))))))) ((snd_br ((snd_br ((snd_br ((snd_lf n153_46)) ((snd_lf n153_44)))) ((snd_br ((snd_lf n153_43)) ((snd_lf n153_40)))))) ((snd_br ((snd_br ((snd_lf n153_39)) ((snd_lf n153_36)))) ((snd_br ((snd_lf n153_33)) ((snd_lf n153_31)))))))))) ((snd_br ((snd_br ((snd_br ((snd_br ((snd_lf n153_28)) ((snd_lf n153_27)))) ((snd_br ((snd_lf n153_26)) ((snd_lf n153_23)))))) ((snd_br ((snd_br ((snd_lf n153_21)) ((snd_lf n153_19)))) ((snd_br ((snd_lf n153_16)) ((snd_lf n153_15)))))))) ((snd_br ((snd_br ((snd_br ((snd_lf n153_14)) ((snd_lf n153_11)))) ((snd_br ((snd_lf n153_8)) ((snd_lf n153_7)))))) ((snd_br ((snd_br ((snd_lf n153_5)) ((snd_lf n153_2)))) ((snd_br ((snd_lf n153_1)) ((snd_lf n153_0)))))))))))
end
section
variable {G : AG}
theorem n154_0 : Snd mt G 154 0 (oAload 0 1) := w_aload_n (hm := mm154) dX1_nextBy_2_0
theorem n154_1 : Snd mt G 154 1 (oGetf [1] 0 4) := w_getf (hm := mm154) dX1_nextBy_2_1 (fok1 (k := 0) (T := TX1) 0 (Nat.le_of_ble_eq_true rfl) vc_0 (Nat.le_of_ble_eq_true rfl) q623)
theorem n154_4 : Snd mt G 154 4 (oGetf [2] 12 7) := w_getfN (hm := mm154) dX1_nextBy_2_4 (fokn1 (k := 12) (T := TX2) 1 (Nat.le_of_ble_eq_true rfl) vc_1 (Nat.le_of_ble_eq_true rfl) q567)
theorem n154_7 : Snd mt G 154 7 (oIstore 5 9) := w_istore (hm := mm154) dX1_nextBy_2_7 (Nat.le_of_ble_eq_true rfl)
theorem n154_9 : Snd mt G 154 9 (oIload 5 11) := w_iload (hm := mm154) dX1_nextBy_2_9
theorem n154_11 : Snd mt G 154 11 (oConst (.int 20000) 14) := w_sipush (hm := mm154) dX1_nextBy_2_11 (by decide)
theorem n154_14 : Snd mt G 154 14 (oCmpGt 68 17) := w_icmp_gt (hm := mm154) dX1_nextBy_2_14 rfl
theorem n154_17 : Snd mt G 154 17 (oAload 2 18) := w_aload_n (hm := mm154) dX1_nextBy_2_17
theorem n154_18 : Snd mt G 154 18 (oGetf [25] 2 21) := w_getfN (hm := mm154) dX1_nextBy_2_18 (fokn1 (k := 2) (T := TX26) 24 (Nat.le_of_ble_eq_true rfl) vc_24 (Nat.le_of_ble_eq_true rfl) q2191)
theorem n154_21 : Snd mt G 154 21 (oUn (fun x => .long x.toInt64) 22) := w_i2l (hm := mm154) dX1_nextBy_2_21
theorem n154_22 : Snd mt G 154 22 (oIload 3 23) := w_iload_n (hm := mm154) dX1_nextBy_2_22
theorem n154_23 : Snd mt G 154 23 (oUn (fun x => .long x.toInt64) 24) := w_i2l (hm := mm154) dX1_nextBy_2_23
theorem n154_24 : Snd mt G 154 24 (oIload 5 26) := w_iload (hm := mm154) dX1_nextBy_2_24
theorem n154_26 : Snd mt G 154 26 (oAload 2 27) := w_aload_n (hm := mm154) dX1_nextBy_2_26
theorem n154_27 : Snd mt G 154 27 (oGetf [25] 1 30) := w_getfN (hm := mm154) dX1_nextBy_2_27 (fokn1 (k := 1) (T := TX26) 24 (Nat.le_of_ble_eq_true rfl) vc_24 (Nat.le_of_ble_eq_true rfl) q2189)
theorem n154_30 : Snd mt G 154 30 (oBin (fun x y => x - y) 31) := w_isub (hm := mm154) dX1_nextBy_2_30
theorem n154_31 : Snd mt G 154 31 (oUn (fun x => .long x.toInt64) 32) := w_i2l (hm := mm154) dX1_nextBy_2_31
theorem n154_32 : Snd mt G 154 32 (oLbin (fun x y => .long (x * y)) 33) := w_lmul (hm := mm154) dX1_nextBy_2_32
theorem n154_33 : Snd mt G 154 33 (oConst (.long 365) 36) := w_ldc2 (hm := mm154) dX1_nextBy_2_33 q2253
theorem n154_36 : Snd mt G 154 36 (oLdiv (fun x y => .long (x / y)) 37) := w_ldiv (hm := mm154) dX1_nextBy_2_36
theorem n154_37 : Snd mt G 154 37 (oLbin (fun x y => .long (x + y)) 38) := w_ladd (hm := mm154) dX1_nextBy_2_37
theorem n154_38 : Snd mt G 154 38 (oAload 1 39) := w_aload_n (hm := mm154) dX1_nextBy_2_38
theorem n154_39 : Snd mt G 154 39 (oGetf [19] 8 42) := w_getfN (hm := mm154) dX1_nextBy_2_39 (fokn1 (k := 8) (T := TX20) 18 (Nat.le_of_ble_eq_true rfl) vc_18 (Nat.le_of_ble_eq_true rfl) q1083)
theorem n154_42 : Snd mt G 154 42 (oConst (.int 2) 43) := w_iconst (hm := mm154) dX1_nextBy_2_42 rfl
theorem n154_43 : Snd mt G 154 43 (oAld [104] 44) := w_aaload (hm := mm154) (kt := 4) dX1_nextBy_2_43 rfl at_4 (Nat.le_of_ble_eq_true rfl) (List.forall_mem_cons.mpr ⟨Or.inl rfl, (fun t ht => nomatch ht)⟩)
theorem n154_44 : Snd mt G 154 44 (oGetf [20] 4 47) := w_getfN (hm := mm154) dX1_nextBy_2_44 (fokn1 (k := 4) (T := TX21) 19 (Nat.le_of_ble_eq_true rfl) vc_19 (Nat.le_of_ble_eq_true rfl) q1839)
theorem n154_47 : Snd mt G 154 47 (oUn (fun x => .long x.toInt64) 48) := w_i2l (hm := mm154) dX1_nextBy_2_47
theorem n154_48 : Snd mt G 154 48 (oLbin (fun x y => .long (x - y)) 49) := w_lsub (hm := mm154) dX1_nextBy_2_48
theorem n154_49 : Snd mt G 154 49 (oMathL (fun w => if 0 < w then w else -w) 52) := w_mabsL (hm := mm154) dX1_nextBy_2_49 (Nat.le_of_ble_eq_true rfl) q2254 q2255 q143 q2256
theorem n154_52 : Snd mt G 154 52 (oIload 4 54) := w_iload (hm := mm154) dX1_nextBy_2_52
theorem n154_54 : Snd mt G 154 54 (oUn (fun x => .long x.toInt64) 55) := w_i2l (hm := mm154) dX1_nextBy_2_54
theorem n154_55 : Snd mt G 154 55 (oLbin (fun x y => .int (lg_cmp x y)) 56) := w_lcmp (hm := mm154) dX1_nextBy_2_55
theorem n154_56 : Snd mt G 154 56 (oIfLe 62 59) := w_if_le (hm := mm154) dX1_nextBy_2_56 rfl
theorem n154_59 : Snd mt G 154 59 (oIload 5 61) := w_iload (hm := mm154) dX1_nextBy_2_59
theorem n154_61 : Snd mt G 154 61 (oRetI .int) := w_iret (hm := mm154) dX1_nextBy_2_61 rfl
theorem n154_62 : Snd mt G 154 62 (oIinc 5 1 65) := w_iinc (hm := mm154) dX1_nextBy_2_62 rfl (Nat.le_of_ble_eq_true rfl)
theorem n154_65 : Snd mt G 154 65 (oGoto 9) := w_goto (hm := mm154) dX1_nextBy_2_65 rfl
theorem n154_68 : Snd mt G 154 68 (oConst (.int (-1)) 69) := w_iconst (hm := mm154) dX1_nextBy_2_68 rfl
theorem n154_69 : Snd mt G 154 69 (oRetI .int) := w_iret (hm := mm154) dX1_nextBy_2_69 rfl
theorem sj154 : ∀ pc, Snd mt G 154 pc (j154 pc) := fun pc => (snd_br ((snd_br ((snd_br ((snd_br ((snd_br ((snd_br ((snd_lf n154_69)) ((snd_lf n154_68)))) ((snd_lf n154_65)))) ((snd_br ((snd_lf n154_62)) ((snd_lf n154_61)))))) ((snd_br ((snd_br ((snd_br ((snd_lf n154_59)) ((snd_lf n154_56)))) ((snd_lf n154_55)))) ((snd_br ((snd_lf n154_54)) ((snd_lf n154_52)))))))) ((snd_br ((snd_br ((snd_br ((snd_br ((snd_lf n154_49)) ((snd_lf n154_48)))) ((snd_lf n154_47)))) ((snd_br ((snd_lf n154_44)) ((snd_lf n154_43)))))) ((snd_br ((snd_br ((snd_br ((snd_lf n154_42)) ((snd_lf n154_39)))) ((snd_lf n154_38)))) ((snd_br ((snd_lf n154_37)) ((snd_lf n154_36)))))))))) ((snd_br ((snd_br ((snd_br ((snd_br ((snd_br ((snd_lf n154_33)) ((snd_lf n154_32)))) ((snd_lf n154_31)))) ((snd_br ((snd_lf n154_30)) ((snd_lf n154_27)))))) ((snd_br ((snd_br ((snd_br ((snd_lf n154_26)) ((snd_lf n154_24)))) ((snd_lf n154_23)))) ((snd_br ((snd_lf n154_22)) ((snd_lf n154_21)))))))) ((snd_br ((snd_br ((snd_br ((snd_br ((snd_lf n154_18)) ((snd_lf n154_17)))) ((snd_lf n154_14)))) ((snd_br ((snd_lf n154_11)) ((snd_lf n154_9)))))) ((snd_br ((snd_br ((snd_lf n154_7)) ((snd_lf n154_4)))) ((snd_br ((snd_lf n154_1)) ((snd_lf n154_0)))))))))))
end
section
variable {G : AG}
theorem n155_0 : Snd mt G 155 0 (oAload 0 1) := w_aload_n (hm := mm155) dX1_chance_0
theorem n155_1 : Snd mt G 155 1 (oIload 1 2) := w_iload_n (hm := mm155) dX1_chance_1
theorem n155_2 : Snd mt G 155 2 (oCall 2 (fV [1] 97 2) 0 5 xOut) := s_callV (m' := 97) (n := 1) xsh_out (w_xok0 mm155) (w_cal mm155 mm97 pn_X1 (Nat.le_of_ble_eq_true rfl) (Nat.le_of_ble_eq_true rfl)) (fun h b as hc hn => w_run_V (ci := 0) mm155 mm97 dX1_chance_2 (Or.inl (List.mem_singleton.mp hc)) (Nat.le_of_ble_eq_true rfl) vc_0 rfl q1688 q1690 qs41 q129 q1691 pa97 hn)
theorem n155_5 : Snd mt G 155 5 (oAstore 4 7) := w_astore (hm := mm155) dX1_chance_5 (Nat.le_of_ble_eq_true rfl)
theorem n155_7 : Snd mt G 155 7 (oIload 2 8) := w_iload_n (hm := mm155) dX1_chance_7
theorem n155_8 : Snd mt G 155 8 (oCall 1 (fS 116 1) 0 11 xOut) := s_callS (m' := 116) (n := 1) xsh_out (w_xok0 mm155) (w_cal mm155 mm116 pn_X1 (Nat.le_of_ble_eq_true rfl) (Nat.le_of_ble_eq_true rfl)) (fun h as hn => w_run_S mm155 mm116 dX1_chance_8 q1909 q1910 q129 q1911 pa116 hn)
theorem n155_11 : Snd mt G 155 11 (oIfEq 25 14) := w_if_eq (hm := mm155) dX1_chance_11 rfl
theorem n155_14 : Snd mt G 155 14 (oIload 3 15) := w_iload_n (hm := mm155) dX1_chance_14
theorem n155_15 : Snd mt G 155 15 (oCall 1 (fS 88 1) 0 18 xOut) := s_callS (m' := 88) (n := 1) xsh_out (w_xok0 mm155) (w_cal mm155 mm88 pn_X1 (Nat.le_of_ble_eq_true rfl) (Nat.le_of_ble_eq_true rfl)) (fun h as hn => w_run_S mm155 mm88 dX1_chance_15 q1177 q1178 q129 q1179 pa88 hn)
theorem n155_18 : Snd mt G 155 18 (oIfEq 25 21) := w_if_eq (hm := mm155) dX1_chance_18 rfl
theorem n155_21 : Snd mt G 155 21 (oConst (.int 1) 22) := w_iconst (hm := mm155) dX1_chance_21 rfl
theorem n155_22 : Snd mt G 155 22 (oGoto 26) := w_goto (hm := mm155) dX1_chance_22 rfl
theorem n155_25 : Snd mt G 155 25 (oConst (.int 0) 26) := w_iconst (hm := mm155) dX1_chance_25 rfl
theorem n155_26 : Snd mt G 155 26 (oCall 1 (fS 89 1) 0 29 xOut) := s_callS (m' := 89) (n := 1) xsh_out (w_xok0 mm155) (w_cal mm155 mm89 pn_X1 (Nat.le_of_ble_eq_true rfl) (Nat.le_of_ble_eq_true rfl)) (fun h as hn => w_run_S mm155 mm89 dX1_chance_26 q1180 q1181 q129 q1182 pa89 hn)
theorem n155_29 : Snd mt G 155 29 (oAload 0 30) := w_aload_n (hm := mm155) dX1_chance_29
theorem n155_30 : Snd mt G 155 30 (oIload 1 31) := w_iload_n (hm := mm155) dX1_chance_30
theorem n155_31 : Snd mt G 155 31 (oCall 2 (fV [1] 151 6) 0 34 xOut) := s_callV (m' := 151) (n := 1) xsh_out (w_xok0 mm155) (w_cal mm155 mm151 pn_X1 (Nat.le_of_ble_eq_true rfl) (Nat.le_of_ble_eq_true rfl)) (fun h b as hc hn => w_run_V (ci := 0) mm155 mm151 dX1_chance_31 (Or.inl (List.mem_singleton.mp hc)) (Nat.le_of_ble_eq_true rfl) vc_0 rfl q2206 q2208 qs59 q129 q2209 pa151 hn)
theorem n155_34 : Snd mt G 155 34 (oAstore 5 36) := w_astore (hm := mm155) dX1_chance_34 (Nat.le_of_ble_eq_true rfl)
theorem n155_36 : Snd mt G 155 36 (oConst (.int 0) 37) := w_iconst (hm := mm155) dX1_chance_36 rfl
theorem n155_37 : Snd mt G 155 37 (oIstore 6 39) := w_istore (hm := mm155) dX1_chance_37 (Nat.le_of_ble_eq_true rfl)
theorem n155_39 : Snd mt G 155 39 (oConst (.int 0) 40) := w_iconst (hm := mm155) dX1_chance_39 rfl
theorem n155_40 : Snd mt G 155 40 (oIstore 7 42) := w_istore (hm := mm155) dX1_chance_40 (Nat.le_of_ble_eq_true rfl)
theorem n155_42 : Snd mt G 155 42 (oIload 7 44) := w_iload (hm := mm155) dX1_chance_42
theorem n155_44 : Snd mt G 155 44 (oAload 5 46) := w_aload (hm := mm155) dX1_chance_44
theorem n155_46 : Snd mt G 155 46 (oCall 1 (fV [3] 175 1) 0 49 xOut) := s_callV (m' := 175) (n := 0) xsh_out (w_xok0 mm155) (w_cal mm155 mm175 pn_J2 (Nat.le_of_ble_eq_true rfl) (Nat.le_of_ble_eq_true rfl)) (fun h b as hc hn => w_run_V (ci := 2) mm155 mm175 dX1_chance_46 (Or.inl (List.mem_singleton.mp hc)) (Nat.le_of_ble_eq_true rfl) vc_2 rfl q709 q710 q711 q133 q712 pa175 hn)
theorem n155_49 : Snd mt G 155 49 (oCmpGe 117 52) := w_icmp_ge (hm := mm155) dX1_chance_49 rfl
theorem n155_52 : Snd mt G 155 52 (oAload 4 54) := w_aload (hm := mm155) dX1_chance_52
theorem n155_54 : Snd mt G 155 54 (oGetf [19] 8 57) := w_getfN (hm := mm155) dX1_chance_54 (fokn1 (k := 8) (T := TX20) 18 (Nat.le_of_ble_eq_true rfl) vc_18 (Nat.le_of_ble_eq_true rfl) q1083)
theorem n155_57 : Snd mt G 155 57 (oConst (.int 2) 58) := w_iconst (hm := mm155) dX1_chance_57 rfl
theorem n155_58 : Snd mt G 155 58 (oAld [104] 59) := w_aaload (hm := mm155) (kt := 4) dX1_chance_58 rfl at_4 (Nat.le_of_ble_eq_true rfl) (List.forall_mem_cons.mpr ⟨Or.inl rfl, (fun t ht => nomatch ht)⟩)
theorem n155_59 : Snd mt G 155 59 (oIfNull 117 62) := w_ifnull (hm := mm155) dX1_chance_59 rfl
theorem n155_62 : Snd mt G 155 62 (oAload 0 63) := w_aload_n (hm := mm155) dX1_chance_62
theorem n155_63 : Snd mt G 155 63 (oAload 4 65) := w_aload (hm := mm155) dX1_chance_63
theorem n155_65 : Snd mt G 155 65 (oAload 0 66) := w_aload_n (hm := mm155) dX1_chance_65
theorem n155_66 : Snd mt G 155 66 (oIload 1 67) := w_iload_n (hm := mm155) dX1_chance_66
theorem n155_67 : Snd mt G 155 67 (oCall 2 (fV [1] 149 4) 0 70 xOut) := s_callV (m' := 149) (n := 1) xsh_out (w_xok0 mm155) (w_cal mm155 mm149 pn_X1 (Nat.le_of_ble_eq_true rfl) (Nat.le_of_ble_eq_true rfl)) (fun h b as hc hn => w_run_V (ci := 0) mm155 mm149 dX1_chance_67 (Or.inl (List.mem_singleton.mp hc)) (Nat.le_of_ble_eq_true rfl) vc_0 rfl q2176 q2178 qs58 q129 q2179 pa149 hn)
theorem n155_70 : Snd mt G 155 70 (oAload 5 72) := w_aload (hm := mm155) dX1_chance_70
theorem n155_72 : Snd mt G 155 72 (oIload 7 74) := w_iload (hm := mm155) dX1_chance_72
theorem n155_74 : Snd mt G 155 74 (oCall 2 (fV [3] 176 2) 0 77 xOut) := s_callV (m' := 176) (n := 1) xsh_out (w_xok0 mm155) (w_cal mm155 mm176 pn_J2 (Nat.le_of_ble_eq_true rfl) (Nat.le_of_ble_eq_true rfl)) (fun h b as hc hn => w_run_V (ci := 2) mm155 mm176 dX1_chance_74 (Or.inl (List.mem_singleton.mp hc)) (Nat.le_of_ble_eq_true rfl) vc_2 rfl q713 q714 q715 q133 q716 pa176 hn)
theorem n155_77 : Snd mt G 155 77 (oCast [31, 1031] 80) := w_cast (hm := mm155) dX1_chance_77 q2237 (List.forall_mem_cons.mpr ⟨⟨30, _, Or.inl rfl, (Nat.le_of_ble_eq_true rfl), vc_30, Or.inl rfl⟩, (List.forall_mem_cons.mpr ⟨⟨30, _, Or.inr rfl, (Nat.le_of_ble_eq_true rfl), vc_30, Or.inl rfl⟩, (fun t ht => nomatch ht)⟩)⟩)
theorem n155_80 : Snd mt G 155 80 (oCall 1 (fV [31, 1031] 278 1) 0 83 xOut) := s_callV (m' := 278) (n := 0) xsh_out (w_xok0 mm155) (w_cal mm155 mm278 pn_J17 (Nat.le_of_ble_eq_true rfl) (Nat.le_of_ble_eq_true rfl)) (fun h b as hc hn => w_run_V (ci := 30) mm155 mm278 dX1_chance_80 ((List.mem_cons.mp hc).imp id (fun z => List.mem_singleton.mp z)) (Nat.le_of_ble_eq_true rfl) vc_30 rfl q2238 q2239 q2240 q149 q2241 pa278 hn)
theorem n155_83 : Snd mt G 155 83 (oIload 2 84) := w_iload_n (hm := mm155) dX1_chance_83
theorem n155_84 : Snd mt G 155 84 (oCall 5 (fV [1] 154 6) 0 87 xOut) := s_callV (m' := 154) (n := 4) xsh_out (w_xok0 mm155) (w_cal mm155 mm154 pn_X1 (Nat.le_of_ble_eq_true rfl) (Nat.le_of_ble_eq_true rfl)) (fun h b as hc hn => w_run_V (ci := 0) mm155 mm154 dX1_chance_84 (Or.inl (List.mem_singleton.mp hc)) (Nat.le_of_ble_eq_true rfl) vc_0 rfl q2249 q2251 qs60 q129 q2252 pa154 hn)
theorem n155_87 : Snd mt G 155 87 (oIstore 8 89) := w_istore (hm := mm155) dX1_chance_87 (Nat.le_of_ble_eq_true rfl)
theorem n155_89 : Snd mt G 155 89 (oIload 6 91) := w_iload (hm := mm155) dX1_chance_89
theorem n155_91 : Snd mt G 155 91 (oIload 8 93) := w_iload (hm := mm155) dX1_chance_91
theorem n155_93 : Snd mt G 155 93 (oConst (.int (-1)) 94) := w_iconst (hm := mm155) dX1_chance_93 rfl
theorem n155_94 : Snd mt G 155 94 (oCmpEq 107 97) := w_icmp_eq (hm := mm155) dX1_chance_94 rfl
theorem n155_97 : Snd mt G 155 97 (oIload 8 99) := w_iload (hm := mm155) dX1_chance_97
theorem n155_99 : Snd mt G 155 99 (oIload 3 100) := w_iload_n (hm := mm155) dX1_chance_99
theorem n155_100 : Snd mt G 155 100 (oCmpGt 107 103) := w_icmp_gt (hm := mm155) dX1_chance_100 rfl
theorem n155_103 : Snd mt G 155 103 (oConst (.int 1) 104) := w_iconst (hm := mm155) dX1_chance_103 rfl
theorem n155_104 : Snd mt G 155 104 (oGoto 108) := w_goto (hm := mm155) dX1_chance_104 rfl
theorem n155_107 : Snd mt G 155 107 (oConst (.int 0) 108) := w_iconst (hm := mm155) dX1_chance_107 rfl
theorem n155_108 : Snd mt G 155 108 (oBin (fun x y => x + y) 109) := w_iadd (hm := mm155) dX1_chance_108
theorem n155_109 : Snd mt G 155 109 (oIstore 6 111) := w_istore (hm := mm155) dX1_chance_109 (Nat.le_of_ble_eq_true rfl)
theorem n155_111 : Snd mt G 155 111 (oIinc 7 1 114) := w_iinc (hm := mm155) dX1_chance_111 rfl (Nat.le_of_ble_eq_true rfl)
theorem n155_114 : Snd mt G 155 114 (oGoto 42) := w_goto (hm := mm155) dX1_chance_114 rfl
theorem n155_117 : Snd mt G 155 117 (oIload 6 119) := w_iload (hm := mm155) dX1_chance_117
theorem n155_119 : Snd mt G 155 119 (oRetI .int) := w_iret (hm := mm155) dX1_chance_119 rfl
theorem sj155 : ∀ pc, Snd mt G 155 pc (j155 pc) := fun pc => (snd_br ((snd_br ((snd_br ((snd_br ((snd_br ((snd_br ((snd_lf n155_119)) ((snd_lf n155_117)))) ((snd_br ((snd_lf n155_114)) ((snd_lf n155_111)))))) ((snd_br ((snd_br ((snd_lf n155_109)) ((snd_lf n155_108)))) ((snd_br ((snd_lf n155_107)) ((snd_lf n155_104)))))))) ((snd_br ((snd_br ((snd_br ((snd_lf n155_103)) ((snd_lf n155_100)))) ((snd_br ((snd_lf n155_99)) ((snd_lf n155_97)))))) ((snd_br ((snd_br ((snd_lf n155_94)) ((snd_lf n155_93)))) ((snd_lf n155_91)))))))) ((snd_br ((snd_br ((snd_br ((snd_br ((snd_lf n155_89)) ((snd_lf n155_87)))) ((snd_br ((snd_lf n155_84)) ((snd_lf n155_83)))))) ((snd_br ((snd_br ((snd_lf n155_80)) ((snd_lf n155_77)))) ((snd_br ((snd_lf n155_74)) ((snd_lf n155_72)))))))) ((snd_br ((snd_br ((snd_br ((snd_lf n155_70)) ((snd_lf n155_67)))) ((snd_br ((snd_lf n155_66)) ((snd_lf n155_65)))))) ((snd_br ((snd_br ((snd_lf n155_63)) ((snd_lf n155_62)))) ((snd_lf n155_59)))))))))) ((snd_br ((snd_br ((snd_br ((snd_br ((snd_br ((snd_lf n155_58)) ((snd_lf n155_57)))) ((snd_br ((snd_lf n155_54)) ((snd_lf n155_52)))))) ((snd_br ((snd_br ((snd_lf n155_49)) ((snd_lf n155_46)))) ((snd_br ((snd_lf n155_44)) ((snd_lf n155_42)))))))) ((snd_br ((snd_br ((snd_br ((snd_lf n155_40)) ((snd_lf n155_39)))) ((snd_br ((snd_lf n155_37)) ((snd_lf n155_36)))))) ((snd_br ((snd_br ((snd_lf n155_34)) ((snd_lf n155_31)))) ((snd_lf n155_30)))))))) ((snd_br ((snd_br ((snd_br ((snd_br ((snd_lf n155_29)) ((snd_lf n155_26)))) ((snd_br ((snd_lf n155_25)) ((snd_lf n155_22)))))) ((snd_br ((snd_br ((snd_lf n155_21)) ((snd_lf n155_18)))) ((snd_br ((snd_lf n155_15)) ((snd_lf n155_14)))))))) ((snd_br ((snd_br ((snd_br ((snd_lf n155_11)) ((snd_lf n155_8)))) ((snd_br ((snd_lf n155_7)) ((snd_lf n155_5)))))) ((snd_br ((snd_br ((snd_lf n155_2)) ((snd_lf n155_1)))) ((snd_lf n155_0)))))))))))
end
section
variable {G : AG}
theorem n156_0 : Snd mt G 156 0 (oIload 1 1) := w_iload_n (hm := mm156) dX1_fitter_0
theorem n156_1 : Snd mt G 156 1 (oCall 1 (fS 157 1) 0 4 xOut) := s_callS (m' := 157) (n := 1) xsh_out (w_xok0 mm156) (w_cal mm156 mm157 pn_X1 (Nat.le_of_ble_eq_true rfl) (Nat.le_of_ble_eq_true rfl)) (fun h as hn => w_run_S mm156 mm157 dX1_fitter_1 q2271 q2272 q129 q2273 pa157 hn)
theorem n156_4 : Snd mt G 156 4 (oCall 1 (fS 89 1) 0 7 xOut) := s_callS (m' := 89) (n := 1) xsh_out (w_xok0 mm156) (w_cal mm156 mm89 pn_X1 (Nat.le_of_ble_eq_true rfl) (Nat.le_of_ble_eq_true rfl)) (fun h as hn => w_run_S mm156 mm89 dX1_fitter_4 q1180 q1181 q129 q1182 pa89 hn)
theorem n156_7 : Snd mt G 156 7 (oAload 0 8) := w_aload_n (hm := mm156) dX1_fitter_7
theorem n156_8 : Snd mt G 156 8 (oGetf [1] 0 11) := w_getf (hm := mm156) dX1_fitter_8 (fok1 (k := 0) (T := TX1) 0 (Nat.le_of_ble_eq_true rfl) vc_0 (Nat.le_of_ble_eq_true rfl) q623)
theorem n156_11 : Snd mt G 156 11 (oGetf [2] 16 14) := w_getfN (hm := mm156) dX1_fitter_11 (fokn1 (k := 16) (T := TX2) 1 (Nat.le_of_ble_eq_true rfl) vc_1 (Nat.le_of_ble_eq_true rfl) q575)
theorem n156_14 : Snd mt G 156 14 (oIstore 2 15) := w_istore_n (hm := mm156) dX1_fitter_14 (Nat.le_of_ble_eq_true rfl)
theorem n156_15 : Snd mt G 156 15 (oAload 0 16) := w_aload_n (hm := mm156) dX1_fitter_15
theorem n156_16 : Snd mt G 156 16 (oGetf [1] 0 19) := w_getf (hm := mm156) dX1_fitter_16 (fok1 (k := 0) (T := TX1) 0 (Nat.le_of_ble_eq_true rfl) vc_0 (Nat.le_of_ble_eq_true rfl) q623)
theorem n156_19 : Snd mt G 156 19 (oIload 1 20) := w_iload_n (hm := mm156) dX1_fitter_19
theorem n156_20 : Snd mt G 156 20 (oPutf [2] 16 .int 23) := w_putfN (hm := mm156) dX1_fitter_20 (pnk1 (k := 16) (T := TX2) 1 (Nat.le_of_ble_eq_true rfl) vc_1 (Nat.le_of_ble_eq_true rfl) rfl pd_X2_16 q575)
theorem n156_23 : Snd mt G 156 23 (oIload 2 24) := w_iload_n (hm := mm156) dX1_fitter_23
theorem n156_24 : Snd mt G 156 24 (oRetI .int) := w_iret (hm := mm156) dX1_fitter_24 rfl
theorem sj156 : ∀ pc, Snd mt G 156 pc (j156 pc) := fun pc => (snd_br ((snd_br ((snd_br ((snd_br ((snd_lf n156_24)) ((snd_lf n156_23)))) ((snd_br ((snd_lf n156_20)) ((snd_lf n156_19)))))) ((snd_br ((snd_br ((snd_lf n156_16)) ((snd_lf n156_15)))) ((snd_lf n156_14)))))) ((snd_br ((snd_br ((snd_br ((snd_lf n156_11)) ((snd_lf n156_8)))) ((snd_lf n156_7)))) ((snd_br ((snd_br ((snd_lf n156_4)) ((snd_lf n156_1)))) ((snd_lf n156_0)))))))
end
section
variable {G : AG}
theorem n157_0 : Snd mt G 157 0 (oIload 0 1) := w_iload_n (hm := mm157) dX1_isFitter_0
theorem n157_1 : Snd mt G 157 1 (oIfLt 13 4) := w_if_lt (hm := mm157) dX1_isFitter_1 rfl
theorem n157_4 : Snd mt G 157 4 (oIload 0 5) := w_iload_n (hm := mm157) dX1_isFitter_4
theorem n157_5 : Snd mt G 157 5 (oConst (.int 4) 6) := w_iconst (hm := mm157) dX1_isFitter_5 rfl
theorem n157_6 : Snd mt G 157 6 (oCmpGe 13 9) := w_icmp_ge (hm := mm157) dX1_isFitter_6 rfl
theorem n157_9 : Snd mt G 157 9 (oConst (.int 1) 10) := w_iconst (hm := mm157) dX1_isFitter_9 rfl
theorem n157_10 : Snd mt G 157 10 (oGoto 14) := w_goto (hm := mm157) dX1_isFitter_10 rfl
theorem n157_13 : Snd mt G 157 13 (oConst (.int 0) 14) := w_iconst (hm := mm157) dX1_isFitter_13 rfl
theorem n157_14 : Snd mt G 157 14 (oRetI .boolean) := w_zret (hm := mm157) dX1_isFitter_14 rfl
theorem sj157 : ∀ pc, Snd mt G 157 pc (j157 pc) := fun pc => (snd_br ((snd_br ((snd_br ((snd_br ((snd_lf n157_14)) ((snd_lf n157_13)))) ((snd_lf n157_10)))) ((snd_br ((snd_lf n157_9)) ((snd_lf n157_6)))))) ((snd_br ((snd_br ((snd_lf n157_5)) ((snd_lf n157_4)))) ((snd_br ((snd_lf n157_1)) ((snd_lf n157_0)))))))
end
section
variable {G : AG}
theorem n158_0 : Snd mt G 158 0 (oAload 0 1) := w_aload_n (hm := mm158) dX1_blister_0
theorem n158_1 : Snd mt G 158 1 (oIload 1 2) := w_iload_n (hm := mm158) dX1_blister_1
theorem n158_2 : Snd mt G 158 2 (oCall 2 (fV [1] 97 2) 0 5 xOut) := s_callV (m' := 97) (n := 1) xsh_out (w_xok0 mm158) (w_cal mm158 mm97 pn_X1 (Nat.le_of_ble_eq_true rfl) (Nat.le_of_ble_eq_true rfl)) (fun h b as hc hn => w_run_V (ci := 0) mm158 mm97 dX1_blister_2 (Or.inl (List.mem_singleton.mp hc)) (Nat.le_of_ble_eq_true rfl) vc_0 rfl q1688 q1690 qs41 q129 q1691 pa97 hn)
theorem n158_5 : Snd mt G 158 5 (oAstore 2 6) := w_astore_n (hm := mm158) dX1_blister_5 (Nat.le_of_ble_eq_true rfl)
theorem n158_6 : Snd mt G 158 6 (oAload 0 7) := w_aload_n (hm := mm158) dX1_blister_6
theorem n158_7 : Snd mt G 158 7 (oGetf [1] 0 10) := w_getf (hm := mm158) dX1_blister_7 (fok1 (k := 0) (T := TX1) 0 (Nat.le_of_ble_eq_true rfl) vc_0 (Nat.le_of_ble_eq_true rfl) q623)
theorem n158_10 : Snd mt G 158 10 (oGetf [2] 17 13) := w_getfN (hm := mm158) dX1_blister_10 (fokn1 (k := 17) (T := TX2) 1 (Nat.le_of_ble_eq_true rfl) vc_1 (Nat.le_of_ble_eq_true rfl) q577)
theorem n158_13 : Snd mt G 158 13 (oConst (.int 30) 15) := w_bipush (hm := mm158) dX1_blister_13 (by decide)
theorem n158_15 : Snd mt G 158 15 (oCmpEq 18 20) := w_icmp_ne (hm := mm158) dX1_blister_15 rfl
theorem n158_18 : Snd mt G 158 18 (oConst (.int (-1)) 19) := w_iconst (hm := mm158) dX1_blister_18 rfl
theorem n158_19 : Snd mt G 158 19 (oRetI .int) := w_iret (hm := mm158) dX1_blister_19 rfl
theorem n158_20 : Snd mt G 158 20 (oAload 0 21) := w_aload_n (hm := mm158) dX1_blister_20
theorem n158_21 : Snd mt G 158 21 (oGetf [1] 0 24) := w_getf (hm := mm158) dX1_blister_21 (fok1 (k := 0) (T := TX1) 0 (Nat.le_of_ble_eq_true rfl) vc_0 (Nat.le_of_ble_eq_true rfl) q623)
theorem n158_24 : Snd mt G 158 24 (oDup 25) := w_dup (hm := mm158) dX1_blister_24
theorem n158_25 : Snd mt G 158 25 (oGetf [2] 17 28) := w_getfN (hm := mm158) dX1_blister_25 (fokn1 (k := 17) (T := TX2) 1 (Nat.le_of_ble_eq_true rfl) vc_1 (Nat.le_of_ble_eq_true rfl) q577)
theorem n158_28 : Snd mt G 158 28 (oConst (.int 1) 29) := w_iconst (hm := mm158) dX1_blister_28 rfl
theorem n158_29 : Snd mt G 158 29 (oBin (fun x y => x + y) 30) := w_iadd (hm := mm158) dX1_blister_29
theorem n158_30 : Snd mt G 158 30 (oPutf [2] 17 .int 33) := w_putfN (hm := mm158) dX1_blister_30 (pnk1 (k := 17) (T := TX2) 1 (Nat.le_of_ble_eq_true rfl) vc_1 (Nat.le_of_ble_eq_true rfl) rfl pd_X2_17 q577)
theorem n158_33 : Snd mt G 158 33 (oConst (.int 0) 34) := w_iconst (hm := mm158) dX1_blister_33 rfl
theorem n158_34 : Snd mt G 158 34 (oIstore 3 35) := w_istore_n (hm := mm158) dX1_blister_34 (Nat.le_of_ble_eq_true rfl)
theorem n158_35 : Snd mt G 158 35 (oConst (.int 0) 36) := w_iconst (hm := mm158) dX1_blister_35 rfl
theorem n158_36 : Snd mt G 158 36 (oIstore 4 38) := w_istore (hm := mm158) dX1_blister_36 (Nat.le_of_ble_eq_true rfl)
theorem n158_38 : Snd mt G 158 38 (oIload 4 40) := w_iload (hm := mm158) dX1_blister_38
theorem n158_40 : Snd mt G 158 40 (oConst (.int 4) 41) := w_iconst (hm := mm158) dX1_blister_40 rfl
theorem n158_41 : Snd mt G 158 41 (oCmpGe 145 44) := w_icmp_ge (hm := mm158) dX1_blister_41 rfl
theorem n158_44 : Snd mt G 158 44 (oAload 2 45) := w_aload_n (hm := mm158) dX1_blister_44
theorem n158_45 : Snd mt G 158 45 (oGetf [19] 8 48) := w_getfN (hm := mm158) dX1_blister_45 (fokn1 (k := 8) (T := TX20) 18 (Nat.le_of_ble_eq_true rfl) vc_18 (Nat.le_of_ble_eq_true rfl) q1083)
theorem n158_48 : Snd mt G 158 48 (oIload 4 50) := w_iload (hm := mm158) dX1_blister_48
theorem n158_50 : Snd mt G 158 50 (oAld [104] 51) := w_aaload (hm := mm158) (kt := 4) dX1_blister_50 rfl at_4 (Nat.le_of_ble_eq_true rfl) (List.forall_mem_cons.mpr ⟨Or.inl rfl, (fun t ht => nomatch ht)⟩)
theorem n158_51 : Snd mt G 158 51 (oIfNull 54 57) := w_ifnonnull (hm := mm158) dX1_blister_51 rfl
theorem n158_54 : Snd mt G 158 54 (oGoto 139) := w_goto (hm := mm158) dX1_blister_54 rfl
theorem n158_57 : Snd mt G 158 57 (oIinc 3 1 60) := w_iinc (hm := mm158) dX1_blister_57 rfl (Nat.le_of_ble_eq_true rfl)
theorem n158_60 : Snd mt G 158 60 (oAload 0 61) := w_aload_n (hm := mm158) dX1_blister_60
theorem n158_61 : Snd mt G 158 61 (oGetf [1] 0 64) := w_getf (hm := mm158) dX1_blister_61 (fok1 (k := 0) (T := TX1) 0 (Nat.le_of_ble_eq_true rfl) vc_0 (Nat.le_of_ble_eq_true rfl) q623)
theorem n158_64 : Snd mt G 158 64 (oGetf [2] 5 67) := w_getfN (hm := mm158) dX1_blister_64 (fokn1 (k := 5) (T := TX2) 1 (Nat.le_of_ble_eq_true rfl) vc_1 (Nat.le_of_ble_eq_true rfl) q553)
theorem n158_67 : Snd mt G 158 67 (oAload 2 68) := w_aload_n (hm := mm158) dX1_blister_67
theorem n158_68 : Snd mt G 158 68 (oGetf [19] 8 71) := w_getfN (hm := mm158) dX1_blister_68 (fokn1 (k := 8) (T := TX20) 18 (Nat.le_of_ble_eq_true rfl) vc_18 (Nat.le_of_ble_eq_true rfl) q1083)
theorem n158_71 : Snd mt G 158 71 (oIload 4 73) := w_iload (hm := mm158) dX1_blister_71
theorem n158_73 : Snd mt G 158 73 (oAld [104] 74) := w_aaload (hm := mm158) (kt := 4) dX1_blister_73 rfl at_4 (Nat.le_of_ble_eq_true rfl) (List.forall_mem_cons.mpr ⟨Or.inl rfl, (fun t ht => nomatch ht)⟩)
theorem n158_74 : Snd mt G 158 74 (oGetf [20] 5 77) := w_getfN (hm := mm158) dX1_blister_74 (fokn1 (k := 5) (T := TX21) 19 (Nat.le_of_ble_eq_true rfl) vc_19 (Nat.le_of_ble_eq_true rfl) q1841)
theorem n158_77 : Snd mt G 158 77 (oCall 2 (fV [3] 176 2) 0 80 xOut) := s_callV (m' := 176) (n := 1) xsh_out (w_xok0 mm158) (w_cal mm158 mm176 pn_J2 (Nat.le_of_ble_eq_true rfl) (Nat.le_of_ble_eq_true rfl)) (fun h b as hc hn => w_run_V (ci := 2) mm158 mm176 dX1_blister_77 (Or.inl (List.mem_singleton.mp hc)) (Nat.le_of_ble_eq_true rfl) vc_2 rfl q713 q714 q715 q133 q716 pa176 hn)
theorem n158_80 : Snd mt G 158 80 (oCast [21] 83) := w_cast (hm := mm158) dX1_blister_80 q1859 (List.forall_mem_cons.mpr ⟨⟨20, _, Or.inl rfl, (Nat.le_of_ble_eq_true rfl), vc_20, Or.inl rfl⟩, (fun t ht => nomatch ht)⟩)
theorem n158_83 : Snd mt G 158 83 (oAstore 5 85) := w_astore (hm := mm158) dX1_blister_83 (Nat.le_of_ble_eq_true rfl)
theorem n158_85 : Snd mt G 158 85 (oAload 5 87) := w_aload (hm := mm158) dX1_blister_85
theorem n158_87 : Snd mt G 158 87 (oGetf [21] 2 90) := w_getfN (hm := mm158) dX1_blister_87 (fokn1 (k := 2) (T := TX22) 20 (Nat.le_of_ble_eq_true rfl) vc_20 (Nat.le_of_ble_eq_true rfl) q1870)
theorem n158_90 : Snd mt G 158 90 (oConst (.int (-1)) 91) := w_iconst (hm := mm158) dX1_blister_90 rfl
theorem n158_91 : Snd mt G 158 91 (oCmpEq 94 139) := w_icmp_ne (hm := mm158) dX1_blister_91 rfl
theorem n158_94 : Snd mt G 158 94 (oAload 0 95) := w_aload_n (hm := mm158) dX1_blister_94
theorem n158_95 : Snd mt G 158 95 (oGetf [1] 0 98) := w_getf (hm := mm158) dX1_blister_95 (fok1 (k := 0) (T := TX1) 0 (Nat.le_of_ble_eq_true rfl) vc_0 (Nat.le_of_ble_eq_true rfl) q623)
theorem n158_98 : Snd mt G 158 98 (oGetf [2] 5 101) := w_getfN (hm := mm158) dX1_blister_98 (fokn1 (k := 5) (T := TX2) 1 (Nat.le_of_ble_eq_true rfl) vc_1 (Nat.le_of_ble_eq_true rfl) q553)
theorem n158_101 : Snd mt G 158 101 (oAload 2 102) := w_aload_n (hm := mm158) dX1_blister_101
theorem n158_102 : Snd mt G 158 102 (oGetf [19] 8 105) := w_getfN (hm := mm158) dX1_blister_102 (fokn1 (k := 8) (T := TX20) 18 (Nat.le_of_ble_eq_true rfl) vc_18 (Nat.le_of_ble_eq_true rfl) q1083)
theorem n158_105 : Snd mt G 158 105 (oIload 4 107) := w_iload (hm := mm158) dX1_blister_105
theorem n158_107 : Snd mt G 158 107 (oAld [104] 108) := w_aaload (hm := mm158) (kt := 4) dX1_blister_107 rfl at_4 (Nat.le_of_ble_eq_true rfl) (List.forall_mem_cons.mpr ⟨Or.inl rfl, (fun t ht => nomatch ht)⟩)
theorem n158_108 : Snd mt G 158 108 (oGetf [20] 5 111) := w_getfN (hm := mm158) dX1_blister_108 (fokn1 (k := 5) (T := TX21) 19 (Nat.le_of_ble_eq_true rfl) vc_19 (Nat.le_of_ble_eq_true rfl) q1841)
theorem n158_111 : Snd mt G 158 111 (oNew 21 3 nfX22 114) := w_new (hm := mm158) (ci := 20) (T9 := TX22) (ty := tyX22) dX1_blister_111 (Nat.le_of_ble_eq_true rfl) vc_20 tyX22_ok (fun _ _ => rfl) q1859 q1860 q174
theorem n158_114 : Snd mt G 158 114 (oDup 115) := w_dup (hm := mm158) dX1_blister_114
theorem n158_115 : Snd mt G 158 115 (oAload 5 117) := w_aload (hm := mm158) dX1_blister_115
theorem n158_117 : Snd mt G 158 117 (oGetf [21] 0 120) := w_getfN (hm := mm158) dX1_blister_117 (fokn1 (k := 0) (T := TX22) 20 (Nat.le_of_ble_eq_true rfl) vc_20 (Nat.le_of_ble_eq_true rfl) q1866)
theorem n158_120 : Snd mt G 158 120 (oAload 5 122) := w_aload (hm := mm158) dX1_blister_120
theorem n158_122 : Snd mt G 158 122 (oGetf [21] 1 125) := w_getfN (hm := mm158) dX1_blister_122 (fokn1 (k := 1) (T := TX22) 20 (Nat.le_of_ble_eq_true rfl) vc_20 (Nat.le_of_ble_eq_true rfl) q1868)
theorem n158_125 : Snd mt G 158 125 (oAload 0 126) := w_aload_n (hm := mm158) dX1_blister_125
theorem n158_126 : Snd mt G 158 126 (oGetf [1] 0 129) := w_getf (hm := mm158) dX1_blister_126 (fok1 (k := 0) (T := TX1) 0 (Nat.le_of_ble_eq_true rfl) vc_0 (Nat.le_of_ble_eq_true rfl) q623)
theorem n158_129 : Snd mt G 158 129 (oGetf [2] 12 132) := w_getfN (hm := mm158) dX1_blister_129 (fokn1 (k := 12) (T := TX2) 1 (Nat.le_of_ble_eq_true rfl) vc_1 (Nat.le_of_ble_eq_true rfl) q567)
theorem n158_132 : Snd mt G 158 132 (oCall 4 (fI 487 4) 0 135 xOut) := s_callI (m' := 487) (n := 3) xsh_out (w_xok0 mm158) (w_cal mm158 mm487 pn_X22 (Nat.le_of_ble_eq_true rfl) (Nat.le_of_ble_eq_true rfl)) (fun h b as hn => w_run_I mm158 mm487 dX1_blister_132 rfl rfl q1861 q1862 q174 q1863 pa487 hn)
theorem n158_135 : Snd mt G 158 135 (oCall 3 (fV [3] 183 4) 0 138 xOut) := s_callV (m' := 183) (n := 2) xsh_out (w_xok0 mm158) (w_cal mm158 mm183 pn_J2 (Nat.le_of_ble_eq_true rfl) (Nat.le_of_ble_eq_true rfl)) (fun h b as hc hn => w_run_V (ci := 2) mm158 mm183 dX1_blister_135 (Or.inl (List.mem_singleton.mp hc)) (Nat.le_of_ble_eq_true rfl) vc_2 rfl q2103 q2104 q2105 q133 q2106 pa183 hn)
theorem n158_138 : Snd mt G 158 138 (oPop 139) := w_pop (hm := mm158) dX1_blister_138
theorem n158_139 : Snd mt G 158 139 (oIinc 4 1 142) := w_iinc (hm := mm158) dX1_blister_139 rfl (Nat.le_of_ble_eq_true rfl)
theorem n158_142 : Snd mt G 158 142 (oGoto 38) := w_goto (hm := mm158) dX1_blister_142 rfl
theorem n158_145 : Snd mt G 158 145 (oIload 3 146) := w_iload_n (hm := mm158) dX1_blister_145
theorem n158_146 : Snd mt G 158 146 (oRetI .int) := w_iret (hm := mm158) dX1_blister_146 rfl
theorem sj158 : ∀ pc, Snd mt G 158 pc (j158 pc) := fun pc => (snd_br ((snd_br ((snd_br ((snd_br ((snd_br ((snd_br ((snd_br ((snd_lf n158_146)) ((snd_lf n158_145)))) ((snd_lf n158_142)))) ((snd_br ((snd_lf n158_139)) ((snd_lf n158_138)))))) ((snd_br ((snd_br ((snd_lf n158_135)) ((snd_lf n158_132)))) ((snd_br ((snd_lf n158_129)) ((snd_lf n158_126)))))))) ((snd_br ((snd_br ((snd_br ((snd_br ((snd_lf n158_125)) ((snd_lf n158_122)))) ((snd_lf n158_120)))) ((snd_br ((snd_lf n158_117)) ((snd_lf n158_115)))))) ((snd_br ((snd_br ((snd_lf n158_114)) ((snd_lf n158_111)))) ((snd_br ((snd_lf n158_108)) ((snd_lf n158_107)))))))))) ((snd_br ((snd_br ((snd_br ((snd_br ((snd_br ((snd_lf n158_105)) ((snd_lf n158_102)))) ((snd_lf n158_101)))) ((snd_br ((snd_lf n158_98)) ((snd_lf n158_95)))))) ((snd_br ((snd_br ((snd_lf n158_94)) ((snd_lf n158_91)))) ((snd_br ((snd_lf n158_90)) ((snd_lf n158_87)))))))) ((snd_br ((snd_br ((snd_br ((snd_br ((snd_lf n158_85)) ((snd_lf n158_83)))) ((snd_lf n158_80)))) ((snd_br ((snd_lf n158_77)) ((snd_lf n158_74)))))) ((snd_br ((snd_br ((snd_lf n158_73)) ((snd_lf n158_71)))) ((snd_br ((snd_lf n158_68)) ((snd_lf n158_67)))))))))))) ((snd_br ((snd_br ((snd_br ((snd_br ((snd_br ((snd_br ((snd_lf n158_64)) ((snd_lf n158_61)))) ((snd_lf n158_60)))) ((snd_br ((snd_lf n158_57)) ((snd_lf n158_54)))))) ((snd_br ((snd_br ((snd_lf n158_51)) ((snd_lf n158_50)))) ((snd_br ((snd_lf n158_48)) ((snd_lf n158_45)))))))) ((snd_br ((snd_br ((snd_br ((snd_br ((snd_lf n158_44)) ((snd_lf n158_41)))) ((snd_lf n158_40)))) ((snd_br ((snd_lf n158_38)) ((snd_lf n158_36)))))) ((snd_br ((snd_br ((snd_lf n158_35)) ((snd_lf n158_34)))) ((snd_br ((snd_lf n158_33)) ((snd_lf n158_30)))))))))) ((snd_br ((snd_br ((snd_br ((snd_br ((snd_br ((snd_lf n158_29)) ((snd_lf n158_28)))) ((snd_lf n158_25)))) ((snd_br ((snd_lf n158_24)) ((snd_lf n158_21)))))) ((snd_br ((snd_br ((snd_lf n158_20)) ((snd_lf n158_19)))) ((snd_br ((snd_lf n158_18)) ((snd_lf n158_15)))))))) ((snd_br ((snd_br ((snd_br ((snd_lf n158_13)) ((snd_lf n158_10)))) ((snd_br ((snd_lf n158_7)) ((snd_lf n158_6)))))) ((snd_br ((snd_br ((snd_lf n158_5)) ((snd_lf n158_2)))) ((snd_br ((snd_lf n158_1)) ((snd_lf n158_0)))))))))))))
end
section
variable {G : AG}
theorem n159_0 : Snd mt G 159 0 (oIload 1 1) := w_iload_n (hm := mm159) dX1_skill_0
theorem n159_1 : Snd mt G 159 1 (oCall 1 (fS 157 1) 0 4 xOut) := s_callS (m' := 157) (n := 1) xsh_out (w_xok0 mm159) (w_cal mm159 mm157 pn_X1 (Nat.le_of_ble_eq_true rfl) (Nat.le_of_ble_eq_true rfl)) (fun h as hn => w_run_S mm159 mm157 dX1_skill_1 q2271 q2272 q129 q2273 pa157 hn)
theorem n159_4 : Snd mt G 159 4 (oIfEq 18 7) := w_if_eq (hm := mm159) dX1_skill_4 rfl
theorem n159_7 : Snd mt G 159 7 (oIload 3 8) := w_iload_n (hm := mm159) dX1_skill_7
theorem n159_8 : Snd mt G 159 8 (oCall 1 (fS 160 1) 0 11 xOut) := s_callS (m' := 160) (n := 1) xsh_out (w_xok0 mm159) (w_cal mm159 mm160 pn_X1 (Nat.le_of_ble_eq_true rfl) (Nat.le_of_ble_eq_true rfl)) (fun h as hn => w_run_S mm159 mm160 dX1_skill_8 q2288 q2289 q129 q2290 pa160 hn)
theorem n159_11 : Snd mt G 159 11 (oIfEq 18 14) := w_if_eq (hm := mm159) dX1_skill_11 rfl
theorem n159_14 : Snd mt G 159 14 (oConst (.int 1) 15) := w_iconst (hm := mm159) dX1_skill_14 rfl
theorem n159_15 : Snd mt G 159 15 (oGoto 19) := w_goto (hm := mm159) dX1_skill_15 rfl
theorem n159_18 : Snd mt G 159 18 (oConst (.int 0) 19) := w_iconst (hm := mm159) dX1_skill_18 rfl
theorem n159_19 : Snd mt G 159 19 (oCall 1 (fS 89 1) 0 22 xOut) := s_callS (m' := 89) (n := 1) xsh_out (w_xok0 mm159) (w_cal mm159 mm89 pn_X1 (Nat.le_of_ble_eq_true rfl) (Nat.le_of_ble_eq_true rfl)) (fun h as hn => w_run_S mm159 mm89 dX1_skill_19 q1180 q1181 q129 q1182 pa89 hn)
theorem n159_22 : Snd mt G 159 22 (oAload 0 23) := w_aload_n (hm := mm159) dX1_skill_22
theorem n159_23 : Snd mt G 159 23 (oIload 1 24) := w_iload_n (hm := mm159) dX1_skill_23
theorem n159_24 : Snd mt G 159 24 (oIload 2 25) := w_iload_n (hm := mm159) dX1_skill_24
theorem n159_25 : Snd mt G 159 25 (oIload 3 26) := w_iload_n (hm := mm159) dX1_skill_25
theorem n159_26 : Snd mt G 159 26 (oCall 4 (fV [1] 161 7) 0 29 xOut) := s_callV (m' := 161) (n := 3) xsh_out (w_xok0 mm159) (w_cal mm159 mm161 pn_X1 (Nat.le_of_ble_eq_true rfl) (Nat.le_of_ble_eq_true rfl)) (fun h b as hc hn => w_run_V (ci := 0) mm159 mm161 dX1_skill_26 (Or.inl (List.mem_singleton.mp hc)) (Nat.le_of_ble_eq_true rfl) vc_0 rfl q2291 q2293 qs61 q129 q2294 pa161 hn)
theorem n159_29 : Snd mt G 159 29 (oRetI .int) := w_iret (hm := mm159) dX1_skill_29 rfl
theorem sj159 : ∀ pc, Snd mt G 159 pc (j159 pc) := fun pc => (snd_br ((snd_br ((snd_br ((snd_br ((snd_lf n159_29)) ((snd_lf n159_26)))) ((snd_br ((snd_lf n159_25)) ((snd_lf n159_24)))))) ((snd_br ((snd_br ((snd_lf n159_23)) ((snd_lf n159_22)))) ((snd_br ((snd_lf n159_19)) ((snd_lf n159_18)))))))) ((snd_br ((snd_br ((snd_br ((snd_lf n159_15)) ((snd_lf n159_14)))) ((snd_br ((snd_lf n159_11)) ((snd_lf n159_8)))))) ((snd_br ((snd_br ((snd_lf n159_7)) ((snd_lf n159_4)))) ((snd_br ((snd_lf n159_1)) ((snd_lf n159_0)))))))))
end
section
variable {G : AG}
theorem n160_0 : Snd mt G 160 0 (oIload 0 1) := w_iload_n (hm := mm160) dX1_isSpan_0
theorem n160_1 : Snd mt G 160 1 (oIfLt 15 4) := w_if_lt (hm := mm160) dX1_isSpan_1 rfl
theorem n160_4 : Snd mt G 160 4 (oIload 0 5) := w_iload_n (hm := mm160) dX1_isSpan_4
theorem n160_5 : Snd mt G 160 5 (oConst (.int 999) 8) := w_sipush (hm := mm160) dX1_isSpan_5 (by decide)
theorem n160_8 : Snd mt G 160 8 (oCmpGt 15 11) := w_icmp_gt (hm := mm160) dX1_isSpan_8 rfl
theorem n160_11 : Snd mt G 160 11 (oConst (.int 1) 12) := w_iconst (hm := mm160) dX1_isSpan_11 rfl
theorem n160_12 : Snd mt G 160 12 (oGoto 16) := w_goto (hm := mm160) dX1_isSpan_12 rfl
theorem n160_15 : Snd mt G 160 15 (oConst (.int 0) 16) := w_iconst (hm := mm160) dX1_isSpan_15 rfl
theorem n160_16 : Snd mt G 160 16 (oRetI .boolean) := w_zret (hm := mm160) dX1_isSpan_16 rfl
theorem sj160 : ∀ pc, Snd mt G 160 pc (j160 pc) := fun pc => (snd_br ((snd_br ((snd_br ((snd_br ((snd_lf n160_16)) ((snd_lf n160_15)))) ((snd_lf n160_12)))) ((snd_br ((snd_lf n160_11)) ((snd_lf n160_8)))))) ((snd_br ((snd_br ((snd_lf n160_5)) ((snd_lf n160_4)))) ((snd_br ((snd_lf n160_1)) ((snd_lf n160_0)))))))
end
section
variable {G : AG}
theorem n161_0 : Snd mt G 161 0 (oConst (.int 0) 1) := w_iconst (hm := mm161) dX1_skillOf_0 rfl
theorem n161_1 : Snd mt G 161 1 (oIstore 4 3) := w_istore (hm := mm161) dX1_skillOf_1 (Nat.le_of_ble_eq_true rfl)
theorem n161_3 : Snd mt G 161 3 (oConst (.int 0) 4) := w_iconst (hm := mm161) dX1_skillOf_3 rfl
theorem n161_4 : Snd mt G 161 4 (oIstore 5 6) := w_istore (hm := mm161) dX1_skillOf_4 (Nat.le_of_ble_eq_true rfl)
theorem n161_6 : Snd mt G 161 6 (oIload 5 8) := w_iload (hm := mm161) dX1_skillOf_6
theorem n161_8 : Snd mt G 161 8 (oAload 0 9) := w_aload_n (hm := mm161) dX1_skillOf_8
theorem n161_9 : Snd mt G 161 9 (oGetf [1] 0 12) := w_getf (hm := mm161) dX1_skillOf_9 (fok1 (k := 0) (T := TX1) 0 (Nat.le_of_ble_eq_true rfl) vc_0 (Nat.le_of_ble_eq_true rfl) q623)
theorem n161_12 : Snd mt G 161 12 (oGetf [2] 5 15) := w_getfN (hm := mm161) dX1_skillOf_12 (fokn1 (k := 5) (T := TX2) 1 (Nat.le_of_ble_eq_true rfl) vc_1 (Nat.le_of_ble_eq_true rfl) q553)
theorem n161_15 : Snd mt G 161 15 (oCall 1 (fV [3] 175 1) 0 18 xOut) := s_callV (m' := 175) (n := 0) xsh_out (w_xok0 mm161) (w_cal mm161 mm175 pn_J2 (Nat.le_of_ble_eq_true rfl) (Nat.le_of_ble_eq_true rfl)) (fun h b as hc hn => w_run_V (ci := 2) mm161 mm175 dX1_skillOf_15 (Or.inl (List.mem_singleton.mp hc)) (Nat.le_of_ble_eq_true rfl) vc_2 rfl q709 q710 q711 q133 q712 pa175 hn)
theorem n161_18 : Snd mt G 161 18 (oCmpGe 91 21) := w_icmp_ge (hm := mm161) dX1_skillOf_18 rfl
theorem n161_21 : Snd mt G 161 21 (oAload 0 22) := w_aload_n (hm := mm161) dX1_skillOf_21
theorem n161_22 : Snd mt G 161 22 (oGetf [1] 0 25) := w_getf (hm := mm161) dX1_skillOf_22 (fok1 (k := 0) (T := TX1) 0 (Nat.le_of_ble_eq_true rfl) vc_0 (Nat.le_of_ble_eq_true rfl) q623)
theorem n161_25 : Snd mt G 161 25 (oGetf [2] 5 28) := w_getfN (hm := mm161) dX1_skillOf_25 (fokn1 (k := 5) (T := TX2) 1 (Nat.le_of_ble_eq_true rfl) vc_1 (Nat.le_of_ble_eq_true rfl) q553)
theorem n161_28 : Snd mt G 161 28 (oIload 5 30) := w_iload (hm := mm161) dX1_skillOf_28
theorem n161_30 : Snd mt G 161 30 (oCall 2 (fV [3] 176 2) 0 33 xOut) := s_callV (m' := 176) (n := 1) xsh_out (w_xok0 mm161) (w_cal mm161 mm176 pn_J2 (Nat.le_of_ble_eq_true rfl) (Nat.le_of_ble_eq_true rfl)) (fun h b as hc hn => w_run_V (ci := 2) mm161 mm176 dX1_skillOf_30 (Or.inl (List.mem_singleton.mp hc)) (Nat.le_of_ble_eq_true rfl) vc_2 rfl q713 q714 q715 q133 q716 pa176 hn)
theorem n161_33 : Snd mt G 161 33 (oCast [21] 36) := w_cast (hm := mm161) dX1_skillOf_33 q1859 (List.forall_mem_cons.mpr ⟨⟨20, _, Or.inl rfl, (Nat.le_of_ble_eq_true rfl), vc_20, Or.inl rfl⟩, (fun t ht => nomatch ht)⟩)
theorem n161_36 : Snd mt G 161 36 (oAstore 6 38) := w_astore (hm := mm161) dX1_skillOf_36 (Nat.le_of_ble_eq_true rfl)
theorem n161_38 : Snd mt G 161 38 (oIload 4 40) := w_iload (hm := mm161) dX1_skillOf_38
theorem n161_40 : Snd mt G 161 40 (oAload 6 42) := w_aload (hm := mm161) dX1_skillOf_40
theorem n161_42 : Snd mt G 161 42 (oGetf [21] 0 45) := w_getfN (hm := mm161) dX1_skillOf_42 (fokn1 (k := 0) (T := TX22) 20 (Nat.le_of_ble_eq_true rfl) vc_20 (Nat.le_of_ble_eq_true rfl) q1866)
theorem n161_45 : Snd mt G 161 45 (oIload 1 46) := w_iload_n (hm := mm161) dX1_skillOf_45
theorem n161_46 : Snd mt G 161 46 (oCmpEq 49 81) := w_icmp_ne (hm := mm161) dX1_skillOf_46 rfl
theorem n161_49 : Snd mt G 161 49 (oIload 2 50) := w_iload_n (hm := mm161) dX1_skillOf_49
theorem n161_50 : Snd mt G 161 50 (oIfEq 77 53) := w_if_eq (hm := mm161) dX1_skillOf_50 rfl
theorem n161_53 : Snd mt G 161 53 (oAload 6 55) := w_aload (hm := mm161) dX1_skillOf_53
theorem n161_55 : Snd mt G 161 55 (oGetf [21] 2 58) := w_getfN (hm := mm161) dX1_skillOf_55 (fokn1 (k := 2) (T := TX22) 20 (Nat.le_of_ble_eq_true rfl) vc_20 (Nat.le_of_ble_eq_true rfl) q1870)
theorem n161_58 : Snd mt G 161 58 (oConst (.int (-1)) 59) := w_iconst (hm := mm161) dX1_skillOf_58 rfl
theorem n161_59 : Snd mt G 161 59 (oCmpEq 81 62) := w_icmp_eq (hm := mm161) dX1_skillOf_59 rfl
theorem n161_62 : Snd mt G 161 62 (oAload 6 64) := w_aload (hm := mm161) dX1_skillOf_62
theorem n161_64 : Snd mt G 161 64 (oGetf [21] 2 67) := w_getfN (hm := mm161) dX1_skillOf_64 (fokn1 (k := 2) (T := TX22) 20 (Nat.le_of_ble_eq_true rfl) vc_20 (Nat.le_of_ble_eq_true rfl) q1870)
theorem n161_67 : Snd mt G 161 67 (oAload 6 69) := w_aload (hm := mm161) dX1_skillOf_67
theorem n161_69 : Snd mt G 161 69 (oGetf [21] 1 72) := w_getfN (hm := mm161) dX1_skillOf_69 (fokn1 (k := 1) (T := TX22) 20 (Nat.le_of_ble_eq_true rfl) vc_20 (Nat.le_of_ble_eq_true rfl) q1868)
theorem n161_72 : Snd mt G 161 72 (oBin (fun x y => x - y) 73) := w_isub (hm := mm161) dX1_skillOf_72
theorem n161_73 : Snd mt G 161 73 (oIload 3 74) := w_iload_n (hm := mm161) dX1_skillOf_73
theorem n161_74 : Snd mt G 161 74 (oCmpGt 81 77) := w_icmp_gt (hm := mm161) dX1_skillOf_74 rfl
theorem n161_77 : Snd mt G 161 77 (oConst (.int 1) 78) := w_iconst (hm := mm161) dX1_skillOf_77 rfl
theorem n161_78 : Snd mt G 161 78 (oGoto 82) := w_goto (hm := mm161) dX1_skillOf_78 rfl
theorem n161_81 : Snd mt G 161 81 (oConst (.int 0) 82) := w_iconst (hm := mm161) dX1_skillOf_81 rfl
theorem n161_82 : Snd mt G 161 82 (oBin (fun x y => x + y) 83) := w_iadd (hm := mm161) dX1_skillOf_82
theorem n161_83 : Snd mt G 161 83 (oIstore 4 85) := w_istore (hm := mm161) dX1_skillOf_83 (Nat.le_of_ble_eq_true rfl)
theorem n161_85 : Snd mt G 161 85 (oIinc 5 1 88) := w_iinc (hm := mm161) dX1_skillOf_85 rfl (Nat.le_of_ble_eq_true rfl)
theorem n161_88 : Snd mt G 161 88 (oGoto 6) := w_goto (hm := mm161) dX1_skillOf_88 rfl
theorem n161_91 : Snd mt G 161 91 (oIload 4 93) := w_iload (hm := mm161) dX1_skillOf_91
theorem n161_93 : Snd mt G 161 93 (oRetI .int) := w_iret (hm := mm161) dX1_skillOf_93 rfl
theorem sj161 : ∀ pc, Snd mt G 161 pc (j161 pc) := fun pc => (snd_br ((snd_br ((snd_br ((snd_br ((snd_br ((snd_br ((snd_lf n161_93)) ((snd_lf n161_91)))) ((snd_lf n161_88)))) ((snd_br ((snd_br ((snd_lf n161_85)) ((snd_lf n161_83)))) ((snd_lf n161_82)))))) ((snd_br ((snd_br ((snd_br ((snd_lf n161_81)) ((snd_lf n161_78)))) ((snd_lf n161_77)))) ((snd_br ((snd_lf n161_74)) ((snd_lf n161_73)))))))) ((snd_br ((snd_br ((snd_br ((snd_br ((snd_lf n161_72)) ((snd_lf n161_69)))) ((snd_lf n161_67)))) ((snd_br ((snd_br ((snd_lf n161_64)) ((snd_lf n161_62)))) ((snd_lf n161_59)))))) ((snd_br ((snd_br ((snd_br ((snd_lf n161_58)) ((snd_lf n161_55)))) ((snd_lf n161_53)))) ((snd_br ((snd_lf n161_50)) ((snd_lf n161_49)))))))))) ((snd_br ((snd_br ((snd_br ((snd_br ((snd_br ((snd_lf n161_46)) ((snd_lf n161_45)))) ((snd_lf n161_42)))) ((snd_br ((snd_br ((snd_lf n161_40)) ((snd_lf n161_38)))) ((snd_lf n161_36)))))) ((snd_br ((snd_br ((snd_br ((snd_lf n161_33)) ((snd_lf n161_30)))) ((snd_lf n161_28)))) ((snd_br ((snd_lf n161_25)) ((snd_lf n161_22)))))))) ((snd_br ((snd_br ((snd_br ((snd_br ((snd_lf n161_21)) ((snd_lf n161_18)))) ((snd_lf n161_15)))) ((snd_br ((snd_br ((snd_lf n161_12)) ((snd_lf n161_9)))) ((snd_lf n161_8)))))) ((snd_br ((snd_br ((snd_br ((snd_lf n161_6)) ((snd_lf n161_4)))) ((snd_lf n161_3)))) ((snd_br ((snd_lf n161_1)) ((snd_lf n161_0)))))))))))
end
section
variable {G : AG}
theorem n162_0 : Snd mt G 162 0 (oIload 1 1) := w_iload_n (hm := mm162) dX1_better_0
theorem n162_1 : Snd mt G 162 1 (oCall 1 (fS 157 1) 0 4 xOut) := s_callS (m' := 157) (n := 1) xsh_out (w_xok0 mm162) (w_cal mm162 mm157 pn_X1 (Nat.le_of_ble_eq_true rfl) (Nat.le_of_ble_eq_true rfl)) (fun h as hn => w_run_S mm162 mm157 dX1_better_1 q2271 q2272 q129 q2273 pa157 hn)
theorem n162_4 : Snd mt G 162 4 (oIfEq 25 7) := w_if_eq (hm := mm162) dX1_better_4 rfl
theorem n162_7 : Snd mt G 162 7 (oIload 2 8) := w_iload_n (hm := mm162) dX1_better_7
theorem n162_8 : Snd mt G 162 8 (oCall 1 (fS 157 1) 0 11 xOut) := s_callS (m' := 157) (n := 1) xsh_out (w_xok0 mm162) (w_cal mm162 mm157 pn_X1 (Nat.le_of_ble_eq_true rfl) (Nat.le_of_ble_eq_true rfl)) (fun h as hn => w_run_S mm162 mm157 dX1_better_8 q2271 q2272 q129 q2273 pa157 hn)
theorem n162_11 : Snd mt G 162 11 (oIfEq 25 14) := w_if_eq (hm := mm162) dX1_better_11 rfl
theorem n162_14 : Snd mt G 162 14 (oIload 3 15) := w_iload_n (hm := mm162) dX1_better_14
theorem n162_15 : Snd mt G 162 15 (oCall 1 (fS 160 1) 0 18 xOut) := s_callS (m' := 160) (n := 1) xsh_out (w_xok0 mm162) (w_cal mm162 mm160 pn_X1 (Nat.le_of_ble_eq_true rfl) (Nat.le_of_ble_eq_true rfl)) (fun h as hn => w_run_S mm162 mm160 dX1_better_15 q2288 q2289 q129 q2290 pa160 hn)
theorem n162_18 : Snd mt G 162 18 (oIfEq 25 21) := w_if_eq (hm := mm162) dX1_better_18 rfl
theorem n162_21 : Snd mt G 162 21 (oConst (.int 1) 22) := w_iconst (hm := mm162) dX1_better_21 rfl
theorem n162_22 : Snd mt G 162 22 (oGoto 26) := w_goto (hm := mm162) dX1_better_22 rfl
theorem n162_25 : Snd mt G 162 25 (oConst (.int 0) 26) := w_iconst (hm := mm162) dX1_better_25 rfl
theorem n162_26 : Snd mt G 162 26 (oCall 1 (fS 89 1) 0 29 xOut) := s_callS (m' := 89) (n := 1) xsh_out (w_xok0 mm162) (w_cal mm162 mm89 pn_X1 (Nat.le_of_ble_eq_true rfl) (Nat.le_of_ble_eq_true rfl)) (fun h as hn => w_run_S mm162 mm89 dX1_better_26 q1180 q1181 q129 q1182 pa89 hn)
theorem n162_29 : Snd mt G 162 29 (oAload 0 30) := w_aload_n (hm := mm162) dX1_better_29
theorem n162_30 : Snd mt G 162 30 (oIload 2 31) := w_iload_n (hm := mm162) dX1_better_30
theorem n162_31 : Snd mt G 162 31 (oConst (.int 1) 32) := w_iconst (hm := mm162) dX1_better_31 rfl
theorem n162_32 : Snd mt G 162 32 (oIload 3 33) := w_iload_n (hm := mm162) dX1_better_32
theorem n162_33 : Snd mt G 162 33 (oCall 4 (fV [1] 161 7) 0 36 xOut) := s_callV (m' := 161) (n := 3) xsh_out (w_xok0 mm162) (w_cal mm162 mm161 pn_X1 (Nat.le_of_ble_eq_true rfl) (Nat.le_of_ble_eq_true rfl)) (fun h b as hc hn => w_run_V (ci := 0) mm162 mm161 dX1_better_33 (Or.inl (List.mem_singleton.mp hc)) (Nat.le_of_ble_eq_true rfl) vc_0 rfl q2291 q2293 qs61 q129 q2294 pa161 hn)
theorem n162_36 : Snd mt G 162 36 (oAload 0 37) := w_aload_n (hm := mm162) dX1_better_36
theorem n162_37 : Snd mt G 162 37 (oIload 1 38) := w_iload_n (hm := mm162) dX1_better_37
theorem n162_38 : Snd mt G 162 38 (oConst (.int 0) 39) := w_iconst (hm := mm162) dX1_better_38 rfl
theorem n162_39 : Snd mt G 162 39 (oIload 3 40) := w_iload_n (hm := mm162) dX1_better_39
theorem n162_40 : Snd mt G 162 40 (oCall 4 (fV [1] 161 7) 0 43 xOut) := s_callV (m' := 161) (n := 3) xsh_out (w_xok0 mm162) (w_cal mm162 mm161 pn_X1 (Nat.le_of_ble_eq_true rfl) (Nat.le_of_ble_eq_true rfl)) (fun h b as hc hn => w_run_V (ci := 0) mm162 mm161 dX1_better_40 (Or.inl (List.mem_singleton.mp hc)) (Nat.le_of_ble_eq_true rfl) vc_0 rfl q2291 q2293 qs61 q129 q2294 pa161 hn)
theorem n162_43 : Snd mt G 162 43 (oBin (fun x y => x * y) 44) := w_imul (hm := mm162) dX1_better_43
theorem n162_44 : Snd mt G 162 44 (oAload 0 45) := w_aload_n (hm := mm162) dX1_better_44
theorem n162_45 : Snd mt G 162 45 (oIload 1 46) := w_iload_n (hm := mm162) dX1_better_45
theorem n162_46 : Snd mt G 162 46 (oConst (.int 1) 47) := w_iconst (hm := mm162) dX1_better_46 rfl
theorem n162_47 : Snd mt G 162 47 (oIload 3 48) := w_iload_n (hm := mm162) dX1_better_47
theorem n162_48 : Snd mt G 162 48 (oCall 4 (fV [1] 161 7) 0 51 xOut) := s_callV (m' := 161) (n := 3) xsh_out (w_xok0 mm162) (w_cal mm162 mm161 pn_X1 (Nat.le_of_ble_eq_true rfl) (Nat.le_of_ble_eq_true rfl)) (fun h b as hc hn => w_run_V (ci := 0) mm162 mm161 dX1_better_48 (Or.inl (List.mem_singleton.mp hc)) (Nat.le_of_ble_eq_true rfl) vc_0 rfl q2291 q2293 qs61 q129 q2294 pa161 hn)
theorem n162_51 : Snd mt G 162 51 (oAload 0 52) := w_aload_n (hm := mm162) dX1_better_51
theorem n162_52 : Snd mt G 162 52 (oIload 2 53) := w_iload_n (hm := mm162) dX1_better_52
theorem n162_53 : Snd mt G 162 53 (oConst (.int 0) 54) := w_iconst (hm := mm162) dX1_better_53 rfl
theorem n162_54 : Snd mt G 162 54 (oIload 3 55) := w_iload_n (hm := mm162) dX1_better_54
theorem n162_55 : Snd mt G 162 55 (oCall 4 (fV [1] 161 7) 0 58 xOut) := s_callV (m' := 161) (n := 3) xsh_out (w_xok0 mm162) (w_cal mm162 mm161 pn_X1 (Nat.le_of_ble_eq_true rfl) (Nat.le_of_ble_eq_true rfl)) (fun h b as hc hn => w_run_V (ci := 0) mm162 mm161 dX1_better_55 (Or.inl (List.mem_singleton.mp hc)) (Nat.le_of_ble_eq_true rfl) vc_0 rfl q2291 q2293 qs61 q129 q2294 pa161 hn)
theorem n162_58 : Snd mt G 162 58 (oBin (fun x y => x * y) 59) := w_imul (hm := mm162) dX1_better_58
theorem n162_59 : Snd mt G 162 59 (oCall 2 (fS 279 2) 0 62 xOut) := s_callS (m' := 279) (n := 2) xsh_out (w_xok0 mm162) (w_cal mm162 mm279 pn_J17 (Nat.le_of_ble_eq_true rfl) (Nat.le_of_ble_eq_true rfl)) (fun h as hn => w_run_S mm162 mm279 dX1_better_59 q2302 q2303 q149 q2304 pa279 hn)
theorem n162_62 : Snd mt G 162 62 (oRetI .int) := w_iret (hm := mm162) dX1_better_62 rfl
theorem sj162 : ∀ pc, Snd mt G 162 pc (j162 pc) := fun pc => (snd_br ((snd_br ((snd_br ((snd_br ((snd_br ((snd_br ((snd_lf n162_62)) ((snd_lf n162_59)))) ((snd_lf n162_58)))) ((snd_br ((snd_lf n162_55)) ((snd_lf n162_54)))))) ((snd_br ((snd_br ((snd_br ((snd_lf n162_53)) ((snd_lf n162_52)))) ((snd_lf n162_51)))) ((snd_br ((snd_lf n162_48)) ((snd_lf n162_47)))))))) ((snd_br ((snd_br ((snd_br ((snd_br ((snd_lf n162_46)) ((snd_lf n162_45)))) ((snd_lf n162_44)))) ((snd_br ((snd_lf n162_43)) ((snd_lf n162_40)))))) ((snd_br ((snd_br ((snd_lf n162_39)) ((snd_lf n162_38)))) ((snd_br ((snd_lf n162_37)) ((snd_lf n162_36)))))))))) ((snd_br ((snd_br ((snd_br ((snd_br ((snd_br ((snd_lf n162_33)) ((snd_lf n162_32)))) ((snd_lf n162_31)))) ((snd_br ((snd_lf n162_30)) ((snd_lf n162_29)))))) ((snd_br ((snd_br ((snd_lf n162_26)) ((snd_lf n162_25)))) ((snd_br ((snd_lf n162_22)) ((snd_lf n162_21)))))))) ((snd_br ((snd_br ((snd_br ((snd_br ((snd_lf n162_18)) ((snd_lf n162_15)))) ((snd_lf n162_14)))) ((snd_br ((snd_lf n162_11)) ((snd_lf n162_8)))))) ((snd_br ((snd_br ((snd_lf n162_7)) ((snd_lf n162_4)))) ((snd_br ((snd_lf n162_1)) ((snd_lf n162_0)))))))))))
end
section
variable {G : AG}
theorem n163_0 : Snd mt G 163 0 (oIload 1 1) := w_iload_n (hm := mm163) dX1_trial_0
theorem n163_1 : Snd mt G 163 1 (oIfLt 26 4) := w_if_lt (hm := mm163) dX1_trial_1 rfl
theorem n163_4 : Snd mt G 163 4 (oIload 1 5) := w_iload_n (hm := mm163) dX1_trial_4
theorem n163_5 : Snd mt G 163 5 (oConst (.int 999) 8) := w_sipush (hm := mm163) dX1_trial_5 (by decide)
theorem n163_8 : Snd mt G 163 8 (oCmpGt 26 11) := w_icmp_gt (hm := mm163) dX1_trial_8 rfl
theorem n163_11 : Snd mt G 163 11 (oIload 2 12) := w_iload_n (hm := mm163) dX1_trial_11
theorem n163_12 : Snd mt G 163 12 (oIfLt 26 15) := w_if_lt (hm := mm163) dX1_trial_12 rfl
theorem n163_15 : Snd mt G 163 15 (oIload 2 16) := w_iload_n (hm := mm163) dX1_trial_15
theorem n163_16 : Snd mt G 163 16 (oConst (.int 999) 19) := w_sipush (hm := mm163) dX1_trial_16 (by decide)
theorem n163_19 : Snd mt G 163 19 (oCmpGt 26 22) := w_icmp_gt (hm := mm163) dX1_trial_19 rfl
theorem n163_22 : Snd mt G 163 22 (oConst (.int 1) 23) := w_iconst (hm := mm163) dX1_trial_22 rfl
theorem n163_23 : Snd mt G 163 23 (oGoto 27) := w_goto (hm := mm163) dX1_trial_23 rfl
theorem n163_26 : Snd mt G 163 26 (oConst (.int 0) 27) := w_iconst (hm := mm163) dX1_trial_26 rfl
theorem n163_27 : Snd mt G 163 27 (oCall 1 (fS 89 1) 0 30 xOut) := s_callS (m' := 89) (n := 1) xsh_out (w_xok0 mm163) (w_cal mm163 mm89 pn_X1 (Nat.le_of_ble_eq_true rfl) (Nat.le_of_ble_eq_true rfl)) (fun h as hn => w_run_S mm163 mm89 dX1_trial_27 q1180 q1181 q129 q1182 pa89 hn)
theorem n163_30 : Snd mt G 163 30 (oAload 0 31) := w_aload_n (hm := mm163) dX1_trial_30
theorem n163_31 : Snd mt G 163 31 (oGetf [1] 0 34) := w_getf (hm := mm163) dX1_trial_31 (fok1 (k := 0) (T := TX1) 0 (Nat.le_of_ble_eq_true rfl) vc_0 (Nat.le_of_ble_eq_true rfl) q623)
theorem n163_34 : Snd mt G 163 34 (oGetf [2] 9 37) := w_getfN (hm := mm163) dX1_trial_34 (fokn1 (k := 9) (T := TX2) 1 (Nat.le_of_ble_eq_true rfl) vc_1 (Nat.le_of_ble_eq_true rfl) q561)
theorem n163_37 : Snd mt G 163 37 (oCall 1 (fV [3] 175 1) 0 40 xOut) := s_callV (m' := 175) (n := 0) xsh_out (w_xok0 mm163) (w_cal mm163 mm175 pn_J2 (Nat.le_of_ble_eq_true rfl) (Nat.le_of_ble_eq_true rfl)) (fun h b as hc hn => w_run_V (ci := 2) mm163 mm175 dX1_trial_37 (Or.inl (List.mem_singleton.mp hc)) (Nat.le_of_ble_eq_true rfl) vc_2 rfl q709 q710 q711 q133 q712 pa175 hn)
theorem n163_40 : Snd mt G 163 40 (oConst (.int 12) 42) := w_bipush (hm := mm163) dX1_trial_40 (by decide)
theorem n163_42 : Snd mt G 163 42 (oCmpEq 45 47) := w_icmp_ne (hm := mm163) dX1_trial_42 rfl
theorem n163_45 : Snd mt G 163 45 (oConst (.int (-1)) 46) := w_iconst (hm := mm163) dX1_trial_45 rfl
theorem n163_46 : Snd mt G 163 46 (oRetI .int) := w_iret (hm := mm163) dX1_trial_46 rfl
theorem n163_47 : Snd mt G 163 47 (oAload 0 48) := w_aload_n (hm := mm163) dX1_trial_47
theorem n163_48 : Snd mt G 163 48 (oGetf [1] 0 51) := w_getf (hm := mm163) dX1_trial_48 (fok1 (k := 0) (T := TX1) 0 (Nat.le_of_ble_eq_true rfl) vc_0 (Nat.le_of_ble_eq_true rfl) q623)
theorem n163_51 : Snd mt G 163 51 (oGetf [2] 9 54) := w_getfN (hm := mm163) dX1_trial_51 (fokn1 (k := 9) (T := TX2) 1 (Nat.le_of_ble_eq_true rfl) vc_1 (Nat.le_of_ble_eq_true rfl) q561)
theorem n163_54 : Snd mt G 163 54 (oNew 26 2 nfX27 57) := w_new (hm := mm163) (ci := 25) (T9 := TX27) (ty := tyX27) dX1_trial_54 (Nat.le_of_ble_eq_true rfl) vc_25 tyX27_ok (fun _ _ => rfl) q931 q2312 q180
theorem n163_57 : Snd mt G 163 57 (oDup 58) := w_dup (hm := mm163) dX1_trial_57
theorem n163_58 : Snd mt G 163 58 (oIload 1 59) := w_iload_n (hm := mm163) dX1_trial_58
theorem n163_59 : Snd mt G 163 59 (oIload 2 60) := w_iload_n (hm := mm163) dX1_trial_59
theorem n163_60 : Snd mt G 163 60 (oCall 3 (fI 495 3) 0 63 xOut) := s_callI (m' := 495) (n := 2) xsh_out (w_xok0 mm163) (w_cal mm163 mm495 pn_X27 (Nat.le_of_ble_eq_true rfl) (Nat.le_of_ble_eq_true rfl)) (fun h b as hn => w_run_I mm163 mm495 dX1_trial_60 rfl rfl q2313 q2314 q180 q2315 pa495 hn)
theorem n163_63 : Snd mt G 163 63 (oCall 2 (fV [3] 179 2) 0 66 xOut) := s_callV (m' := 179) (n := 1) xsh_out (w_xok0 mm163) (w_cal mm163 mm179 pn_J2 (Nat.le_of_ble_eq_true rfl) (Nat.le_of_ble_eq_true rfl)) (fun h b as hc hn => w_run_V (ci := 2) mm163 mm179 dX1_trial_63 (Or.inl (List.mem_singleton.mp hc)) (Nat.le_of_ble_eq_true rfl) vc_2 rfl q1605 q985 q986 q133 q987 pa179 hn)
theorem n163_66 : Snd mt G 163 66 (oPop 67) := w_pop (hm := mm163) dX1_trial_66
theorem n163_67 : Snd mt G 163 67 (oAload 0 68) := w_aload_n (hm := mm163) dX1_trial_67
theorem n163_68 : Snd mt G 163 68 (oGetf [1] 0 71) := w_getf (hm := mm163) dX1_trial_68 (fok1 (k := 0) (T := TX1) 0 (Nat.le_of_ble_eq_true rfl) vc_0 (Nat.le_of_ble_eq_true rfl) q623)
theorem n163_71 : Snd mt G 163 71 (oGetf [2] 9 74) := w_getfN (hm := mm163) dX1_trial_71 (fokn1 (k := 9) (T := TX2) 1 (Nat.le_of_ble_eq_true rfl) vc_1 (Nat.le_of_ble_eq_true rfl) q561)
theorem n163_74 : Snd mt G 163 74 (oCall 1 (fV [3] 175 1) 0 77 xOut) := s_callV (m' := 175) (n := 0) xsh_out (w_xok0 mm163) (w_cal mm163 mm175 pn_J2 (Nat.le_of_ble_eq_true rfl) (Nat.le_of_ble_eq_true rfl)) (fun h b as hc hn => w_run_V (ci := 2) mm163 mm175 dX1_trial_74 (Or.inl (List.mem_singleton.mp hc)) (Nat.le_of_ble_eq_true rfl) vc_2 rfl q709 q710 q711 q133 q712 pa175 hn)
theorem n163_77 : Snd mt G 163 77 (oRetI .int) := w_iret (hm := mm163) dX1_trial_77 rfl
theorem sj163 : ∀ pc, Snd mt G 163 pc (j163 pc) := fun pc => (snd_br ((snd_br ((snd_br ((snd_br ((snd_br ((snd_br ((snd_lf n163_77)) ((snd_lf n163_74)))) ((snd_lf n163_71)))) ((snd_br ((snd_lf n163_68)) ((snd_lf n163_67)))))) ((snd_br ((snd_br ((snd_br ((snd_lf n163_66)) ((snd_lf n163_63)))) ((snd_lf n163_60)))) ((snd_br ((snd_lf n163_59)) ((snd_lf n163_58)))))))) ((snd_br ((snd_br ((snd_br ((snd_br ((snd_lf n163_57)) ((snd_lf n163_54)))) ((snd_lf n163_51)))) ((snd_br ((snd_lf n163_48)) ((snd_lf n163_47)))))) ((snd_br ((snd_br ((snd_lf n163_46)) ((snd_lf n163_45)))) ((snd_br ((snd_lf n163_42)) ((snd_lf n163_40)))))))))) ((snd_br ((snd_br ((snd_br ((snd_br ((snd_br ((snd_lf n163_37)) ((snd_lf n163_34)))) ((snd_lf n163_31)))) ((snd_br ((snd_lf n163_30)) ((snd_lf n163_27)))))) ((snd_br ((snd_br ((snd_lf n163_26)) ((snd_lf n163_23)))) ((snd_br ((snd_lf n163_22)) ((snd_lf n163_19)))))))) ((snd_br ((snd_br ((snd_br ((snd_br ((snd_lf n163_16)) ((snd_lf n163_15)))) ((snd_lf n163_12)))) ((snd_br ((snd_lf n163_11)) ((snd_lf n163_8)))))) ((snd_br ((snd_br ((snd_lf n163_5)) ((snd_lf n163_4)))) ((snd_br ((snd_lf n163_1)) ((snd_lf n163_0)))))))))))
end
section
variable {G : AG}
theorem n164_0 : Snd mt G 164 0 (oIload 1 1) := w_iload_n (hm := mm164) dX1_cause_0
theorem n164_1 : Snd mt G 164 1 (oCall 1 (fS 165 1) 0 4 xOut) := s_callS (m' := 165) (n := 1) xsh_out (w_xok0 mm164) (w_cal mm164 mm165 pn_X1 (Nat.le_of_ble_eq_true rfl) (Nat.le_of_ble_eq_true rfl)) (fun h as hn => w_run_S mm164 mm165 dX1_cause_1 q2333 q2334 q129 q2335 pa165 hn)
theorem n164_4 : Snd mt G 164 4 (oIfEq 18 7) := w_if_eq (hm := mm164) dX1_cause_4 rfl
theorem n164_7 : Snd mt G 164 7 (oIload 2 8) := w_iload_n (hm := mm164) dX1_cause_7
theorem n164_8 : Snd mt G 164 8 (oCall 1 (fS 165 1) 0 11 xOut) := s_callS (m' := 165) (n := 1) xsh_out (w_xok0 mm164) (w_cal mm164 mm165 pn_X1 (Nat.le_of_ble_eq_true rfl) (Nat.le_of_ble_eq_true rfl)) (fun h as hn => w_run_S mm164 mm165 dX1_cause_8 q2333 q2334 q129 q2335 pa165 hn)
theorem n164_11 : Snd mt G 164 11 (oIfEq 18 14) := w_if_eq (hm := mm164) dX1_cause_11 rfl
theorem n164_14 : Snd mt G 164 14 (oConst (.int 1) 15) := w_iconst (hm := mm164) dX1_cause_14 rfl
theorem n164_15 : Snd mt G 164 15 (oGoto 19) := w_goto (hm := mm164) dX1_cause_15 rfl
theorem n164_18 : Snd mt G 164 18 (oConst (.int 0) 19) := w_iconst (hm := mm164) dX1_cause_18 rfl
theorem n164_19 : Snd mt G 164 19 (oCall 1 (fS 89 1) 0 22 xOut) := s_callS (m' := 89) (n := 1) xsh_out (w_xok0 mm164) (w_cal mm164 mm89 pn_X1 (Nat.le_of_ble_eq_true rfl) (Nat.le_of_ble_eq_true rfl)) (fun h as hn => w_run_S mm164 mm89 dX1_cause_19 q1180 q1181 q129 q1182 pa89 hn)
theorem n164_22 : Snd mt G 164 22 (oAload 0 23) := w_aload_n (hm := mm164) dX1_cause_22
theorem n164_23 : Snd mt G 164 23 (oGetf [1] 0 26) := w_getf (hm := mm164) dX1_cause_23 (fok1 (k := 0) (T := TX1) 0 (Nat.le_of_ble_eq_true rfl) vc_0 (Nat.le_of_ble_eq_true rfl) q623)
theorem n164_26 : Snd mt G 164 26 (oGetf [2] 4 29) := w_getfN (hm := mm164) dX1_cause_26 (fokn1 (k := 4) (T := TX2) 1 (Nat.le_of_ble_eq_true rfl) vc_1 (Nat.le_of_ble_eq_true rfl) q551)
theorem n164_29 : Snd mt G 164 29 (oCall 1 (fV [3] 175 1) 0 32 xOut) := s_callV (m' := 175) (n := 0) xsh_out (w_xok0 mm164) (w_cal mm164 mm175 pn_J2 (Nat.le_of_ble_eq_true rfl) (Nat.le_of_ble_eq_true rfl)) (fun h b as hc hn => w_run_V (ci := 2) mm164 mm175 dX1_cause_29 (Or.inl (List.mem_singleton.mp hc)) (Nat.le_of_ble_eq_true rfl) vc_2 rfl q709 q710 q711 q133 q712 pa175 hn)
theorem n164_32 : Snd mt G 164 32 (oConst (.int 6) 34) := w_bipush (hm := mm164) dX1_cause_32 (by decide)
theorem n164_34 : Snd mt G 164 34 (oCmpEq 37 39) := w_icmp_ne (hm := mm164) dX1_cause_34 rfl
theorem n164_37 : Snd mt G 164 37 (oConst (.int (-1)) 38) := w_iconst (hm := mm164) dX1_cause_37 rfl
theorem n164_38 : Snd mt G 164 38 (oRetI .int) := w_iret (hm := mm164) dX1_cause_38 rfl
theorem n164_39 : Snd mt G 164 39 (oAload 0 40) := w_aload_n (hm := mm164) dX1_cause_39
theorem n164_40 : Snd mt G 164 40 (oGetf [1] 0 43) := w_getf (hm := mm164) dX1_cause_40 (fok1 (k := 0) (T := TX1) 0 (Nat.le_of_ble_eq_true rfl) vc_0 (Nat.le_of_ble_eq_true rfl) q623)
theorem n164_43 : Snd mt G 164 43 (oGetf [2] 4 46) := w_getfN (hm := mm164) dX1_cause_43 (fokn1 (k := 4) (T := TX2) 1 (Nat.le_of_ble_eq_true rfl) vc_1 (Nat.le_of_ble_eq_true rfl) q551)
theorem n164_46 : Snd mt G 164 46 (oNew 27 2 nfX28 49) := w_new (hm := mm164) (ci := 26) (T9 := TX28) (ty := tyX28) dX1_cause_46 (Nat.le_of_ble_eq_true rfl) vc_26 tyX28_ok (fun _ _ => rfl) q952 q2336 q181
theorem n164_49 : Snd mt G 164 49 (oDup 50) := w_dup (hm := mm164) dX1_cause_49
theorem n164_50 : Snd mt G 164 50 (oIload 1 51) := w_iload_n (hm := mm164) dX1_cause_50
theorem n164_51 : Snd mt G 164 51 (oIload 2 52) := w_iload_n (hm := mm164) dX1_cause_51
theorem n164_52 : Snd mt G 164 52 (oCall 3 (fI 496 3) 0 55 xOut) := s_callI (m' := 496) (n := 2) xsh_out (w_xok0 mm164) (w_cal mm164 mm496 pn_X28 (Nat.le_of_ble_eq_true rfl) (Nat.le_of_ble_eq_true rfl)) (fun h b as hn => w_run_I mm164 mm496 dX1_cause_52 rfl rfl q2337 q2338 q181 q2339 pa496 hn)
theorem n164_55 : Snd mt G 164 55 (oCall 2 (fV [3] 179 2) 0 58 xOut) := s_callV (m' := 179) (n := 1) xsh_out (w_xok0 mm164) (w_cal mm164 mm179 pn_J2 (Nat.le_of_ble_eq_true rfl) (Nat.le_of_ble_eq_true rfl)) (fun h b as hc hn => w_run_V (ci := 2) mm164 mm179 dX1_cause_55 (Or.inl (List.mem_singleton.mp hc)) (Nat.le_of_ble_eq_true rfl) vc_2 rfl q1605 q985 q986 q133 q987 pa179 hn)
theorem n164_58 : Snd mt G 164 58 (oPop 59) := w_pop (hm := mm164) dX1_cause_58
theorem n164_59 : Snd mt G 164 59 (oAload 0 60) := w_aload_n (hm := mm164) dX1_cause_59
theorem n164_60 : Snd mt G 164 60 (oGetf [1] 0 63) := w_getf (hm := mm164) dX1_cause_60 (fok1 (k := 0) (T := TX1) 0 (Nat.le_of_ble_eq_true rfl) vc_0 (Nat.le_of_ble_eq_true rfl) q623)
theorem n164_63 : Snd mt G 164 63 (oGetf [2] 4 66) := w_getfN (hm := mm164) dX1_cause_63 (fokn1 (k := 4) (T := TX2) 1 (Nat.le_of_ble_eq_true rfl) vc_1 (Nat.le_of_ble_eq_true rfl) q551)
theorem n164_66 : Snd mt G 164 66 (oCall 1 (fV [3] 175 1) 0 69 xOut) := s_callV (m' := 175) (n := 0) xsh_out (w_xok0 mm164) (w_cal mm164 mm175 pn_J2 (Nat.le_of_ble_eq_true rfl) (Nat.le_of_ble_eq_true rfl)) (fun h b as hc hn => w_run_V (ci := 2) mm164 mm175 dX1_cause_66 (Or.inl (List.mem_singleton.mp hc)) (Nat.le_of_ble_eq_true rfl) vc_2 rfl q709 q710 q711 q133 q712 pa175 hn)
theorem n164_69 : Snd mt G 164 69 (oConst (.int 1) 70) := w_iconst (hm := mm164) dX1_cause_69 rfl
theorem n164_70 : Snd mt G 164 70 (oBin (fun x y => x - y) 71) := w_isub (hm := mm164) dX1_cause_70
theorem n164_71 : Snd mt G 164 71 (oRetI .int) := w_iret (hm := mm164) dX1_cause_71 rfl
theorem sj164 : ∀ pc, Snd mt G 164 pc (j164 pc) := fun pc => (snd_br ((snd_br ((snd_br ((snd_br ((snd_br ((snd_br ((snd_lf n164_71)) ((snd_lf n164_70)))) ((snd_lf n164_69)))) ((snd_br ((snd_lf n164_66)) ((snd_lf n164_63)))))) ((snd_br ((snd_br ((snd_lf n164_60)) ((snd_lf n164_59)))) ((snd_br ((snd_lf n164_58)) ((snd_lf n164_55)))))))) ((snd_br ((snd_br ((snd_br ((snd_br ((snd_lf n164_52)) ((snd_lf n164_51)))) ((snd_lf n164_50)))) ((snd_br ((snd_lf n164_49)) ((snd_lf n164_46)))))) ((snd_br ((snd_br ((snd_lf n164_43)) ((snd_lf n164_40)))) ((snd_br ((snd_lf n164_39)) ((snd_lf n164_38)))))))))) ((snd_br ((snd_br ((snd_br ((snd_br ((snd_br ((snd_lf n164_37)) ((snd_lf n164_34)))) ((snd_lf n164_32)))) ((snd_br ((snd_lf n164_29)) ((snd_lf n164_26)))))) ((snd_br ((snd_br ((snd_lf n164_23)) ((snd_lf n164_22)))) ((snd_br ((snd_lf n164_19)) ((snd_lf n164_18)))))))) ((snd_br ((snd_br ((snd_br ((snd_lf n164_15)) ((snd_lf n164_14)))) ((snd_br ((snd_lf n164_11)) ((snd_lf n164_8)))))) ((snd_br ((snd_br ((snd_lf n164_7)) ((snd_lf n164_4)))) ((snd_br ((snd_lf n164_1)) ((snd_lf n164_0)))))))))))
end
section
variable {G : AG}
theorem n165_0 : Snd mt G 165 0 (oIload 0 1) := w_iload_n (hm := mm165) dX1_isSigns_0
theorem n165_1 : Snd mt G 165 1 (oIfLt 15 4) := w_if_lt (hm := mm165) dX1_isSigns_1 rfl
theorem n165_4 : Snd mt G 165 4 (oIload 0 5) := w_iload_n (hm := mm165) dX1_isSigns_4
theorem n165_5 : Snd mt G 165 5 (oConst (.int 256) 8) := w_sipush (hm := mm165) dX1_isSigns_5 (by decide)
theorem n165_8 : Snd mt G 165 8 (oCmpGe 15 11) := w_icmp_ge (hm := mm165) dX1_isSigns_8 rfl
theorem n165_11 : Snd mt G 165 11 (oConst (.int 1) 12) := w_iconst (hm := mm165) dX1_isSigns_11 rfl
theorem n165_12 : Snd mt G 165 12 (oGoto 16) := w_goto (hm := mm165) dX1_isSigns_12 rfl
theorem n165_15 : Snd mt G 165 15 (oConst (.int 0) 16) := w_iconst (hm := mm165) dX1_isSigns_15 rfl
theorem n165_16 : Snd mt G 165 16 (oRetI .boolean) := w_zret (hm := mm165) dX1_isSigns_16 rfl
theorem sj165 : ∀ pc, Snd mt G 165 pc (j165 pc) := fun pc => (snd_br ((snd_br ((snd_br ((snd_br ((snd_lf n165_16)) ((snd_lf n165_15)))) ((snd_lf n165_12)))) ((snd_br ((snd_lf n165_11)) ((snd_lf n165_8)))))) ((snd_br ((snd_br ((snd_lf n165_5)) ((snd_lf n165_4)))) ((snd_br ((snd_lf n165_1)) ((snd_lf n165_0)))))))
end
section
variable {G : AG}
theorem n166_0 : Snd mt G 166 0 (oIload 1 1) := w_iload_n (hm := mm166) dX1_see_0
theorem n166_1 : Snd mt G 166 1 (oCall 1 (fS 165 1) 0 4 xOut) := s_callS (m' := 165) (n := 1) xsh_out (w_xok0 mm166) (w_cal mm166 mm165 pn_X1 (Nat.le_of_ble_eq_true rfl) (Nat.le_of_ble_eq_true rfl)) (fun h as hn => w_run_S mm166 mm165 dX1_see_1 q2333 q2334 q129 q2335 pa165 hn)
theorem n166_4 : Snd mt G 166 4 (oIfEq 24 7) := w_if_eq (hm := mm166) dX1_see_4 rfl
theorem n166_7 : Snd mt G 166 7 (oIload 2 8) := w_iload_n (hm := mm166) dX1_see_7
theorem n166_8 : Snd mt G 166 8 (oCall 1 (fS 165 1) 0 11 xOut) := s_callS (m' := 165) (n := 1) xsh_out (w_xok0 mm166) (w_cal mm166 mm165 pn_X1 (Nat.le_of_ble_eq_true rfl) (Nat.le_of_ble_eq_true rfl)) (fun h as hn => w_run_S mm166 mm165 dX1_see_8 q2333 q2334 q129 q2335 pa165 hn)
theorem n166_11 : Snd mt G 166 11 (oIfEq 24 14) := w_if_eq (hm := mm166) dX1_see_11 rfl
theorem n166_14 : Snd mt G 166 14 (oIload 1 15) := w_iload_n (hm := mm166) dX1_see_14
theorem n166_15 : Snd mt G 166 15 (oIload 2 16) := w_iload_n (hm := mm166) dX1_see_15
theorem n166_16 : Snd mt G 166 16 (oBin (fun x y => x &&& y) 17) := w_iand (hm := mm166) dX1_see_16
theorem n166_17 : Snd mt G 166 17 (oIfEq 20 24) := w_if_ne (hm := mm166) dX1_see_17 rfl
theorem n166_20 : Snd mt G 166 20 (oConst (.int 1) 21) := w_iconst (hm := mm166) dX1_see_20 rfl
theorem n166_21 : Snd mt G 166 21 (oGoto 25) := w_goto (hm := mm166) dX1_see_21 rfl
theorem n166_24 : Snd mt G 166 24 (oConst (.int 0) 25) := w_iconst (hm := mm166) dX1_see_24 rfl
theorem n166_25 : Snd mt G 166 25 (oCall 1 (fS 89 1) 0 28 xOut) := s_callS (m' := 89) (n := 1) xsh_out (w_xok0 mm166) (w_cal mm166 mm89 pn_X1 (Nat.le_of_ble_eq_true rfl) (Nat.le_of_ble_eq_true rfl)) (fun h as hn => w_run_S mm166 mm89 dX1_see_25 q1180 q1181 q129 q1182 pa89 hn)
theorem n166_28 : Snd mt G 166 28 (oAload 0 29) := w_aload_n (hm := mm166) dX1_see_28
theorem n166_29 : Snd mt G 166 29 (oGetf [1] 0 32) := w_getf (hm := mm166) dX1_see_29 (fok1 (k := 0) (T := TX1) 0 (Nat.le_of_ble_eq_true rfl) vc_0 (Nat.le_of_ble_eq_true rfl) q623)
theorem n166_32 : Snd mt G 166 32 (oIload 1 33) := w_iload_n (hm := mm166) dX1_see_32
theorem n166_33 : Snd mt G 166 33 (oPutf [2] 14 .int 36) := w_putfN (hm := mm166) dX1_see_33 (pnk1 (k := 14) (T := TX2) 1 (Nat.le_of_ble_eq_true rfl) vc_1 (Nat.le_of_ble_eq_true rfl) rfl pd_X2_14 q571)
theorem n166_36 : Snd mt G 166 36 (oAload 0 37) := w_aload_n (hm := mm166) dX1_see_36
theorem n166_37 : Snd mt G 166 37 (oGetf [1] 0 40) := w_getf (hm := mm166) dX1_see_37 (fok1 (k := 0) (T := TX1) 0 (Nat.le_of_ble_eq_true rfl) vc_0 (Nat.le_of_ble_eq_true rfl) q623)
theorem n166_40 : Snd mt G 166 40 (oIload 2 41) := w_iload_n (hm := mm166) dX1_see_40
theorem n166_41 : Snd mt G 166 41 (oPutf [2] 15 .int 44) := w_putfN (hm := mm166) dX1_see_41 (pnk1 (k := 15) (T := TX2) 1 (Nat.le_of_ble_eq_true rfl) vc_1 (Nat.le_of_ble_eq_true rfl) rfl pd_X2_15 q573)
theorem n166_44 : Snd mt G 166 44 (oAload 0 45) := w_aload_n (hm := mm166) dX1_see_44
theorem n166_45 : Snd mt G 166 45 (oCall 1 (fV [1] 81 3) 0 48 xOut) := s_callV (m' := 81) (n := 0) xsh_out (w_xok0 mm166) (w_cal mm166 mm81 pn_X1 (Nat.le_of_ble_eq_true rfl) (Nat.le_of_ble_eq_true rfl)) (fun h b as hc hn => w_run_V (ci := 0) mm166 mm81 dX1_see_45 (Or.inl (List.mem_singleton.mp hc)) (Nat.le_of_ble_eq_true rfl) vc_0 rfl q948 q950 qs19 q129 q951 pa81 hn)
theorem n166_48 : Snd mt G 166 48 (oRetI .int) := w_iret (hm := mm166) dX1_see_48 rfl
theorem sj166 : ∀ pc, Snd mt G 166 pc (j166 pc) := fun pc => (snd_br ((snd_br ((snd_br ((snd_br ((snd_br ((snd_lf n166_48)) ((snd_lf n166_45)))) ((snd_br ((snd_lf n166_44)) ((snd_lf n166_41)))))) ((snd_br ((snd_br ((snd_lf n166_40)) ((snd_lf n166_37)))) ((snd_lf n166_36)))))) ((snd_br ((snd_br ((snd_br ((snd_lf n166_33)) ((snd_lf n166_32)))) ((snd_lf n166_29)))) ((snd_br ((snd_br ((snd_lf n166_28)) ((snd_lf n166_25)))) ((snd_lf n166_24)))))))) ((snd_br ((snd_br ((snd_br ((snd_br ((snd_lf n166_21)) ((snd_lf n166_20)))) ((snd_lf n166_17)))) ((snd_br ((snd_br ((snd_lf n166_16)) ((snd_lf n166_15)))) ((snd_lf n166_14)))))) ((snd_br ((snd_br ((snd_br ((snd_lf n166_11)) ((snd_lf n166_8)))) ((snd_lf n166_7)))) ((snd_br ((snd_br ((snd_lf n166_4)) ((snd_lf n166_1)))) ((snd_lf n166_0)))))))))
end
