/-! every instruction is sound (by gen3.py) -/
set_option maxRecDepth 100000
section
variable {G : AG}
theorem n378_0 : Snd mt G 378 0 (oConst (.int 0) 1) := w_iconst (hm := mm378) dX3_findLoans_0 rfl
theorem n378_1 : Snd mt G 378 1 (oIstore 1 2) := w_istore_n (hm := mm378) dX3_findLoans_1 (Nat.le_of_ble_eq_true rfl)
theorem n378_2 : Snd mt G 378 2 (oIload 1 3) := w_iload_n (hm := mm378) dX3_findLoans_2
theorem n378_3 : Snd mt G 378 3 (oConst (.int 1) 4) := w_iconst (hm := mm378) dX3_findLoans_3 rfl
theorem n378_4 : Snd mt G 378 4 (oAload 0 5) := w_aload_n (hm := mm378) dX3_findLoans_4
theorem n378_5 : Snd mt G 378 5 (oGetf [4] 29 8) := w_getf (hm := mm378) dX3_findLoans_5 (fok1 (k := 29) (T := TX3) 3 (Nat.le_of_ble_eq_true rfl) vc_3 (Nat.le_of_ble_eq_true rfl) q2434)
theorem n378_8 : Snd mt G 378 8 (oBin (fun x y => x <<< (y &&& 31)) 9) := w_ishl (hm := mm378) dX3_findLoans_8
theorem n378_9 : Snd mt G 378 9 (oCmpGe 30 12) := w_icmp_ge (hm := mm378) dX3_findLoans_9 rfl
theorem n378_12 : Snd mt G 378 12 (oAload 0 13) := w_aload_n (hm := mm378) dX3_findLoans_12
theorem n378_13 : Snd mt G 378 13 (oGetf [4] 67 16) := w_getf (hm := mm378) dX3_findLoans_13 (fok1 (k := 67) (T := TX3) 3 (Nat.le_of_ble_eq_true rfl) vc_3 (Nat.le_of_ble_eq_true rfl) q2472)
theorem n378_16 : Snd mt G 378 16 (oAload 0 17) := w_aload_n (hm := mm378) dX3_findLoans_16
theorem n378_17 : Snd mt G 378 17 (oGetf [4] 31 20) := w_getf (hm := mm378) dX3_findLoans_17 (fok1 (k := 31) (T := TX3) 3 (Nat.le_of_ble_eq_true rfl) vc_3 (Nat.le_of_ble_eq_true rfl) q2436)
theorem n378_20 : Snd mt G 378 20 (oAld [106] 21) := w_aaload (hm := mm378) (kt := 6) dX3_findLoans_20 rfl at_6 (Nat.le_of_ble_eq_true rfl) (List.forall_mem_cons.mpr ⟨Or.inl rfl, (fun t ht => nomatch ht)⟩)
theorem n378_21 : Snd mt G 378 21 (oIload 1 22) := w_iload_n (hm := mm378) dX3_findLoans_21
theorem n378_22 : Snd mt G 378 22 (oConst (.int 0) 23) := w_iconst (hm := mm378) dX3_findLoans_22 rfl
theorem n378_23 : Snd mt G 378 23 (oIast [100] 24) := w_iastore (hm := mm378) (kt := 0) dX3_findLoans_23 at_0 (Nat.le_of_ble_eq_true rfl) (List.forall_mem_cons.mpr ⟨rfl, (fun t ht => nomatch ht)⟩)
theorem n378_24 : Snd mt G 378 24 (oIinc 1 1 27) := w_iinc (hm := mm378) dX3_findLoans_24 rfl (Nat.le_of_ble_eq_true rfl)
theorem n378_27 : Snd mt G 378 27 (oGoto 2) := w_goto (hm := mm378) dX3_findLoans_27 rfl
theorem n378_30 : Snd mt G 378 30 (oAload 0 31) := w_aload_n (hm := mm378) dX3_findLoans_30
theorem n378_31 : Snd mt G 378 31 (oGetf [4] 31 34) := w_getf (hm := mm378) dX3_findLoans_31 (fok1 (k := 31) (T := TX3) 3 (Nat.le_of_ble_eq_true rfl) vc_3 (Nat.le_of_ble_eq_true rfl) q2436)
theorem n378_34 : Snd mt G 378 34 (oConst (.int 1) 35) := w_iconst (hm := mm378) dX3_findLoans_34 rfl
theorem n378_35 : Snd mt G 378 35 (oBin (fun x y => x - y) 36) := w_isub (hm := mm378) dX3_findLoans_35
theorem n378_36 : Snd mt G 378 36 (oIstore 1 37) := w_istore_n (hm := mm378) dX3_findLoans_36 (Nat.le_of_ble_eq_true rfl)
theorem n378_37 : Snd mt G 378 37 (oIload 1 38) := w_iload_n (hm := mm378) dX3_findLoans_37
theorem n378_38 : Snd mt G 378 38 (oIfLt 151 41) := w_if_lt (hm := mm378) dX3_findLoans_38 rfl
theorem n378_41 : Snd mt G 378 41 (oConst (.int 0) 42) := w_iconst (hm := mm378) dX3_findLoans_41 rfl
theorem n378_42 : Snd mt G 378 42 (oIstore 2 43) := w_istore_n (hm := mm378) dX3_findLoans_42 (Nat.le_of_ble_eq_true rfl)
theorem n378_43 : Snd mt G 378 43 (oIload 2 44) := w_iload_n (hm := mm378) dX3_findLoans_43
theorem n378_44 : Snd mt G 378 44 (oConst (.int 1) 45) := w_iconst (hm := mm378) dX3_findLoans_44 rfl
theorem n378_45 : Snd mt G 378 45 (oAload 0 46) := w_aload_n (hm := mm378) dX3_findLoans_45
theorem n378_46 : Snd mt G 378 46 (oGetf [4] 29 49) := w_getf (hm := mm378) dX3_findLoans_46 (fok1 (k := 29) (T := TX3) 3 (Nat.le_of_ble_eq_true rfl) vc_3 (Nat.le_of_ble_eq_true rfl) q2434)
theorem n378_49 : Snd mt G 378 49 (oBin (fun x y => x <<< (y &&& 31)) 50) := w_ishl (hm := mm378) dX3_findLoans_49
theorem n378_50 : Snd mt G 378 50 (oCmpGe 145 53) := w_icmp_ge (hm := mm378) dX3_findLoans_50 rfl
theorem n378_53 : Snd mt G 378 53 (oAload 0 54) := w_aload_n (hm := mm378) dX3_findLoans_53
theorem n378_54 : Snd mt G 378 54 (oGetf [4] 67 57) := w_getf (hm := mm378) dX3_findLoans_54 (fok1 (k := 67) (T := TX3) 3 (Nat.le_of_ble_eq_true rfl) vc_3 (Nat.le_of_ble_eq_true rfl) q2472)
theorem n378_57 : Snd mt G 378 57 (oIload 1 58) := w_iload_n (hm := mm378) dX3_findLoans_57
theorem n378_58 : Snd mt G 378 58 (oConst (.int 1) 59) := w_iconst (hm := mm378) dX3_findLoans_58 rfl
theorem n378_59 : Snd mt G 378 59 (oBin (fun x y => x + y) 60) := w_iadd (hm := mm378) dX3_findLoans_59
theorem n378_60 : Snd mt G 378 60 (oAld [106] 61) := w_aaload (hm := mm378) (kt := 6) dX3_findLoans_60 rfl at_6 (Nat.le_of_ble_eq_true rfl) (List.forall_mem_cons.mpr ⟨Or.inl rfl, (fun t ht => nomatch ht)⟩)
theorem n378_61 : Snd mt G 378 61 (oIload 2 62) := w_iload_n (hm := mm378) dX3_findLoans_61
theorem n378_62 : Snd mt G 378 62 (oAld [100] 63) := w_iaload (hm := mm378) (kt := 0) dX3_findLoans_62 at_0 (Nat.le_of_ble_eq_true rfl) (List.forall_mem_cons.mpr ⟨Or.inl rfl, (fun t ht => nomatch ht)⟩)
theorem n378_63 : Snd mt G 378 63 (oIstore 3 64) := w_istore_n (hm := mm378) dX3_findLoans_63 (Nat.le_of_ble_eq_true rfl)
theorem n378_64 : Snd mt G 378 64 (oConst (.int 0) 65) := w_iconst (hm := mm378) dX3_findLoans_64 rfl
theorem n378_65 : Snd mt G 378 65 (oIstore 4 67) := w_istore (hm := mm378) dX3_findLoans_65 (Nat.le_of_ble_eq_true rfl)
theorem n378_67 : Snd mt G 378 67 (oIload 4 69) := w_iload (hm := mm378) dX3_findLoans_67
theorem n378_69 : Snd mt G 378 69 (oAload 0 70) := w_aload_n (hm := mm378) dX3_findLoans_69
theorem n378_70 : Snd mt G 378 70 (oGetf [4] 29 73) := w_getf (hm := mm378) dX3_findLoans_70 (fok1 (k := 29) (T := TX3) 3 (Nat.le_of_ble_eq_true rfl) vc_3 (Nat.le_of_ble_eq_true rfl) q2434)
theorem n378_73 : Snd mt G 378 73 (oCmpGe 130 76) := w_icmp_ge (hm := mm378) dX3_findLoans_73 rfl
theorem n378_76 : Snd mt G 378 76 (oIload 2 77) := w_iload_n (hm := mm378) dX3_findLoans_76
theorem n378_77 : Snd mt G 378 77 (oIload 4 79) := w_iload (hm := mm378) dX3_findLoans_77
theorem n378_79 : Snd mt G 378 79 (oBin (fun x y => x >>> (y &&& 31)) 80) := w_ishr (hm := mm378) dX3_findLoans_79
theorem n378_80 : Snd mt G 378 80 (oConst (.int 1) 81) := w_iconst (hm := mm378) dX3_findLoans_80 rfl
theorem n378_81 : Snd mt G 378 81 (oBin (fun x y => x &&& y) 82) := w_iand (hm := mm378) dX3_findLoans_81
theorem n378_82 : Snd mt G 378 82 (oIfEq 85 124) := w_if_ne (hm := mm378) dX3_findLoans_82 rfl
theorem n378_85 : Snd mt G 378 85 (oAload 0 86) := w_aload_n (hm := mm378) dX3_findLoans_85
theorem n378_86 : Snd mt G 378 86 (oIload 1 87) := w_iload_n (hm := mm378) dX3_findLoans_86
theorem n378_87 : Snd mt G 378 87 (oIload 4 89) := w_iload (hm := mm378) dX3_findLoans_87
theorem n378_89 : Snd mt G 378 89 (oCall 3 (fV [4] 379 3) 0 92 xOut) := s_callV (m' := 379) (n := 2) xsh_out (w_xok0 mm378) (w_cal mm378 mm379 pn_X3 (Nat.le_of_ble_eq_true rfl) (Nat.le_of_ble_eq_true rfl)) (fun h b as hc hn => w_run_V (ci := 3) mm378 mm379 dX3_findLoans_89 (Or.inl (List.mem_singleton.mp hc)) (Nat.le_of_ble_eq_true rfl) vc_3 rfl q3008 q3010 qs113 q150 q3011 pa379 hn)
theorem n378_92 : Snd mt G 378 92 (oConst (.int (-1)) 93) := w_iconst (hm := mm378) dX3_findLoans_92 rfl
theorem n378_93 : Snd mt G 378 93 (oCmpEq 124 96) := w_icmp_eq (hm := mm378) dX3_findLoans_93 rfl
theorem n378_96 : Snd mt G 378 96 (oIload 3 97) := w_iload_n (hm := mm378) dX3_findLoans_96
theorem n378_97 : Snd mt G 378 97 (oAload 0 98) := w_aload_n (hm := mm378) dX3_findLoans_97
theorem n378_98 : Snd mt G 378 98 (oIload 1 99) := w_iload_n (hm := mm378) dX3_findLoans_98
theorem n378_99 : Snd mt G 378 99 (oIload 4 101) := w_iload (hm := mm378) dX3_findLoans_99
theorem n378_101 : Snd mt G 378 101 (oCall 3 (fV [4] 379 3) 0 104 xOut) := s_callV (m' := 379) (n := 2) xsh_out (w_xok0 mm378) (w_cal mm378 mm379 pn_X3 (Nat.le_of_ble_eq_true rfl) (Nat.le_of_ble_eq_true rfl)) (fun h b as hc hn => w_run_V (ci := 3) mm378 mm379 dX3_findLoans_101 (Or.inl (List.mem_singleton.mp hc)) (Nat.le_of_ble_eq_true rfl) vc_3 rfl q3008 q3010 qs113 q150 q3011 pa379 hn)
theorem n378_104 : Snd mt G 378 104 (oAload 0 105) := w_aload_n (hm := mm378) dX3_findLoans_104
theorem n378_105 : Snd mt G 378 105 (oGetf [4] 67 108) := w_getf (hm := mm378) dX3_findLoans_105 (fok1 (k := 67) (T := TX3) 3 (Nat.le_of_ble_eq_true rfl) vc_3 (Nat.le_of_ble_eq_true rfl) q2472)
theorem n378_108 : Snd mt G 378 108 (oIload 1 109) := w_iload_n (hm := mm378) dX3_findLoans_108
theorem n378_109 : Snd mt G 378 109 (oConst (.int 1) 110) := w_iconst (hm := mm378) dX3_findLoans_109 rfl
theorem n378_110 : Snd mt G 378 110 (oBin (fun x y => x + y) 111) := w_iadd (hm := mm378) dX3_findLoans_110
theorem n378_111 : Snd mt G 378 111 (oAld [106] 112) := w_aaload (hm := mm378) (kt := 6) dX3_findLoans_111 rfl at_6 (Nat.le_of_ble_eq_true rfl) (List.forall_mem_cons.mpr ⟨Or.inl rfl, (fun t ht => nomatch ht)⟩)
theorem n378_112 : Snd mt G 378 112 (oIload 2 113) := w_iload_n (hm := mm378) dX3_findLoans_112
theorem n378_113 : Snd mt G 378 113 (oConst (.int 1) 114) := w_iconst (hm := mm378) dX3_findLoans_113 rfl
theorem n378_114 : Snd mt G 378 114 (oIload 4 116) := w_iload (hm := mm378) dX3_findLoans_114
theorem n378_116 : Snd mt G 378 116 (oBin (fun x y => x <<< (y &&& 31)) 117) := w_ishl (hm := mm378) dX3_findLoans_116
theorem n378_117 : Snd mt G 378 117 (oBin (fun x y => x ||| y) 118) := w_ior (hm := mm378) dX3_findLoans_117
theorem n378_118 : Snd mt G 378 118 (oAld [100] 119) := w_iaload (hm := mm378) (kt := 0) dX3_findLoans_118 at_0 (Nat.le_of_ble_eq_true rfl) (List.forall_mem_cons.mpr ⟨Or.inl rfl, (fun t ht => nomatch ht)⟩)
theorem n378_119 : Snd mt G 378 119 (oBin (fun x y => x + y) 120) := w_iadd (hm := mm378) dX3_findLoans_119
theorem n378_120 : Snd mt G 378 120 (oCall 2 (fS 347 2) 0 123 xOut) := s_callS (m' := 347) (n := 2) xsh_out (w_xok0 mm378) (w_cal mm378 mm347 pn_X3 (Nat.le_of_ble_eq_true rfl) (Nat.le_of_ble_eq_true rfl)) (fun h as hn => w_run_S mm378 mm347 dX3_findLoans_120 q2881 q2882 q150 q2883 pa347 hn)
theorem n378_123 : Snd mt G 378 123 (oIstore 3 124) := w_istore_n (hm := mm378) dX3_findLoans_123 (Nat.le_of_ble_eq_true rfl)
theorem n378_124 : Snd mt G 378 124 (oIinc 4 1 127) := w_iinc (hm := mm378) dX3_findLoans_124 rfl (Nat.le_of_ble_eq_true rfl)
theorem n378_127 : Snd mt G 378 127 (oGoto 67) := w_goto (hm := mm378) dX3_findLoans_127 rfl
theorem n378_130 : Snd mt G 378 130 (oAload 0 131) := w_aload_n (hm := mm378) dX3_findLoans_130
theorem n378_131 : Snd mt G 378 131 (oGetf [4] 67 134) := w_getf (hm := mm378) dX3_findLoans_131 (fok1 (k := 67) (T := TX3) 3 (Nat.le_of_ble_eq_true rfl) vc_3 (Nat.le_of_ble_eq_true rfl) q2472)
theorem n378_134 : Snd mt G 378 134 (oIload 1 135) := w_iload_n (hm := mm378) dX3_findLoans_134
theorem n378_135 : Snd mt G 378 135 (oAld [106] 136) := w_aaload (hm := mm378) (kt := 6) dX3_findLoans_135 rfl at_6 (Nat.le_of_ble_eq_true rfl) (List.forall_mem_cons.mpr ⟨Or.inl rfl, (fun t ht => nomatch ht)⟩)
theorem n378_136 : Snd mt G 378 136 (oIload 2 137) := w_iload_n (hm := mm378) dX3_findLoans_136
theorem n378_137 : Snd mt G 378 137 (oIload 3 138) := w_iload_n (hm := mm378) dX3_findLoans_137
theorem n378_138 : Snd mt G 378 138 (oIast [100] 139) := w_iastore (hm := mm378) (kt := 0) dX3_findLoans_138 at_0 (Nat.le_of_ble_eq_true rfl) (List.forall_mem_cons.mpr ⟨rfl, (fun t ht => nomatch ht)⟩)
theorem n378_139 : Snd mt G 378 139 (oIinc 2 1 142) := w_iinc (hm := mm378) dX3_findLoans_139 rfl (Nat.le_of_ble_eq_true rfl)
theorem n378_142 : Snd mt G 378 142 (oGoto 43) := w_goto (hm := mm378) dX3_findLoans_142 rfl
theorem n378_145 : Snd mt G 378 145 (oIinc 1 (-1) 148) := w_iinc (hm := mm378) dX3_findLoans_145 rfl (Nat.le_of_ble_eq_true rfl)
theorem n378_148 : Snd mt G 378 148 (oGoto 37) := w_goto (hm := mm378) dX3_findLoans_148 rfl
theorem n378_151 : Snd mt G 378 151 (oRetV) := w_vret (hm := mm378) dX3_findLoans_151 rfl
theorem sj378 : ∀ pc, Snd mt G 378 pc (j378 pc) := fun pc => (snd_br ((snd_br ((snd_br ((snd_br ((snd_br ((snd_br ((snd_br ((snd_lf n378_151)) ((snd_lf n378_148)))) ((snd_lf n378_145)))) ((snd_br ((snd_br ((snd_lf n378_142)) ((snd_lf n378_139)))) ((snd_lf n378_138)))))) ((snd_br ((snd_br ((snd_br ((snd_lf n378_137)) ((snd_lf n378_136)))) ((snd_lf n378_135)))) ((snd_br ((snd_br ((snd_lf n378_134)) ((snd_lf n378_131)))) ((snd_lf n378_130)))))))) ((snd_br ((snd_br ((snd_br ((snd_br ((snd_lf n378_127)) ((snd_lf n378_124)))) ((snd_lf n378_123)))) ((snd_br ((snd_br ((snd_lf n378_120)) ((snd_lf n378_119)))) ((snd_lf n378_118)))))) ((snd_br ((snd_br ((snd_br ((snd_lf n378_117)) ((snd_lf n378_116)))) ((snd_lf n378_114)))) ((snd_br ((snd_br ((snd_lf n378_113)) ((snd_lf n378_112)))) ((snd_lf n378_111)))))))))) ((snd_br ((snd_br ((snd_br ((snd_br ((snd_br ((snd_lf n378_110)) ((snd_lf n378_109)))) ((snd_lf n378_108)))) ((snd_br ((snd_br ((snd_lf n378_105)) ((snd_lf n378_104)))) ((snd_lf n378_101)))))) ((snd_br ((snd_br ((snd_br ((snd_lf n378_99)) ((snd_lf n378_98)))) ((snd_lf n378_97)))) ((snd_br ((snd_br ((snd_lf n378_96)) ((snd_lf n378_93)))) ((snd_lf n378_92)))))))) ((snd_br ((snd_br ((snd_br ((snd_br ((snd_lf n378_89)) ((snd_lf n378_87)))) ((snd_lf n378_86)))) ((snd_br ((snd_br ((snd_lf n378_85)) ((snd_lf n378_82)))) ((snd_lf n378_81)))))) ((snd_br ((snd_br ((snd_br ((snd_lf n378_80)) ((snd_lf n378_79)))) ((snd_lf n378_77)))) ((snd_br ((snd_lf n378_76)) ((snd_lf n378_73)))))))))))) ((snd_br ((snd_br ((snd_br ((snd_br ((snd_br ((snd_br ((snd_lf n378_70)) ((snd_lf n378_69)))) ((snd_lf n378_67)))) ((snd_br ((snd_br ((snd_lf n378_65)) ((snd_lf n378_64)))) ((snd_lf n378_63)))))) ((snd_br ((snd_br ((snd_br ((snd_lf n378_62)) ((snd_lf n378_61)))) ((snd_lf n378_60)))) ((snd_br ((snd_br ((snd_lf n378_59)) ((snd_lf n378_58)))) ((snd_lf n378_57)))))))) ((snd_br ((snd_br ((snd_br ((snd_br ((snd_lf n378_54)) ((snd_lf n378_53)))) ((snd_lf n378_50)))) ((snd_br ((snd_br ((snd_lf n378_49)) ((snd_lf n378_46)))) ((snd_lf n378_45)))))) ((snd_br ((snd_br ((snd_br ((snd_lf n378_44)) ((snd_lf n378_43)))) ((snd_lf n378_42)))) ((snd_br ((snd_br ((snd_lf n378_41)) ((snd_lf n378_38)))) ((snd_lf n378_37)))))))))) ((snd_br ((snd_br ((snd_br ((snd_br ((snd_br ((snd_lf n378_36)) ((snd_lf n378_35)))) ((snd_lf n378_34)))) ((snd_br ((snd_br ((snd_lf n378_31)) ((snd_lf n378_30)))) ((snd_lf n378_27)))))) ((snd_br ((snd_br ((snd_br ((snd_lf n378_24)) ((snd_lf n378_23)))) ((snd_lf n378_22)))) ((snd_br ((snd_br ((snd_lf n378_21)) ((snd_lf n378_20)))) ((snd_lf n378_17)))))))) ((snd_br ((snd_br ((snd_br ((snd_br ((snd_lf n378_16)) ((snd_lf n378_13)))) ((snd_lf n378_12)))) ((snd_br ((snd_br ((snd_lf n378_9)) ((snd_lf n378_8)))) ((snd_lf n378_5)))))) ((snd_br ((snd_br ((snd_br ((snd_lf n378_4)) ((snd_lf n378_3)))) ((snd_lf n378_2)))) ((snd_br ((snd_lf n378_1)) ((snd_lf n378_0)))))))))))))
end
section
variable {G : AG}
theorem n379_0 : Snd mt G 379 0 (oAload 0 1) := w_aload_n (hm := mm379) dX3_worthTo_0
theorem n379_1 : Snd mt G 379 1 (oGetf [4] 45 4) := w_getf (hm := mm379) dX3_worthTo_1 (fok1 (k := 45) (T := TX3) 3 (Nat.le_of_ble_eq_true rfl) vc_3 (Nat.le_of_ble_eq_true rfl) q2450)
theorem n379_4 : Snd mt G 379 4 (oAload 0 5) := w_aload_n (hm := mm379) dX3_worthTo_4
theorem n379_5 : Snd mt G 379 5 (oGetf [4] 59 8) := w_getf (hm := mm379) dX3_worthTo_5 (fok1 (k := 59) (T := TX3) 3 (Nat.le_of_ble_eq_true rfl) vc_3 (Nat.le_of_ble_eq_true rfl) q2464)
theorem n379_8 : Snd mt G 379 8 (oIload 1 9) := w_iload_n (hm := mm379) dX3_worthTo_8
theorem n379_9 : Snd mt G 379 9 (oAld [100] 10) := w_iaload (hm := mm379) (kt := 0) dX3_worthTo_9 at_0 (Nat.le_of_ble_eq_true rfl) (List.forall_mem_cons.mpr ⟨Or.inl rfl, (fun t ht => nomatch ht)⟩)
theorem n379_10 : Snd mt G 379 10 (oAld [106] 11) := w_aaload (hm := mm379) (kt := 6) dX3_worthTo_10 rfl at_6 (Nat.le_of_ble_eq_true rfl) (List.forall_mem_cons.mpr ⟨Or.inl rfl, (fun t ht => nomatch ht)⟩)
theorem n379_11 : Snd mt G 379 11 (oConst (.int 2) 12) := w_iconst (hm := mm379) dX3_worthTo_11 rfl
theorem n379_12 : Snd mt G 379 12 (oAld [100] 13) := w_iaload (hm := mm379) (kt := 0) dX3_worthTo_12 at_0 (Nat.le_of_ble_eq_true rfl) (List.forall_mem_cons.mpr ⟨Or.inl rfl, (fun t ht => nomatch ht)⟩)
theorem n379_13 : Snd mt G 379 13 (oAload 0 14) := w_aload_n (hm := mm379) dX3_worthTo_13
theorem n379_14 : Snd mt G 379 14 (oGetf [4] 46 17) := w_getf (hm := mm379) dX3_worthTo_14 (fok1 (k := 46) (T := TX3) 3 (Nat.le_of_ble_eq_true rfl) vc_3 (Nat.le_of_ble_eq_true rfl) q2451)
theorem n379_17 : Snd mt G 379 17 (oIload 2 18) := w_iload_n (hm := mm379) dX3_worthTo_17
theorem n379_18 : Snd mt G 379 18 (oAld [106] 19) := w_aaload (hm := mm379) (kt := 6) dX3_worthTo_18 rfl at_6 (Nat.le_of_ble_eq_true rfl) (List.forall_mem_cons.mpr ⟨Or.inl rfl, (fun t ht => nomatch ht)⟩)
theorem n379_19 : Snd mt G 379 19 (oConst (.int 0) 20) := w_iconst (hm := mm379) dX3_worthTo_19 rfl
theorem n379_20 : Snd mt G 379 20 (oAld [100] 21) := w_iaload (hm := mm379) (kt := 0) dX3_worthTo_20 at_0 (Nat.le_of_ble_eq_true rfl) (List.forall_mem_cons.mpr ⟨Or.inl rfl, (fun t ht => nomatch ht)⟩)
theorem n379_21 : Snd mt G 379 21 (oCmpGe 28 24) := w_icmp_ge (hm := mm379) dX3_worthTo_21 rfl
theorem n379_24 : Snd mt G 379 24 (oConst (.int (-1)) 25) := w_iconst (hm := mm379) dX3_worthTo_24 rfl
theorem n379_25 : Snd mt G 379 25 (oGoto 50) := w_goto (hm := mm379) dX3_worthTo_25 rfl
theorem n379_28 : Snd mt G 379 28 (oAload 0 29) := w_aload_n (hm := mm379) dX3_worthTo_28
theorem n379_29 : Snd mt G 379 29 (oGetf [4] 45 32) := w_getf (hm := mm379) dX3_worthTo_29 (fok1 (k := 45) (T := TX3) 3 (Nat.le_of_ble_eq_true rfl) vc_3 (Nat.le_of_ble_eq_true rfl) q2450)
theorem n379_32 : Snd mt G 379 32 (oAload 0 33) := w_aload_n (hm := mm379) dX3_worthTo_32
theorem n379_33 : Snd mt G 379 33 (oGetf [4] 59 36) := w_getf (hm := mm379) dX3_worthTo_33 (fok1 (k := 59) (T := TX3) 3 (Nat.le_of_ble_eq_true rfl) vc_3 (Nat.le_of_ble_eq_true rfl) q2464)
theorem n379_36 : Snd mt G 379 36 (oIload 1 37) := w_iload_n (hm := mm379) dX3_worthTo_36
theorem n379_37 : Snd mt G 379 37 (oAld [100] 38) := w_iaload (hm := mm379) (kt := 0) dX3_worthTo_37 at_0 (Nat.le_of_ble_eq_true rfl) (List.forall_mem_cons.mpr ⟨Or.inl rfl, (fun t ht => nomatch ht)⟩)
theorem n379_38 : Snd mt G 379 38 (oAld [106] 39) := w_aaload (hm := mm379) (kt := 6) dX3_worthTo_38 rfl at_6 (Nat.le_of_ble_eq_true rfl) (List.forall_mem_cons.mpr ⟨Or.inl rfl, (fun t ht => nomatch ht)⟩)
theorem n379_39 : Snd mt G 379 39 (oConst (.int 3) 40) := w_iconst (hm := mm379) dX3_worthTo_39 rfl
theorem n379_40 : Snd mt G 379 40 (oAload 0 41) := w_aload_n (hm := mm379) dX3_worthTo_40
theorem n379_41 : Snd mt G 379 41 (oGetf [4] 46 44) := w_getf (hm := mm379) dX3_worthTo_41 (fok1 (k := 46) (T := TX3) 3 (Nat.le_of_ble_eq_true rfl) vc_3 (Nat.le_of_ble_eq_true rfl) q2451)
theorem n379_44 : Snd mt G 379 44 (oIload 2 45) := w_iload_n (hm := mm379) dX3_worthTo_44
theorem n379_45 : Snd mt G 379 45 (oAld [106] 46) := w_aaload (hm := mm379) (kt := 6) dX3_worthTo_45 rfl at_6 (Nat.le_of_ble_eq_true rfl) (List.forall_mem_cons.mpr ⟨Or.inl rfl, (fun t ht => nomatch ht)⟩)
theorem n379_46 : Snd mt G 379 46 (oConst (.int 1) 47) := w_iconst (hm := mm379) dX3_worthTo_46 rfl
theorem n379_47 : Snd mt G 379 47 (oAld [100] 48) := w_iaload (hm := mm379) (kt := 0) dX3_worthTo_47 at_0 (Nat.le_of_ble_eq_true rfl) (List.forall_mem_cons.mpr ⟨Or.inl rfl, (fun t ht => nomatch ht)⟩)
theorem n379_48 : Snd mt G 379 48 (oBin (fun x y => x + y) 49) := w_iadd (hm := mm379) dX3_worthTo_48
theorem n379_49 : Snd mt G 379 49 (oAld [100] 50) := w_iaload (hm := mm379) (kt := 0) dX3_worthTo_49 at_0 (Nat.le_of_ble_eq_true rfl) (List.forall_mem_cons.mpr ⟨Or.inl rfl, (fun t ht => nomatch ht)⟩)
theorem n379_50 : Snd mt G 379 50 (oRetI .int) := w_iret (hm := mm379) dX3_worthTo_50 rfl
theorem sj379 : ∀ pc, Snd mt G 379 pc (j379 pc) := fun pc => (snd_br ((snd_br ((snd_br ((snd_br ((snd_br ((snd_br ((snd_lf n379_50)) ((snd_lf n379_49)))) ((snd_lf n379_48)))) ((snd_br ((snd_lf n379_47)) ((snd_lf n379_46)))))) ((snd_br ((snd_br ((snd_lf n379_45)) ((snd_lf n379_44)))) ((snd_br ((snd_lf n379_41)) ((snd_lf n379_40)))))))) ((snd_br ((snd_br ((snd_br ((snd_br ((snd_lf n379_39)) ((snd_lf n379_38)))) ((snd_lf n379_37)))) ((snd_br ((snd_lf n379_36)) ((snd_lf n379_33)))))) ((snd_br ((snd_br ((snd_lf n379_32)) ((snd_lf n379_29)))) ((snd_br ((snd_lf n379_28)) ((snd_lf n379_25)))))))))) ((snd_br ((snd_br ((snd_br ((snd_br ((snd_br ((snd_lf n379_24)) ((snd_lf n379_21)))) ((snd_lf n379_20)))) ((snd_br ((snd_lf n379_19)) ((snd_lf n379_18)))))) ((snd_br ((snd_br ((snd_lf n379_17)) ((snd_lf n379_14)))) ((snd_br ((snd_lf n379_13)) ((snd_lf n379_12)))))))) ((snd_br ((snd_br ((snd_br ((snd_lf n379_11)) ((snd_lf n379_10)))) ((snd_br ((snd_lf n379_9)) ((snd_lf n379_8)))))) ((snd_br ((snd_br ((snd_lf n379_5)) ((snd_lf n379_4)))) ((snd_br ((snd_lf n379_1)) ((snd_lf n379_0)))))))))))
end
section
variable {G : AG}
theorem n380_0 : Snd mt G 380 0 (oAload 0 1) := w_aload_n (hm := mm380) dX3_lending_0
theorem n380_1 : Snd mt G 380 1 (oConst (.int 0) 2) := w_iconst (hm := mm380) dX3_lending_1 rfl
theorem n380_2 : Snd mt G 380 2 (oPutf [4] 0 .int 5) := w_putf (hm := mm380) dX3_lending_2 (pok1 (k := 0) (T := TX3) 3 (Nat.le_of_ble_eq_true rfl) vc_3 (Nat.le_of_ble_eq_true rfl) rfl pd_X3_0 q2405)
theorem n380_5 : Snd mt G 380 5 (oAload 0 6) := w_aload_n (hm := mm380) dX3_lending_5
theorem n380_6 : Snd mt G 380 6 (oCall 1 (fV [4] 378 5) 0 9 xOut) := s_callV (m' := 378) (n := 0) xsh_out (w_xok0 mm380) (w_cal mm380 mm378 pn_X3 (Nat.le_of_ble_eq_true rfl) (Nat.le_of_ble_eq_true rfl)) (fun h b as hc hn => w_run_V (ci := 3) mm380 mm378 dX3_lending_6 (Or.inl (List.mem_singleton.mp hc)) (Nat.le_of_ble_eq_true rfl) vc_3 rfl q3004 q3006 qs112 q150 q3007 pa378 hn)
theorem n380_9 : Snd mt G 380 9 (oAload 0 10) := w_aload_n (hm := mm380) dX3_lending_9
theorem n380_10 : Snd mt G 380 10 (oGetf [4] 67 13) := w_getf (hm := mm380) dX3_lending_10 (fok1 (k := 67) (T := TX3) 3 (Nat.le_of_ble_eq_true rfl) vc_3 (Nat.le_of_ble_eq_true rfl) q2472)
theorem n380_13 : Snd mt G 380 13 (oConst (.int 0) 14) := w_iconst (hm := mm380) dX3_lending_13 rfl
theorem n380_14 : Snd mt G 380 14 (oAld [106] 15) := w_aaload (hm := mm380) (kt := 6) dX3_lending_14 rfl at_6 (Nat.le_of_ble_eq_true rfl) (List.forall_mem_cons.mpr ⟨Or.inl rfl, (fun t ht => nomatch ht)⟩)
theorem n380_15 : Snd mt G 380 15 (oConst (.int 0) 16) := w_iconst (hm := mm380) dX3_lending_15 rfl
theorem n380_16 : Snd mt G 380 16 (oAld [100] 17) := w_iaload (hm := mm380) (kt := 0) dX3_lending_16 at_0 (Nat.le_of_ble_eq_true rfl) (List.forall_mem_cons.mpr ⟨Or.inl rfl, (fun t ht => nomatch ht)⟩)
theorem n380_17 : Snd mt G 380 17 (oRetI .int) := w_iret (hm := mm380) dX3_lending_17 rfl
theorem sj380 : ∀ pc, Snd mt G 380 pc (j380 pc) := fun pc => (snd_br ((snd_br ((snd_br ((snd_br ((snd_lf n380_17)) ((snd_lf n380_16)))) ((snd_lf n380_15)))) ((snd_br ((snd_br ((snd_lf n380_14)) ((snd_lf n380_13)))) ((snd_lf n380_10)))))) ((snd_br ((snd_br ((snd_br ((snd_lf n380_9)) ((snd_lf n380_6)))) ((snd_lf n380_5)))) ((snd_br ((snd_br ((snd_lf n380_2)) ((snd_lf n380_1)))) ((snd_lf n380_0)))))))
end
section
variable {G : AG}
theorem n381_0 : Snd mt G 381 0 (oAload 0 1) := w_aload_n (hm := mm381) dX3_recall_0
theorem n381_1 : Snd mt G 381 1 (oConst (.int 0) 2) := w_iconst (hm := mm381) dX3_recall_1 rfl
theorem n381_2 : Snd mt G 381 2 (oPutf [4] 0 .int 5) := w_putf (hm := mm381) dX3_recall_2 (pok1 (k := 0) (T := TX3) 3 (Nat.le_of_ble_eq_true rfl) vc_3 (Nat.le_of_ble_eq_true rfl) rfl pd_X3_0 q2405)
theorem n381_5 : Snd mt G 381 5 (oAload 0 6) := w_aload_n (hm := mm381) dX3_recall_5
theorem n381_6 : Snd mt G 381 6 (oAload 0 7) := w_aload_n (hm := mm381) dX3_recall_6
theorem n381_7 : Snd mt G 381 7 (oIload 1 8) := w_iload_n (hm := mm381) dX3_recall_7
theorem n381_8 : Snd mt G 381 8 (oCall 2 (fV [4] 323 2) 0 11 xOut) := s_callV (m' := 323) (n := 1) xsh_out (w_xok0 mm381) (w_cal mm381 mm323 pn_X3 (Nat.le_of_ble_eq_true rfl) (Nat.le_of_ble_eq_true rfl)) (fun h b as hc hn => w_run_V (ci := 3) mm381 mm323 dX3_recall_8 (Or.inl (List.mem_singleton.mp hc)) (Nat.le_of_ble_eq_true rfl) vc_3 rfl q2786 q2788 qs87 q150 q2789 pa323 hn)
theorem n381_11 : Snd mt G 381 11 (oIfEq 14 18) := w_if_ne (hm := mm381) dX3_recall_11 rfl
theorem n381_14 : Snd mt G 381 14 (oConst (.int 1) 15) := w_iconst (hm := mm381) dX3_recall_14 rfl
theorem n381_15 : Snd mt G 381 15 (oGoto 19) := w_goto (hm := mm381) dX3_recall_15 rfl
theorem n381_18 : Snd mt G 381 18 (oConst (.int 0) 19) := w_iconst (hm := mm381) dX3_recall_18 rfl
theorem n381_19 : Snd mt G 381 19 (oConst (.int 1) 20) := w_iconst (hm := mm381) dX3_recall_19 rfl
theorem n381_20 : Snd mt G 381 20 (oCall 3 (fV [4] 285 3) 0 23 xOut) := s_callV (m' := 285) (n := 2) xsh_out (w_xok0 mm381) (w_cal mm381 mm285 pn_X3 (Nat.le_of_ble_eq_true rfl) (Nat.le_of_ble_eq_true rfl)) (fun h b as hc hn => w_run_V (ci := 3) mm381 mm285 dX3_recall_20 (Or.inl (List.mem_singleton.mp hc)) (Nat.le_of_ble_eq_true rfl) vc_3 rfl q2634 q2636 qs62 q150 q2637 pa285 hn)
theorem n381_23 : Snd mt G 381 23 (oIfEq 26 61) := w_if_ne (hm := mm381) dX3_recall_23 rfl
theorem n381_26 : Snd mt G 381 26 (oAload 0 27) := w_aload_n (hm := mm381) dX3_recall_26
theorem n381_27 : Snd mt G 381 27 (oIload 2 28) := w_iload_n (hm := mm381) dX3_recall_27
theorem n381_28 : Snd mt G 381 28 (oConst (.int 0) 29) := w_iconst (hm := mm381) dX3_recall_28 rfl
theorem n381_29 : Snd mt G 381 29 (oConst (.int 9999) 32) := w_sipush (hm := mm381) dX3_recall_29 (by decide)
theorem n381_32 : Snd mt G 381 32 (oCall 3 (fS 284 3) 0 35 xOut) := s_callS (m' := 284) (n := 3) xsh_out (w_xok0 mm381) (w_cal mm381 mm284 pn_X3 (Nat.le_of_ble_eq_true rfl) (Nat.le_of_ble_eq_true rfl)) (fun h as hn => w_run_S mm381 mm284 dX3_recall_32 q2631 q2632 q150 q2633 pa284 hn)
theorem n381_35 : Snd mt G 381 35 (oIfEq 49 38) := w_if_eq (hm := mm381) dX3_recall_35 rfl
theorem n381_38 : Snd mt G 381 38 (oIload 3 39) := w_iload_n (hm := mm381) dX3_recall_38
theorem n381_39 : Snd mt G 381 39 (oIload 2 40) := w_iload_n (hm := mm381) dX3_recall_39
theorem n381_40 : Snd mt G 381 40 (oConst (.int 9999) 43) := w_sipush (hm := mm381) dX3_recall_40 (by decide)
theorem n381_43 : Snd mt G 381 43 (oCall 3 (fS 284 3) 0 46 xOut) := s_callS (m' := 284) (n := 3) xsh_out (w_xok0 mm381) (w_cal mm381 mm284 pn_X3 (Nat.le_of_ble_eq_true rfl) (Nat.le_of_ble_eq_true rfl)) (fun h as hn => w_run_S mm381 mm284 dX3_recall_43 q2631 q2632 q150 q2633 pa284 hn)
theorem n381_46 : Snd mt G 381 46 (oIfEq 49 53) := w_if_ne (hm := mm381) dX3_recall_46 rfl
theorem n381_49 : Snd mt G 381 49 (oConst (.int 1) 50) := w_iconst (hm := mm381) dX3_recall_49 rfl
theorem n381_50 : Snd mt G 381 50 (oGoto 54) := w_goto (hm := mm381) dX3_recall_50 rfl
theorem n381_53 : Snd mt G 381 53 (oConst (.int 0) 54) := w_iconst (hm := mm381) dX3_recall_53 rfl
theorem n381_54 : Snd mt G 381 54 (oConst (.int 2) 55) := w_iconst (hm := mm381) dX3_recall_54 rfl
theorem n381_55 : Snd mt G 381 55 (oCall 3 (fV [4] 285 3) 0 58 xOut) := s_callV (m' := 285) (n := 2) xsh_out (w_xok0 mm381) (w_cal mm381 mm285 pn_X3 (Nat.le_of_ble_eq_true rfl) (Nat.le_of_ble_eq_true rfl)) (fun h b as hc hn => w_run_V (ci := 3) mm381 mm285 dX3_recall_55 (Or.inl (List.mem_singleton.mp hc)) (Nat.le_of_ble_eq_true rfl) vc_3 rfl q2634 q2636 qs62 q150 q2637 pa285 hn)
theorem n381_58 : Snd mt G 381 58 (oIfEq 63 61) := w_if_eq (hm := mm381) dX3_recall_58 rfl
theorem n381_61 : Snd mt G 381 61 (oConst (.int 0) 62) := w_iconst (hm := mm381) dX3_recall_61 rfl
theorem n381_62 : Snd mt G 381 62 (oRetI .int) := w_iret (hm := mm381) dX3_recall_62 rfl
theorem n381_63 : Snd mt G 381 63 (oConst (.int 0) 64) := w_iconst (hm := mm381) dX3_recall_63 rfl
theorem n381_64 : Snd mt G 381 64 (oIstore 4 66) := w_istore (hm := mm381) dX3_recall_64 (Nat.le_of_ble_eq_true rfl)
theorem n381_66 : Snd mt G 381 66 (oConst (.int 0) 67) := w_iconst (hm := mm381) dX3_recall_66 rfl
theorem n381_67 : Snd mt G 381 67 (oIstore 5 69) := w_istore (hm := mm381) dX3_recall_67 (Nat.le_of_ble_eq_true rfl)
theorem n381_69 : Snd mt G 381 69 (oIload 5 71) := w_iload (hm := mm381) dX3_recall_69
theorem n381_71 : Snd mt G 381 71 (oAload 0 72) := w_aload_n (hm := mm381) dX3_recall_71
theorem n381_72 : Snd mt G 381 72 (oGetf [4] 29 75) := w_getf (hm := mm381) dX3_recall_72 (fok1 (k := 29) (T := TX3) 3 (Nat.le_of_ble_eq_true rfl) vc_3 (Nat.le_of_ble_eq_true rfl) q2434)
theorem n381_75 : Snd mt G 381 75 (oCmpGe 153 78) := w_icmp_ge (hm := mm381) dX3_recall_75 rfl
theorem n381_78 : Snd mt G 381 78 (oAload 0 79) := w_aload_n (hm := mm381) dX3_recall_78
theorem n381_79 : Snd mt G 381 79 (oIload 5 81) := w_iload (hm := mm381) dX3_recall_79
theorem n381_81 : Snd mt G 381 81 (oAload 0 82) := w_aload_n (hm := mm381) dX3_recall_81
theorem n381_82 : Snd mt G 381 82 (oGetf [4] 45 85) := w_getf (hm := mm381) dX3_recall_82 (fok1 (k := 45) (T := TX3) 3 (Nat.le_of_ble_eq_true rfl) vc_3 (Nat.le_of_ble_eq_true rfl) q2450)
theorem n381_85 : Snd mt G 381 85 (oIload 1 86) := w_iload_n (hm := mm381) dX3_recall_85
theorem n381_86 : Snd mt G 381 86 (oAld [106] 87) := w_aaload (hm := mm381) (kt := 6) dX3_recall_86 rfl at_6 (Nat.le_of_ble_eq_true rfl) (List.forall_mem_cons.mpr ⟨Or.inl rfl, (fun t ht => nomatch ht)⟩)
theorem n381_87 : Snd mt G 381 87 (oConst (.int 0) 88) := w_iconst (hm := mm381) dX3_recall_87 rfl
theorem n381_88 : Snd mt G 381 88 (oAld [100] 89) := w_iaload (hm := mm381) (kt := 0) dX3_recall_88 at_0 (Nat.le_of_ble_eq_true rfl) (List.forall_mem_cons.mpr ⟨Or.inl rfl, (fun t ht => nomatch ht)⟩)
theorem n381_89 : Snd mt G 381 89 (oCall 3 (fV [4] 329 3) 0 92 xOut) := s_callV (m' := 329) (n := 2) xsh_out (w_xok0 mm381) (w_cal mm381 mm329 pn_X3 (Nat.le_of_ble_eq_true rfl) (Nat.le_of_ble_eq_true rfl)) (fun h b as hc hn => w_run_V (ci := 3) mm381 mm329 dX3_recall_89 (Or.inl (List.mem_singleton.mp hc)) (Nat.le_of_ble_eq_true rfl) vc_3 rfl q2810 q2812 qs92 q150 q2813 pa329 hn)
theorem n381_92 : Snd mt G 381 92 (oIfEq 95 98) := w_if_ne (hm := mm381) dX3_recall_92 rfl
theorem n381_95 : Snd mt G 381 95 (oGoto 147) := w_goto (hm := mm381) dX3_recall_95 rfl
theorem n381_98 : Snd mt G 381 98 (oAload 0 99) := w_aload_n (hm := mm381) dX3_recall_98
theorem n381_99 : Snd mt G 381 99 (oIload 5 101) := w_iload (hm := mm381) dX3_recall_99
theorem n381_101 : Snd mt G 381 101 (oAload 0 102) := w_aload_n (hm := mm381) dX3_recall_101
theorem n381_102 : Snd mt G 381 102 (oGetf [4] 45 105) := w_getf (hm := mm381) dX3_recall_102 (fok1 (k := 45) (T := TX3) 3 (Nat.le_of_ble_eq_true rfl) vc_3 (Nat.le_of_ble_eq_true rfl) q2450)
theorem n381_105 : Snd mt G 381 105 (oIload 1 106) := w_iload_n (hm := mm381) dX3_recall_105
theorem n381_106 : Snd mt G 381 106 (oAld [106] 107) := w_aaload (hm := mm381) (kt := 6) dX3_recall_106 rfl at_6 (Nat.le_of_ble_eq_true rfl) (List.forall_mem_cons.mpr ⟨Or.inl rfl, (fun t ht => nomatch ht)⟩)
theorem n381_107 : Snd mt G 381 107 (oConst (.int 0) 108) := w_iconst (hm := mm381) dX3_recall_107 rfl
theorem n381_108 : Snd mt G 381 108 (oAld [100] 109) := w_iaload (hm := mm381) (kt := 0) dX3_recall_108 at_0 (Nat.le_of_ble_eq_true rfl) (List.forall_mem_cons.mpr ⟨Or.inl rfl, (fun t ht => nomatch ht)⟩)
theorem n381_109 : Snd mt G 381 109 (oCall 3 (fV [4] 330 3) 0 112 xOut) := s_callV (m' := 330) (n := 2) xsh_out (w_xok0 mm381) (w_cal mm381 mm330 pn_X3 (Nat.le_of_ble_eq_true rfl) (Nat.le_of_ble_eq_true rfl)) (fun h b as hc hn => w_run_V (ci := 3) mm381 mm330 dX3_recall_109 (Or.inl (List.mem_singleton.mp hc)) (Nat.le_of_ble_eq_true rfl) vc_3 rfl q2814 q2816 qs93 q150 q2817 pa330 hn)
theorem n381_112 : Snd mt G 381 112 (oAstore 6 114) := w_astore (hm := mm381) dX3_recall_112 (Nat.le_of_ble_eq_true rfl)
theorem n381_114 : Snd mt G 381 114 (oIload 4 116) := w_iload (hm := mm381) dX3_recall_114
theorem n381_116 : Snd mt G 381 116 (oAload 6 118) := w_aload (hm := mm381) dX3_recall_116
theorem n381_118 : Snd mt G 381 118 (oConst (.int 0) 119) := w_iconst (hm := mm381) dX3_recall_118 rfl
theorem n381_119 : Snd mt G 381 119 (oAld [100] 120) := w_iaload (hm := mm381) (kt := 0) dX3_recall_119 at_0 (Nat.le_of_ble_eq_true rfl) (List.forall_mem_cons.mpr ⟨Or.inl rfl, (fun t ht => nomatch ht)⟩)
theorem n381_120 : Snd mt G 381 120 (oIload 1 121) := w_iload_n (hm := mm381) dX3_recall_120
theorem n381_121 : Snd mt G 381 121 (oCmpEq 124 143) := w_icmp_ne (hm := mm381) dX3_recall_121 rfl
theorem n381_124 : Snd mt G 381 124 (oAload 6 126) := w_aload (hm := mm381) dX3_recall_124
theorem n381_126 : Snd mt G 381 126 (oConst (.int 1) 127) := w_iconst (hm := mm381) dX3_recall_126 rfl
theorem n381_127 : Snd mt G 381 127 (oAld [100] 128) := w_iaload (hm := mm381) (kt := 0) dX3_recall_127 at_0 (Nat.le_of_ble_eq_true rfl) (List.forall_mem_cons.mpr ⟨Or.inl rfl, (fun t ht => nomatch ht)⟩)
theorem n381_128 : Snd mt G 381 128 (oIload 2 129) := w_iload_n (hm := mm381) dX3_recall_128
theorem n381_129 : Snd mt G 381 129 (oIload 3 130) := w_iload_n (hm := mm381) dX3_recall_129
theorem n381_130 : Snd mt G 381 130 (oCall 3 (fS 284 3) 0 133 xOut) := s_callS (m' := 284) (n := 3) xsh_out (w_xok0 mm381) (w_cal mm381 mm284 pn_X3 (Nat.le_of_ble_eq_true rfl) (Nat.le_of_ble_eq_true rfl)) (fun h as hn => w_run_S mm381 mm284 dX3_recall_130 q2631 q2632 q150 q2633 pa284 hn)
theorem n381_133 : Snd mt G 381 133 (oIfEq 143 136) := w_if_eq (hm := mm381) dX3_recall_133 rfl
theorem n381_136 : Snd mt G 381 136 (oConst (.int 1) 137) := w_iconst (hm := mm381) dX3_recall_136 rfl
theorem n381_137 : Snd mt G 381 137 (oIload 5 139) := w_iload (hm := mm381) dX3_recall_137
theorem n381_139 : Snd mt G 381 139 (oBin (fun x y => x <<< (y &&& 31)) 140) := w_ishl (hm := mm381) dX3_recall_139
theorem n381_140 : Snd mt G 381 140 (oGoto 144) := w_goto (hm := mm381) dX3_recall_140 rfl
theorem n381_143 : Snd mt G 381 143 (oConst (.int 0) 144) := w_iconst (hm := mm381) dX3_recall_143 rfl
theorem n381_144 : Snd mt G 381 144 (oBin (fun x y => x ||| y) 145) := w_ior (hm := mm381) dX3_recall_144
theorem n381_145 : Snd mt G 381 145 (oIstore 4 147) := w_istore (hm := mm381) dX3_recall_145 (Nat.le_of_ble_eq_true rfl)
theorem n381_147 : Snd mt G 381 147 (oIinc 5 1 150) := w_iinc (hm := mm381) dX3_recall_147 rfl (Nat.le_of_ble_eq_true rfl)
theorem n381_150 : Snd mt G 381 150 (oGoto 69) := w_goto (hm := mm381) dX3_recall_150 rfl
theorem n381_153 : Snd mt G 381 153 (oIload 4 155) := w_iload (hm := mm381) dX3_recall_153
theorem n381_155 : Snd mt G 381 155 (oRetI .int) := w_iret (hm := mm381) dX3_recall_155 rfl
theorem sj381 : ∀ pc, Snd mt G 381 pc (j381 pc) := fun pc => (snd_br ((snd_br ((snd_br ((snd_br ((snd_br ((snd_br ((snd_br ((snd_lf n381_155)) ((snd_lf n381_153)))) ((snd_lf n381_150)))) ((snd_br ((snd_br ((snd_lf n381_147)) ((snd_lf n381_145)))) ((snd_lf n381_144)))))) ((snd_br ((snd_br ((snd_br ((snd_lf n381_143)) ((snd_lf n381_140)))) ((snd_lf n381_139)))) ((snd_br ((snd_lf n381_137)) ((snd_lf n381_136)))))))) ((snd_br ((snd_br ((snd_br ((snd_br ((snd_lf n381_133)) ((snd_lf n381_130)))) ((snd_lf n381_129)))) ((snd_br ((snd_br ((snd_lf n381_128)) ((snd_lf n381_127)))) ((snd_lf n381_126)))))) ((snd_br ((snd_br ((snd_br ((snd_lf n381_124)) ((snd_lf n381_121)))) ((snd_lf n381_120)))) ((snd_br ((snd_lf n381_119)) ((snd_lf n381_118)))))))))) ((snd_br ((snd_br ((snd_br ((snd_br ((snd_br ((snd_lf n381_116)) ((snd_lf n381_114)))) ((snd_lf n381_112)))) ((snd_br ((snd_br ((snd_lf n381_109)) ((snd_lf n381_108)))) ((snd_lf n381_107)))))) ((snd_br ((snd_br ((snd_br ((snd_lf n381_106)) ((snd_lf n381_105)))) ((snd_lf n381_102)))) ((snd_br ((snd_lf n381_101)) ((snd_lf n381_99)))))))) ((snd_br ((snd_br ((snd_br ((snd_br ((snd_lf n381_98)) ((snd_lf n381_95)))) ((snd_lf n381_92)))) ((snd_br ((snd_lf n381_89)) ((snd_lf n381_88)))))) ((snd_br ((snd_br ((snd_br ((snd_lf n381_87)) ((snd_lf n381_86)))) ((snd_lf n381_85)))) ((snd_br ((snd_lf n381_82)) ((snd_lf n381_81)))))))))))) ((snd_br ((snd_br ((snd_br ((snd_br ((snd_br ((snd_br ((snd_lf n381_79)) ((snd_lf n381_78)))) ((snd_lf n381_75)))) ((snd_br ((snd_br ((snd_lf n381_72)) ((snd_lf n381_71)))) ((snd_lf n381_69)))))) ((snd_br ((snd_br ((snd_br ((snd_lf n381_67)) ((snd_lf n381_66)))) ((snd_lf n381_64)))) ((snd_br ((snd_lf n381_63)) ((snd_lf n381_62)))))))) ((snd_br ((snd_br ((snd_br ((snd_br ((snd_lf n381_61)) ((snd_lf n381_58)))) ((snd_lf n381_55)))) ((snd_br ((snd_br ((snd_lf n381_54)) ((snd_lf n381_53)))) ((snd_lf n381_50)))))) ((snd_br ((snd_br ((snd_br ((snd_lf n381_49)) ((snd_lf n381_46)))) ((snd_lf n381_43)))) ((snd_br ((snd_lf n381_40)) ((snd_lf n381_39)))))))))) ((snd_br ((snd_br ((snd_br ((snd_br ((snd_br ((snd_lf n381_38)) ((snd_lf n381_35)))) ((snd_lf n381_32)))) ((snd_br ((snd_br ((snd_lf n381_29)) ((snd_lf n381_28)))) ((snd_lf n381_27)))))) ((snd_br ((snd_br ((snd_br ((snd_lf n381_26)) ((snd_lf n381_23)))) ((snd_lf n381_20)))) ((snd_br ((snd_lf n381_19)) ((snd_lf n381_18)))))))) ((snd_br ((snd_br ((snd_br ((snd_br ((snd_lf n381_15)) ((snd_lf n381_14)))) ((snd_lf n381_11)))) ((snd_br ((snd_lf n381_8)) ((snd_lf n381_7)))))) ((snd_br ((snd_br ((snd_br ((snd_lf n381_6)) ((snd_lf n381_5)))) ((snd_lf n381_2)))) ((snd_br ((snd_lf n381_1)) ((snd_lf n381_0)))))))))))))
end
section
variable {G : AG}
theorem n382_0 : Snd mt G 382 0 (oAload 0 1) := w_aload_n (hm := mm382) dX3_recalled_0
theorem n382_1 : Snd mt G 382 1 (oConst (.int 0) 2) := w_iconst (hm := mm382) dX3_recalled_1 rfl
theorem n382_2 : Snd mt G 382 2 (oPutf [4] 0 .int 5) := w_putf (hm := mm382) dX3_recalled_2 (pok1 (k := 0) (T := TX3) 3 (Nat.le_of_ble_eq_true rfl) vc_3 (Nat.le_of_ble_eq_true rfl) rfl pd_X3_0 q2405)
theorem n382_5 : Snd mt G 382 5 (oConst (.int 0) 6) := w_iconst (hm := mm382) dX3_recalled_5 rfl
theorem n382_6 : Snd mt G 382 6 (oIstore 1 7) := w_istore_n (hm := mm382) dX3_recalled_6 (Nat.le_of_ble_eq_true rfl)
theorem n382_7 : Snd mt G 382 7 (oConst (.int 0) 8) := w_iconst (hm := mm382) dX3_recalled_7 rfl
theorem n382_8 : Snd mt G 382 8 (oIstore 2 9) := w_istore_n (hm := mm382) dX3_recalled_8 (Nat.le_of_ble_eq_true rfl)
theorem n382_9 : Snd mt G 382 9 (oIload 2 10) := w_iload_n (hm := mm382) dX3_recalled_9
theorem n382_10 : Snd mt G 382 10 (oAload 0 11) := w_aload_n (hm := mm382) dX3_recalled_10
theorem n382_11 : Snd mt G 382 11 (oGetf [4] 29 14) := w_getf (hm := mm382) dX3_recalled_11 (fok1 (k := 29) (T := TX3) 3 (Nat.le_of_ble_eq_true rfl) vc_3 (Nat.le_of_ble_eq_true rfl) q2434)
theorem n382_14 : Snd mt G 382 14 (oCmpGe 42 17) := w_icmp_ge (hm := mm382) dX3_recalled_14 rfl
theorem n382_17 : Snd mt G 382 17 (oIload 1 18) := w_iload_n (hm := mm382) dX3_recalled_17
theorem n382_18 : Snd mt G 382 18 (oAload 0 19) := w_aload_n (hm := mm382) dX3_recalled_18
theorem n382_19 : Snd mt G 382 19 (oIload 2 20) := w_iload_n (hm := mm382) dX3_recalled_19
theorem n382_20 : Snd mt G 382 20 (oCall 2 (fV [4] 383 6) 0 23 xOut) := s_callV (m' := 383) (n := 1) xsh_out (w_xok0 mm382) (w_cal mm382 mm383 pn_X3 (Nat.le_of_ble_eq_true rfl) (Nat.le_of_ble_eq_true rfl)) (fun h b as hc hn => w_run_V (ci := 3) mm382 mm383 dX3_recalled_20 (Or.inl (List.mem_singleton.mp hc)) (Nat.le_of_ble_eq_true rfl) vc_3 rfl q3024 q3026 qs114 q150 q3027 pa383 hn)
theorem n382_23 : Snd mt G 382 23 (oConst (.int (-1)) 24) := w_iconst (hm := mm382) dX3_recalled_23 rfl
theorem n382_24 : Snd mt G 382 24 (oCmpEq 27 31) := w_icmp_ne (hm := mm382) dX3_recalled_24 rfl
theorem n382_27 : Snd mt G 382 27 (oConst (.int 0) 28) := w_iconst (hm := mm382) dX3_recalled_27 rfl
theorem n382_28 : Snd mt G 382 28 (oGoto 34) := w_goto (hm := mm382) dX3_recalled_28 rfl
theorem n382_31 : Snd mt G 382 31 (oConst (.int 1) 32) := w_iconst (hm := mm382) dX3_recalled_31 rfl
theorem n382_32 : Snd mt G 382 32 (oIload 2 33) := w_iload_n (hm := mm382) dX3_recalled_32
theorem n382_33 : Snd mt G 382 33 (oBin (fun x y => x <<< (y &&& 31)) 34) := w_ishl (hm := mm382) dX3_recalled_33
theorem n382_34 : Snd mt G 382 34 (oBin (fun x y => x ||| y) 35) := w_ior (hm := mm382) dX3_recalled_34
theorem n382_35 : Snd mt G 382 35 (oIstore 1 36) := w_istore_n (hm := mm382) dX3_recalled_35 (Nat.le_of_ble_eq_true rfl)
theorem n382_36 : Snd mt G 382 36 (oIinc 2 1 39) := w_iinc (hm := mm382) dX3_recalled_36 rfl (Nat.le_of_ble_eq_true rfl)
theorem n382_39 : Snd mt G 382 39 (oGoto 9) := w_goto (hm := mm382) dX3_recalled_39 rfl
theorem n382_42 : Snd mt G 382 42 (oIload 1 43) := w_iload_n (hm := mm382) dX3_recalled_42
theorem n382_43 : Snd mt G 382 43 (oRetI .int) := w_iret (hm := mm382) dX3_recalled_43 rfl
theorem sj382 : ∀ pc, Snd mt G 382 pc (j382 pc) := fun pc => (snd_br ((snd_br ((snd_br ((snd_br ((snd_br ((snd_lf n382_43)) ((snd_lf n382_42)))) ((snd_br ((snd_lf n382_39)) ((snd_lf n382_36)))))) ((snd_br ((snd_br ((snd_lf n382_35)) ((snd_lf n382_34)))) ((snd_lf n382_33)))))) ((snd_br ((snd_br ((snd_br ((snd_lf n382_32)) ((snd_lf n382_31)))) ((snd_br ((snd_lf n382_28)) ((snd_lf n382_27)))))) ((snd_br ((snd_br ((snd_lf n382_24)) ((snd_lf n382_23)))) ((snd_lf n382_20)))))))) ((snd_br ((snd_br ((snd_br ((snd_br ((snd_lf n382_19)) ((snd_lf n382_18)))) ((snd_br ((snd_lf n382_17)) ((snd_lf n382_14)))))) ((snd_br ((snd_br ((snd_lf n382_11)) ((snd_lf n382_10)))) ((snd_lf n382_9)))))) ((snd_br ((snd_br ((snd_br ((snd_lf n382_8)) ((snd_lf n382_7)))) ((snd_br ((snd_lf n382_6)) ((snd_lf n382_5)))))) ((snd_br ((snd_br ((snd_lf n382_2)) ((snd_lf n382_1)))) ((snd_lf n382_0)))))))))
end
section
variable {G : AG}
theorem n383_0 : Snd mt G 383 0 (oAload 0 1) := w_aload_n (hm := mm383) dX3_called_0
theorem n383_1 : Snd mt G 383 1 (oIload 1 2) := w_iload_n (hm := mm383) dX3_called_1
theorem n383_2 : Snd mt G 383 2 (oCall 2 (fV [4] 324 2) 0 5 xOut) := s_callV (m' := 324) (n := 1) xsh_out (w_xok0 mm383) (w_cal mm383 mm324 pn_X3 (Nat.le_of_ble_eq_true rfl) (Nat.le_of_ble_eq_true rfl)) (fun h b as hc hn => w_run_V (ci := 3) mm383 mm324 dX3_called_2 (Or.inl (List.mem_singleton.mp hc)) (Nat.le_of_ble_eq_true rfl) vc_3 rfl q2790 q2792 qs88 q150 q2793 pa324 hn)
theorem n383_5 : Snd mt G 383 5 (oConst (.int (-1)) 6) := w_iconst (hm := mm383) dX3_called_5 rfl
theorem n383_6 : Snd mt G 383 6 (oIstore 2 7) := w_istore_n (hm := mm383) dX3_called_6 (Nat.le_of_ble_eq_true rfl)
theorem n383_7 : Snd mt G 383 7 (oConst (.int 0) 8) := w_iconst (hm := mm383) dX3_called_7 rfl
theorem n383_8 : Snd mt G 383 8 (oIstore 3 9) := w_istore_n (hm := mm383) dX3_called_8 (Nat.le_of_ble_eq_true rfl)
theorem n383_9 : Snd mt G 383 9 (oIload 3 10) := w_iload_n (hm := mm383) dX3_called_9
theorem n383_10 : Snd mt G 383 10 (oConst (.int 4) 11) := w_iconst (hm := mm383) dX3_called_10 rfl
theorem n383_11 : Snd mt G 383 11 (oCmpGe 113 14) := w_icmp_ge (hm := mm383) dX3_called_11 rfl
theorem n383_14 : Snd mt G 383 14 (oAload 0 15) := w_aload_n (hm := mm383) dX3_called_14
theorem n383_15 : Snd mt G 383 15 (oIload 1 16) := w_iload_n (hm := mm383) dX3_called_15
theorem n383_16 : Snd mt G 383 16 (oIload 3 17) := w_iload_n (hm := mm383) dX3_called_16
theorem n383_17 : Snd mt G 383 17 (oCall 3 (fV [4] 329 3) 0 20 xOut) := s_callV (m' := 329) (n := 2) xsh_out (w_xok0 mm383) (w_cal mm383 mm329 pn_X3 (Nat.le_of_ble_eq_true rfl) (Nat.le_of_ble_eq_true rfl)) (fun h b as hc hn => w_run_V (ci := 3) mm383 mm329 dX3_called_17 (Or.inl (List.mem_singleton.mp hc)) (Nat.le_of_ble_eq_true rfl) vc_3 rfl q2810 q2812 qs92 q150 q2813 pa329 hn)
theorem n383_20 : Snd mt G 383 20 (oIfEq 23 26) := w_if_ne (hm := mm383) dX3_called_20 rfl
theorem n383_23 : Snd mt G 383 23 (oGoto 107) := w_goto (hm := mm383) dX3_called_23 rfl
theorem n383_26 : Snd mt G 383 26 (oAload 0 27) := w_aload_n (hm := mm383) dX3_called_26
theorem n383_27 : Snd mt G 383 27 (oIload 1 28) := w_iload_n (hm := mm383) dX3_called_27
theorem n383_28 : Snd mt G 383 28 (oIload 3 29) := w_iload_n (hm := mm383) dX3_called_28
theorem n383_29 : Snd mt G 383 29 (oCall 3 (fV [4] 330 3) 0 32 xOut) := s_callV (m' := 330) (n := 2) xsh_out (w_xok0 mm383) (w_cal mm383 mm330 pn_X3 (Nat.le_of_ble_eq_true rfl) (Nat.le_of_ble_eq_true rfl)) (fun h b as hc hn => w_run_V (ci := 3) mm383 mm330 dX3_called_29 (Or.inl (List.mem_singleton.mp hc)) (Nat.le_of_ble_eq_true rfl) vc_3 rfl q2814 q2816 qs93 q150 q2817 pa330 hn)
theorem n383_32 : Snd mt G 383 32 (oAstore 4 34) := w_astore (hm := mm383) dX3_called_32 (Nat.le_of_ble_eq_true rfl)
theorem n383_34 : Snd mt G 383 34 (oConst (.int 0) 35) := w_iconst (hm := mm383) dX3_called_34 rfl
theorem n383_35 : Snd mt G 383 35 (oIstore 5 37) := w_istore (hm := mm383) dX3_called_35 (Nat.le_of_ble_eq_true rfl)
theorem n383_37 : Snd mt G 383 37 (oIload 5 39) := w_iload (hm := mm383) dX3_called_37
theorem n383_39 : Snd mt G 383 39 (oAload 0 40) := w_aload_n (hm := mm383) dX3_called_39
theorem n383_40 : Snd mt G 383 40 (oGetf [4] 25 43) := w_getf (hm := mm383) dX3_called_40 (fok1 (k := 25) (T := TX3) 3 (Nat.le_of_ble_eq_true rfl) vc_3 (Nat.le_of_ble_eq_true rfl) q2430)
theorem n383_43 : Snd mt G 383 43 (oCmpGe 107 46) := w_icmp_ge (hm := mm383) dX3_called_43 rfl
theorem n383_46 : Snd mt G 383 46 (oAload 0 47) := w_aload_n (hm := mm383) dX3_called_46
theorem n383_47 : Snd mt G 383 47 (oGetf [4] 26 50) := w_getf (hm := mm383) dX3_called_47 (fok1 (k := 26) (T := TX3) 3 (Nat.le_of_ble_eq_true rfl) vc_3 (Nat.le_of_ble_eq_true rfl) q2431)
theorem n383_50 : Snd mt G 383 50 (oIload 5 52) := w_iload (hm := mm383) dX3_called_50
theorem n383_52 : Snd mt G 383 52 (oAld [106] 53) := w_aaload (hm := mm383) (kt := 6) dX3_called_52 rfl at_6 (Nat.le_of_ble_eq_true rfl) (List.forall_mem_cons.mpr ⟨Or.inl rfl, (fun t ht => nomatch ht)⟩)
theorem n383_53 : Snd mt G 383 53 (oConst (.int 0) 54) := w_iconst (hm := mm383) dX3_called_53 rfl
theorem n383_54 : Snd mt G 383 54 (oAld [100] 55) := w_iaload (hm := mm383) (kt := 0) dX3_called_54 at_0 (Nat.le_of_ble_eq_true rfl) (List.forall_mem_cons.mpr ⟨Or.inl rfl, (fun t ht => nomatch ht)⟩)
theorem n383_55 : Snd mt G 383 55 (oAload 4 57) := w_aload (hm := mm383) dX3_called_55
theorem n383_57 : Snd mt G 383 57 (oConst (.int 0) 58) := w_iconst (hm := mm383) dX3_called_57 rfl
theorem n383_58 : Snd mt G 383 58 (oAld [100] 59) := w_iaload (hm := mm383) (kt := 0) dX3_called_58 at_0 (Nat.le_of_ble_eq_true rfl) (List.forall_mem_cons.mpr ⟨Or.inl rfl, (fun t ht => nomatch ht)⟩)
theorem n383_59 : Snd mt G 383 59 (oCmpEq 62 101) := w_icmp_ne (hm := mm383) dX3_called_59 rfl
theorem n383_62 : Snd mt G 383 62 (oAload 4 64) := w_aload (hm := mm383) dX3_called_62
theorem n383_64 : Snd mt G 383 64 (oConst (.int 1) 65) := w_iconst (hm := mm383) dX3_called_64 rfl
theorem n383_65 : Snd mt G 383 65 (oAld [100] 66) := w_iaload (hm := mm383) (kt := 0) dX3_called_65 at_0 (Nat.le_of_ble_eq_true rfl) (List.forall_mem_cons.mpr ⟨Or.inl rfl, (fun t ht => nomatch ht)⟩)
theorem n383_66 : Snd mt G 383 66 (oAload 0 67) := w_aload_n (hm := mm383) dX3_called_66
theorem n383_67 : Snd mt G 383 67 (oGetf [4] 26 70) := w_getf (hm := mm383) dX3_called_67 (fok1 (k := 26) (T := TX3) 3 (Nat.le_of_ble_eq_true rfl) vc_3 (Nat.le_of_ble_eq_true rfl) q2431)
theorem n383_70 : Snd mt G 383 70 (oIload 5 72) := w_iload (hm := mm383) dX3_called_70
theorem n383_72 : Snd mt G 383 72 (oAld [106] 73) := w_aaload (hm := mm383) (kt := 6) dX3_called_72 rfl at_6 (Nat.le_of_ble_eq_true rfl) (List.forall_mem_cons.mpr ⟨Or.inl rfl, (fun t ht => nomatch ht)⟩)
theorem n383_73 : Snd mt G 383 73 (oConst (.int 1) 74) := w_iconst (hm := mm383) dX3_called_73 rfl
theorem n383_74 : Snd mt G 383 74 (oAld [100] 75) := w_iaload (hm := mm383) (kt := 0) dX3_called_74 at_0 (Nat.le_of_ble_eq_true rfl) (List.forall_mem_cons.mpr ⟨Or.inl rfl, (fun t ht => nomatch ht)⟩)
theorem n383_75 : Snd mt G 383 75 (oAload 0 76) := w_aload_n (hm := mm383) dX3_called_75
theorem n383_76 : Snd mt G 383 76 (oGetf [4] 26 79) := w_getf (hm := mm383) dX3_called_76 (fok1 (k := 26) (T := TX3) 3 (Nat.le_of_ble_eq_true rfl) vc_3 (Nat.le_of_ble_eq_true rfl) q2431)
theorem n383_79 : Snd mt G 383 79 (oIload 5 81) := w_iload (hm := mm383) dX3_called_79
theorem n383_81 : Snd mt G 383 81 (oAld [106] 82) := w_aaload (hm := mm383) (kt := 6) dX3_called_81 rfl at_6 (Nat.le_of_ble_eq_true rfl) (List.forall_mem_cons.mpr ⟨Or.inl rfl, (fun t ht => nomatch ht)⟩)
theorem n383_82 : Snd mt G 383 82 (oConst (.int 2) 83) := w_iconst (hm := mm383) dX3_called_82 rfl
theorem n383_83 : Snd mt G 383 83 (oAld [100] 84) := w_iaload (hm := mm383) (kt := 0) dX3_called_83 at_0 (Nat.le_of_ble_eq_true rfl) (List.forall_mem_cons.mpr ⟨Or.inl rfl, (fun t ht => nomatch ht)⟩)
theorem n383_84 : Snd mt G 383 84 (oCall 3 (fS 284 3) 0 87 xOut) := s_callS (m' := 284) (n := 3) xsh_out (w_xok0 mm383) (w_cal mm383 mm284 pn_X3 (Nat.le_of_ble_eq_true rfl) (Nat.le_of_ble_eq_true rfl)) (fun h as hn => w_run_S mm383 mm284 dX3_called_84 q2631 q2632 q150 q2633 pa284 hn)
theorem n383_87 : Snd mt G 383 87 (oIfEq 101 90) := w_if_eq (hm := mm383) dX3_called_87 rfl
theorem n383_90 : Snd mt G 383 90 (oIload 2 91) := w_iload_n (hm := mm383) dX3_called_90
theorem n383_91 : Snd mt G 383 91 (oAload 0 92) := w_aload_n (hm := mm383) dX3_called_91
theorem n383_92 : Snd mt G 383 92 (oIload 1 93) := w_iload_n (hm := mm383) dX3_called_92
theorem n383_93 : Snd mt G 383 93 (oIload 3 94) := w_iload_n (hm := mm383) dX3_called_93
theorem n383_94 : Snd mt G 383 94 (oCall 3 (fV [4] 335 3) 0 97 xOut) := s_callV (m' := 335) (n := 2) xsh_out (w_xok0 mm383) (w_cal mm383 mm335 pn_X3 (Nat.le_of_ble_eq_true rfl) (Nat.le_of_ble_eq_true rfl)) (fun h b as hc hn => w_run_V (ci := 3) mm383 mm335 dX3_called_94 (Or.inl (List.mem_singleton.mp hc)) (Nat.le_of_ble_eq_true rfl) vc_3 rfl q2834 q2836 qs96 q150 q2837 pa335 hn)
theorem n383_97 : Snd mt G 383 97 (oCall 2 (fS 347 2) 0 100 xOut) := s_callS (m' := 347) (n := 2) xsh_out (w_xok0 mm383) (w_cal mm383 mm347 pn_X3 (Nat.le_of_ble_eq_true rfl) (Nat.le_of_ble_eq_true rfl)) (fun h as hn => w_run_S mm383 mm347 dX3_called_97 q2881 q2882 q150 q2883 pa347 hn)
theorem n383_100 : Snd mt G 383 100 (oIstore 2 101) := w_istore_n (hm := mm383) dX3_called_100 (Nat.le_of_ble_eq_true rfl)
theorem n383_101 : Snd mt G 383 101 (oIinc 5 1 104) := w_iinc (hm := mm383) dX3_called_101 rfl (Nat.le_of_ble_eq_true rfl)
theorem n383_104 : Snd mt G 383 104 (oGoto 37) := w_goto (hm := mm383) dX3_called_104 rfl
theorem n383_107 : Snd mt G 383 107 (oIinc 3 1 110) := w_iinc (hm := mm383) dX3_called_107 rfl (Nat.le_of_ble_eq_true rfl)
theorem n383_110 : Snd mt G 383 110 (oGoto 9) := w_goto (hm := mm383) dX3_called_110 rfl
theorem n383_113 : Snd mt G 383 113 (oIload 2 114) := w_iload_n (hm := mm383) dX3_called_113
theorem n383_114 : Snd mt G 383 114 (oRetI .int) := w_iret (hm := mm383) dX3_called_114 rfl
theorem sj383 : ∀ pc, Snd mt G 383 pc (j383 pc) := fun pc => (snd_br ((snd_br ((snd_br ((snd_br ((snd_br ((snd_br ((snd_br ((snd_lf n383_114)) ((snd_lf n383_113)))) ((snd_lf n383_110)))) ((snd_br ((snd_lf n383_107)) ((snd_lf n383_104)))))) ((snd_br ((snd_br ((snd_lf n383_101)) ((snd_lf n383_100)))) ((snd_br ((snd_lf n383_97)) ((snd_lf n383_94)))))))) ((snd_br ((snd_br ((snd_br ((snd_lf n383_93)) ((snd_lf n383_92)))) ((snd_br ((snd_lf n383_91)) ((snd_lf n383_90)))))) ((snd_br ((snd_br ((snd_lf n383_87)) ((snd_lf n383_84)))) ((snd_br ((snd_lf n383_83)) ((snd_lf n383_82)))))))))) ((snd_br ((snd_br ((snd_br ((snd_br ((snd_br ((snd_lf n383_81)) ((snd_lf n383_79)))) ((snd_lf n383_76)))) ((snd_br ((snd_lf n383_75)) ((snd_lf n383_74)))))) ((snd_br ((snd_br ((snd_lf n383_73)) ((snd_lf n383_72)))) ((snd_br ((snd_lf n383_70)) ((snd_lf n383_67)))))))) ((snd_br ((snd_br ((snd_br ((snd_lf n383_66)) ((snd_lf n383_65)))) ((snd_br ((snd_lf n383_64)) ((snd_lf n383_62)))))) ((snd_br ((snd_br ((snd_lf n383_59)) ((snd_lf n383_58)))) ((snd_br ((snd_lf n383_57)) ((snd_lf n383_55)))))))))))) ((snd_br ((snd_br ((snd_br ((snd_br ((snd_br ((snd_br ((snd_lf n383_54)) ((snd_lf n383_53)))) ((snd_lf n383_52)))) ((snd_br ((snd_lf n383_50)) ((snd_lf n383_47)))))) ((snd_br ((snd_br ((snd_lf n383_46)) ((snd_lf n383_43)))) ((snd_br ((snd_lf n383_40)) ((snd_lf n383_39)))))))) ((snd_br ((snd_br ((snd_br ((snd_lf n383_37)) ((snd_lf n383_35)))) ((snd_br ((snd_lf n383_34)) ((snd_lf n383_32)))))) ((snd_br ((snd_br ((snd_lf n383_29)) ((snd_lf n383_28)))) ((snd_br ((snd_lf n383_27)) ((snd_lf n383_26)))))))))) ((snd_br ((snd_br ((snd_br ((snd_br ((snd_lf n383_23)) ((snd_lf n383_20)))) ((snd_br ((snd_lf n383_17)) ((snd_lf n383_16)))))) ((snd_br ((snd_br ((snd_lf n383_15)) ((snd_lf n383_14)))) ((snd_br ((snd_lf n383_11)) ((snd_lf n383_10)))))))) ((snd_br ((snd_br ((snd_br ((snd_lf n383_9)) ((snd_lf n383_8)))) ((snd_br ((snd_lf n383_7)) ((snd_lf n383_6)))))) ((snd_br ((snd_br ((snd_lf n383_5)) ((snd_lf n383_2)))) ((snd_br ((snd_lf n383_1)) ((snd_lf n383_0)))))))))))))
end
section
variable {G : AG}
theorem n384_0 : Snd mt G 384 0 (oAload 0 1) := w_aload_n (hm := mm384) dX3_seen_0
theorem n384_1 : Snd mt G 384 1 (oConst (.int 0) 2) := w_iconst (hm := mm384) dX3_seen_1 rfl
theorem n384_2 : Snd mt G 384 2 (oPutf [4] 0 .int 5) := w_putf (hm := mm384) dX3_seen_2 (pok1 (k := 0) (T := TX3) 3 (Nat.le_of_ble_eq_true rfl) vc_3 (Nat.le_of_ble_eq_true rfl) rfl pd_X3_0 q2405)
theorem n384_5 : Snd mt G 384 5 (oAload 0 6) := w_aload_n (hm := mm384) dX3_seen_5
theorem n384_6 : Snd mt G 384 6 (oAload 0 7) := w_aload_n (hm := mm384) dX3_seen_6
theorem n384_7 : Snd mt G 384 7 (oIload 1 8) := w_iload_n (hm := mm384) dX3_seen_7
theorem n384_8 : Snd mt G 384 8 (oCall 2 (fV [4] 316 2) 0 11 xOut) := s_callV (m' := 316) (n := 1) xsh_out (w_xok0 mm384) (w_cal mm384 mm316 pn_X3 (Nat.le_of_ble_eq_true rfl) (Nat.le_of_ble_eq_true rfl)) (fun h b as hc hn => w_run_V (ci := 3) mm384 mm316 dX3_seen_8 (Or.inl (List.mem_singleton.mp hc)) (Nat.le_of_ble_eq_true rfl) vc_3 rfl q2758 q2760 qs84 q150 q2761 pa316 hn)
theorem n384_11 : Snd mt G 384 11 (oIfEq 14 18) := w_if_ne (hm := mm384) dX3_seen_11 rfl
theorem n384_14 : Snd mt G 384 14 (oConst (.int 1) 15) := w_iconst (hm := mm384) dX3_seen_14 rfl
theorem n384_15 : Snd mt G 384 15 (oGoto 19) := w_goto (hm := mm384) dX3_seen_15 rfl
theorem n384_18 : Snd mt G 384 18 (oConst (.int 0) 19) := w_iconst (hm := mm384) dX3_seen_18 rfl
theorem n384_19 : Snd mt G 384 19 (oConst (.int 1) 20) := w_iconst (hm := mm384) dX3_seen_19 rfl
theorem n384_20 : Snd mt G 384 20 (oCall 3 (fV [4] 285 3) 0 23 xOut) := s_callV (m' := 285) (n := 2) xsh_out (w_xok0 mm384) (w_cal mm384 mm285 pn_X3 (Nat.le_of_ble_eq_true rfl) (Nat.le_of_ble_eq_true rfl)) (fun h b as hc hn => w_run_V (ci := 3) mm384 mm285 dX3_seen_20 (Or.inl (List.mem_singleton.mp hc)) (Nat.le_of_ble_eq_true rfl) vc_3 rfl q2634 q2636 qs62 q150 q2637 pa285 hn)
theorem n384_23 : Snd mt G 384 23 (oIfEq 26 48) := w_if_ne (hm := mm384) dX3_seen_23 rfl
theorem n384_26 : Snd mt G 384 26 (oAload 0 27) := w_aload_n (hm := mm384) dX3_seen_26
theorem n384_27 : Snd mt G 384 27 (oIload 2 28) := w_iload_n (hm := mm384) dX3_seen_27
theorem n384_28 : Snd mt G 384 28 (oConst (.int 1) 29) := w_iconst (hm := mm384) dX3_seen_28 rfl
theorem n384_29 : Snd mt G 384 29 (oConst (.int 5) 30) := w_iconst (hm := mm384) dX3_seen_29 rfl
theorem n384_30 : Snd mt G 384 30 (oCall 3 (fS 284 3) 0 33 xOut) := s_callS (m' := 284) (n := 3) xsh_out (w_xok0 mm384) (w_cal mm384 mm284 pn_X3 (Nat.le_of_ble_eq_true rfl) (Nat.le_of_ble_eq_true rfl)) (fun h as hn => w_run_S mm384 mm284 dX3_seen_30 q2631 q2632 q150 q2633 pa284 hn)
theorem n384_33 : Snd mt G 384 33 (oIfEq 36 40) := w_if_ne (hm := mm384) dX3_seen_33 rfl
theorem n384_36 : Snd mt G 384 36 (oConst (.int 1) 37) := w_iconst (hm := mm384) dX3_seen_36 rfl
theorem n384_37 : Snd mt G 384 37 (oGoto 41) := w_goto (hm := mm384) dX3_seen_37 rfl
theorem n384_40 : Snd mt G 384 40 (oConst (.int 0) 41) := w_iconst (hm := mm384) dX3_seen_40 rfl
theorem n384_41 : Snd mt G 384 41 (oConst (.int 2) 42) := w_iconst (hm := mm384) dX3_seen_41 rfl
theorem n384_42 : Snd mt G 384 42 (oCall 3 (fV [4] 285 3) 0 45 xOut) := s_callV (m' := 285) (n := 2) xsh_out (w_xok0 mm384) (w_cal mm384 mm285 pn_X3 (Nat.le_of_ble_eq_true rfl) (Nat.le_of_ble_eq_true rfl)) (fun h b as hc hn => w_run_V (ci := 3) mm384 mm285 dX3_seen_42 (Or.inl (List.mem_singleton.mp hc)) (Nat.le_of_ble_eq_true rfl) vc_3 rfl q2634 q2636 qs62 q150 q2637 pa285 hn)
theorem n384_45 : Snd mt G 384 45 (oIfEq 50 48) := w_if_eq (hm := mm384) dX3_seen_45 rfl
theorem n384_48 : Snd mt G 384 48 (oConst (.int 0) 49) := w_iconst (hm := mm384) dX3_seen_48 rfl
theorem n384_49 : Snd mt G 384 49 (oRetI .int) := w_iret (hm := mm384) dX3_seen_49 rfl
theorem n384_50 : Snd mt G 384 50 (oAload 0 51) := w_aload_n (hm := mm384) dX3_seen_50
theorem n384_51 : Snd mt G 384 51 (oIload 1 52) := w_iload_n (hm := mm384) dX3_seen_51
theorem n384_52 : Snd mt G 384 52 (oCall 2 (fV [4] 383 6) 0 55 xOut) := s_callV (m' := 383) (n := 1) xsh_out (w_xok0 mm384) (w_cal mm384 mm383 pn_X3 (Nat.le_of_ble_eq_true rfl) (Nat.le_of_ble_eq_true rfl)) (fun h b as hc hn => w_run_V (ci := 3) mm384 mm383 dX3_seen_52 (Or.inl (List.mem_singleton.mp hc)) (Nat.le_of_ble_eq_true rfl) vc_3 rfl q3024 q3026 qs114 q150 q3027 pa383 hn)
theorem n384_55 : Snd mt G 384 55 (oIstore 3 56) := w_istore_n (hm := mm384) dX3_seen_55 (Nat.le_of_ble_eq_true rfl)
theorem n384_56 : Snd mt G 384 56 (oConst (.int 0) 57) := w_iconst (hm := mm384) dX3_seen_56 rfl
theorem n384_57 : Snd mt G 384 57 (oIstore 4 59) := w_istore (hm := mm384) dX3_seen_57 (Nat.le_of_ble_eq_true rfl)
theorem n384_59 : Snd mt G 384 59 (oIload 3 60) := w_iload_n (hm := mm384) dX3_seen_59
theorem n384_60 : Snd mt G 384 60 (oConst (.int (-1)) 61) := w_iconst (hm := mm384) dX3_seen_60 rfl
theorem n384_61 : Snd mt G 384 61 (oCmpEq 64 66) := w_icmp_ne (hm := mm384) dX3_seen_61 rfl
theorem n384_64 : Snd mt G 384 64 (oConst (.int (-1)) 65) := w_iconst (hm := mm384) dX3_seen_64 rfl
theorem n384_65 : Snd mt G 384 65 (oRetI .int) := w_iret (hm := mm384) dX3_seen_65 rfl
theorem n384_66 : Snd mt G 384 66 (oConst (.int 0) 67) := w_iconst (hm := mm384) dX3_seen_66 rfl
theorem n384_67 : Snd mt G 384 67 (oIstore 5 69) := w_istore (hm := mm384) dX3_seen_67 (Nat.le_of_ble_eq_true rfl)
theorem n384_69 : Snd mt G 384 69 (oIload 5 71) := w_iload (hm := mm384) dX3_seen_69
theorem n384_71 : Snd mt G 384 71 (oAload 0 72) := w_aload_n (hm := mm384) dX3_seen_71
theorem n384_72 : Snd mt G 384 72 (oGetf [4] 29 75) := w_getf (hm := mm384) dX3_seen_72 (fok1 (k := 29) (T := TX3) 3 (Nat.le_of_ble_eq_true rfl) vc_3 (Nat.le_of_ble_eq_true rfl) q2434)
theorem n384_75 : Snd mt G 384 75 (oCmpGe 120 78) := w_icmp_ge (hm := mm384) dX3_seen_75 rfl
theorem n384_78 : Snd mt G 384 78 (oIload 4 80) := w_iload (hm := mm384) dX3_seen_78
theorem n384_80 : Snd mt G 384 80 (oAload 0 81) := w_aload_n (hm := mm384) dX3_seen_80
theorem n384_81 : Snd mt G 384 81 (oIload 5 83) := w_iload (hm := mm384) dX3_seen_81
theorem n384_83 : Snd mt G 384 83 (oCall 2 (fV [4] 383 6) 0 86 xOut) := s_callV (m' := 383) (n := 1) xsh_out (w_xok0 mm384) (w_cal mm384 mm383 pn_X3 (Nat.le_of_ble_eq_true rfl) (Nat.le_of_ble_eq_true rfl)) (fun h b as hc hn => w_run_V (ci := 3) mm384 mm383 dX3_seen_83 (Or.inl (List.mem_singleton.mp hc)) (Nat.le_of_ble_eq_true rfl) vc_3 rfl q3024 q3026 qs114 q150 q3027 pa383 hn)
theorem n384_86 : Snd mt G 384 86 (oIload 3 87) := w_iload_n (hm := mm384) dX3_seen_86
theorem n384_87 : Snd mt G 384 87 (oCmpGt 106 90) := w_icmp_gt (hm := mm384) dX3_seen_87 rfl
theorem n384_90 : Snd mt G 384 90 (oIload 5 92) := w_iload (hm := mm384) dX3_seen_90
theorem n384_92 : Snd mt G 384 92 (oIload 1 93) := w_iload_n (hm := mm384) dX3_seen_92
theorem n384_93 : Snd mt G 384 93 (oCmpGe 110 96) := w_icmp_ge (hm := mm384) dX3_seen_93 rfl
theorem n384_96 : Snd mt G 384 96 (oAload 0 97) := w_aload_n (hm := mm384) dX3_seen_96
theorem n384_97 : Snd mt G 384 97 (oIload 5 99) := w_iload (hm := mm384) dX3_seen_97
theorem n384_99 : Snd mt G 384 99 (oCall 2 (fV [4] 383 6) 0 102 xOut) := s_callV (m' := 383) (n := 1) xsh_out (w_xok0 mm384) (w_cal mm384 mm383 pn_X3 (Nat.le_of_ble_eq_true rfl) (Nat.le_of_ble_eq_true rfl)) (fun h b as hc hn => w_run_V (ci := 3) mm384 mm383 dX3_seen_99 (Or.inl (List.mem_singleton.mp hc)) (Nat.le_of_ble_eq_true rfl) vc_3 rfl q3024 q3026 qs114 q150 q3027 pa383 hn)
theorem n384_102 : Snd mt G 384 102 (oIload 3 103) := w_iload_n (hm := mm384) dX3_seen_102
theorem n384_103 : Snd mt G 384 103 (oCmpEq 106 110) := w_icmp_ne (hm := mm384) dX3_seen_103 rfl
theorem n384_106 : Snd mt G 384 106 (oConst (.int 1) 107) := w_iconst (hm := mm384) dX3_seen_106 rfl
theorem n384_107 : Snd mt G 384 107 (oGoto 111) := w_goto (hm := mm384) dX3_seen_107 rfl
theorem n384_110 : Snd mt G 384 110 (oConst (.int 0) 111) := w_iconst (hm := mm384) dX3_seen_110 rfl
theorem n384_111 : Snd mt G 384 111 (oBin (fun x y => x + y) 112) := w_iadd (hm := mm384) dX3_seen_111
theorem n384_112 : Snd mt G 384 112 (oIstore 4 114) := w_istore (hm := mm384) dX3_seen_112 (Nat.le_of_ble_eq_true rfl)
theorem n384_114 : Snd mt G 384 114 (oIinc 5 1 117) := w_iinc (hm := mm384) dX3_seen_114 rfl (Nat.le_of_ble_eq_true rfl)
theorem n384_117 : Snd mt G 384 117 (oGoto 69) := w_goto (hm := mm384) dX3_seen_117 rfl
theorem n384_120 : Snd mt G 384 120 (oIload 4 122) := w_iload (hm := mm384) dX3_seen_120
theorem n384_122 : Snd mt G 384 122 (oIload 2 123) := w_iload_n (hm := mm384) dX3_seen_122
theorem n384_123 : Snd mt G 384 123 (oDiv (fun x y => x / y) 124) := w_idiv (hm := mm384) dX3_seen_123
theorem n384_124 : Snd mt G 384 124 (oRetI .int) := w_iret (hm := mm384) dX3_seen_124 rfl
theorem sj384 : ∀ pc, Snd mt G 384 pc (j384 pc) := fun pc => (snd_br ((snd_br ((snd_br ((snd_br ((snd_br ((snd_br ((snd_br ((snd_lf n384_124)) ((snd_lf n384_123)))) ((snd_lf n384_122)))) ((snd_br ((snd_lf n384_120)) ((snd_lf n384_117)))))) ((snd_br ((snd_br ((snd_lf n384_114)) ((snd_lf n384_112)))) ((snd_br ((snd_lf n384_111)) ((snd_lf n384_110)))))))) ((snd_br ((snd_br ((snd_br ((snd_br ((snd_lf n384_107)) ((snd_lf n384_106)))) ((snd_lf n384_103)))) ((snd_br ((snd_lf n384_102)) ((snd_lf n384_99)))))) ((snd_br ((snd_br ((snd_lf n384_97)) ((snd_lf n384_96)))) ((snd_br ((snd_lf n384_93)) ((snd_lf n384_92)))))))))) ((snd_br ((snd_br ((snd_br ((snd_br ((snd_br ((snd_lf n384_90)) ((snd_lf n384_87)))) ((snd_lf n384_86)))) ((snd_br ((snd_lf n384_83)) ((snd_lf n384_81)))))) ((snd_br ((snd_br ((snd_lf n384_80)) ((snd_lf n384_78)))) ((snd_br ((snd_lf n384_75)) ((snd_lf n384_72)))))))) ((snd_br ((snd_br ((snd_br ((snd_lf n384_71)) ((snd_lf n384_69)))) ((snd_br ((snd_lf n384_67)) ((snd_lf n384_66)))))) ((snd_br ((snd_br ((snd_lf n384_65)) ((snd_lf n384_64)))) ((snd_br ((snd_lf n384_61)) ((snd_lf n384_60)))))))))))) ((snd_br ((snd_br ((snd_br ((snd_br ((snd_br ((snd_br ((snd_lf n384_59)) ((snd_lf n384_57)))) ((snd_lf n384_56)))) ((snd_br ((snd_lf n384_55)) ((snd_lf n384_52)))))) ((snd_br ((snd_br ((snd_lf n384_51)) ((snd_lf n384_50)))) ((snd_br ((snd_lf n384_49)) ((snd_lf n384_48)))))))) ((snd_br ((snd_br ((snd_br ((snd_br ((snd_lf n384_45)) ((snd_lf n384_42)))) ((snd_lf n384_41)))) ((snd_br ((snd_lf n384_40)) ((snd_lf n384_37)))))) ((snd_br ((snd_br ((snd_lf n384_36)) ((snd_lf n384_33)))) ((snd_br ((snd_lf n384_30)) ((snd_lf n384_29)))))))))) ((snd_br ((snd_br ((snd_br ((snd_br ((snd_br ((snd_lf n384_28)) ((snd_lf n384_27)))) ((snd_lf n384_26)))) ((snd_br ((snd_lf n384_23)) ((snd_lf n384_20)))))) ((snd_br ((snd_br ((snd_lf n384_19)) ((snd_lf n384_18)))) ((snd_br ((snd_lf n384_15)) ((snd_lf n384_14)))))))) ((snd_br ((snd_br ((snd_br ((snd_lf n384_11)) ((snd_lf n384_8)))) ((snd_br ((snd_lf n384_7)) ((snd_lf n384_6)))))) ((snd_br ((snd_br ((snd_lf n384_5)) ((snd_lf n384_2)))) ((snd_br ((snd_lf n384_1)) ((snd_lf n384_0)))))))))))))
end
section
variable {G : AG}
theorem n385_0 : Snd mt G 385 0 (oAload 0 1) := w_aload_n (hm := mm385) dX3_measure_0
theorem n385_1 : Snd mt G 385 1 (oConst (.int 0) 2) := w_iconst (hm := mm385) dX3_measure_1 rfl
theorem n385_2 : Snd mt G 385 2 (oPutf [4] 0 .int 5) := w_putf (hm := mm385) dX3_measure_2 (pok1 (k := 0) (T := TX3) 3 (Nat.le_of_ble_eq_true rfl) vc_3 (Nat.le_of_ble_eq_true rfl) rfl pd_X3_0 q2405)
theorem n385_5 : Snd mt G 385 5 (oAload 0 6) := w_aload_n (hm := mm385) dX3_measure_5
theorem n385_6 : Snd mt G 385 6 (oAload 0 7) := w_aload_n (hm := mm385) dX3_measure_6
theorem n385_7 : Snd mt G 385 7 (oIload 1 8) := w_iload_n (hm := mm385) dX3_measure_7
theorem n385_8 : Snd mt G 385 8 (oCall 2 (fV [4] 316 2) 0 11 xOut) := s_callV (m' := 316) (n := 1) xsh_out (w_xok0 mm385) (w_cal mm385 mm316 pn_X3 (Nat.le_of_ble_eq_true rfl) (Nat.le_of_ble_eq_true rfl)) (fun h b as hc hn => w_run_V (ci := 3) mm385 mm316 dX3_measure_8 (Or.inl (List.mem_singleton.mp hc)) (Nat.le_of_ble_eq_true rfl) vc_3 rfl q2758 q2760 qs84 q150 q2761 pa316 hn)
theorem n385_11 : Snd mt G 385 11 (oIfEq 14 18) := w_if_ne (hm := mm385) dX3_measure_11 rfl
theorem n385_14 : Snd mt G 385 14 (oConst (.int 1) 15) := w_iconst (hm := mm385) dX3_measure_14 rfl
theorem n385_15 : Snd mt G 385 15 (oGoto 19) := w_goto (hm := mm385) dX3_measure_15 rfl
theorem n385_18 : Snd mt G 385 18 (oConst (.int 0) 19) := w_iconst (hm := mm385) dX3_measure_18 rfl
theorem n385_19 : Snd mt G 385 19 (oConst (.int 1) 20) := w_iconst (hm := mm385) dX3_measure_19 rfl
theorem n385_20 : Snd mt G 385 20 (oCall 3 (fV [4] 285 3) 0 23 xOut) := s_callV (m' := 285) (n := 2) xsh_out (w_xok0 mm385) (w_cal mm385 mm285 pn_X3 (Nat.le_of_ble_eq_true rfl) (Nat.le_of_ble_eq_true rfl)) (fun h b as hc hn => w_run_V (ci := 3) mm385 mm285 dX3_measure_20 (Or.inl (List.mem_singleton.mp hc)) (Nat.le_of_ble_eq_true rfl) vc_3 rfl q2634 q2636 qs62 q150 q2637 pa285 hn)
theorem n385_23 : Snd mt G 385 23 (oIfEq 26 62) := w_if_ne (hm := mm385) dX3_measure_23 rfl
theorem n385_26 : Snd mt G 385 26 (oAload 0 27) := w_aload_n (hm := mm385) dX3_measure_26
theorem n385_27 : Snd mt G 385 27 (oIload 2 28) := w_iload_n (hm := mm385) dX3_measure_27
theorem n385_28 : Snd mt G 385 28 (oConst (.int 0) 29) := w_iconst (hm := mm385) dX3_measure_28 rfl
theorem n385_29 : Snd mt G 385 29 (oAload 0 30) := w_aload_n (hm := mm385) dX3_measure_29
theorem n385_30 : Snd mt G 385 30 (oGetf [4] 27 33) := w_getf (hm := mm385) dX3_measure_30 (fok1 (k := 27) (T := TX3) 3 (Nat.le_of_ble_eq_true rfl) vc_3 (Nat.le_of_ble_eq_true rfl) q2432)
theorem n385_33 : Snd mt G 385 33 (oCall 3 (fS 284 3) 0 36 xOut) := s_callS (m' := 284) (n := 3) xsh_out (w_xok0 mm385) (w_cal mm385 mm284 pn_X3 (Nat.le_of_ble_eq_true rfl) (Nat.le_of_ble_eq_true rfl)) (fun h as hn => w_run_S mm385 mm284 dX3_measure_33 q2631 q2632 q150 q2633 pa284 hn)
theorem n385_36 : Snd mt G 385 36 (oIfEq 50 39) := w_if_eq (hm := mm385) dX3_measure_36 rfl
theorem n385_39 : Snd mt G 385 39 (oIload 3 40) := w_iload_n (hm := mm385) dX3_measure_39
theorem n385_40 : Snd mt G 385 40 (oConst (.int 0) 41) := w_iconst (hm := mm385) dX3_measure_40 rfl
theorem n385_41 : Snd mt G 385 41 (oConst (.int 999) 44) := w_sipush (hm := mm385) dX3_measure_41 (by decide)
theorem n385_44 : Snd mt G 385 44 (oCall 3 (fS 284 3) 0 47 xOut) := s_callS (m' := 284) (n := 3) xsh_out (w_xok0 mm385) (w_cal mm385 mm284 pn_X3 (Nat.le_of_ble_eq_true rfl) (Nat.le_of_ble_eq_true rfl)) (fun h as hn => w_run_S mm385 mm284 dX3_measure_44 q2631 q2632 q150 q2633 pa284 hn)
theorem n385_47 : Snd mt G 385 47 (oIfEq 50 54) := w_if_ne (hm := mm385) dX3_measure_47 rfl
theorem n385_50 : Snd mt G 385 50 (oConst (.int 1) 51) := w_iconst (hm := mm385) dX3_measure_50 rfl
theorem n385_51 : Snd mt G 385 51 (oGoto 55) := w_goto (hm := mm385) dX3_measure_51 rfl
theorem n385_54 : Snd mt G 385 54 (oConst (.int 0) 55) := w_iconst (hm := mm385) dX3_measure_54 rfl
theorem n385_55 : Snd mt G 385 55 (oConst (.int 2) 56) := w_iconst (hm := mm385) dX3_measure_55 rfl
theorem n385_56 : Snd mt G 385 56 (oCall 3 (fV [4] 285 3) 0 59 xOut) := s_callV (m' := 285) (n := 2) xsh_out (w_xok0 mm385) (w_cal mm385 mm285 pn_X3 (Nat.le_of_ble_eq_true rfl) (Nat.le_of_ble_eq_true rfl)) (fun h b as hc hn => w_run_V (ci := 3) mm385 mm285 dX3_measure_56 (Or.inl (List.mem_singleton.mp hc)) (Nat.le_of_ble_eq_true rfl) vc_3 rfl q2634 q2636 qs62 q150 q2637 pa285 hn)
theorem n385_59 : Snd mt G 385 59 (oIfEq 64 62) := w_if_eq (hm := mm385) dX3_measure_59 rfl
theorem n385_62 : Snd mt G 385 62 (oConst (.int 0) 63) := w_iconst (hm := mm385) dX3_measure_62 rfl
theorem n385_63 : Snd mt G 385 63 (oRetI .int) := w_iret (hm := mm385) dX3_measure_63 rfl
theorem n385_64 : Snd mt G 385 64 (oAload 0 65) := w_aload_n (hm := mm385) dX3_measure_64
theorem n385_65 : Snd mt G 385 65 (oGetf [4] 42 68) := w_getf (hm := mm385) dX3_measure_65 (fok1 (k := 42) (T := TX3) 3 (Nat.le_of_ble_eq_true rfl) vc_3 (Nat.le_of_ble_eq_true rfl) q2447)
theorem n385_68 : Snd mt G 385 68 (oConst (.int 24) 70) := w_bipush (hm := mm385) dX3_measure_68 (by decide)
theorem n385_70 : Snd mt G 385 70 (oCmpEq 73 75) := w_icmp_ne (hm := mm385) dX3_measure_70 rfl
theorem n385_73 : Snd mt G 385 73 (oConst (.int (-1)) 74) := w_iconst (hm := mm385) dX3_measure_73 rfl
theorem n385_74 : Snd mt G 385 74 (oRetI .int) := w_iret (hm := mm385) dX3_measure_74 rfl
theorem n385_75 : Snd mt G 385 75 (oAload 0 76) := w_aload_n (hm := mm385) dX3_measure_75
theorem n385_76 : Snd mt G 385 76 (oIload 1 77) := w_iload_n (hm := mm385) dX3_measure_76
theorem n385_77 : Snd mt G 385 77 (oCall 2 (fV [4] 386 4) 0 80 xOut) := s_callV (m' := 386) (n := 1) xsh_out (w_xok0 mm385) (w_cal mm385 mm386 pn_X3 (Nat.le_of_ble_eq_true rfl) (Nat.le_of_ble_eq_true rfl)) (fun h b as hc hn => w_run_V (ci := 3) mm385 mm386 dX3_measure_77 (Or.inl (List.mem_singleton.mp hc)) (Nat.le_of_ble_eq_true rfl) vc_3 rfl q3036 q3038 qs115 q150 q3039 pa386 hn)
theorem n385_80 : Snd mt G 385 80 (oIstore 4 82) := w_istore (hm := mm385) dX3_measure_80 (Nat.le_of_ble_eq_true rfl)
theorem n385_82 : Snd mt G 385 82 (oIload 4 84) := w_iload (hm := mm385) dX3_measure_82
theorem n385_84 : Snd mt G 385 84 (oConst (.int (-1)) 85) := w_iconst (hm := mm385) dX3_measure_84 rfl
theorem n385_85 : Snd mt G 385 85 (oCmpEq 104 88) := w_icmp_eq (hm := mm385) dX3_measure_85 rfl
theorem n385_88 : Snd mt G 385 88 (oIload 2 89) := w_iload_n (hm := mm385) dX3_measure_88
theorem n385_89 : Snd mt G 385 89 (oAload 0 90) := w_aload_n (hm := mm385) dX3_measure_89
theorem n385_90 : Snd mt G 385 90 (oGetf [4] 53 93) := w_getf (hm := mm385) dX3_measure_90 (fok1 (k := 53) (T := TX3) 3 (Nat.le_of_ble_eq_true rfl) vc_3 (Nat.le_of_ble_eq_true rfl) q2458)
theorem n385_93 : Snd mt G 385 93 (oIload 4 95) := w_iload (hm := mm385) dX3_measure_93
theorem n385_95 : Snd mt G 385 95 (oAld [106] 96) := w_aaload (hm := mm385) (kt := 6) dX3_measure_95 rfl at_6 (Nat.le_of_ble_eq_true rfl) (List.forall_mem_cons.mpr ⟨Or.inl rfl, (fun t ht => nomatch ht)⟩)
theorem n385_96 : Snd mt G 385 96 (oConst (.int 1) 97) := w_iconst (hm := mm385) dX3_measure_96 rfl
theorem n385_97 : Snd mt G 385 97 (oAld [100] 98) := w_iaload (hm := mm385) (kt := 0) dX3_measure_97 at_0 (Nat.le_of_ble_eq_true rfl) (List.forall_mem_cons.mpr ⟨Or.inl rfl, (fun t ht => nomatch ht)⟩)
theorem n385_98 : Snd mt G 385 98 (oCmpGe 104 101) := w_icmp_ge (hm := mm385) dX3_measure_98 rfl
theorem n385_101 : Snd mt G 385 101 (oConst (.int (-2)) 103) := w_bipush (hm := mm385) dX3_measure_101 (by decide)
theorem n385_103 : Snd mt G 385 103 (oRetI .int) := w_iret (hm := mm385) dX3_measure_103 rfl
theorem n385_104 : Snd mt G 385 104 (oAload 0 105) := w_aload_n (hm := mm385) dX3_measure_104
theorem n385_105 : Snd mt G 385 105 (oGetf [4] 53 108) := w_getf (hm := mm385) dX3_measure_105 (fok1 (k := 53) (T := TX3) 3 (Nat.le_of_ble_eq_true rfl) vc_3 (Nat.le_of_ble_eq_true rfl) q2458)
theorem n385_108 : Snd mt G 385 108 (oAload 0 109) := w_aload_n (hm := mm385) dX3_measure_108
theorem n385_109 : Snd mt G 385 109 (oGetf [4] 42 112) := w_getf (hm := mm385) dX3_measure_109 (fok1 (k := 42) (T := TX3) 3 (Nat.le_of_ble_eq_true rfl) vc_3 (Nat.le_of_ble_eq_true rfl) q2447)
theorem n385_112 : Snd mt G 385 112 (oAld [106] 113) := w_aaload (hm := mm385) (kt := 6) dX3_measure_112 rfl at_6 (Nat.le_of_ble_eq_true rfl) (List.forall_mem_cons.mpr ⟨Or.inl rfl, (fun t ht => nomatch ht)⟩)
theorem n385_113 : Snd mt G 385 113 (oConst (.int 0) 114) := w_iconst (hm := mm385) dX3_measure_113 rfl
theorem n385_114 : Snd mt G 385 114 (oIload 1 115) := w_iload_n (hm := mm385) dX3_measure_114
theorem n385_115 : Snd mt G 385 115 (oIast [100] 116) := w_iastore (hm := mm385) (kt := 0) dX3_measure_115 at_0 (Nat.le_of_ble_eq_true rfl) (List.forall_mem_cons.mpr ⟨rfl, (fun t ht => nomatch ht)⟩)
theorem n385_116 : Snd mt G 385 116 (oAload 0 117) := w_aload_n (hm := mm385) dX3_measure_116
theorem n385_117 : Snd mt G 385 117 (oGetf [4] 53 120) := w_getf (hm := mm385) dX3_measure_117 (fok1 (k := 53) (T := TX3) 3 (Nat.le_of_ble_eq_true rfl) vc_3 (Nat.le_of_ble_eq_true rfl) q2458)
theorem n385_120 : Snd mt G 385 120 (oAload 0 121) := w_aload_n (hm := mm385) dX3_measure_120
theorem n385_121 : Snd mt G 385 121 (oGetf [4] 42 124) := w_getf (hm := mm385) dX3_measure_121 (fok1 (k := 42) (T := TX3) 3 (Nat.le_of_ble_eq_true rfl) vc_3 (Nat.le_of_ble_eq_true rfl) q2447)
theorem n385_124 : Snd mt G 385 124 (oAld [106] 125) := w_aaload (hm := mm385) (kt := 6) dX3_measure_124 rfl at_6 (Nat.le_of_ble_eq_true rfl) (List.forall_mem_cons.mpr ⟨Or.inl rfl, (fun t ht => nomatch ht)⟩)
theorem n385_125 : Snd mt G 385 125 (oConst (.int 1) 126) := w_iconst (hm := mm385) dX3_measure_125 rfl
theorem n385_126 : Snd mt G 385 126 (oIload 2 127) := w_iload_n (hm := mm385) dX3_measure_126
theorem n385_127 : Snd mt G 385 127 (oIast [100] 128) := w_iastore (hm := mm385) (kt := 0) dX3_measure_127 at_0 (Nat.le_of_ble_eq_true rfl) (List.forall_mem_cons.mpr ⟨rfl, (fun t ht => nomatch ht)⟩)
theorem n385_128 : Snd mt G 385 128 (oAload 0 129) := w_aload_n (hm := mm385) dX3_measure_128
theorem n385_129 : Snd mt G 385 129 (oGetf [4] 53 132) := w_getf (hm := mm385) dX3_measure_129 (fok1 (k := 53) (T := TX3) 3 (Nat.le_of_ble_eq_true rfl) vc_3 (Nat.le_of_ble_eq_true rfl) q2458)
theorem n385_132 : Snd mt G 385 132 (oAload 0 133) := w_aload_n (hm := mm385) dX3_measure_132
theorem n385_133 : Snd mt G 385 133 (oGetf [4] 42 136) := w_getf (hm := mm385) dX3_measure_133 (fok1 (k := 42) (T := TX3) 3 (Nat.le_of_ble_eq_true rfl) vc_3 (Nat.le_of_ble_eq_true rfl) q2447)
theorem n385_136 : Snd mt G 385 136 (oAld [106] 137) := w_aaload (hm := mm385) (kt := 6) dX3_measure_136 rfl at_6 (Nat.le_of_ble_eq_true rfl) (List.forall_mem_cons.mpr ⟨Or.inl rfl, (fun t ht => nomatch ht)⟩)
theorem n385_137 : Snd mt G 385 137 (oConst (.int 2) 138) := w_iconst (hm := mm385) dX3_measure_137 rfl
theorem n385_138 : Snd mt G 385 138 (oIload 3 139) := w_iload_n (hm := mm385) dX3_measure_138
theorem n385_139 : Snd mt G 385 139 (oIast [100] 140) := w_iastore (hm := mm385) (kt := 0) dX3_measure_139 at_0 (Nat.le_of_ble_eq_true rfl) (List.forall_mem_cons.mpr ⟨rfl, (fun t ht => nomatch ht)⟩)
theorem n385_140 : Snd mt G 385 140 (oAload 0 141) := w_aload_n (hm := mm385) dX3_measure_140
theorem n385_141 : Snd mt G 385 141 (oDup 142) := w_dup (hm := mm385) dX3_measure_141
theorem n385_142 : Snd mt G 385 142 (oGetf [4] 42 145) := w_getf (hm := mm385) dX3_measure_142 (fok1 (k := 42) (T := TX3) 3 (Nat.le_of_ble_eq_true rfl) vc_3 (Nat.le_of_ble_eq_true rfl) q2447)
theorem n385_145 : Snd mt G 385 145 (oConst (.int 1) 146) := w_iconst (hm := mm385) dX3_measure_145 rfl
theorem n385_146 : Snd mt G 385 146 (oBin (fun x y => x + y) 147) := w_iadd (hm := mm385) dX3_measure_146
theorem n385_147 : Snd mt G 385 147 (oPutf [4] 42 .int 150) := w_putf (hm := mm385) dX3_measure_147 (pok1 (k := 42) (T := TX3) 3 (Nat.le_of_ble_eq_true rfl) vc_3 (Nat.le_of_ble_eq_true rfl) rfl pd_X3_42 q2447)
theorem n385_150 : Snd mt G 385 150 (oAload 0 151) := w_aload_n (hm := mm385) dX3_measure_150
theorem n385_151 : Snd mt G 385 151 (oGetf [4] 42 154) := w_getf (hm := mm385) dX3_measure_151 (fok1 (k := 42) (T := TX3) 3 (Nat.le_of_ble_eq_true rfl) vc_3 (Nat.le_of_ble_eq_true rfl) q2447)
theorem n385_154 : Snd mt G 385 154 (oRetI .int) := w_iret (hm := mm385) dX3_measure_154 rfl
theorem sj385 : ∀ pc, Snd mt G 385 pc (j385 pc) := fun pc => (snd_br ((snd_br ((snd_br ((snd_br ((snd_br ((snd_br ((snd_br ((snd_lf n385_154)) ((snd_lf n385_151)))) ((snd_lf n385_150)))) ((snd_br ((snd_br ((snd_lf n385_147)) ((snd_lf n385_146)))) ((snd_lf n385_145)))))) ((snd_br ((snd_br ((snd_br ((snd_lf n385_142)) ((snd_lf n385_141)))) ((snd_lf n385_140)))) ((snd_br ((snd_br ((snd_lf n385_139)) ((snd_lf n385_138)))) ((snd_lf n385_137)))))))) ((snd_br ((snd_br ((snd_br ((snd_br ((snd_lf n385_136)) ((snd_lf n385_133)))) ((snd_lf n385_132)))) ((snd_br ((snd_br ((snd_lf n385_129)) ((snd_lf n385_128)))) ((snd_lf n385_127)))))) ((snd_br ((snd_br ((snd_br ((snd_lf n385_126)) ((snd_lf n385_125)))) ((snd_lf n385_124)))) ((snd_br ((snd_lf n385_121)) ((snd_lf n385_120)))))))))) ((snd_br ((snd_br ((snd_br ((snd_br ((snd_br ((snd_lf n385_117)) ((snd_lf n385_116)))) ((snd_lf n385_115)))) ((snd_br ((snd_br ((snd_lf n385_114)) ((snd_lf n385_113)))) ((snd_lf n385_112)))))) ((snd_br ((snd_br ((snd_br ((snd_lf n385_109)) ((snd_lf n385_108)))) ((snd_lf n385_105)))) ((snd_br ((snd_lf n385_104)) ((snd_lf n385_103)))))))) ((snd_br ((snd_br ((snd_br ((snd_br ((snd_lf n385_101)) ((snd_lf n385_98)))) ((snd_lf n385_97)))) ((snd_br ((snd_br ((snd_lf n385_96)) ((snd_lf n385_95)))) ((snd_lf n385_93)))))) ((snd_br ((snd_br ((snd_br ((snd_lf n385_90)) ((snd_lf n385_89)))) ((snd_lf n385_88)))) ((snd_br ((snd_lf n385_85)) ((snd_lf n385_84)))))))))))) ((snd_br ((snd_br ((snd_br ((snd_br ((snd_br ((snd_br ((snd_lf n385_82)) ((snd_lf n385_80)))) ((snd_lf n385_77)))) ((snd_br ((snd_br ((snd_lf n385_76)) ((snd_lf n385_75)))) ((snd_lf n385_74)))))) ((snd_br ((snd_br ((snd_br ((snd_lf n385_73)) ((snd_lf n385_70)))) ((snd_lf n385_68)))) ((snd_br ((snd_br ((snd_lf n385_65)) ((snd_lf n385_64)))) ((snd_lf n385_63)))))))) ((snd_br ((snd_br ((snd_br ((snd_br ((snd_lf n385_62)) ((snd_lf n385_59)))) ((snd_lf n385_56)))) ((snd_br ((snd_br ((snd_lf n385_55)) ((snd_lf n385_54)))) ((snd_lf n385_51)))))) ((snd_br ((snd_br ((snd_br ((snd_lf n385_50)) ((snd_lf n385_47)))) ((snd_lf n385_44)))) ((snd_br ((snd_lf n385_41)) ((snd_lf n385_40)))))))))) ((snd_br ((snd_br ((snd_br ((snd_br ((snd_br ((snd_lf n385_39)) ((snd_lf n385_36)))) ((snd_lf n385_33)))) ((snd_br ((snd_br ((snd_lf n385_30)) ((snd_lf n385_29)))) ((snd_lf n385_28)))))) ((snd_br ((snd_br ((snd_br ((snd_lf n385_27)) ((snd_lf n385_26)))) ((snd_lf n385_23)))) ((snd_br ((snd_lf n385_20)) ((snd_lf n385_19)))))))) ((snd_br ((snd_br ((snd_br ((snd_br ((snd_lf n385_18)) ((snd_lf n385_15)))) ((snd_lf n385_14)))) ((snd_br ((snd_br ((snd_lf n385_11)) ((snd_lf n385_8)))) ((snd_lf n385_7)))))) ((snd_br ((snd_br ((snd_br ((snd_lf n385_6)) ((snd_lf n385_5)))) ((snd_lf n385_2)))) ((snd_br ((snd_lf n385_1)) ((snd_lf n385_0)))))))))))))
end
section
variable {G : AG}
theorem n386_0 : Snd mt G 386 0 (oConst (.int (-1)) 1) := w_iconst (hm := mm386) dX3_latest_0 rfl
theorem n386_1 : Snd mt G 386 1 (oIstore 2 2) := w_istore_n (hm := mm386) dX3_latest_1 (Nat.le_of_ble_eq_true rfl)
theorem n386_2 : Snd mt G 386 2 (oConst (.int 0) 3) := w_iconst (hm := mm386) dX3_latest_2 rfl
theorem n386_3 : Snd mt G 386 3 (oIstore 3 4) := w_istore_n (hm := mm386) dX3_latest_3 (Nat.le_of_ble_eq_true rfl)
theorem n386_4 : Snd mt G 386 4 (oIload 3 5) := w_iload_n (hm := mm386) dX3_latest_4
theorem n386_5 : Snd mt G 386 5 (oAload 0 6) := w_aload_n (hm := mm386) dX3_latest_5
theorem n386_6 : Snd mt G 386 6 (oGetf [4] 42 9) := w_getf (hm := mm386) dX3_latest_6 (fok1 (k := 42) (T := TX3) 3 (Nat.le_of_ble_eq_true rfl) vc_3 (Nat.le_of_ble_eq_true rfl) q2447)
theorem n386_9 : Snd mt G 386 9 (oCmpGe 36 12) := w_icmp_ge (hm := mm386) dX3_latest_9 rfl
theorem n386_12 : Snd mt G 386 12 (oAload 0 13) := w_aload_n (hm := mm386) dX3_latest_12
theorem n386_13 : Snd mt G 386 13 (oGetf [4] 53 16) := w_getf (hm := mm386) dX3_latest_13 (fok1 (k := 53) (T := TX3) 3 (Nat.le_of_ble_eq_true rfl) vc_3 (Nat.le_of_ble_eq_true rfl) q2458)
theorem n386_16 : Snd mt G 386 16 (oIload 3 17) := w_iload_n (hm := mm386) dX3_latest_16
theorem n386_17 : Snd mt G 386 17 (oAld [106] 18) := w_aaload (hm := mm386) (kt := 6) dX3_latest_17 rfl at_6 (Nat.le_of_ble_eq_true rfl) (List.forall_mem_cons.mpr ⟨Or.inl rfl, (fun t ht => nomatch ht)⟩)
theorem n386_18 : Snd mt G 386 18 (oConst (.int 0) 19) := w_iconst (hm := mm386) dX3_latest_18 rfl
theorem n386_19 : Snd mt G 386 19 (oAld [100] 20) := w_iaload (hm := mm386) (kt := 0) dX3_latest_19 at_0 (Nat.le_of_ble_eq_true rfl) (List.forall_mem_cons.mpr ⟨Or.inl rfl, (fun t ht => nomatch ht)⟩)
theorem n386_20 : Snd mt G 386 20 (oIload 1 21) := w_iload_n (hm := mm386) dX3_latest_20
theorem n386_21 : Snd mt G 386 21 (oCmpEq 24 28) := w_icmp_ne (hm := mm386) dX3_latest_21 rfl
theorem n386_24 : Snd mt G 386 24 (oIload 3 25) := w_iload_n (hm := mm386) dX3_latest_24
theorem n386_25 : Snd mt G 386 25 (oGoto 29) := w_goto (hm := mm386) dX3_latest_25 rfl
theorem n386_28 : Snd mt G 386 28 (oIload 2 29) := w_iload_n (hm := mm386) dX3_latest_28
theorem n386_29 : Snd mt G 386 29 (oIstore 2 30) := w_istore_n (hm := mm386) dX3_latest_29 (Nat.le_of_ble_eq_true rfl)
theorem n386_30 : Snd mt G 386 30 (oIinc 3 1 33) := w_iinc (hm := mm386) dX3_latest_30 rfl (Nat.le_of_ble_eq_true rfl)
theorem n386_33 : Snd mt G 386 33 (oGoto 4) := w_goto (hm := mm386) dX3_latest_33 rfl
theorem n386_36 : Snd mt G 386 36 (oIload 2 37) := w_iload_n (hm := mm386) dX3_latest_36
theorem n386_37 : Snd mt G 386 37 (oRetI .int) := w_iret (hm := mm386) dX3_latest_37 rfl
theorem sj386 : ∀ pc, Snd mt G 386 pc (j386 pc) := fun pc => (snd_br ((snd_br ((snd_br ((snd_br ((snd_br ((snd_lf n386_37)) ((snd_lf n386_36)))) ((snd_lf n386_33)))) ((snd_br ((snd_br ((snd_lf n386_30)) ((snd_lf n386_29)))) ((snd_lf n386_28)))))) ((snd_br ((snd_br ((snd_br ((snd_lf n386_25)) ((snd_lf n386_24)))) ((snd_lf n386_21)))) ((snd_br ((snd_br ((snd_lf n386_20)) ((snd_lf n386_19)))) ((snd_lf n386_18)))))))) ((snd_br ((snd_br ((snd_br ((snd_br ((snd_lf n386_17)) ((snd_lf n386_16)))) ((snd_lf n386_13)))) ((snd_br ((snd_br ((snd_lf n386_12)) ((snd_lf n386_9)))) ((snd_lf n386_6)))))) ((snd_br ((snd_br ((snd_br ((snd_lf n386_5)) ((snd_lf n386_4)))) ((snd_lf n386_3)))) ((snd_br ((snd_br ((snd_lf n386_2)) ((snd_lf n386_1)))) ((snd_lf n386_0)))))))))
end
section
variable {G : AG}
theorem n387_0 : Snd mt G 387 0 (oAload 0 1) := w_aload_n (hm := mm387) dX3_growth_0
theorem n387_1 : Snd mt G 387 1 (oConst (.int 0) 2) := w_iconst (hm := mm387) dX3_growth_1 rfl
theorem n387_2 : Snd mt G 387 2 (oPutf [4] 0 .int 5) := w_putf (hm := mm387) dX3_growth_2 (pok1 (k := 0) (T := TX3) 3 (Nat.le_of_ble_eq_true rfl) vc_3 (Nat.le_of_ble_eq_true rfl) rfl pd_X3_0 q2405)
theorem n387_5 : Snd mt G 387 5 (oAload 0 6) := w_aload_n (hm := mm387) dX3_growth_5
theorem n387_6 : Snd mt G 387 6 (oAload 0 7) := w_aload_n (hm := mm387) dX3_growth_6
theorem n387_7 : Snd mt G 387 7 (oIload 1 8) := w_iload_n (hm := mm387) dX3_growth_7
theorem n387_8 : Snd mt G 387 8 (oCall 2 (fV [4] 316 2) 0 11 xOut) := s_callV (m' := 316) (n := 1) xsh_out (w_xok0 mm387) (w_cal mm387 mm316 pn_X3 (Nat.le_of_ble_eq_true rfl) (Nat.le_of_ble_eq_true rfl)) (fun h b as hc hn => w_run_V (ci := 3) mm387 mm316 dX3_growth_8 (Or.inl (List.mem_singleton.mp hc)) (Nat.le_of_ble_eq_true rfl) vc_3 rfl q2758 q2760 qs84 q150 q2761 pa316 hn)
theorem n387_11 : Snd mt G 387 11 (oIfEq 14 18) := w_if_ne (hm := mm387) dX3_growth_11 rfl
theorem n387_14 : Snd mt G 387 14 (oConst (.int 1) 15) := w_iconst (hm := mm387) dX3_growth_14 rfl
theorem n387_15 : Snd mt G 387 15 (oGoto 19) := w_goto (hm := mm387) dX3_growth_15 rfl
theorem n387_18 : Snd mt G 387 18 (oConst (.int 0) 19) := w_iconst (hm := mm387) dX3_growth_18 rfl
theorem n387_19 : Snd mt G 387 19 (oConst (.int 1) 20) := w_iconst (hm := mm387) dX3_growth_19 rfl
theorem n387_20 : Snd mt G 387 20 (oCall 3 (fV [4] 285 3) 0 23 xOut) := s_callV (m' := 285) (n := 2) xsh_out (w_xok0 mm387) (w_cal mm387 mm285 pn_X3 (Nat.le_of_ble_eq_true rfl) (Nat.le_of_ble_eq_true rfl)) (fun h b as hc hn => w_run_V (ci := 3) mm387 mm285 dX3_growth_20 (Or.inl (List.mem_singleton.mp hc)) (Nat.le_of_ble_eq_true rfl) vc_3 rfl q2634 q2636 qs62 q150 q2637 pa285 hn)
theorem n387_23 : Snd mt G 387 23 (oIfEq 26 48) := w_if_ne (hm := mm387) dX3_growth_23 rfl
theorem n387_26 : Snd mt G 387 26 (oAload 0 27) := w_aload_n (hm := mm387) dX3_growth_26
theorem n387_27 : Snd mt G 387 27 (oIload 2 28) := w_iload_n (hm := mm387) dX3_growth_27
theorem n387_28 : Snd mt G 387 28 (oConst (.int 0) 29) := w_iconst (hm := mm387) dX3_growth_28 rfl
theorem n387_29 : Snd mt G 387 29 (oConst (.int 2) 30) := w_iconst (hm := mm387) dX3_growth_29 rfl
theorem n387_30 : Snd mt G 387 30 (oCall 3 (fS 284 3) 0 33 xOut) := s_callS (m' := 284) (n := 3) xsh_out (w_xok0 mm387) (w_cal mm387 mm284 pn_X3 (Nat.le_of_ble_eq_true rfl) (Nat.le_of_ble_eq_true rfl)) (fun h as hn => w_run_S mm387 mm284 dX3_growth_30 q2631 q2632 q150 q2633 pa284 hn)
theorem n387_33 : Snd mt G 387 33 (oIfEq 36 40) := w_if_ne (hm := mm387) dX3_growth_33 rfl
theorem n387_36 : Snd mt G 387 36 (oConst (.int 1) 37) := w_iconst (hm := mm387) dX3_growth_36 rfl
theorem n387_37 : Snd mt G 387 37 (oGoto 41) := w_goto (hm := mm387) dX3_growth_37 rfl
theorem n387_40 : Snd mt G 387 40 (oConst (.int 0) 41) := w_iconst (hm := mm387) dX3_growth_40 rfl
theorem n387_41 : Snd mt G 387 41 (oConst (.int 2) 42) := w_iconst (hm := mm387) dX3_growth_41 rfl
theorem n387_42 : Snd mt G 387 42 (oCall 3 (fV [4] 285 3) 0 45 xOut) := s_callV (m' := 285) (n := 2) xsh_out (w_xok0 mm387) (w_cal mm387 mm285 pn_X3 (Nat.le_of_ble_eq_true rfl) (Nat.le_of_ble_eq_true rfl)) (fun h b as hc hn => w_run_V (ci := 3) mm387 mm285 dX3_growth_42 (Or.inl (List.mem_singleton.mp hc)) (Nat.le_of_ble_eq_true rfl) vc_3 rfl q2634 q2636 qs62 q150 q2637 pa285 hn)
theorem n387_45 : Snd mt G 387 45 (oIfEq 50 48) := w_if_eq (hm := mm387) dX3_growth_45 rfl
theorem n387_48 : Snd mt G 387 48 (oConst (.int 0) 49) := w_iconst (hm := mm387) dX3_growth_48 rfl
theorem n387_49 : Snd mt G 387 49 (oRetI .int) := w_iret (hm := mm387) dX3_growth_49 rfl
theorem n387_50 : Snd mt G 387 50 (oIload 2 51) := w_iload_n (hm := mm387) dX3_growth_50
theorem n387_51 : Snd mt G 387 51 (oIfEq 54 62) := w_if_ne (hm := mm387) dX3_growth_51 rfl
theorem n387_54 : Snd mt G 387 54 (oAload 0 55) := w_aload_n (hm := mm387) dX3_growth_54
theorem n387_55 : Snd mt G 387 55 (oIload 1 56) := w_iload_n (hm := mm387) dX3_growth_55
theorem n387_56 : Snd mt G 387 56 (oCall 2 (fV [4] 388 2) 0 59 xOut) := s_callV (m' := 388) (n := 1) xsh_out (w_xok0 mm387) (w_cal mm387 mm388 pn_X3 (Nat.le_of_ble_eq_true rfl) (Nat.le_of_ble_eq_true rfl)) (fun h b as hc hn => w_run_V (ci := 3) mm387 mm388 dX3_growth_56 (Or.inl (List.mem_singleton.mp hc)) (Nat.le_of_ble_eq_true rfl) vc_3 rfl q3044 q3046 qs116 q150 q3047 pa388 hn)
theorem n387_59 : Snd mt G 387 59 (oGoto 77) := w_goto (hm := mm387) dX3_growth_59 rfl
theorem n387_62 : Snd mt G 387 62 (oAload 0 63) := w_aload_n (hm := mm387) dX3_growth_62
theorem n387_63 : Snd mt G 387 63 (oIload 1 64) := w_iload_n (hm := mm387) dX3_growth_63
theorem n387_64 : Snd mt G 387 64 (oIload 2 65) := w_iload_n (hm := mm387) dX3_growth_64
theorem n387_65 : Snd mt G 387 65 (oConst (.int 2) 66) := w_iconst (hm := mm387) dX3_growth_65 rfl
theorem n387_66 : Snd mt G 387 66 (oCmpEq 69 73) := w_icmp_ne (hm := mm387) dX3_growth_66 rfl
theorem n387_69 : Snd mt G 387 69 (oConst (.int 1) 70) := w_iconst (hm := mm387) dX3_growth_69 rfl
theorem n387_70 : Snd mt G 387 70 (oGoto 74) := w_goto (hm := mm387) dX3_growth_70 rfl
theorem n387_73 : Snd mt G 387 73 (oConst (.int 0) 74) := w_iconst (hm := mm387) dX3_growth_73 rfl
theorem n387_74 : Snd mt G 387 74 (oCall 3 (fV [4] 390 7) 0 77 xOut) := s_callV (m' := 390) (n := 2) xsh_out (w_xok0 mm387) (w_cal mm387 mm390 pn_X3 (Nat.le_of_ble_eq_true rfl) (Nat.le_of_ble_eq_true rfl)) (fun h b as hc hn => w_run_V (ci := 3) mm387 mm390 dX3_growth_74 (Or.inl (List.mem_singleton.mp hc)) (Nat.le_of_ble_eq_true rfl) vc_3 rfl q3052 q3054 qs118 q150 q3055 pa390 hn)
theorem n387_77 : Snd mt G 387 77 (oRetI .int) := w_iret (hm := mm387) dX3_growth_77 rfl
theorem sj387 : ∀ pc, Snd mt G 387 pc (j387 pc) := fun pc => (snd_br ((snd_br ((snd_br ((snd_br ((snd_br ((snd_br ((snd_lf n387_77)) ((snd_lf n387_74)))) ((snd_lf n387_73)))) ((snd_br ((snd_br ((snd_lf n387_70)) ((snd_lf n387_69)))) ((snd_lf n387_66)))))) ((snd_br ((snd_br ((snd_br ((snd_lf n387_65)) ((snd_lf n387_64)))) ((snd_lf n387_63)))) ((snd_br ((snd_lf n387_62)) ((snd_lf n387_59)))))))) ((snd_br ((snd_br ((snd_br ((snd_br ((snd_lf n387_56)) ((snd_lf n387_55)))) ((snd_lf n387_54)))) ((snd_br ((snd_br ((snd_lf n387_51)) ((snd_lf n387_50)))) ((snd_lf n387_49)))))) ((snd_br ((snd_br ((snd_br ((snd_lf n387_48)) ((snd_lf n387_45)))) ((snd_lf n387_42)))) ((snd_br ((snd_lf n387_41)) ((snd_lf n387_40)))))))))) ((snd_br ((snd_br ((snd_br ((snd_br ((snd_br ((snd_lf n387_37)) ((snd_lf n387_36)))) ((snd_lf n387_33)))) ((snd_br ((snd_br ((snd_lf n387_30)) ((snd_lf n387_29)))) ((snd_lf n387_28)))))) ((snd_br ((snd_br ((snd_br ((snd_lf n387_27)) ((snd_lf n387_26)))) ((snd_lf n387_23)))) ((snd_br ((snd_lf n387_20)) ((snd_lf n387_19)))))))) ((snd_br ((snd_br ((snd_br ((snd_br ((snd_lf n387_18)) ((snd_lf n387_15)))) ((snd_lf n387_14)))) ((snd_br ((snd_br ((snd_lf n387_11)) ((snd_lf n387_8)))) ((snd_lf n387_7)))))) ((snd_br ((snd_br ((snd_br ((snd_lf n387_6)) ((snd_lf n387_5)))) ((snd_lf n387_2)))) ((snd_br ((snd_lf n387_1)) ((snd_lf n387_0)))))))))))
end
section
variable {G : AG}
theorem n388_0 : Snd mt G 388 0 (oAload 0 1) := w_aload_n (hm := mm388) dX3_growths_0
theorem n388_1 : Snd mt G 388 1 (oIload 1 2) := w_iload_n (hm := mm388) dX3_growths_1
theorem n388_2 : Snd mt G 388 2 (oConst (.int 99) 4) := w_bipush (hm := mm388) dX3_growths_2 (by decide)
theorem n388_4 : Snd mt G 388 4 (oCall 3 (fV [4] 389 8) 0 7 xOut) := s_callV (m' := 389) (n := 2) xsh_out (w_xok0 mm388) (w_cal mm388 mm389 pn_X3 (Nat.le_of_ble_eq_true rfl) (Nat.le_of_ble_eq_true rfl)) (fun h b as hc hn => w_run_V (ci := 3) mm388 mm389 dX3_growths_4 (Or.inl (List.mem_singleton.mp hc)) (Nat.le_of_ble_eq_true rfl) vc_3 rfl q3048 q3050 qs117 q150 q3051 pa389 hn)
theorem n388_7 : Snd mt G 388 7 (oPop 8) := w_pop (hm := mm388) dX3_growths_7
theorem n388_8 : Snd mt G 388 8 (oAload 0 9) := w_aload_n (hm := mm388) dX3_growths_8
theorem n388_9 : Snd mt G 388 9 (oGetf [4] 70 12) := w_getf (hm := mm388) dX3_growths_9 (fok1 (k := 70) (T := TX3) 3 (Nat.le_of_ble_eq_true rfl) vc_3 (Nat.le_of_ble_eq_true rfl) q2475)
theorem n388_12 : Snd mt G 388 12 (oRetI .int) := w_iret (hm := mm388) dX3_growths_12 rfl
theorem sj388 : ∀ pc, Snd mt G 388 pc (j388 pc) := fun pc => (snd_br ((snd_br ((snd_br ((snd_lf n388_12)) ((snd_lf n388_9)))) ((snd_br ((snd_lf n388_8)) ((snd_lf n388_7)))))) ((snd_br ((snd_br ((snd_lf n388_4)) ((snd_lf n388_2)))) ((snd_br ((snd_lf n388_1)) ((snd_lf n388_0)))))))
end
section
variable {G : AG}
theorem n389_0 : Snd mt G 389 0 (oConst (.int (-1)) 1) := w_iconst (hm := mm389) dX3_growthOf_0 rfl
theorem n389_1 : Snd mt G 389 1 (oIstore 3 2) := w_istore_n (hm := mm389) dX3_growthOf_1 (Nat.le_of_ble_eq_true rfl)
theorem n389_2 : Snd mt G 389 2 (oConst (.int 0) 3) := w_iconst (hm := mm389) dX3_growthOf_2 rfl
theorem n389_3 : Snd mt G 389 3 (oIstore 4 5) := w_istore (hm := mm389) dX3_growthOf_3 (Nat.le_of_ble_eq_true rfl)
theorem n389_5 : Snd mt G 389 5 (oConst (.int 0) 6) := w_iconst (hm := mm389) dX3_growthOf_5 rfl
theorem n389_6 : Snd mt G 389 6 (oIstore 5 8) := w_istore (hm := mm389) dX3_growthOf_6 (Nat.le_of_ble_eq_true rfl)
theorem n389_8 : Snd mt G 389 8 (oIload 5 10) := w_iload (hm := mm389) dX3_growthOf_8
theorem n389_10 : Snd mt G 389 10 (oAload 0 11) := w_aload_n (hm := mm389) dX3_growthOf_10
theorem n389_11 : Snd mt G 389 11 (oGetf [4] 42 14) := w_getf (hm := mm389) dX3_growthOf_11 (fok1 (k := 42) (T := TX3) 3 (Nat.le_of_ble_eq_true rfl) vc_3 (Nat.le_of_ble_eq_true rfl) q2447)
theorem n389_14 : Snd mt G 389 14 (oCmpGe 127 17) := w_icmp_ge (hm := mm389) dX3_growthOf_14 rfl
theorem n389_17 : Snd mt G 389 17 (oAload 0 18) := w_aload_n (hm := mm389) dX3_growthOf_17
theorem n389_18 : Snd mt G 389 18 (oGetf [4] 53 21) := w_getf (hm := mm389) dX3_growthOf_18 (fok1 (k := 53) (T := TX3) 3 (Nat.le_of_ble_eq_true rfl) vc_3 (Nat.le_of_ble_eq_true rfl) q2458)
theorem n389_21 : Snd mt G 389 21 (oIload 5 23) := w_iload (hm := mm389) dX3_growthOf_21
theorem n389_23 : Snd mt G 389 23 (oAld [106] 24) := w_aaload (hm := mm389) (kt := 6) dX3_growthOf_23 rfl at_6 (Nat.le_of_ble_eq_true rfl) (List.forall_mem_cons.mpr ⟨Or.inl rfl, (fun t ht => nomatch ht)⟩)
theorem n389_24 : Snd mt G 389 24 (oConst (.int 0) 25) := w_iconst (hm := mm389) dX3_growthOf_24 rfl
theorem n389_25 : Snd mt G 389 25 (oAld [100] 26) := w_iaload (hm := mm389) (kt := 0) dX3_growthOf_25 at_0 (Nat.le_of_ble_eq_true rfl) (List.forall_mem_cons.mpr ⟨Or.inl rfl, (fun t ht => nomatch ht)⟩)
theorem n389_26 : Snd mt G 389 26 (oIload 1 27) := w_iload_n (hm := mm389) dX3_growthOf_26
theorem n389_27 : Snd mt G 389 27 (oCmpEq 33 30) := w_icmp_eq (hm := mm389) dX3_growthOf_27 rfl
theorem n389_30 : Snd mt G 389 30 (oGoto 121) := w_goto (hm := mm389) dX3_growthOf_30 rfl
theorem n389_33 : Snd mt G 389 33 (oIload 3 34) := w_iload_n (hm := mm389) dX3_growthOf_33
theorem n389_34 : Snd mt G 389 34 (oConst (.int (-1)) 35) := w_iconst (hm := mm389) dX3_growthOf_34 rfl
theorem n389_35 : Snd mt G 389 35 (oCmpEq 38 42) := w_icmp_ne (hm := mm389) dX3_growthOf_35 rfl
theorem n389_38 : Snd mt G 389 38 (oConst (.int 0) 39) := w_iconst (hm := mm389) dX3_growthOf_38 rfl
theorem n389_39 : Snd mt G 389 39 (oGoto 60) := w_goto (hm := mm389) dX3_growthOf_39 rfl
theorem n389_42 : Snd mt G 389 42 (oAload 0 43) := w_aload_n (hm := mm389) dX3_growthOf_42
theorem n389_43 : Snd mt G 389 43 (oGetf [4] 53 46) := w_getf (hm := mm389) dX3_growthOf_43 (fok1 (k := 53) (T := TX3) 3 (Nat.le_of_ble_eq_true rfl) vc_3 (Nat.le_of_ble_eq_true rfl) q2458)
theorem n389_46 : Snd mt G 389 46 (oIload 5 48) := w_iload (hm := mm389) dX3_growthOf_46
theorem n389_48 : Snd mt G 389 48 (oAld [106] 49) := w_aaload (hm := mm389) (kt := 6) dX3_growthOf_48 rfl at_6 (Nat.le_of_ble_eq_true rfl) (List.forall_mem_cons.mpr ⟨Or.inl rfl, (fun t ht => nomatch ht)⟩)
theorem n389_49 : Snd mt G 389 49 (oConst (.int 1) 50) := w_iconst (hm := mm389) dX3_growthOf_49 rfl
theorem n389_50 : Snd mt G 389 50 (oAld [100] 51) := w_iaload (hm := mm389) (kt := 0) dX3_growthOf_50 at_0 (Nat.le_of_ble_eq_true rfl) (List.forall_mem_cons.mpr ⟨Or.inl rfl, (fun t ht => nomatch ht)⟩)
theorem n389_51 : Snd mt G 389 51 (oAload 0 52) := w_aload_n (hm := mm389) dX3_growthOf_51
theorem n389_52 : Snd mt G 389 52 (oGetf [4] 53 55) := w_getf (hm := mm389) dX3_growthOf_52 (fok1 (k := 53) (T := TX3) 3 (Nat.le_of_ble_eq_true rfl) vc_3 (Nat.le_of_ble_eq_true rfl) q2458)
theorem n389_55 : Snd mt G 389 55 (oIload 3 56) := w_iload_n (hm := mm389) dX3_growthOf_55
theorem n389_56 : Snd mt G 389 56 (oAld [106] 57) := w_aaload (hm := mm389) (kt := 6) dX3_growthOf_56 rfl at_6 (Nat.le_of_ble_eq_true rfl) (List.forall_mem_cons.mpr ⟨Or.inl rfl, (fun t ht => nomatch ht)⟩)
theorem n389_57 : Snd mt G 389 57 (oConst (.int 1) 58) := w_iconst (hm := mm389) dX3_growthOf_57 rfl
theorem n389_58 : Snd mt G 389 58 (oAld [100] 59) := w_iaload (hm := mm389) (kt := 0) dX3_growthOf_58 at_0 (Nat.le_of_ble_eq_true rfl) (List.forall_mem_cons.mpr ⟨Or.inl rfl, (fun t ht => nomatch ht)⟩)
theorem n389_59 : Snd mt G 389 59 (oBin (fun x y => x - y) 60) := w_isub (hm := mm389) dX3_growthOf_59
theorem n389_60 : Snd mt G 389 60 (oIstore 6 62) := w_istore (hm := mm389) dX3_growthOf_60 (Nat.le_of_ble_eq_true rfl)
theorem n389_62 : Snd mt G 389 62 (oIload 6 64) := w_iload (hm := mm389) dX3_growthOf_62
theorem n389_64 : Snd mt G 389 64 (oIfEq 67 71) := w_if_ne (hm := mm389) dX3_growthOf_64 rfl
theorem n389_67 : Snd mt G 389 67 (oConst (.int 0) 68) := w_iconst (hm := mm389) dX3_growthOf_67 rfl
theorem n389_68 : Snd mt G 389 68 (oGoto 96) := w_goto (hm := mm389) dX3_growthOf_68 rfl
theorem n389_71 : Snd mt G 389 71 (oAload 0 72) := w_aload_n (hm := mm389) dX3_growthOf_71
theorem n389_72 : Snd mt G 389 72 (oGetf [4] 53 75) := w_getf (hm := mm389) dX3_growthOf_72 (fok1 (k := 53) (T := TX3) 3 (Nat.le_of_ble_eq_true rfl) vc_3 (Nat.le_of_ble_eq_true rfl) q2458)
theorem n389_75 : Snd mt G 389 75 (oIload 5 77) := w_iload (hm := mm389) dX3_growthOf_75
theorem n389_77 : Snd mt G 389 77 (oAld [106] 78) := w_aaload (hm := mm389) (kt := 6) dX3_growthOf_77 rfl at_6 (Nat.le_of_ble_eq_true rfl) (List.forall_mem_cons.mpr ⟨Or.inl rfl, (fun t ht => nomatch ht)⟩)
theorem n389_78 : Snd mt G 389 78 (oConst (.int 2) 79) := w_iconst (hm := mm389) dX3_growthOf_78 rfl
theorem n389_79 : Snd mt G 389 79 (oAld [100] 80) := w_iaload (hm := mm389) (kt := 0) dX3_growthOf_79 at_0 (Nat.le_of_ble_eq_true rfl) (List.forall_mem_cons.mpr ⟨Or.inl rfl, (fun t ht => nomatch ht)⟩)
theorem n389_80 : Snd mt G 389 80 (oAload 0 81) := w_aload_n (hm := mm389) dX3_growthOf_80
theorem n389_81 : Snd mt G 389 81 (oGetf [4] 53 84) := w_getf (hm := mm389) dX3_growthOf_81 (fok1 (k := 53) (T := TX3) 3 (Nat.le_of_ble_eq_true rfl) vc_3 (Nat.le_of_ble_eq_true rfl) q2458)
theorem n389_84 : Snd mt G 389 84 (oIload 3 85) := w_iload_n (hm := mm389) dX3_growthOf_84
theorem n389_85 : Snd mt G 389 85 (oAld [106] 86) := w_aaload (hm := mm389) (kt := 6) dX3_growthOf_85 rfl at_6 (Nat.le_of_ble_eq_true rfl) (List.forall_mem_cons.mpr ⟨Or.inl rfl, (fun t ht => nomatch ht)⟩)
theorem n389_86 : Snd mt G 389 86 (oConst (.int 2) 87) := w_iconst (hm := mm389) dX3_growthOf_86 rfl
theorem n389_87 : Snd mt G 389 87 (oAld [100] 88) := w_iaload (hm := mm389) (kt := 0) dX3_growthOf_87 at_0 (Nat.le_of_ble_eq_true rfl) (List.forall_mem_cons.mpr ⟨Or.inl rfl, (fun t ht => nomatch ht)⟩)
theorem n389_88 : Snd mt G 389 88 (oBin (fun x y => x - y) 89) := w_isub (hm := mm389) dX3_growthOf_88
theorem n389_89 : Snd mt G 389 89 (oConst (.int 365) 92) := w_sipush (hm := mm389) dX3_growthOf_89 (by decide)
theorem n389_92 : Snd mt G 389 92 (oBin (fun x y => x * y) 93) := w_imul (hm := mm389) dX3_growthOf_92
theorem n389_93 : Snd mt G 389 93 (oIload 6 95) := w_iload (hm := mm389) dX3_growthOf_93
theorem n389_95 : Snd mt G 389 95 (oDiv (fun x y => x / y) 96) := w_idiv (hm := mm389) dX3_growthOf_95
theorem n389_96 : Snd mt G 389 96 (oIstore 7 98) := w_istore (hm := mm389) dX3_growthOf_96 (Nat.le_of_ble_eq_true rfl)
theorem n389_98 : Snd mt G 389 98 (oIload 5 100) := w_iload (hm := mm389) dX3_growthOf_98
theorem n389_100 : Snd mt G 389 100 (oIstore 3 101) := w_istore_n (hm := mm389) dX3_growthOf_100 (Nat.le_of_ble_eq_true rfl)
theorem n389_101 : Snd mt G 389 101 (oIload 6 103) := w_iload (hm := mm389) dX3_growthOf_101
theorem n389_103 : Snd mt G 389 103 (oIfEq 106 109) := w_if_ne (hm := mm389) dX3_growthOf_103 rfl
theorem n389_106 : Snd mt G 389 106 (oGoto 121) := w_goto (hm := mm389) dX3_growthOf_106 rfl
theorem n389_109 : Snd mt G 389 109 (oIload 4 111) := w_iload (hm := mm389) dX3_growthOf_109
theorem n389_111 : Snd mt G 389 111 (oIload 2 112) := w_iload_n (hm := mm389) dX3_growthOf_111
theorem n389_112 : Snd mt G 389 112 (oCmpEq 115 118) := w_icmp_ne (hm := mm389) dX3_growthOf_112 rfl
theorem n389_115 : Snd mt G 389 115 (oIload 7 117) := w_iload (hm := mm389) dX3_growthOf_115
theorem n389_117 : Snd mt G 389 117 (oRetI .int) := w_iret (hm := mm389) dX3_growthOf_117 rfl
theorem n389_118 : Snd mt G 389 118 (oIinc 4 1 121) := w_iinc (hm := mm389) dX3_growthOf_118 rfl (Nat.le_of_ble_eq_true rfl)
theorem n389_121 : Snd mt G 389 121 (oIinc 5 1 124) := w_iinc (hm := mm389) dX3_growthOf_121 rfl (Nat.le_of_ble_eq_true rfl)
theorem n389_124 : Snd mt G 389 124 (oGoto 8) := w_goto (hm := mm389) dX3_growthOf_124 rfl
theorem n389_127 : Snd mt G 389 127 (oAload 0 128) := w_aload_n (hm := mm389) dX3_growthOf_127
theorem n389_128 : Snd mt G 389 128 (oIload 4 130) := w_iload (hm := mm389) dX3_growthOf_128
theorem n389_130 : Snd mt G 389 130 (oPutf [4] 70 .int 133) := w_putf (hm := mm389) dX3_growthOf_130 (pok1 (k := 70) (T := TX3) 3 (Nat.le_of_ble_eq_true rfl) vc_3 (Nat.le_of_ble_eq_true rfl) rfl pd_X3_70 q2475)
theorem n389_133 : Snd mt G 389 133 (oConst (.int 0) 134) := w_iconst (hm := mm389) dX3_growthOf_133 rfl
theorem n389_134 : Snd mt G 389 134 (oRetI .int) := w_iret (hm := mm389) dX3_growthOf_134 rfl
theorem sj389 : ∀ pc, Snd mt G 389 pc (j389 pc) := fun pc => (snd_br ((snd_br ((snd_br ((snd_br ((snd_br ((snd_br ((snd_br ((snd_lf n389_134)) ((snd_lf n389_133)))) ((snd_lf n389_130)))) ((snd_br ((snd_lf n389_128)) ((snd_lf n389_127)))))) ((snd_br ((snd_br ((snd_br ((snd_lf n389_124)) ((snd_lf n389_121)))) ((snd_lf n389_118)))) ((snd_br ((snd_lf n389_117)) ((snd_lf n389_115)))))))) ((snd_br ((snd_br ((snd_br ((snd_br ((snd_lf n389_112)) ((snd_lf n389_111)))) ((snd_lf n389_109)))) ((snd_br ((snd_lf n389_106)) ((snd_lf n389_103)))))) ((snd_br ((snd_br ((snd_br ((snd_lf n389_101)) ((snd_lf n389_100)))) ((snd_lf n389_98)))) ((snd_br ((snd_lf n389_96)) ((snd_lf n389_95)))))))))) ((snd_br ((snd_br ((snd_br ((snd_br ((snd_br ((snd_lf n389_93)) ((snd_lf n389_92)))) ((snd_lf n389_89)))) ((snd_br ((snd_lf n389_88)) ((snd_lf n389_87)))))) ((snd_br ((snd_br ((snd_br ((snd_lf n389_86)) ((snd_lf n389_85)))) ((snd_lf n389_84)))) ((snd_br ((snd_lf n389_81)) ((snd_lf n389_80)))))))) ((snd_br ((snd_br ((snd_br ((snd_br ((snd_lf n389_79)) ((snd_lf n389_78)))) ((snd_lf n389_77)))) ((snd_br ((snd_lf n389_75)) ((snd_lf n389_72)))))) ((snd_br ((snd_br ((snd_lf n389_71)) ((snd_lf n389_68)))) ((snd_br ((snd_lf n389_67)) ((snd_lf n389_64)))))))))))) ((snd_br ((snd_br ((snd_br ((snd_br ((snd_br ((snd_br ((snd_lf n389_62)) ((snd_lf n389_60)))) ((snd_lf n389_59)))) ((snd_br ((snd_lf n389_58)) ((snd_lf n389_57)))))) ((snd_br ((snd_br ((snd_br ((snd_lf n389_56)) ((snd_lf n389_55)))) ((snd_lf n389_52)))) ((snd_br ((snd_lf n389_51)) ((snd_lf n389_50)))))))) ((snd_br ((snd_br ((snd_br ((snd_br ((snd_lf n389_49)) ((snd_lf n389_48)))) ((snd_lf n389_46)))) ((snd_br ((snd_lf n389_43)) ((snd_lf n389_42)))))) ((snd_br ((snd_br ((snd_br ((snd_lf n389_39)) ((snd_lf n389_38)))) ((snd_lf n389_35)))) ((snd_br ((snd_lf n389_34)) ((snd_lf n389_33)))))))))) ((snd_br ((snd_br ((snd_br ((snd_br ((snd_br ((snd_lf n389_30)) ((snd_lf n389_27)))) ((snd_lf n389_26)))) ((snd_br ((snd_lf n389_25)) ((snd_lf n389_24)))))) ((snd_br ((snd_br ((snd_br ((snd_lf n389_23)) ((snd_lf n389_21)))) ((snd_lf n389_18)))) ((snd_br ((snd_lf n389_17)) ((snd_lf n389_14)))))))) ((snd_br ((snd_br ((snd_br ((snd_br ((snd_lf n389_11)) ((snd_lf n389_10)))) ((snd_lf n389_8)))) ((snd_br ((snd_lf n389_6)) ((snd_lf n389_5)))))) ((snd_br ((snd_br ((snd_lf n389_3)) ((snd_lf n389_2)))) ((snd_br ((snd_lf n389_1)) ((snd_lf n389_0)))))))))))))
end
section
variable {G : AG}
theorem n390_0 : Snd mt G 390 0 (oAload 0 1) := w_aload_n (hm := mm390) dX3_growthBy_0
theorem n390_1 : Snd mt G 390 1 (oIload 1 2) := w_iload_n (hm := mm390) dX3_growthBy_1
theorem n390_2 : Snd mt G 390 2 (oCall 2 (fV [4] 388 2) 0 5 xOut) := s_callV (m' := 388) (n := 1) xsh_out (w_xok0 mm390) (w_cal mm390 mm388 pn_X3 (Nat.le_of_ble_eq_true rfl) (Nat.le_of_ble_eq_true rfl)) (fun h b as hc hn => w_run_V (ci := 3) mm390 mm388 dX3_growthBy_2 (Or.inl (List.mem_singleton.mp hc)) (Nat.le_of_ble_eq_true rfl) vc_3 rfl q3044 q3046 qs116 q150 q3047 pa388 hn)
theorem n390_5 : Snd mt G 390 5 (oIstore 3 6) := w_istore_n (hm := mm390) dX3_growthBy_5 (Nat.le_of_ble_eq_true rfl)
theorem n390_6 : Snd mt G 390 6 (oConst (.int 0) 7) := w_iconst (hm := mm390) dX3_growthBy_6 rfl
theorem n390_7 : Snd mt G 390 7 (oIstore 4 9) := w_istore (hm := mm390) dX3_growthBy_7 (Nat.le_of_ble_eq_true rfl)
theorem n390_9 : Snd mt G 390 9 (oConst (.int 0) 10) := w_iconst (hm := mm390) dX3_growthBy_9 rfl
theorem n390_10 : Snd mt G 390 10 (oIstore 5 12) := w_istore (hm := mm390) dX3_growthBy_10 (Nat.le_of_ble_eq_true rfl)
theorem n390_12 : Snd mt G 390 12 (oIload 5 14) := w_iload (hm := mm390) dX3_growthBy_12
theorem n390_14 : Snd mt G 390 14 (oIload 3 15) := w_iload_n (hm := mm390) dX3_growthBy_14
theorem n390_15 : Snd mt G 390 15 (oCmpGe 68 18) := w_icmp_ge (hm := mm390) dX3_growthBy_15 rfl
theorem n390_18 : Snd mt G 390 18 (oAload 0 19) := w_aload_n (hm := mm390) dX3_growthBy_18
theorem n390_19 : Snd mt G 390 19 (oIload 1 20) := w_iload_n (hm := mm390) dX3_growthBy_19
theorem n390_20 : Snd mt G 390 20 (oIload 5 22) := w_iload (hm := mm390) dX3_growthBy_20
theorem n390_22 : Snd mt G 390 22 (oCall 3 (fV [4] 389 8) 0 25 xOut) := s_callV (m' := 389) (n := 2) xsh_out (w_xok0 mm390) (w_cal mm390 mm389 pn_X3 (Nat.le_of_ble_eq_true rfl) (Nat.le_of_ble_eq_true rfl)) (fun h b as hc hn => w_run_V (ci := 3) mm390 mm389 dX3_growthBy_22 (Or.inl (List.mem_singleton.mp hc)) (Nat.le_of_ble_eq_true rfl) vc_3 rfl q3048 q3050 qs117 q150 q3051 pa389 hn)
theorem n390_25 : Snd mt G 390 25 (oIstore 6 27) := w_istore (hm := mm390) dX3_growthBy_25 (Nat.le_of_ble_eq_true rfl)
theorem n390_27 : Snd mt G 390 27 (oIload 5 29) := w_iload (hm := mm390) dX3_growthBy_27
theorem n390_29 : Snd mt G 390 29 (oIfEq 53 32) := w_if_eq (hm := mm390) dX3_growthBy_29 rfl
theorem n390_32 : Snd mt G 390 32 (oIload 2 33) := w_iload_n (hm := mm390) dX3_growthBy_32
theorem n390_33 : Snd mt G 390 33 (oIfEq 46 36) := w_if_eq (hm := mm390) dX3_growthBy_33 rfl
theorem n390_36 : Snd mt G 390 36 (oIload 6 38) := w_iload (hm := mm390) dX3_growthBy_36
theorem n390_38 : Snd mt G 390 38 (oIload 4 40) := w_iload (hm := mm390) dX3_growthBy_38
theorem n390_40 : Snd mt G 390 40 (oCmpLe 58 43) := w_icmp_le (hm := mm390) dX3_growthBy_40 rfl
theorem n390_43 : Snd mt G 390 43 (oGoto 53) := w_goto (hm := mm390) dX3_growthBy_43 rfl
theorem n390_46 : Snd mt G 390 46 (oIload 6 48) := w_iload (hm := mm390) dX3_growthBy_46
theorem n390_48 : Snd mt G 390 48 (oIload 4 50) := w_iload (hm := mm390) dX3_growthBy_48
theorem n390_50 : Snd mt G 390 50 (oCmpGe 58 53) := w_icmp_ge (hm := mm390) dX3_growthBy_50 rfl
theorem n390_53 : Snd mt G 390 53 (oIload 6 55) := w_iload (hm := mm390) dX3_growthBy_53
theorem n390_55 : Snd mt G 390 55 (oGoto 60) := w_goto (hm := mm390) dX3_growthBy_55 rfl
theorem n390_58 : Snd mt G 390 58 (oIload 4 60) := w_iload (hm := mm390) dX3_growthBy_58
theorem n390_60 : Snd mt G 390 60 (oIstore 4 62) := w_istore (hm := mm390) dX3_growthBy_60 (Nat.le_of_ble_eq_true rfl)
theorem n390_62 : Snd mt G 390 62 (oIinc 5 1 65) := w_iinc (hm := mm390) dX3_growthBy_62 rfl (Nat.le_of_ble_eq_true rfl)
theorem n390_65 : Snd mt G 390 65 (oGoto 12) := w_goto (hm := mm390) dX3_growthBy_65 rfl
theorem n390_68 : Snd mt G 390 68 (oIload 4 70) := w_iload (hm := mm390) dX3_growthBy_68
theorem n390_70 : Snd mt G 390 70 (oRetI .int) := w_iret (hm := mm390) dX3_growthBy_70 rfl
theorem sj390 : ∀ pc, Snd mt G 390 pc (j390 pc) := fun pc => (snd_br ((snd_br ((snd_br ((snd_br ((snd_br ((snd_br ((snd_lf n390_70)) ((snd_lf n390_68)))) ((snd_lf n390_65)))) ((snd_br ((snd_lf n390_62)) ((snd_lf n390_60)))))) ((snd_br ((snd_br ((snd_lf n390_58)) ((snd_lf n390_55)))) ((snd_br ((snd_lf n390_53)) ((snd_lf n390_50)))))))) ((snd_br ((snd_br ((snd_br ((snd_br ((snd_lf n390_48)) ((snd_lf n390_46)))) ((snd_lf n390_43)))) ((snd_br ((snd_lf n390_40)) ((snd_lf n390_38)))))) ((snd_br ((snd_br ((snd_lf n390_36)) ((snd_lf n390_33)))) ((snd_br ((snd_lf n390_32)) ((snd_lf n390_29)))))))))) ((snd_br ((snd_br ((snd_br ((snd_br ((snd_br ((snd_lf n390_27)) ((snd_lf n390_25)))) ((snd_lf n390_22)))) ((snd_br ((snd_lf n390_20)) ((snd_lf n390_19)))))) ((snd_br ((snd_br ((snd_lf n390_18)) ((snd_lf n390_15)))) ((snd_br ((snd_lf n390_14)) ((snd_lf n390_12)))))))) ((snd_br ((snd_br ((snd_br ((snd_lf n390_10)) ((snd_lf n390_9)))) ((snd_br ((snd_lf n390_7)) ((snd_lf n390_6)))))) ((snd_br ((snd_br ((snd_lf n390_5)) ((snd_lf n390_2)))) ((snd_br ((snd_lf n390_1)) ((snd_lf n390_0)))))))))))
end
section
variable {G : AG}
theorem n391_0 : Snd mt G 391 0 (oAload 0 1) := w_aload_n (hm := mm391) dX3_nextBy_0
theorem n391_1 : Snd mt G 391 1 (oConst (.int 0) 2) := w_iconst (hm := mm391) dX3_nextBy_1 rfl
theorem n391_2 : Snd mt G 391 2 (oPutf [4] 0 .int 5) := w_putf (hm := mm391) dX3_nextBy_2 (pok1 (k := 0) (T := TX3) 3 (Nat.le_of_ble_eq_true rfl) vc_3 (Nat.le_of_ble_eq_true rfl) rfl pd_X3_0 q2405)
theorem n391_5 : Snd mt G 391 5 (oAload 0 6) := w_aload_n (hm := mm391) dX3_nextBy_5
theorem n391_6 : Snd mt G 391 6 (oAload 0 7) := w_aload_n (hm := mm391) dX3_nextBy_6
theorem n391_7 : Snd mt G 391 7 (oIload 1 8) := w_iload_n (hm := mm391) dX3_nextBy_7
theorem n391_8 : Snd mt G 391 8 (oCall 2 (fV [4] 316 2) 0 11 xOut) := s_callV (m' := 316) (n := 1) xsh_out (w_xok0 mm391) (w_cal mm391 mm316 pn_X3 (Nat.le_of_ble_eq_true rfl) (Nat.le_of_ble_eq_true rfl)) (fun h b as hc hn => w_run_V (ci := 3) mm391 mm316 dX3_nextBy_8 (Or.inl (List.mem_singleton.mp hc)) (Nat.le_of_ble_eq_true rfl) vc_3 rfl q2758 q2760 qs84 q150 q2761 pa316 hn)
theorem n391_11 : Snd mt G 391 11 (oIfEq 14 18) := w_if_ne (hm := mm391) dX3_nextBy_11 rfl
theorem n391_14 : Snd mt G 391 14 (oConst (.int 1) 15) := w_iconst (hm := mm391) dX3_nextBy_14 rfl
theorem n391_15 : Snd mt G 391 15 (oGoto 19) := w_goto (hm := mm391) dX3_nextBy_15 rfl
theorem n391_18 : Snd mt G 391 18 (oConst (.int 0) 19) := w_iconst (hm := mm391) dX3_nextBy_18 rfl
theorem n391_19 : Snd mt G 391 19 (oConst (.int 1) 20) := w_iconst (hm := mm391) dX3_nextBy_19 rfl
theorem n391_20 : Snd mt G 391 20 (oCall 3 (fV [4] 285 3) 0 23 xOut) := s_callV (m' := 285) (n := 2) xsh_out (w_xok0 mm391) (w_cal mm391 mm285 pn_X3 (Nat.le_of_ble_eq_true rfl) (Nat.le_of_ble_eq_true rfl)) (fun h b as hc hn => w_run_V (ci := 3) mm391 mm285 dX3_nextBy_20 (Or.inl (List.mem_singleton.mp hc)) (Nat.le_of_ble_eq_true rfl) vc_3 rfl q2634 q2636 qs62 q150 q2637 pa285 hn)
theorem n391_23 : Snd mt G 391 23 (oIfEq 26 49) := w_if_ne (hm := mm391) dX3_nextBy_23 rfl
theorem n391_26 : Snd mt G 391 26 (oAload 0 27) := w_aload_n (hm := mm391) dX3_nextBy_26
theorem n391_27 : Snd mt G 391 27 (oIload 2 28) := w_iload_n (hm := mm391) dX3_nextBy_27
theorem n391_28 : Snd mt G 391 28 (oConst (.int 0) 29) := w_iconst (hm := mm391) dX3_nextBy_28 rfl
theorem n391_29 : Snd mt G 391 29 (oConst (.int 99) 31) := w_bipush (hm := mm391) dX3_nextBy_29 (by decide)
theorem n391_31 : Snd mt G 391 31 (oCall 3 (fS 284 3) 0 34 xOut) := s_callS (m' := 284) (n := 3) xsh_out (w_xok0 mm391) (w_cal mm391 mm284 pn_X3 (Nat.le_of_ble_eq_true rfl) (Nat.le_of_ble_eq_true rfl)) (fun h as hn => w_run_S mm391 mm284 dX3_nextBy_31 q2631 q2632 q150 q2633 pa284 hn)
theorem n391_34 : Snd mt G 391 34 (oIfEq 37 41) := w_if_ne (hm := mm391) dX3_nextBy_34 rfl
theorem n391_37 : Snd mt G 391 37 (oConst (.int 1) 38) := w_iconst (hm := mm391) dX3_nextBy_37 rfl
theorem n391_38 : Snd mt G 391 38 (oGoto 42) := w_goto (hm := mm391) dX3_nextBy_38 rfl
theorem n391_41 : Snd mt G 391 41 (oConst (.int 0) 42) := w_iconst (hm := mm391) dX3_nextBy_41 rfl
theorem n391_42 : Snd mt G 391 42 (oConst (.int 2) 43) := w_iconst (hm := mm391) dX3_nextBy_42 rfl
theorem n391_43 : Snd mt G 391 43 (oCall 3 (fV [4] 285 3) 0 46 xOut) := s_callV (m' := 285) (n := 2) xsh_out (w_xok0 mm391) (w_cal mm391 mm285 pn_X3 (Nat.le_of_ble_eq_true rfl) (Nat.le_of_ble_eq_true rfl)) (fun h b as hc hn => w_run_V (ci := 3) mm391 mm285 dX3_nextBy_43 (Or.inl (List.mem_singleton.mp hc)) (Nat.le_of_ble_eq_true rfl) vc_3 rfl q2634 q2636 qs62 q150 q2637 pa285 hn)
theorem n391_46 : Snd mt G 391 46 (oIfEq 51 49) := w_if_eq (hm := mm391) dX3_nextBy_46 rfl
theorem n391_49 : Snd mt G 391 49 (oConst (.int 0) 50) := w_iconst (hm := mm391) dX3_nextBy_49 rfl
theorem n391_50 : Snd mt G 391 50 (oRetI .int) := w_iret (hm := mm391) dX3_nextBy_50 rfl
theorem n391_51 : Snd mt G 391 51 (oAload 0 52) := w_aload_n (hm := mm391) dX3_nextBy_51
theorem n391_52 : Snd mt G 391 52 (oIload 1 53) := w_iload_n (hm := mm391) dX3_nextBy_52
theorem n391_53 : Snd mt G 391 53 (oConst (.int 2) 54) := w_iconst (hm := mm391) dX3_nextBy_53 rfl
theorem n391_54 : Snd mt G 391 54 (oCall 3 (fV [4] 329 3) 0 57 xOut) := s_callV (m' := 329) (n := 2) xsh_out (w_xok0 mm391) (w_cal mm391 mm329 pn_X3 (Nat.le_of_ble_eq_true rfl) (Nat.le_of_ble_eq_true rfl)) (fun h b as hc hn => w_run_V (ci := 3) mm391 mm329 dX3_nextBy_54 (Or.inl (List.mem_singleton.mp hc)) (Nat.le_of_ble_eq_true rfl) vc_3 rfl q2810 q2812 qs92 q150 q2813 pa329 hn)
theorem n391_57 : Snd mt G 391 57 (oIfEq 68 60) := w_if_eq (hm := mm391) dX3_nextBy_57 rfl
theorem n391_60 : Snd mt G 391 60 (oAload 0 61) := w_aload_n (hm := mm391) dX3_nextBy_60
theorem n391_61 : Snd mt G 391 61 (oIload 1 62) := w_iload_n (hm := mm391) dX3_nextBy_61
theorem n391_62 : Snd mt G 391 62 (oCall 2 (fV [4] 388 2) 0 65 xOut) := s_callV (m' := 388) (n := 1) xsh_out (w_xok0 mm391) (w_cal mm391 mm388 pn_X3 (Nat.le_of_ble_eq_true rfl) (Nat.le_of_ble_eq_true rfl)) (fun h b as hc hn => w_run_V (ci := 3) mm391 mm388 dX3_nextBy_62 (Or.inl (List.mem_singleton.mp hc)) (Nat.le_of_ble_eq_true rfl) vc_3 rfl q3044 q3046 qs116 q150 q3047 pa388 hn)
theorem n391_65 : Snd mt G 391 65 (oIfEq 68 72) := w_if_ne (hm := mm391) dX3_nextBy_65 rfl
theorem n391_68 : Snd mt G 391 68 (oConst (.int (-1)) 69) := w_iconst (hm := mm391) dX3_nextBy_68 rfl
theorem n391_69 : Snd mt G 391 69 (oGoto 84) := w_goto (hm := mm391) dX3_nextBy_69 rfl
theorem n391_72 : Snd mt G 391 72 (oAload 0 73) := w_aload_n (hm := mm391) dX3_nextBy_72
theorem n391_73 : Snd mt G 391 73 (oIload 1 74) := w_iload_n (hm := mm391) dX3_nextBy_73
theorem n391_74 : Snd mt G 391 74 (oIload 2 75) := w_iload_n (hm := mm391) dX3_nextBy_74
theorem n391_75 : Snd mt G 391 75 (oAload 0 76) := w_aload_n (hm := mm391) dX3_nextBy_75
theorem n391_76 : Snd mt G 391 76 (oIload 1 77) := w_iload_n (hm := mm391) dX3_nextBy_76
theorem n391_77 : Snd mt G 391 77 (oIload 3 78) := w_iload_n (hm := mm391) dX3_nextBy_77
theorem n391_78 : Snd mt G 391 78 (oCall 3 (fV [4] 390 7) 0 81 xOut) := s_callV (m' := 390) (n := 2) xsh_out (w_xok0 mm391) (w_cal mm391 mm390 pn_X3 (Nat.le_of_ble_eq_true rfl) (Nat.le_of_ble_eq_true rfl)) (fun h b as hc hn => w_run_V (ci := 3) mm391 mm390 dX3_nextBy_78 (Or.inl (List.mem_singleton.mp hc)) (Nat.le_of_ble_eq_true rfl) vc_3 rfl q3052 q3054 qs118 q150 q3055 pa390 hn)
theorem n391_81 : Snd mt G 391 81 (oCall 4 (fV [4] 392 6) 0 84 xOut) := s_callV (m' := 392) (n := 3) xsh_out (w_xok0 mm391) (w_cal mm391 mm392 pn_X3 (Nat.le_of_ble_eq_true rfl) (Nat.le_of_ble_eq_true rfl)) (fun h b as hc hn => w_run_V (ci := 3) mm391 mm392 dX3_nextBy_81 (Or.inl (List.mem_singleton.mp hc)) (Nat.le_of_ble_eq_true rfl) vc_3 rfl q3060 q3062 qs119 q150 q3063 pa392 hn)
theorem n391_84 : Snd mt G 391 84 (oRetI .int) := w_iret (hm := mm391) dX3_nextBy_84 rfl
theorem sj391 : ∀ pc, Snd mt G 391 pc (j391 pc) := fun pc => (snd_br ((snd_br ((snd_br ((snd_br ((snd_br ((snd_br ((snd_lf n391_84)) ((snd_lf n391_81)))) ((snd_lf n391_78)))) ((snd_br ((snd_br ((snd_lf n391_77)) ((snd_lf n391_76)))) ((snd_lf n391_75)))))) ((snd_br ((snd_br ((snd_br ((snd_lf n391_74)) ((snd_lf n391_73)))) ((snd_lf n391_72)))) ((snd_br ((snd_br ((snd_lf n391_69)) ((snd_lf n391_68)))) ((snd_lf n391_65)))))))) ((snd_br ((snd_br ((snd_br ((snd_br ((snd_lf n391_62)) ((snd_lf n391_61)))) ((snd_lf n391_60)))) ((snd_br ((snd_br ((snd_lf n391_57)) ((snd_lf n391_54)))) ((snd_lf n391_53)))))) ((snd_br ((snd_br ((snd_br ((snd_lf n391_52)) ((snd_lf n391_51)))) ((snd_lf n391_50)))) ((snd_br ((snd_br ((snd_lf n391_49)) ((snd_lf n391_46)))) ((snd_lf n391_43)))))))))) ((snd_br ((snd_br ((snd_br ((snd_br ((snd_br ((snd_lf n391_42)) ((snd_lf n391_41)))) ((snd_lf n391_38)))) ((snd_br ((snd_br ((snd_lf n391_37)) ((snd_lf n391_34)))) ((snd_lf n391_31)))))) ((snd_br ((snd_br ((snd_br ((snd_lf n391_29)) ((snd_lf n391_28)))) ((snd_lf n391_27)))) ((snd_br ((snd_br ((snd_lf n391_26)) ((snd_lf n391_23)))) ((snd_lf n391_20)))))))) ((snd_br ((snd_br ((snd_br ((snd_br ((snd_lf n391_19)) ((snd_lf n391_18)))) ((snd_lf n391_15)))) ((snd_br ((snd_br ((snd_lf n391_14)) ((snd_lf n391_11)))) ((snd_lf n391_8)))))) ((snd_br ((snd_br ((snd_br ((snd_lf n391_7)) ((snd_lf n391_6)))) ((snd_lf n391_5)))) ((snd_br ((snd_br ((snd_lf n391_2)) ((snd_lf n391_1)))) ((snd_lf n391_0)))))))))))
end
section
variable {G : AG}
theorem n392_0 : Snd mt G 392 0 (oAload 0 1) := w_aload_n (hm := mm392) dX3_nextWith_0
theorem n392_1 : Snd mt G 392 1 (oGetf [4] 53 4) := w_getf (hm := mm392) dX3_nextWith_1 (fok1 (k := 53) (T := TX3) 3 (Nat.le_of_ble_eq_true rfl) vc_3 (Nat.le_of_ble_eq_true rfl) q2458)
theorem n392_4 : Snd mt G 392 4 (oAload 0 5) := w_aload_n (hm := mm392) dX3_nextWith_4
theorem n392_5 : Snd mt G 392 5 (oIload 1 6) := w_iload_n (hm := mm392) dX3_nextWith_5
theorem n392_6 : Snd mt G 392 6 (oCall 2 (fV [4] 386 4) 0 9 xOut) := s_callV (m' := 386) (n := 1) xsh_out (w_xok0 mm392) (w_cal mm392 mm386 pn_X3 (Nat.le_of_ble_eq_true rfl) (Nat.le_of_ble_eq_true rfl)) (fun h b as hc hn => w_run_V (ci := 3) mm392 mm386 dX3_nextWith_6 (Or.inl (List.mem_singleton.mp hc)) (Nat.le_of_ble_eq_true rfl) vc_3 rfl q3036 q3038 qs115 q150 q3039 pa386 hn)
theorem n392_9 : Snd mt G 392 9 (oAld [106] 10) := w_aaload (hm := mm392) (kt := 6) dX3_nextWith_9 rfl at_6 (Nat.le_of_ble_eq_true rfl) (List.forall_mem_cons.mpr ⟨Or.inl rfl, (fun t ht => nomatch ht)⟩)
theorem n392_10 : Snd mt G 392 10 (oAstore 4 12) := w_astore (hm := mm392) dX3_nextWith_10 (Nat.le_of_ble_eq_true rfl)
theorem n392_12 : Snd mt G 392 12 (oAload 0 13) := w_aload_n (hm := mm392) dX3_nextWith_12
theorem n392_13 : Snd mt G 392 13 (oGetf [4] 27 16) := w_getf (hm := mm392) dX3_nextWith_13 (fok1 (k := 27) (T := TX3) 3 (Nat.le_of_ble_eq_true rfl) vc_3 (Nat.le_of_ble_eq_true rfl) q2432)
theorem n392_16 : Snd mt G 392 16 (oIstore 5 18) := w_istore (hm := mm392) dX3_nextWith_16 (Nat.le_of_ble_eq_true rfl)
theorem n392_18 : Snd mt G 392 18 (oIload 5 20) := w_iload (hm := mm392) dX3_nextWith_18
theorem n392_20 : Snd mt G 392 20 (oConst (.int 20000) 23) := w_sipush (hm := mm392) dX3_nextWith_20 (by decide)
theorem n392_23 : Snd mt G 392 23 (oCmpGt 73 26) := w_icmp_gt (hm := mm392) dX3_nextWith_23 rfl
theorem n392_26 : Snd mt G 392 26 (oAload 4 28) := w_aload (hm := mm392) dX3_nextWith_26
theorem n392_28 : Snd mt G 392 28 (oConst (.int 2) 29) := w_iconst (hm := mm392) dX3_nextWith_28 rfl
theorem n392_29 : Snd mt G 392 29 (oAld [100] 30) := w_iaload (hm := mm392) (kt := 0) dX3_nextWith_29 at_0 (Nat.le_of_ble_eq_true rfl) (List.forall_mem_cons.mpr ⟨Or.inl rfl, (fun t ht => nomatch ht)⟩)
theorem n392_30 : Snd mt G 392 30 (oUn (fun x => .long x.toInt64) 31) := w_i2l (hm := mm392) dX3_nextWith_30
theorem n392_31 : Snd mt G 392 31 (oIload 3 32) := w_iload_n (hm := mm392) dX3_nextWith_31
theorem n392_32 : Snd mt G 392 32 (oUn (fun x => .long x.toInt64) 33) := w_i2l (hm := mm392) dX3_nextWith_32
theorem n392_33 : Snd mt G 392 33 (oIload 5 35) := w_iload (hm := mm392) dX3_nextWith_33
theorem n392_35 : Snd mt G 392 35 (oAload 4 37) := w_aload (hm := mm392) dX3_nextWith_35
theorem n392_37 : Snd mt G 392 37 (oConst (.int 1) 38) := w_iconst (hm := mm392) dX3_nextWith_37 rfl
theorem n392_38 : Snd mt G 392 38 (oAld [100] 39) := w_iaload (hm := mm392) (kt := 0) dX3_nextWith_38 at_0 (Nat.le_of_ble_eq_true rfl) (List.forall_mem_cons.mpr ⟨Or.inl rfl, (fun t ht => nomatch ht)⟩)
theorem n392_39 : Snd mt G 392 39 (oBin (fun x y => x - y) 40) := w_isub (hm := mm392) dX3_nextWith_39
theorem n392_40 : Snd mt G 392 40 (oUn (fun x => .long x.toInt64) 41) := w_i2l (hm := mm392) dX3_nextWith_40
theorem n392_41 : Snd mt G 392 41 (oLbin (fun x y => .long (x * y)) 42) := w_lmul (hm := mm392) dX3_nextWith_41
theorem n392_42 : Snd mt G 392 42 (oConst (.long 365) 45) := w_ldc2 (hm := mm392) dX3_nextWith_42 q3064
theorem n392_45 : Snd mt G 392 45 (oLdiv (fun x y => .long (x / y)) 46) := w_ldiv (hm := mm392) dX3_nextWith_45
theorem n392_46 : Snd mt G 392 46 (oLbin (fun x y => .long (x + y)) 47) := w_ladd (hm := mm392) dX3_nextWith_46
theorem n392_47 : Snd mt G 392 47 (oAload 0 48) := w_aload_n (hm := mm392) dX3_nextWith_47
theorem n392_48 : Snd mt G 392 48 (oIload 1 49) := w_iload_n (hm := mm392) dX3_nextWith_48
theorem n392_49 : Snd mt G 392 49 (oConst (.int 2) 50) := w_iconst (hm := mm392) dX3_nextWith_49 rfl
theorem n392_50 : Snd mt G 392 50 (oCall 3 (fV [4] 330 3) 0 53 xOut) := s_callV (m' := 330) (n := 2) xsh_out (w_xok0 mm392) (w_cal mm392 mm330 pn_X3 (Nat.le_of_ble_eq_true rfl) (Nat.le_of_ble_eq_true rfl)) (fun h b as hc hn => w_run_V (ci := 3) mm392 mm330 dX3_nextWith_50 (Or.inl (List.mem_singleton.mp hc)) (Nat.le_of_ble_eq_true rfl) vc_3 rfl q2814 q2816 qs93 q150 q2817 pa330 hn)
theorem n392_53 : Snd mt G 392 53 (oConst (.int 4) 54) := w_iconst (hm := mm392) dX3_nextWith_53 rfl
theorem n392_54 : Snd mt G 392 54 (oAld [100] 55) := w_iaload (hm := mm392) (kt := 0) dX3_nextWith_54 at_0 (Nat.le_of_ble_eq_true rfl) (List.forall_mem_cons.mpr ⟨Or.inl rfl, (fun t ht => nomatch ht)⟩)
theorem n392_55 : Snd mt G 392 55 (oUn (fun x => .long x.toInt64) 56) := w_i2l (hm := mm392) dX3_nextWith_55
theorem n392_56 : Snd mt G 392 56 (oLbin (fun x y => .long (x - y)) 57) := w_lsub (hm := mm392) dX3_nextWith_56
theorem n392_57 : Snd mt G 392 57 (oIload 2 58) := w_iload_n (hm := mm392) dX3_nextWith_57
theorem n392_58 : Snd mt G 392 58 (oCall 2 (fS 343 3) 0 61 xOut) := s_callS (m' := 343) (n := 2) xsh_out (w_xok0 mm392) (w_cal mm392 mm343 pn_X3 (Nat.le_of_ble_eq_true rfl) (Nat.le_of_ble_eq_true rfl)) (fun h as hn => w_run_S mm392 mm343 dX3_nextWith_58 q2866 q2867 q150 q2868 pa343 hn)
theorem n392_61 : Snd mt G 392 61 (oIfEq 67 64) := w_if_eq (hm := mm392) dX3_nextWith_61 rfl
theorem n392_64 : Snd mt G 392 64 (oIload 5 66) := w_iload (hm := mm392) dX3_nextWith_64
theorem n392_66 : Snd mt G 392 66 (oRetI .int) := w_iret (hm := mm392) dX3_nextWith_66 rfl
theorem n392_67 : Snd mt G 392 67 (oIinc 5 1 70) := w_iinc (hm := mm392) dX3_nextWith_67 rfl (Nat.le_of_ble_eq_true rfl)
theorem n392_70 : Snd mt G 392 70 (oGoto 18) := w_goto (hm := mm392) dX3_nextWith_70 rfl
theorem n392_73 : Snd mt G 392 73 (oConst (.int (-1)) 74) := w_iconst (hm := mm392) dX3_nextWith_73 rfl
theorem n392_74 : Snd mt G 392 74 (oRetI .int) := w_iret (hm := mm392) dX3_nextWith_74 rfl
theorem sj392 : ∀ pc, Snd mt G 392 pc (j392 pc) := fun pc => (snd_br ((snd_br ((snd_br ((snd_br ((snd_br ((snd_br ((snd_lf n392_74)) ((snd_lf n392_73)))) ((snd_lf n392_70)))) ((snd_br ((snd_br ((snd_lf n392_67)) ((snd_lf n392_66)))) ((snd_lf n392_64)))))) ((snd_br ((snd_br ((snd_br ((snd_lf n392_61)) ((snd_lf n392_58)))) ((snd_lf n392_57)))) ((snd_br ((snd_br ((snd_lf n392_56)) ((snd_lf n392_55)))) ((snd_lf n392_54)))))))) ((snd_br ((snd_br ((snd_br ((snd_br ((snd_lf n392_53)) ((snd_lf n392_50)))) ((snd_lf n392_49)))) ((snd_br ((snd_br ((snd_lf n392_48)) ((snd_lf n392_47)))) ((snd_lf n392_46)))))) ((snd_br ((snd_br ((snd_br ((snd_lf n392_45)) ((snd_lf n392_42)))) ((snd_lf n392_41)))) ((snd_br ((snd_lf n392_40)) ((snd_lf n392_39)))))))))) ((snd_br ((snd_br ((snd_br ((snd_br ((snd_br ((snd_lf n392_38)) ((snd_lf n392_37)))) ((snd_lf n392_35)))) ((snd_br ((snd_br ((snd_lf n392_33)) ((snd_lf n392_32)))) ((snd_lf n392_31)))))) ((snd_br ((snd_br ((snd_br ((snd_lf n392_30)) ((snd_lf n392_29)))) ((snd_lf n392_28)))) ((snd_br ((snd_br ((snd_lf n392_26)) ((snd_lf n392_23)))) ((snd_lf n392_20)))))))) ((snd_br ((snd_br ((snd_br ((snd_br ((snd_lf n392_18)) ((snd_lf n392_16)))) ((snd_lf n392_13)))) ((snd_br ((snd_br ((snd_lf n392_12)) ((snd_lf n392_10)))) ((snd_lf n392_9)))))) ((snd_br ((snd_br ((snd_br ((snd_lf n392_6)) ((snd_lf n392_5)))) ((snd_lf n392_4)))) ((snd_br ((snd_lf n392_1)) ((snd_lf n392_0)))))))))))
end
section
variable {G : AG}
theorem n393_0 : Snd mt G 393 0 (oAload 0 1) := w_aload_n (hm := mm393) dX3_chance_0
theorem n393_1 : Snd mt G 393 1 (oConst (.int 0) 2) := w_iconst (hm := mm393) dX3_chance_1 rfl
theorem n393_2 : Snd mt G 393 2 (oPutf [4] 0 .int 5) := w_putf (hm := mm393) dX3_chance_2 (pok1 (k := 0) (T := TX3) 3 (Nat.le_of_ble_eq_true rfl) vc_3 (Nat.le_of_ble_eq_true rfl) rfl pd_X3_0 q2405)
theorem n393_5 : Snd mt G 393 5 (oAload 0 6) := w_aload_n (hm := mm393) dX3_chance_5
theorem n393_6 : Snd mt G 393 6 (oAload 0 7) := w_aload_n (hm := mm393) dX3_chance_6
theorem n393_7 : Snd mt G 393 7 (oIload 1 8) := w_iload_n (hm := mm393) dX3_chance_7
theorem n393_8 : Snd mt G 393 8 (oCall 2 (fV [4] 316 2) 0 11 xOut) := s_callV (m' := 316) (n := 1) xsh_out (w_xok0 mm393) (w_cal mm393 mm316 pn_X3 (Nat.le_of_ble_eq_true rfl) (Nat.le_of_ble_eq_true rfl)) (fun h b as hc hn => w_run_V (ci := 3) mm393 mm316 dX3_chance_8 (Or.inl (List.mem_singleton.mp hc)) (Nat.le_of_ble_eq_true rfl) vc_3 rfl q2758 q2760 qs84 q150 q2761 pa316 hn)
theorem n393_11 : Snd mt G 393 11 (oIfEq 14 18) := w_if_ne (hm := mm393) dX3_chance_11 rfl
theorem n393_14 : Snd mt G 393 14 (oConst (.int 1) 15) := w_iconst (hm := mm393) dX3_chance_14 rfl
theorem n393_15 : Snd mt G 393 15 (oGoto 19) := w_goto (hm := mm393) dX3_chance_15 rfl
theorem n393_18 : Snd mt G 393 18 (oConst (.int 0) 19) := w_iconst (hm := mm393) dX3_chance_18 rfl
theorem n393_19 : Snd mt G 393 19 (oConst (.int 1) 20) := w_iconst (hm := mm393) dX3_chance_19 rfl
theorem n393_20 : Snd mt G 393 20 (oCall 3 (fV [4] 285 3) 0 23 xOut) := s_callV (m' := 285) (n := 2) xsh_out (w_xok0 mm393) (w_cal mm393 mm285 pn_X3 (Nat.le_of_ble_eq_true rfl) (Nat.le_of_ble_eq_true rfl)) (fun h b as hc hn => w_run_V (ci := 3) mm393 mm285 dX3_chance_20 (Or.inl (List.mem_singleton.mp hc)) (Nat.le_of_ble_eq_true rfl) vc_3 rfl q2634 q2636 qs62 q150 q2637 pa285 hn)
theorem n393_23 : Snd mt G 393 23 (oIfEq 26 60) := w_if_ne (hm := mm393) dX3_chance_23 rfl
theorem n393_26 : Snd mt G 393 26 (oAload 0 27) := w_aload_n (hm := mm393) dX3_chance_26
theorem n393_27 : Snd mt G 393 27 (oIload 2 28) := w_iload_n (hm := mm393) dX3_chance_27
theorem n393_28 : Snd mt G 393 28 (oConst (.int 0) 29) := w_iconst (hm := mm393) dX3_chance_28 rfl
theorem n393_29 : Snd mt G 393 29 (oConst (.int 99) 31) := w_bipush (hm := mm393) dX3_chance_29 (by decide)
theorem n393_31 : Snd mt G 393 31 (oCall 3 (fS 284 3) 0 34 xOut) := s_callS (m' := 284) (n := 3) xsh_out (w_xok0 mm393) (w_cal mm393 mm284 pn_X3 (Nat.le_of_ble_eq_true rfl) (Nat.le_of_ble_eq_true rfl)) (fun h as hn => w_run_S mm393 mm284 dX3_chance_31 q2631 q2632 q150 q2633 pa284 hn)
theorem n393_34 : Snd mt G 393 34 (oIfEq 48 37) := w_if_eq (hm := mm393) dX3_chance_34 rfl
theorem n393_37 : Snd mt G 393 37 (oIload 3 38) := w_iload_n (hm := mm393) dX3_chance_37
theorem n393_38 : Snd mt G 393 38 (oConst (.int 0) 39) := w_iconst (hm := mm393) dX3_chance_38 rfl
theorem n393_39 : Snd mt G 393 39 (oConst (.int 20000) 42) := w_sipush (hm := mm393) dX3_chance_39 (by decide)
theorem n393_42 : Snd mt G 393 42 (oCall 3 (fS 284 3) 0 45 xOut) := s_callS (m' := 284) (n := 3) xsh_out (w_xok0 mm393) (w_cal mm393 mm284 pn_X3 (Nat.le_of_ble_eq_true rfl) (Nat.le_of_ble_eq_true rfl)) (fun h as hn => w_run_S mm393 mm284 dX3_chance_42 q2631 q2632 q150 q2633 pa284 hn)
theorem n393_45 : Snd mt G 393 45 (oIfEq 48 52) := w_if_ne (hm := mm393) dX3_chance_45 rfl
theorem n393_48 : Snd mt G 393 48 (oConst (.int 1) 49) := w_iconst (hm := mm393) dX3_chance_48 rfl
theorem n393_49 : Snd mt G 393 49 (oGoto 53) := w_goto (hm := mm393) dX3_chance_49 rfl
theorem n393_52 : Snd mt G 393 52 (oConst (.int 0) 53) := w_iconst (hm := mm393) dX3_chance_52 rfl
theorem n393_53 : Snd mt G 393 53 (oConst (.int 2) 54) := w_iconst (hm := mm393) dX3_chance_53 rfl
theorem n393_54 : Snd mt G 393 54 (oCall 3 (fV [4] 285 3) 0 57 xOut) := s_callV (m' := 285) (n := 2) xsh_out (w_xok0 mm393) (w_cal mm393 mm285 pn_X3 (Nat.le_of_ble_eq_true rfl) (Nat.le_of_ble_eq_true rfl)) (fun h b as hc hn => w_run_V (ci := 3) mm393 mm285 dX3_chance_54 (Or.inl (List.mem_singleton.mp hc)) (Nat.le_of_ble_eq_true rfl) vc_3 rfl q2634 q2636 qs62 q150 q2637 pa285 hn)
theorem n393_57 : Snd mt G 393 57 (oIfEq 62 60) := w_if_eq (hm := mm393) dX3_chance_57 rfl
theorem n393_60 : Snd mt G 393 60 (oConst (.int 0) 61) := w_iconst (hm := mm393) dX3_chance_60 rfl
theorem n393_61 : Snd mt G 393 61 (oRetI .int) := w_iret (hm := mm393) dX3_chance_61 rfl
theorem n393_62 : Snd mt G 393 62 (oAload 0 63) := w_aload_n (hm := mm393) dX3_chance_62
theorem n393_63 : Snd mt G 393 63 (oIload 1 64) := w_iload_n (hm := mm393) dX3_chance_63
theorem n393_64 : Snd mt G 393 64 (oConst (.int 2) 65) := w_iconst (hm := mm393) dX3_chance_64 rfl
theorem n393_65 : Snd mt G 393 65 (oCall 3 (fV [4] 329 3) 0 68 xOut) := s_callV (m' := 329) (n := 2) xsh_out (w_xok0 mm393) (w_cal mm393 mm329 pn_X3 (Nat.le_of_ble_eq_true rfl) (Nat.le_of_ble_eq_true rfl)) (fun h b as hc hn => w_run_V (ci := 3) mm393 mm329 dX3_chance_65 (Or.inl (List.mem_singleton.mp hc)) (Nat.le_of_ble_eq_true rfl) vc_3 rfl q2810 q2812 qs92 q150 q2813 pa329 hn)
theorem n393_68 : Snd mt G 393 68 (oIfEq 79 71) := w_if_eq (hm := mm393) dX3_chance_68 rfl
theorem n393_71 : Snd mt G 393 71 (oAload 0 72) := w_aload_n (hm := mm393) dX3_chance_71
theorem n393_72 : Snd mt G 393 72 (oIload 1 73) := w_iload_n (hm := mm393) dX3_chance_72
theorem n393_73 : Snd mt G 393 73 (oCall 2 (fV [4] 388 2) 0 76 xOut) := s_callV (m' := 388) (n := 1) xsh_out (w_xok0 mm393) (w_cal mm393 mm388 pn_X3 (Nat.le_of_ble_eq_true rfl) (Nat.le_of_ble_eq_true rfl)) (fun h b as hc hn => w_run_V (ci := 3) mm393 mm388 dX3_chance_73 (Or.inl (List.mem_singleton.mp hc)) (Nat.le_of_ble_eq_true rfl) vc_3 rfl q3044 q3046 qs116 q150 q3047 pa388 hn)
theorem n393_76 : Snd mt G 393 76 (oGoto 80) := w_goto (hm := mm393) dX3_chance_76 rfl
theorem n393_79 : Snd mt G 393 79 (oConst (.int 0) 80) := w_iconst (hm := mm393) dX3_chance_79 rfl
theorem n393_80 : Snd mt G 393 80 (oIstore 4 82) := w_istore (hm := mm393) dX3_chance_80 (Nat.le_of_ble_eq_true rfl)
theorem n393_82 : Snd mt G 393 82 (oConst (.int 0) 83) := w_iconst (hm := mm393) dX3_chance_82 rfl
theorem n393_83 : Snd mt G 393 83 (oIstore 5 85) := w_istore (hm := mm393) dX3_chance_83 (Nat.le_of_ble_eq_true rfl)
theorem n393_85 : Snd mt G 393 85 (oConst (.int 0) 86) := w_iconst (hm := mm393) dX3_chance_85 rfl
theorem n393_86 : Snd mt G 393 86 (oIstore 6 88) := w_istore (hm := mm393) dX3_chance_86 (Nat.le_of_ble_eq_true rfl)
theorem n393_88 : Snd mt G 393 88 (oIload 6 90) := w_iload (hm := mm393) dX3_chance_88
theorem n393_90 : Snd mt G 393 90 (oIload 4 92) := w_iload (hm := mm393) dX3_chance_90
theorem n393_92 : Snd mt G 393 92 (oCmpGe 138 95) := w_icmp_ge (hm := mm393) dX3_chance_92 rfl
theorem n393_95 : Snd mt G 393 95 (oAload 0 96) := w_aload_n (hm := mm393) dX3_chance_95
theorem n393_96 : Snd mt G 393 96 (oIload 1 97) := w_iload_n (hm := mm393) dX3_chance_96
theorem n393_97 : Snd mt G 393 97 (oIload 2 98) := w_iload_n (hm := mm393) dX3_chance_97
theorem n393_98 : Snd mt G 393 98 (oAload 0 99) := w_aload_n (hm := mm393) dX3_chance_98
theorem n393_99 : Snd mt G 393 99 (oIload 1 100) := w_iload_n (hm := mm393) dX3_chance_99
theorem n393_100 : Snd mt G 393 100 (oIload 6 102) := w_iload (hm := mm393) dX3_chance_100
theorem n393_102 : Snd mt G 393 102 (oCall 3 (fV [4] 389 8) 0 105 xOut) := s_callV (m' := 389) (n := 2) xsh_out (w_xok0 mm393) (w_cal mm393 mm389 pn_X3 (Nat.le_of_ble_eq_true rfl) (Nat.le_of_ble_eq_true rfl)) (fun h b as hc hn => w_run_V (ci := 3) mm393 mm389 dX3_chance_102 (Or.inl (List.mem_singleton.mp hc)) (Nat.le_of_ble_eq_true rfl) vc_3 rfl q3048 q3050 qs117 q150 q3051 pa389 hn)
theorem n393_105 : Snd mt G 393 105 (oCall 4 (fV [4] 392 6) 0 108 xOut) := s_callV (m' := 392) (n := 3) xsh_out (w_xok0 mm393) (w_cal mm393 mm392 pn_X3 (Nat.le_of_ble_eq_true rfl) (Nat.le_of_ble_eq_true rfl)) (fun h b as hc hn => w_run_V (ci := 3) mm393 mm392 dX3_chance_105 (Or.inl (List.mem_singleton.mp hc)) (Nat.le_of_ble_eq_true rfl) vc_3 rfl q3060 q3062 qs119 q150 q3063 pa392 hn)
theorem n393_108 : Snd mt G 393 108 (oIstore 7 110) := w_istore (hm := mm393) dX3_chance_108 (Nat.le_of_ble_eq_true rfl)
theorem n393_110 : Snd mt G 393 110 (oIload 5 112) := w_iload (hm := mm393) dX3_chance_110
theorem n393_112 : Snd mt G 393 112 (oIload 7 114) := w_iload (hm := mm393) dX3_chance_112
theorem n393_114 : Snd mt G 393 114 (oConst (.int (-1)) 115) := w_iconst (hm := mm393) dX3_chance_114 rfl
theorem n393_115 : Snd mt G 393 115 (oCmpEq 128 118) := w_icmp_eq (hm := mm393) dX3_chance_115 rfl
theorem n393_118 : Snd mt G 393 118 (oIload 7 120) := w_iload (hm := mm393) dX3_chance_118
theorem n393_120 : Snd mt G 393 120 (oIload 3 121) := w_iload_n (hm := mm393) dX3_chance_120
theorem n393_121 : Snd mt G 393 121 (oCmpGt 128 124) := w_icmp_gt (hm := mm393) dX3_chance_121 rfl
theorem n393_124 : Snd mt G 393 124 (oConst (.int 1) 125) := w_iconst (hm := mm393) dX3_chance_124 rfl
theorem n393_125 : Snd mt G 393 125 (oGoto 129) := w_goto (hm := mm393) dX3_chance_125 rfl
theorem n393_128 : Snd mt G 393 128 (oConst (.int 0) 129) := w_iconst (hm := mm393) dX3_chance_128 rfl
theorem n393_129 : Snd mt G 393 129 (oBin (fun x y => x + y) 130) := w_iadd (hm := mm393) dX3_chance_129
theorem n393_130 : Snd mt G 393 130 (oIstore 5 132) := w_istore (hm := mm393) dX3_chance_130 (Nat.le_of_ble_eq_true rfl)
theorem n393_132 : Snd mt G 393 132 (oIinc 6 1 135) := w_iinc (hm := mm393) dX3_chance_132 rfl (Nat.le_of_ble_eq_true rfl)
theorem n393_135 : Snd mt G 393 135 (oGoto 88) := w_goto (hm := mm393) dX3_chance_135 rfl
theorem n393_138 : Snd mt G 393 138 (oIload 5 140) := w_iload (hm := mm393) dX3_chance_138
theorem n393_140 : Snd mt G 393 140 (oRetI .int) := w_iret (hm := mm393) dX3_chance_140 rfl
theorem sj393 : ∀ pc, Snd mt G 393 pc (j393 pc) := fun pc => (snd_br ((snd_br ((snd_br ((snd_br ((snd_br ((snd_br ((snd_br ((snd_lf n393_140)) ((snd_lf n393_138)))) ((snd_lf n393_135)))) ((snd_br ((snd_lf n393_132)) ((snd_lf n393_130)))))) ((snd_br ((snd_br ((snd_br ((snd_lf n393_129)) ((snd_lf n393_128)))) ((snd_lf n393_125)))) ((snd_br ((snd_lf n393_124)) ((snd_lf n393_121)))))))) ((snd_br ((snd_br ((snd_br ((snd_br ((snd_lf n393_120)) ((snd_lf n393_118)))) ((snd_lf n393_115)))) ((snd_br ((snd_lf n393_114)) ((snd_lf n393_112)))))) ((snd_br ((snd_br ((snd_lf n393_110)) ((snd_lf n393_108)))) ((snd_br ((snd_lf n393_105)) ((snd_lf n393_102)))))))))) ((snd_br ((snd_br ((snd_br ((snd_br ((snd_br ((snd_lf n393_100)) ((snd_lf n393_99)))) ((snd_lf n393_98)))) ((snd_br ((snd_lf n393_97)) ((snd_lf n393_96)))))) ((snd_br ((snd_br ((snd_br ((snd_lf n393_95)) ((snd_lf n393_92)))) ((snd_lf n393_90)))) ((snd_br ((snd_lf n393_88)) ((snd_lf n393_86)))))))) ((snd_br ((snd_br ((snd_br ((snd_br ((snd_lf n393_85)) ((snd_lf n393_83)))) ((snd_lf n393_82)))) ((snd_br ((snd_lf n393_80)) ((snd_lf n393_79)))))) ((snd_br ((snd_br ((snd_lf n393_76)) ((snd_lf n393_73)))) ((snd_br ((snd_lf n393_72)) ((snd_lf n393_71)))))))))))) ((snd_br ((snd_br ((snd_br ((snd_br ((snd_br ((snd_br ((snd_lf n393_68)) ((snd_lf n393_65)))) ((snd_lf n393_64)))) ((snd_br ((snd_lf n393_63)) ((snd_lf n393_62)))))) ((snd_br ((snd_br ((snd_br ((snd_lf n393_61)) ((snd_lf n393_60)))) ((snd_lf n393_57)))) ((snd_br ((snd_lf n393_54)) ((snd_lf n393_53)))))))) ((snd_br ((snd_br ((snd_br ((snd_br ((snd_lf n393_52)) ((snd_lf n393_49)))) ((snd_lf n393_48)))) ((snd_br ((snd_lf n393_45)) ((snd_lf n393_42)))))) ((snd_br ((snd_br ((snd_lf n393_39)) ((snd_lf n393_38)))) ((snd_br ((snd_lf n393_37)) ((snd_lf n393_34)))))))))) ((snd_br ((snd_br ((snd_br ((snd_br ((snd_br ((snd_lf n393_31)) ((snd_lf n393_29)))) ((snd_lf n393_28)))) ((snd_br ((snd_lf n393_27)) ((snd_lf n393_26)))))) ((snd_br ((snd_br ((snd_br ((snd_lf n393_23)) ((snd_lf n393_20)))) ((snd_lf n393_19)))) ((snd_br ((snd_lf n393_18)) ((snd_lf n393_15)))))))) ((snd_br ((snd_br ((snd_br ((snd_br ((snd_lf n393_14)) ((snd_lf n393_11)))) ((snd_lf n393_8)))) ((snd_br ((snd_lf n393_7)) ((snd_lf n393_6)))))) ((snd_br ((snd_br ((snd_lf n393_5)) ((snd_lf n393_2)))) ((snd_br ((snd_lf n393_1)) ((snd_lf n393_0)))))))))))))
end
section
variable {G : AG}
theorem n394_0 : Snd mt G 394 0 (oAload 0 1) := w_aload_n (hm := mm394) dX3_fitter_0
theorem n394_1 : Snd mt G 394 1 (oConst (.int 0) 2) := w_iconst (hm := mm394) dX3_fitter_1 rfl
theorem n394_2 : Snd mt G 394 2 (oPutf [4] 0 .int 5) := w_putf (hm := mm394) dX3_fitter_2 (pok1 (k := 0) (T := TX3) 3 (Nat.le_of_ble_eq_true rfl) vc_3 (Nat.le_of_ble_eq_true rfl) rfl pd_X3_0 q2405)
theorem n394_5 : Snd mt G 394 5 (oAload 0 6) := w_aload_n (hm := mm394) dX3_fitter_5
theorem n394_6 : Snd mt G 394 6 (oIload 1 7) := w_iload_n (hm := mm394) dX3_fitter_6
theorem n394_7 : Snd mt G 394 7 (oCall 1 (fS 395 1) 0 10 xOut) := s_callS (m' := 395) (n := 1) xsh_out (w_xok0 mm394) (w_cal mm394 mm395 pn_X3 (Nat.le_of_ble_eq_true rfl) (Nat.le_of_ble_eq_true rfl)) (fun h as hn => w_run_S mm394 mm395 dX3_fitter_7 q3073 q3074 q150 q3075 pa395 hn)
theorem n394_10 : Snd mt G 394 10 (oIfEq 13 17) := w_if_ne (hm := mm394) dX3_fitter_10 rfl
theorem n394_13 : Snd mt G 394 13 (oConst (.int 1) 14) := w_iconst (hm := mm394) dX3_fitter_13 rfl
theorem n394_14 : Snd mt G 394 14 (oGoto 18) := w_goto (hm := mm394) dX3_fitter_14 rfl
theorem n394_17 : Snd mt G 394 17 (oConst (.int 0) 18) := w_iconst (hm := mm394) dX3_fitter_17 rfl
theorem n394_18 : Snd mt G 394 18 (oConst (.int 1) 19) := w_iconst (hm := mm394) dX3_fitter_18 rfl
theorem n394_19 : Snd mt G 394 19 (oCall 3 (fV [4] 285 3) 0 22 xOut) := s_callV (m' := 285) (n := 2) xsh_out (w_xok0 mm394) (w_cal mm394 mm285 pn_X3 (Nat.le_of_ble_eq_true rfl) (Nat.le_of_ble_eq_true rfl)) (fun h b as hc hn => w_run_V (ci := 3) mm394 mm285 dX3_fitter_19 (Or.inl (List.mem_singleton.mp hc)) (Nat.le_of_ble_eq_true rfl) vc_3 rfl q2634 q2636 qs62 q150 q2637 pa285 hn)
theorem n394_22 : Snd mt G 394 22 (oIfEq 27 25) := w_if_eq (hm := mm394) dX3_fitter_22 rfl
theorem n394_25 : Snd mt G 394 25 (oConst (.int 0) 26) := w_iconst (hm := mm394) dX3_fitter_25 rfl
theorem n394_26 : Snd mt G 394 26 (oRetI .int) := w_iret (hm := mm394) dX3_fitter_26 rfl
theorem n394_27 : Snd mt G 394 27 (oAload 0 28) := w_aload_n (hm := mm394) dX3_fitter_27
theorem n394_28 : Snd mt G 394 28 (oGetf [4] 41 31) := w_getf (hm := mm394) dX3_fitter_28 (fok1 (k := 41) (T := TX3) 3 (Nat.le_of_ble_eq_true rfl) vc_3 (Nat.le_of_ble_eq_true rfl) q2446)
theorem n394_31 : Snd mt G 394 31 (oIstore 2 32) := w_istore_n (hm := mm394) dX3_fitter_31 (Nat.le_of_ble_eq_true rfl)
theorem n394_32 : Snd mt G 394 32 (oAload 0 33) := w_aload_n (hm := mm394) dX3_fitter_32
theorem n394_33 : Snd mt G 394 33 (oIload 1 34) := w_iload_n (hm := mm394) dX3_fitter_33
theorem n394_34 : Snd mt G 394 34 (oPutf [4] 41 .int 37) := w_putf (hm := mm394) dX3_fitter_34 (pok1 (k := 41) (T := TX3) 3 (Nat.le_of_ble_eq_true rfl) vc_3 (Nat.le_of_ble_eq_true rfl) rfl pd_X3_41 q2446)
theorem n394_37 : Snd mt G 394 37 (oIload 2 38) := w_iload_n (hm := mm394) dX3_fitter_37
theorem n394_38 : Snd mt G 394 38 (oRetI .int) := w_iret (hm := mm394) dX3_fitter_38 rfl
theorem sj394 : ∀ pc, Snd mt G 394 pc (j394 pc) := fun pc => (snd_br ((snd_br ((snd_br ((snd_br ((snd_br ((snd_lf n394_38)) ((snd_lf n394_37)))) ((snd_lf n394_34)))) ((snd_br ((snd_br ((snd_lf n394_33)) ((snd_lf n394_32)))) ((snd_lf n394_31)))))) ((snd_br ((snd_br ((snd_br ((snd_lf n394_28)) ((snd_lf n394_27)))) ((snd_lf n394_26)))) ((snd_br ((snd_br ((snd_lf n394_25)) ((snd_lf n394_22)))) ((snd_lf n394_19)))))))) ((snd_br ((snd_br ((snd_br ((snd_br ((snd_lf n394_18)) ((snd_lf n394_17)))) ((snd_lf n394_14)))) ((snd_br ((snd_br ((snd_lf n394_13)) ((snd_lf n394_10)))) ((snd_lf n394_7)))))) ((snd_br ((snd_br ((snd_br ((snd_lf n394_6)) ((snd_lf n394_5)))) ((snd_lf n394_2)))) ((snd_br ((snd_lf n394_1)) ((snd_lf n394_0)))))))))
end
section
variable {G : AG}
theorem n395_0 : Snd mt G 395 0 (oIload 0 1) := w_iload_n (hm := mm395) dX3_isFitter_0
theorem n395_1 : Snd mt G 395 1 (oConst (.int 0) 2) := w_iconst (hm := mm395) dX3_isFitter_1 rfl
theorem n395_2 : Snd mt G 395 2 (oConst (.int 3) 3) := w_iconst (hm := mm395) dX3_isFitter_2 rfl
theorem n395_3 : Snd mt G 395 3 (oCall 3 (fS 284 3) 0 6 xOut) := s_callS (m' := 284) (n := 3) xsh_out (w_xok0 mm395) (w_cal mm395 mm284 pn_X3 (Nat.le_of_ble_eq_true rfl) (Nat.le_of_ble_eq_true rfl)) (fun h as hn => w_run_S mm395 mm284 dX3_isFitter_3 q2631 q2632 q150 q2633 pa284 hn)
theorem n395_6 : Snd mt G 395 6 (oRetI .boolean) := w_zret (hm := mm395) dX3_isFitter_6 rfl
theorem sj395 : ∀ pc, Snd mt G 395 pc (j395 pc) := fun pc => (snd_br ((snd_br ((snd_br ((snd_lf n395_6)) ((snd_lf n395_3)))) ((snd_lf n395_2)))) ((snd_br ((snd_lf n395_1)) ((snd_lf n395_0)))))
end
section
variable {G : AG}
theorem n396_0 : Snd mt G 396 0 (oAload 0 1) := w_aload_n (hm := mm396) dX3_blister_0
theorem n396_1 : Snd mt G 396 1 (oConst (.int 0) 2) := w_iconst (hm := mm396) dX3_blister_1 rfl
theorem n396_2 : Snd mt G 396 2 (oPutf [4] 0 .int 5) := w_putf (hm := mm396) dX3_blister_2 (pok1 (k := 0) (T := TX3) 3 (Nat.le_of_ble_eq_true rfl) vc_3 (Nat.le_of_ble_eq_true rfl) rfl pd_X3_0 q2405)
theorem n396_5 : Snd mt G 396 5 (oAload 0 6) := w_aload_n (hm := mm396) dX3_blister_5
theorem n396_6 : Snd mt G 396 6 (oAload 0 7) := w_aload_n (hm := mm396) dX3_blister_6
theorem n396_7 : Snd mt G 396 7 (oIload 1 8) := w_iload_n (hm := mm396) dX3_blister_7
theorem n396_8 : Snd mt G 396 8 (oCall 2 (fV [4] 316 2) 0 11 xOut) := s_callV (m' := 316) (n := 1) xsh_out (w_xok0 mm396) (w_cal mm396 mm316 pn_X3 (Nat.le_of_ble_eq_true rfl) (Nat.le_of_ble_eq_true rfl)) (fun h b as hc hn => w_run_V (ci := 3) mm396 mm316 dX3_blister_8 (Or.inl (List.mem_singleton.mp hc)) (Nat.le_of_ble_eq_true rfl) vc_3 rfl q2758 q2760 qs84 q150 q2761 pa316 hn)
theorem n396_11 : Snd mt G 396 11 (oIfEq 14 18) := w_if_ne (hm := mm396) dX3_blister_11 rfl
theorem n396_14 : Snd mt G 396 14 (oConst (.int 1) 15) := w_iconst (hm := mm396) dX3_blister_14 rfl
theorem n396_15 : Snd mt G 396 15 (oGoto 19) := w_goto (hm := mm396) dX3_blister_15 rfl
theorem n396_18 : Snd mt G 396 18 (oConst (.int 0) 19) := w_iconst (hm := mm396) dX3_blister_18 rfl
theorem n396_19 : Snd mt G 396 19 (oConst (.int 1) 20) := w_iconst (hm := mm396) dX3_blister_19 rfl
theorem n396_20 : Snd mt G 396 20 (oCall 3 (fV [4] 285 3) 0 23 xOut) := s_callV (m' := 285) (n := 2) xsh_out (w_xok0 mm396) (w_cal mm396 mm285 pn_X3 (Nat.le_of_ble_eq_true rfl) (Nat.le_of_ble_eq_true rfl)) (fun h b as hc hn => w_run_V (ci := 3) mm396 mm285 dX3_blister_20 (Or.inl (List.mem_singleton.mp hc)) (Nat.le_of_ble_eq_true rfl) vc_3 rfl q2634 q2636 qs62 q150 q2637 pa285 hn)
theorem n396_23 : Snd mt G 396 23 (oIfEq 28 26) := w_if_eq (hm := mm396) dX3_blister_23 rfl
theorem n396_26 : Snd mt G 396 26 (oConst (.int 0) 27) := w_iconst (hm := mm396) dX3_blister_26 rfl
theorem n396_27 : Snd mt G 396 27 (oRetI .int) := w_iret (hm := mm396) dX3_blister_27 rfl
theorem n396_28 : Snd mt G 396 28 (oAload 0 29) := w_aload_n (hm := mm396) dX3_blister_28
theorem n396_29 : Snd mt G 396 29 (oGetf [4] 43 32) := w_getf (hm := mm396) dX3_blister_29 (fok1 (k := 43) (T := TX3) 3 (Nat.le_of_ble_eq_true rfl) vc_3 (Nat.le_of_ble_eq_true rfl) q2448)
theorem n396_32 : Snd mt G 396 32 (oConst (.int 30) 34) := w_bipush (hm := mm396) dX3_blister_32 (by decide)
theorem n396_34 : Snd mt G 396 34 (oCmpEq 37 39) := w_icmp_ne (hm := mm396) dX3_blister_34 rfl
theorem n396_37 : Snd mt G 396 37 (oConst (.int (-1)) 38) := w_iconst (hm := mm396) dX3_blister_37 rfl
theorem n396_38 : Snd mt G 396 38 (oRetI .int) := w_iret (hm := mm396) dX3_blister_38 rfl
theorem n396_39 : Snd mt G 396 39 (oAload 0 40) := w_aload_n (hm := mm396) dX3_blister_39
theorem n396_40 : Snd mt G 396 40 (oDup 41) := w_dup (hm := mm396) dX3_blister_40
theorem n396_41 : Snd mt G 396 41 (oGetf [4] 43 44) := w_getf (hm := mm396) dX3_blister_41 (fok1 (k := 43) (T := TX3) 3 (Nat.le_of_ble_eq_true rfl) vc_3 (Nat.le_of_ble_eq_true rfl) q2448)
theorem n396_44 : Snd mt G 396 44 (oConst (.int 1) 45) := w_iconst (hm := mm396) dX3_blister_44 rfl
theorem n396_45 : Snd mt G 396 45 (oBin (fun x y => x + y) 46) := w_iadd (hm := mm396) dX3_blister_45
theorem n396_46 : Snd mt G 396 46 (oPutf [4] 43 .int 49) := w_putf (hm := mm396) dX3_blister_46 (pok1 (k := 43) (T := TX3) 3 (Nat.le_of_ble_eq_true rfl) vc_3 (Nat.le_of_ble_eq_true rfl) rfl pd_X3_43 q2448)
theorem n396_49 : Snd mt G 396 49 (oConst (.int 0) 50) := w_iconst (hm := mm396) dX3_blister_49 rfl
theorem n396_50 : Snd mt G 396 50 (oIstore 2 51) := w_istore_n (hm := mm396) dX3_blister_50 (Nat.le_of_ble_eq_true rfl)
theorem n396_51 : Snd mt G 396 51 (oConst (.int 0) 52) := w_iconst (hm := mm396) dX3_blister_51 rfl
theorem n396_52 : Snd mt G 396 52 (oIstore 3 53) := w_istore_n (hm := mm396) dX3_blister_52 (Nat.le_of_ble_eq_true rfl)
theorem n396_53 : Snd mt G 396 53 (oIload 3 54) := w_iload_n (hm := mm396) dX3_blister_53
theorem n396_54 : Snd mt G 396 54 (oConst (.int 4) 55) := w_iconst (hm := mm396) dX3_blister_54 rfl
theorem n396_55 : Snd mt G 396 55 (oCmpGe 105 58) := w_icmp_ge (hm := mm396) dX3_blister_55 rfl
theorem n396_58 : Snd mt G 396 58 (oAload 0 59) := w_aload_n (hm := mm396) dX3_blister_58
theorem n396_59 : Snd mt G 396 59 (oIload 1 60) := w_iload_n (hm := mm396) dX3_blister_59
theorem n396_60 : Snd mt G 396 60 (oIload 3 61) := w_iload_n (hm := mm396) dX3_blister_60
theorem n396_61 : Snd mt G 396 61 (oCall 3 (fV [4] 329 3) 0 64 xOut) := s_callV (m' := 329) (n := 2) xsh_out (w_xok0 mm396) (w_cal mm396 mm329 pn_X3 (Nat.le_of_ble_eq_true rfl) (Nat.le_of_ble_eq_true rfl)) (fun h b as hc hn => w_run_V (ci := 3) mm396 mm329 dX3_blister_61 (Or.inl (List.mem_singleton.mp hc)) (Nat.le_of_ble_eq_true rfl) vc_3 rfl q2810 q2812 qs92 q150 q2813 pa329 hn)
theorem n396_64 : Snd mt G 396 64 (oIfEq 67 70) := w_if_ne (hm := mm396) dX3_blister_64 rfl
theorem n396_67 : Snd mt G 396 67 (oGoto 99) := w_goto (hm := mm396) dX3_blister_67 rfl
theorem n396_70 : Snd mt G 396 70 (oIinc 2 1 73) := w_iinc (hm := mm396) dX3_blister_70 rfl (Nat.le_of_ble_eq_true rfl)
theorem n396_73 : Snd mt G 396 73 (oAload 0 74) := w_aload_n (hm := mm396) dX3_blister_73
theorem n396_74 : Snd mt G 396 74 (oIload 1 75) := w_iload_n (hm := mm396) dX3_blister_74
theorem n396_75 : Snd mt G 396 75 (oIload 3 76) := w_iload_n (hm := mm396) dX3_blister_75
theorem n396_76 : Snd mt G 396 76 (oCall 3 (fV [4] 330 3) 0 79 xOut) := s_callV (m' := 330) (n := 2) xsh_out (w_xok0 mm396) (w_cal mm396 mm330 pn_X3 (Nat.le_of_ble_eq_true rfl) (Nat.le_of_ble_eq_true rfl)) (fun h b as hc hn => w_run_V (ci := 3) mm396 mm330 dX3_blister_76 (Or.inl (List.mem_singleton.mp hc)) (Nat.le_of_ble_eq_true rfl) vc_3 rfl q2814 q2816 qs93 q150 q2817 pa330 hn)
theorem n396_79 : Snd mt G 396 79 (oConst (.int 8) 81) := w_bipush (hm := mm396) dX3_blister_79 (by decide)
theorem n396_81 : Snd mt G 396 81 (oAld [100] 82) := w_iaload (hm := mm396) (kt := 0) dX3_blister_81 at_0 (Nat.le_of_ble_eq_true rfl) (List.forall_mem_cons.mpr ⟨Or.inl rfl, (fun t ht => nomatch ht)⟩)
theorem n396_82 : Snd mt G 396 82 (oConst (.int (-1)) 83) := w_iconst (hm := mm396) dX3_blister_82 rfl
theorem n396_83 : Snd mt G 396 83 (oCmpEq 86 99) := w_icmp_ne (hm := mm396) dX3_blister_83 rfl
theorem n396_86 : Snd mt G 396 86 (oAload 0 87) := w_aload_n (hm := mm396) dX3_blister_86
theorem n396_87 : Snd mt G 396 87 (oIload 1 88) := w_iload_n (hm := mm396) dX3_blister_87
theorem n396_88 : Snd mt G 396 88 (oIload 3 89) := w_iload_n (hm := mm396) dX3_blister_88
theorem n396_89 : Snd mt G 396 89 (oCall 3 (fV [4] 330 3) 0 92 xOut) := s_callV (m' := 330) (n := 2) xsh_out (w_xok0 mm396) (w_cal mm396 mm330 pn_X3 (Nat.le_of_ble_eq_true rfl) (Nat.le_of_ble_eq_true rfl)) (fun h b as hc hn => w_run_V (ci := 3) mm396 mm330 dX3_blister_89 (Or.inl (List.mem_singleton.mp hc)) (Nat.le_of_ble_eq_true rfl) vc_3 rfl q2814 q2816 qs93 q150 q2817 pa330 hn)
theorem n396_92 : Snd mt G 396 92 (oConst (.int 8) 94) := w_bipush (hm := mm396) dX3_blister_92 (by decide)
theorem n396_94 : Snd mt G 396 94 (oAload 0 95) := w_aload_n (hm := mm396) dX3_blister_94
theorem n396_95 : Snd mt G 396 95 (oGetf [4] 27 98) := w_getf (hm := mm396) dX3_blister_95 (fok1 (k := 27) (T := TX3) 3 (Nat.le_of_ble_eq_true rfl) vc_3 (Nat.le_of_ble_eq_true rfl) q2432)
theorem n396_98 : Snd mt G 396 98 (oIast [100] 99) := w_iastore (hm := mm396) (kt := 0) dX3_blister_98 at_0 (Nat.le_of_ble_eq_true rfl) (List.forall_mem_cons.mpr ⟨rfl, (fun t ht => nomatch ht)⟩)
theorem n396_99 : Snd mt G 396 99 (oIinc 3 1 102) := w_iinc (hm := mm396) dX3_blister_99 rfl (Nat.le_of_ble_eq_true rfl)
theorem n396_102 : Snd mt G 396 102 (oGoto 53) := w_goto (hm := mm396) dX3_blister_102 rfl
theorem n396_105 : Snd mt G 396 105 (oIload 2 106) := w_iload_n (hm := mm396) dX3_blister_105
theorem n396_106 : Snd mt G 396 106 (oRetI .int) := w_iret (hm := mm396) dX3_blister_106 rfl
theorem sj396 : ∀ pc, Snd mt G 396 pc (j396 pc) := fun pc => (snd_br ((snd_br ((snd_br ((snd_br ((snd_br ((snd_br ((snd_lf n396_106)) ((snd_lf n396_105)))) ((snd_br ((snd_lf n396_102)) ((snd_lf n396_99)))))) ((snd_br ((snd_br ((snd_lf n396_98)) ((snd_lf n396_95)))) ((snd_br ((snd_lf n396_94)) ((snd_lf n396_92)))))))) ((snd_br ((snd_br ((snd_br ((snd_lf n396_89)) ((snd_lf n396_88)))) ((snd_br ((snd_lf n396_87)) ((snd_lf n396_86)))))) ((snd_br ((snd_br ((snd_lf n396_83)) ((snd_lf n396_82)))) ((snd_br ((snd_lf n396_81)) ((snd_lf n396_79)))))))))) ((snd_br ((snd_br ((snd_br ((snd_br ((snd_lf n396_76)) ((snd_lf n396_75)))) ((snd_br ((snd_lf n396_74)) ((snd_lf n396_73)))))) ((snd_br ((snd_br ((snd_lf n396_70)) ((snd_lf n396_67)))) ((snd_br ((snd_lf n396_64)) ((snd_lf n396_61)))))))) ((snd_br ((snd_br ((snd_br ((snd_lf n396_60)) ((snd_lf n396_59)))) ((snd_br ((snd_lf n396_58)) ((snd_lf n396_55)))))) ((snd_br ((snd_br ((snd_lf n396_54)) ((snd_lf n396_53)))) ((snd_lf n396_52)))))))))) ((snd_br ((snd_br ((snd_br ((snd_br ((snd_br ((snd_lf n396_51)) ((snd_lf n396_50)))) ((snd_br ((snd_lf n396_49)) ((snd_lf n396_46)))))) ((snd_br ((snd_br ((snd_lf n396_45)) ((snd_lf n396_44)))) ((snd_br ((snd_lf n396_41)) ((snd_lf n396_40)))))))) ((snd_br ((snd_br ((snd_br ((snd_lf n396_39)) ((snd_lf n396_38)))) ((snd_br ((snd_lf n396_37)) ((snd_lf n396_34)))))) ((snd_br ((snd_br ((snd_lf n396_32)) ((snd_lf n396_29)))) ((snd_br ((snd_lf n396_28)) ((snd_lf n396_27)))))))))) ((snd_br ((snd_br ((snd_br ((snd_br ((snd_lf n396_26)) ((snd_lf n396_23)))) ((snd_br ((snd_lf n396_20)) ((snd_lf n396_19)))))) ((snd_br ((snd_br ((snd_lf n396_18)) ((snd_lf n396_15)))) ((snd_br ((snd_lf n396_14)) ((snd_lf n396_11)))))))) ((snd_br ((snd_br ((snd_br ((snd_lf n396_8)) ((snd_lf n396_7)))) ((snd_br ((snd_lf n396_6)) ((snd_lf n396_5)))))) ((snd_br ((snd_br ((snd_lf n396_2)) ((snd_lf n396_1)))) ((snd_lf n396_0)))))))))))
end
section
variable {G : AG}
theorem n397_0 : Snd mt G 397 0 (oAload 0 1) := w_aload_n (hm := mm397) dX3_skill_0
theorem n397_1 : Snd mt G 397 1 (oConst (.int 0) 2) := w_iconst (hm := mm397) dX3_skill_1 rfl
theorem n397_2 : Snd mt G 397 2 (oPutf [4] 0 .int 5) := w_putf (hm := mm397) dX3_skill_2 (pok1 (k := 0) (T := TX3) 3 (Nat.le_of_ble_eq_true rfl) vc_3 (Nat.le_of_ble_eq_true rfl) rfl pd_X3_0 q2405)
theorem n397_5 : Snd mt G 397 5 (oAload 0 6) := w_aload_n (hm := mm397) dX3_skill_5
theorem n397_6 : Snd mt G 397 6 (oIload 1 7) := w_iload_n (hm := mm397) dX3_skill_6
theorem n397_7 : Snd mt G 397 7 (oCall 1 (fS 395 1) 0 10 xOut) := s_callS (m' := 395) (n := 1) xsh_out (w_xok0 mm397) (w_cal mm397 mm395 pn_X3 (Nat.le_of_ble_eq_true rfl) (Nat.le_of_ble_eq_true rfl)) (fun h as hn => w_run_S mm397 mm395 dX3_skill_7 q3073 q3074 q150 q3075 pa395 hn)
theorem n397_10 : Snd mt G 397 10 (oIfEq 24 13) := w_if_eq (hm := mm397) dX3_skill_10 rfl
theorem n397_13 : Snd mt G 397 13 (oIload 3 14) := w_iload_n (hm := mm397) dX3_skill_13
theorem n397_14 : Snd mt G 397 14 (oConst (.int 0) 15) := w_iconst (hm := mm397) dX3_skill_14 rfl
theorem n397_15 : Snd mt G 397 15 (oConst (.int 999) 18) := w_sipush (hm := mm397) dX3_skill_15 (by decide)
theorem n397_18 : Snd mt G 397 18 (oCall 3 (fS 284 3) 0 21 xOut) := s_callS (m' := 284) (n := 3) xsh_out (w_xok0 mm397) (w_cal mm397 mm284 pn_X3 (Nat.le_of_ble_eq_true rfl) (Nat.le_of_ble_eq_true rfl)) (fun h as hn => w_run_S mm397 mm284 dX3_skill_18 q2631 q2632 q150 q2633 pa284 hn)
theorem n397_21 : Snd mt G 397 21 (oIfEq 24 28) := w_if_ne (hm := mm397) dX3_skill_21 rfl
theorem n397_24 : Snd mt G 397 24 (oConst (.int 1) 25) := w_iconst (hm := mm397) dX3_skill_24 rfl
theorem n397_25 : Snd mt G 397 25 (oGoto 29) := w_goto (hm := mm397) dX3_skill_25 rfl
theorem n397_28 : Snd mt G 397 28 (oConst (.int 0) 29) := w_iconst (hm := mm397) dX3_skill_28 rfl
theorem n397_29 : Snd mt G 397 29 (oConst (.int 1) 30) := w_iconst (hm := mm397) dX3_skill_29 rfl
theorem n397_30 : Snd mt G 397 30 (oCall 3 (fV [4] 285 3) 0 33 xOut) := s_callV (m' := 285) (n := 2) xsh_out (w_xok0 mm397) (w_cal mm397 mm285 pn_X3 (Nat.le_of_ble_eq_true rfl) (Nat.le_of_ble_eq_true rfl)) (fun h b as hc hn => w_run_V (ci := 3) mm397 mm285 dX3_skill_30 (Or.inl (List.mem_singleton.mp hc)) (Nat.le_of_ble_eq_true rfl) vc_3 rfl q2634 q2636 qs62 q150 q2637 pa285 hn)
theorem n397_33 : Snd mt G 397 33 (oIfEq 38 36) := w_if_eq (hm := mm397) dX3_skill_33 rfl
theorem n397_36 : Snd mt G 397 36 (oConst (.int 0) 37) := w_iconst (hm := mm397) dX3_skill_36 rfl
theorem n397_37 : Snd mt G 397 37 (oRetI .int) := w_iret (hm := mm397) dX3_skill_37 rfl
theorem n397_38 : Snd mt G 397 38 (oAload 0 39) := w_aload_n (hm := mm397) dX3_skill_38
theorem n397_39 : Snd mt G 397 39 (oIload 1 40) := w_iload_n (hm := mm397) dX3_skill_39
theorem n397_40 : Snd mt G 397 40 (oIload 2 41) := w_iload_n (hm := mm397) dX3_skill_40
theorem n397_41 : Snd mt G 397 41 (oIload 3 42) := w_iload_n (hm := mm397) dX3_skill_41
theorem n397_42 : Snd mt G 397 42 (oCall 4 (fV [4] 398 8) 0 45 xOut) := s_callV (m' := 398) (n := 3) xsh_out (w_xok0 mm397) (w_cal mm397 mm398 pn_X3 (Nat.le_of_ble_eq_true rfl) (Nat.le_of_ble_eq_true rfl)) (fun h b as hc hn => w_run_V (ci := 3) mm397 mm398 dX3_skill_42 (Or.inl (List.mem_singleton.mp hc)) (Nat.le_of_ble_eq_true rfl) vc_3 rfl q3084 q3086 qs120 q150 q3087 pa398 hn)
theorem n397_45 : Snd mt G 397 45 (oRetI .int) := w_iret (hm := mm397) dX3_skill_45 rfl
theorem sj397 : ∀ pc, Snd mt G 397 pc (j397 pc) := fun pc => (snd_br ((snd_br ((snd_br ((snd_br ((snd_br ((snd_lf n397_45)) ((snd_lf n397_42)))) ((snd_br ((snd_lf n397_41)) ((snd_lf n397_40)))))) ((snd_br ((snd_br ((snd_lf n397_39)) ((snd_lf n397_38)))) ((snd_lf n397_37)))))) ((snd_br ((snd_br ((snd_br ((snd_lf n397_36)) ((snd_lf n397_33)))) ((snd_lf n397_30)))) ((snd_br ((snd_br ((snd_lf n397_29)) ((snd_lf n397_28)))) ((snd_lf n397_25)))))))) ((snd_br ((snd_br ((snd_br ((snd_br ((snd_lf n397_24)) ((snd_lf n397_21)))) ((snd_br ((snd_lf n397_18)) ((snd_lf n397_15)))))) ((snd_br ((snd_br ((snd_lf n397_14)) ((snd_lf n397_13)))) ((snd_lf n397_10)))))) ((snd_br ((snd_br ((snd_br ((snd_lf n397_7)) ((snd_lf n397_6)))) ((snd_lf n397_5)))) ((snd_br ((snd_br ((snd_lf n397_2)) ((snd_lf n397_1)))) ((snd_lf n397_0)))))))))
end
section
variable {G : AG}
theorem n398_0 : Snd mt G 398 0 (oConst (.int 0) 1) := w_iconst (hm := mm398) dX3_skillOf_0 rfl
theorem n398_1 : Snd mt G 398 1 (oIstore 4 3) := w_istore (hm := mm398) dX3_skillOf_1 (Nat.le_of_ble_eq_true rfl)
theorem n398_3 : Snd mt G 398 3 (oConst (.int 0) 4) := w_iconst (hm := mm398) dX3_skillOf_3 rfl
theorem n398_4 : Snd mt G 398 4 (oIstore 5 6) := w_istore (hm := mm398) dX3_skillOf_4 (Nat.le_of_ble_eq_true rfl)
theorem n398_6 : Snd mt G 398 6 (oIload 5 8) := w_iload (hm := mm398) dX3_skillOf_6
theorem n398_8 : Snd mt G 398 8 (oAload 0 9) := w_aload_n (hm := mm398) dX3_skillOf_8
theorem n398_9 : Snd mt G 398 9 (oGetf [4] 40 12) := w_getf (hm := mm398) dX3_skillOf_9 (fok1 (k := 40) (T := TX3) 3 (Nat.le_of_ble_eq_true rfl) vc_3 (Nat.le_of_ble_eq_true rfl) q2445)
theorem n398_12 : Snd mt G 398 12 (oCmpGe 88 15) := w_icmp_ge (hm := mm398) dX3_skillOf_12 rfl
theorem n398_15 : Snd mt G 398 15 (oAload 0 16) := w_aload_n (hm := mm398) dX3_skillOf_15
theorem n398_16 : Snd mt G 398 16 (oGetf [4] 49 19) := w_getf (hm := mm398) dX3_skillOf_16 (fok1 (k := 49) (T := TX3) 3 (Nat.le_of_ble_eq_true rfl) vc_3 (Nat.le_of_ble_eq_true rfl) q2454)
theorem n398_19 : Snd mt G 398 19 (oIload 5 21) := w_iload (hm := mm398) dX3_skillOf_19
theorem n398_21 : Snd mt G 398 21 (oAld [106] 22) := w_aaload (hm := mm398) (kt := 6) dX3_skillOf_21 rfl at_6 (Nat.le_of_ble_eq_true rfl) (List.forall_mem_cons.mpr ⟨Or.inl rfl, (fun t ht => nomatch ht)⟩)
theorem n398_22 : Snd mt G 398 22 (oAstore 6 24) := w_astore (hm := mm398) dX3_skillOf_22 (Nat.le_of_ble_eq_true rfl)
theorem n398_24 : Snd mt G 398 24 (oAload 6 26) := w_aload (hm := mm398) dX3_skillOf_24
theorem n398_26 : Snd mt G 398 26 (oConst (.int 8) 28) := w_bipush (hm := mm398) dX3_skillOf_26 (by decide)
theorem n398_28 : Snd mt G 398 28 (oAld [100] 29) := w_iaload (hm := mm398) (kt := 0) dX3_skillOf_28 at_0 (Nat.le_of_ble_eq_true rfl) (List.forall_mem_cons.mpr ⟨Or.inl rfl, (fun t ht => nomatch ht)⟩)
theorem n398_29 : Snd mt G 398 29 (oConst (.int (-1)) 30) := w_iconst (hm := mm398) dX3_skillOf_29 rfl
theorem n398_30 : Snd mt G 398 30 (oCmpEq 51 33) := w_icmp_eq (hm := mm398) dX3_skillOf_30 rfl
theorem n398_33 : Snd mt G 398 33 (oAload 6 35) := w_aload (hm := mm398) dX3_skillOf_33
theorem n398_35 : Snd mt G 398 35 (oConst (.int 8) 37) := w_bipush (hm := mm398) dX3_skillOf_35 (by decide)
theorem n398_37 : Snd mt G 398 37 (oAld [100] 38) := w_iaload (hm := mm398) (kt := 0) dX3_skillOf_37 at_0 (Nat.le_of_ble_eq_true rfl) (List.forall_mem_cons.mpr ⟨Or.inl rfl, (fun t ht => nomatch ht)⟩)
theorem n398_38 : Snd mt G 398 38 (oAload 6 40) := w_aload (hm := mm398) dX3_skillOf_38
theorem n398_40 : Snd mt G 398 40 (oConst (.int 2) 41) := w_iconst (hm := mm398) dX3_skillOf_40 rfl
theorem n398_41 : Snd mt G 398 41 (oAld [100] 42) := w_iaload (hm := mm398) (kt := 0) dX3_skillOf_41 at_0 (Nat.le_of_ble_eq_true rfl) (List.forall_mem_cons.mpr ⟨Or.inl rfl, (fun t ht => nomatch ht)⟩)
theorem n398_42 : Snd mt G 398 42 (oBin (fun x y => x - y) 43) := w_isub (hm := mm398) dX3_skillOf_42
theorem n398_43 : Snd mt G 398 43 (oIload 3 44) := w_iload_n (hm := mm398) dX3_skillOf_43
theorem n398_44 : Snd mt G 398 44 (oCmpGt 51 47) := w_icmp_gt (hm := mm398) dX3_skillOf_44 rfl
theorem n398_47 : Snd mt G 398 47 (oConst (.int 1) 48) := w_iconst (hm := mm398) dX3_skillOf_47 rfl
theorem n398_48 : Snd mt G 398 48 (oGoto 52) := w_goto (hm := mm398) dX3_skillOf_48 rfl
theorem n398_51 : Snd mt G 398 51 (oConst (.int 0) 52) := w_iconst (hm := mm398) dX3_skillOf_51 rfl
theorem n398_52 : Snd mt G 398 52 (oIstore 7 54) := w_istore (hm := mm398) dX3_skillOf_52 (Nat.le_of_ble_eq_true rfl)
theorem n398_54 : Snd mt G 398 54 (oIload 4 56) := w_iload (hm := mm398) dX3_skillOf_54
theorem n398_56 : Snd mt G 398 56 (oAload 6 58) := w_aload (hm := mm398) dX3_skillOf_56
theorem n398_58 : Snd mt G 398 58 (oConst (.int 7) 60) := w_bipush (hm := mm398) dX3_skillOf_58 (by decide)
theorem n398_60 : Snd mt G 398 60 (oAld [100] 61) := w_iaload (hm := mm398) (kt := 0) dX3_skillOf_60 at_0 (Nat.le_of_ble_eq_true rfl) (List.forall_mem_cons.mpr ⟨Or.inl rfl, (fun t ht => nomatch ht)⟩)
theorem n398_61 : Snd mt G 398 61 (oIload 1 62) := w_iload_n (hm := mm398) dX3_skillOf_61
theorem n398_62 : Snd mt G 398 62 (oCmpEq 65 78) := w_icmp_ne (hm := mm398) dX3_skillOf_62 rfl
theorem n398_65 : Snd mt G 398 65 (oIload 2 66) := w_iload_n (hm := mm398) dX3_skillOf_65
theorem n398_66 : Snd mt G 398 66 (oIfEq 74 69) := w_if_eq (hm := mm398) dX3_skillOf_66 rfl
theorem n398_69 : Snd mt G 398 69 (oIload 7 71) := w_iload (hm := mm398) dX3_skillOf_69
theorem n398_71 : Snd mt G 398 71 (oIfEq 78 74) := w_if_eq (hm := mm398) dX3_skillOf_71 rfl
theorem n398_74 : Snd mt G 398 74 (oConst (.int 1) 75) := w_iconst (hm := mm398) dX3_skillOf_74 rfl
theorem n398_75 : Snd mt G 398 75 (oGoto 79) := w_goto (hm := mm398) dX3_skillOf_75 rfl
theorem n398_78 : Snd mt G 398 78 (oConst (.int 0) 79) := w_iconst (hm := mm398) dX3_skillOf_78 rfl
theorem n398_79 : Snd mt G 398 79 (oBin (fun x y => x + y) 80) := w_iadd (hm := mm398) dX3_skillOf_79
theorem n398_80 : Snd mt G 398 80 (oIstore 4 82) := w_istore (hm := mm398) dX3_skillOf_80 (Nat.le_of_ble_eq_true rfl)
theorem n398_82 : Snd mt G 398 82 (oIinc 5 1 85) := w_iinc (hm := mm398) dX3_skillOf_82 rfl (Nat.le_of_ble_eq_true rfl)
theorem n398_85 : Snd mt G 398 85 (oGoto 6) := w_goto (hm := mm398) dX3_skillOf_85 rfl
theorem n398_88 : Snd mt G 398 88 (oIload 4 90) := w_iload (hm := mm398) dX3_skillOf_88
theorem n398_90 : Snd mt G 398 90 (oRetI .int) := w_iret (hm := mm398) dX3_skillOf_90 rfl
theorem sj398 : ∀ pc, Snd mt G 398 pc (j398 pc) := fun pc => (snd_br ((snd_br ((snd_br ((snd_br ((snd_br ((snd_br ((snd_lf n398_90)) ((snd_lf n398_88)))) ((snd_br ((snd_lf n398_85)) ((snd_lf n398_82)))))) ((snd_br ((snd_br ((snd_lf n398_80)) ((snd_lf n398_79)))) ((snd_lf n398_78)))))) ((snd_br ((snd_br ((snd_br ((snd_lf n398_75)) ((snd_lf n398_74)))) ((snd_lf n398_71)))) ((snd_br ((snd_br ((snd_lf n398_69)) ((snd_lf n398_66)))) ((snd_lf n398_65)))))))) ((snd_br ((snd_br ((snd_br ((snd_br ((snd_lf n398_62)) ((snd_lf n398_61)))) ((snd_lf n398_60)))) ((snd_br ((snd_br ((snd_lf n398_58)) ((snd_lf n398_56)))) ((snd_lf n398_54)))))) ((snd_br ((snd_br ((snd_br ((snd_lf n398_52)) ((snd_lf n398_51)))) ((snd_lf n398_48)))) ((snd_br ((snd_br ((snd_lf n398_47)) ((snd_lf n398_44)))) ((snd_lf n398_43)))))))))) ((snd_br ((snd_br ((snd_br ((snd_br ((snd_br ((snd_lf n398_42)) ((snd_lf n398_41)))) ((snd_br ((snd_lf n398_40)) ((snd_lf n398_38)))))) ((snd_br ((snd_br ((snd_lf n398_37)) ((snd_lf n398_35)))) ((snd_lf n398_33)))))) ((snd_br ((snd_br ((snd_br ((snd_lf n398_30)) ((snd_lf n398_29)))) ((snd_lf n398_28)))) ((snd_br ((snd_br ((snd_lf n398_26)) ((snd_lf n398_24)))) ((snd_lf n398_22)))))))) ((snd_br ((snd_br ((snd_br ((snd_br ((snd_lf n398_21)) ((snd_lf n398_19)))) ((snd_lf n398_16)))) ((snd_br ((snd_br ((snd_lf n398_15)) ((snd_lf n398_12)))) ((snd_lf n398_9)))))) ((snd_br ((snd_br ((snd_br ((snd_lf n398_8)) ((snd_lf n398_6)))) ((snd_lf n398_4)))) ((snd_br ((snd_br ((snd_lf n398_3)) ((snd_lf n398_1)))) ((snd_lf n398_0)))))))))))
end
section
variable {G : AG}
theorem n399_0 : Snd mt G 399 0 (oAload 0 1) := w_aload_n (hm := mm399) dX3_better_0
theorem n399_1 : Snd mt G 399 1 (oConst (.int 0) 2) := w_iconst (hm := mm399) dX3_better_1 rfl
theorem n399_2 : Snd mt G 399 2 (oPutf [4] 0 .int 5) := w_putf (hm := mm399) dX3_better_2 (pok1 (k := 0) (T := TX3) 3 (Nat.le_of_ble_eq_true rfl) vc_3 (Nat.le_of_ble_eq_true rfl) rfl pd_X3_0 q2405)
theorem n399_5 : Snd mt G 399 5 (oAload 0 6) := w_aload_n (hm := mm399) dX3_better_5
theorem n399_6 : Snd mt G 399 6 (oIload 1 7) := w_iload_n (hm := mm399) dX3_better_6
theorem n399_7 : Snd mt G 399 7 (oCall 1 (fS 395 1) 0 10 xOut) := s_callS (m' := 395) (n := 1) xsh_out (w_xok0 mm399) (w_cal mm399 mm395 pn_X3 (Nat.le_of_ble_eq_true rfl) (Nat.le_of_ble_eq_true rfl)) (fun h as hn => w_run_S mm399 mm395 dX3_better_7 q3073 q3074 q150 q3075 pa395 hn)
theorem n399_10 : Snd mt G 399 10 (oIfEq 31 13) := w_if_eq (hm := mm399) dX3_better_10 rfl
theorem n399_13 : Snd mt G 399 13 (oIload 2 14) := w_iload_n (hm := mm399) dX3_better_13
theorem n399_14 : Snd mt G 399 14 (oCall 1 (fS 395 1) 0 17 xOut) := s_callS (m' := 395) (n := 1) xsh_out (w_xok0 mm399) (w_cal mm399 mm395 pn_X3 (Nat.le_of_ble_eq_true rfl) (Nat.le_of_ble_eq_true rfl)) (fun h as hn => w_run_S mm399 mm395 dX3_better_14 q3073 q3074 q150 q3075 pa395 hn)
theorem n399_17 : Snd mt G 399 17 (oIfEq 31 20) := w_if_eq (hm := mm399) dX3_better_17 rfl
theorem n399_20 : Snd mt G 399 20 (oIload 3 21) := w_iload_n (hm := mm399) dX3_better_20
theorem n399_21 : Snd mt G 399 21 (oConst (.int 0) 22) := w_iconst (hm := mm399) dX3_better_21 rfl
theorem n399_22 : Snd mt G 399 22 (oConst (.int 999) 25) := w_sipush (hm := mm399) dX3_better_22 (by decide)
theorem n399_25 : Snd mt G 399 25 (oCall 3 (fS 284 3) 0 28 xOut) := s_callS (m' := 284) (n := 3) xsh_out (w_xok0 mm399) (w_cal mm399 mm284 pn_X3 (Nat.le_of_ble_eq_true rfl) (Nat.le_of_ble_eq_true rfl)) (fun h as hn => w_run_S mm399 mm284 dX3_better_25 q2631 q2632 q150 q2633 pa284 hn)
theorem n399_28 : Snd mt G 399 28 (oIfEq 31 35) := w_if_ne (hm := mm399) dX3_better_28 rfl
theorem n399_31 : Snd mt G 399 31 (oConst (.int 1) 32) := w_iconst (hm := mm399) dX3_better_31 rfl
theorem n399_32 : Snd mt G 399 32 (oGoto 36) := w_goto (hm := mm399) dX3_better_32 rfl
theorem n399_35 : Snd mt G 399 35 (oConst (.int 0) 36) := w_iconst (hm := mm399) dX3_better_35 rfl
theorem n399_36 : Snd mt G 399 36 (oConst (.int 1) 37) := w_iconst (hm := mm399) dX3_better_36 rfl
theorem n399_37 : Snd mt G 399 37 (oCall 3 (fV [4] 285 3) 0 40 xOut) := s_callV (m' := 285) (n := 2) xsh_out (w_xok0 mm399) (w_cal mm399 mm285 pn_X3 (Nat.le_of_ble_eq_true rfl) (Nat.le_of_ble_eq_true rfl)) (fun h b as hc hn => w_run_V (ci := 3) mm399 mm285 dX3_better_37 (Or.inl (List.mem_singleton.mp hc)) (Nat.le_of_ble_eq_true rfl) vc_3 rfl q2634 q2636 qs62 q150 q2637 pa285 hn)
theorem n399_40 : Snd mt G 399 40 (oIfEq 45 43) := w_if_eq (hm := mm399) dX3_better_40 rfl
theorem n399_43 : Snd mt G 399 43 (oConst (.int 0) 44) := w_iconst (hm := mm399) dX3_better_43 rfl
theorem n399_44 : Snd mt G 399 44 (oRetI .int) := w_iret (hm := mm399) dX3_better_44 rfl
theorem n399_45 : Snd mt G 399 45 (oAload 0 46) := w_aload_n (hm := mm399) dX3_better_45
theorem n399_46 : Snd mt G 399 46 (oIload 1 47) := w_iload_n (hm := mm399) dX3_better_46
theorem n399_47 : Snd mt G 399 47 (oConst (.int 1) 48) := w_iconst (hm := mm399) dX3_better_47 rfl
theorem n399_48 : Snd mt G 399 48 (oIload 3 49) := w_iload_n (hm := mm399) dX3_better_48
theorem n399_49 : Snd mt G 399 49 (oCall 4 (fV [4] 398 8) 0 52 xOut) := s_callV (m' := 398) (n := 3) xsh_out (w_xok0 mm399) (w_cal mm399 mm398 pn_X3 (Nat.le_of_ble_eq_true rfl) (Nat.le_of_ble_eq_true rfl)) (fun h b as hc hn => w_run_V (ci := 3) mm399 mm398 dX3_better_49 (Or.inl (List.mem_singleton.mp hc)) (Nat.le_of_ble_eq_true rfl) vc_3 rfl q3084 q3086 qs120 q150 q3087 pa398 hn)
theorem n399_52 : Snd mt G 399 52 (oAload 0 53) := w_aload_n (hm := mm399) dX3_better_52
theorem n399_53 : Snd mt G 399 53 (oIload 2 54) := w_iload_n (hm := mm399) dX3_better_53
theorem n399_54 : Snd mt G 399 54 (oConst (.int 0) 55) := w_iconst (hm := mm399) dX3_better_54 rfl
theorem n399_55 : Snd mt G 399 55 (oIload 3 56) := w_iload_n (hm := mm399) dX3_better_55
theorem n399_56 : Snd mt G 399 56 (oCall 4 (fV [4] 398 8) 0 59 xOut) := s_callV (m' := 398) (n := 3) xsh_out (w_xok0 mm399) (w_cal mm399 mm398 pn_X3 (Nat.le_of_ble_eq_true rfl) (Nat.le_of_ble_eq_true rfl)) (fun h b as hc hn => w_run_V (ci := 3) mm399 mm398 dX3_better_56 (Or.inl (List.mem_singleton.mp hc)) (Nat.le_of_ble_eq_true rfl) vc_3 rfl q3084 q3086 qs120 q150 q3087 pa398 hn)
theorem n399_59 : Snd mt G 399 59 (oBin (fun x y => x * y) 60) := w_imul (hm := mm399) dX3_better_59
theorem n399_60 : Snd mt G 399 60 (oIstore 4 62) := w_istore (hm := mm399) dX3_better_60 (Nat.le_of_ble_eq_true rfl)
theorem n399_62 : Snd mt G 399 62 (oAload 0 63) := w_aload_n (hm := mm399) dX3_better_62
theorem n399_63 : Snd mt G 399 63 (oIload 2 64) := w_iload_n (hm := mm399) dX3_better_63
theorem n399_64 : Snd mt G 399 64 (oConst (.int 1) 65) := w_iconst (hm := mm399) dX3_better_64 rfl
theorem n399_65 : Snd mt G 399 65 (oIload 3 66) := w_iload_n (hm := mm399) dX3_better_65
theorem n399_66 : Snd mt G 399 66 (oCall 4 (fV [4] 398 8) 0 69 xOut) := s_callV (m' := 398) (n := 3) xsh_out (w_xok0 mm399) (w_cal mm399 mm398 pn_X3 (Nat.le_of_ble_eq_true rfl) (Nat.le_of_ble_eq_true rfl)) (fun h b as hc hn => w_run_V (ci := 3) mm399 mm398 dX3_better_66 (Or.inl (List.mem_singleton.mp hc)) (Nat.le_of_ble_eq_true rfl) vc_3 rfl q3084 q3086 qs120 q150 q3087 pa398 hn)
theorem n399_69 : Snd mt G 399 69 (oAload 0 70) := w_aload_n (hm := mm399) dX3_better_69
theorem n399_70 : Snd mt G 399 70 (oIload 1 71) := w_iload_n (hm := mm399) dX3_better_70
theorem n399_71 : Snd mt G 399 71 (oConst (.int 0) 72) := w_iconst (hm := mm399) dX3_better_71 rfl
theorem n399_72 : Snd mt G 399 72 (oIload 3 73) := w_iload_n (hm := mm399) dX3_better_72
theorem n399_73 : Snd mt G 399 73 (oCall 4 (fV [4] 398 8) 0 76 xOut) := s_callV (m' := 398) (n := 3) xsh_out (w_xok0 mm399) (w_cal mm399 mm398 pn_X3 (Nat.le_of_ble_eq_true rfl) (Nat.le_of_ble_eq_true rfl)) (fun h b as hc hn => w_run_V (ci := 3) mm399 mm398 dX3_better_73 (Or.inl (List.mem_singleton.mp hc)) (Nat.le_of_ble_eq_true rfl) vc_3 rfl q3084 q3086 qs120 q150 q3087 pa398 hn)
theorem n399_76 : Snd mt G 399 76 (oBin (fun x y => x * y) 77) := w_imul (hm := mm399) dX3_better_76
theorem n399_77 : Snd mt G 399 77 (oIstore 5 79) := w_istore (hm := mm399) dX3_better_77 (Nat.le_of_ble_eq_true rfl)
theorem n399_79 : Snd mt G 399 79 (oAload 0 80) := w_aload_n (hm := mm399) dX3_better_79
theorem n399_80 : Snd mt G 399 80 (oIload 1 81) := w_iload_n (hm := mm399) dX3_better_80
theorem n399_81 : Snd mt G 399 81 (oConst (.int 0) 82) := w_iconst (hm := mm399) dX3_better_81 rfl
theorem n399_82 : Snd mt G 399 82 (oIload 3 83) := w_iload_n (hm := mm399) dX3_better_82
theorem n399_83 : Snd mt G 399 83 (oCall 4 (fV [4] 398 8) 0 86 xOut) := s_callV (m' := 398) (n := 3) xsh_out (w_xok0 mm399) (w_cal mm399 mm398 pn_X3 (Nat.le_of_ble_eq_true rfl) (Nat.le_of_ble_eq_true rfl)) (fun h b as hc hn => w_run_V (ci := 3) mm399 mm398 dX3_better_83 (Or.inl (List.mem_singleton.mp hc)) (Nat.le_of_ble_eq_true rfl) vc_3 rfl q3084 q3086 qs120 q150 q3087 pa398 hn)
theorem n399_86 : Snd mt G 399 86 (oIfEq 99 89) := w_if_eq (hm := mm399) dX3_better_86 rfl
theorem n399_89 : Snd mt G 399 89 (oAload 0 90) := w_aload_n (hm := mm399) dX3_better_89
theorem n399_90 : Snd mt G 399 90 (oIload 2 91) := w_iload_n (hm := mm399) dX3_better_90
theorem n399_91 : Snd mt G 399 91 (oConst (.int 0) 92) := w_iconst (hm := mm399) dX3_better_91 rfl
theorem n399_92 : Snd mt G 399 92 (oIload 3 93) := w_iload_n (hm := mm399) dX3_better_92
theorem n399_93 : Snd mt G 399 93 (oCall 4 (fV [4] 398 8) 0 96 xOut) := s_callV (m' := 398) (n := 3) xsh_out (w_xok0 mm399) (w_cal mm399 mm398 pn_X3 (Nat.le_of_ble_eq_true rfl) (Nat.le_of_ble_eq_true rfl)) (fun h b as hc hn => w_run_V (ci := 3) mm399 mm398 dX3_better_93 (Or.inl (List.mem_singleton.mp hc)) (Nat.le_of_ble_eq_true rfl) vc_3 rfl q3084 q3086 qs120 q150 q3087 pa398 hn)
theorem n399_96 : Snd mt G 399 96 (oIfEq 99 101) := w_if_ne (hm := mm399) dX3_better_96 rfl
theorem n399_99 : Snd mt G 399 99 (oConst (.int 0) 100) := w_iconst (hm := mm399) dX3_better_99 rfl
theorem n399_100 : Snd mt G 399 100 (oRetI .int) := w_iret (hm := mm399) dX3_better_100 rfl
theorem n399_101 : Snd mt G 399 101 (oIload 4 103) := w_iload (hm := mm399) dX3_better_101
theorem n399_103 : Snd mt G 399 103 (oIload 5 105) := w_iload (hm := mm399) dX3_better_103
theorem n399_105 : Snd mt G 399 105 (oCmpGe 112 108) := w_icmp_ge (hm := mm399) dX3_better_105 rfl
theorem n399_108 : Snd mt G 399 108 (oConst (.int 1) 109) := w_iconst (hm := mm399) dX3_better_108 rfl
theorem n399_109 : Snd mt G 399 109 (oGoto 124) := w_goto (hm := mm399) dX3_better_109 rfl
theorem n399_112 : Snd mt G 399 112 (oIload 4 114) := w_iload (hm := mm399) dX3_better_112
theorem n399_114 : Snd mt G 399 114 (oIload 5 116) := w_iload (hm := mm399) dX3_better_114
theorem n399_116 : Snd mt G 399 116 (oCmpLe 123 119) := w_icmp_le (hm := mm399) dX3_better_116 rfl
theorem n399_119 : Snd mt G 399 119 (oConst (.int (-1)) 120) := w_iconst (hm := mm399) dX3_better_119 rfl
theorem n399_120 : Snd mt G 399 120 (oGoto 124) := w_goto (hm := mm399) dX3_better_120 rfl
theorem n399_123 : Snd mt G 399 123 (oConst (.int 0) 124) := w_iconst (hm := mm399) dX3_better_123 rfl
theorem n399_124 : Snd mt G 399 124 (oRetI .int) := w_iret (hm := mm399) dX3_better_124 rfl
theorem sj399 : ∀ pc, Snd mt G 399 pc (j399 pc) := fun pc => (snd_br ((snd_br ((snd_br ((snd_br ((snd_br ((snd_br ((snd_br ((snd_lf n399_124)) ((snd_lf n399_123)))) ((snd_lf n399_120)))) ((snd_br ((snd_lf n399_119)) ((snd_lf n399_116)))))) ((snd_br ((snd_br ((snd_br ((snd_lf n399_114)) ((snd_lf n399_112)))) ((snd_lf n399_109)))) ((snd_br ((snd_lf n399_108)) ((snd_lf n399_105)))))))) ((snd_br ((snd_br ((snd_br ((snd_br ((snd_lf n399_103)) ((snd_lf n399_101)))) ((snd_lf n399_100)))) ((snd_br ((snd_lf n399_99)) ((snd_lf n399_96)))))) ((snd_br ((snd_br ((snd_lf n399_93)) ((snd_lf n399_92)))) ((snd_br ((snd_lf n399_91)) ((snd_lf n399_90)))))))))) ((snd_br ((snd_br ((snd_br ((snd_br ((snd_br ((snd_lf n399_89)) ((snd_lf n399_86)))) ((snd_lf n399_83)))) ((snd_br ((snd_lf n399_82)) ((snd_lf n399_81)))))) ((snd_br ((snd_br ((snd_lf n399_80)) ((snd_lf n399_79)))) ((snd_br ((snd_lf n399_77)) ((snd_lf n399_76)))))))) ((snd_br ((snd_br ((snd_br ((snd_br ((snd_lf n399_73)) ((snd_lf n399_72)))) ((snd_lf n399_71)))) ((snd_br ((snd_lf n399_70)) ((snd_lf n399_69)))))) ((snd_br ((snd_br ((snd_lf n399_66)) ((snd_lf n399_65)))) ((snd_br ((snd_lf n399_64)) ((snd_lf n399_63)))))))))))) ((snd_br ((snd_br ((snd_br ((snd_br ((snd_br ((snd_br ((snd_lf n399_62)) ((snd_lf n399_60)))) ((snd_lf n399_59)))) ((snd_br ((snd_lf n399_56)) ((snd_lf n399_55)))))) ((snd_br ((snd_br ((snd_lf n399_54)) ((snd_lf n399_53)))) ((snd_br ((snd_lf n399_52)) ((snd_lf n399_49)))))))) ((snd_br ((snd_br ((snd_br ((snd_br ((snd_lf n399_48)) ((snd_lf n399_47)))) ((snd_lf n399_46)))) ((snd_br ((snd_lf n399_45)) ((snd_lf n399_44)))))) ((snd_br ((snd_br ((snd_lf n399_43)) ((snd_lf n399_40)))) ((snd_br ((snd_lf n399_37)) ((snd_lf n399_36)))))))))) ((snd_br ((snd_br ((snd_br ((snd_br ((snd_br ((snd_lf n399_35)) ((snd_lf n399_32)))) ((snd_lf n399_31)))) ((snd_br ((snd_lf n399_28)) ((snd_lf n399_25)))))) ((snd_br ((snd_br ((snd_lf n399_22)) ((snd_lf n399_21)))) ((snd_br ((snd_lf n399_20)) ((snd_lf n399_17)))))))) ((snd_br ((snd_br ((snd_br ((snd_br ((snd_lf n399_14)) ((snd_lf n399_13)))) ((snd_lf n399_10)))) ((snd_br ((snd_lf n399_7)) ((snd_lf n399_6)))))) ((snd_br ((snd_br ((snd_lf n399_5)) ((snd_lf n399_2)))) ((snd_br ((snd_lf n399_1)) ((snd_lf n399_0)))))))))))))
end
section
variable {G : AG}
theorem n400_0 : Snd mt G 400 0 (oAload 0 1) := w_aload_n (hm := mm400) dX3_trial_0
theorem n400_1 : Snd mt G 400 1 (oConst (.int 0) 2) := w_iconst (hm := mm400) dX3_trial_1 rfl
theorem n400_2 : Snd mt G 400 2 (oPutf [4] 0 .int 5) := w_putf (hm := mm400) dX3_trial_2 (pok1 (k := 0) (T := TX3) 3 (Nat.le_of_ble_eq_true rfl) vc_3 (Nat.le_of_ble_eq_true rfl) rfl pd_X3_0 q2405)
theorem n400_5 : Snd mt G 400 5 (oAload 0 6) := w_aload_n (hm := mm400) dX3_trial_5
theorem n400_6 : Snd mt G 400 6 (oIload 1 7) := w_iload_n (hm := mm400) dX3_trial_6
theorem n400_7 : Snd mt G 400 7 (oConst (.int 0) 8) := w_iconst (hm := mm400) dX3_trial_7 rfl
theorem n400_8 : Snd mt G 400 8 (oConst (.int 999) 11) := w_sipush (hm := mm400) dX3_trial_8 (by decide)
theorem n400_11 : Snd mt G 400 11 (oCall 3 (fS 284 3) 0 14 xOut) := s_callS (m' := 284) (n := 3) xsh_out (w_xok0 mm400) (w_cal mm400 mm284 pn_X3 (Nat.le_of_ble_eq_true rfl) (Nat.le_of_ble_eq_true rfl)) (fun h as hn => w_run_S mm400 mm284 dX3_trial_11 q2631 q2632 q150 q2633 pa284 hn)
theorem n400_14 : Snd mt G 400 14 (oIfEq 28 17) := w_if_eq (hm := mm400) dX3_trial_14 rfl
theorem n400_17 : Snd mt G 400 17 (oIload 2 18) := w_iload_n (hm := mm400) dX3_trial_17
theorem n400_18 : Snd mt G 400 18 (oConst (.int 0) 19) := w_iconst (hm := mm400) dX3_trial_18 rfl
theorem n400_19 : Snd mt G 400 19 (oConst (.int 999) 22) := w_sipush (hm := mm400) dX3_trial_19 (by decide)
theorem n400_22 : Snd mt G 400 22 (oCall 3 (fS 284 3) 0 25 xOut) := s_callS (m' := 284) (n := 3) xsh_out (w_xok0 mm400) (w_cal mm400 mm284 pn_X3 (Nat.le_of_ble_eq_true rfl) (Nat.le_of_ble_eq_true rfl)) (fun h as hn => w_run_S mm400 mm284 dX3_trial_22 q2631 q2632 q150 q2633 pa284 hn)
theorem n400_25 : Snd mt G 400 25 (oIfEq 28 32) := w_if_ne (hm := mm400) dX3_trial_25 rfl
theorem n400_28 : Snd mt G 400 28 (oConst (.int 1) 29) := w_iconst (hm := mm400) dX3_trial_28 rfl
theorem n400_29 : Snd mt G 400 29 (oGoto 33) := w_goto (hm := mm400) dX3_trial_29 rfl
theorem n400_32 : Snd mt G 400 32 (oConst (.int 0) 33) := w_iconst (hm := mm400) dX3_trial_32 rfl
theorem n400_33 : Snd mt G 400 33 (oConst (.int 1) 34) := w_iconst (hm := mm400) dX3_trial_33 rfl
theorem n400_34 : Snd mt G 400 34 (oCall 3 (fV [4] 285 3) 0 37 xOut) := s_callV (m' := 285) (n := 2) xsh_out (w_xok0 mm400) (w_cal mm400 mm285 pn_X3 (Nat.le_of_ble_eq_true rfl) (Nat.le_of_ble_eq_true rfl)) (fun h b as hc hn => w_run_V (ci := 3) mm400 mm285 dX3_trial_34 (Or.inl (List.mem_singleton.mp hc)) (Nat.le_of_ble_eq_true rfl) vc_3 rfl q2634 q2636 qs62 q150 q2637 pa285 hn)
theorem n400_37 : Snd mt G 400 37 (oIfEq 42 40) := w_if_eq (hm := mm400) dX3_trial_37 rfl
theorem n400_40 : Snd mt G 400 40 (oConst (.int 0) 41) := w_iconst (hm := mm400) dX3_trial_40 rfl
theorem n400_41 : Snd mt G 400 41 (oRetI .int) := w_iret (hm := mm400) dX3_trial_41 rfl
theorem n400_42 : Snd mt G 400 42 (oAload 0 43) := w_aload_n (hm := mm400) dX3_trial_42
theorem n400_43 : Snd mt G 400 43 (oGetf [4] 44 46) := w_getf (hm := mm400) dX3_trial_43 (fok1 (k := 44) (T := TX3) 3 (Nat.le_of_ble_eq_true rfl) vc_3 (Nat.le_of_ble_eq_true rfl) q2449)
theorem n400_46 : Snd mt G 400 46 (oConst (.int 12) 48) := w_bipush (hm := mm400) dX3_trial_46 (by decide)
theorem n400_48 : Snd mt G 400 48 (oCmpEq 51 53) := w_icmp_ne (hm := mm400) dX3_trial_48 rfl
theorem n400_51 : Snd mt G 400 51 (oConst (.int (-1)) 52) := w_iconst (hm := mm400) dX3_trial_51 rfl
theorem n400_52 : Snd mt G 400 52 (oRetI .int) := w_iret (hm := mm400) dX3_trial_52 rfl
theorem n400_53 : Snd mt G 400 53 (oAload 0 54) := w_aload_n (hm := mm400) dX3_trial_53
theorem n400_54 : Snd mt G 400 54 (oGetf [4] 54 57) := w_getf (hm := mm400) dX3_trial_54 (fok1 (k := 54) (T := TX3) 3 (Nat.le_of_ble_eq_true rfl) vc_3 (Nat.le_of_ble_eq_true rfl) q2459)
theorem n400_57 : Snd mt G 400 57 (oAload 0 58) := w_aload_n (hm := mm400) dX3_trial_57
theorem n400_58 : Snd mt G 400 58 (oGetf [4] 44 61) := w_getf (hm := mm400) dX3_trial_58 (fok1 (k := 44) (T := TX3) 3 (Nat.le_of_ble_eq_true rfl) vc_3 (Nat.le_of_ble_eq_true rfl) q2449)
theorem n400_61 : Snd mt G 400 61 (oAld [106] 62) := w_aaload (hm := mm400) (kt := 6) dX3_trial_61 rfl at_6 (Nat.le_of_ble_eq_true rfl) (List.forall_mem_cons.mpr ⟨Or.inl rfl, (fun t ht => nomatch ht)⟩)
theorem n400_62 : Snd mt G 400 62 (oConst (.int 0) 63) := w_iconst (hm := mm400) dX3_trial_62 rfl
theorem n400_63 : Snd mt G 400 63 (oIload 1 64) := w_iload_n (hm := mm400) dX3_trial_63
theorem n400_64 : Snd mt G 400 64 (oIast [100] 65) := w_iastore (hm := mm400) (kt := 0) dX3_trial_64 at_0 (Nat.le_of_ble_eq_true rfl) (List.forall_mem_cons.mpr ⟨rfl, (fun t ht => nomatch ht)⟩)
theorem n400_65 : Snd mt G 400 65 (oAload 0 66) := w_aload_n (hm := mm400) dX3_trial_65
theorem n400_66 : Snd mt G 400 66 (oGetf [4] 54 69) := w_getf (hm := mm400) dX3_trial_66 (fok1 (k := 54) (T := TX3) 3 (Nat.le_of_ble_eq_true rfl) vc_3 (Nat.le_of_ble_eq_true rfl) q2459)
theorem n400_69 : Snd mt G 400 69 (oAload 0 70) := w_aload_n (hm := mm400) dX3_trial_69
theorem n400_70 : Snd mt G 400 70 (oGetf [4] 44 73) := w_getf (hm := mm400) dX3_trial_70 (fok1 (k := 44) (T := TX3) 3 (Nat.le_of_ble_eq_true rfl) vc_3 (Nat.le_of_ble_eq_true rfl) q2449)
theorem n400_73 : Snd mt G 400 73 (oAld [106] 74) := w_aaload (hm := mm400) (kt := 6) dX3_trial_73 rfl at_6 (Nat.le_of_ble_eq_true rfl) (List.forall_mem_cons.mpr ⟨Or.inl rfl, (fun t ht => nomatch ht)⟩)
theorem n400_74 : Snd mt G 400 74 (oConst (.int 1) 75) := w_iconst (hm := mm400) dX3_trial_74 rfl
theorem n400_75 : Snd mt G 400 75 (oIload 2 76) := w_iload_n (hm := mm400) dX3_trial_75
theorem n400_76 : Snd mt G 400 76 (oIast [100] 77) := w_iastore (hm := mm400) (kt := 0) dX3_trial_76 at_0 (Nat.le_of_ble_eq_true rfl) (List.forall_mem_cons.mpr ⟨rfl, (fun t ht => nomatch ht)⟩)
theorem n400_77 : Snd mt G 400 77 (oAload 0 78) := w_aload_n (hm := mm400) dX3_trial_77
theorem n400_78 : Snd mt G 400 78 (oDup 79) := w_dup (hm := mm400) dX3_trial_78
theorem n400_79 : Snd mt G 400 79 (oGetf [4] 44 82) := w_getf (hm := mm400) dX3_trial_79 (fok1 (k := 44) (T := TX3) 3 (Nat.le_of_ble_eq_true rfl) vc_3 (Nat.le_of_ble_eq_true rfl) q2449)
theorem n400_82 : Snd mt G 400 82 (oConst (.int 1) 83) := w_iconst (hm := mm400) dX3_trial_82 rfl
theorem n400_83 : Snd mt G 400 83 (oBin (fun x y => x + y) 84) := w_iadd (hm := mm400) dX3_trial_83
theorem n400_84 : Snd mt G 400 84 (oPutf [4] 44 .int 87) := w_putf (hm := mm400) dX3_trial_84 (pok1 (k := 44) (T := TX3) 3 (Nat.le_of_ble_eq_true rfl) vc_3 (Nat.le_of_ble_eq_true rfl) rfl pd_X3_44 q2449)
theorem n400_87 : Snd mt G 400 87 (oAload 0 88) := w_aload_n (hm := mm400) dX3_trial_87
theorem n400_88 : Snd mt G 400 88 (oGetf [4] 44 91) := w_getf (hm := mm400) dX3_trial_88 (fok1 (k := 44) (T := TX3) 3 (Nat.le_of_ble_eq_true rfl) vc_3 (Nat.le_of_ble_eq_true rfl) q2449)
theorem n400_91 : Snd mt G 400 91 (oRetI .int) := w_iret (hm := mm400) dX3_trial_91 rfl
theorem sj400 : ∀ pc, Snd mt G 400 pc (j400 pc) := fun pc => (snd_br ((snd_br ((snd_br ((snd_br ((snd_br ((snd_br ((snd_lf n400_91)) ((snd_lf n400_88)))) ((snd_br ((snd_lf n400_87)) ((snd_lf n400_84)))))) ((snd_br ((snd_br ((snd_lf n400_83)) ((snd_lf n400_82)))) ((snd_lf n400_79)))))) ((snd_br ((snd_br ((snd_br ((snd_lf n400_78)) ((snd_lf n400_77)))) ((snd_br ((snd_lf n400_76)) ((snd_lf n400_75)))))) ((snd_br ((snd_br ((snd_lf n400_74)) ((snd_lf n400_73)))) ((snd_lf n400_70)))))))) ((snd_br ((snd_br ((snd_br ((snd_br ((snd_lf n400_69)) ((snd_lf n400_66)))) ((snd_br ((snd_lf n400_65)) ((snd_lf n400_64)))))) ((snd_br ((snd_br ((snd_lf n400_63)) ((snd_lf n400_62)))) ((snd_lf n400_61)))))) ((snd_br ((snd_br ((snd_br ((snd_lf n400_58)) ((snd_lf n400_57)))) ((snd_lf n400_54)))) ((snd_br ((snd_br ((snd_lf n400_53)) ((snd_lf n400_52)))) ((snd_lf n400_51)))))))))) ((snd_br ((snd_br ((snd_br ((snd_br ((snd_br ((snd_lf n400_48)) ((snd_lf n400_46)))) ((snd_br ((snd_lf n400_43)) ((snd_lf n400_42)))))) ((snd_br ((snd_br ((snd_lf n400_41)) ((snd_lf n400_40)))) ((snd_lf n400_37)))))) ((snd_br ((snd_br ((snd_br ((snd_lf n400_34)) ((snd_lf n400_33)))) ((snd_lf n400_32)))) ((snd_br ((snd_br ((snd_lf n400_29)) ((snd_lf n400_28)))) ((snd_lf n400_25)))))))) ((snd_br ((snd_br ((snd_br ((snd_br ((snd_lf n400_22)) ((snd_lf n400_19)))) ((snd_br ((snd_lf n400_18)) ((snd_lf n400_17)))))) ((snd_br ((snd_br ((snd_lf n400_14)) ((snd_lf n400_11)))) ((snd_lf n400_8)))))) ((snd_br ((snd_br ((snd_br ((snd_lf n400_7)) ((snd_lf n400_6)))) ((snd_lf n400_5)))) ((snd_br ((snd_br ((snd_lf n400_2)) ((snd_lf n400_1)))) ((snd_lf n400_0)))))))))))
end
section
variable {G : AG}
theorem n401_0 : Snd mt G 401 0 (oAload 0 1) := w_aload_n (hm := mm401) dX3_gain_0
theorem n401_1 : Snd mt G 401 1 (oConst (.int 0) 2) := w_iconst (hm := mm401) dX3_gain_1 rfl
theorem n401_2 : Snd mt G 401 2 (oPutf [4] 0 .int 5) := w_putf (hm := mm401) dX3_gain_2 (pok1 (k := 0) (T := TX3) 3 (Nat.le_of_ble_eq_true rfl) vc_3 (Nat.le_of_ble_eq_true rfl) rfl pd_X3_0 q2405)
theorem n401_5 : Snd mt G 401 5 (oAload 0 6) := w_aload_n (hm := mm401) dX3_gain_5
theorem n401_6 : Snd mt G 401 6 (oConst (.int 0) 7) := w_iconst (hm := mm401) dX3_gain_6 rfl
theorem n401_7 : Snd mt G 401 7 (oCall 2 (fV [4] 402 4) 0 10 xOut) := s_callV (m' := 402) (n := 1) xsh_out (w_xok0 mm401) (w_cal mm401 mm402 pn_X3 (Nat.le_of_ble_eq_true rfl) (Nat.le_of_ble_eq_true rfl)) (fun h b as hc hn => w_run_V (ci := 3) mm401 mm402 dX3_gain_7 (Or.inl (List.mem_singleton.mp hc)) (Nat.le_of_ble_eq_true rfl) vc_3 rfl q3100 q3102 qs121 q150 q3103 pa402 hn)
theorem n401_10 : Snd mt G 401 10 (oRetI .int) := w_iret (hm := mm401) dX3_gain_10 rfl
theorem sj401 : ∀ pc, Snd mt G 401 pc (j401 pc) := fun pc => (snd_br ((snd_br ((snd_br ((snd_lf n401_10)) ((snd_lf n401_7)))) ((snd_br ((snd_lf n401_6)) ((snd_lf n401_5)))))) ((snd_br ((snd_br ((snd_lf n401_2)) ((snd_lf n401_1)))) ((snd_lf n401_0)))))
end
section
variable {G : AG}
theorem n402_0 : Snd mt G 402 0 (oConst (.int 0) 1) := w_iconst (hm := mm402) dX3_gainBy_0 rfl
theorem n402_1 : Snd mt G 402 1 (oIstore 2 2) := w_istore_n (hm := mm402) dX3_gainBy_1 (Nat.le_of_ble_eq_true rfl)
theorem n402_2 : Snd mt G 402 2 (oConst (.int 0) 3) := w_iconst (hm := mm402) dX3_gainBy_2 rfl
theorem n402_3 : Snd mt G 402 3 (oIstore 3 4) := w_istore_n (hm := mm402) dX3_gainBy_3 (Nat.le_of_ble_eq_true rfl)
theorem n402_4 : Snd mt G 402 4 (oIload 3 5) := w_iload_n (hm := mm402) dX3_gainBy_4
theorem n402_5 : Snd mt G 402 5 (oAload 0 6) := w_aload_n (hm := mm402) dX3_gainBy_5
theorem n402_6 : Snd mt G 402 6 (oGetf [4] 44 9) := w_getf (hm := mm402) dX3_gainBy_6 (fok1 (k := 44) (T := TX3) 3 (Nat.le_of_ble_eq_true rfl) vc_3 (Nat.le_of_ble_eq_true rfl) q2449)
theorem n402_9 : Snd mt G 402 9 (oCmpGe 67 12) := w_icmp_ge (hm := mm402) dX3_gainBy_9 rfl
theorem n402_12 : Snd mt G 402 12 (oIload 2 13) := w_iload_n (hm := mm402) dX3_gainBy_12
theorem n402_13 : Snd mt G 402 13 (oIload 1 14) := w_iload_n (hm := mm402) dX3_gainBy_13
theorem n402_14 : Snd mt G 402 14 (oIload 3 15) := w_iload_n (hm := mm402) dX3_gainBy_14
theorem n402_15 : Snd mt G 402 15 (oBin (fun x y => x >>> (y &&& 31)) 16) := w_ishr (hm := mm402) dX3_gainBy_15
theorem n402_16 : Snd mt G 402 16 (oConst (.int 1) 17) := w_iconst (hm := mm402) dX3_gainBy_16 rfl
theorem n402_17 : Snd mt G 402 17 (oBin (fun x y => x &&& y) 18) := w_iand (hm := mm402) dX3_gainBy_17
theorem n402_18 : Snd mt G 402 18 (oConst (.int 1) 19) := w_iconst (hm := mm402) dX3_gainBy_18 rfl
theorem n402_19 : Snd mt G 402 19 (oCmpEq 22 42) := w_icmp_ne (hm := mm402) dX3_gainBy_19 rfl
theorem n402_22 : Snd mt G 402 22 (oAload 0 23) := w_aload_n (hm := mm402) dX3_gainBy_22
theorem n402_23 : Snd mt G 402 23 (oGetf [4] 54 26) := w_getf (hm := mm402) dX3_gainBy_23 (fok1 (k := 54) (T := TX3) 3 (Nat.le_of_ble_eq_true rfl) vc_3 (Nat.le_of_ble_eq_true rfl) q2459)
theorem n402_26 : Snd mt G 402 26 (oIload 3 27) := w_iload_n (hm := mm402) dX3_gainBy_26
theorem n402_27 : Snd mt G 402 27 (oAld [106] 28) := w_aaload (hm := mm402) (kt := 6) dX3_gainBy_27 rfl at_6 (Nat.le_of_ble_eq_true rfl) (List.forall_mem_cons.mpr ⟨Or.inl rfl, (fun t ht => nomatch ht)⟩)
theorem n402_28 : Snd mt G 402 28 (oConst (.int 0) 29) := w_iconst (hm := mm402) dX3_gainBy_28 rfl
theorem n402_29 : Snd mt G 402 29 (oAld [100] 30) := w_iaload (hm := mm402) (kt := 0) dX3_gainBy_29 at_0 (Nat.le_of_ble_eq_true rfl) (List.forall_mem_cons.mpr ⟨Or.inl rfl, (fun t ht => nomatch ht)⟩)
theorem n402_30 : Snd mt G 402 30 (oAload 0 31) := w_aload_n (hm := mm402) dX3_gainBy_30
theorem n402_31 : Snd mt G 402 31 (oGetf [4] 54 34) := w_getf (hm := mm402) dX3_gainBy_31 (fok1 (k := 54) (T := TX3) 3 (Nat.le_of_ble_eq_true rfl) vc_3 (Nat.le_of_ble_eq_true rfl) q2459)
theorem n402_34 : Snd mt G 402 34 (oIload 3 35) := w_iload_n (hm := mm402) dX3_gainBy_34
theorem n402_35 : Snd mt G 402 35 (oAld [106] 36) := w_aaload (hm := mm402) (kt := 6) dX3_gainBy_35 rfl at_6 (Nat.le_of_ble_eq_true rfl) (List.forall_mem_cons.mpr ⟨Or.inl rfl, (fun t ht => nomatch ht)⟩)
theorem n402_36 : Snd mt G 402 36 (oConst (.int 1) 37) := w_iconst (hm := mm402) dX3_gainBy_36 rfl
theorem n402_37 : Snd mt G 402 37 (oAld [100] 38) := w_iaload (hm := mm402) (kt := 0) dX3_gainBy_37 at_0 (Nat.le_of_ble_eq_true rfl) (List.forall_mem_cons.mpr ⟨Or.inl rfl, (fun t ht => nomatch ht)⟩)
theorem n402_38 : Snd mt G 402 38 (oBin (fun x y => x - y) 39) := w_isub (hm := mm402) dX3_gainBy_38
theorem n402_39 : Snd mt G 402 39 (oGoto 59) := w_goto (hm := mm402) dX3_gainBy_39 rfl
theorem n402_42 : Snd mt G 402 42 (oAload 0 43) := w_aload_n (hm := mm402) dX3_gainBy_42
theorem n402_43 : Snd mt G 402 43 (oGetf [4] 54 46) := w_getf (hm := mm402) dX3_gainBy_43 (fok1 (k := 54) (T := TX3) 3 (Nat.le_of_ble_eq_true rfl) vc_3 (Nat.le_of_ble_eq_true rfl) q2459)
theorem n402_46 : Snd mt G 402 46 (oIload 3 47) := w_iload_n (hm := mm402) dX3_gainBy_46
theorem n402_47 : Snd mt G 402 47 (oAld [106] 48) := w_aaload (hm := mm402) (kt := 6) dX3_gainBy_47 rfl at_6 (Nat.le_of_ble_eq_true rfl) (List.forall_mem_cons.mpr ⟨Or.inl rfl, (fun t ht => nomatch ht)⟩)
theorem n402_48 : Snd mt G 402 48 (oConst (.int 1) 49) := w_iconst (hm := mm402) dX3_gainBy_48 rfl
theorem n402_49 : Snd mt G 402 49 (oAld [100] 50) := w_iaload (hm := mm402) (kt := 0) dX3_gainBy_49 at_0 (Nat.le_of_ble_eq_true rfl) (List.forall_mem_cons.mpr ⟨Or.inl rfl, (fun t ht => nomatch ht)⟩)
theorem n402_50 : Snd mt G 402 50 (oAload 0 51) := w_aload_n (hm := mm402) dX3_gainBy_50
theorem n402_51 : Snd mt G 402 51 (oGetf [4] 54 54) := w_getf (hm := mm402) dX3_gainBy_51 (fok1 (k := 54) (T := TX3) 3 (Nat.le_of_ble_eq_true rfl) vc_3 (Nat.le_of_ble_eq_true rfl) q2459)
theorem n402_54 : Snd mt G 402 54 (oIload 3 55) := w_iload_n (hm := mm402) dX3_gainBy_54
theorem n402_55 : Snd mt G 402 55 (oAld [106] 56) := w_aaload (hm := mm402) (kt := 6) dX3_gainBy_55 rfl at_6 (Nat.le_of_ble_eq_true rfl) (List.forall_mem_cons.mpr ⟨Or.inl rfl, (fun t ht => nomatch ht)⟩)
theorem n402_56 : Snd mt G 402 56 (oConst (.int 0) 57) := w_iconst (hm := mm402) dX3_gainBy_56 rfl
theorem n402_57 : Snd mt G 402 57 (oAld [100] 58) := w_iaload (hm := mm402) (kt := 0) dX3_gainBy_57 at_0 (Nat.le_of_ble_eq_true rfl) (List.forall_mem_cons.mpr ⟨Or.inl rfl, (fun t ht => nomatch ht)⟩)
theorem n402_58 : Snd mt G 402 58 (oBin (fun x y => x - y) 59) := w_isub (hm := mm402) dX3_gainBy_58
theorem n402_59 : Snd mt G 402 59 (oBin (fun x y => x + y) 60) := w_iadd (hm := mm402) dX3_gainBy_59
theorem n402_60 : Snd mt G 402 60 (oIstore 2 61) := w_istore_n (hm := mm402) dX3_gainBy_60 (Nat.le_of_ble_eq_true rfl)
theorem n402_61 : Snd mt G 402 61 (oIinc 3 1 64) := w_iinc (hm := mm402) dX3_gainBy_61 rfl (Nat.le_of_ble_eq_true rfl)
theorem n402_64 : Snd mt G 402 64 (oGoto 4) := w_goto (hm := mm402) dX3_gainBy_64 rfl
theorem n402_67 : Snd mt G 402 67 (oIload 2 68) := w_iload_n (hm := mm402) dX3_gainBy_67
theorem n402_68 : Snd mt G 402 68 (oRetI .int) := w_iret (hm := mm402) dX3_gainBy_68 rfl
theorem sj402 : ∀ pc, Snd mt G 402 pc (j402 pc) := fun pc => (snd_br ((snd_br ((snd_br ((snd_br ((snd_br ((snd_br ((snd_lf n402_68)) ((snd_lf n402_67)))) ((snd_br ((snd_lf n402_64)) ((snd_lf n402_61)))))) ((snd_br ((snd_br ((snd_lf n402_60)) ((snd_lf n402_59)))) ((snd_lf n402_58)))))) ((snd_br ((snd_br ((snd_br ((snd_lf n402_57)) ((snd_lf n402_56)))) ((snd_lf n402_55)))) ((snd_br ((snd_br ((snd_lf n402_54)) ((snd_lf n402_51)))) ((snd_lf n402_50)))))))) ((snd_br ((snd_br ((snd_br ((snd_br ((snd_lf n402_49)) ((snd_lf n402_48)))) ((snd_lf n402_47)))) ((snd_br ((snd_br ((snd_lf n402_46)) ((snd_lf n402_43)))) ((snd_lf n402_42)))))) ((snd_br ((snd_br ((snd_br ((snd_lf n402_39)) ((snd_lf n402_38)))) ((snd_lf n402_37)))) ((snd_br ((snd_br ((snd_lf n402_36)) ((snd_lf n402_35)))) ((snd_lf n402_34)))))))))) ((snd_br ((snd_br ((snd_br ((snd_br ((snd_br ((snd_lf n402_31)) ((snd_lf n402_30)))) ((snd_lf n402_29)))) ((snd_br ((snd_br ((snd_lf n402_28)) ((snd_lf n402_27)))) ((snd_lf n402_26)))))) ((snd_br ((snd_br ((snd_br ((snd_lf n402_23)) ((snd_lf n402_22)))) ((snd_lf n402_19)))) ((snd_br ((snd_br ((snd_lf n402_18)) ((snd_lf n402_17)))) ((snd_lf n402_16)))))))) ((snd_br ((snd_br ((snd_br ((snd_br ((snd_lf n402_15)) ((snd_lf n402_14)))) ((snd_lf n402_13)))) ((snd_br ((snd_br ((snd_lf n402_12)) ((snd_lf n402_9)))) ((snd_lf n402_6)))))) ((snd_br ((snd_br ((snd_br ((snd_lf n402_5)) ((snd_lf n402_4)))) ((snd_lf n402_3)))) ((snd_br ((snd_br ((snd_lf n402_2)) ((snd_lf n402_1)))) ((snd_lf n402_0)))))))))))
end
section
variable {G : AG}
theorem n403_0 : Snd mt G 403 0 (oAload 0 1) := w_aload_n (hm := mm403) dX3_ways_0
theorem n403_1 : Snd mt G 403 1 (oConst (.int 0) 2) := w_iconst (hm := mm403) dX3_ways_1 rfl
theorem n403_2 : Snd mt G 403 2 (oPutf [4] 0 .int 5) := w_putf (hm := mm403) dX3_ways_2 (pok1 (k := 0) (T := TX3) 3 (Nat.le_of_ble_eq_true rfl) vc_3 (Nat.le_of_ble_eq_true rfl) rfl pd_X3_0 q2405)
theorem n403_5 : Snd mt G 403 5 (oConst (.int 0) 6) := w_iconst (hm := mm403) dX3_ways_5 rfl
theorem n403_6 : Snd mt G 403 6 (oIstore 1 7) := w_istore_n (hm := mm403) dX3_ways_6 (Nat.le_of_ble_eq_true rfl)
theorem n403_7 : Snd mt G 403 7 (oConst (.int 0) 8) := w_iconst (hm := mm403) dX3_ways_7 rfl
theorem n403_8 : Snd mt G 403 8 (oIstore 2 9) := w_istore_n (hm := mm403) dX3_ways_8 (Nat.le_of_ble_eq_true rfl)
theorem n403_9 : Snd mt G 403 9 (oIload 2 10) := w_iload_n (hm := mm403) dX3_ways_9
theorem n403_10 : Snd mt G 403 10 (oConst (.int 1) 11) := w_iconst (hm := mm403) dX3_ways_10 rfl
theorem n403_11 : Snd mt G 403 11 (oAload 0 12) := w_aload_n (hm := mm403) dX3_ways_11
theorem n403_12 : Snd mt G 403 12 (oGetf [4] 44 15) := w_getf (hm := mm403) dX3_ways_12 (fok1 (k := 44) (T := TX3) 3 (Nat.le_of_ble_eq_true rfl) vc_3 (Nat.le_of_ble_eq_true rfl) q2449)
theorem n403_15 : Snd mt G 403 15 (oBin (fun x y => x <<< (y &&& 31)) 16) := w_ishl (hm := mm403) dX3_ways_15
theorem n403_16 : Snd mt G 403 16 (oCmpGe 46 19) := w_icmp_ge (hm := mm403) dX3_ways_16 rfl
theorem n403_19 : Snd mt G 403 19 (oIload 1 20) := w_iload_n (hm := mm403) dX3_ways_19
theorem n403_20 : Snd mt G 403 20 (oAload 0 21) := w_aload_n (hm := mm403) dX3_ways_20
theorem n403_21 : Snd mt G 403 21 (oIload 2 22) := w_iload_n (hm := mm403) dX3_ways_21
theorem n403_22 : Snd mt G 403 22 (oCall 2 (fV [4] 402 4) 0 25 xOut) := s_callV (m' := 402) (n := 1) xsh_out (w_xok0 mm403) (w_cal mm403 mm402 pn_X3 (Nat.le_of_ble_eq_true rfl) (Nat.le_of_ble_eq_true rfl)) (fun h b as hc hn => w_run_V (ci := 3) mm403 mm402 dX3_ways_22 (Or.inl (List.mem_singleton.mp hc)) (Nat.le_of_ble_eq_true rfl) vc_3 rfl q3100 q3102 qs121 q150 q3103 pa402 hn)
theorem n403_25 : Snd mt G 403 25 (oAload 0 26) := w_aload_n (hm := mm403) dX3_ways_25
theorem n403_26 : Snd mt G 403 26 (oConst (.int 0) 27) := w_iconst (hm := mm403) dX3_ways_26 rfl
theorem n403_27 : Snd mt G 403 27 (oCall 2 (fV [4] 402 4) 0 30 xOut) := s_callV (m' := 402) (n := 1) xsh_out (w_xok0 mm403) (w_cal mm403 mm402 pn_X3 (Nat.le_of_ble_eq_true rfl) (Nat.le_of_ble_eq_true rfl)) (fun h b as hc hn => w_run_V (ci := 3) mm403 mm402 dX3_ways_27 (Or.inl (List.mem_singleton.mp hc)) (Nat.le_of_ble_eq_true rfl) vc_3 rfl q3100 q3102 qs121 q150 q3103 pa402 hn)
theorem n403_30 : Snd mt G 403 30 (oCmpLt 37 33) := w_icmp_lt (hm := mm403) dX3_ways_30 rfl
theorem n403_33 : Snd mt G 403 33 (oConst (.int 1) 34) := w_iconst (hm := mm403) dX3_ways_33 rfl
theorem n403_34 : Snd mt G 403 34 (oGoto 38) := w_goto (hm := mm403) dX3_ways_34 rfl
theorem n403_37 : Snd mt G 403 37 (oConst (.int 0) 38) := w_iconst (hm := mm403) dX3_ways_37 rfl
theorem n403_38 : Snd mt G 403 38 (oBin (fun x y => x + y) 39) := w_iadd (hm := mm403) dX3_ways_38
theorem n403_39 : Snd mt G 403 39 (oIstore 1 40) := w_istore_n (hm := mm403) dX3_ways_39 (Nat.le_of_ble_eq_true rfl)
theorem n403_40 : Snd mt G 403 40 (oIinc 2 1 43) := w_iinc (hm := mm403) dX3_ways_40 rfl (Nat.le_of_ble_eq_true rfl)
theorem n403_43 : Snd mt G 403 43 (oGoto 9) := w_goto (hm := mm403) dX3_ways_43 rfl
theorem n403_46 : Snd mt G 403 46 (oIload 1 47) := w_iload_n (hm := mm403) dX3_ways_46
theorem n403_47 : Snd mt G 403 47 (oRetI .int) := w_iret (hm := mm403) dX3_ways_47 rfl
theorem sj403 : ∀ pc, Snd mt G 403 pc (j403 pc) := fun pc => (snd_br ((snd_br ((snd_br ((snd_br ((snd_br ((snd_lf n403_47)) ((snd_lf n403_46)))) ((snd_br ((snd_lf n403_43)) ((snd_lf n403_40)))))) ((snd_br ((snd_br ((snd_lf n403_39)) ((snd_lf n403_38)))) ((snd_br ((snd_lf n403_37)) ((snd_lf n403_34)))))))) ((snd_br ((snd_br ((snd_br ((snd_lf n403_33)) ((snd_lf n403_30)))) ((snd_br ((snd_lf n403_27)) ((snd_lf n403_26)))))) ((snd_br ((snd_br ((snd_lf n403_25)) ((snd_lf n403_22)))) ((snd_lf n403_21)))))))) ((snd_br ((snd_br ((snd_br ((snd_br ((snd_lf n403_20)) ((snd_lf n403_19)))) ((snd_br ((snd_lf n403_16)) ((snd_lf n403_15)))))) ((snd_br ((snd_br ((snd_lf n403_12)) ((snd_lf n403_11)))) ((snd_br ((snd_lf n403_10)) ((snd_lf n403_9)))))))) ((snd_br ((snd_br ((snd_br ((snd_lf n403_8)) ((snd_lf n403_7)))) ((snd_br ((snd_lf n403_6)) ((snd_lf n403_5)))))) ((snd_br ((snd_br ((snd_lf n403_2)) ((snd_lf n403_1)))) ((snd_lf n403_0)))))))))
end
section
variable {G : AG}
theorem n404_0 : Snd mt G 404 0 (oAload 0 1) := w_aload_n (hm := mm404) dX3_anew_0
theorem n404_1 : Snd mt G 404 1 (oConst (.int 0) 2) := w_iconst (hm := mm404) dX3_anew_1 rfl
theorem n404_2 : Snd mt G 404 2 (oPutf [4] 0 .int 5) := w_putf (hm := mm404) dX3_anew_2 (pok1 (k := 0) (T := TX3) 3 (Nat.le_of_ble_eq_true rfl) vc_3 (Nat.le_of_ble_eq_true rfl) rfl pd_X3_0 q2405)
theorem n404_5 : Snd mt G 404 5 (oAload 0 6) := w_aload_n (hm := mm404) dX3_anew_5
theorem n404_6 : Snd mt G 404 6 (oGetf [4] 44 9) := w_getf (hm := mm404) dX3_anew_6 (fok1 (k := 44) (T := TX3) 3 (Nat.le_of_ble_eq_true rfl) vc_3 (Nat.le_of_ble_eq_true rfl) q2449)
theorem n404_9 : Snd mt G 404 9 (oIstore 1 10) := w_istore_n (hm := mm404) dX3_anew_9 (Nat.le_of_ble_eq_true rfl)
theorem n404_10 : Snd mt G 404 10 (oAload 0 11) := w_aload_n (hm := mm404) dX3_anew_10
theorem n404_11 : Snd mt G 404 11 (oConst (.int 0) 12) := w_iconst (hm := mm404) dX3_anew_11 rfl
theorem n404_12 : Snd mt G 404 12 (oPutf [4] 44 .int 15) := w_putf (hm := mm404) dX3_anew_12 (pok1 (k := 44) (T := TX3) 3 (Nat.le_of_ble_eq_true rfl) vc_3 (Nat.le_of_ble_eq_true rfl) rfl pd_X3_44 q2449)
theorem n404_15 : Snd mt G 404 15 (oIload 1 16) := w_iload_n (hm := mm404) dX3_anew_15
theorem n404_16 : Snd mt G 404 16 (oRetI .int) := w_iret (hm := mm404) dX3_anew_16 rfl
theorem sj404 : ∀ pc, Snd mt G 404 pc (j404 pc) := fun pc => (snd_br ((snd_br ((snd_br ((snd_br ((snd_lf n404_16)) ((snd_lf n404_15)))) ((snd_lf n404_12)))) ((snd_br ((snd_br ((snd_lf n404_11)) ((snd_lf n404_10)))) ((snd_lf n404_9)))))) ((snd_br ((snd_br ((snd_br ((snd_lf n404_6)) ((snd_lf n404_5)))) ((snd_lf n404_2)))) ((snd_br ((snd_lf n404_1)) ((snd_lf n404_0)))))))
end
section
variable {G : AG}
theorem n405_0 : Snd mt G 405 0 (oAload 0 1) := w_aload_n (hm := mm405) dX3_cause_0
theorem n405_1 : Snd mt G 405 1 (oConst (.int 0) 2) := w_iconst (hm := mm405) dX3_cause_1 rfl
theorem n405_2 : Snd mt G 405 2 (oPutf [4] 0 .int 5) := w_putf (hm := mm405) dX3_cause_2 (pok1 (k := 0) (T := TX3) 3 (Nat.le_of_ble_eq_true rfl) vc_3 (Nat.le_of_ble_eq_true rfl) rfl pd_X3_0 q2405)
theorem n405_5 : Snd mt G 405 5 (oAload 0 6) := w_aload_n (hm := mm405) dX3_cause_5
theorem n405_6 : Snd mt G 405 6 (oIload 1 7) := w_iload_n (hm := mm405) dX3_cause_6
theorem n405_7 : Snd mt G 405 7 (oConst (.int 0) 8) := w_iconst (hm := mm405) dX3_cause_7 rfl
theorem n405_8 : Snd mt G 405 8 (oConst (.int 255) 11) := w_sipush (hm := mm405) dX3_cause_8 (by decide)
theorem n405_11 : Snd mt G 405 11 (oCall 3 (fS 284 3) 0 14 xOut) := s_callS (m' := 284) (n := 3) xsh_out (w_xok0 mm405) (w_cal mm405 mm284 pn_X3 (Nat.le_of_ble_eq_true rfl) (Nat.le_of_ble_eq_true rfl)) (fun h as hn => w_run_S mm405 mm284 dX3_cause_11 q2631 q2632 q150 q2633 pa284 hn)
theorem n405_14 : Snd mt G 405 14 (oIfEq 28 17) := w_if_eq (hm := mm405) dX3_cause_14 rfl
theorem n405_17 : Snd mt G 405 17 (oIload 2 18) := w_iload_n (hm := mm405) dX3_cause_17
theorem n405_18 : Snd mt G 405 18 (oConst (.int 0) 19) := w_iconst (hm := mm405) dX3_cause_18 rfl
theorem n405_19 : Snd mt G 405 19 (oConst (.int 255) 22) := w_sipush (hm := mm405) dX3_cause_19 (by decide)
theorem n405_22 : Snd mt G 405 22 (oCall 3 (fS 284 3) 0 25 xOut) := s_callS (m' := 284) (n := 3) xsh_out (w_xok0 mm405) (w_cal mm405 mm284 pn_X3 (Nat.le_of_ble_eq_true rfl) (Nat.le_of_ble_eq_true rfl)) (fun h as hn => w_run_S mm405 mm284 dX3_cause_22 q2631 q2632 q150 q2633 pa284 hn)
theorem n405_25 : Snd mt G 405 25 (oIfEq 28 32) := w_if_ne (hm := mm405) dX3_cause_25 rfl
theorem n405_28 : Snd mt G 405 28 (oConst (.int 1) 29) := w_iconst (hm := mm405) dX3_cause_28 rfl
theorem n405_29 : Snd mt G 405 29 (oGoto 33) := w_goto (hm := mm405) dX3_cause_29 rfl
theorem n405_32 : Snd mt G 405 32 (oConst (.int 0) 33) := w_iconst (hm := mm405) dX3_cause_32 rfl
theorem n405_33 : Snd mt G 405 33 (oConst (.int 1) 34) := w_iconst (hm := mm405) dX3_cause_33 rfl
theorem n405_34 : Snd mt G 405 34 (oCall 3 (fV [4] 285 3) 0 37 xOut) := s_callV (m' := 285) (n := 2) xsh_out (w_xok0 mm405) (w_cal mm405 mm285 pn_X3 (Nat.le_of_ble_eq_true rfl) (Nat.le_of_ble_eq_true rfl)) (fun h b as hc hn => w_run_V (ci := 3) mm405 mm285 dX3_cause_34 (Or.inl (List.mem_singleton.mp hc)) (Nat.le_of_ble_eq_true rfl) vc_3 rfl q2634 q2636 qs62 q150 q2637 pa285 hn)
theorem n405_37 : Snd mt G 405 37 (oIfEq 42 40) := w_if_eq (hm := mm405) dX3_cause_37 rfl
theorem n405_40 : Snd mt G 405 40 (oConst (.int 0) 41) := w_iconst (hm := mm405) dX3_cause_40 rfl
theorem n405_41 : Snd mt G 405 41 (oRetI .int) := w_iret (hm := mm405) dX3_cause_41 rfl
theorem n405_42 : Snd mt G 405 42 (oAload 0 43) := w_aload_n (hm := mm405) dX3_cause_42
theorem n405_43 : Snd mt G 405 43 (oGetf [4] 32 46) := w_getf (hm := mm405) dX3_cause_43 (fok1 (k := 32) (T := TX3) 3 (Nat.le_of_ble_eq_true rfl) vc_3 (Nat.le_of_ble_eq_true rfl) q2437)
theorem n405_46 : Snd mt G 405 46 (oConst (.int 6) 48) := w_bipush (hm := mm405) dX3_cause_46 (by decide)
theorem n405_48 : Snd mt G 405 48 (oCmpEq 51 53) := w_icmp_ne (hm := mm405) dX3_cause_48 rfl
theorem n405_51 : Snd mt G 405 51 (oConst (.int (-1)) 52) := w_iconst (hm := mm405) dX3_cause_51 rfl
theorem n405_52 : Snd mt G 405 52 (oRetI .int) := w_iret (hm := mm405) dX3_cause_52 rfl
theorem n405_53 : Snd mt G 405 53 (oAload 0 54) := w_aload_n (hm := mm405) dX3_cause_53
theorem n405_54 : Snd mt G 405 54 (oGetf [4] 57 57) := w_getf (hm := mm405) dX3_cause_54 (fok1 (k := 57) (T := TX3) 3 (Nat.le_of_ble_eq_true rfl) vc_3 (Nat.le_of_ble_eq_true rfl) q2462)
theorem n405_57 : Snd mt G 405 57 (oAload 0 58) := w_aload_n (hm := mm405) dX3_cause_57
theorem n405_58 : Snd mt G 405 58 (oGetf [4] 32 61) := w_getf (hm := mm405) dX3_cause_58 (fok1 (k := 32) (T := TX3) 3 (Nat.le_of_ble_eq_true rfl) vc_3 (Nat.le_of_ble_eq_true rfl) q2437)
theorem n405_61 : Snd mt G 405 61 (oAld [106] 62) := w_aaload (hm := mm405) (kt := 6) dX3_cause_61 rfl at_6 (Nat.le_of_ble_eq_true rfl) (List.forall_mem_cons.mpr ⟨Or.inl rfl, (fun t ht => nomatch ht)⟩)
theorem n405_62 : Snd mt G 405 62 (oConst (.int 0) 63) := w_iconst (hm := mm405) dX3_cause_62 rfl
theorem n405_63 : Snd mt G 405 63 (oIload 1 64) := w_iload_n (hm := mm405) dX3_cause_63
theorem n405_64 : Snd mt G 405 64 (oIast [100] 65) := w_iastore (hm := mm405) (kt := 0) dX3_cause_64 at_0 (Nat.le_of_ble_eq_true rfl) (List.forall_mem_cons.mpr ⟨rfl, (fun t ht => nomatch ht)⟩)
theorem n405_65 : Snd mt G 405 65 (oAload 0 66) := w_aload_n (hm := mm405) dX3_cause_65
theorem n405_66 : Snd mt G 405 66 (oGetf [4] 57 69) := w_getf (hm := mm405) dX3_cause_66 (fok1 (k := 57) (T := TX3) 3 (Nat.le_of_ble_eq_true rfl) vc_3 (Nat.le_of_ble_eq_true rfl) q2462)
theorem n405_69 : Snd mt G 405 69 (oAload 0 70) := w_aload_n (hm := mm405) dX3_cause_69
theorem n405_70 : Snd mt G 405 70 (oGetf [4] 32 73) := w_getf (hm := mm405) dX3_cause_70 (fok1 (k := 32) (T := TX3) 3 (Nat.le_of_ble_eq_true rfl) vc_3 (Nat.le_of_ble_eq_true rfl) q2437)
theorem n405_73 : Snd mt G 405 73 (oAld [106] 74) := w_aaload (hm := mm405) (kt := 6) dX3_cause_73 rfl at_6 (Nat.le_of_ble_eq_true rfl) (List.forall_mem_cons.mpr ⟨Or.inl rfl, (fun t ht => nomatch ht)⟩)
theorem n405_74 : Snd mt G 405 74 (oConst (.int 1) 75) := w_iconst (hm := mm405) dX3_cause_74 rfl
theorem n405_75 : Snd mt G 405 75 (oIload 2 76) := w_iload_n (hm := mm405) dX3_cause_75
theorem n405_76 : Snd mt G 405 76 (oIast [100] 77) := w_iastore (hm := mm405) (kt := 0) dX3_cause_76 at_0 (Nat.le_of_ble_eq_true rfl) (List.forall_mem_cons.mpr ⟨rfl, (fun t ht => nomatch ht)⟩)
theorem n405_77 : Snd mt G 405 77 (oAload 0 78) := w_aload_n (hm := mm405) dX3_cause_77
theorem n405_78 : Snd mt G 405 78 (oDup 79) := w_dup (hm := mm405) dX3_cause_78
theorem n405_79 : Snd mt G 405 79 (oGetf [4] 32 82) := w_getf (hm := mm405) dX3_cause_79 (fok1 (k := 32) (T := TX3) 3 (Nat.le_of_ble_eq_true rfl) vc_3 (Nat.le_of_ble_eq_true rfl) q2437)
theorem n405_82 : Snd mt G 405 82 (oConst (.int 1) 83) := w_iconst (hm := mm405) dX3_cause_82 rfl
theorem n405_83 : Snd mt G 405 83 (oBin (fun x y => x + y) 84) := w_iadd (hm := mm405) dX3_cause_83
theorem n405_84 : Snd mt G 405 84 (oPutf [4] 32 .int 87) := w_putf (hm := mm405) dX3_cause_84 (pok1 (k := 32) (T := TX3) 3 (Nat.le_of_ble_eq_true rfl) vc_3 (Nat.le_of_ble_eq_true rfl) rfl pd_X3_32 q2437)
theorem n405_87 : Snd mt G 405 87 (oAload 0 88) := w_aload_n (hm := mm405) dX3_cause_87
theorem n405_88 : Snd mt G 405 88 (oGetf [4] 32 91) := w_getf (hm := mm405) dX3_cause_88 (fok1 (k := 32) (T := TX3) 3 (Nat.le_of_ble_eq_true rfl) vc_3 (Nat.le_of_ble_eq_true rfl) q2437)
theorem n405_91 : Snd mt G 405 91 (oConst (.int 1) 92) := w_iconst (hm := mm405) dX3_cause_91 rfl
theorem n405_92 : Snd mt G 405 92 (oBin (fun x y => x - y) 93) := w_isub (hm := mm405) dX3_cause_92
theorem n405_93 : Snd mt G 405 93 (oRetI .int) := w_iret (hm := mm405) dX3_cause_93 rfl
theorem sj405 : ∀ pc, Snd mt G 405 pc (j405 pc) := fun pc => (snd_br ((snd_br ((snd_br ((snd_br ((snd_br ((snd_br ((snd_lf n405_93)) ((snd_lf n405_92)))) ((snd_br ((snd_lf n405_91)) ((snd_lf n405_88)))))) ((snd_br ((snd_br ((snd_lf n405_87)) ((snd_lf n405_84)))) ((snd_lf n405_83)))))) ((snd_br ((snd_br ((snd_br ((snd_lf n405_82)) ((snd_lf n405_79)))) ((snd_br ((snd_lf n405_78)) ((snd_lf n405_77)))))) ((snd_br ((snd_br ((snd_lf n405_76)) ((snd_lf n405_75)))) ((snd_lf n405_74)))))))) ((snd_br ((snd_br ((snd_br ((snd_br ((snd_lf n405_73)) ((snd_lf n405_70)))) ((snd_br ((snd_lf n405_69)) ((snd_lf n405_66)))))) ((snd_br ((snd_br ((snd_lf n405_65)) ((snd_lf n405_64)))) ((snd_lf n405_63)))))) ((snd_br ((snd_br ((snd_br ((snd_lf n405_62)) ((snd_lf n405_61)))) ((snd_br ((snd_lf n405_58)) ((snd_lf n405_57)))))) ((snd_br ((snd_br ((snd_lf n405_54)) ((snd_lf n405_53)))) ((snd_lf n405_52)))))))))) ((snd_br ((snd_br ((snd_br ((snd_br ((snd_br ((snd_lf n405_51)) ((snd_lf n405_48)))) ((snd_br ((snd_lf n405_46)) ((snd_lf n405_43)))))) ((snd_br ((snd_br ((snd_lf n405_42)) ((snd_lf n405_41)))) ((snd_lf n405_40)))))) ((snd_br ((snd_br ((snd_br ((snd_lf n405_37)) ((snd_lf n405_34)))) ((snd_br ((snd_lf n405_33)) ((snd_lf n405_32)))))) ((snd_br ((snd_br ((snd_lf n405_29)) ((snd_lf n405_28)))) ((snd_lf n405_25)))))))) ((snd_br ((snd_br ((snd_br ((snd_br ((snd_lf n405_22)) ((snd_lf n405_19)))) ((snd_br ((snd_lf n405_18)) ((snd_lf n405_17)))))) ((snd_br ((snd_br ((snd_lf n405_14)) ((snd_lf n405_11)))) ((snd_lf n405_8)))))) ((snd_br ((snd_br ((snd_br ((snd_lf n405_7)) ((snd_lf n405_6)))) ((snd_lf n405_5)))) ((snd_br ((snd_br ((snd_lf n405_2)) ((snd_lf n405_1)))) ((snd_lf n405_0)))))))))))
end
section
variable {G : AG}
theorem n406_0 : Snd mt G 406 0 (oAload 0 1) := w_aload_n (hm := mm406) dX3_see_0
theorem n406_1 : Snd mt G 406 1 (oConst (.int 0) 2) := w_iconst (hm := mm406) dX3_see_1 rfl
theorem n406_2 : Snd mt G 406 2 (oPutf [4] 0 .int 5) := w_putf (hm := mm406) dX3_see_2 (pok1 (k := 0) (T := TX3) 3 (Nat.le_of_ble_eq_true rfl) vc_3 (Nat.le_of_ble_eq_true rfl) rfl pd_X3_0 q2405)
theorem n406_5 : Snd mt G 406 5 (oAload 0 6) := w_aload_n (hm := mm406) dX3_see_5
theorem n406_6 : Snd mt G 406 6 (oIload 1 7) := w_iload_n (hm := mm406) dX3_see_6
theorem n406_7 : Snd mt G 406 7 (oConst (.int 0) 8) := w_iconst (hm := mm406) dX3_see_7 rfl
theorem n406_8 : Snd mt G 406 8 (oConst (.int 255) 11) := w_sipush (hm := mm406) dX3_see_8 (by decide)
theorem n406_11 : Snd mt G 406 11 (oCall 3 (fS 284 3) 0 14 xOut) := s_callS (m' := 284) (n := 3) xsh_out (w_xok0 mm406) (w_cal mm406 mm284 pn_X3 (Nat.le_of_ble_eq_true rfl) (Nat.le_of_ble_eq_true rfl)) (fun h as hn => w_run_S mm406 mm284 dX3_see_11 q2631 q2632 q150 q2633 pa284 hn)
theorem n406_14 : Snd mt G 406 14 (oIfEq 34 17) := w_if_eq (hm := mm406) dX3_see_14 rfl
theorem n406_17 : Snd mt G 406 17 (oIload 2 18) := w_iload_n (hm := mm406) dX3_see_17
theorem n406_18 : Snd mt G 406 18 (oConst (.int 0) 19) := w_iconst (hm := mm406) dX3_see_18 rfl
theorem n406_19 : Snd mt G 406 19 (oConst (.int 255) 22) := w_sipush (hm := mm406) dX3_see_19 (by decide)
theorem n406_22 : Snd mt G 406 22 (oCall 3 (fS 284 3) 0 25 xOut) := s_callS (m' := 284) (n := 3) xsh_out (w_xok0 mm406) (w_cal mm406 mm284 pn_X3 (Nat.le_of_ble_eq_true rfl) (Nat.le_of_ble_eq_true rfl)) (fun h as hn => w_run_S mm406 mm284 dX3_see_22 q2631 q2632 q150 q2633 pa284 hn)
theorem n406_25 : Snd mt G 406 25 (oIfEq 34 28) := w_if_eq (hm := mm406) dX3_see_25 rfl
theorem n406_28 : Snd mt G 406 28 (oIload 1 29) := w_iload_n (hm := mm406) dX3_see_28
theorem n406_29 : Snd mt G 406 29 (oIload 2 30) := w_iload_n (hm := mm406) dX3_see_29
theorem n406_30 : Snd mt G 406 30 (oBin (fun x y => x &&& y) 31) := w_iand (hm := mm406) dX3_see_30
theorem n406_31 : Snd mt G 406 31 (oIfEq 38 34) := w_if_eq (hm := mm406) dX3_see_31 rfl
theorem n406_34 : Snd mt G 406 34 (oConst (.int 1) 35) := w_iconst (hm := mm406) dX3_see_34 rfl
theorem n406_35 : Snd mt G 406 35 (oGoto 39) := w_goto (hm := mm406) dX3_see_35 rfl
theorem n406_38 : Snd mt G 406 38 (oConst (.int 0) 39) := w_iconst (hm := mm406) dX3_see_38 rfl
theorem n406_39 : Snd mt G 406 39 (oConst (.int 1) 40) := w_iconst (hm := mm406) dX3_see_39 rfl
theorem n406_40 : Snd mt G 406 40 (oCall 3 (fV [4] 285 3) 0 43 xOut) := s_callV (m' := 285) (n := 2) xsh_out (w_xok0 mm406) (w_cal mm406 mm285 pn_X3 (Nat.le_of_ble_eq_true rfl) (Nat.le_of_ble_eq_true rfl)) (fun h b as hc hn => w_run_V (ci := 3) mm406 mm285 dX3_see_40 (Or.inl (List.mem_singleton.mp hc)) (Nat.le_of_ble_eq_true rfl) vc_3 rfl q2634 q2636 qs62 q150 q2637 pa285 hn)
theorem n406_43 : Snd mt G 406 43 (oIfEq 48 46) := w_if_eq (hm := mm406) dX3_see_43 rfl
theorem n406_46 : Snd mt G 406 46 (oConst (.int 0) 47) := w_iconst (hm := mm406) dX3_see_46 rfl
theorem n406_47 : Snd mt G 406 47 (oRetI .int) := w_iret (hm := mm406) dX3_see_47 rfl
theorem n406_48 : Snd mt G 406 48 (oAload 0 49) := w_aload_n (hm := mm406) dX3_see_48
theorem n406_49 : Snd mt G 406 49 (oIload 1 50) := w_iload_n (hm := mm406) dX3_see_49
theorem n406_50 : Snd mt G 406 50 (oPutf [4] 33 .int 53) := w_putf (hm := mm406) dX3_see_50 (pok1 (k := 33) (T := TX3) 3 (Nat.le_of_ble_eq_true rfl) vc_3 (Nat.le_of_ble_eq_true rfl) rfl pd_X3_33 q2438)
theorem n406_53 : Snd mt G 406 53 (oAload 0 54) := w_aload_n (hm := mm406) dX3_see_53
theorem n406_54 : Snd mt G 406 54 (oIload 2 55) := w_iload_n (hm := mm406) dX3_see_54
theorem n406_55 : Snd mt G 406 55 (oPutf [4] 34 .int 58) := w_putf (hm := mm406) dX3_see_55 (pok1 (k := 34) (T := TX3) 3 (Nat.le_of_ble_eq_true rfl) vc_3 (Nat.le_of_ble_eq_true rfl) rfl pd_X3_34 q2439)
theorem n406_58 : Snd mt G 406 58 (oAload 0 59) := w_aload_n (hm := mm406) dX3_see_58
theorem n406_59 : Snd mt G 406 59 (oCall 1 (fV [4] 407 3) 0 62 xOut) := s_callV (m' := 407) (n := 0) xsh_out (w_xok0 mm406) (w_cal mm406 mm407 pn_X3 (Nat.le_of_ble_eq_true rfl) (Nat.le_of_ble_eq_true rfl)) (fun h b as hc hn => w_run_V (ci := 3) mm406 mm407 dX3_see_59 (Or.inl (List.mem_singleton.mp hc)) (Nat.le_of_ble_eq_true rfl) vc_3 rfl q3120 q3122 qs122 q150 q3123 pa407 hn)
theorem n406_62 : Snd mt G 406 62 (oRetI .int) := w_iret (hm := mm406) dX3_see_62 rfl
theorem sj406 : ∀ pc, Snd mt G 406 pc (j406 pc) := fun pc => (snd_br ((snd_br ((snd_br ((snd_br ((snd_br ((snd_br ((snd_lf n406_62)) ((snd_lf n406_59)))) ((snd_lf n406_58)))) ((snd_br ((snd_lf n406_55)) ((snd_lf n406_54)))))) ((snd_br ((snd_br ((snd_lf n406_53)) ((snd_lf n406_50)))) ((snd_br ((snd_lf n406_49)) ((snd_lf n406_48)))))))) ((snd_br ((snd_br ((snd_br ((snd_br ((snd_lf n406_47)) ((snd_lf n406_46)))) ((snd_lf n406_43)))) ((snd_br ((snd_lf n406_40)) ((snd_lf n406_39)))))) ((snd_br ((snd_br ((snd_lf n406_38)) ((snd_lf n406_35)))) ((snd_br ((snd_lf n406_34)) ((snd_lf n406_31)))))))))) ((snd_br ((snd_br ((snd_br ((snd_br ((snd_br ((snd_lf n406_30)) ((snd_lf n406_29)))) ((snd_lf n406_28)))) ((snd_br ((snd_lf n406_25)) ((snd_lf n406_22)))))) ((snd_br ((snd_br ((snd_lf n406_19)) ((snd_lf n406_18)))) ((snd_br ((snd_lf n406_17)) ((snd_lf n406_14)))))))) ((snd_br ((snd_br ((snd_br ((snd_lf n406_11)) ((snd_lf n406_8)))) ((snd_br ((snd_lf n406_7)) ((snd_lf n406_6)))))) ((snd_br ((snd_br ((snd_lf n406_5)) ((snd_lf n406_2)))) ((snd_br ((snd_lf n406_1)) ((snd_lf n406_0)))))))))))
end
section
variable {G : AG}
theorem n407_0 : Snd mt G 407 0 (oConst (.int 0) 1) := w_iconst (hm := mm407) dX3_opens_0 rfl
theorem n407_1 : Snd mt G 407 1 (oIstore 1 2) := w_istore_n (hm := mm407) dX3_opens_1 (Nat.le_of_ble_eq_true rfl)
theorem n407_2 : Snd mt G 407 2 (oConst (.int 0) 3) := w_iconst (hm := mm407) dX3_opens_2 rfl
theorem n407_3 : Snd mt G 407 3 (oIstore 2 4) := w_istore_n (hm := mm407) dX3_opens_3 (Nat.le_of_ble_eq_true rfl)
theorem n407_4 : Snd mt G 407 4 (oIload 2 5) := w_iload_n (hm := mm407) dX3_opens_4
theorem n407_5 : Snd mt G 407 5 (oAload 0 6) := w_aload_n (hm := mm407) dX3_opens_5
theorem n407_6 : Snd mt G 407 6 (oGetf [4] 32 9) := w_getf (hm := mm407) dX3_opens_6 (fok1 (k := 32) (T := TX3) 3 (Nat.le_of_ble_eq_true rfl) vc_3 (Nat.le_of_ble_eq_true rfl) q2437)
theorem n407_9 : Snd mt G 407 9 (oCmpGe 36 12) := w_icmp_ge (hm := mm407) dX3_opens_9 rfl
theorem n407_12 : Snd mt G 407 12 (oIload 1 13) := w_iload_n (hm := mm407) dX3_opens_12
theorem n407_13 : Snd mt G 407 13 (oAload 0 14) := w_aload_n (hm := mm407) dX3_opens_13
theorem n407_14 : Snd mt G 407 14 (oIload 2 15) := w_iload_n (hm := mm407) dX3_opens_14
theorem n407_15 : Snd mt G 407 15 (oCall 2 (fV [4] 408 2) 0 18 xOut) := s_callV (m' := 408) (n := 1) xsh_out (w_xok0 mm407) (w_cal mm407 mm408 pn_X3 (Nat.le_of_ble_eq_true rfl) (Nat.le_of_ble_eq_true rfl)) (fun h b as hc hn => w_run_V (ci := 3) mm407 mm408 dX3_opens_15 (Or.inl (List.mem_singleton.mp hc)) (Nat.le_of_ble_eq_true rfl) vc_3 rfl q3124 q3126 qs123 q150 q3127 pa408 hn)
theorem n407_18 : Snd mt G 407 18 (oIfEq 27 21) := w_if_eq (hm := mm407) dX3_opens_18 rfl
theorem n407_21 : Snd mt G 407 21 (oConst (.int 1) 22) := w_iconst (hm := mm407) dX3_opens_21 rfl
theorem n407_22 : Snd mt G 407 22 (oIload 2 23) := w_iload_n (hm := mm407) dX3_opens_22
theorem n407_23 : Snd mt G 407 23 (oBin (fun x y => x <<< (y &&& 31)) 24) := w_ishl (hm := mm407) dX3_opens_23
theorem n407_24 : Snd mt G 407 24 (oGoto 28) := w_goto (hm := mm407) dX3_opens_24 rfl
theorem n407_27 : Snd mt G 407 27 (oConst (.int 0) 28) := w_iconst (hm := mm407) dX3_opens_27 rfl
theorem n407_28 : Snd mt G 407 28 (oBin (fun x y => x ||| y) 29) := w_ior (hm := mm407) dX3_opens_28
theorem n407_29 : Snd mt G 407 29 (oIstore 1 30) := w_istore_n (hm := mm407) dX3_opens_29 (Nat.le_of_ble_eq_true rfl)
theorem n407_30 : Snd mt G 407 30 (oIinc 2 1 33) := w_iinc (hm := mm407) dX3_opens_30 rfl (Nat.le_of_ble_eq_true rfl)
theorem n407_33 : Snd mt G 407 33 (oGoto 4) := w_goto (hm := mm407) dX3_opens_33 rfl
theorem n407_36 : Snd mt G 407 36 (oIload 1 37) := w_iload_n (hm := mm407) dX3_opens_36
theorem n407_37 : Snd mt G 407 37 (oRetI .int) := w_iret (hm := mm407) dX3_opens_37 rfl
theorem sj407 : ∀ pc, Snd mt G 407 pc (j407 pc) := fun pc => (snd_br ((snd_br ((snd_br ((snd_br ((snd_br ((snd_lf n407_37)) ((snd_lf n407_36)))) ((snd_lf n407_33)))) ((snd_br ((snd_br ((snd_lf n407_30)) ((snd_lf n407_29)))) ((snd_lf n407_28)))))) ((snd_br ((snd_br ((snd_br ((snd_lf n407_27)) ((snd_lf n407_24)))) ((snd_lf n407_23)))) ((snd_br ((snd_br ((snd_lf n407_22)) ((snd_lf n407_21)))) ((snd_lf n407_18)))))))) ((snd_br ((snd_br ((snd_br ((snd_br ((snd_lf n407_15)) ((snd_lf n407_14)))) ((snd_lf n407_13)))) ((snd_br ((snd_br ((snd_lf n407_12)) ((snd_lf n407_9)))) ((snd_lf n407_6)))))) ((snd_br ((snd_br ((snd_br ((snd_lf n407_5)) ((snd_lf n407_4)))) ((snd_lf n407_3)))) ((snd_br ((snd_br ((snd_lf n407_2)) ((snd_lf n407_1)))) ((snd_lf n407_0)))))))))
end
section
variable {G : AG}
theorem n408_0 : Snd mt G 408 0 (oAload 0 1) := w_aload_n (hm := mm408) dX3_isOpen_0
theorem n408_1 : Snd mt G 408 1 (oGetf [4] 33 4) := w_getf (hm := mm408) dX3_isOpen_1 (fok1 (k := 33) (T := TX3) 3 (Nat.le_of_ble_eq_true rfl) vc_3 (Nat.le_of_ble_eq_true rfl) q2438)
theorem n408_4 : Snd mt G 408 4 (oAload 0 5) := w_aload_n (hm := mm408) dX3_isOpen_4
theorem n408_5 : Snd mt G 408 5 (oGetf [4] 57 8) := w_getf (hm := mm408) dX3_isOpen_5 (fok1 (k := 57) (T := TX3) 3 (Nat.le_of_ble_eq_true rfl) vc_3 (Nat.le_of_ble_eq_true rfl) q2462)
theorem n408_8 : Snd mt G 408 8 (oIload 1 9) := w_iload_n (hm := mm408) dX3_isOpen_8
theorem n408_9 : Snd mt G 408 9 (oAld [106] 10) := w_aaload (hm := mm408) (kt := 6) dX3_isOpen_9 rfl at_6 (Nat.le_of_ble_eq_true rfl) (List.forall_mem_cons.mpr ⟨Or.inl rfl, (fun t ht => nomatch ht)⟩)
theorem n408_10 : Snd mt G 408 10 (oConst (.int 0) 11) := w_iconst (hm := mm408) dX3_isOpen_10 rfl
theorem n408_11 : Snd mt G 408 11 (oAld [100] 12) := w_iaload (hm := mm408) (kt := 0) dX3_isOpen_11 at_0 (Nat.le_of_ble_eq_true rfl) (List.forall_mem_cons.mpr ⟨Or.inl rfl, (fun t ht => nomatch ht)⟩)
theorem n408_12 : Snd mt G 408 12 (oAload 0 13) := w_aload_n (hm := mm408) dX3_isOpen_12
theorem n408_13 : Snd mt G 408 13 (oGetf [4] 57 16) := w_getf (hm := mm408) dX3_isOpen_13 (fok1 (k := 57) (T := TX3) 3 (Nat.le_of_ble_eq_true rfl) vc_3 (Nat.le_of_ble_eq_true rfl) q2462)
theorem n408_16 : Snd mt G 408 16 (oIload 1 17) := w_iload_n (hm := mm408) dX3_isOpen_16
theorem n408_17 : Snd mt G 408 17 (oAld [106] 18) := w_aaload (hm := mm408) (kt := 6) dX3_isOpen_17 rfl at_6 (Nat.le_of_ble_eq_true rfl) (List.forall_mem_cons.mpr ⟨Or.inl rfl, (fun t ht => nomatch ht)⟩)
theorem n408_18 : Snd mt G 408 18 (oConst (.int 1) 19) := w_iconst (hm := mm408) dX3_isOpen_18 rfl
theorem n408_19 : Snd mt G 408 19 (oAld [100] 20) := w_iaload (hm := mm408) (kt := 0) dX3_isOpen_19 at_0 (Nat.le_of_ble_eq_true rfl) (List.forall_mem_cons.mpr ⟨Or.inl rfl, (fun t ht => nomatch ht)⟩)
theorem n408_20 : Snd mt G 408 20 (oBin (fun x y => x ||| y) 21) := w_ior (hm := mm408) dX3_isOpen_20
theorem n408_21 : Snd mt G 408 21 (oConst (.int (-1)) 22) := w_iconst (hm := mm408) dX3_isOpen_21 rfl
theorem n408_22 : Snd mt G 408 22 (oBin (fun x y => x ^^^ y) 23) := w_ixor (hm := mm408) dX3_isOpen_22
theorem n408_23 : Snd mt G 408 23 (oBin (fun x y => x &&& y) 24) := w_iand (hm := mm408) dX3_isOpen_23
theorem n408_24 : Snd mt G 408 24 (oIfEq 27 47) := w_if_ne (hm := mm408) dX3_isOpen_24 rfl
theorem n408_27 : Snd mt G 408 27 (oAload 0 28) := w_aload_n (hm := mm408) dX3_isOpen_27
theorem n408_28 : Snd mt G 408 28 (oGetf [4] 57 31) := w_getf (hm := mm408) dX3_isOpen_28 (fok1 (k := 57) (T := TX3) 3 (Nat.le_of_ble_eq_true rfl) vc_3 (Nat.le_of_ble_eq_true rfl) q2462)
theorem n408_31 : Snd mt G 408 31 (oIload 1 32) := w_iload_n (hm := mm408) dX3_isOpen_31
theorem n408_32 : Snd mt G 408 32 (oAld [106] 33) := w_aaload (hm := mm408) (kt := 6) dX3_isOpen_32 rfl at_6 (Nat.le_of_ble_eq_true rfl) (List.forall_mem_cons.mpr ⟨Or.inl rfl, (fun t ht => nomatch ht)⟩)
theorem n408_33 : Snd mt G 408 33 (oConst (.int 0) 34) := w_iconst (hm := mm408) dX3_isOpen_33 rfl
theorem n408_34 : Snd mt G 408 34 (oAld [100] 35) := w_iaload (hm := mm408) (kt := 0) dX3_isOpen_34 at_0 (Nat.le_of_ble_eq_true rfl) (List.forall_mem_cons.mpr ⟨Or.inl rfl, (fun t ht => nomatch ht)⟩)
theorem n408_35 : Snd mt G 408 35 (oAload 0 36) := w_aload_n (hm := mm408) dX3_isOpen_35
theorem n408_36 : Snd mt G 408 36 (oGetf [4] 34 39) := w_getf (hm := mm408) dX3_isOpen_36 (fok1 (k := 34) (T := TX3) 3 (Nat.le_of_ble_eq_true rfl) vc_3 (Nat.le_of_ble_eq_true rfl) q2439)
theorem n408_39 : Snd mt G 408 39 (oBin (fun x y => x &&& y) 40) := w_iand (hm := mm408) dX3_isOpen_39
theorem n408_40 : Snd mt G 408 40 (oIfEq 43 47) := w_if_ne (hm := mm408) dX3_isOpen_40 rfl
theorem n408_43 : Snd mt G 408 43 (oConst (.int 1) 44) := w_iconst (hm := mm408) dX3_isOpen_43 rfl
theorem n408_44 : Snd mt G 408 44 (oGoto 48) := w_goto (hm := mm408) dX3_isOpen_44 rfl
theorem n408_47 : Snd mt G 408 47 (oConst (.int 0) 48) := w_iconst (hm := mm408) dX3_isOpen_47 rfl
theorem n408_48 : Snd mt G 408 48 (oRetI .boolean) := w_zret (hm := mm408) dX3_isOpen_48 rfl
theorem sj408 : ∀ pc, Snd mt G 408 pc (j408 pc) := fun pc => (snd_br ((snd_br ((snd_br ((snd_br ((snd_br ((snd_br ((snd_lf n408_48)) ((snd_lf n408_47)))) ((snd_lf n408_44)))) ((snd_br ((snd_lf n408_43)) ((snd_lf n408_40)))))) ((snd_br ((snd_br ((snd_lf n408_39)) ((snd_lf n408_36)))) ((snd_br ((snd_lf n408_35)) ((snd_lf n408_34)))))))) ((snd_br ((snd_br ((snd_br ((snd_lf n408_33)) ((snd_lf n408_32)))) ((snd_br ((snd_lf n408_31)) ((snd_lf n408_28)))))) ((snd_br ((snd_br ((snd_lf n408_27)) ((snd_lf n408_24)))) ((snd_br ((snd_lf n408_23)) ((snd_lf n408_22)))))))))) ((snd_br ((snd_br ((snd_br ((snd_br ((snd_lf n408_21)) ((snd_lf n408_20)))) ((snd_br ((snd_lf n408_19)) ((snd_lf n408_18)))))) ((snd_br ((snd_br ((snd_lf n408_17)) ((snd_lf n408_16)))) ((snd_br ((snd_lf n408_13)) ((snd_lf n408_12)))))))) ((snd_br ((snd_br ((snd_br ((snd_lf n408_11)) ((snd_lf n408_10)))) ((snd_br ((snd_lf n408_9)) ((snd_lf n408_8)))))) ((snd_br ((snd_br ((snd_lf n408_5)) ((snd_lf n408_4)))) ((snd_br ((snd_lf n408_1)) ((snd_lf n408_0)))))))))))
end
section
variable {G : AG}
theorem n409_0 : Snd mt G 409 0 (oAload 0 1) := w_aload_n (hm := mm409) dX3_sure_0
theorem n409_1 : Snd mt G 409 1 (oConst (.int 0) 2) := w_iconst (hm := mm409) dX3_sure_1 rfl
theorem n409_2 : Snd mt G 409 2 (oPutf [4] 0 .int 5) := w_putf (hm := mm409) dX3_sure_2 (pok1 (k := 0) (T := TX3) 3 (Nat.le_of_ble_eq_true rfl) vc_3 (Nat.le_of_ble_eq_true rfl) rfl pd_X3_0 q2405)
theorem n409_5 : Snd mt G 409 5 (oAload 0 6) := w_aload_n (hm := mm409) dX3_sure_5
theorem n409_6 : Snd mt G 409 6 (oCall 1 (fV [4] 407 3) 0 9 xOut) := s_callV (m' := 407) (n := 0) xsh_out (w_xok0 mm409) (w_cal mm409 mm407 pn_X3 (Nat.le_of_ble_eq_true rfl) (Nat.le_of_ble_eq_true rfl)) (fun h b as hc hn => w_run_V (ci := 3) mm409 mm407 dX3_sure_6 (Or.inl (List.mem_singleton.mp hc)) (Nat.le_of_ble_eq_true rfl) vc_3 rfl q3120 q3122 qs122 q150 q3123 pa407 hn)
theorem n409_9 : Snd mt G 409 9 (oIstore 1 10) := w_istore_n (hm := mm409) dX3_sure_9 (Nat.le_of_ble_eq_true rfl)
theorem n409_10 : Snd mt G 409 10 (oIload 1 11) := w_iload_n (hm := mm409) dX3_sure_10
theorem n409_11 : Snd mt G 409 11 (oIfEq 14 17) := w_if_ne (hm := mm409) dX3_sure_11 rfl
theorem n409_14 : Snd mt G 409 14 (oConst (.int (-2)) 16) := w_bipush (hm := mm409) dX3_sure_14 (by decide)
theorem n409_16 : Snd mt G 409 16 (oRetI .int) := w_iret (hm := mm409) dX3_sure_16 rfl
theorem n409_17 : Snd mt G 409 17 (oConst (.int 0) 18) := w_iconst (hm := mm409) dX3_sure_17 rfl
theorem n409_18 : Snd mt G 409 18 (oIstore 2 19) := w_istore_n (hm := mm409) dX3_sure_18 (Nat.le_of_ble_eq_true rfl)
theorem n409_19 : Snd mt G 409 19 (oIload 2 20) := w_iload_n (hm := mm409) dX3_sure_19
theorem n409_20 : Snd mt G 409 20 (oAload 0 21) := w_aload_n (hm := mm409) dX3_sure_20
theorem n409_21 : Snd mt G 409 21 (oGetf [4] 32 24) := w_getf (hm := mm409) dX3_sure_21 (fok1 (k := 32) (T := TX3) 3 (Nat.le_of_ble_eq_true rfl) vc_3 (Nat.le_of_ble_eq_true rfl) q2437)
theorem n409_24 : Snd mt G 409 24 (oCmpGe 42 27) := w_icmp_ge (hm := mm409) dX3_sure_24 rfl
theorem n409_27 : Snd mt G 409 27 (oIload 1 28) := w_iload_n (hm := mm409) dX3_sure_27
theorem n409_28 : Snd mt G 409 28 (oConst (.int 1) 29) := w_iconst (hm := mm409) dX3_sure_28 rfl
theorem n409_29 : Snd mt G 409 29 (oIload 2 30) := w_iload_n (hm := mm409) dX3_sure_29
theorem n409_30 : Snd mt G 409 30 (oBin (fun x y => x <<< (y &&& 31)) 31) := w_ishl (hm := mm409) dX3_sure_30
theorem n409_31 : Snd mt G 409 31 (oCmpEq 34 36) := w_icmp_ne (hm := mm409) dX3_sure_31 rfl
theorem n409_34 : Snd mt G 409 34 (oIload 2 35) := w_iload_n (hm := mm409) dX3_sure_34
theorem n409_35 : Snd mt G 409 35 (oRetI .int) := w_iret (hm := mm409) dX3_sure_35 rfl
theorem n409_36 : Snd mt G 409 36 (oIinc 2 1 39) := w_iinc (hm := mm409) dX3_sure_36 rfl (Nat.le_of_ble_eq_true rfl)
theorem n409_39 : Snd mt G 409 39 (oGoto 19) := w_goto (hm := mm409) dX3_sure_39 rfl
theorem n409_42 : Snd mt G 409 42 (oConst (.int (-1)) 43) := w_iconst (hm := mm409) dX3_sure_42 rfl
theorem n409_43 : Snd mt G 409 43 (oRetI .int) := w_iret (hm := mm409) dX3_sure_43 rfl
theorem sj409 : ∀ pc, Snd mt G 409 pc (j409 pc) := fun pc => (snd_br ((snd_br ((snd_br ((snd_br ((snd_br ((snd_lf n409_43)) ((snd_lf n409_42)))) ((snd_br ((snd_lf n409_39)) ((snd_lf n409_36)))))) ((snd_br ((snd_br ((snd_lf n409_35)) ((snd_lf n409_34)))) ((snd_lf n409_31)))))) ((snd_br ((snd_br ((snd_br ((snd_lf n409_30)) ((snd_lf n409_29)))) ((snd_br ((snd_lf n409_28)) ((snd_lf n409_27)))))) ((snd_br ((snd_br ((snd_lf n409_24)) ((snd_lf n409_21)))) ((snd_lf n409_20)))))))) ((snd_br ((snd_br ((snd_br ((snd_br ((snd_lf n409_19)) ((snd_lf n409_18)))) ((snd_br ((snd_lf n409_17)) ((snd_lf n409_16)))))) ((snd_br ((snd_br ((snd_lf n409_14)) ((snd_lf n409_11)))) ((snd_lf n409_10)))))) ((snd_br ((snd_br ((snd_br ((snd_lf n409_9)) ((snd_lf n409_6)))) ((snd_lf n409_5)))) ((snd_br ((snd_br ((snd_lf n409_2)) ((snd_lf n409_1)))) ((snd_lf n409_0)))))))))
end
section
variable {G : AG}
theorem n410_0 : Snd mt G 410 0 (oAload 0 1) := w_aload_n (hm := mm410) dX3_look_0
theorem n410_1 : Snd mt G 410 1 (oConst (.int 0) 2) := w_iconst (hm := mm410) dX3_look_1 rfl
theorem n410_2 : Snd mt G 410 2 (oPutf [4] 0 .int 5) := w_putf (hm := mm410) dX3_look_2 (pok1 (k := 0) (T := TX3) 3 (Nat.le_of_ble_eq_true rfl) vc_3 (Nat.le_of_ble_eq_true rfl) rfl pd_X3_0 q2405)
theorem n410_5 : Snd mt G 410 5 (oConst (.int (-1)) 6) := w_iconst (hm := mm410) dX3_look_5 rfl
theorem n410_6 : Snd mt G 410 6 (oIstore 1 7) := w_istore_n (hm := mm410) dX3_look_6 (Nat.le_of_ble_eq_true rfl)
theorem n410_7 : Snd mt G 410 7 (oConst (.int 0) 8) := w_iconst (hm := mm410) dX3_look_7 rfl
theorem n410_8 : Snd mt G 410 8 (oIstore 2 9) := w_istore_n (hm := mm410) dX3_look_8 (Nat.le_of_ble_eq_true rfl)
theorem n410_9 : Snd mt G 410 9 (oConst (.int 0) 10) := w_iconst (hm := mm410) dX3_look_9 rfl
theorem n410_10 : Snd mt G 410 10 (oIstore 3 11) := w_istore_n (hm := mm410) dX3_look_10 (Nat.le_of_ble_eq_true rfl)
theorem n410_11 : Snd mt G 410 11 (oIload 3 12) := w_iload_n (hm := mm410) dX3_look_11
theorem n410_12 : Snd mt G 410 12 (oConst (.int 8) 14) := w_bipush (hm := mm410) dX3_look_12 (by decide)
theorem n410_14 : Snd mt G 410 14 (oCmpGe 155 17) := w_icmp_ge (hm := mm410) dX3_look_14 rfl
theorem n410_17 : Snd mt G 410 17 (oAload 0 18) := w_aload_n (hm := mm410) dX3_look_17
theorem n410_18 : Snd mt G 410 18 (oGetf [4] 33 21) := w_getf (hm := mm410) dX3_look_18 (fok1 (k := 33) (T := TX3) 3 (Nat.le_of_ble_eq_true rfl) vc_3 (Nat.le_of_ble_eq_true rfl) q2438)
theorem n410_21 : Snd mt G 410 21 (oAload 0 22) := w_aload_n (hm := mm410) dX3_look_21
theorem n410_22 : Snd mt G 410 22 (oGetf [4] 34 25) := w_getf (hm := mm410) dX3_look_22 (fok1 (k := 34) (T := TX3) 3 (Nat.le_of_ble_eq_true rfl) vc_3 (Nat.le_of_ble_eq_true rfl) q2439)
theorem n410_25 : Snd mt G 410 25 (oBin (fun x y => x ||| y) 26) := w_ior (hm := mm410) dX3_look_25
theorem n410_26 : Snd mt G 410 26 (oIload 3 27) := w_iload_n (hm := mm410) dX3_look_26
theorem n410_27 : Snd mt G 410 27 (oBin (fun x y => x >>> (y &&& 31)) 28) := w_ishr (hm := mm410) dX3_look_27
theorem n410_28 : Snd mt G 410 28 (oConst (.int 1) 29) := w_iconst (hm := mm410) dX3_look_28 rfl
theorem n410_29 : Snd mt G 410 29 (oBin (fun x y => x &&& y) 30) := w_iand (hm := mm410) dX3_look_29
theorem n410_30 : Snd mt G 410 30 (oConst (.int 1) 31) := w_iconst (hm := mm410) dX3_look_30 rfl
theorem n410_31 : Snd mt G 410 31 (oCmpEq 34 37) := w_icmp_ne (hm := mm410) dX3_look_31 rfl
theorem n410_34 : Snd mt G 410 34 (oGoto 149) := w_goto (hm := mm410) dX3_look_34 rfl
theorem n410_37 : Snd mt G 410 37 (oConst (.int 0) 38) := w_iconst (hm := mm410) dX3_look_37 rfl
theorem n410_38 : Snd mt G 410 38 (oIstore 4 40) := w_istore (hm := mm410) dX3_look_38 (Nat.le_of_ble_eq_true rfl)
theorem n410_40 : Snd mt G 410 40 (oConst (.int 0) 41) := w_iconst (hm := mm410) dX3_look_40 rfl
theorem n410_41 : Snd mt G 410 41 (oIstore 5 43) := w_istore (hm := mm410) dX3_look_41 (Nat.le_of_ble_eq_true rfl)
theorem n410_43 : Snd mt G 410 43 (oConst (.int 0) 44) := w_iconst (hm := mm410) dX3_look_43 rfl
theorem n410_44 : Snd mt G 410 44 (oIstore 6 46) := w_istore (hm := mm410) dX3_look_44 (Nat.le_of_ble_eq_true rfl)
theorem n410_46 : Snd mt G 410 46 (oIload 6 48) := w_iload (hm := mm410) dX3_look_46
theorem n410_48 : Snd mt G 410 48 (oAload 0 49) := w_aload_n (hm := mm410) dX3_look_48
theorem n410_49 : Snd mt G 410 49 (oGetf [4] 32 52) := w_getf (hm := mm410) dX3_look_49 (fok1 (k := 32) (T := TX3) 3 (Nat.le_of_ble_eq_true rfl) vc_3 (Nat.le_of_ble_eq_true rfl) q2437)
theorem n410_52 : Snd mt G 410 52 (oCmpGe 121 55) := w_icmp_ge (hm := mm410) dX3_look_52 rfl
theorem n410_55 : Snd mt G 410 55 (oAload 0 56) := w_aload_n (hm := mm410) dX3_look_55
theorem n410_56 : Snd mt G 410 56 (oIload 6 58) := w_iload (hm := mm410) dX3_look_56
theorem n410_58 : Snd mt G 410 58 (oCall 2 (fV [4] 408 2) 0 61 xOut) := s_callV (m' := 408) (n := 1) xsh_out (w_xok0 mm410) (w_cal mm410 mm408 pn_X3 (Nat.le_of_ble_eq_true rfl) (Nat.le_of_ble_eq_true rfl)) (fun h b as hc hn => w_run_V (ci := 3) mm410 mm408 dX3_look_58 (Or.inl (List.mem_singleton.mp hc)) (Nat.le_of_ble_eq_true rfl) vc_3 rfl q3124 q3126 qs123 q150 q3127 pa408 hn)
theorem n410_61 : Snd mt G 410 61 (oIfEq 64 67) := w_if_ne (hm := mm410) dX3_look_61 rfl
theorem n410_64 : Snd mt G 410 64 (oGoto 115) := w_goto (hm := mm410) dX3_look_64 rfl
theorem n410_67 : Snd mt G 410 67 (oIload 4 69) := w_iload (hm := mm410) dX3_look_67
theorem n410_69 : Snd mt G 410 69 (oAload 0 70) := w_aload_n (hm := mm410) dX3_look_69
theorem n410_70 : Snd mt G 410 70 (oGetf [4] 57 73) := w_getf (hm := mm410) dX3_look_70 (fok1 (k := 57) (T := TX3) 3 (Nat.le_of_ble_eq_true rfl) vc_3 (Nat.le_of_ble_eq_true rfl) q2462)
theorem n410_73 : Snd mt G 410 73 (oIload 6 75) := w_iload (hm := mm410) dX3_look_73
theorem n410_75 : Snd mt G 410 75 (oAld [106] 76) := w_aaload (hm := mm410) (kt := 6) dX3_look_75 rfl at_6 (Nat.le_of_ble_eq_true rfl) (List.forall_mem_cons.mpr ⟨Or.inl rfl, (fun t ht => nomatch ht)⟩)
theorem n410_76 : Snd mt G 410 76 (oConst (.int 0) 77) := w_iconst (hm := mm410) dX3_look_76 rfl
theorem n410_77 : Snd mt G 410 77 (oAld [100] 78) := w_iaload (hm := mm410) (kt := 0) dX3_look_77 at_0 (Nat.le_of_ble_eq_true rfl) (List.forall_mem_cons.mpr ⟨Or.inl rfl, (fun t ht => nomatch ht)⟩)
theorem n410_78 : Snd mt G 410 78 (oAload 0 79) := w_aload_n (hm := mm410) dX3_look_78
theorem n410_79 : Snd mt G 410 79 (oGetf [4] 57 82) := w_getf (hm := mm410) dX3_look_79 (fok1 (k := 57) (T := TX3) 3 (Nat.le_of_ble_eq_true rfl) vc_3 (Nat.le_of_ble_eq_true rfl) q2462)
theorem n410_82 : Snd mt G 410 82 (oIload 6 84) := w_iload (hm := mm410) dX3_look_82
theorem n410_84 : Snd mt G 410 84 (oAld [106] 85) := w_aaload (hm := mm410) (kt := 6) dX3_look_84 rfl at_6 (Nat.le_of_ble_eq_true rfl) (List.forall_mem_cons.mpr ⟨Or.inl rfl, (fun t ht => nomatch ht)⟩)
theorem n410_85 : Snd mt G 410 85 (oConst (.int 1) 86) := w_iconst (hm := mm410) dX3_look_85 rfl
theorem n410_86 : Snd mt G 410 86 (oAld [100] 87) := w_iaload (hm := mm410) (kt := 0) dX3_look_86 at_0 (Nat.le_of_ble_eq_true rfl) (List.forall_mem_cons.mpr ⟨Or.inl rfl, (fun t ht => nomatch ht)⟩)
theorem n410_87 : Snd mt G 410 87 (oBin (fun x y => x ||| y) 88) := w_ior (hm := mm410) dX3_look_87
theorem n410_88 : Snd mt G 410 88 (oIload 3 89) := w_iload_n (hm := mm410) dX3_look_88
theorem n410_89 : Snd mt G 410 89 (oBin (fun x y => x >>> (y &&& 31)) 90) := w_ishr (hm := mm410) dX3_look_89
theorem n410_90 : Snd mt G 410 90 (oConst (.int 1) 91) := w_iconst (hm := mm410) dX3_look_90 rfl
theorem n410_91 : Snd mt G 410 91 (oBin (fun x y => x &&& y) 92) := w_iand (hm := mm410) dX3_look_91
theorem n410_92 : Snd mt G 410 92 (oBin (fun x y => x + y) 93) := w_iadd (hm := mm410) dX3_look_92
theorem n410_93 : Snd mt G 410 93 (oIstore 4 95) := w_istore (hm := mm410) dX3_look_93 (Nat.le_of_ble_eq_true rfl)
theorem n410_95 : Snd mt G 410 95 (oIload 5 97) := w_iload (hm := mm410) dX3_look_95
theorem n410_97 : Snd mt G 410 97 (oConst (.int 1) 98) := w_iconst (hm := mm410) dX3_look_97 rfl
theorem n410_98 : Snd mt G 410 98 (oAload 0 99) := w_aload_n (hm := mm410) dX3_look_98
theorem n410_99 : Snd mt G 410 99 (oGetf [4] 57 102) := w_getf (hm := mm410) dX3_look_99 (fok1 (k := 57) (T := TX3) 3 (Nat.le_of_ble_eq_true rfl) vc_3 (Nat.le_of_ble_eq_true rfl) q2462)
theorem n410_102 : Snd mt G 410 102 (oIload 6 104) := w_iload (hm := mm410) dX3_look_102
theorem n410_104 : Snd mt G 410 104 (oAld [106] 105) := w_aaload (hm := mm410) (kt := 6) dX3_look_104 rfl at_6 (Nat.le_of_ble_eq_true rfl) (List.forall_mem_cons.mpr ⟨Or.inl rfl, (fun t ht => nomatch ht)⟩)
theorem n410_105 : Snd mt G 410 105 (oConst (.int 0) 106) := w_iconst (hm := mm410) dX3_look_105 rfl
theorem n410_106 : Snd mt G 410 106 (oAld [100] 107) := w_iaload (hm := mm410) (kt := 0) dX3_look_106 at_0 (Nat.le_of_ble_eq_true rfl) (List.forall_mem_cons.mpr ⟨Or.inl rfl, (fun t ht => nomatch ht)⟩)
theorem n410_107 : Snd mt G 410 107 (oIload 3 108) := w_iload_n (hm := mm410) dX3_look_107
theorem n410_108 : Snd mt G 410 108 (oBin (fun x y => x >>> (y &&& 31)) 109) := w_ishr (hm := mm410) dX3_look_108
theorem n410_109 : Snd mt G 410 109 (oConst (.int 1) 110) := w_iconst (hm := mm410) dX3_look_109 rfl
theorem n410_110 : Snd mt G 410 110 (oBin (fun x y => x &&& y) 111) := w_iand (hm := mm410) dX3_look_110
theorem n410_111 : Snd mt G 410 111 (oBin (fun x y => x - y) 112) := w_isub (hm := mm410) dX3_look_111
theorem n410_112 : Snd mt G 410 112 (oBin (fun x y => x + y) 113) := w_iadd (hm := mm410) dX3_look_112
theorem n410_113 : Snd mt G 410 113 (oIstore 5 115) := w_istore (hm := mm410) dX3_look_113 (Nat.le_of_ble_eq_true rfl)
theorem n410_115 : Snd mt G 410 115 (oIinc 6 1 118) := w_iinc (hm := mm410) dX3_look_115 rfl (Nat.le_of_ble_eq_true rfl)
theorem n410_118 : Snd mt G 410 118 (oGoto 46) := w_goto (hm := mm410) dX3_look_118 rfl
theorem n410_121 : Snd mt G 410 121 (oIload 4 123) := w_iload (hm := mm410) dX3_look_121
theorem n410_123 : Snd mt G 410 123 (oIload 5 125) := w_iload (hm := mm410) dX3_look_123
theorem n410_125 : Snd mt G 410 125 (oCall 2 (fS 347 2) 0 128 xOut) := s_callS (m' := 347) (n := 2) xsh_out (w_xok0 mm410) (w_cal mm410 mm347 pn_X3 (Nat.le_of_ble_eq_true rfl) (Nat.le_of_ble_eq_true rfl)) (fun h as hn => w_run_S mm410 mm347 dX3_look_125 q2881 q2882 q150 q2883 pa347 hn)
theorem n410_128 : Snd mt G 410 128 (oIstore 6 130) := w_istore (hm := mm410) dX3_look_128 (Nat.le_of_ble_eq_true rfl)
theorem n410_130 : Snd mt G 410 130 (oIload 1 131) := w_iload_n (hm := mm410) dX3_look_130
theorem n410_131 : Snd mt G 410 131 (oConst (.int (-1)) 132) := w_iconst (hm := mm410) dX3_look_131 rfl
theorem n410_132 : Snd mt G 410 132 (oCmpEq 144 135) := w_icmp_eq (hm := mm410) dX3_look_132 rfl
theorem n410_135 : Snd mt G 410 135 (oIload 6 137) := w_iload (hm := mm410) dX3_look_135
theorem n410_137 : Snd mt G 410 137 (oIload 2 138) := w_iload_n (hm := mm410) dX3_look_137
theorem n410_138 : Snd mt G 410 138 (oCmpLt 144 141) := w_icmp_lt (hm := mm410) dX3_look_138 rfl
theorem n410_141 : Snd mt G 410 141 (oGoto 149) := w_goto (hm := mm410) dX3_look_141 rfl
theorem n410_144 : Snd mt G 410 144 (oIload 3 145) := w_iload_n (hm := mm410) dX3_look_144
theorem n410_145 : Snd mt G 410 145 (oIstore 1 146) := w_istore_n (hm := mm410) dX3_look_145 (Nat.le_of_ble_eq_true rfl)
theorem n410_146 : Snd mt G 410 146 (oIload 6 148) := w_iload (hm := mm410) dX3_look_146
theorem n410_148 : Snd mt G 410 148 (oIstore 2 149) := w_istore_n (hm := mm410) dX3_look_148 (Nat.le_of_ble_eq_true rfl)
theorem n410_149 : Snd mt G 410 149 (oIinc 3 1 152) := w_iinc (hm := mm410) dX3_look_149 rfl (Nat.le_of_ble_eq_true rfl)
theorem n410_152 : Snd mt G 410 152 (oGoto 11) := w_goto (hm := mm410) dX3_look_152 rfl
theorem n410_155 : Snd mt G 410 155 (oIload 1 156) := w_iload_n (hm := mm410) dX3_look_155
theorem n410_156 : Snd mt G 410 156 (oRetI .int) := w_iret (hm := mm410) dX3_look_156 rfl
theorem sj410 : ∀ pc, Snd mt G 410 pc (j410 pc) := fun pc => (snd_br ((snd_br ((snd_br ((snd_br ((snd_br ((snd_br ((snd_br ((snd_lf n410_156)) ((snd_lf n410_155)))) ((snd_lf n410_152)))) ((snd_br ((snd_br ((snd_lf n410_149)) ((snd_lf n410_148)))) ((snd_lf n410_146)))))) ((snd_br ((snd_br ((snd_br ((snd_lf n410_145)) ((snd_lf n410_144)))) ((snd_lf n410_141)))) ((snd_br ((snd_br ((snd_lf n410_138)) ((snd_lf n410_137)))) ((snd_lf n410_135)))))))) ((snd_br ((snd_br ((snd_br ((snd_br ((snd_lf n410_132)) ((snd_lf n410_131)))) ((snd_lf n410_130)))) ((snd_br ((snd_br ((snd_lf n410_128)) ((snd_lf n410_125)))) ((snd_lf n410_123)))))) ((snd_br ((snd_br ((snd_br ((snd_lf n410_121)) ((snd_lf n410_118)))) ((snd_lf n410_115)))) ((snd_br ((snd_br ((snd_lf n410_113)) ((snd_lf n410_112)))) ((snd_lf n410_111)))))))))) ((snd_br ((snd_br ((snd_br ((snd_br ((snd_br ((snd_lf n410_110)) ((snd_lf n410_109)))) ((snd_lf n410_108)))) ((snd_br ((snd_br ((snd_lf n410_107)) ((snd_lf n410_106)))) ((snd_lf n410_105)))))) ((snd_br ((snd_br ((snd_br ((snd_lf n410_104)) ((snd_lf n410_102)))) ((snd_lf n410_99)))) ((snd_br ((snd_br ((snd_lf n410_98)) ((snd_lf n410_97)))) ((snd_lf n410_95)))))))) ((snd_br ((snd_br ((snd_br ((snd_br ((snd_lf n410_93)) ((snd_lf n410_92)))) ((snd_lf n410_91)))) ((snd_br ((snd_br ((snd_lf n410_90)) ((snd_lf n410_89)))) ((snd_lf n410_88)))))) ((snd_br ((snd_br ((snd_br ((snd_lf n410_87)) ((snd_lf n410_86)))) ((snd_lf n410_85)))) ((snd_br ((snd_br ((snd_lf n410_84)) ((snd_lf n410_82)))) ((snd_lf n410_79)))))))))))) ((snd_br ((snd_br ((snd_br ((snd_br ((snd_br ((snd_br ((snd_lf n410_78)) ((snd_lf n410_77)))) ((snd_lf n410_76)))) ((snd_br ((snd_br ((snd_lf n410_75)) ((snd_lf n410_73)))) ((snd_lf n410_70)))))) ((snd_br ((snd_br ((snd_br ((snd_lf n410_69)) ((snd_lf n410_67)))) ((snd_lf n410_64)))) ((snd_br ((snd_br ((snd_lf n410_61)) ((snd_lf n410_58)))) ((snd_lf n410_56)))))))) ((snd_br ((snd_br ((snd_br ((snd_br ((snd_lf n410_55)) ((snd_lf n410_52)))) ((snd_lf n410_49)))) ((snd_br ((snd_br ((snd_lf n410_48)) ((snd_lf n410_46)))) ((snd_lf n410_44)))))) ((snd_br ((snd_br ((snd_br ((snd_lf n410_43)) ((snd_lf n410_41)))) ((snd_lf n410_40)))) ((snd_br ((snd_br ((snd_lf n410_38)) ((snd_lf n410_37)))) ((snd_lf n410_34)))))))))) ((snd_br ((snd_br ((snd_br ((snd_br ((snd_br ((snd_lf n410_31)) ((snd_lf n410_30)))) ((snd_lf n410_29)))) ((snd_br ((snd_br ((snd_lf n410_28)) ((snd_lf n410_27)))) ((snd_lf n410_26)))))) ((snd_br ((snd_br ((snd_br ((snd_lf n410_25)) ((snd_lf n410_22)))) ((snd_lf n410_21)))) ((snd_br ((snd_br ((snd_lf n410_18)) ((snd_lf n410_17)))) ((snd_lf n410_14)))))))) ((snd_br ((snd_br ((snd_br ((snd_br ((snd_lf n410_12)) ((snd_lf n410_11)))) ((snd_lf n410_10)))) ((snd_br ((snd_br ((snd_lf n410_9)) ((snd_lf n410_8)))) ((snd_lf n410_7)))))) ((snd_br ((snd_br ((snd_br ((snd_lf n410_6)) ((snd_lf n410_5)))) ((snd_lf n410_2)))) ((snd_br ((snd_lf n410_1)) ((snd_lf n410_0)))))))))))))
end
section
variable {G : AG}
theorem n411_0 : Snd mt G 411 0 (oAload 0 1) := w_aload_n (hm := mm411) dX3_walk_0
theorem n411_1 : Snd mt G 411 1 (oConst (.int 0) 2) := w_iconst (hm := mm411) dX3_walk_1 rfl
theorem n411_2 : Snd mt G 411 2 (oPutf [4] 0 .int 5) := w_putf (hm := mm411) dX3_walk_2 (pok1 (k := 0) (T := TX3) 3 (Nat.le_of_ble_eq_true rfl) vc_3 (Nat.le_of_ble_eq_true rfl) rfl pd_X3_0 q2405)
theorem n411_5 : Snd mt G 411 5 (oAload 0 6) := w_aload_n (hm := mm411) dX3_walk_5
theorem n411_6 : Snd mt G 411 6 (oAload 0 7) := w_aload_n (hm := mm411) dX3_walk_6
theorem n411_7 : Snd mt G 411 7 (oIload 1 8) := w_iload_n (hm := mm411) dX3_walk_7
theorem n411_8 : Snd mt G 411 8 (oCall 2 (fV [4] 316 2) 0 11 xOut) := s_callV (m' := 316) (n := 1) xsh_out (w_xok0 mm411) (w_cal mm411 mm316 pn_X3 (Nat.le_of_ble_eq_true rfl) (Nat.le_of_ble_eq_true rfl)) (fun h b as hc hn => w_run_V (ci := 3) mm411 mm316 dX3_walk_8 (Or.inl (List.mem_singleton.mp hc)) (Nat.le_of_ble_eq_true rfl) vc_3 rfl q2758 q2760 qs84 q150 q2761 pa316 hn)
theorem n411_11 : Snd mt G 411 11 (oIfEq 14 18) := w_if_ne (hm := mm411) dX3_walk_11 rfl
theorem n411_14 : Snd mt G 411 14 (oConst (.int 1) 15) := w_iconst (hm := mm411) dX3_walk_14 rfl
theorem n411_15 : Snd mt G 411 15 (oGoto 19) := w_goto (hm := mm411) dX3_walk_15 rfl
theorem n411_18 : Snd mt G 411 18 (oConst (.int 0) 19) := w_iconst (hm := mm411) dX3_walk_18 rfl
theorem n411_19 : Snd mt G 411 19 (oConst (.int 1) 20) := w_iconst (hm := mm411) dX3_walk_19 rfl
theorem n411_20 : Snd mt G 411 20 (oCall 3 (fV [4] 285 3) 0 23 xOut) := s_callV (m' := 285) (n := 2) xsh_out (w_xok0 mm411) (w_cal mm411 mm285 pn_X3 (Nat.le_of_ble_eq_true rfl) (Nat.le_of_ble_eq_true rfl)) (fun h b as hc hn => w_run_V (ci := 3) mm411 mm285 dX3_walk_20 (Or.inl (List.mem_singleton.mp hc)) (Nat.le_of_ble_eq_true rfl) vc_3 rfl q2634 q2636 qs62 q150 q2637 pa285 hn)
theorem n411_23 : Snd mt G 411 23 (oIfEq 26 62) := w_if_ne (hm := mm411) dX3_walk_23 rfl
theorem n411_26 : Snd mt G 411 26 (oAload 0 27) := w_aload_n (hm := mm411) dX3_walk_26
theorem n411_27 : Snd mt G 411 27 (oIload 2 28) := w_iload_n (hm := mm411) dX3_walk_27
theorem n411_28 : Snd mt G 411 28 (oConst (.int 0) 29) := w_iconst (hm := mm411) dX3_walk_28 rfl
theorem n411_29 : Snd mt G 411 29 (oAload 0 30) := w_aload_n (hm := mm411) dX3_walk_29
theorem n411_30 : Snd mt G 411 30 (oGetf [4] 27 33) := w_getf (hm := mm411) dX3_walk_30 (fok1 (k := 27) (T := TX3) 3 (Nat.le_of_ble_eq_true rfl) vc_3 (Nat.le_of_ble_eq_true rfl) q2432)
theorem n411_33 : Snd mt G 411 33 (oCall 3 (fS 284 3) 0 36 xOut) := s_callS (m' := 284) (n := 3) xsh_out (w_xok0 mm411) (w_cal mm411 mm284 pn_X3 (Nat.le_of_ble_eq_true rfl) (Nat.le_of_ble_eq_true rfl)) (fun h as hn => w_run_S mm411 mm284 dX3_walk_33 q2631 q2632 q150 q2633 pa284 hn)
theorem n411_36 : Snd mt G 411 36 (oIfEq 50 39) := w_if_eq (hm := mm411) dX3_walk_36 rfl
theorem n411_39 : Snd mt G 411 39 (oIload 3 40) := w_iload_n (hm := mm411) dX3_walk_39
theorem n411_40 : Snd mt G 411 40 (oConst (.int (-99)) 42) := w_bipush (hm := mm411) dX3_walk_40 (by decide)
theorem n411_42 : Snd mt G 411 42 (oConst (.int 99) 44) := w_bipush (hm := mm411) dX3_walk_42 (by decide)
theorem n411_44 : Snd mt G 411 44 (oCall 3 (fS 284 3) 0 47 xOut) := s_callS (m' := 284) (n := 3) xsh_out (w_xok0 mm411) (w_cal mm411 mm284 pn_X3 (Nat.le_of_ble_eq_true rfl) (Nat.le_of_ble_eq_true rfl)) (fun h as hn => w_run_S mm411 mm284 dX3_walk_44 q2631 q2632 q150 q2633 pa284 hn)
theorem n411_47 : Snd mt G 411 47 (oIfEq 50 54) := w_if_ne (hm := mm411) dX3_walk_47 rfl
theorem n411_50 : Snd mt G 411 50 (oConst (.int 1) 51) := w_iconst (hm := mm411) dX3_walk_50 rfl
theorem n411_51 : Snd mt G 411 51 (oGoto 55) := w_goto (hm := mm411) dX3_walk_51 rfl
theorem n411_54 : Snd mt G 411 54 (oConst (.int 0) 55) := w_iconst (hm := mm411) dX3_walk_54 rfl
theorem n411_55 : Snd mt G 411 55 (oConst (.int 2) 56) := w_iconst (hm := mm411) dX3_walk_55 rfl
theorem n411_56 : Snd mt G 411 56 (oCall 3 (fV [4] 285 3) 0 59 xOut) := s_callV (m' := 285) (n := 2) xsh_out (w_xok0 mm411) (w_cal mm411 mm285 pn_X3 (Nat.le_of_ble_eq_true rfl) (Nat.le_of_ble_eq_true rfl)) (fun h b as hc hn => w_run_V (ci := 3) mm411 mm285 dX3_walk_56 (Or.inl (List.mem_singleton.mp hc)) (Nat.le_of_ble_eq_true rfl) vc_3 rfl q2634 q2636 qs62 q150 q2637 pa285 hn)
theorem n411_59 : Snd mt G 411 59 (oIfEq 64 62) := w_if_eq (hm := mm411) dX3_walk_59 rfl
theorem n411_62 : Snd mt G 411 62 (oConst (.int 0) 63) := w_iconst (hm := mm411) dX3_walk_62 rfl
theorem n411_63 : Snd mt G 411 63 (oRetI .int) := w_iret (hm := mm411) dX3_walk_63 rfl
theorem n411_64 : Snd mt G 411 64 (oAload 0 65) := w_aload_n (hm := mm411) dX3_walk_64
theorem n411_65 : Snd mt G 411 65 (oGetf [4] 35 68) := w_getf (hm := mm411) dX3_walk_65 (fok1 (k := 35) (T := TX3) 3 (Nat.le_of_ble_eq_true rfl) vc_3 (Nat.le_of_ble_eq_true rfl) q2440)
theorem n411_68 : Snd mt G 411 68 (oConst (.int 20) 70) := w_bipush (hm := mm411) dX3_walk_68 (by decide)
theorem n411_70 : Snd mt G 411 70 (oCmpEq 73 75) := w_icmp_ne (hm := mm411) dX3_walk_70 rfl
theorem n411_73 : Snd mt G 411 73 (oConst (.int (-1)) 74) := w_iconst (hm := mm411) dX3_walk_73 rfl
theorem n411_74 : Snd mt G 411 74 (oRetI .int) := w_iret (hm := mm411) dX3_walk_74 rfl
theorem n411_75 : Snd mt G 411 75 (oAload 0 76) := w_aload_n (hm := mm411) dX3_walk_75
theorem n411_76 : Snd mt G 411 76 (oGetf [4] 58 79) := w_getf (hm := mm411) dX3_walk_76 (fok1 (k := 58) (T := TX3) 3 (Nat.le_of_ble_eq_true rfl) vc_3 (Nat.le_of_ble_eq_true rfl) q2463)
theorem n411_79 : Snd mt G 411 79 (oAload 0 80) := w_aload_n (hm := mm411) dX3_walk_79
theorem n411_80 : Snd mt G 411 80 (oGetf [4] 35 83) := w_getf (hm := mm411) dX3_walk_80 (fok1 (k := 35) (T := TX3) 3 (Nat.le_of_ble_eq_true rfl) vc_3 (Nat.le_of_ble_eq_true rfl) q2440)
theorem n411_83 : Snd mt G 411 83 (oAld [106] 84) := w_aaload (hm := mm411) (kt := 6) dX3_walk_83 rfl at_6 (Nat.le_of_ble_eq_true rfl) (List.forall_mem_cons.mpr ⟨Or.inl rfl, (fun t ht => nomatch ht)⟩)
theorem n411_84 : Snd mt G 411 84 (oConst (.int 0) 85) := w_iconst (hm := mm411) dX3_walk_84 rfl
theorem n411_85 : Snd mt G 411 85 (oIload 1 86) := w_iload_n (hm := mm411) dX3_walk_85
theorem n411_86 : Snd mt G 411 86 (oIast [100] 87) := w_iastore (hm := mm411) (kt := 0) dX3_walk_86 at_0 (Nat.le_of_ble_eq_true rfl) (List.forall_mem_cons.mpr ⟨rfl, (fun t ht => nomatch ht)⟩)
theorem n411_87 : Snd mt G 411 87 (oAload 0 88) := w_aload_n (hm := mm411) dX3_walk_87
theorem n411_88 : Snd mt G 411 88 (oGetf [4] 58 91) := w_getf (hm := mm411) dX3_walk_88 (fok1 (k := 58) (T := TX3) 3 (Nat.le_of_ble_eq_true rfl) vc_3 (Nat.le_of_ble_eq_true rfl) q2463)
theorem n411_91 : Snd mt G 411 91 (oAload 0 92) := w_aload_n (hm := mm411) dX3_walk_91
theorem n411_92 : Snd mt G 411 92 (oGetf [4] 35 95) := w_getf (hm := mm411) dX3_walk_92 (fok1 (k := 35) (T := TX3) 3 (Nat.le_of_ble_eq_true rfl) vc_3 (Nat.le_of_ble_eq_true rfl) q2440)
theorem n411_95 : Snd mt G 411 95 (oAld [106] 96) := w_aaload (hm := mm411) (kt := 6) dX3_walk_95 rfl at_6 (Nat.le_of_ble_eq_true rfl) (List.forall_mem_cons.mpr ⟨Or.inl rfl, (fun t ht => nomatch ht)⟩)
theorem n411_96 : Snd mt G 411 96 (oConst (.int 1) 97) := w_iconst (hm := mm411) dX3_walk_96 rfl
theorem n411_97 : Snd mt G 411 97 (oIload 2 98) := w_iload_n (hm := mm411) dX3_walk_97
theorem n411_98 : Snd mt G 411 98 (oIast [100] 99) := w_iastore (hm := mm411) (kt := 0) dX3_walk_98 at_0 (Nat.le_of_ble_eq_true rfl) (List.forall_mem_cons.mpr ⟨rfl, (fun t ht => nomatch ht)⟩)
theorem n411_99 : Snd mt G 411 99 (oAload 0 100) := w_aload_n (hm := mm411) dX3_walk_99
theorem n411_100 : Snd mt G 411 100 (oGetf [4] 58 103) := w_getf (hm := mm411) dX3_walk_100 (fok1 (k := 58) (T := TX3) 3 (Nat.le_of_ble_eq_true rfl) vc_3 (Nat.le_of_ble_eq_true rfl) q2463)
theorem n411_103 : Snd mt G 411 103 (oAload 0 104) := w_aload_n (hm := mm411) dX3_walk_103
theorem n411_104 : Snd mt G 411 104 (oGetf [4] 35 107) := w_getf (hm := mm411) dX3_walk_104 (fok1 (k := 35) (T := TX3) 3 (Nat.le_of_ble_eq_true rfl) vc_3 (Nat.le_of_ble_eq_true rfl) q2440)
theorem n411_107 : Snd mt G 411 107 (oAld [106] 108) := w_aaload (hm := mm411) (kt := 6) dX3_walk_107 rfl at_6 (Nat.le_of_ble_eq_true rfl) (List.forall_mem_cons.mpr ⟨Or.inl rfl, (fun t ht => nomatch ht)⟩)
theorem n411_108 : Snd mt G 411 108 (oConst (.int 2) 109) := w_iconst (hm := mm411) dX3_walk_108 rfl
theorem n411_109 : Snd mt G 411 109 (oIload 3 110) := w_iload_n (hm := mm411) dX3_walk_109
theorem n411_110 : Snd mt G 411 110 (oIast [100] 111) := w_iastore (hm := mm411) (kt := 0) dX3_walk_110 at_0 (Nat.le_of_ble_eq_true rfl) (List.forall_mem_cons.mpr ⟨rfl, (fun t ht => nomatch ht)⟩)
theorem n411_111 : Snd mt G 411 111 (oAload 0 112) := w_aload_n (hm := mm411) dX3_walk_111
theorem n411_112 : Snd mt G 411 112 (oDup 113) := w_dup (hm := mm411) dX3_walk_112
theorem n411_113 : Snd mt G 411 113 (oGetf [4] 35 116) := w_getf (hm := mm411) dX3_walk_113 (fok1 (k := 35) (T := TX3) 3 (Nat.le_of_ble_eq_true rfl) vc_3 (Nat.le_of_ble_eq_true rfl) q2440)
theorem n411_116 : Snd mt G 411 116 (oConst (.int 1) 117) := w_iconst (hm := mm411) dX3_walk_116 rfl
theorem n411_117 : Snd mt G 411 117 (oBin (fun x y => x + y) 118) := w_iadd (hm := mm411) dX3_walk_117
theorem n411_118 : Snd mt G 411 118 (oPutf [4] 35 .int 121) := w_putf (hm := mm411) dX3_walk_118 (pok1 (k := 35) (T := TX3) 3 (Nat.le_of_ble_eq_true rfl) vc_3 (Nat.le_of_ble_eq_true rfl) rfl pd_X3_35 q2440)
theorem n411_121 : Snd mt G 411 121 (oAload 0 122) := w_aload_n (hm := mm411) dX3_walk_121
theorem n411_122 : Snd mt G 411 122 (oGetf [4] 35 125) := w_getf (hm := mm411) dX3_walk_122 (fok1 (k := 35) (T := TX3) 3 (Nat.le_of_ble_eq_true rfl) vc_3 (Nat.le_of_ble_eq_true rfl) q2440)
theorem n411_125 : Snd mt G 411 125 (oRetI .int) := w_iret (hm := mm411) dX3_walk_125 rfl
theorem sj411 : ∀ pc, Snd mt G 411 pc (j411 pc) := fun pc => (snd_br ((snd_br ((snd_br ((snd_br ((snd_br ((snd_br ((snd_br ((snd_lf n411_125)) ((snd_lf n411_122)))) ((snd_lf n411_121)))) ((snd_br ((snd_lf n411_118)) ((snd_lf n411_117)))))) ((snd_br ((snd_br ((snd_br ((snd_lf n411_116)) ((snd_lf n411_113)))) ((snd_lf n411_112)))) ((snd_br ((snd_lf n411_111)) ((snd_lf n411_110)))))))) ((snd_br ((snd_br ((snd_br ((snd_br ((snd_lf n411_109)) ((snd_lf n411_108)))) ((snd_lf n411_107)))) ((snd_br ((snd_lf n411_104)) ((snd_lf n411_103)))))) ((snd_br ((snd_br ((snd_lf n411_100)) ((snd_lf n411_99)))) ((snd_br ((snd_lf n411_98)) ((snd_lf n411_97)))))))))) ((snd_br ((snd_br ((snd_br ((snd_br ((snd_br ((snd_lf n411_96)) ((snd_lf n411_95)))) ((snd_lf n411_92)))) ((snd_br ((snd_lf n411_91)) ((snd_lf n411_88)))))) ((snd_br ((snd_br ((snd_lf n411_87)) ((snd_lf n411_86)))) ((snd_br ((snd_lf n411_85)) ((snd_lf n411_84)))))))) ((snd_br ((snd_br ((snd_br ((snd_br ((snd_lf n411_83)) ((snd_lf n411_80)))) ((snd_lf n411_79)))) ((snd_br ((snd_lf n411_76)) ((snd_lf n411_75)))))) ((snd_br ((snd_br ((snd_lf n411_74)) ((snd_lf n411_73)))) ((snd_br ((snd_lf n411_70)) ((snd_lf n411_68)))))))))))) ((snd_br ((snd_br ((snd_br ((snd_br ((snd_br ((snd_br ((snd_lf n411_65)) ((snd_lf n411_64)))) ((snd_lf n411_63)))) ((snd_br ((snd_lf n411_62)) ((snd_lf n411_59)))))) ((snd_br ((snd_br ((snd_lf n411_56)) ((snd_lf n411_55)))) ((snd_br ((snd_lf n411_54)) ((snd_lf n411_51)))))))) ((snd_br ((snd_br ((snd_br ((snd_br ((snd_lf n411_50)) ((snd_lf n411_47)))) ((snd_lf n411_44)))) ((snd_br ((snd_lf n411_42)) ((snd_lf n411_40)))))) ((snd_br ((snd_br ((snd_lf n411_39)) ((snd_lf n411_36)))) ((snd_br ((snd_lf n411_33)) ((snd_lf n411_30)))))))))) ((snd_br ((snd_br ((snd_br ((snd_br ((snd_br ((snd_lf n411_29)) ((snd_lf n411_28)))) ((snd_lf n411_27)))) ((snd_br ((snd_lf n411_26)) ((snd_lf n411_23)))))) ((snd_br ((snd_br ((snd_lf n411_20)) ((snd_lf n411_19)))) ((snd_br ((snd_lf n411_18)) ((snd_lf n411_15)))))))) ((snd_br ((snd_br ((snd_br ((snd_br ((snd_lf n411_14)) ((snd_lf n411_11)))) ((snd_lf n411_8)))) ((snd_br ((snd_lf n411_7)) ((snd_lf n411_6)))))) ((snd_br ((snd_br ((snd_lf n411_5)) ((snd_lf n411_2)))) ((snd_br ((snd_lf n411_1)) ((snd_lf n411_0)))))))))))))
end
section
variable {G : AG}
theorem n412_0 : Snd mt G 412 0 (oAload 0 1) := w_aload_n (hm := mm412) dX3_changed_0
theorem n412_1 : Snd mt G 412 1 (oConst (.int 0) 2) := w_iconst (hm := mm412) dX3_changed_1 rfl
theorem n412_2 : Snd mt G 412 2 (oPutf [4] 0 .int 5) := w_putf (hm := mm412) dX3_changed_2 (pok1 (k := 0) (T := TX3) 3 (Nat.le_of_ble_eq_true rfl) vc_3 (Nat.le_of_ble_eq_true rfl) rfl pd_X3_0 q2405)
theorem n412_5 : Snd mt G 412 5 (oAload 0 6) := w_aload_n (hm := mm412) dX3_changed_5
theorem n412_6 : Snd mt G 412 6 (oAload 0 7) := w_aload_n (hm := mm412) dX3_changed_6
theorem n412_7 : Snd mt G 412 7 (oIload 1 8) := w_iload_n (hm := mm412) dX3_changed_7
theorem n412_8 : Snd mt G 412 8 (oCall 2 (fV [4] 316 2) 0 11 xOut) := s_callV (m' := 316) (n := 1) xsh_out (w_xok0 mm412) (w_cal mm412 mm316 pn_X3 (Nat.le_of_ble_eq_true rfl) (Nat.le_of_ble_eq_true rfl)) (fun h b as hc hn => w_run_V (ci := 3) mm412 mm316 dX3_changed_8 (Or.inl (List.mem_singleton.mp hc)) (Nat.le_of_ble_eq_true rfl) vc_3 rfl q2758 q2760 qs84 q150 q2761 pa316 hn)
theorem n412_11 : Snd mt G 412 11 (oIfEq 14 18) := w_if_ne (hm := mm412) dX3_changed_11 rfl
theorem n412_14 : Snd mt G 412 14 (oConst (.int 1) 15) := w_iconst (hm := mm412) dX3_changed_14 rfl
theorem n412_15 : Snd mt G 412 15 (oGoto 19) := w_goto (hm := mm412) dX3_changed_15 rfl
theorem n412_18 : Snd mt G 412 18 (oConst (.int 0) 19) := w_iconst (hm := mm412) dX3_changed_18 rfl
theorem n412_19 : Snd mt G 412 19 (oConst (.int 1) 20) := w_iconst (hm := mm412) dX3_changed_19 rfl
theorem n412_20 : Snd mt G 412 20 (oCall 3 (fV [4] 285 3) 0 23 xOut) := s_callV (m' := 285) (n := 2) xsh_out (w_xok0 mm412) (w_cal mm412 mm285 pn_X3 (Nat.le_of_ble_eq_true rfl) (Nat.le_of_ble_eq_true rfl)) (fun h b as hc hn => w_run_V (ci := 3) mm412 mm285 dX3_changed_20 (Or.inl (List.mem_singleton.mp hc)) (Nat.le_of_ble_eq_true rfl) vc_3 rfl q2634 q2636 qs62 q150 q2637 pa285 hn)
theorem n412_23 : Snd mt G 412 23 (oIfEq 26 48) := w_if_ne (hm := mm412) dX3_changed_23 rfl
theorem n412_26 : Snd mt G 412 26 (oAload 0 27) := w_aload_n (hm := mm412) dX3_changed_26
theorem n412_27 : Snd mt G 412 27 (oIload 2 28) := w_iload_n (hm := mm412) dX3_changed_27
theorem n412_28 : Snd mt G 412 28 (oConst (.int 0) 29) := w_iconst (hm := mm412) dX3_changed_28 rfl
theorem n412_29 : Snd mt G 412 29 (oConst (.int 3) 30) := w_iconst (hm := mm412) dX3_changed_29 rfl
theorem n412_30 : Snd mt G 412 30 (oCall 3 (fS 284 3) 0 33 xOut) := s_callS (m' := 284) (n := 3) xsh_out (w_xok0 mm412) (w_cal mm412 mm284 pn_X3 (Nat.le_of_ble_eq_true rfl) (Nat.le_of_ble_eq_true rfl)) (fun h as hn => w_run_S mm412 mm284 dX3_changed_30 q2631 q2632 q150 q2633 pa284 hn)
theorem n412_33 : Snd mt G 412 33 (oIfEq 36 40) := w_if_ne (hm := mm412) dX3_changed_33 rfl
theorem n412_36 : Snd mt G 412 36 (oConst (.int 1) 37) := w_iconst (hm := mm412) dX3_changed_36 rfl
theorem n412_37 : Snd mt G 412 37 (oGoto 41) := w_goto (hm := mm412) dX3_changed_37 rfl
theorem n412_40 : Snd mt G 412 40 (oConst (.int 0) 41) := w_iconst (hm := mm412) dX3_changed_40 rfl
theorem n412_41 : Snd mt G 412 41 (oConst (.int 2) 42) := w_iconst (hm := mm412) dX3_changed_41 rfl
theorem n412_42 : Snd mt G 412 42 (oCall 3 (fV [4] 285 3) 0 45 xOut) := s_callV (m' := 285) (n := 2) xsh_out (w_xok0 mm412) (w_cal mm412 mm285 pn_X3 (Nat.le_of_ble_eq_true rfl) (Nat.le_of_ble_eq_true rfl)) (fun h b as hc hn => w_run_V (ci := 3) mm412 mm285 dX3_changed_42 (Or.inl (List.mem_singleton.mp hc)) (Nat.le_of_ble_eq_true rfl) vc_3 rfl q2634 q2636 qs62 q150 q2637 pa285 hn)
theorem n412_45 : Snd mt G 412 45 (oIfEq 50 48) := w_if_eq (hm := mm412) dX3_changed_45 rfl
theorem n412_48 : Snd mt G 412 48 (oConst (.int 0) 49) := w_iconst (hm := mm412) dX3_changed_48 rfl
theorem n412_49 : Snd mt G 412 49 (oRetI .int) := w_iret (hm := mm412) dX3_changed_49 rfl
theorem n412_50 : Snd mt G 412 50 (oConst (.int 0) 51) := w_iconst (hm := mm412) dX3_changed_50 rfl
theorem n412_51 : Snd mt G 412 51 (oIstore 3 52) := w_istore_n (hm := mm412) dX3_changed_51 (Nat.le_of_ble_eq_true rfl)
theorem n412_52 : Snd mt G 412 52 (oConst (.int 0) 53) := w_iconst (hm := mm412) dX3_changed_52 rfl
theorem n412_53 : Snd mt G 412 53 (oIstore 4 55) := w_istore (hm := mm412) dX3_changed_53 (Nat.le_of_ble_eq_true rfl)
theorem n412_55 : Snd mt G 412 55 (oConst (.int 0) 56) := w_iconst (hm := mm412) dX3_changed_55 rfl
theorem n412_56 : Snd mt G 412 56 (oIstore 5 58) := w_istore (hm := mm412) dX3_changed_56 (Nat.le_of_ble_eq_true rfl)
theorem n412_58 : Snd mt G 412 58 (oConst (.int 0) 59) := w_iconst (hm := mm412) dX3_changed_58 rfl
theorem n412_59 : Snd mt G 412 59 (oIstore 6 61) := w_istore (hm := mm412) dX3_changed_59 (Nat.le_of_ble_eq_true rfl)
theorem n412_61 : Snd mt G 412 61 (oAload 0 62) := w_aload_n (hm := mm412) dX3_changed_61
theorem n412_62 : Snd mt G 412 62 (oIload 1 63) := w_iload_n (hm := mm412) dX3_changed_62
theorem n412_63 : Snd mt G 412 63 (oIload 2 64) := w_iload_n (hm := mm412) dX3_changed_63
theorem n412_64 : Snd mt G 412 64 (oCall 3 (fV [4] 329 3) 0 67 xOut) := s_callV (m' := 329) (n := 2) xsh_out (w_xok0 mm412) (w_cal mm412 mm329 pn_X3 (Nat.le_of_ble_eq_true rfl) (Nat.le_of_ble_eq_true rfl)) (fun h b as hc hn => w_run_V (ci := 3) mm412 mm329 dX3_changed_64 (Or.inl (List.mem_singleton.mp hc)) (Nat.le_of_ble_eq_true rfl) vc_3 rfl q2810 q2812 qs92 q150 q2813 pa329 hn)
theorem n412_67 : Snd mt G 412 67 (oIfEq 70 72) := w_if_ne (hm := mm412) dX3_changed_67 rfl
theorem n412_70 : Snd mt G 412 70 (oConst (.int 0) 71) := w_iconst (hm := mm412) dX3_changed_70 rfl
theorem n412_71 : Snd mt G 412 71 (oRetI .int) := w_iret (hm := mm412) dX3_changed_71 rfl
theorem n412_72 : Snd mt G 412 72 (oAload 0 73) := w_aload_n (hm := mm412) dX3_changed_72
theorem n412_73 : Snd mt G 412 73 (oIload 1 74) := w_iload_n (hm := mm412) dX3_changed_73
theorem n412_74 : Snd mt G 412 74 (oIload 2 75) := w_iload_n (hm := mm412) dX3_changed_74
theorem n412_75 : Snd mt G 412 75 (oCall 3 (fV [4] 330 3) 0 78 xOut) := s_callV (m' := 330) (n := 2) xsh_out (w_xok0 mm412) (w_cal mm412 mm330 pn_X3 (Nat.le_of_ble_eq_true rfl) (Nat.le_of_ble_eq_true rfl)) (fun h b as hc hn => w_run_V (ci := 3) mm412 mm330 dX3_changed_75 (Or.inl (List.mem_singleton.mp hc)) (Nat.le_of_ble_eq_true rfl) vc_3 rfl q2814 q2816 qs93 q150 q2817 pa330 hn)
theorem n412_78 : Snd mt G 412 78 (oAstore 7 80) := w_astore (hm := mm412) dX3_changed_78 (Nat.le_of_ble_eq_true rfl)
theorem n412_80 : Snd mt G 412 80 (oConst (.int 0) 81) := w_iconst (hm := mm412) dX3_changed_80 rfl
theorem n412_81 : Snd mt G 412 81 (oIstore 8 83) := w_istore (hm := mm412) dX3_changed_81 (Nat.le_of_ble_eq_true rfl)
theorem n412_83 : Snd mt G 412 83 (oIload 8 85) := w_iload (hm := mm412) dX3_changed_83
theorem n412_85 : Snd mt G 412 85 (oAload 0 86) := w_aload_n (hm := mm412) dX3_changed_85
theorem n412_86 : Snd mt G 412 86 (oGetf [4] 35 89) := w_getf (hm := mm412) dX3_changed_86 (fok1 (k := 35) (T := TX3) 3 (Nat.le_of_ble_eq_true rfl) vc_3 (Nat.le_of_ble_eq_true rfl) q2440)
theorem n412_89 : Snd mt G 412 89 (oCmpGe 211 92) := w_icmp_ge (hm := mm412) dX3_changed_89 rfl
theorem n412_92 : Snd mt G 412 92 (oAload 0 93) := w_aload_n (hm := mm412) dX3_changed_92
theorem n412_93 : Snd mt G 412 93 (oGetf [4] 58 96) := w_getf (hm := mm412) dX3_changed_93 (fok1 (k := 58) (T := TX3) 3 (Nat.le_of_ble_eq_true rfl) vc_3 (Nat.le_of_ble_eq_true rfl) q2463)
theorem n412_96 : Snd mt G 412 96 (oIload 8 98) := w_iload (hm := mm412) dX3_changed_96
theorem n412_98 : Snd mt G 412 98 (oAld [106] 99) := w_aaload (hm := mm412) (kt := 6) dX3_changed_98 rfl at_6 (Nat.le_of_ble_eq_true rfl) (List.forall_mem_cons.mpr ⟨Or.inl rfl, (fun t ht => nomatch ht)⟩)
theorem n412_99 : Snd mt G 412 99 (oConst (.int 0) 100) := w_iconst (hm := mm412) dX3_changed_99 rfl
theorem n412_100 : Snd mt G 412 100 (oAld [100] 101) := w_iaload (hm := mm412) (kt := 0) dX3_changed_100 at_0 (Nat.le_of_ble_eq_true rfl) (List.forall_mem_cons.mpr ⟨Or.inl rfl, (fun t ht => nomatch ht)⟩)
theorem n412_101 : Snd mt G 412 101 (oIload 1 102) := w_iload_n (hm := mm412) dX3_changed_101
theorem n412_102 : Snd mt G 412 102 (oCmpEq 108 105) := w_icmp_eq (hm := mm412) dX3_changed_102 rfl
theorem n412_105 : Snd mt G 412 105 (oGoto 205) := w_goto (hm := mm412) dX3_changed_105 rfl
theorem n412_108 : Snd mt G 412 108 (oAload 0 109) := w_aload_n (hm := mm412) dX3_changed_108
theorem n412_109 : Snd mt G 412 109 (oGetf [4] 58 112) := w_getf (hm := mm412) dX3_changed_109 (fok1 (k := 58) (T := TX3) 3 (Nat.le_of_ble_eq_true rfl) vc_3 (Nat.le_of_ble_eq_true rfl) q2463)
theorem n412_112 : Snd mt G 412 112 (oIload 8 114) := w_iload (hm := mm412) dX3_changed_112
theorem n412_114 : Snd mt G 412 114 (oAld [106] 115) := w_aaload (hm := mm412) (kt := 6) dX3_changed_114 rfl at_6 (Nat.le_of_ble_eq_true rfl) (List.forall_mem_cons.mpr ⟨Or.inl rfl, (fun t ht => nomatch ht)⟩)
theorem n412_115 : Snd mt G 412 115 (oConst (.int 1) 116) := w_iconst (hm := mm412) dX3_changed_115 rfl
theorem n412_116 : Snd mt G 412 116 (oAld [100] 117) := w_iaload (hm := mm412) (kt := 0) dX3_changed_116 at_0 (Nat.le_of_ble_eq_true rfl) (List.forall_mem_cons.mpr ⟨Or.inl rfl, (fun t ht => nomatch ht)⟩)
theorem n412_117 : Snd mt G 412 117 (oAload 7 119) := w_aload (hm := mm412) dX3_changed_117
theorem n412_119 : Snd mt G 412 119 (oConst (.int 2) 120) := w_iconst (hm := mm412) dX3_changed_119 rfl
theorem n412_120 : Snd mt G 412 120 (oAld [100] 121) := w_iaload (hm := mm412) (kt := 0) dX3_changed_120 at_0 (Nat.le_of_ble_eq_true rfl) (List.forall_mem_cons.mpr ⟨Or.inl rfl, (fun t ht => nomatch ht)⟩)
theorem n412_121 : Snd mt G 412 121 (oCmpLt 128 124) := w_icmp_lt (hm := mm412) dX3_changed_121 rfl
theorem n412_124 : Snd mt G 412 124 (oConst (.int 1) 125) := w_iconst (hm := mm412) dX3_changed_124 rfl
theorem n412_125 : Snd mt G 412 125 (oGoto 129) := w_goto (hm := mm412) dX3_changed_125 rfl
theorem n412_128 : Snd mt G 412 128 (oConst (.int 0) 129) := w_iconst (hm := mm412) dX3_changed_128 rfl
theorem n412_129 : Snd mt G 412 129 (oIstore 9 131) := w_istore (hm := mm412) dX3_changed_129 (Nat.le_of_ble_eq_true rfl)
theorem n412_131 : Snd mt G 412 131 (oIload 3 132) := w_iload_n (hm := mm412) dX3_changed_131
theorem n412_132 : Snd mt G 412 132 (oIload 9 134) := w_iload (hm := mm412) dX3_changed_132
theorem n412_134 : Snd mt G 412 134 (oIfEq 141 137) := w_if_eq (hm := mm412) dX3_changed_134 rfl
theorem n412_137 : Snd mt G 412 137 (oConst (.int 1) 138) := w_iconst (hm := mm412) dX3_changed_137 rfl
theorem n412_138 : Snd mt G 412 138 (oGoto 142) := w_goto (hm := mm412) dX3_changed_138 rfl
theorem n412_141 : Snd mt G 412 141 (oConst (.int 0) 142) := w_iconst (hm := mm412) dX3_changed_141 rfl
theorem n412_142 : Snd mt G 412 142 (oBin (fun x y => x + y) 143) := w_iadd (hm := mm412) dX3_changed_142
theorem n412_143 : Snd mt G 412 143 (oIstore 3 144) := w_istore_n (hm := mm412) dX3_changed_143 (Nat.le_of_ble_eq_true rfl)
theorem n412_144 : Snd mt G 412 144 (oIload 4 146) := w_iload (hm := mm412) dX3_changed_144
theorem n412_146 : Snd mt G 412 146 (oIload 9 148) := w_iload (hm := mm412) dX3_changed_146
theorem n412_148 : Snd mt G 412 148 (oIfEq 155 151) := w_if_eq (hm := mm412) dX3_changed_148 rfl
theorem n412_151 : Snd mt G 412 151 (oConst (.int 0) 152) := w_iconst (hm := mm412) dX3_changed_151 rfl
theorem n412_152 : Snd mt G 412 152 (oGoto 156) := w_goto (hm := mm412) dX3_changed_152 rfl
theorem n412_155 : Snd mt G 412 155 (oConst (.int 1) 156) := w_iconst (hm := mm412) dX3_changed_155 rfl
theorem n412_156 : Snd mt G 412 156 (oBin (fun x y => x + y) 157) := w_iadd (hm := mm412) dX3_changed_156
theorem n412_157 : Snd mt G 412 157 (oIstore 4 159) := w_istore (hm := mm412) dX3_changed_157 (Nat.le_of_ble_eq_true rfl)
theorem n412_159 : Snd mt G 412 159 (oIload 5 161) := w_iload (hm := mm412) dX3_changed_159
theorem n412_161 : Snd mt G 412 161 (oIload 9 163) := w_iload (hm := mm412) dX3_changed_161
theorem n412_163 : Snd mt G 412 163 (oIfEq 178 166) := w_if_eq (hm := mm412) dX3_changed_163 rfl
theorem n412_166 : Snd mt G 412 166 (oAload 0 167) := w_aload_n (hm := mm412) dX3_changed_166
theorem n412_167 : Snd mt G 412 167 (oGetf [4] 58 170) := w_getf (hm := mm412) dX3_changed_167 (fok1 (k := 58) (T := TX3) 3 (Nat.le_of_ble_eq_true rfl) vc_3 (Nat.le_of_ble_eq_true rfl) q2463)
theorem n412_170 : Snd mt G 412 170 (oIload 8 172) := w_iload (hm := mm412) dX3_changed_170
theorem n412_172 : Snd mt G 412 172 (oAld [106] 173) := w_aaload (hm := mm412) (kt := 6) dX3_changed_172 rfl at_6 (Nat.le_of_ble_eq_true rfl) (List.forall_mem_cons.mpr ⟨Or.inl rfl, (fun t ht => nomatch ht)⟩)
theorem n412_173 : Snd mt G 412 173 (oConst (.int 2) 174) := w_iconst (hm := mm412) dX3_changed_173 rfl
theorem n412_174 : Snd mt G 412 174 (oAld [100] 175) := w_iaload (hm := mm412) (kt := 0) dX3_changed_174 at_0 (Nat.le_of_ble_eq_true rfl) (List.forall_mem_cons.mpr ⟨Or.inl rfl, (fun t ht => nomatch ht)⟩)
theorem n412_175 : Snd mt G 412 175 (oGoto 179) := w_goto (hm := mm412) dX3_changed_175 rfl
theorem n412_178 : Snd mt G 412 178 (oConst (.int 0) 179) := w_iconst (hm := mm412) dX3_changed_178 rfl
theorem n412_179 : Snd mt G 412 179 (oBin (fun x y => x + y) 180) := w_iadd (hm := mm412) dX3_changed_179
theorem n412_180 : Snd mt G 412 180 (oIstore 5 182) := w_istore (hm := mm412) dX3_changed_180 (Nat.le_of_ble_eq_true rfl)
theorem n412_182 : Snd mt G 412 182 (oIload 6 184) := w_iload (hm := mm412) dX3_changed_182
theorem n412_184 : Snd mt G 412 184 (oIload 9 186) := w_iload (hm := mm412) dX3_changed_184
theorem n412_186 : Snd mt G 412 186 (oIfEq 193 189) := w_if_eq (hm := mm412) dX3_changed_186 rfl
theorem n412_189 : Snd mt G 412 189 (oConst (.int 0) 190) := w_iconst (hm := mm412) dX3_changed_189 rfl
theorem n412_190 : Snd mt G 412 190 (oGoto 202) := w_goto (hm := mm412) dX3_changed_190 rfl
theorem n412_193 : Snd mt G 412 193 (oAload 0 194) := w_aload_n (hm := mm412) dX3_changed_193
theorem n412_194 : Snd mt G 412 194 (oGetf [4] 58 197) := w_getf (hm := mm412) dX3_changed_194 (fok1 (k := 58) (T := TX3) 3 (Nat.le_of_ble_eq_true rfl) vc_3 (Nat.le_of_ble_eq_true rfl) q2463)
theorem n412_197 : Snd mt G 412 197 (oIload 8 199) := w_iload (hm := mm412) dX3_changed_197
theorem n412_199 : Snd mt G 412 199 (oAld [106] 200) := w_aaload (hm := mm412) (kt := 6) dX3_changed_199 rfl at_6 (Nat.le_of_ble_eq_true rfl) (List.forall_mem_cons.mpr ⟨Or.inl rfl, (fun t ht => nomatch ht)⟩)
theorem n412_200 : Snd mt G 412 200 (oConst (.int 2) 201) := w_iconst (hm := mm412) dX3_changed_200 rfl
theorem n412_201 : Snd mt G 412 201 (oAld [100] 202) := w_iaload (hm := mm412) (kt := 0) dX3_changed_201 at_0 (Nat.le_of_ble_eq_true rfl) (List.forall_mem_cons.mpr ⟨Or.inl rfl, (fun t ht => nomatch ht)⟩)
theorem n412_202 : Snd mt G 412 202 (oBin (fun x y => x + y) 203) := w_iadd (hm := mm412) dX3_changed_202
theorem n412_203 : Snd mt G 412 203 (oIstore 6 205) := w_istore (hm := mm412) dX3_changed_203 (Nat.le_of_ble_eq_true rfl)
theorem n412_205 : Snd mt G 412 205 (oIinc 8 1 208) := w_iinc (hm := mm412) dX3_changed_205 rfl (Nat.le_of_ble_eq_true rfl)
theorem n412_208 : Snd mt G 412 208 (oGoto 83) := w_goto (hm := mm412) dX3_changed_208 rfl
theorem n412_211 : Snd mt G 412 211 (oIload 5 213) := w_iload (hm := mm412) dX3_changed_211
theorem n412_213 : Snd mt G 412 213 (oIload 4 215) := w_iload (hm := mm412) dX3_changed_213
theorem n412_215 : Snd mt G 412 215 (oBin (fun x y => x * y) 216) := w_imul (hm := mm412) dX3_changed_215
theorem n412_216 : Snd mt G 412 216 (oIload 6 218) := w_iload (hm := mm412) dX3_changed_216
theorem n412_218 : Snd mt G 412 218 (oIload 3 219) := w_iload_n (hm := mm412) dX3_changed_218
theorem n412_219 : Snd mt G 412 219 (oBin (fun x y => x * y) 220) := w_imul (hm := mm412) dX3_changed_219
theorem n412_220 : Snd mt G 412 220 (oBin (fun x y => x - y) 221) := w_isub (hm := mm412) dX3_changed_220
theorem n412_221 : Snd mt G 412 221 (oRetI .int) := w_iret (hm := mm412) dX3_changed_221 rfl
theorem sj412 : ∀ pc, Snd mt G 412 pc (j412 pc) := fun pc => (snd_br ((snd_br ((snd_br ((snd_br ((snd_br ((snd_br ((snd_br ((snd_br ((snd_lf n412_221)) ((snd_lf n412_220)))) ((snd_lf n412_219)))) ((snd_br ((snd_lf n412_218)) ((snd_lf n412_216)))))) ((snd_br ((snd_br ((snd_lf n412_215)) ((snd_lf n412_213)))) ((snd_br ((snd_lf n412_211)) ((snd_lf n412_208)))))))) ((snd_br ((snd_br ((snd_br ((snd_lf n412_205)) ((snd_lf n412_203)))) ((snd_br ((snd_lf n412_202)) ((snd_lf n412_201)))))) ((snd_br ((snd_br ((snd_lf n412_200)) ((snd_lf n412_199)))) ((snd_br ((snd_lf n412_197)) ((snd_lf n412_194)))))))))) ((snd_br ((snd_br ((snd_br ((snd_br ((snd_lf n412_193)) ((snd_lf n412_190)))) ((snd_br ((snd_lf n412_189)) ((snd_lf n412_186)))))) ((snd_br ((snd_br ((snd_lf n412_184)) ((snd_lf n412_182)))) ((snd_br ((snd_lf n412_180)) ((snd_lf n412_179)))))))) ((snd_br ((snd_br ((snd_br ((snd_lf n412_178)) ((snd_lf n412_175)))) ((snd_br ((snd_lf n412_174)) ((snd_lf n412_173)))))) ((snd_br ((snd_br ((snd_lf n412_172)) ((snd_lf n412_170)))) ((snd_br ((snd_lf n412_167)) ((snd_lf n412_166)))))))))))) ((snd_br ((snd_br ((snd_br ((snd_br ((snd_br ((snd_lf n412_163)) ((snd_lf n412_161)))) ((snd_br ((snd_lf n412_159)) ((snd_lf n412_157)))))) ((snd_br ((snd_br ((snd_lf n412_156)) ((snd_lf n412_155)))) ((snd_br ((snd_lf n412_152)) ((snd_lf n412_151)))))))) ((snd_br ((snd_br ((snd_br ((snd_lf n412_148)) ((snd_lf n412_146)))) ((snd_br ((snd_lf n412_144)) ((snd_lf n412_143)))))) ((snd_br ((snd_br ((snd_lf n412_142)) ((snd_lf n412_141)))) ((snd_br ((snd_lf n412_138)) ((snd_lf n412_137)))))))))) ((snd_br ((snd_br ((snd_br ((snd_br ((snd_lf n412_134)) ((snd_lf n412_132)))) ((snd_br ((snd_lf n412_131)) ((snd_lf n412_129)))))) ((snd_br ((snd_br ((snd_lf n412_128)) ((snd_lf n412_125)))) ((snd_br ((snd_lf n412_124)) ((snd_lf n412_121)))))))) ((snd_br ((snd_br ((snd_br ((snd_lf n412_120)) ((snd_lf n412_119)))) ((snd_br ((snd_lf n412_117)) ((snd_lf n412_116)))))) ((snd_br ((snd_br ((snd_lf n412_115)) ((snd_lf n412_114)))) ((snd_br ((snd_lf n412_112)) ((snd_lf n412_109)))))))))))))) ((snd_br ((snd_br ((snd_br ((snd_br ((snd_br ((snd_br ((snd_lf n412_108)) ((snd_lf n412_105)))) ((snd_br ((snd_lf n412_102)) ((snd_lf n412_101)))))) ((snd_br ((snd_br ((snd_lf n412_100)) ((snd_lf n412_99)))) ((snd_br ((snd_lf n412_98)) ((snd_lf n412_96)))))))) ((snd_br ((snd_br ((snd_br ((snd_lf n412_93)) ((snd_lf n412_92)))) ((snd_br ((snd_lf n412_89)) ((snd_lf n412_86)))))) ((snd_br ((snd_br ((snd_lf n412_85)) ((snd_lf n412_83)))) ((snd_br ((snd_lf n412_81)) ((snd_lf n412_80)))))))))) ((snd_br ((snd_br ((snd_br ((snd_br ((snd_lf n412_78)) ((snd_lf n412_75)))) ((snd_br ((snd_lf n412_74)) ((snd_lf n412_73)))))) ((snd_br ((snd_br ((snd_lf n412_72)) ((snd_lf n412_71)))) ((snd_br ((snd_lf n412_70)) ((snd_lf n412_67)))))))) ((snd_br ((snd_br ((snd_br ((snd_lf n412_64)) ((snd_lf n412_63)))) ((snd_br ((snd_lf n412_62)) ((snd_lf n412_61)))))) ((snd_br ((snd_br ((snd_lf n412_59)) ((snd_lf n412_58)))) ((snd_br ((snd_lf n412_56)) ((snd_lf n412_55)))))))))))) ((snd_br ((snd_br ((snd_br ((snd_br ((snd_br ((snd_lf n412_53)) ((snd_lf n412_52)))) ((snd_br ((snd_lf n412_51)) ((snd_lf n412_50)))))) ((snd_br ((snd_br ((snd_lf n412_49)) ((snd_lf n412_48)))) ((snd_br ((snd_lf n412_45)) ((snd_lf n412_42)))))))) ((snd_br ((snd_br ((snd_br ((snd_lf n412_41)) ((snd_lf n412_40)))) ((snd_br ((snd_lf n412_37)) ((snd_lf n412_36)))))) ((snd_br ((snd_br ((snd_lf n412_33)) ((snd_lf n412_30)))) ((snd_br ((snd_lf n412_29)) ((snd_lf n412_28)))))))))) ((snd_br ((snd_br ((snd_br ((snd_br ((snd_lf n412_27)) ((snd_lf n412_26)))) ((snd_br ((snd_lf n412_23)) ((snd_lf n412_20)))))) ((snd_br ((snd_br ((snd_lf n412_19)) ((snd_lf n412_18)))) ((snd_br ((snd_lf n412_15)) ((snd_lf n412_14)))))))) ((snd_br ((snd_br ((snd_br ((snd_lf n412_11)) ((snd_lf n412_8)))) ((snd_br ((snd_lf n412_7)) ((snd_lf n412_6)))))) ((snd_br ((snd_br ((snd_lf n412_5)) ((snd_lf n412_2)))) ((snd_br ((snd_lf n412_1)) ((snd_lf n412_0)))))))))))))))
end
section
variable {G : AG}
theorem n413_0 : Snd mt G 413 0 (oAload 0 1) := w_aload_n (hm := mm413) dX3_spent_0
theorem n413_1 : Snd mt G 413 1 (oConst (.int 0) 2) := w_iconst (hm := mm413) dX3_spent_1 rfl
theorem n413_2 : Snd mt G 413 2 (oPutf [4] 0 .int 5) := w_putf (hm := mm413) dX3_spent_2 (pok1 (k := 0) (T := TX3) 3 (Nat.le_of_ble_eq_true rfl) vc_3 (Nat.le_of_ble_eq_true rfl) rfl pd_X3_0 q2405)
theorem n413_5 : Snd mt G 413 5 (oAload 0 6) := w_aload_n (hm := mm413) dX3_spent_5
theorem n413_6 : Snd mt G 413 6 (oIload 1 7) := w_iload_n (hm := mm413) dX3_spent_6
theorem n413_7 : Snd mt G 413 7 (oConst (.int (-1)) 8) := w_iconst (hm := mm413) dX3_spent_7 rfl
theorem n413_8 : Snd mt G 413 8 (oCmpEq 23 11) := w_icmp_eq (hm := mm413) dX3_spent_8 rfl
theorem n413_11 : Snd mt G 413 11 (oAload 0 12) := w_aload_n (hm := mm413) dX3_spent_11
theorem n413_12 : Snd mt G 413 12 (oIload 1 13) := w_iload_n (hm := mm413) dX3_spent_12
theorem n413_13 : Snd mt G 413 13 (oCall 2 (fV [4] 316 2) 0 16 xOut) := s_callV (m' := 316) (n := 1) xsh_out (w_xok0 mm413) (w_cal mm413 mm316 pn_X3 (Nat.le_of_ble_eq_true rfl) (Nat.le_of_ble_eq_true rfl)) (fun h b as hc hn => w_run_V (ci := 3) mm413 mm316 dX3_spent_13 (Or.inl (List.mem_singleton.mp hc)) (Nat.le_of_ble_eq_true rfl) vc_3 rfl q2758 q2760 qs84 q150 q2761 pa316 hn)
theorem n413_16 : Snd mt G 413 16 (oIfEq 19 23) := w_if_ne (hm := mm413) dX3_spent_16 rfl
theorem n413_19 : Snd mt G 413 19 (oConst (.int 1) 20) := w_iconst (hm := mm413) dX3_spent_19 rfl
theorem n413_20 : Snd mt G 413 20 (oGoto 24) := w_goto (hm := mm413) dX3_spent_20 rfl
theorem n413_23 : Snd mt G 413 23 (oConst (.int 0) 24) := w_iconst (hm := mm413) dX3_spent_23 rfl
theorem n413_24 : Snd mt G 413 24 (oConst (.int 1) 25) := w_iconst (hm := mm413) dX3_spent_24 rfl
theorem n413_25 : Snd mt G 413 25 (oCall 3 (fV [4] 285 3) 0 28 xOut) := s_callV (m' := 285) (n := 2) xsh_out (w_xok0 mm413) (w_cal mm413 mm285 pn_X3 (Nat.le_of_ble_eq_true rfl) (Nat.le_of_ble_eq_true rfl)) (fun h b as hc hn => w_run_V (ci := 3) mm413 mm285 dX3_spent_25 (Or.inl (List.mem_singleton.mp hc)) (Nat.le_of_ble_eq_true rfl) vc_3 rfl q2634 q2636 qs62 q150 q2637 pa285 hn)
theorem n413_28 : Snd mt G 413 28 (oIfEq 31 54) := w_if_ne (hm := mm413) dX3_spent_28 rfl
theorem n413_31 : Snd mt G 413 31 (oAload 0 32) := w_aload_n (hm := mm413) dX3_spent_31
theorem n413_32 : Snd mt G 413 32 (oIload 2 33) := w_iload_n (hm := mm413) dX3_spent_32
theorem n413_33 : Snd mt G 413 33 (oConst (.int 0) 34) := w_iconst (hm := mm413) dX3_spent_33 rfl
theorem n413_34 : Snd mt G 413 34 (oConst (.int 54) 36) := w_bipush (hm := mm413) dX3_spent_34 (by decide)
theorem n413_36 : Snd mt G 413 36 (oCall 3 (fS 284 3) 0 39 xOut) := s_callS (m' := 284) (n := 3) xsh_out (w_xok0 mm413) (w_cal mm413 mm284 pn_X3 (Nat.le_of_ble_eq_true rfl) (Nat.le_of_ble_eq_true rfl)) (fun h as hn => w_run_S mm413 mm284 dX3_spent_36 q2631 q2632 q150 q2633 pa284 hn)
theorem n413_39 : Snd mt G 413 39 (oIfEq 42 46) := w_if_ne (hm := mm413) dX3_spent_39 rfl
theorem n413_42 : Snd mt G 413 42 (oConst (.int 1) 43) := w_iconst (hm := mm413) dX3_spent_42 rfl
theorem n413_43 : Snd mt G 413 43 (oGoto 47) := w_goto (hm := mm413) dX3_spent_43 rfl
theorem n413_46 : Snd mt G 413 46 (oConst (.int 0) 47) := w_iconst (hm := mm413) dX3_spent_46 rfl
theorem n413_47 : Snd mt G 413 47 (oConst (.int 2) 48) := w_iconst (hm := mm413) dX3_spent_47 rfl
theorem n413_48 : Snd mt G 413 48 (oCall 3 (fV [4] 285 3) 0 51 xOut) := s_callV (m' := 285) (n := 2) xsh_out (w_xok0 mm413) (w_cal mm413 mm285 pn_X3 (Nat.le_of_ble_eq_true rfl) (Nat.le_of_ble_eq_true rfl)) (fun h b as hc hn => w_run_V (ci := 3) mm413 mm285 dX3_spent_48 (Or.inl (List.mem_singleton.mp hc)) (Nat.le_of_ble_eq_true rfl) vc_3 rfl q2634 q2636 qs62 q150 q2637 pa285 hn)
theorem n413_51 : Snd mt G 413 51 (oIfEq 56 54) := w_if_eq (hm := mm413) dX3_spent_51 rfl
theorem n413_54 : Snd mt G 413 54 (oConst (.int 0) 55) := w_iconst (hm := mm413) dX3_spent_54 rfl
theorem n413_55 : Snd mt G 413 55 (oRetI .int) := w_iret (hm := mm413) dX3_spent_55 rfl
theorem n413_56 : Snd mt G 413 56 (oConst (.int 0) 57) := w_iconst (hm := mm413) dX3_spent_56 rfl
theorem n413_57 : Snd mt G 413 57 (oIstore 3 58) := w_istore_n (hm := mm413) dX3_spent_57 (Nat.le_of_ble_eq_true rfl)
theorem n413_58 : Snd mt G 413 58 (oConst (.int 0) 59) := w_iconst (hm := mm413) dX3_spent_58 rfl
theorem n413_59 : Snd mt G 413 59 (oIstore 4 61) := w_istore (hm := mm413) dX3_spent_59 (Nat.le_of_ble_eq_true rfl)
theorem n413_61 : Snd mt G 413 61 (oIload 4 63) := w_iload (hm := mm413) dX3_spent_61
theorem n413_63 : Snd mt G 413 63 (oAload 0 64) := w_aload_n (hm := mm413) dX3_spent_63
theorem n413_64 : Snd mt G 413 64 (oGetf [4] 29 67) := w_getf (hm := mm413) dX3_spent_64 (fok1 (k := 29) (T := TX3) 3 (Nat.le_of_ble_eq_true rfl) vc_3 (Nat.le_of_ble_eq_true rfl) q2434)
theorem n413_67 : Snd mt G 413 67 (oCmpGe 103 70) := w_icmp_ge (hm := mm413) dX3_spent_67 rfl
theorem n413_70 : Snd mt G 413 70 (oIload 3 71) := w_iload_n (hm := mm413) dX3_spent_70
theorem n413_71 : Snd mt G 413 71 (oIload 1 72) := w_iload_n (hm := mm413) dX3_spent_71
theorem n413_72 : Snd mt G 413 72 (oConst (.int (-1)) 73) := w_iconst (hm := mm413) dX3_spent_72 rfl
theorem n413_73 : Snd mt G 413 73 (oCmpEq 82 76) := w_icmp_eq (hm := mm413) dX3_spent_73 rfl
theorem n413_76 : Snd mt G 413 76 (oIload 1 77) := w_iload_n (hm := mm413) dX3_spent_76
theorem n413_77 : Snd mt G 413 77 (oIload 4 79) := w_iload (hm := mm413) dX3_spent_77
theorem n413_79 : Snd mt G 413 79 (oCmpEq 82 94) := w_icmp_ne (hm := mm413) dX3_spent_79 rfl
theorem n413_82 : Snd mt G 413 82 (oAload 0 83) := w_aload_n (hm := mm413) dX3_spent_82
theorem n413_83 : Snd mt G 413 83 (oGetf [4] 55 86) := w_getf (hm := mm413) dX3_spent_83 (fok1 (k := 55) (T := TX3) 3 (Nat.le_of_ble_eq_true rfl) vc_3 (Nat.le_of_ble_eq_true rfl) q2460)
theorem n413_86 : Snd mt G 413 86 (oIload 4 88) := w_iload (hm := mm413) dX3_spent_86
theorem n413_88 : Snd mt G 413 88 (oAld [106] 89) := w_aaload (hm := mm413) (kt := 6) dX3_spent_88 rfl at_6 (Nat.le_of_ble_eq_true rfl) (List.forall_mem_cons.mpr ⟨Or.inl rfl, (fun t ht => nomatch ht)⟩)
theorem n413_89 : Snd mt G 413 89 (oIload 2 90) := w_iload_n (hm := mm413) dX3_spent_89
theorem n413_90 : Snd mt G 413 90 (oAld [100] 91) := w_iaload (hm := mm413) (kt := 0) dX3_spent_90 at_0 (Nat.le_of_ble_eq_true rfl) (List.forall_mem_cons.mpr ⟨Or.inl rfl, (fun t ht => nomatch ht)⟩)
theorem n413_91 : Snd mt G 413 91 (oGoto 95) := w_goto (hm := mm413) dX3_spent_91 rfl
theorem n413_94 : Snd mt G 413 94 (oConst (.int 0) 95) := w_iconst (hm := mm413) dX3_spent_94 rfl
theorem n413_95 : Snd mt G 413 95 (oBin (fun x y => x + y) 96) := w_iadd (hm := mm413) dX3_spent_95
theorem n413_96 : Snd mt G 413 96 (oIstore 3 97) := w_istore_n (hm := mm413) dX3_spent_96 (Nat.le_of_ble_eq_true rfl)
theorem n413_97 : Snd mt G 413 97 (oIinc 4 1 100) := w_iinc (hm := mm413) dX3_spent_97 rfl (Nat.le_of_ble_eq_true rfl)
theorem n413_100 : Snd mt G 413 100 (oGoto 61) := w_goto (hm := mm413) dX3_spent_100 rfl
theorem n413_103 : Snd mt G 413 103 (oIload 3 104) := w_iload_n (hm := mm413) dX3_spent_103
theorem n413_104 : Snd mt G 413 104 (oRetI .int) := w_iret (hm := mm413) dX3_spent_104 rfl
theorem sj413 : ∀ pc, Snd mt G 413 pc (j413 pc) := fun pc => (snd_br ((snd_br ((snd_br ((snd_br ((snd_br ((snd_br ((snd_lf n413_104)) ((snd_lf n413_103)))) ((snd_br ((snd_lf n413_100)) ((snd_lf n413_97)))))) ((snd_br ((snd_br ((snd_lf n413_96)) ((snd_lf n413_95)))) ((snd_br ((snd_lf n413_94)) ((snd_lf n413_91)))))))) ((snd_br ((snd_br ((snd_br ((snd_lf n413_90)) ((snd_lf n413_89)))) ((snd_br ((snd_lf n413_88)) ((snd_lf n413_86)))))) ((snd_br ((snd_br ((snd_lf n413_83)) ((snd_lf n413_82)))) ((snd_lf n413_79)))))))) ((snd_br ((snd_br ((snd_br ((snd_br ((snd_lf n413_77)) ((snd_lf n413_76)))) ((snd_br ((snd_lf n413_73)) ((snd_lf n413_72)))))) ((snd_br ((snd_br ((snd_lf n413_71)) ((snd_lf n413_70)))) ((snd_br ((snd_lf n413_67)) ((snd_lf n413_64)))))))) ((snd_br ((snd_br ((snd_br ((snd_lf n413_63)) ((snd_lf n413_61)))) ((snd_br ((snd_lf n413_59)) ((snd_lf n413_58)))))) ((snd_br ((snd_br ((snd_lf n413_57)) ((snd_lf n413_56)))) ((snd_lf n413_55)))))))))) ((snd_br ((snd_br ((snd_br ((snd_br ((snd_br ((snd_lf n413_54)) ((snd_lf n413_51)))) ((snd_br ((snd_lf n413_48)) ((snd_lf n413_47)))))) ((snd_br ((snd_br ((snd_lf n413_46)) ((snd_lf n413_43)))) ((snd_br ((snd_lf n413_42)) ((snd_lf n413_39)))))))) ((snd_br ((snd_br ((snd_br ((snd_lf n413_36)) ((snd_lf n413_34)))) ((snd_br ((snd_lf n413_33)) ((snd_lf n413_32)))))) ((snd_br ((snd_br ((snd_lf n413_31)) ((snd_lf n413_28)))) ((snd_lf n413_25)))))))) ((snd_br ((snd_br ((snd_br ((snd_br ((snd_lf n413_24)) ((snd_lf n413_23)))) ((snd_br ((snd_lf n413_20)) ((snd_lf n413_19)))))) ((snd_br ((snd_br ((snd_lf n413_16)) ((snd_lf n413_13)))) ((snd_br ((snd_lf n413_12)) ((snd_lf n413_11)))))))) ((snd_br ((snd_br ((snd_br ((snd_lf n413_8)) ((snd_lf n413_7)))) ((snd_br ((snd_lf n413_6)) ((snd_lf n413_5)))))) ((snd_br ((snd_br ((snd_lf n413_2)) ((snd_lf n413_1)))) ((snd_lf n413_0)))))))))))
end
section
variable {G : AG}
theorem n414_0 : Snd mt G 414 0 (oAload 0 1) := w_aload_n (hm := mm414) dX3_image_0
theorem n414_1 : Snd mt G 414 1 (oConst (.int 0) 2) := w_iconst (hm := mm414) dX3_image_1 rfl
theorem n414_2 : Snd mt G 414 2 (oPutf [4] 0 .int 5) := w_putf (hm := mm414) dX3_image_2 (pok1 (k := 0) (T := TX3) 3 (Nat.le_of_ble_eq_true rfl) vc_3 (Nat.le_of_ble_eq_true rfl) rfl pd_X3_0 q2405)
theorem n414_5 : Snd mt G 414 5 (oAload 0 6) := w_aload_n (hm := mm414) dX3_image_5
theorem n414_6 : Snd mt G 414 6 (oGetf [4] 36 9) := w_getf (hm := mm414) dX3_image_6 (fok1 (k := 36) (T := TX3) 3 (Nat.le_of_ble_eq_true rfl) vc_3 (Nat.le_of_ble_eq_true rfl) q2441)
theorem n414_9 : Snd mt G 414 9 (oConst (.int 3) 10) := w_iconst (hm := mm414) dX3_image_9 rfl
theorem n414_10 : Snd mt G 414 10 (oCmpEq 13 15) := w_icmp_ne (hm := mm414) dX3_image_10 rfl
theorem n414_13 : Snd mt G 414 13 (oConst (.int (-1)) 14) := w_iconst (hm := mm414) dX3_image_13 rfl
theorem n414_14 : Snd mt G 414 14 (oRetI .int) := w_iret (hm := mm414) dX3_image_14 rfl
theorem n414_15 : Snd mt G 414 15 (oAload 0 16) := w_aload_n (hm := mm414) dX3_image_15
theorem n414_16 : Snd mt G 414 16 (oAload 0 17) := w_aload_n (hm := mm414) dX3_image_16
theorem n414_17 : Snd mt G 414 17 (oGetf [4] 36 20) := w_getf (hm := mm414) dX3_image_17 (fok1 (k := 36) (T := TX3) 3 (Nat.le_of_ble_eq_true rfl) vc_3 (Nat.le_of_ble_eq_true rfl) q2441)
theorem n414_20 : Snd mt G 414 20 (oConst (.int 0) 21) := w_iconst (hm := mm414) dX3_image_20 rfl
theorem n414_21 : Snd mt G 414 21 (oCall 3 (fV [4] 415 3) 0 24 xOut) := s_callV (m' := 415) (n := 2) xsh_out (w_xok0 mm414) (w_cal mm414 mm415 pn_X3 (Nat.le_of_ble_eq_true rfl) (Nat.le_of_ble_eq_true rfl)) (fun h b as hc hn => w_run_V (ci := 3) mm414 mm415 dX3_image_21 (Or.inl (List.mem_singleton.mp hc)) (Nat.le_of_ble_eq_true rfl) vc_3 rfl q3152 q3154 qs124 q150 q3155 pa415 hn)
theorem n414_24 : Snd mt G 414 24 (oAload 0 25) := w_aload_n (hm := mm414) dX3_image_24
theorem n414_25 : Snd mt G 414 25 (oDup 26) := w_dup (hm := mm414) dX3_image_25
theorem n414_26 : Snd mt G 414 26 (oGetf [4] 36 29) := w_getf (hm := mm414) dX3_image_26 (fok1 (k := 36) (T := TX3) 3 (Nat.le_of_ble_eq_true rfl) vc_3 (Nat.le_of_ble_eq_true rfl) q2441)
theorem n414_29 : Snd mt G 414 29 (oConst (.int 1) 30) := w_iconst (hm := mm414) dX3_image_29 rfl
theorem n414_30 : Snd mt G 414 30 (oBin (fun x y => x + y) 31) := w_iadd (hm := mm414) dX3_image_30
theorem n414_31 : Snd mt G 414 31 (oPutf [4] 36 .int 34) := w_putf (hm := mm414) dX3_image_31 (pok1 (k := 36) (T := TX3) 3 (Nat.le_of_ble_eq_true rfl) vc_3 (Nat.le_of_ble_eq_true rfl) rfl pd_X3_36 q2441)
theorem n414_34 : Snd mt G 414 34 (oAload 0 35) := w_aload_n (hm := mm414) dX3_image_34
theorem n414_35 : Snd mt G 414 35 (oGetf [4] 36 38) := w_getf (hm := mm414) dX3_image_35 (fok1 (k := 36) (T := TX3) 3 (Nat.le_of_ble_eq_true rfl) vc_3 (Nat.le_of_ble_eq_true rfl) q2441)
theorem n414_38 : Snd mt G 414 38 (oRetI .int) := w_iret (hm := mm414) dX3_image_38 rfl
theorem sj414 : ∀ pc, Snd mt G 414 pc (j414 pc) := fun pc => (snd_br ((snd_br ((snd_br ((snd_br ((snd_br ((snd_lf n414_38)) ((snd_lf n414_35)))) ((snd_lf n414_34)))) ((snd_br ((snd_br ((snd_lf n414_31)) ((snd_lf n414_30)))) ((snd_lf n414_29)))))) ((snd_br ((snd_br ((snd_br ((snd_lf n414_26)) ((snd_lf n414_25)))) ((snd_lf n414_24)))) ((snd_br ((snd_br ((snd_lf n414_21)) ((snd_lf n414_20)))) ((snd_lf n414_17)))))))) ((snd_br ((snd_br ((snd_br ((snd_br ((snd_lf n414_16)) ((snd_lf n414_15)))) ((snd_lf n414_14)))) ((snd_br ((snd_br ((snd_lf n414_13)) ((snd_lf n414_10)))) ((snd_lf n414_9)))))) ((snd_br ((snd_br ((snd_br ((snd_lf n414_6)) ((snd_lf n414_5)))) ((snd_lf n414_2)))) ((snd_br ((snd_lf n414_1)) ((snd_lf n414_0)))))))))
end
section
variable {G : AG}
theorem n415_0 : Snd mt G 415 0 (oAload 0 1) := w_aload_n (hm := mm415) dX3_movesAll_0
theorem n415_1 : Snd mt G 415 1 (oConst (.int 0) 2) := w_iconst (hm := mm415) dX3_movesAll_1 rfl
theorem n415_2 : Snd mt G 415 2 (oPutf [4] 69 .int 5) := w_putf (hm := mm415) dX3_movesAll_2 (pok1 (k := 69) (T := TX3) 3 (Nat.le_of_ble_eq_true rfl) vc_3 (Nat.le_of_ble_eq_true rfl) rfl pd_X3_69 q2474)
theorem n415_5 : Snd mt G 415 5 (oAload 0 6) := w_aload_n (hm := mm415) dX3_movesAll_5
theorem n415_6 : Snd mt G 415 6 (oAload 0 7) := w_aload_n (hm := mm415) dX3_movesAll_6
theorem n415_7 : Snd mt G 415 7 (oIload 1 8) := w_iload_n (hm := mm415) dX3_movesAll_7
theorem n415_8 : Snd mt G 415 8 (oAload 0 9) := w_aload_n (hm := mm415) dX3_movesAll_8
theorem n415_9 : Snd mt G 415 9 (oGetf [4] 27 12) := w_getf (hm := mm415) dX3_movesAll_9 (fok1 (k := 27) (T := TX3) 3 (Nat.le_of_ble_eq_true rfl) vc_3 (Nat.le_of_ble_eq_true rfl) q2432)
theorem n415_12 : Snd mt G 415 12 (oIload 2 13) := w_iload_n (hm := mm415) dX3_movesAll_12
theorem n415_13 : Snd mt G 415 13 (oCall 4 (fV [4] 416 4) 0 16 xOut) := s_callV (m' := 416) (n := 3) xsh_out (w_xok0 mm415) (w_cal mm415 mm416 pn_X3 (Nat.le_of_ble_eq_true rfl) (Nat.le_of_ble_eq_true rfl)) (fun h b as hc hn => w_run_V (ci := 3) mm415 mm416 dX3_movesAll_13 (Or.inl (List.mem_singleton.mp hc)) (Nat.le_of_ble_eq_true rfl) vc_3 rfl q3156 q3158 qs125 q150 q3159 pa416 hn)
theorem n415_16 : Snd mt G 415 16 (oPutf [4] 27 .int 19) := w_putf (hm := mm415) dX3_movesAll_16 (pok1 (k := 27) (T := TX3) 3 (Nat.le_of_ble_eq_true rfl) vc_3 (Nat.le_of_ble_eq_true rfl) rfl pd_X3_27 q2432)
theorem n415_19 : Snd mt G 415 19 (oAload 0 20) := w_aload_n (hm := mm415) dX3_movesAll_19
theorem n415_20 : Snd mt G 415 20 (oAload 0 21) := w_aload_n (hm := mm415) dX3_movesAll_20
theorem n415_21 : Snd mt G 415 21 (oIload 1 22) := w_iload_n (hm := mm415) dX3_movesAll_21
theorem n415_22 : Snd mt G 415 22 (oAload 0 23) := w_aload_n (hm := mm415) dX3_movesAll_22
theorem n415_23 : Snd mt G 415 23 (oGetf [4] 28 26) := w_getf (hm := mm415) dX3_movesAll_23 (fok1 (k := 28) (T := TX3) 3 (Nat.le_of_ble_eq_true rfl) vc_3 (Nat.le_of_ble_eq_true rfl) q2433)
theorem n415_26 : Snd mt G 415 26 (oIload 2 27) := w_iload_n (hm := mm415) dX3_movesAll_26
theorem n415_27 : Snd mt G 415 27 (oCall 4 (fV [4] 416 4) 0 30 xOut) := s_callV (m' := 416) (n := 3) xsh_out (w_xok0 mm415) (w_cal mm415 mm416 pn_X3 (Nat.le_of_ble_eq_true rfl) (Nat.le_of_ble_eq_true rfl)) (fun h b as hc hn => w_run_V (ci := 3) mm415 mm416 dX3_movesAll_27 (Or.inl (List.mem_singleton.mp hc)) (Nat.le_of_ble_eq_true rfl) vc_3 rfl q3156 q3158 qs125 q150 q3159 pa416 hn)
theorem n415_30 : Snd mt G 415 30 (oPutf [4] 28 .int 33) := w_putf (hm := mm415) dX3_movesAll_30 (pok1 (k := 28) (T := TX3) 3 (Nat.le_of_ble_eq_true rfl) vc_3 (Nat.le_of_ble_eq_true rfl) rfl pd_X3_28 q2433)
theorem n415_33 : Snd mt G 415 33 (oAload 0 34) := w_aload_n (hm := mm415) dX3_movesAll_33
theorem n415_34 : Snd mt G 415 34 (oAload 0 35) := w_aload_n (hm := mm415) dX3_movesAll_34
theorem n415_35 : Snd mt G 415 35 (oIload 1 36) := w_iload_n (hm := mm415) dX3_movesAll_35
theorem n415_36 : Snd mt G 415 36 (oAload 0 37) := w_aload_n (hm := mm415) dX3_movesAll_36
theorem n415_37 : Snd mt G 415 37 (oGetf [4] 29 40) := w_getf (hm := mm415) dX3_movesAll_37 (fok1 (k := 29) (T := TX3) 3 (Nat.le_of_ble_eq_true rfl) vc_3 (Nat.le_of_ble_eq_true rfl) q2434)
theorem n415_40 : Snd mt G 415 40 (oIload 2 41) := w_iload_n (hm := mm415) dX3_movesAll_40
theorem n415_41 : Snd mt G 415 41 (oCall 4 (fV [4] 416 4) 0 44 xOut) := s_callV (m' := 416) (n := 3) xsh_out (w_xok0 mm415) (w_cal mm415 mm416 pn_X3 (Nat.le_of_ble_eq_true rfl) (Nat.le_of_ble_eq_true rfl)) (fun h b as hc hn => w_run_V (ci := 3) mm415 mm416 dX3_movesAll_41 (Or.inl (List.mem_singleton.mp hc)) (Nat.le_of_ble_eq_true rfl) vc_3 rfl q3156 q3158 qs125 q150 q3159 pa416 hn)
theorem n415_44 : Snd mt G 415 44 (oPutf [4] 29 .int 47) := w_putf (hm := mm415) dX3_movesAll_44 (pok1 (k := 29) (T := TX3) 3 (Nat.le_of_ble_eq_true rfl) vc_3 (Nat.le_of_ble_eq_true rfl) rfl pd_X3_29 q2434)
theorem n415_47 : Snd mt G 415 47 (oAload 0 48) := w_aload_n (hm := mm415) dX3_movesAll_47
theorem n415_48 : Snd mt G 415 48 (oAload 0 49) := w_aload_n (hm := mm415) dX3_movesAll_48
theorem n415_49 : Snd mt G 415 49 (oIload 1 50) := w_iload_n (hm := mm415) dX3_movesAll_49
theorem n415_50 : Snd mt G 415 50 (oAload 0 51) := w_aload_n (hm := mm415) dX3_movesAll_50
theorem n415_51 : Snd mt G 415 51 (oGetf [4] 30 54) := w_getf (hm := mm415) dX3_movesAll_51 (fok1 (k := 30) (T := TX3) 3 (Nat.le_of_ble_eq_true rfl) vc_3 (Nat.le_of_ble_eq_true rfl) q2435)
theorem n415_54 : Snd mt G 415 54 (oIload 2 55) := w_iload_n (hm := mm415) dX3_movesAll_54
theorem n415_55 : Snd mt G 415 55 (oCall 4 (fV [4] 416 4) 0 58 xOut) := s_callV (m' := 416) (n := 3) xsh_out (w_xok0 mm415) (w_cal mm415 mm416 pn_X3 (Nat.le_of_ble_eq_true rfl) (Nat.le_of_ble_eq_true rfl)) (fun h b as hc hn => w_run_V (ci := 3) mm415 mm416 dX3_movesAll_55 (Or.inl (List.mem_singleton.mp hc)) (Nat.le_of_ble_eq_true rfl) vc_3 rfl q3156 q3158 qs125 q150 q3159 pa416 hn)
theorem n415_58 : Snd mt G 415 58 (oPutf [4] 30 .int 61) := w_putf (hm := mm415) dX3_movesAll_58 (pok1 (k := 30) (T := TX3) 3 (Nat.le_of_ble_eq_true rfl) vc_3 (Nat.le_of_ble_eq_true rfl) rfl pd_X3_30 q2435)
theorem n415_61 : Snd mt G 415 61 (oAload 0 62) := w_aload_n (hm := mm415) dX3_movesAll_61
theorem n415_62 : Snd mt G 415 62 (oAload 0 63) := w_aload_n (hm := mm415) dX3_movesAll_62
theorem n415_63 : Snd mt G 415 63 (oIload 1 64) := w_iload_n (hm := mm415) dX3_movesAll_63
theorem n415_64 : Snd mt G 415 64 (oAload 0 65) := w_aload_n (hm := mm415) dX3_movesAll_64
theorem n415_65 : Snd mt G 415 65 (oGetf [4] 31 68) := w_getf (hm := mm415) dX3_movesAll_65 (fok1 (k := 31) (T := TX3) 3 (Nat.le_of_ble_eq_true rfl) vc_3 (Nat.le_of_ble_eq_true rfl) q2436)
theorem n415_68 : Snd mt G 415 68 (oIload 2 69) := w_iload_n (hm := mm415) dX3_movesAll_68
theorem n415_69 : Snd mt G 415 69 (oCall 4 (fV [4] 416 4) 0 72 xOut) := s_callV (m' := 416) (n := 3) xsh_out (w_xok0 mm415) (w_cal mm415 mm416 pn_X3 (Nat.le_of_ble_eq_true rfl) (Nat.le_of_ble_eq_true rfl)) (fun h b as hc hn => w_run_V (ci := 3) mm415 mm416 dX3_movesAll_69 (Or.inl (List.mem_singleton.mp hc)) (Nat.le_of_ble_eq_true rfl) vc_3 rfl q3156 q3158 qs125 q150 q3159 pa416 hn)
theorem n415_72 : Snd mt G 415 72 (oPutf [4] 31 .int 75) := w_putf (hm := mm415) dX3_movesAll_72 (pok1 (k := 31) (T := TX3) 3 (Nat.le_of_ble_eq_true rfl) vc_3 (Nat.le_of_ble_eq_true rfl) rfl pd_X3_31 q2436)
theorem n415_75 : Snd mt G 415 75 (oAload 0 76) := w_aload_n (hm := mm415) dX3_movesAll_75
theorem n415_76 : Snd mt G 415 76 (oAload 0 77) := w_aload_n (hm := mm415) dX3_movesAll_76
theorem n415_77 : Snd mt G 415 77 (oIload 1 78) := w_iload_n (hm := mm415) dX3_movesAll_77
theorem n415_78 : Snd mt G 415 78 (oAload 0 79) := w_aload_n (hm := mm415) dX3_movesAll_78
theorem n415_79 : Snd mt G 415 79 (oGetf [4] 32 82) := w_getf (hm := mm415) dX3_movesAll_79 (fok1 (k := 32) (T := TX3) 3 (Nat.le_of_ble_eq_true rfl) vc_3 (Nat.le_of_ble_eq_true rfl) q2437)
theorem n415_82 : Snd mt G 415 82 (oIload 2 83) := w_iload_n (hm := mm415) dX3_movesAll_82
theorem n415_83 : Snd mt G 415 83 (oCall 4 (fV [4] 416 4) 0 86 xOut) := s_callV (m' := 416) (n := 3) xsh_out (w_xok0 mm415) (w_cal mm415 mm416 pn_X3 (Nat.le_of_ble_eq_true rfl) (Nat.le_of_ble_eq_true rfl)) (fun h b as hc hn => w_run_V (ci := 3) mm415 mm416 dX3_movesAll_83 (Or.inl (List.mem_singleton.mp hc)) (Nat.le_of_ble_eq_true rfl) vc_3 rfl q3156 q3158 qs125 q150 q3159 pa416 hn)
theorem n415_86 : Snd mt G 415 86 (oPutf [4] 32 .int 89) := w_putf (hm := mm415) dX3_movesAll_86 (pok1 (k := 32) (T := TX3) 3 (Nat.le_of_ble_eq_true rfl) vc_3 (Nat.le_of_ble_eq_true rfl) rfl pd_X3_32 q2437)
theorem n415_89 : Snd mt G 415 89 (oAload 0 90) := w_aload_n (hm := mm415) dX3_movesAll_89
theorem n415_90 : Snd mt G 415 90 (oAload 0 91) := w_aload_n (hm := mm415) dX3_movesAll_90
theorem n415_91 : Snd mt G 415 91 (oIload 1 92) := w_iload_n (hm := mm415) dX3_movesAll_91
theorem n415_92 : Snd mt G 415 92 (oAload 0 93) := w_aload_n (hm := mm415) dX3_movesAll_92
theorem n415_93 : Snd mt G 415 93 (oGetf [4] 33 96) := w_getf (hm := mm415) dX3_movesAll_93 (fok1 (k := 33) (T := TX3) 3 (Nat.le_of_ble_eq_true rfl) vc_3 (Nat.le_of_ble_eq_true rfl) q2438)
theorem n415_96 : Snd mt G 415 96 (oIload 2 97) := w_iload_n (hm := mm415) dX3_movesAll_96
theorem n415_97 : Snd mt G 415 97 (oCall 4 (fV [4] 416 4) 0 100 xOut) := s_callV (m' := 416) (n := 3) xsh_out (w_xok0 mm415) (w_cal mm415 mm416 pn_X3 (Nat.le_of_ble_eq_true rfl) (Nat.le_of_ble_eq_true rfl)) (fun h b as hc hn => w_run_V (ci := 3) mm415 mm416 dX3_movesAll_97 (Or.inl (List.mem_singleton.mp hc)) (Nat.le_of_ble_eq_true rfl) vc_3 rfl q3156 q3158 qs125 q150 q3159 pa416 hn)
theorem n415_100 : Snd mt G 415 100 (oPutf [4] 33 .int 103) := w_putf (hm := mm415) dX3_movesAll_100 (pok1 (k := 33) (T := TX3) 3 (Nat.le_of_ble_eq_true rfl) vc_3 (Nat.le_of_ble_eq_true rfl) rfl pd_X3_33 q2438)
theorem n415_103 : Snd mt G 415 103 (oAload 0 104) := w_aload_n (hm := mm415) dX3_movesAll_103
theorem n415_104 : Snd mt G 415 104 (oAload 0 105) := w_aload_n (hm := mm415) dX3_movesAll_104
theorem n415_105 : Snd mt G 415 105 (oIload 1 106) := w_iload_n (hm := mm415) dX3_movesAll_105
theorem n415_106 : Snd mt G 415 106 (oAload 0 107) := w_aload_n (hm := mm415) dX3_movesAll_106
theorem n415_107 : Snd mt G 415 107 (oGetf [4] 34 110) := w_getf (hm := mm415) dX3_movesAll_107 (fok1 (k := 34) (T := TX3) 3 (Nat.le_of_ble_eq_true rfl) vc_3 (Nat.le_of_ble_eq_true rfl) q2439)
theorem n415_110 : Snd mt G 415 110 (oIload 2 111) := w_iload_n (hm := mm415) dX3_movesAll_110
theorem n415_111 : Snd mt G 415 111 (oCall 4 (fV [4] 416 4) 0 114 xOut) := s_callV (m' := 416) (n := 3) xsh_out (w_xok0 mm415) (w_cal mm415 mm416 pn_X3 (Nat.le_of_ble_eq_true rfl) (Nat.le_of_ble_eq_true rfl)) (fun h b as hc hn => w_run_V (ci := 3) mm415 mm416 dX3_movesAll_111 (Or.inl (List.mem_singleton.mp hc)) (Nat.le_of_ble_eq_true rfl) vc_3 rfl q3156 q3158 qs125 q150 q3159 pa416 hn)
theorem n415_114 : Snd mt G 415 114 (oPutf [4] 34 .int 117) := w_putf (hm := mm415) dX3_movesAll_114 (pok1 (k := 34) (T := TX3) 3 (Nat.le_of_ble_eq_true rfl) vc_3 (Nat.le_of_ble_eq_true rfl) rfl pd_X3_34 q2439)
theorem n415_117 : Snd mt G 415 117 (oAload 0 118) := w_aload_n (hm := mm415) dX3_movesAll_117
theorem n415_118 : Snd mt G 415 118 (oAload 0 119) := w_aload_n (hm := mm415) dX3_movesAll_118
theorem n415_119 : Snd mt G 415 119 (oIload 1 120) := w_iload_n (hm := mm415) dX3_movesAll_119
theorem n415_120 : Snd mt G 415 120 (oAload 0 121) := w_aload_n (hm := mm415) dX3_movesAll_120
theorem n415_121 : Snd mt G 415 121 (oGetf [4] 35 124) := w_getf (hm := mm415) dX3_movesAll_121 (fok1 (k := 35) (T := TX3) 3 (Nat.le_of_ble_eq_true rfl) vc_3 (Nat.le_of_ble_eq_true rfl) q2440)
theorem n415_124 : Snd mt G 415 124 (oIload 2 125) := w_iload_n (hm := mm415) dX3_movesAll_124
theorem n415_125 : Snd mt G 415 125 (oCall 4 (fV [4] 416 4) 0 128 xOut) := s_callV (m' := 416) (n := 3) xsh_out (w_xok0 mm415) (w_cal mm415 mm416 pn_X3 (Nat.le_of_ble_eq_true rfl) (Nat.le_of_ble_eq_true rfl)) (fun h b as hc hn => w_run_V (ci := 3) mm415 mm416 dX3_movesAll_125 (Or.inl (List.mem_singleton.mp hc)) (Nat.le_of_ble_eq_true rfl) vc_3 rfl q3156 q3158 qs125 q150 q3159 pa416 hn)
theorem n415_128 : Snd mt G 415 128 (oPutf [4] 35 .int 131) := w_putf (hm := mm415) dX3_movesAll_128 (pok1 (k := 35) (T := TX3) 3 (Nat.le_of_ble_eq_true rfl) vc_3 (Nat.le_of_ble_eq_true rfl) rfl pd_X3_35 q2440)
theorem n415_131 : Snd mt G 415 131 (oAload 0 132) := w_aload_n (hm := mm415) dX3_movesAll_131
theorem n415_132 : Snd mt G 415 132 (oAload 0 133) := w_aload_n (hm := mm415) dX3_movesAll_132
theorem n415_133 : Snd mt G 415 133 (oIload 1 134) := w_iload_n (hm := mm415) dX3_movesAll_133
theorem n415_134 : Snd mt G 415 134 (oAload 0 135) := w_aload_n (hm := mm415) dX3_movesAll_134
theorem n415_135 : Snd mt G 415 135 (oGetf [4] 37 138) := w_getf (hm := mm415) dX3_movesAll_135 (fok1 (k := 37) (T := TX3) 3 (Nat.le_of_ble_eq_true rfl) vc_3 (Nat.le_of_ble_eq_true rfl) q2442)
theorem n415_138 : Snd mt G 415 138 (oIload 2 139) := w_iload_n (hm := mm415) dX3_movesAll_138
theorem n415_139 : Snd mt G 415 139 (oCall 4 (fV [4] 416 4) 0 142 xOut) := s_callV (m' := 416) (n := 3) xsh_out (w_xok0 mm415) (w_cal mm415 mm416 pn_X3 (Nat.le_of_ble_eq_true rfl) (Nat.le_of_ble_eq_true rfl)) (fun h b as hc hn => w_run_V (ci := 3) mm415 mm416 dX3_movesAll_139 (Or.inl (List.mem_singleton.mp hc)) (Nat.le_of_ble_eq_true rfl) vc_3 rfl q3156 q3158 qs125 q150 q3159 pa416 hn)
theorem n415_142 : Snd mt G 415 142 (oPutf [4] 37 .int 145) := w_putf (hm := mm415) dX3_movesAll_142 (pok1 (k := 37) (T := TX3) 3 (Nat.le_of_ble_eq_true rfl) vc_3 (Nat.le_of_ble_eq_true rfl) rfl pd_X3_37 q2442)
theorem n415_145 : Snd mt G 415 145 (oAload 0 146) := w_aload_n (hm := mm415) dX3_movesAll_145
theorem n415_146 : Snd mt G 415 146 (oAload 0 147) := w_aload_n (hm := mm415) dX3_movesAll_146
theorem n415_147 : Snd mt G 415 147 (oIload 1 148) := w_iload_n (hm := mm415) dX3_movesAll_147
theorem n415_148 : Snd mt G 415 148 (oAload 0 149) := w_aload_n (hm := mm415) dX3_movesAll_148
theorem n415_149 : Snd mt G 415 149 (oGetf [4] 38 152) := w_getf (hm := mm415) dX3_movesAll_149 (fok1 (k := 38) (T := TX3) 3 (Nat.le_of_ble_eq_true rfl) vc_3 (Nat.le_of_ble_eq_true rfl) q2443)
theorem n415_152 : Snd mt G 415 152 (oIload 2 153) := w_iload_n (hm := mm415) dX3_movesAll_152
theorem n415_153 : Snd mt G 415 153 (oCall 4 (fV [4] 416 4) 0 156 xOut) := s_callV (m' := 416) (n := 3) xsh_out (w_xok0 mm415) (w_cal mm415 mm416 pn_X3 (Nat.le_of_ble_eq_true rfl) (Nat.le_of_ble_eq_true rfl)) (fun h b as hc hn => w_run_V (ci := 3) mm415 mm416 dX3_movesAll_153 (Or.inl (List.mem_singleton.mp hc)) (Nat.le_of_ble_eq_true rfl) vc_3 rfl q3156 q3158 qs125 q150 q3159 pa416 hn)
theorem n415_156 : Snd mt G 415 156 (oPutf [4] 38 .int 159) := w_putf (hm := mm415) dX3_movesAll_156 (pok1 (k := 38) (T := TX3) 3 (Nat.le_of_ble_eq_true rfl) vc_3 (Nat.le_of_ble_eq_true rfl) rfl pd_X3_38 q2443)
theorem n415_159 : Snd mt G 415 159 (oAload 0 160) := w_aload_n (hm := mm415) dX3_movesAll_159
theorem n415_160 : Snd mt G 415 160 (oAload 0 161) := w_aload_n (hm := mm415) dX3_movesAll_160
theorem n415_161 : Snd mt G 415 161 (oIload 1 162) := w_iload_n (hm := mm415) dX3_movesAll_161
theorem n415_162 : Snd mt G 415 162 (oAload 0 163) := w_aload_n (hm := mm415) dX3_movesAll_162
theorem n415_163 : Snd mt G 415 163 (oGetf [4] 39 166) := w_getf (hm := mm415) dX3_movesAll_163 (fok1 (k := 39) (T := TX3) 3 (Nat.le_of_ble_eq_true rfl) vc_3 (Nat.le_of_ble_eq_true rfl) q2444)
theorem n415_166 : Snd mt G 415 166 (oIload 2 167) := w_iload_n (hm := mm415) dX3_movesAll_166
theorem n415_167 : Snd mt G 415 167 (oCall 4 (fV [4] 416 4) 0 170 xOut) := s_callV (m' := 416) (n := 3) xsh_out (w_xok0 mm415) (w_cal mm415 mm416 pn_X3 (Nat.le_of_ble_eq_true rfl) (Nat.le_of_ble_eq_true rfl)) (fun h b as hc hn => w_run_V (ci := 3) mm415 mm416 dX3_movesAll_167 (Or.inl (List.mem_singleton.mp hc)) (Nat.le_of_ble_eq_true rfl) vc_3 rfl q3156 q3158 qs125 q150 q3159 pa416 hn)
theorem n415_170 : Snd mt G 415 170 (oPutf [4] 39 .int 173) := w_putf (hm := mm415) dX3_movesAll_170 (pok1 (k := 39) (T := TX3) 3 (Nat.le_of_ble_eq_true rfl) vc_3 (Nat.le_of_ble_eq_true rfl) rfl pd_X3_39 q2444)
theorem n415_173 : Snd mt G 415 173 (oAload 0 174) := w_aload_n (hm := mm415) dX3_movesAll_173
theorem n415_174 : Snd mt G 415 174 (oAload 0 175) := w_aload_n (hm := mm415) dX3_movesAll_174
theorem n415_175 : Snd mt G 415 175 (oIload 1 176) := w_iload_n (hm := mm415) dX3_movesAll_175
theorem n415_176 : Snd mt G 415 176 (oAload 0 177) := w_aload_n (hm := mm415) dX3_movesAll_176
theorem n415_177 : Snd mt G 415 177 (oGetf [4] 40 180) := w_getf (hm := mm415) dX3_movesAll_177 (fok1 (k := 40) (T := TX3) 3 (Nat.le_of_ble_eq_true rfl) vc_3 (Nat.le_of_ble_eq_true rfl) q2445)
theorem n415_180 : Snd mt G 415 180 (oIload 2 181) := w_iload_n (hm := mm415) dX3_movesAll_180
theorem n415_181 : Snd mt G 415 181 (oCall 4 (fV [4] 416 4) 0 184 xOut) := s_callV (m' := 416) (n := 3) xsh_out (w_xok0 mm415) (w_cal mm415 mm416 pn_X3 (Nat.le_of_ble_eq_true rfl) (Nat.le_of_ble_eq_true rfl)) (fun h b as hc hn => w_run_V (ci := 3) mm415 mm416 dX3_movesAll_181 (Or.inl (List.mem_singleton.mp hc)) (Nat.le_of_ble_eq_true rfl) vc_3 rfl q3156 q3158 qs125 q150 q3159 pa416 hn)
theorem n415_184 : Snd mt G 415 184 (oPutf [4] 40 .int 187) := w_putf (hm := mm415) dX3_movesAll_184 (pok1 (k := 40) (T := TX3) 3 (Nat.le_of_ble_eq_true rfl) vc_3 (Nat.le_of_ble_eq_true rfl) rfl pd_X3_40 q2445)
theorem n415_187 : Snd mt G 415 187 (oAload 0 188) := w_aload_n (hm := mm415) dX3_movesAll_187
theorem n415_188 : Snd mt G 415 188 (oAload 0 189) := w_aload_n (hm := mm415) dX3_movesAll_188
theorem n415_189 : Snd mt G 415 189 (oIload 1 190) := w_iload_n (hm := mm415) dX3_movesAll_189
theorem n415_190 : Snd mt G 415 190 (oAload 0 191) := w_aload_n (hm := mm415) dX3_movesAll_190
theorem n415_191 : Snd mt G 415 191 (oGetf [4] 41 194) := w_getf (hm := mm415) dX3_movesAll_191 (fok1 (k := 41) (T := TX3) 3 (Nat.le_of_ble_eq_true rfl) vc_3 (Nat.le_of_ble_eq_true rfl) q2446)
theorem n415_194 : Snd mt G 415 194 (oIload 2 195) := w_iload_n (hm := mm415) dX3_movesAll_194
theorem n415_195 : Snd mt G 415 195 (oCall 4 (fV [4] 416 4) 0 198 xOut) := s_callV (m' := 416) (n := 3) xsh_out (w_xok0 mm415) (w_cal mm415 mm416 pn_X3 (Nat.le_of_ble_eq_true rfl) (Nat.le_of_ble_eq_true rfl)) (fun h b as hc hn => w_run_V (ci := 3) mm415 mm416 dX3_movesAll_195 (Or.inl (List.mem_singleton.mp hc)) (Nat.le_of_ble_eq_true rfl) vc_3 rfl q3156 q3158 qs125 q150 q3159 pa416 hn)
theorem n415_198 : Snd mt G 415 198 (oPutf [4] 41 .int 201) := w_putf (hm := mm415) dX3_movesAll_198 (pok1 (k := 41) (T := TX3) 3 (Nat.le_of_ble_eq_true rfl) vc_3 (Nat.le_of_ble_eq_true rfl) rfl pd_X3_41 q2446)
theorem n415_201 : Snd mt G 415 201 (oAload 0 202) := w_aload_n (hm := mm415) dX3_movesAll_201
theorem n415_202 : Snd mt G 415 202 (oAload 0 203) := w_aload_n (hm := mm415) dX3_movesAll_202
theorem n415_203 : Snd mt G 415 203 (oIload 1 204) := w_iload_n (hm := mm415) dX3_movesAll_203
theorem n415_204 : Snd mt G 415 204 (oAload 0 205) := w_aload_n (hm := mm415) dX3_movesAll_204
theorem n415_205 : Snd mt G 415 205 (oGetf [4] 42 208) := w_getf (hm := mm415) dX3_movesAll_205 (fok1 (k := 42) (T := TX3) 3 (Nat.le_of_ble_eq_true rfl) vc_3 (Nat.le_of_ble_eq_true rfl) q2447)
theorem n415_208 : Snd mt G 415 208 (oIload 2 209) := w_iload_n (hm := mm415) dX3_movesAll_208
theorem n415_209 : Snd mt G 415 209 (oCall 4 (fV [4] 416 4) 0 212 xOut) := s_callV (m' := 416) (n := 3) xsh_out (w_xok0 mm415) (w_cal mm415 mm416 pn_X3 (Nat.le_of_ble_eq_true rfl) (Nat.le_of_ble_eq_true rfl)) (fun h b as hc hn => w_run_V (ci := 3) mm415 mm416 dX3_movesAll_209 (Or.inl (List.mem_singleton.mp hc)) (Nat.le_of_ble_eq_true rfl) vc_3 rfl q3156 q3158 qs125 q150 q3159 pa416 hn)
theorem n415_212 : Snd mt G 415 212 (oPutf [4] 42 .int 215) := w_putf (hm := mm415) dX3_movesAll_212 (pok1 (k := 42) (T := TX3) 3 (Nat.le_of_ble_eq_true rfl) vc_3 (Nat.le_of_ble_eq_true rfl) rfl pd_X3_42 q2447)
theorem n415_215 : Snd mt G 415 215 (oAload 0 216) := w_aload_n (hm := mm415) dX3_movesAll_215
theorem n415_216 : Snd mt G 415 216 (oAload 0 217) := w_aload_n (hm := mm415) dX3_movesAll_216
theorem n415_217 : Snd mt G 415 217 (oIload 1 218) := w_iload_n (hm := mm415) dX3_movesAll_217
theorem n415_218 : Snd mt G 415 218 (oAload 0 219) := w_aload_n (hm := mm415) dX3_movesAll_218
theorem n415_219 : Snd mt G 415 219 (oGetf [4] 43 222) := w_getf (hm := mm415) dX3_movesAll_219 (fok1 (k := 43) (T := TX3) 3 (Nat.le_of_ble_eq_true rfl) vc_3 (Nat.le_of_ble_eq_true rfl) q2448)
theorem n415_222 : Snd mt G 415 222 (oIload 2 223) := w_iload_n (hm := mm415) dX3_movesAll_222
theorem n415_223 : Snd mt G 415 223 (oCall 4 (fV [4] 416 4) 0 226 xOut) := s_callV (m' := 416) (n := 3) xsh_out (w_xok0 mm415) (w_cal mm415 mm416 pn_X3 (Nat.le_of_ble_eq_true rfl) (Nat.le_of_ble_eq_true rfl)) (fun h b as hc hn => w_run_V (ci := 3) mm415 mm416 dX3_movesAll_223 (Or.inl (List.mem_singleton.mp hc)) (Nat.le_of_ble_eq_true rfl) vc_3 rfl q3156 q3158 qs125 q150 q3159 pa416 hn)
theorem n415_226 : Snd mt G 415 226 (oPutf [4] 43 .int 229) := w_putf (hm := mm415) dX3_movesAll_226 (pok1 (k := 43) (T := TX3) 3 (Nat.le_of_ble_eq_true rfl) vc_3 (Nat.le_of_ble_eq_true rfl) rfl pd_X3_43 q2448)
theorem n415_229 : Snd mt G 415 229 (oAload 0 230) := w_aload_n (hm := mm415) dX3_movesAll_229
theorem n415_230 : Snd mt G 415 230 (oAload 0 231) := w_aload_n (hm := mm415) dX3_movesAll_230
theorem n415_231 : Snd mt G 415 231 (oIload 1 232) := w_iload_n (hm := mm415) dX3_movesAll_231
theorem n415_232 : Snd mt G 415 232 (oAload 0 233) := w_aload_n (hm := mm415) dX3_movesAll_232
theorem n415_233 : Snd mt G 415 233 (oGetf [4] 44 236) := w_getf (hm := mm415) dX3_movesAll_233 (fok1 (k := 44) (T := TX3) 3 (Nat.le_of_ble_eq_true rfl) vc_3 (Nat.le_of_ble_eq_true rfl) q2449)
theorem n415_236 : Snd mt G 415 236 (oIload 2 237) := w_iload_n (hm := mm415) dX3_movesAll_236
theorem n415_237 : Snd mt G 415 237 (oCall 4 (fV [4] 416 4) 0 240 xOut) := s_callV (m' := 416) (n := 3) xsh_out (w_xok0 mm415) (w_cal mm415 mm416 pn_X3 (Nat.le_of_ble_eq_true rfl) (Nat.le_of_ble_eq_true rfl)) (fun h b as hc hn => w_run_V (ci := 3) mm415 mm416 dX3_movesAll_237 (Or.inl (List.mem_singleton.mp hc)) (Nat.le_of_ble_eq_true rfl) vc_3 rfl q3156 q3158 qs125 q150 q3159 pa416 hn)
theorem n415_240 : Snd mt G 415 240 (oPutf [4] 44 .int 243) := w_putf (hm := mm415) dX3_movesAll_240 (pok1 (k := 44) (T := TX3) 3 (Nat.le_of_ble_eq_true rfl) vc_3 (Nat.le_of_ble_eq_true rfl) rfl pd_X3_44 q2449)
theorem n415_243 : Snd mt G 415 243 (oAload 0 244) := w_aload_n (hm := mm415) dX3_movesAll_243
theorem n415_244 : Snd mt G 415 244 (oIload 1 245) := w_iload_n (hm := mm415) dX3_movesAll_244
theorem n415_245 : Snd mt G 415 245 (oAload 0 246) := w_aload_n (hm := mm415) dX3_movesAll_245
theorem n415_246 : Snd mt G 415 246 (oGetf [4] 47 249) := w_getf (hm := mm415) dX3_movesAll_246 (fok1 (k := 47) (T := TX3) 3 (Nat.le_of_ble_eq_true rfl) vc_3 (Nat.le_of_ble_eq_true rfl) q2452)
theorem n415_249 : Snd mt G 415 249 (oIload 2 250) := w_iload_n (hm := mm415) dX3_movesAll_249
theorem n415_250 : Snd mt G 415 250 (oCall 4 (fV [4] 417 5) 0 253 xOut) := s_callV (m' := 417) (n := 3) xsh_out (w_xok0 mm415) (w_cal mm415 mm417 pn_X3 (Nat.le_of_ble_eq_true rfl) (Nat.le_of_ble_eq_true rfl)) (fun h b as hc hn => w_run_V (ci := 3) mm415 mm417 dX3_movesAll_250 (Or.inl (List.mem_singleton.mp hc)) (Nat.le_of_ble_eq_true rfl) vc_3 rfl q3160 q3162 qs126 q150 q3163 pa417 hn)
theorem n415_253 : Snd mt G 415 253 (oAload 0 254) := w_aload_n (hm := mm415) dX3_movesAll_253
theorem n415_254 : Snd mt G 415 254 (oIload 1 255) := w_iload_n (hm := mm415) dX3_movesAll_254
theorem n415_255 : Snd mt G 415 255 (oAload 0 256) := w_aload_n (hm := mm415) dX3_movesAll_255
theorem n415_256 : Snd mt G 415 256 (oGetf [4] 48 259) := w_getf (hm := mm415) dX3_movesAll_256 (fok1 (k := 48) (T := TX3) 3 (Nat.le_of_ble_eq_true rfl) vc_3 (Nat.le_of_ble_eq_true rfl) q2453)
theorem n415_259 : Snd mt G 415 259 (oIload 2 260) := w_iload_n (hm := mm415) dX3_movesAll_259
theorem n415_260 : Snd mt G 415 260 (oCall 4 (fV [4] 417 5) 0 263 xOut) := s_callV (m' := 417) (n := 3) xsh_out (w_xok0 mm415) (w_cal mm415 mm417 pn_X3 (Nat.le_of_ble_eq_true rfl) (Nat.le_of_ble_eq_true rfl)) (fun h b as hc hn => w_run_V (ci := 3) mm415 mm417 dX3_movesAll_260 (Or.inl (List.mem_singleton.mp hc)) (Nat.le_of_ble_eq_true rfl) vc_3 rfl q3160 q3162 qs126 q150 q3163 pa417 hn)
theorem n415_263 : Snd mt G 415 263 (oAload 0 264) := w_aload_n (hm := mm415) dX3_movesAll_263
theorem n415_264 : Snd mt G 415 264 (oIload 1 265) := w_iload_n (hm := mm415) dX3_movesAll_264
theorem n415_265 : Snd mt G 415 265 (oAload 0 266) := w_aload_n (hm := mm415) dX3_movesAll_265
theorem n415_266 : Snd mt G 415 266 (oGetf [4] 49 269) := w_getf (hm := mm415) dX3_movesAll_266 (fok1 (k := 49) (T := TX3) 3 (Nat.le_of_ble_eq_true rfl) vc_3 (Nat.le_of_ble_eq_true rfl) q2454)
theorem n415_269 : Snd mt G 415 269 (oIload 2 270) := w_iload_n (hm := mm415) dX3_movesAll_269
theorem n415_270 : Snd mt G 415 270 (oCall 4 (fV [4] 418 5) 0 273 xOut) := s_callV (m' := 418) (n := 3) xsh_out (w_xok0 mm415) (w_cal mm415 mm418 pn_X3 (Nat.le_of_ble_eq_true rfl) (Nat.le_of_ble_eq_true rfl)) (fun h b as hc hn => w_run_V (ci := 3) mm415 mm418 dX3_movesAll_270 (Or.inl (List.mem_singleton.mp hc)) (Nat.le_of_ble_eq_true rfl) vc_3 rfl q3164 q3166 qs127 q150 q3167 pa418 hn)
theorem n415_273 : Snd mt G 415 273 (oAload 0 274) := w_aload_n (hm := mm415) dX3_movesAll_273
theorem n415_274 : Snd mt G 415 274 (oIload 1 275) := w_iload_n (hm := mm415) dX3_movesAll_274
theorem n415_275 : Snd mt G 415 275 (oAload 0 276) := w_aload_n (hm := mm415) dX3_movesAll_275
theorem n415_276 : Snd mt G 415 276 (oGetf [4] 50 279) := w_getf (hm := mm415) dX3_movesAll_276 (fok1 (k := 50) (T := TX3) 3 (Nat.le_of_ble_eq_true rfl) vc_3 (Nat.le_of_ble_eq_true rfl) q2455)
theorem n415_279 : Snd mt G 415 279 (oIload 2 280) := w_iload_n (hm := mm415) dX3_movesAll_279
theorem n415_280 : Snd mt G 415 280 (oCall 4 (fV [4] 418 5) 0 283 xOut) := s_callV (m' := 418) (n := 3) xsh_out (w_xok0 mm415) (w_cal mm415 mm418 pn_X3 (Nat.le_of_ble_eq_true rfl) (Nat.le_of_ble_eq_true rfl)) (fun h b as hc hn => w_run_V (ci := 3) mm415 mm418 dX3_movesAll_280 (Or.inl (List.mem_singleton.mp hc)) (Nat.le_of_ble_eq_true rfl) vc_3 rfl q3164 q3166 qs127 q150 q3167 pa418 hn)
theorem n415_283 : Snd mt G 415 283 (oAload 0 284) := w_aload_n (hm := mm415) dX3_movesAll_283
theorem n415_284 : Snd mt G 415 284 (oIload 1 285) := w_iload_n (hm := mm415) dX3_movesAll_284
theorem n415_285 : Snd mt G 415 285 (oAload 0 286) := w_aload_n (hm := mm415) dX3_movesAll_285
theorem n415_286 : Snd mt G 415 286 (oGetf [4] 51 289) := w_getf (hm := mm415) dX3_movesAll_286 (fok1 (k := 51) (T := TX3) 3 (Nat.le_of_ble_eq_true rfl) vc_3 (Nat.le_of_ble_eq_true rfl) q2456)
theorem n415_289 : Snd mt G 415 289 (oIload 2 290) := w_iload_n (hm := mm415) dX3_movesAll_289
theorem n415_290 : Snd mt G 415 290 (oCall 4 (fV [4] 417 5) 0 293 xOut) := s_callV (m' := 417) (n := 3) xsh_out (w_xok0 mm415) (w_cal mm415 mm417 pn_X3 (Nat.le_of_ble_eq_true rfl) (Nat.le_of_ble_eq_true rfl)) (fun h b as hc hn => w_run_V (ci := 3) mm415 mm417 dX3_movesAll_290 (Or.inl (List.mem_singleton.mp hc)) (Nat.le_of_ble_eq_true rfl) vc_3 rfl q3160 q3162 qs126 q150 q3163 pa417 hn)
theorem n415_293 : Snd mt G 415 293 (oAload 0 294) := w_aload_n (hm := mm415) dX3_movesAll_293
theorem n415_294 : Snd mt G 415 294 (oIload 1 295) := w_iload_n (hm := mm415) dX3_movesAll_294
theorem n415_295 : Snd mt G 415 295 (oAload 0 296) := w_aload_n (hm := mm415) dX3_movesAll_295
theorem n415_296 : Snd mt G 415 296 (oGetf [4] 52 299) := w_getf (hm := mm415) dX3_movesAll_296 (fok1 (k := 52) (T := TX3) 3 (Nat.le_of_ble_eq_true rfl) vc_3 (Nat.le_of_ble_eq_true rfl) q2457)
theorem n415_299 : Snd mt G 415 299 (oIload 2 300) := w_iload_n (hm := mm415) dX3_movesAll_299
theorem n415_300 : Snd mt G 415 300 (oCall 4 (fV [4] 417 5) 0 303 xOut) := s_callV (m' := 417) (n := 3) xsh_out (w_xok0 mm415) (w_cal mm415 mm417 pn_X3 (Nat.le_of_ble_eq_true rfl) (Nat.le_of_ble_eq_true rfl)) (fun h b as hc hn => w_run_V (ci := 3) mm415 mm417 dX3_movesAll_300 (Or.inl (List.mem_singleton.mp hc)) (Nat.le_of_ble_eq_true rfl) vc_3 rfl q3160 q3162 qs126 q150 q3163 pa417 hn)
theorem n415_303 : Snd mt G 415 303 (oAload 0 304) := w_aload_n (hm := mm415) dX3_movesAll_303
theorem n415_304 : Snd mt G 415 304 (oIload 1 305) := w_iload_n (hm := mm415) dX3_movesAll_304
theorem n415_305 : Snd mt G 415 305 (oAload 0 306) := w_aload_n (hm := mm415) dX3_movesAll_305
theorem n415_306 : Snd mt G 415 306 (oGetf [4] 53 309) := w_getf (hm := mm415) dX3_movesAll_306 (fok1 (k := 53) (T := TX3) 3 (Nat.le_of_ble_eq_true rfl) vc_3 (Nat.le_of_ble_eq_true rfl) q2458)
theorem n415_309 : Snd mt G 415 309 (oIload 2 310) := w_iload_n (hm := mm415) dX3_movesAll_309
theorem n415_310 : Snd mt G 415 310 (oCall 4 (fV [4] 418 5) 0 313 xOut) := s_callV (m' := 418) (n := 3) xsh_out (w_xok0 mm415) (w_cal mm415 mm418 pn_X3 (Nat.le_of_ble_eq_true rfl) (Nat.le_of_ble_eq_true rfl)) (fun h b as hc hn => w_run_V (ci := 3) mm415 mm418 dX3_movesAll_310 (Or.inl (List.mem_singleton.mp hc)) (Nat.le_of_ble_eq_true rfl) vc_3 rfl q3164 q3166 qs127 q150 q3167 pa418 hn)
theorem n415_313 : Snd mt G 415 313 (oAload 0 314) := w_aload_n (hm := mm415) dX3_movesAll_313
theorem n415_314 : Snd mt G 415 314 (oIload 1 315) := w_iload_n (hm := mm415) dX3_movesAll_314
theorem n415_315 : Snd mt G 415 315 (oAload 0 316) := w_aload_n (hm := mm415) dX3_movesAll_315
theorem n415_316 : Snd mt G 415 316 (oGetf [4] 54 319) := w_getf (hm := mm415) dX3_movesAll_316 (fok1 (k := 54) (T := TX3) 3 (Nat.le_of_ble_eq_true rfl) vc_3 (Nat.le_of_ble_eq_true rfl) q2459)
theorem n415_319 : Snd mt G 415 319 (oIload 2 320) := w_iload_n (hm := mm415) dX3_movesAll_319
theorem n415_320 : Snd mt G 415 320 (oCall 4 (fV [4] 418 5) 0 323 xOut) := s_callV (m' := 418) (n := 3) xsh_out (w_xok0 mm415) (w_cal mm415 mm418 pn_X3 (Nat.le_of_ble_eq_true rfl) (Nat.le_of_ble_eq_true rfl)) (fun h b as hc hn => w_run_V (ci := 3) mm415 mm418 dX3_movesAll_320 (Or.inl (List.mem_singleton.mp hc)) (Nat.le_of_ble_eq_true rfl) vc_3 rfl q3164 q3166 qs127 q150 q3167 pa418 hn)
theorem n415_323 : Snd mt G 415 323 (oAload 0 324) := w_aload_n (hm := mm415) dX3_movesAll_323
theorem n415_324 : Snd mt G 415 324 (oIload 1 325) := w_iload_n (hm := mm415) dX3_movesAll_324
theorem n415_325 : Snd mt G 415 325 (oAload 0 326) := w_aload_n (hm := mm415) dX3_movesAll_325
theorem n415_326 : Snd mt G 415 326 (oGetf [4] 45 329) := w_getf (hm := mm415) dX3_movesAll_326 (fok1 (k := 45) (T := TX3) 3 (Nat.le_of_ble_eq_true rfl) vc_3 (Nat.le_of_ble_eq_true rfl) q2450)
theorem n415_329 : Snd mt G 415 329 (oIload 2 330) := w_iload_n (hm := mm415) dX3_movesAll_329
theorem n415_330 : Snd mt G 415 330 (oCall 4 (fV [4] 418 5) 0 333 xOut) := s_callV (m' := 418) (n := 3) xsh_out (w_xok0 mm415) (w_cal mm415 mm418 pn_X3 (Nat.le_of_ble_eq_true rfl) (Nat.le_of_ble_eq_true rfl)) (fun h b as hc hn => w_run_V (ci := 3) mm415 mm418 dX3_movesAll_330 (Or.inl (List.mem_singleton.mp hc)) (Nat.le_of_ble_eq_true rfl) vc_3 rfl q3164 q3166 qs127 q150 q3167 pa418 hn)
theorem n415_333 : Snd mt G 415 333 (oAload 0 334) := w_aload_n (hm := mm415) dX3_movesAll_333
theorem n415_334 : Snd mt G 415 334 (oIload 1 335) := w_iload_n (hm := mm415) dX3_movesAll_334
theorem n415_335 : Snd mt G 415 335 (oAload 0 336) := w_aload_n (hm := mm415) dX3_movesAll_335
theorem n415_336 : Snd mt G 415 336 (oGetf [4] 46 339) := w_getf (hm := mm415) dX3_movesAll_336 (fok1 (k := 46) (T := TX3) 3 (Nat.le_of_ble_eq_true rfl) vc_3 (Nat.le_of_ble_eq_true rfl) q2451)
theorem n415_339 : Snd mt G 415 339 (oIload 2 340) := w_iload_n (hm := mm415) dX3_movesAll_339
theorem n415_340 : Snd mt G 415 340 (oCall 4 (fV [4] 418 5) 0 343 xOut) := s_callV (m' := 418) (n := 3) xsh_out (w_xok0 mm415) (w_cal mm415 mm418 pn_X3 (Nat.le_of_ble_eq_true rfl) (Nat.le_of_ble_eq_true rfl)) (fun h b as hc hn => w_run_V (ci := 3) mm415 mm418 dX3_movesAll_340 (Or.inl (List.mem_singleton.mp hc)) (Nat.le_of_ble_eq_true rfl) vc_3 rfl q3164 q3166 qs127 q150 q3167 pa418 hn)
theorem n415_343 : Snd mt G 415 343 (oAload 0 344) := w_aload_n (hm := mm415) dX3_movesAll_343
theorem n415_344 : Snd mt G 415 344 (oIload 1 345) := w_iload_n (hm := mm415) dX3_movesAll_344
theorem n415_345 : Snd mt G 415 345 (oAload 0 346) := w_aload_n (hm := mm415) dX3_movesAll_345
theorem n415_346 : Snd mt G 415 346 (oGetf [4] 55 349) := w_getf (hm := mm415) dX3_movesAll_346 (fok1 (k := 55) (T := TX3) 3 (Nat.le_of_ble_eq_true rfl) vc_3 (Nat.le_of_ble_eq_true rfl) q2460)
theorem n415_349 : Snd mt G 415 349 (oIload 2 350) := w_iload_n (hm := mm415) dX3_movesAll_349
theorem n415_350 : Snd mt G 415 350 (oCall 4 (fV [4] 418 5) 0 353 xOut) := s_callV (m' := 418) (n := 3) xsh_out (w_xok0 mm415) (w_cal mm415 mm418 pn_X3 (Nat.le_of_ble_eq_true rfl) (Nat.le_of_ble_eq_true rfl)) (fun h b as hc hn => w_run_V (ci := 3) mm415 mm418 dX3_movesAll_350 (Or.inl (List.mem_singleton.mp hc)) (Nat.le_of_ble_eq_true rfl) vc_3 rfl q3164 q3166 qs127 q150 q3167 pa418 hn)
theorem n415_353 : Snd mt G 415 353 (oAload 0 354) := w_aload_n (hm := mm415) dX3_movesAll_353
theorem n415_354 : Snd mt G 415 354 (oIload 1 355) := w_iload_n (hm := mm415) dX3_movesAll_354
theorem n415_355 : Snd mt G 415 355 (oAload 0 356) := w_aload_n (hm := mm415) dX3_movesAll_355
theorem n415_356 : Snd mt G 415 356 (oGetf [4] 56 359) := w_getf (hm := mm415) dX3_movesAll_356 (fok1 (k := 56) (T := TX3) 3 (Nat.le_of_ble_eq_true rfl) vc_3 (Nat.le_of_ble_eq_true rfl) q2461)
theorem n415_359 : Snd mt G 415 359 (oIload 2 360) := w_iload_n (hm := mm415) dX3_movesAll_359
theorem n415_360 : Snd mt G 415 360 (oCall 4 (fV [4] 418 5) 0 363 xOut) := s_callV (m' := 418) (n := 3) xsh_out (w_xok0 mm415) (w_cal mm415 mm418 pn_X3 (Nat.le_of_ble_eq_true rfl) (Nat.le_of_ble_eq_true rfl)) (fun h b as hc hn => w_run_V (ci := 3) mm415 mm418 dX3_movesAll_360 (Or.inl (List.mem_singleton.mp hc)) (Nat.le_of_ble_eq_true rfl) vc_3 rfl q3164 q3166 qs127 q150 q3167 pa418 hn)
theorem n415_363 : Snd mt G 415 363 (oAload 0 364) := w_aload_n (hm := mm415) dX3_movesAll_363
theorem n415_364 : Snd mt G 415 364 (oIload 1 365) := w_iload_n (hm := mm415) dX3_movesAll_364
theorem n415_365 : Snd mt G 415 365 (oAload 0 366) := w_aload_n (hm := mm415) dX3_movesAll_365
theorem n415_366 : Snd mt G 415 366 (oGetf [4] 57 369) := w_getf (hm := mm415) dX3_movesAll_366 (fok1 (k := 57) (T := TX3) 3 (Nat.le_of_ble_eq_true rfl) vc_3 (Nat.le_of_ble_eq_true rfl) q2462)
theorem n415_369 : Snd mt G 415 369 (oIload 2 370) := w_iload_n (hm := mm415) dX3_movesAll_369
theorem n415_370 : Snd mt G 415 370 (oCall 4 (fV [4] 418 5) 0 373 xOut) := s_callV (m' := 418) (n := 3) xsh_out (w_xok0 mm415) (w_cal mm415 mm418 pn_X3 (Nat.le_of_ble_eq_true rfl) (Nat.le_of_ble_eq_true rfl)) (fun h b as hc hn => w_run_V (ci := 3) mm415 mm418 dX3_movesAll_370 (Or.inl (List.mem_singleton.mp hc)) (Nat.le_of_ble_eq_true rfl) vc_3 rfl q3164 q3166 qs127 q150 q3167 pa418 hn)
theorem n415_373 : Snd mt G 415 373 (oAload 0 374) := w_aload_n (hm := mm415) dX3_movesAll_373
theorem n415_374 : Snd mt G 415 374 (oIload 1 375) := w_iload_n (hm := mm415) dX3_movesAll_374
theorem n415_375 : Snd mt G 415 375 (oAload 0 376) := w_aload_n (hm := mm415) dX3_movesAll_375
theorem n415_376 : Snd mt G 415 376 (oGetf [4] 58 379) := w_getf (hm := mm415) dX3_movesAll_376 (fok1 (k := 58) (T := TX3) 3 (Nat.le_of_ble_eq_true rfl) vc_3 (Nat.le_of_ble_eq_true rfl) q2463)
theorem n415_379 : Snd mt G 415 379 (oIload 2 380) := w_iload_n (hm := mm415) dX3_movesAll_379
theorem n415_380 : Snd mt G 415 380 (oCall 4 (fV [4] 418 5) 0 383 xOut) := s_callV (m' := 418) (n := 3) xsh_out (w_xok0 mm415) (w_cal mm415 mm418 pn_X3 (Nat.le_of_ble_eq_true rfl) (Nat.le_of_ble_eq_true rfl)) (fun h b as hc hn => w_run_V (ci := 3) mm415 mm418 dX3_movesAll_380 (Or.inl (List.mem_singleton.mp hc)) (Nat.le_of_ble_eq_true rfl) vc_3 rfl q3164 q3166 qs127 q150 q3167 pa418 hn)
theorem n415_383 : Snd mt G 415 383 (oAload 0 384) := w_aload_n (hm := mm415) dX3_movesAll_383
theorem n415_384 : Snd mt G 415 384 (oIload 1 385) := w_iload_n (hm := mm415) dX3_movesAll_384
theorem n415_385 : Snd mt G 415 385 (oAload 0 386) := w_aload_n (hm := mm415) dX3_movesAll_385
theorem n415_386 : Snd mt G 415 386 (oGetf [4] 59 389) := w_getf (hm := mm415) dX3_movesAll_386 (fok1 (k := 59) (T := TX3) 3 (Nat.le_of_ble_eq_true rfl) vc_3 (Nat.le_of_ble_eq_true rfl) q2464)
theorem n415_389 : Snd mt G 415 389 (oIload 2 390) := w_iload_n (hm := mm415) dX3_movesAll_389
theorem n415_390 : Snd mt G 415 390 (oCall 4 (fV [4] 417 5) 0 393 xOut) := s_callV (m' := 417) (n := 3) xsh_out (w_xok0 mm415) (w_cal mm415 mm417 pn_X3 (Nat.le_of_ble_eq_true rfl) (Nat.le_of_ble_eq_true rfl)) (fun h b as hc hn => w_run_V (ci := 3) mm415 mm417 dX3_movesAll_390 (Or.inl (List.mem_singleton.mp hc)) (Nat.le_of_ble_eq_true rfl) vc_3 rfl q3160 q3162 qs126 q150 q3163 pa417 hn)
theorem n415_393 : Snd mt G 415 393 (oRetV) := w_vret (hm := mm415) dX3_movesAll_393 rfl
theorem sj415 : ∀ pc, Snd mt G 415 pc (j415 pc) := fun pc => (snd_br ((snd_br ((snd_br ((snd_br ((snd_br ((snd_br ((snd_br ((snd_br ((snd_lf n415_393)) ((snd_lf n415_390)))) ((snd_br ((snd_lf n415_389)) ((snd_lf n415_386)))))) ((snd_br ((snd_br ((snd_lf n415_385)) ((snd_lf n415_384)))) ((snd_br ((snd_lf n415_383)) ((snd_lf n415_380)))))))) ((snd_br ((snd_br ((snd_br ((snd_lf n415_379)) ((snd_lf n415_376)))) ((snd_br ((snd_lf n415_375)) ((snd_lf n415_374)))))) ((snd_br ((snd_br ((snd_lf n415_373)) ((snd_lf n415_370)))) ((snd_lf n415_369)))))))) ((snd_br ((snd_br ((snd_br ((snd_br ((snd_lf n415_366)) ((snd_lf n415_365)))) ((snd_br ((snd_lf n415_364)) ((snd_lf n415_363)))))) ((snd_br ((snd_br ((snd_lf n415_360)) ((snd_lf n415_359)))) ((snd_lf n415_356)))))) ((snd_br ((snd_br ((snd_br ((snd_lf n415_355)) ((snd_lf n415_354)))) ((snd_br ((snd_lf n415_353)) ((snd_lf n415_350)))))) ((snd_br ((snd_br ((snd_lf n415_349)) ((snd_lf n415_346)))) ((snd_lf n415_345)))))))))) ((snd_br ((snd_br ((snd_br ((snd_br ((snd_br ((snd_lf n415_344)) ((snd_lf n415_343)))) ((snd_br ((snd_lf n415_340)) ((snd_lf n415_339)))))) ((snd_br ((snd_br ((snd_lf n415_336)) ((snd_lf n415_335)))) ((snd_br ((snd_lf n415_334)) ((snd_lf n415_333)))))))) ((snd_br ((snd_br ((snd_br ((snd_lf n415_330)) ((snd_lf n415_329)))) ((snd_br ((snd_lf n415_326)) ((snd_lf n415_325)))))) ((snd_br ((snd_br ((snd_lf n415_324)) ((snd_lf n415_323)))) ((snd_lf n415_320)))))))) ((snd_br ((snd_br ((snd_br ((snd_br ((snd_lf n415_319)) ((snd_lf n415_316)))) ((snd_br ((snd_lf n415_315)) ((snd_lf n415_314)))))) ((snd_br ((snd_br ((snd_lf n415_313)) ((snd_lf n415_310)))) ((snd_lf n415_309)))))) ((snd_br ((snd_br ((snd_br ((snd_lf n415_306)) ((snd_lf n415_305)))) ((snd_br ((snd_lf n415_304)) ((snd_lf n415_303)))))) ((snd_br ((snd_br ((snd_lf n415_300)) ((snd_lf n415_299)))) ((snd_lf n415_296)))))))))))) ((snd_br ((snd_br ((snd_br ((snd_br ((snd_br ((snd_br ((snd_lf n415_295)) ((snd_lf n415_294)))) ((snd_br ((snd_lf n415_293)) ((snd_lf n415_290)))))) ((snd_br ((snd_br ((snd_lf n415_289)) ((snd_lf n415_286)))) ((snd_br ((snd_lf n415_285)) ((snd_lf n415_284)))))))) ((snd_br ((snd_br ((snd_br ((snd_lf n415_283)) ((snd_lf n415_280)))) ((snd_br ((snd_lf n415_279)) ((snd_lf n415_276)))))) ((snd_br ((snd_br ((snd_lf n415_275)) ((snd_lf n415_274)))) ((snd_lf n415_273)))))))) ((snd_br ((snd_br ((snd_br ((snd_br ((snd_lf n415_270)) ((snd_lf n415_269)))) ((snd_br ((snd_lf n415_266)) ((snd_lf n415_265)))))) ((snd_br ((snd_br ((snd_lf n415_264)) ((snd_lf n415_263)))) ((snd_lf n415_260)))))) ((snd_br ((snd_br ((snd_br ((snd_lf n415_259)) ((snd_lf n415_256)))) ((snd_br ((snd_lf n415_255)) ((snd_lf n415_254)))))) ((snd_br ((snd_br ((snd_lf n415_253)) ((snd_lf n415_250)))) ((snd_lf n415_249)))))))))) ((snd_br ((snd_br ((snd_br ((snd_br ((snd_br ((snd_lf n415_246)) ((snd_lf n415_245)))) ((snd_br ((snd_lf n415_244)) ((snd_lf n415_243)))))) ((snd_br ((snd_br ((snd_lf n415_240)) ((snd_lf n415_237)))) ((snd_lf n415_236)))))) ((snd_br ((snd_br ((snd_br ((snd_lf n415_233)) ((snd_lf n415_232)))) ((snd_br ((snd_lf n415_231)) ((snd_lf n415_230)))))) ((snd_br ((snd_br ((snd_lf n415_229)) ((snd_lf n415_226)))) ((snd_lf n415_223)))))))) ((snd_br ((snd_br ((snd_br ((snd_br ((snd_lf n415_222)) ((snd_lf n415_219)))) ((snd_br ((snd_lf n415_218)) ((snd_lf n415_217)))))) ((snd_br ((snd_br ((snd_lf n415_216)) ((snd_lf n415_215)))) ((snd_lf n415_212)))))) ((snd_br ((snd_br ((snd_br ((snd_lf n415_209)) ((snd_lf n415_208)))) ((snd_br ((snd_lf n415_205)) ((snd_lf n415_204)))))) ((snd_br ((snd_br ((snd_lf n415_203)) ((snd_lf n415_202)))) ((snd_lf n415_201)))))))))))))) ((snd_br ((snd_br ((snd_br ((snd_br ((snd_br ((snd_br ((snd_br ((snd_lf n415_198)) ((snd_lf n415_195)))) ((snd_br ((snd_lf n415_194)) ((snd_lf n415_191)))))) ((snd_br ((snd_br ((snd_lf n415_190)) ((snd_lf n415_189)))) ((snd_br ((snd_lf n415_188)) ((snd_lf n415_187)))))))) ((snd_br ((snd_br ((snd_br ((snd_lf n415_184)) ((snd_lf n415_181)))) ((snd_br ((snd_lf n415_180)) ((snd_lf n415_177)))))) ((snd_br ((snd_br ((snd_lf n415_176)) ((snd_lf n415_175)))) ((snd_lf n415_174)))))))) ((snd_br ((snd_br ((snd_br ((snd_br ((snd_lf n415_173)) ((snd_lf n415_170)))) ((snd_br ((snd_lf n415_167)) ((snd_lf n415_166)))))) ((snd_br ((snd_br ((snd_lf n415_163)) ((snd_lf n415_162)))) ((snd_lf n415_161)))))) ((snd_br ((snd_br ((snd_br ((snd_lf n415_160)) ((snd_lf n415_159)))) ((snd_br ((snd_lf n415_156)) ((snd_lf n415_153)))))) ((snd_br ((snd_br ((snd_lf n415_152)) ((snd_lf n415_149)))) ((snd_lf n415_148)))))))))) ((snd_br ((snd_br ((snd_br ((snd_br ((snd_br ((snd_lf n415_147)) ((snd_lf n415_146)))) ((snd_br ((snd_lf n415_145)) ((snd_lf n415_142)))))) ((snd_br ((snd_br ((snd_lf n415_139)) ((snd_lf n415_138)))) ((snd_br ((snd_lf n415_135)) ((snd_lf n415_134)))))))) ((snd_br ((snd_br ((snd_br ((snd_lf n415_133)) ((snd_lf n415_132)))) ((snd_br ((snd_lf n415_131)) ((snd_lf n415_128)))))) ((snd_br ((snd_br ((snd_lf n415_125)) ((snd_lf n415_124)))) ((snd_lf n415_121)))))))) ((snd_br ((snd_br ((snd_br ((snd_br ((snd_lf n415_120)) ((snd_lf n415_119)))) ((snd_br ((snd_lf n415_118)) ((snd_lf n415_117)))))) ((snd_br ((snd_br ((snd_lf n415_114)) ((snd_lf n415_111)))) ((snd_lf n415_110)))))) ((snd_br ((snd_br ((snd_br ((snd_lf n415_107)) ((snd_lf n415_106)))) ((snd_br ((snd_lf n415_105)) ((snd_lf n415_104)))))) ((snd_br ((snd_br ((snd_lf n415_103)) ((snd_lf n415_100)))) ((snd_lf n415_97)))))))))))) ((snd_br ((snd_br ((snd_br ((snd_br ((snd_br ((snd_br ((snd_lf n415_96)) ((snd_lf n415_93)))) ((snd_br ((snd_lf n415_92)) ((snd_lf n415_91)))))) ((snd_br ((snd_br ((snd_lf n415_90)) ((snd_lf n415_89)))) ((snd_br ((snd_lf n415_86)) ((snd_lf n415_83)))))))) ((snd_br ((snd_br ((snd_br ((snd_lf n415_82)) ((snd_lf n415_79)))) ((snd_br ((snd_lf n415_78)) ((snd_lf n415_77)))))) ((snd_br ((snd_br ((snd_lf n415_76)) ((snd_lf n415_75)))) ((snd_lf n415_72)))))))) ((snd_br ((snd_br ((snd_br ((snd_br ((snd_lf n415_69)) ((snd_lf n415_68)))) ((snd_br ((snd_lf n415_65)) ((snd_lf n415_64)))))) ((snd_br ((snd_br ((snd_lf n415_63)) ((snd_lf n415_62)))) ((snd_lf n415_61)))))) ((snd_br ((snd_br ((snd_br ((snd_lf n415_58)) ((snd_lf n415_55)))) ((snd_br ((snd_lf n415_54)) ((snd_lf n415_51)))))) ((snd_br ((snd_br ((snd_lf n415_50)) ((snd_lf n415_49)))) ((snd_lf n415_48)))))))))) ((snd_br ((snd_br ((snd_br ((snd_br ((snd_br ((snd_lf n415_47)) ((snd_lf n415_44)))) ((snd_br ((snd_lf n415_41)) ((snd_lf n415_40)))))) ((snd_br ((snd_br ((snd_lf n415_37)) ((snd_lf n415_36)))) ((snd_lf n415_35)))))) ((snd_br ((snd_br ((snd_br ((snd_lf n415_34)) ((snd_lf n415_33)))) ((snd_br ((snd_lf n415_30)) ((snd_lf n415_27)))))) ((snd_br ((snd_br ((snd_lf n415_26)) ((snd_lf n415_23)))) ((snd_lf n415_22)))))))) ((snd_br ((snd_br ((snd_br ((snd_br ((snd_lf n415_21)) ((snd_lf n415_20)))) ((snd_br ((snd_lf n415_19)) ((snd_lf n415_16)))))) ((snd_br ((snd_br ((snd_lf n415_13)) ((snd_lf n415_12)))) ((snd_lf n415_9)))))) ((snd_br ((snd_br ((snd_br ((snd_lf n415_8)) ((snd_lf n415_7)))) ((snd_br ((snd_lf n415_6)) ((snd_lf n415_5)))))) ((snd_br ((snd_br ((snd_lf n415_2)) ((snd_lf n415_1)))) ((snd_lf n415_0)))))))))))))))
end
section
variable {G : AG}
theorem n416_0 : Snd mt G 416 0 (oIload 3 1) := w_iload_n (hm := mm416) dX3_moves_0
theorem n416_1 : Snd mt G 416 1 (oIfEq 4 16) := w_if_ne (hm := mm416) dX3_moves_1 rfl
theorem n416_4 : Snd mt G 416 4 (oAload 0 5) := w_aload_n (hm := mm416) dX3_moves_4
theorem n416_5 : Snd mt G 416 5 (oGetf [4] 68 8) := w_getf (hm := mm416) dX3_moves_5 (fok1 (k := 68) (T := TX3) 3 (Nat.le_of_ble_eq_true rfl) vc_3 (Nat.le_of_ble_eq_true rfl) q2473)
theorem n416_8 : Snd mt G 416 8 (oIload 1 9) := w_iload_n (hm := mm416) dX3_moves_8
theorem n416_9 : Snd mt G 416 9 (oAld [106] 10) := w_aaload (hm := mm416) (kt := 6) dX3_moves_9 rfl at_6 (Nat.le_of_ble_eq_true rfl) (List.forall_mem_cons.mpr ⟨Or.inl rfl, (fun t ht => nomatch ht)⟩)
theorem n416_10 : Snd mt G 416 10 (oAload 0 11) := w_aload_n (hm := mm416) dX3_moves_10
theorem n416_11 : Snd mt G 416 11 (oGetf [4] 69 14) := w_getf (hm := mm416) dX3_moves_11 (fok1 (k := 69) (T := TX3) 3 (Nat.le_of_ble_eq_true rfl) vc_3 (Nat.le_of_ble_eq_true rfl) q2474)
theorem n416_14 : Snd mt G 416 14 (oIload 2 15) := w_iload_n (hm := mm416) dX3_moves_14
theorem n416_15 : Snd mt G 416 15 (oIast [100] 16) := w_iastore (hm := mm416) (kt := 0) dX3_moves_15 at_0 (Nat.le_of_ble_eq_true rfl) (List.forall_mem_cons.mpr ⟨rfl, (fun t ht => nomatch ht)⟩)
theorem n416_16 : Snd mt G 416 16 (oAload 0 17) := w_aload_n (hm := mm416) dX3_moves_16
theorem n416_17 : Snd mt G 416 17 (oDup 18) := w_dup (hm := mm416) dX3_moves_17
theorem n416_18 : Snd mt G 416 18 (oGetf [4] 69 21) := w_getf (hm := mm416) dX3_moves_18 (fok1 (k := 69) (T := TX3) 3 (Nat.le_of_ble_eq_true rfl) vc_3 (Nat.le_of_ble_eq_true rfl) q2474)
theorem n416_21 : Snd mt G 416 21 (oConst (.int 1) 22) := w_iconst (hm := mm416) dX3_moves_21 rfl
theorem n416_22 : Snd mt G 416 22 (oBin (fun x y => x + y) 23) := w_iadd (hm := mm416) dX3_moves_22
theorem n416_23 : Snd mt G 416 23 (oPutf [4] 69 .int 26) := w_putf (hm := mm416) dX3_moves_23 (pok1 (k := 69) (T := TX3) 3 (Nat.le_of_ble_eq_true rfl) vc_3 (Nat.le_of_ble_eq_true rfl) rfl pd_X3_69 q2474)
theorem n416_26 : Snd mt G 416 26 (oAload 0 27) := w_aload_n (hm := mm416) dX3_moves_26
theorem n416_27 : Snd mt G 416 27 (oGetf [4] 68 30) := w_getf (hm := mm416) dX3_moves_27 (fok1 (k := 68) (T := TX3) 3 (Nat.le_of_ble_eq_true rfl) vc_3 (Nat.le_of_ble_eq_true rfl) q2473)
theorem n416_30 : Snd mt G 416 30 (oIload 1 31) := w_iload_n (hm := mm416) dX3_moves_30
theorem n416_31 : Snd mt G 416 31 (oAld [106] 32) := w_aaload (hm := mm416) (kt := 6) dX3_moves_31 rfl at_6 (Nat.le_of_ble_eq_true rfl) (List.forall_mem_cons.mpr ⟨Or.inl rfl, (fun t ht => nomatch ht)⟩)
theorem n416_32 : Snd mt G 416 32 (oAload 0 33) := w_aload_n (hm := mm416) dX3_moves_32
theorem n416_33 : Snd mt G 416 33 (oGetf [4] 69 36) := w_getf (hm := mm416) dX3_moves_33 (fok1 (k := 69) (T := TX3) 3 (Nat.le_of_ble_eq_true rfl) vc_3 (Nat.le_of_ble_eq_true rfl) q2474)
theorem n416_36 : Snd mt G 416 36 (oConst (.int 1) 37) := w_iconst (hm := mm416) dX3_moves_36 rfl
theorem n416_37 : Snd mt G 416 37 (oBin (fun x y => x - y) 38) := w_isub (hm := mm416) dX3_moves_37
theorem n416_38 : Snd mt G 416 38 (oAld [100] 39) := w_iaload (hm := mm416) (kt := 0) dX3_moves_38 at_0 (Nat.le_of_ble_eq_true rfl) (List.forall_mem_cons.mpr ⟨Or.inl rfl, (fun t ht => nomatch ht)⟩)
theorem n416_39 : Snd mt G 416 39 (oRetI .int) := w_iret (hm := mm416) dX3_moves_39 rfl
theorem sj416 : ∀ pc, Snd mt G 416 pc (j416 pc) := fun pc => (snd_br ((snd_br ((snd_br ((snd_br ((snd_br ((snd_lf n416_39)) ((snd_lf n416_38)))) ((snd_br ((snd_lf n416_37)) ((snd_lf n416_36)))))) ((snd_br ((snd_br ((snd_lf n416_33)) ((snd_lf n416_32)))) ((snd_lf n416_31)))))) ((snd_br ((snd_br ((snd_br ((snd_lf n416_30)) ((snd_lf n416_27)))) ((snd_lf n416_26)))) ((snd_br ((snd_br ((snd_lf n416_23)) ((snd_lf n416_22)))) ((snd_lf n416_21)))))))) ((snd_br ((snd_br ((snd_br ((snd_br ((snd_lf n416_18)) ((snd_lf n416_17)))) ((snd_br ((snd_lf n416_16)) ((snd_lf n416_15)))))) ((snd_br ((snd_br ((snd_lf n416_14)) ((snd_lf n416_11)))) ((snd_lf n416_10)))))) ((snd_br ((snd_br ((snd_br ((snd_lf n416_9)) ((snd_lf n416_8)))) ((snd_lf n416_5)))) ((snd_br ((snd_br ((snd_lf n416_4)) ((snd_lf n416_1)))) ((snd_lf n416_0)))))))))
end
section
variable {G : AG}
theorem n417_0 : Snd mt G 417 0 (oConst (.int 0) 1) := w_iconst (hm := mm417) dX3_movesRow_0 rfl
theorem n417_1 : Snd mt G 417 1 (oIstore 4 3) := w_istore (hm := mm417) dX3_movesRow_1 (Nat.le_of_ble_eq_true rfl)
theorem n417_3 : Snd mt G 417 3 (oIload 4 5) := w_iload (hm := mm417) dX3_movesRow_3
theorem n417_5 : Snd mt G 417 5 (oAload 2 6) := w_aload_n (hm := mm417) dX3_movesRow_5
theorem n417_6 : Snd mt G 417 6 (oAlen 7) := w_alen (hm := mm417) dX3_movesRow_6
theorem n417_7 : Snd mt G 417 7 (oCmpGe 30 10) := w_icmp_ge (hm := mm417) dX3_movesRow_7 rfl
theorem n417_10 : Snd mt G 417 10 (oAload 2 11) := w_aload_n (hm := mm417) dX3_movesRow_10
theorem n417_11 : Snd mt G 417 11 (oIload 4 13) := w_iload (hm := mm417) dX3_movesRow_11
theorem n417_13 : Snd mt G 417 13 (oAload 0 14) := w_aload_n (hm := mm417) dX3_movesRow_13
theorem n417_14 : Snd mt G 417 14 (oIload 1 15) := w_iload_n (hm := mm417) dX3_movesRow_14
theorem n417_15 : Snd mt G 417 15 (oAload 2 16) := w_aload_n (hm := mm417) dX3_movesRow_15
theorem n417_16 : Snd mt G 417 16 (oIload 4 18) := w_iload (hm := mm417) dX3_movesRow_16
theorem n417_18 : Snd mt G 417 18 (oAld [100] 19) := w_iaload (hm := mm417) (kt := 0) dX3_movesRow_18 at_0 (Nat.le_of_ble_eq_true rfl) (List.forall_mem_cons.mpr ⟨Or.inl rfl, (fun t ht => nomatch ht)⟩)
theorem n417_19 : Snd mt G 417 19 (oIload 3 20) := w_iload_n (hm := mm417) dX3_movesRow_19
theorem n417_20 : Snd mt G 417 20 (oCall 4 (fV [4] 416 4) 0 23 xOut) := s_callV (m' := 416) (n := 3) xsh_out (w_xok0 mm417) (w_cal mm417 mm416 pn_X3 (Nat.le_of_ble_eq_true rfl) (Nat.le_of_ble_eq_true rfl)) (fun h b as hc hn => w_run_V (ci := 3) mm417 mm416 dX3_movesRow_20 (Or.inl (List.mem_singleton.mp hc)) (Nat.le_of_ble_eq_true rfl) vc_3 rfl q3156 q3158 qs125 q150 q3159 pa416 hn)
theorem n417_23 : Snd mt G 417 23 (oIast [100] 24) := w_iastore (hm := mm417) (kt := 0) dX3_movesRow_23 at_0 (Nat.le_of_ble_eq_true rfl) (List.forall_mem_cons.mpr ⟨rfl, (fun t ht => nomatch ht)⟩)
theorem n417_24 : Snd mt G 417 24 (oIinc 4 1 27) := w_iinc (hm := mm417) dX3_movesRow_24 rfl (Nat.le_of_ble_eq_true rfl)
theorem n417_27 : Snd mt G 417 27 (oGoto 3) := w_goto (hm := mm417) dX3_movesRow_27 rfl
theorem n417_30 : Snd mt G 417 30 (oRetV) := w_vret (hm := mm417) dX3_movesRow_30 rfl
theorem sj417 : ∀ pc, Snd mt G 417 pc (j417 pc) := fun pc => (snd_br ((snd_br ((snd_br ((snd_br ((snd_br ((snd_lf n417_30)) ((snd_lf n417_27)))) ((snd_lf n417_24)))) ((snd_br ((snd_lf n417_23)) ((snd_lf n417_20)))))) ((snd_br ((snd_br ((snd_br ((snd_lf n417_19)) ((snd_lf n417_18)))) ((snd_lf n417_16)))) ((snd_br ((snd_lf n417_15)) ((snd_lf n417_14)))))))) ((snd_br ((snd_br ((snd_br ((snd_br ((snd_lf n417_13)) ((snd_lf n417_11)))) ((snd_lf n417_10)))) ((snd_br ((snd_lf n417_7)) ((snd_lf n417_6)))))) ((snd_br ((snd_br ((snd_lf n417_5)) ((snd_lf n417_3)))) ((snd_br ((snd_lf n417_1)) ((snd_lf n417_0)))))))))
end
section
variable {G : AG}
theorem n418_0 : Snd mt G 418 0 (oConst (.int 0) 1) := w_iconst (hm := mm418) dX3_movesRows_0 rfl
theorem n418_1 : Snd mt G 418 1 (oIstore 4 3) := w_istore (hm := mm418) dX3_movesRows_1 (Nat.le_of_ble_eq_true rfl)
theorem n418_3 : Snd mt G 418 3 (oIload 4 5) := w_iload (hm := mm418) dX3_movesRows_3
theorem n418_5 : Snd mt G 418 5 (oAload 2 6) := w_aload_n (hm := mm418) dX3_movesRows_5
theorem n418_6 : Snd mt G 418 6 (oAlen 7) := w_alen (hm := mm418) dX3_movesRows_6
theorem n418_7 : Snd mt G 418 7 (oCmpGe 26 10) := w_icmp_ge (hm := mm418) dX3_movesRows_7 rfl
theorem n418_10 : Snd mt G 418 10 (oAload 0 11) := w_aload_n (hm := mm418) dX3_movesRows_10
theorem n418_11 : Snd mt G 418 11 (oIload 1 12) := w_iload_n (hm := mm418) dX3_movesRows_11
theorem n418_12 : Snd mt G 418 12 (oAload 2 13) := w_aload_n (hm := mm418) dX3_movesRows_12
theorem n418_13 : Snd mt G 418 13 (oIload 4 15) := w_iload (hm := mm418) dX3_movesRows_13
theorem n418_15 : Snd mt G 418 15 (oAld [106] 16) := w_aaload (hm := mm418) (kt := 6) dX3_movesRows_15 rfl at_6 (Nat.le_of_ble_eq_true rfl) (List.forall_mem_cons.mpr ⟨Or.inl rfl, (fun t ht => nomatch ht)⟩)
theorem n418_16 : Snd mt G 418 16 (oIload 3 17) := w_iload_n (hm := mm418) dX3_movesRows_16
theorem n418_17 : Snd mt G 418 17 (oCall 4 (fV [4] 417 5) 0 20 xOut) := s_callV (m' := 417) (n := 3) xsh_out (w_xok0 mm418) (w_cal mm418 mm417 pn_X3 (Nat.le_of_ble_eq_true rfl) (Nat.le_of_ble_eq_true rfl)) (fun h b as hc hn => w_run_V (ci := 3) mm418 mm417 dX3_movesRows_17 (Or.inl (List.mem_singleton.mp hc)) (Nat.le_of_ble_eq_true rfl) vc_3 rfl q3160 q3162 qs126 q150 q3163 pa417 hn)
theorem n418_20 : Snd mt G 418 20 (oIinc 4 1 23) := w_iinc (hm := mm418) dX3_movesRows_20 rfl (Nat.le_of_ble_eq_true rfl)
theorem n418_23 : Snd mt G 418 23 (oGoto 3) := w_goto (hm := mm418) dX3_movesRows_23 rfl
theorem n418_26 : Snd mt G 418 26 (oRetV) := w_vret (hm := mm418) dX3_movesRows_26 rfl
theorem sj418 : ∀ pc, Snd mt G 418 pc (j418 pc) := fun pc => (snd_br ((snd_br ((snd_br ((snd_br ((snd_lf n418_26)) ((snd_lf n418_23)))) ((snd_br ((snd_lf n418_20)) ((snd_lf n418_17)))))) ((snd_br ((snd_br ((snd_lf n418_16)) ((snd_lf n418_15)))) ((snd_br ((snd_lf n418_13)) ((snd_lf n418_12)))))))) ((snd_br ((snd_br ((snd_br ((snd_lf n418_11)) ((snd_lf n418_10)))) ((snd_br ((snd_lf n418_7)) ((snd_lf n418_6)))))) ((snd_br ((snd_br ((snd_lf n418_5)) ((snd_lf n418_3)))) ((snd_br ((snd_lf n418_1)) ((snd_lf n418_0)))))))))
end
section
variable {G : AG}
theorem n419_0 : Snd mt G 419 0 (oAload 0 1) := w_aload_n (hm := mm419) dX3_restore_0
theorem n419_1 : Snd mt G 419 1 (oConst (.int 0) 2) := w_iconst (hm := mm419) dX3_restore_1 rfl
theorem n419_2 : Snd mt G 419 2 (oPutf [4] 0 .int 5) := w_putf (hm := mm419) dX3_restore_2 (pok1 (k := 0) (T := TX3) 3 (Nat.le_of_ble_eq_true rfl) vc_3 (Nat.le_of_ble_eq_true rfl) rfl pd_X3_0 q2405)
theorem n419_5 : Snd mt G 419 5 (oAload 0 6) := w_aload_n (hm := mm419) dX3_restore_5
theorem n419_6 : Snd mt G 419 6 (oGetf [4] 36 9) := w_getf (hm := mm419) dX3_restore_6 (fok1 (k := 36) (T := TX3) 3 (Nat.le_of_ble_eq_true rfl) vc_3 (Nat.le_of_ble_eq_true rfl) q2441)
theorem n419_9 : Snd mt G 419 9 (oIfEq 12 14) := w_if_ne (hm := mm419) dX3_restore_9 rfl
theorem n419_12 : Snd mt G 419 12 (oConst (.int (-1)) 13) := w_iconst (hm := mm419) dX3_restore_12 rfl
theorem n419_13 : Snd mt G 419 13 (oRetI .int) := w_iret (hm := mm419) dX3_restore_13 rfl
theorem n419_14 : Snd mt G 419 14 (oAload 0 15) := w_aload_n (hm := mm419) dX3_restore_14
theorem n419_15 : Snd mt G 419 15 (oDup 16) := w_dup (hm := mm419) dX3_restore_15
theorem n419_16 : Snd mt G 419 16 (oGetf [4] 36 19) := w_getf (hm := mm419) dX3_restore_16 (fok1 (k := 36) (T := TX3) 3 (Nat.le_of_ble_eq_true rfl) vc_3 (Nat.le_of_ble_eq_true rfl) q2441)
theorem n419_19 : Snd mt G 419 19 (oConst (.int 1) 20) := w_iconst (hm := mm419) dX3_restore_19 rfl
theorem n419_20 : Snd mt G 419 20 (oBin (fun x y => x - y) 21) := w_isub (hm := mm419) dX3_restore_20
theorem n419_21 : Snd mt G 419 21 (oPutf [4] 36 .int 24) := w_putf (hm := mm419) dX3_restore_21 (pok1 (k := 36) (T := TX3) 3 (Nat.le_of_ble_eq_true rfl) vc_3 (Nat.le_of_ble_eq_true rfl) rfl pd_X3_36 q2441)
theorem n419_24 : Snd mt G 419 24 (oAload 0 25) := w_aload_n (hm := mm419) dX3_restore_24
theorem n419_25 : Snd mt G 419 25 (oAload 0 26) := w_aload_n (hm := mm419) dX3_restore_25
theorem n419_26 : Snd mt G 419 26 (oGetf [4] 36 29) := w_getf (hm := mm419) dX3_restore_26 (fok1 (k := 36) (T := TX3) 3 (Nat.le_of_ble_eq_true rfl) vc_3 (Nat.le_of_ble_eq_true rfl) q2441)
theorem n419_29 : Snd mt G 419 29 (oConst (.int 1) 30) := w_iconst (hm := mm419) dX3_restore_29 rfl
theorem n419_30 : Snd mt G 419 30 (oCall 3 (fV [4] 415 3) 0 33 xOut) := s_callV (m' := 415) (n := 2) xsh_out (w_xok0 mm419) (w_cal mm419 mm415 pn_X3 (Nat.le_of_ble_eq_true rfl) (Nat.le_of_ble_eq_true rfl)) (fun h b as hc hn => w_run_V (ci := 3) mm419 mm415 dX3_restore_30 (Or.inl (List.mem_singleton.mp hc)) (Nat.le_of_ble_eq_true rfl) vc_3 rfl q3152 q3154 qs124 q150 q3155 pa415 hn)
theorem n419_33 : Snd mt G 419 33 (oAload 0 34) := w_aload_n (hm := mm419) dX3_restore_33
theorem n419_34 : Snd mt G 419 34 (oGetf [4] 36 37) := w_getf (hm := mm419) dX3_restore_34 (fok1 (k := 36) (T := TX3) 3 (Nat.le_of_ble_eq_true rfl) vc_3 (Nat.le_of_ble_eq_true rfl) q2441)
theorem n419_37 : Snd mt G 419 37 (oRetI .int) := w_iret (hm := mm419) dX3_restore_37 rfl
theorem sj419 : ∀ pc, Snd mt G 419 pc (j419 pc) := fun pc => (snd_br ((snd_br ((snd_br ((snd_br ((snd_br ((snd_lf n419_37)) ((snd_lf n419_34)))) ((snd_lf n419_33)))) ((snd_br ((snd_br ((snd_lf n419_30)) ((snd_lf n419_29)))) ((snd_lf n419_26)))))) ((snd_br ((snd_br ((snd_br ((snd_lf n419_25)) ((snd_lf n419_24)))) ((snd_lf n419_21)))) ((snd_br ((snd_lf n419_20)) ((snd_lf n419_19)))))))) ((snd_br ((snd_br ((snd_br ((snd_br ((snd_lf n419_16)) ((snd_lf n419_15)))) ((snd_lf n419_14)))) ((snd_br ((snd_br ((snd_lf n419_13)) ((snd_lf n419_12)))) ((snd_lf n419_9)))))) ((snd_br ((snd_br ((snd_br ((snd_lf n419_6)) ((snd_lf n419_5)))) ((snd_lf n419_2)))) ((snd_br ((snd_lf n419_1)) ((snd_lf n419_0)))))))))
end
section
variable {G : AG}
theorem n420_0 : Snd mt G 420 0 (oAload 0 1) := w_aload_n (hm := mm420) dX3_count_0
theorem n420_1 : Snd mt G 420 1 (oConst (.int 0) 2) := w_iconst (hm := mm420) dX3_count_1 rfl
theorem n420_2 : Snd mt G 420 2 (oPutf [4] 0 .int 5) := w_putf (hm := mm420) dX3_count_2 (pok1 (k := 0) (T := TX3) 3 (Nat.le_of_ble_eq_true rfl) vc_3 (Nat.le_of_ble_eq_true rfl) rfl pd_X3_0 q2405)
theorem n420_5 : Snd mt G 420 5 (oIload 1 6) := w_iload_n (hm := mm420) dX3_count_5
theorem n420_6 : Snd mt G 420 6 (oSwitch sw420_6) := w_tableL (hm := mm420) (dfl := 188) (L := [92, 97, 102, 107, 112, 117, 122, 127, 132, 137, 142, 150, 158, 163, 168, 173, 178, 183]) dX3_count_6 rfl rfl (by decide +kernel)
theorem n420_92 : Snd mt G 420 92 (oAload 0 93) := w_aload_n (hm := mm420) dX3_count_92
theorem n420_93 : Snd mt G 420 93 (oGetf [4] 14 96) := w_getf (hm := mm420) dX3_count_93 (fok1 (k := 14) (T := TX3) 3 (Nat.le_of_ble_eq_true rfl) vc_3 (Nat.le_of_ble_eq_true rfl) q2419)
theorem n420_96 : Snd mt G 420 96 (oRetI .int) := w_iret (hm := mm420) dX3_count_96 rfl
theorem n420_97 : Snd mt G 420 97 (oAload 0 98) := w_aload_n (hm := mm420) dX3_count_97
theorem n420_98 : Snd mt G 420 98 (oGetf [4] 28 101) := w_getf (hm := mm420) dX3_count_98 (fok1 (k := 28) (T := TX3) 3 (Nat.le_of_ble_eq_true rfl) vc_3 (Nat.le_of_ble_eq_true rfl) q2433)
theorem n420_101 : Snd mt G 420 101 (oRetI .int) := w_iret (hm := mm420) dX3_count_101 rfl
theorem n420_102 : Snd mt G 420 102 (oAload 0 103) := w_aload_n (hm := mm420) dX3_count_102
theorem n420_103 : Snd mt G 420 103 (oGetf [4] 29 106) := w_getf (hm := mm420) dX3_count_103 (fok1 (k := 29) (T := TX3) 3 (Nat.le_of_ble_eq_true rfl) vc_3 (Nat.le_of_ble_eq_true rfl) q2434)
theorem n420_106 : Snd mt G 420 106 (oRetI .int) := w_iret (hm := mm420) dX3_count_106 rfl
theorem n420_107 : Snd mt G 420 107 (oAload 0 108) := w_aload_n (hm := mm420) dX3_count_107
theorem n420_108 : Snd mt G 420 108 (oGetf [4] 27 111) := w_getf (hm := mm420) dX3_count_108 (fok1 (k := 27) (T := TX3) 3 (Nat.le_of_ble_eq_true rfl) vc_3 (Nat.le_of_ble_eq_true rfl) q2432)
theorem n420_111 : Snd mt G 420 111 (oRetI .int) := w_iret (hm := mm420) dX3_count_111 rfl
theorem n420_112 : Snd mt G 420 112 (oAload 0 113) := w_aload_n (hm := mm420) dX3_count_112
theorem n420_113 : Snd mt G 420 113 (oGetf [4] 30 116) := w_getf (hm := mm420) dX3_count_113 (fok1 (k := 30) (T := TX3) 3 (Nat.le_of_ble_eq_true rfl) vc_3 (Nat.le_of_ble_eq_true rfl) q2435)
theorem n420_116 : Snd mt G 420 116 (oRetI .int) := w_iret (hm := mm420) dX3_count_116 rfl
theorem n420_117 : Snd mt G 420 117 (oAload 0 118) := w_aload_n (hm := mm420) dX3_count_117
theorem n420_118 : Snd mt G 420 118 (oGetf [4] 31 121) := w_getf (hm := mm420) dX3_count_118 (fok1 (k := 31) (T := TX3) 3 (Nat.le_of_ble_eq_true rfl) vc_3 (Nat.le_of_ble_eq_true rfl) q2436)
theorem n420_121 : Snd mt G 420 121 (oRetI .int) := w_iret (hm := mm420) dX3_count_121 rfl
theorem n420_122 : Snd mt G 420 122 (oAload 0 123) := w_aload_n (hm := mm420) dX3_count_122
theorem n420_123 : Snd mt G 420 123 (oGetf [4] 32 126) := w_getf (hm := mm420) dX3_count_123 (fok1 (k := 32) (T := TX3) 3 (Nat.le_of_ble_eq_true rfl) vc_3 (Nat.le_of_ble_eq_true rfl) q2437)
theorem n420_126 : Snd mt G 420 126 (oRetI .int) := w_iret (hm := mm420) dX3_count_126 rfl
theorem n420_127 : Snd mt G 420 127 (oAload 0 128) := w_aload_n (hm := mm420) dX3_count_127
theorem n420_128 : Snd mt G 420 128 (oGetf [4] 35 131) := w_getf (hm := mm420) dX3_count_128 (fok1 (k := 35) (T := TX3) 3 (Nat.le_of_ble_eq_true rfl) vc_3 (Nat.le_of_ble_eq_true rfl) q2440)
theorem n420_131 : Snd mt G 420 131 (oRetI .int) := w_iret (hm := mm420) dX3_count_131 rfl
theorem n420_132 : Snd mt G 420 132 (oAload 0 133) := w_aload_n (hm := mm420) dX3_count_132
theorem n420_133 : Snd mt G 420 133 (oGetf [4] 36 136) := w_getf (hm := mm420) dX3_count_133 (fok1 (k := 36) (T := TX3) 3 (Nat.le_of_ble_eq_true rfl) vc_3 (Nat.le_of_ble_eq_true rfl) q2441)
theorem n420_136 : Snd mt G 420 136 (oRetI .int) := w_iret (hm := mm420) dX3_count_136 rfl
theorem n420_137 : Snd mt G 420 137 (oAload 0 138) := w_aload_n (hm := mm420) dX3_count_137
theorem n420_138 : Snd mt G 420 138 (oGetf [4] 1 141) := w_getf (hm := mm420) dX3_count_138 (fok1 (k := 1) (T := TX3) 3 (Nat.le_of_ble_eq_true rfl) vc_3 (Nat.le_of_ble_eq_true rfl) q2406)
theorem n420_141 : Snd mt G 420 141 (oRetI .int) := w_iret (hm := mm420) dX3_count_141 rfl
theorem n420_142 : Snd mt G 420 142 (oAload 0 143) := w_aload_n (hm := mm420) dX3_count_142
theorem n420_143 : Snd mt G 420 143 (oGetf [4] 33 146) := w_getf (hm := mm420) dX3_count_143 (fok1 (k := 33) (T := TX3) 3 (Nat.le_of_ble_eq_true rfl) vc_3 (Nat.le_of_ble_eq_true rfl) q2438)
theorem n420_146 : Snd mt G 420 146 (oCall 1 (fS 421 3) 0 149 xOut) := s_callS (m' := 421) (n := 1) xsh_out (w_xok0 mm420) (w_cal mm420 mm421 pn_X3 (Nat.le_of_ble_eq_true rfl) (Nat.le_of_ble_eq_true rfl)) (fun h as hn => w_run_S mm420 mm421 dX3_count_146 q3176 q3177 q150 q3178 pa421 hn)
theorem n420_149 : Snd mt G 420 149 (oRetI .int) := w_iret (hm := mm420) dX3_count_149 rfl
theorem n420_150 : Snd mt G 420 150 (oAload 0 151) := w_aload_n (hm := mm420) dX3_count_150
theorem n420_151 : Snd mt G 420 151 (oGetf [4] 34 154) := w_getf (hm := mm420) dX3_count_151 (fok1 (k := 34) (T := TX3) 3 (Nat.le_of_ble_eq_true rfl) vc_3 (Nat.le_of_ble_eq_true rfl) q2439)
theorem n420_154 : Snd mt G 420 154 (oCall 1 (fS 421 3) 0 157 xOut) := s_callS (m' := 421) (n := 1) xsh_out (w_xok0 mm420) (w_cal mm420 mm421 pn_X3 (Nat.le_of_ble_eq_true rfl) (Nat.le_of_ble_eq_true rfl)) (fun h as hn => w_run_S mm420 mm421 dX3_count_154 q3176 q3177 q150 q3178 pa421 hn)
theorem n420_157 : Snd mt G 420 157 (oRetI .int) := w_iret (hm := mm420) dX3_count_157 rfl
theorem n420_158 : Snd mt G 420 158 (oAload 0 159) := w_aload_n (hm := mm420) dX3_count_158
theorem n420_159 : Snd mt G 420 159 (oGetf [4] 38 162) := w_getf (hm := mm420) dX3_count_159 (fok1 (k := 38) (T := TX3) 3 (Nat.le_of_ble_eq_true rfl) vc_3 (Nat.le_of_ble_eq_true rfl) q2443)
theorem n420_162 : Snd mt G 420 162 (oRetI .int) := w_iret (hm := mm420) dX3_count_162 rfl
theorem n420_163 : Snd mt G 420 163 (oAload 0 164) := w_aload_n (hm := mm420) dX3_count_163
theorem n420_164 : Snd mt G 420 164 (oGetf [4] 39 167) := w_getf (hm := mm420) dX3_count_164 (fok1 (k := 39) (T := TX3) 3 (Nat.le_of_ble_eq_true rfl) vc_3 (Nat.le_of_ble_eq_true rfl) q2444)
theorem n420_167 : Snd mt G 420 167 (oRetI .int) := w_iret (hm := mm420) dX3_count_167 rfl
theorem n420_168 : Snd mt G 420 168 (oAload 0 169) := w_aload_n (hm := mm420) dX3_count_168
theorem n420_169 : Snd mt G 420 169 (oGetf [4] 42 172) := w_getf (hm := mm420) dX3_count_169 (fok1 (k := 42) (T := TX3) 3 (Nat.le_of_ble_eq_true rfl) vc_3 (Nat.le_of_ble_eq_true rfl) q2447)
theorem n420_172 : Snd mt G 420 172 (oRetI .int) := w_iret (hm := mm420) dX3_count_172 rfl
theorem n420_173 : Snd mt G 420 173 (oAload 0 174) := w_aload_n (hm := mm420) dX3_count_173
theorem n420_174 : Snd mt G 420 174 (oGetf [4] 44 177) := w_getf (hm := mm420) dX3_count_174 (fok1 (k := 44) (T := TX3) 3 (Nat.le_of_ble_eq_true rfl) vc_3 (Nat.le_of_ble_eq_true rfl) q2449)
theorem n420_177 : Snd mt G 420 177 (oRetI .int) := w_iret (hm := mm420) dX3_count_177 rfl
theorem n420_178 : Snd mt G 420 178 (oAload 0 179) := w_aload_n (hm := mm420) dX3_count_178
theorem n420_179 : Snd mt G 420 179 (oGetf [4] 43 182) := w_getf (hm := mm420) dX3_count_179 (fok1 (k := 43) (T := TX3) 3 (Nat.le_of_ble_eq_true rfl) vc_3 (Nat.le_of_ble_eq_true rfl) q2448)
theorem n420_182 : Snd mt G 420 182 (oRetI .int) := w_iret (hm := mm420) dX3_count_182 rfl
theorem n420_183 : Snd mt G 420 183 (oAload 0 184) := w_aload_n (hm := mm420) dX3_count_183
theorem n420_184 : Snd mt G 420 184 (oGetf [4] 37 187) := w_getf (hm := mm420) dX3_count_184 (fok1 (k := 37) (T := TX3) 3 (Nat.le_of_ble_eq_true rfl) vc_3 (Nat.le_of_ble_eq_true rfl) q2442)
theorem n420_187 : Snd mt G 420 187 (oRetI .int) := w_iret (hm := mm420) dX3_count_187 rfl
theorem n420_188 : Snd mt G 420 188 (oConst (.int (-1)) 189) := w_iconst (hm := mm420) dX3_count_188 rfl
theorem n420_189 : Snd mt G 420 189 (oRetI .int) := w_iret (hm := mm420) dX3_count_189 rfl
theorem sj420 : ∀ pc, Snd mt G 420 pc (j420 pc) := fun pc => (snd_br ((snd_br ((snd_br ((snd_br ((snd_br ((snd_br ((snd_lf n420_189)) ((snd_lf n420_188)))) ((snd_br ((snd_lf n420_187)) ((snd_lf n420_184)))))) ((snd_br ((snd_br ((snd_lf n420_183)) ((snd_lf n420_182)))) ((snd_br ((snd_lf n420_179)) ((snd_lf n420_178)))))))) ((snd_br ((snd_br ((snd_br ((snd_lf n420_177)) ((snd_lf n420_174)))) ((snd_br ((snd_lf n420_173)) ((snd_lf n420_172)))))) ((snd_br ((snd_br ((snd_lf n420_169)) ((snd_lf n420_168)))) ((snd_br ((snd_lf n420_167)) ((snd_lf n420_164)))))))))) ((snd_br ((snd_br ((snd_br ((snd_br ((snd_lf n420_163)) ((snd_lf n420_162)))) ((snd_br ((snd_lf n420_159)) ((snd_lf n420_158)))))) ((snd_br ((snd_br ((snd_lf n420_157)) ((snd_lf n420_154)))) ((snd_br ((snd_lf n420_151)) ((snd_lf n420_150)))))))) ((snd_br ((snd_br ((snd_br ((snd_lf n420_149)) ((snd_lf n420_146)))) ((snd_br ((snd_lf n420_143)) ((snd_lf n420_142)))))) ((snd_br ((snd_br ((snd_lf n420_141)) ((snd_lf n420_138)))) ((snd_br ((snd_lf n420_137)) ((snd_lf n420_136)))))))))))) ((snd_br ((snd_br ((snd_br ((snd_br ((snd_br ((snd_lf n420_133)) ((snd_lf n420_132)))) ((snd_br ((snd_lf n420_131)) ((snd_lf n420_128)))))) ((snd_br ((snd_br ((snd_lf n420_127)) ((snd_lf n420_126)))) ((snd_br ((snd_lf n420_123)) ((snd_lf n420_122)))))))) ((snd_br ((snd_br ((snd_br ((snd_lf n420_121)) ((snd_lf n420_118)))) ((snd_br ((snd_lf n420_117)) ((snd_lf n420_116)))))) ((snd_br ((snd_br ((snd_lf n420_113)) ((snd_lf n420_112)))) ((snd_br ((snd_lf n420_111)) ((snd_lf n420_108)))))))))) ((snd_br ((snd_br ((snd_br ((snd_br ((snd_lf n420_107)) ((snd_lf n420_106)))) ((snd_br ((snd_lf n420_103)) ((snd_lf n420_102)))))) ((snd_br ((snd_br ((snd_lf n420_101)) ((snd_lf n420_98)))) ((snd_br ((snd_lf n420_97)) ((snd_lf n420_96)))))))) ((snd_br ((snd_br ((snd_br ((snd_lf n420_93)) ((snd_lf n420_92)))) ((snd_br ((snd_lf n420_6)) ((snd_lf n420_5)))))) ((snd_br ((snd_br ((snd_lf n420_2)) ((snd_lf n420_1)))) ((snd_lf n420_0)))))))))))
end
section
variable {G : AG}
theorem n421_0 : Snd mt G 421 0 (oConst (.int 0) 1) := w_iconst (hm := mm421) dX3_ones_0 rfl
theorem n421_1 : Snd mt G 421 1 (oIstore 1 2) := w_istore_n (hm := mm421) dX3_ones_1 (Nat.le_of_ble_eq_true rfl)
theorem n421_2 : Snd mt G 421 2 (oConst (.int 0) 3) := w_iconst (hm := mm421) dX3_ones_2 rfl
theorem n421_3 : Snd mt G 421 3 (oIstore 2 4) := w_istore_n (hm := mm421) dX3_ones_3 (Nat.le_of_ble_eq_true rfl)
theorem n421_4 : Snd mt G 421 4 (oIload 2 5) := w_iload_n (hm := mm421) dX3_ones_4
theorem n421_5 : Snd mt G 421 5 (oConst (.int 8) 7) := w_bipush (hm := mm421) dX3_ones_5 (by decide)
theorem n421_7 : Snd mt G 421 7 (oCmpGe 24 10) := w_icmp_ge (hm := mm421) dX3_ones_7 rfl
theorem n421_10 : Snd mt G 421 10 (oIload 1 11) := w_iload_n (hm := mm421) dX3_ones_10
theorem n421_11 : Snd mt G 421 11 (oIload 0 12) := w_iload_n (hm := mm421) dX3_ones_11
theorem n421_12 : Snd mt G 421 12 (oIload 2 13) := w_iload_n (hm := mm421) dX3_ones_12
theorem n421_13 : Snd mt G 421 13 (oBin (fun x y => x >>> (y &&& 31)) 14) := w_ishr (hm := mm421) dX3_ones_13
theorem n421_14 : Snd mt G 421 14 (oConst (.int 1) 15) := w_iconst (hm := mm421) dX3_ones_14 rfl
theorem n421_15 : Snd mt G 421 15 (oBin (fun x y => x &&& y) 16) := w_iand (hm := mm421) dX3_ones_15
theorem n421_16 : Snd mt G 421 16 (oBin (fun x y => x + y) 17) := w_iadd (hm := mm421) dX3_ones_16
theorem n421_17 : Snd mt G 421 17 (oIstore 1 18) := w_istore_n (hm := mm421) dX3_ones_17 (Nat.le_of_ble_eq_true rfl)
theorem n421_18 : Snd mt G 421 18 (oIinc 2 1 21) := w_iinc (hm := mm421) dX3_ones_18 rfl (Nat.le_of_ble_eq_true rfl)
theorem n421_21 : Snd mt G 421 21 (oGoto 4) := w_goto (hm := mm421) dX3_ones_21 rfl
theorem n421_24 : Snd mt G 421 24 (oIload 1 25) := w_iload_n (hm := mm421) dX3_ones_24
theorem n421_25 : Snd mt G 421 25 (oRetI .int) := w_iret (hm := mm421) dX3_ones_25 rfl
theorem sj421 : ∀ pc, Snd mt G 421 pc (j421 pc) := fun pc => (snd_br ((snd_br ((snd_br ((snd_br ((snd_br ((snd_lf n421_25)) ((snd_lf n421_24)))) ((snd_lf n421_21)))) ((snd_br ((snd_lf n421_18)) ((snd_lf n421_17)))))) ((snd_br ((snd_br ((snd_br ((snd_lf n421_16)) ((snd_lf n421_15)))) ((snd_lf n421_14)))) ((snd_br ((snd_lf n421_13)) ((snd_lf n421_12)))))))) ((snd_br ((snd_br ((snd_br ((snd_br ((snd_lf n421_11)) ((snd_lf n421_10)))) ((snd_lf n421_7)))) ((snd_br ((snd_lf n421_5)) ((snd_lf n421_4)))))) ((snd_br ((snd_br ((snd_lf n421_3)) ((snd_lf n421_2)))) ((snd_br ((snd_lf n421_1)) ((snd_lf n421_0)))))))))
end
