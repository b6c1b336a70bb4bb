/-! every instruction is sound (by gen3.py) -/
set_option maxRecDepth 100000
section
variable {G : AG}
theorem n51_0 : Snd mt G 51 0 (oAload 0 1) := w_aload_n (hm := mm51) dX1_init_0
theorem n51_1 : Snd mt G 51 1 (oObjI 4) := w_objI (hm := mm51) dX1_init_1 (Nat.le_of_ble_eq_true rfl) q188 q189 q190
theorem n51_4 : Snd mt G 51 4 (oAload 0 5) := w_aload_n (hm := mm51) dX1_init_4
theorem n51_5 : Snd mt G 51 5 (oNew 2 19 nfX2 8) := w_new (hm := mm51) (ci := 1) (T9 := TX2) (ty := tyX2) dX1_init_5 (Nat.le_of_ble_eq_true rfl) vc_1 tyX2_ok (fun _ _ => rfl) q191 q192 q130
theorem n51_8 : Snd mt G 51 8 (oDup 9) := w_dup (hm := mm51) dX1_init_8
theorem n51_9 : Snd mt G 51 9 (oCall 1 (fI 170 1) 0 12 xOut) := s_callI (m' := 170) (n := 0) xsh_out (w_xok0 mm51) (w_cal mm51 mm170 pn_X2 (Nat.le_of_ble_eq_true rfl) (Nat.le_of_ble_eq_true rfl)) (fun h b as hn => w_run_IN (host := "LimbBenches") mm51 mm170 dX1_init_9 rfl rfl (List.mem_filter.mpr ⟨q193, rfl⟩) q194 q130 q195 pa170 hn)
theorem n51_12 : Snd mt G 51 12 (oPutf [1] 0 (.object "LimbBenches$State") 15) := w_putf (hm := mm51) dX1_init_12 (pok1 (k := 0) (T := TX1) 0 (Nat.le_of_ble_eq_true rfl) vc_0 (Nat.le_of_ble_eq_true rfl) rfl pd_X1_0 q623)
theorem n51_15 : Snd mt G 51 15 (oAload 0 16) := w_aload_n (hm := mm51) dX1_init_15
theorem n51_16 : Snd mt G 51 16 (oNew 3 3 nfJ2 19) := w_new (hm := mm51) (ci := 2) (T9 := TJ2) (ty := tyJ2) dX1_init_16 (Nat.le_of_ble_eq_true rfl) vc_2 tyJ2_ok (fun _ _ => rfl) q620 q198 q133
theorem n51_19 : Snd mt G 51 19 (oDup 20) := w_dup (hm := mm51) dX1_init_19
theorem n51_20 : Snd mt G 51 20 (oConst (.int 1) 21) := w_iconst (hm := mm51) dX1_init_20 rfl
theorem n51_21 : Snd mt G 51 21 (oCall 2 (fI 174 2) 0 24 xOut) := s_callI (m' := 174) (n := 1) xsh_out (w_xok0 mm51) (w_cal mm51 mm174 pn_J2 (Nat.le_of_ble_eq_true rfl) (Nat.le_of_ble_eq_true rfl)) (fun h b as hn => w_run_I mm51 mm174 dX1_init_21 rfl rfl q621 q200 q133 q201 pa174 hn)
theorem n51_24 : Snd mt G 51 24 (oPutf [1] 1 (.object "java/util/ArrayList") 27) := w_putfF (hm := mm51) dX1_init_24 (pfk1 (k := 1) (T := TX1) 0 (Nat.le_of_ble_eq_true rfl) vc_0 (Nat.le_of_ble_eq_true rfl) rfl rfl pd_X1_1 rfl q624)
theorem n51_27 : Snd mt G 51 27 (oAload 0 28) := w_aload_n (hm := mm51) dX1_init_27
theorem n51_28 : Snd mt G 51 28 (oNew 3 3 nfJ2 31) := w_new (hm := mm51) (ci := 2) (T9 := TJ2) (ty := tyJ2) dX1_init_28 (Nat.le_of_ble_eq_true rfl) vc_2 tyJ2_ok (fun _ _ => rfl) q620 q198 q133
theorem n51_31 : Snd mt G 51 31 (oDup 32) := w_dup (hm := mm51) dX1_init_31
theorem n51_32 : Snd mt G 51 32 (oConst (.int 0) 33) := w_iconst (hm := mm51) dX1_init_32 rfl
theorem n51_33 : Snd mt G 51 33 (oCall 2 (fI 174 2) 0 36 xOut) := s_callI (m' := 174) (n := 1) xsh_out (w_xok0 mm51) (w_cal mm51 mm174 pn_J2 (Nat.le_of_ble_eq_true rfl) (Nat.le_of_ble_eq_true rfl)) (fun h b as hn => w_run_I mm51 mm174 dX1_init_33 rfl rfl q621 q200 q133 q201 pa174 hn)
theorem n51_36 : Snd mt G 51 36 (oPutf [1] 2 (.object "java/util/ArrayList") 39) := w_putf (hm := mm51) dX1_init_36 (pok1 (k := 2) (T := TX1) 0 (Nat.le_of_ble_eq_true rfl) vc_0 (Nat.le_of_ble_eq_true rfl) rfl pd_X1_2 q625)
theorem n51_39 : Snd mt G 51 39 (oAload 0 40) := w_aload_n (hm := mm51) dX1_init_39
theorem n51_40 : Snd mt G 51 40 (oAload 0 41) := w_aload_n (hm := mm51) dX1_init_40
theorem n51_41 : Snd mt G 51 41 (oGetf [1] 2 44) := w_getf (hm := mm51) dX1_init_41 (fok1 (k := 2) (T := TX1) 0 (Nat.le_of_ble_eq_true rfl) vc_0 (Nat.le_of_ble_eq_true rfl) q625)
theorem n51_44 : Snd mt G 51 44 (oPutf [1] 3 (.object "java/util/ArrayList") 47) := w_putfF (hm := mm51) dX1_init_44 (pfk1 (k := 3) (T := TX1) 0 (Nat.le_of_ble_eq_true rfl) vc_0 (Nat.le_of_ble_eq_true rfl) rfl rfl pd_X1_3 rfl q626)
theorem n51_47 : Snd mt G 51 47 (oAload 0 48) := w_aload_n (hm := mm51) dX1_init_47
theorem n51_48 : Snd mt G 51 48 (oConst (.int (-1)) 49) := w_iconst (hm := mm51) dX1_init_48 rfl
theorem n51_49 : Snd mt G 51 49 (oPutf [1] 5 .int 52) := w_putf (hm := mm51) dX1_init_49 (pok1 (k := 5) (T := TX1) 0 (Nat.le_of_ble_eq_true rfl) vc_0 (Nat.le_of_ble_eq_true rfl) rfl pd_X1_5 q628)
theorem n51_52 : Snd mt G 51 52 (oAload 0 53) := w_aload_n (hm := mm51) dX1_init_52
theorem n51_53 : Snd mt G 51 53 (oConst (.int 400) 56) := w_sipush (hm := mm51) dX1_init_53 (by decide)
theorem n51_56 : Snd mt G 51 56 (oNewa 101 (.int 0) 58) := w_newa (hm := mm51) (kt := 1) dX1_init_56 (Nat.le_of_ble_eq_true rfl) at_1 rfl (fun C q => nomatch q) (Nat.le_of_ble_eq_true rfl) q288
theorem n51_58 : Snd mt G 51 58 (oPutf [1] 7 (.array .byte) 61) := w_putfF (hm := mm51) dX1_init_58 (pfk1 (k := 7) (T := TX1) 0 (Nat.le_of_ble_eq_true rfl) vc_0 (Nat.le_of_ble_eq_true rfl) rfl rfl pd_X1_7 rfl q630)
theorem n51_61 : Snd mt G 51 61 (oAload 0 62) := w_aload_n (hm := mm51) dX1_init_61
theorem n51_62 : Snd mt G 51 62 (oConst (.int 3) 63) := w_iconst (hm := mm51) dX1_init_62 rfl
theorem n51_63 : Snd mt G 51 63 (oNewa 105 .null 66) := w_anew (hm := mm51) (kt := 5) dX1_init_63 (Nat.le_of_ble_eq_true rfl) at_5 q191 (by decide)
theorem n51_66 : Snd mt G 51 66 (oPutf [1] 8 (.array (.object "LimbBenches$State")) 69) := w_putfF (hm := mm51) dX1_init_66 (pfk1 (k := 8) (T := TX1) 0 (Nat.le_of_ble_eq_true rfl) vc_0 (Nat.le_of_ble_eq_true rfl) rfl rfl pd_X1_8 rfl q631)
theorem n51_69 : Snd mt G 51 69 (oAload 0 70) := w_aload_n (hm := mm51) dX1_init_69
theorem n51_70 : Snd mt G 51 70 (oConst (.int 6) 72) := w_bipush (hm := mm51) dX1_init_70 (by decide)
theorem n51_72 : Snd mt G 51 72 (oNewa 100 (.int 0) 74) := w_newa (hm := mm51) (kt := 0) dX1_init_72 (Nat.le_of_ble_eq_true rfl) at_0 rfl (fun C q => nomatch q) (Nat.le_of_ble_eq_true rfl) q619
theorem n51_74 : Snd mt G 51 74 (oPutf [1] 9 (.array .int) 77) := w_putfF (hm := mm51) dX1_init_74 (pfk1 (k := 9) (T := TX1) 0 (Nat.le_of_ble_eq_true rfl) vc_0 (Nat.le_of_ble_eq_true rfl) rfl rfl pd_X1_9 rfl q632)
theorem n51_77 : Snd mt G 51 77 (oAload 0 78) := w_aload_n (hm := mm51) dX1_init_77
theorem n51_78 : Snd mt G 51 78 (oConst (.int 4) 79) := w_iconst (hm := mm51) dX1_init_78 rfl
theorem n51_79 : Snd mt G 51 79 (oNewa 100 (.int 0) 81) := w_newa (hm := mm51) (kt := 0) dX1_init_79 (Nat.le_of_ble_eq_true rfl) at_0 rfl (fun C q => nomatch q) (Nat.le_of_ble_eq_true rfl) q619
theorem n51_81 : Snd mt G 51 81 (oPutf [1] 10 (.array .int) 84) := w_putfF (hm := mm51) dX1_init_81 (pfk1 (k := 10) (T := TX1) 0 (Nat.le_of_ble_eq_true rfl) vc_0 (Nat.le_of_ble_eq_true rfl) rfl rfl pd_X1_10 rfl q633)
theorem n51_84 : Snd mt G 51 84 (oAload 0 85) := w_aload_n (hm := mm51) dX1_init_84
theorem n51_85 : Snd mt G 51 85 (oConst (.int 4) 86) := w_iconst (hm := mm51) dX1_init_85 rfl
theorem n51_86 : Snd mt G 51 86 (oNewa 100 (.int 0) 88) := w_newa (hm := mm51) (kt := 0) dX1_init_86 (Nat.le_of_ble_eq_true rfl) at_0 rfl (fun C q => nomatch q) (Nat.le_of_ble_eq_true rfl) q619
theorem n51_88 : Snd mt G 51 88 (oPutf [1] 11 (.array .int) 91) := w_putfF (hm := mm51) dX1_init_88 (pfk1 (k := 11) (T := TX1) 0 (Nat.le_of_ble_eq_true rfl) vc_0 (Nat.le_of_ble_eq_true rfl) rfl rfl pd_X1_11 rfl q634)
theorem n51_91 : Snd mt G 51 91 (oAload 0 92) := w_aload_n (hm := mm51) dX1_init_91
theorem n51_92 : Snd mt G 51 92 (oConst (.int 7) 94) := w_bipush (hm := mm51) dX1_init_92 (by decide)
theorem n51_94 : Snd mt G 51 94 (oNewa 100 (.int 0) 96) := w_newa (hm := mm51) (kt := 0) dX1_init_94 (Nat.le_of_ble_eq_true rfl) at_0 rfl (fun C q => nomatch q) (Nat.le_of_ble_eq_true rfl) q619
theorem n51_96 : Snd mt G 51 96 (oPutf [1] 15 (.array .int) 99) := w_putfF (hm := mm51) dX1_init_96 (pfk1 (k := 15) (T := TX1) 0 (Nat.le_of_ble_eq_true rfl) vc_0 (Nat.le_of_ble_eq_true rfl) rfl rfl pd_X1_15 rfl q638)
theorem n51_99 : Snd mt G 51 99 (oAload 0 100) := w_aload_n (hm := mm51) dX1_init_99
theorem n51_100 : Snd mt G 51 100 (oConst (.int 7) 102) := w_bipush (hm := mm51) dX1_init_100 (by decide)
theorem n51_102 : Snd mt G 51 102 (oNewa 100 (.int 0) 104) := w_newa (hm := mm51) (kt := 0) dX1_init_102 (Nat.le_of_ble_eq_true rfl) at_0 rfl (fun C q => nomatch q) (Nat.le_of_ble_eq_true rfl) q619
theorem n51_104 : Snd mt G 51 104 (oPutf [1] 16 (.array .int) 107) := w_putfF (hm := mm51) dX1_init_104 (pfk1 (k := 16) (T := TX1) 0 (Nat.le_of_ble_eq_true rfl) vc_0 (Nat.le_of_ble_eq_true rfl) rfl rfl pd_X1_16 rfl q639)
theorem n51_107 : Snd mt G 51 107 (oAload 0 108) := w_aload_n (hm := mm51) dX1_init_107
theorem n51_108 : Snd mt G 51 108 (oConst (.int (-1)) 109) := w_iconst (hm := mm51) dX1_init_108 rfl
theorem n51_109 : Snd mt G 51 109 (oPutf [1] 17 .int 112) := w_putf (hm := mm51) dX1_init_109 (pok1 (k := 17) (T := TX1) 0 (Nat.le_of_ble_eq_true rfl) vc_0 (Nat.le_of_ble_eq_true rfl) rfl pd_X1_17 q640)
theorem n51_112 : Snd mt G 51 112 (oAload 0 113) := w_aload_n (hm := mm51) dX1_init_112
theorem n51_113 : Snd mt G 51 113 (oConst (.int 6) 115) := w_bipush (hm := mm51) dX1_init_113 (by decide)
theorem n51_115 : Snd mt G 51 115 (oNewa 100 (.int 0) 117) := w_newa (hm := mm51) (kt := 0) dX1_init_115 (Nat.le_of_ble_eq_true rfl) at_0 rfl (fun C q => nomatch q) (Nat.le_of_ble_eq_true rfl) q619
theorem n51_117 : Snd mt G 51 117 (oPutf [1] 20 (.array .int) 120) := w_putfF (hm := mm51) dX1_init_117 (pfk1 (k := 20) (T := TX1) 0 (Nat.le_of_ble_eq_true rfl) vc_0 (Nat.le_of_ble_eq_true rfl) rfl rfl pd_X1_20 rfl q643)
theorem n51_120 : Snd mt G 51 120 (oAload 0 121) := w_aload_n (hm := mm51) dX1_init_120
theorem n51_121 : Snd mt G 51 121 (oConst (.int 6) 123) := w_bipush (hm := mm51) dX1_init_121 (by decide)
theorem n51_123 : Snd mt G 51 123 (oNewa 100 (.int 0) 125) := w_newa (hm := mm51) (kt := 0) dX1_init_123 (Nat.le_of_ble_eq_true rfl) at_0 rfl (fun C q => nomatch q) (Nat.le_of_ble_eq_true rfl) q619
theorem n51_125 : Snd mt G 51 125 (oPutf [1] 21 (.array .int) 128) := w_putfF (hm := mm51) dX1_init_125 (pfk1 (k := 21) (T := TX1) 0 (Nat.le_of_ble_eq_true rfl) vc_0 (Nat.le_of_ble_eq_true rfl) rfl rfl pd_X1_21 rfl q644)
theorem n51_128 : Snd mt G 51 128 (oRetV) := w_vret (hm := mm51) dX1_init_128 rfl
theorem sj51 : ∀ pc, Snd mt G 51 pc (j51 pc) := fun pc => (snd_br ((snd_br ((snd_br ((snd_br ((snd_br ((snd_br ((snd_br ((snd_lf n51_128)) ((snd_lf n51_125)))) ((snd_lf n51_123)))) ((snd_br ((snd_lf n51_121)) ((snd_lf n51_120)))))) ((snd_br ((snd_br ((snd_lf n51_117)) ((snd_lf n51_115)))) ((snd_br ((snd_lf n51_113)) ((snd_lf n51_112)))))))) ((snd_br ((snd_br ((snd_br ((snd_lf n51_109)) ((snd_lf n51_108)))) ((snd_br ((snd_lf n51_107)) ((snd_lf n51_104)))))) ((snd_br ((snd_br ((snd_lf n51_102)) ((snd_lf n51_100)))) ((snd_br ((snd_lf n51_99)) ((snd_lf n51_96)))))))))) ((snd_br ((snd_br ((snd_br ((snd_br ((snd_lf n51_94)) ((snd_lf n51_92)))) ((snd_br ((snd_lf n51_91)) ((snd_lf n51_88)))))) ((snd_br ((snd_br ((snd_lf n51_86)) ((snd_lf n51_85)))) ((snd_br ((snd_lf n51_84)) ((snd_lf n51_81)))))))) ((snd_br ((snd_br ((snd_br ((snd_lf n51_79)) ((snd_lf n51_78)))) ((snd_br ((snd_lf n51_77)) ((snd_lf n51_74)))))) ((snd_br ((snd_br ((snd_lf n51_72)) ((snd_lf n51_70)))) ((snd_br ((snd_lf n51_69)) ((snd_lf n51_66)))))))))))) ((snd_br ((snd_br ((snd_br ((snd_br ((snd_br ((snd_br ((snd_lf n51_63)) ((snd_lf n51_62)))) ((snd_lf n51_61)))) ((snd_br ((snd_lf n51_58)) ((snd_lf n51_56)))))) ((snd_br ((snd_br ((snd_lf n51_53)) ((snd_lf n51_52)))) ((snd_br ((snd_lf n51_49)) ((snd_lf n51_48)))))))) ((snd_br ((snd_br ((snd_br ((snd_lf n51_47)) ((snd_lf n51_44)))) ((snd_br ((snd_lf n51_41)) ((snd_lf n51_40)))))) ((snd_br ((snd_br ((snd_lf n51_39)) ((snd_lf n51_36)))) ((snd_br ((snd_lf n51_33)) ((snd_lf n51_32)))))))))) ((snd_br ((snd_br ((snd_br ((snd_br ((snd_lf n51_31)) ((snd_lf n51_28)))) ((snd_br ((snd_lf n51_27)) ((snd_lf n51_24)))))) ((snd_br ((snd_br ((snd_lf n51_21)) ((snd_lf n51_20)))) ((snd_br ((snd_lf n51_19)) ((snd_lf n51_16)))))))) ((snd_br ((snd_br ((snd_br ((snd_lf n51_15)) ((snd_lf n51_12)))) ((snd_br ((snd_lf n51_9)) ((snd_lf n51_8)))))) ((snd_br ((snd_br ((snd_lf n51_5)) ((snd_lf n51_4)))) ((snd_br ((snd_lf n51_1)) ((snd_lf n51_0)))))))))))))
end
section
variable {G : AG}
theorem n52_0 : Snd mt G 52 0 (oAload 0 1) := w_aload_n (hm := mm52) dX1_feed_0
theorem n52_1 : Snd mt G 52 1 (oGetf [1] 4 4) := w_getf (hm := mm52) dX1_feed_1 (fok1 (k := 4) (T := TX1) 0 (Nat.le_of_ble_eq_true rfl) vc_0 (Nat.le_of_ble_eq_true rfl) q627)
theorem n52_4 : Snd mt G 52 4 (oConst (.int 20) 6) := w_bipush (hm := mm52) dX1_feed_4 (by decide)
theorem n52_6 : Snd mt G 52 6 (oBin (fun x y => x + y) 7) := w_iadd (hm := mm52) dX1_feed_6
theorem n52_7 : Snd mt G 52 7 (oConst (.int 400) 10) := w_sipush (hm := mm52) dX1_feed_7 (by decide)
theorem n52_10 : Snd mt G 52 10 (oCmpLe 15 13) := w_icmp_le (hm := mm52) dX1_feed_10 rfl
theorem n52_13 : Snd mt G 52 13 (oConst (.int (-1)) 14) := w_iconst (hm := mm52) dX1_feed_13 rfl
theorem n52_14 : Snd mt G 52 14 (oRetI .int) := w_iret (hm := mm52) dX1_feed_14 rfl
theorem n52_15 : Snd mt G 52 15 (oAload 0 16) := w_aload_n (hm := mm52) dX1_feed_15
theorem n52_16 : Snd mt G 52 16 (oIload 1 17) := w_iload_n (hm := mm52) dX1_feed_16
theorem n52_17 : Snd mt G 52 17 (oCall 2 (fV [1] 53 3) 0 20 xOut) := s_callV (m' := 53) (n := 1) xsh_out (w_xok0 mm52) (w_cal mm52 mm53 pn_X1 (Nat.le_of_ble_eq_true rfl) (Nat.le_of_ble_eq_true rfl)) (fun h b as hc hn => w_run_V (ci := 0) mm52 mm53 dX1_feed_17 (Or.inl (List.mem_singleton.mp hc)) (Nat.le_of_ble_eq_true rfl) vc_0 rfl q697 q699 qs1 q129 q700 pa53 hn)
theorem n52_20 : Snd mt G 52 20 (oAload 0 21) := w_aload_n (hm := mm52) dX1_feed_20
theorem n52_21 : Snd mt G 52 21 (oIload 2 22) := w_iload_n (hm := mm52) dX1_feed_21
theorem n52_22 : Snd mt G 52 22 (oCall 2 (fV [1] 53 3) 0 25 xOut) := s_callV (m' := 53) (n := 1) xsh_out (w_xok0 mm52) (w_cal mm52 mm53 pn_X1 (Nat.le_of_ble_eq_true rfl) (Nat.le_of_ble_eq_true rfl)) (fun h b as hc hn => w_run_V (ci := 0) mm52 mm53 dX1_feed_22 (Or.inl (List.mem_singleton.mp hc)) (Nat.le_of_ble_eq_true rfl) vc_0 rfl q697 q699 qs1 q129 q700 pa53 hn)
theorem n52_25 : Snd mt G 52 25 (oAload 0 26) := w_aload_n (hm := mm52) dX1_feed_25
theorem n52_26 : Snd mt G 52 26 (oIload 3 27) := w_iload_n (hm := mm52) dX1_feed_26
theorem n52_27 : Snd mt G 52 27 (oCall 2 (fV [1] 53 3) 0 30 xOut) := s_callV (m' := 53) (n := 1) xsh_out (w_xok0 mm52) (w_cal mm52 mm53 pn_X1 (Nat.le_of_ble_eq_true rfl) (Nat.le_of_ble_eq_true rfl)) (fun h b as hc hn => w_run_V (ci := 0) mm52 mm53 dX1_feed_27 (Or.inl (List.mem_singleton.mp hc)) (Nat.le_of_ble_eq_true rfl) vc_0 rfl q697 q699 qs1 q129 q700 pa53 hn)
theorem n52_30 : Snd mt G 52 30 (oAload 0 31) := w_aload_n (hm := mm52) dX1_feed_30
theorem n52_31 : Snd mt G 52 31 (oIload 4 33) := w_iload (hm := mm52) dX1_feed_31
theorem n52_33 : Snd mt G 52 33 (oCall 2 (fV [1] 53 3) 0 36 xOut) := s_callV (m' := 53) (n := 1) xsh_out (w_xok0 mm52) (w_cal mm52 mm53 pn_X1 (Nat.le_of_ble_eq_true rfl) (Nat.le_of_ble_eq_true rfl)) (fun h b as hc hn => w_run_V (ci := 0) mm52 mm53 dX1_feed_33 (Or.inl (List.mem_singleton.mp hc)) (Nat.le_of_ble_eq_true rfl) vc_0 rfl q697 q699 qs1 q129 q700 pa53 hn)
theorem n52_36 : Snd mt G 52 36 (oAload 0 37) := w_aload_n (hm := mm52) dX1_feed_36
theorem n52_37 : Snd mt G 52 37 (oIload 5 39) := w_iload (hm := mm52) dX1_feed_37
theorem n52_39 : Snd mt G 52 39 (oCall 2 (fV [1] 53 3) 0 42 xOut) := s_callV (m' := 53) (n := 1) xsh_out (w_xok0 mm52) (w_cal mm52 mm53 pn_X1 (Nat.le_of_ble_eq_true rfl) (Nat.le_of_ble_eq_true rfl)) (fun h b as hc hn => w_run_V (ci := 0) mm52 mm53 dX1_feed_39 (Or.inl (List.mem_singleton.mp hc)) (Nat.le_of_ble_eq_true rfl) vc_0 rfl q697 q699 qs1 q129 q700 pa53 hn)
theorem n52_42 : Snd mt G 52 42 (oAload 0 43) := w_aload_n (hm := mm52) dX1_feed_42
theorem n52_43 : Snd mt G 52 43 (oGetf [1] 4 46) := w_getf (hm := mm52) dX1_feed_43 (fok1 (k := 4) (T := TX1) 0 (Nat.le_of_ble_eq_true rfl) vc_0 (Nat.le_of_ble_eq_true rfl) q627)
theorem n52_46 : Snd mt G 52 46 (oRetI .int) := w_iret (hm := mm52) dX1_feed_46 rfl
theorem sj52 : ∀ pc, Snd mt G 52 pc (j52 pc) := fun pc => (snd_br ((snd_br ((snd_br ((snd_br ((snd_br ((snd_lf n52_46)) ((snd_lf n52_43)))) ((snd_br ((snd_lf n52_42)) ((snd_lf n52_39)))))) ((snd_br ((snd_br ((snd_lf n52_37)) ((snd_lf n52_36)))) ((snd_lf n52_33)))))) ((snd_br ((snd_br ((snd_br ((snd_lf n52_31)) ((snd_lf n52_30)))) ((snd_lf n52_27)))) ((snd_br ((snd_br ((snd_lf n52_26)) ((snd_lf n52_25)))) ((snd_lf n52_22)))))))) ((snd_br ((snd_br ((snd_br ((snd_br ((snd_lf n52_21)) ((snd_lf n52_20)))) ((snd_br ((snd_lf n52_17)) ((snd_lf n52_16)))))) ((snd_br ((snd_br ((snd_lf n52_15)) ((snd_lf n52_14)))) ((snd_lf n52_13)))))) ((snd_br ((snd_br ((snd_br ((snd_lf n52_10)) ((snd_lf n52_7)))) ((snd_lf n52_6)))) ((snd_br ((snd_br ((snd_lf n52_4)) ((snd_lf n52_1)))) ((snd_lf n52_0)))))))))
end
section
variable {G : AG}
theorem n53_0 : Snd mt G 53 0 (oConst (.int 24) 2) := w_bipush (hm := mm53) dX1_put_0 (by decide)
theorem n53_2 : Snd mt G 53 2 (oIstore 2 3) := w_istore_n (hm := mm53) dX1_put_2 (Nat.le_of_ble_eq_true rfl)
theorem n53_3 : Snd mt G 53 3 (oIload 2 4) := w_iload_n (hm := mm53) dX1_put_3
theorem n53_4 : Snd mt G 53 4 (oIfLt 36 7) := w_if_lt (hm := mm53) dX1_put_4 rfl
theorem n53_7 : Snd mt G 53 7 (oAload 0 8) := w_aload_n (hm := mm53) dX1_put_7
theorem n53_8 : Snd mt G 53 8 (oGetf [1] 7 11) := w_getf (hm := mm53) dX1_put_8 (fok1 (k := 7) (T := TX1) 0 (Nat.le_of_ble_eq_true rfl) vc_0 (Nat.le_of_ble_eq_true rfl) q630)
theorem n53_11 : Snd mt G 53 11 (oAload 0 12) := w_aload_n (hm := mm53) dX1_put_11
theorem n53_12 : Snd mt G 53 12 (oGetf [1] 4 15) := w_getf (hm := mm53) dX1_put_12 (fok1 (k := 4) (T := TX1) 0 (Nat.le_of_ble_eq_true rfl) vc_0 (Nat.le_of_ble_eq_true rfl) q627)
theorem n53_15 : Snd mt G 53 15 (oIload 1 16) := w_iload_n (hm := mm53) dX1_put_15
theorem n53_16 : Snd mt G 53 16 (oIload 2 17) := w_iload_n (hm := mm53) dX1_put_16
theorem n53_17 : Snd mt G 53 17 (oBin (fun x y => x >>> (y &&& 31)) 18) := w_ishr (hm := mm53) dX1_put_17
theorem n53_18 : Snd mt G 53 18 (oUn (fun x => .int x.toInt8.toInt32) 19) := w_i2b (hm := mm53) dX1_put_18
theorem n53_19 : Snd mt G 53 19 (oBast [101] 20) := w_bastore (hm := mm53) (kt := 1) dX1_put_19 at_1 (Nat.le_of_ble_eq_true rfl) (List.forall_mem_cons.mpr ⟨rfl, (fun t ht => nomatch ht)⟩)
theorem n53_20 : Snd mt G 53 20 (oAload 0 21) := w_aload_n (hm := mm53) dX1_put_20
theorem n53_21 : Snd mt G 53 21 (oDup 22) := w_dup (hm := mm53) dX1_put_21
theorem n53_22 : Snd mt G 53 22 (oGetf [1] 4 25) := w_getf (hm := mm53) dX1_put_22 (fok1 (k := 4) (T := TX1) 0 (Nat.le_of_ble_eq_true rfl) vc_0 (Nat.le_of_ble_eq_true rfl) q627)
theorem n53_25 : Snd mt G 53 25 (oConst (.int 1) 26) := w_iconst (hm := mm53) dX1_put_25 rfl
theorem n53_26 : Snd mt G 53 26 (oBin (fun x y => x + y) 27) := w_iadd (hm := mm53) dX1_put_26
theorem n53_27 : Snd mt G 53 27 (oPutf [1] 4 .int 30) := w_putf (hm := mm53) dX1_put_27 (pok1 (k := 4) (T := TX1) 0 (Nat.le_of_ble_eq_true rfl) vc_0 (Nat.le_of_ble_eq_true rfl) rfl pd_X1_4 q627)
theorem n53_30 : Snd mt G 53 30 (oIinc 2 (-8) 33) := w_iinc (hm := mm53) dX1_put_30 rfl (Nat.le_of_ble_eq_true rfl)
theorem n53_33 : Snd mt G 53 33 (oGoto 3) := w_goto (hm := mm53) dX1_put_33 rfl
theorem n53_36 : Snd mt G 53 36 (oRetV) := w_vret (hm := mm53) dX1_put_36 rfl
theorem sj53 : ∀ pc, Snd mt G 53 pc (j53 pc) := fun pc => (snd_br ((snd_br ((snd_br ((snd_br ((snd_br ((snd_lf n53_36)) ((snd_lf n53_33)))) ((snd_lf n53_30)))) ((snd_br ((snd_br ((snd_lf n53_27)) ((snd_lf n53_26)))) ((snd_lf n53_25)))))) ((snd_br ((snd_br ((snd_br ((snd_lf n53_22)) ((snd_lf n53_21)))) ((snd_lf n53_20)))) ((snd_br ((snd_lf n53_19)) ((snd_lf n53_18)))))))) ((snd_br ((snd_br ((snd_br ((snd_br ((snd_lf n53_17)) ((snd_lf n53_16)))) ((snd_lf n53_15)))) ((snd_br ((snd_br ((snd_lf n53_12)) ((snd_lf n53_11)))) ((snd_lf n53_8)))))) ((snd_br ((snd_br ((snd_br ((snd_lf n53_7)) ((snd_lf n53_4)))) ((snd_lf n53_3)))) ((snd_br ((snd_lf n53_2)) ((snd_lf n53_0)))))))))
end
section
variable {G : AG}
theorem n54_0 : Snd mt G 54 0 (oAload 0 1) := w_aload_n (hm := mm54) dX1_fault_0
theorem n54_1 : Snd mt G 54 1 (oGetf [1] 5 4) := w_getf (hm := mm54) dX1_fault_1 (fok1 (k := 5) (T := TX1) 0 (Nat.le_of_ble_eq_true rfl) vc_0 (Nat.le_of_ble_eq_true rfl) q628)
theorem n54_4 : Snd mt G 54 4 (oRetI .int) := w_iret (hm := mm54) dX1_fault_4 rfl
theorem sj54 : ∀ pc, Snd mt G 54 pc (j54 pc) := fun pc => (snd_br ((snd_br ((snd_lf n54_4)) ((snd_lf n54_1)))) ((snd_lf n54_0)))
end
section
variable {G : AG}
theorem n55_0 : Snd mt G 55 0 (oConst (.int 0) 1) := w_iconst (hm := mm55) dX1_beyond_0 rfl
theorem n55_1 : Snd mt G 55 1 (oIstore 1 2) := w_istore_n (hm := mm55) dX1_beyond_1 (Nat.le_of_ble_eq_true rfl)
theorem n55_2 : Snd mt G 55 2 (oConst (.int 0) 3) := w_iconst (hm := mm55) dX1_beyond_2 rfl
theorem n55_3 : Snd mt G 55 3 (oIstore 2 4) := w_istore_n (hm := mm55) dX1_beyond_3 (Nat.le_of_ble_eq_true rfl)
theorem n55_4 : Snd mt G 55 4 (oIload 2 5) := w_iload_n (hm := mm55) dX1_beyond_4
theorem n55_5 : Snd mt G 55 5 (oAload 0 6) := w_aload_n (hm := mm55) dX1_beyond_5
theorem n55_6 : Snd mt G 55 6 (oGetf [1] 0 9) := w_getf (hm := mm55) dX1_beyond_6 (fok1 (k := 0) (T := TX1) 0 (Nat.le_of_ble_eq_true rfl) vc_0 (Nat.le_of_ble_eq_true rfl) q623)
theorem n55_9 : Snd mt G 55 9 (oGetf [2] 1 12) := w_getfN (hm := mm55) dX1_beyond_9 (fokn1 (k := 1) (T := TX2) 1 (Nat.le_of_ble_eq_true rfl) vc_1 (Nat.le_of_ble_eq_true rfl) q545)
theorem n55_12 : Snd mt G 55 12 (oCall 1 (fV [3] 175 1) 0 15 xOut) := s_callV (m' := 175) (n := 0) xsh_out (w_xok0 mm55) (w_cal mm55 mm175 pn_J2 (Nat.le_of_ble_eq_true rfl) (Nat.le_of_ble_eq_true rfl)) (fun h b as hc hn => w_run_V (ci := 2) mm55 mm175 dX1_beyond_12 (Or.inl (List.mem_singleton.mp hc)) (Nat.le_of_ble_eq_true rfl) vc_2 rfl q709 q710 q711 q133 q712 pa175 hn)
theorem n55_15 : Snd mt G 55 15 (oCmpGe 55 18) := w_icmp_ge (hm := mm55) dX1_beyond_15 rfl
theorem n55_18 : Snd mt G 55 18 (oIload 1 19) := w_iload_n (hm := mm55) dX1_beyond_18
theorem n55_19 : Snd mt G 55 19 (oAload 0 20) := w_aload_n (hm := mm55) dX1_beyond_19
theorem n55_20 : Snd mt G 55 20 (oAload 0 21) := w_aload_n (hm := mm55) dX1_beyond_20
theorem n55_21 : Snd mt G 55 21 (oGetf [1] 0 24) := w_getf (hm := mm55) dX1_beyond_21 (fok1 (k := 0) (T := TX1) 0 (Nat.le_of_ble_eq_true rfl) vc_0 (Nat.le_of_ble_eq_true rfl) q623)
theorem n55_24 : Snd mt G 55 24 (oGetf [2] 1 27) := w_getfN (hm := mm55) dX1_beyond_24 (fokn1 (k := 1) (T := TX2) 1 (Nat.le_of_ble_eq_true rfl) vc_1 (Nat.le_of_ble_eq_true rfl) q545)
theorem n55_27 : Snd mt G 55 27 (oIload 2 28) := w_iload_n (hm := mm55) dX1_beyond_27
theorem n55_28 : Snd mt G 55 28 (oCall 2 (fV [3] 176 2) 0 31 xOut) := s_callV (m' := 176) (n := 1) xsh_out (w_xok0 mm55) (w_cal mm55 mm176 pn_J2 (Nat.le_of_ble_eq_true rfl) (Nat.le_of_ble_eq_true rfl)) (fun h b as hc hn => w_run_V (ci := 2) mm55 mm176 dX1_beyond_28 (Or.inl (List.mem_singleton.mp hc)) (Nat.le_of_ble_eq_true rfl) vc_2 rfl q713 q714 q715 q133 q716 pa176 hn)
theorem n55_31 : Snd mt G 55 31 (oCast [19] 34) := w_cast (hm := mm55) dX1_beyond_31 q727 (List.forall_mem_cons.mpr ⟨⟨18, _, Or.inl rfl, (Nat.le_of_ble_eq_true rfl), vc_18, Or.inl rfl⟩, (fun t ht => nomatch ht)⟩)
theorem n55_34 : Snd mt G 55 34 (oCall 2 (fV [1] 56 3) 0 37 xOut) := s_callV (m' := 56) (n := 1) xsh_out (w_xok0 mm55) (w_cal mm55 mm56 pn_X1 (Nat.le_of_ble_eq_true rfl) (Nat.le_of_ble_eq_true rfl)) (fun h b as hc hn => w_run_V (ci := 0) mm55 mm56 dX1_beyond_34 (Or.inl (List.mem_singleton.mp hc)) (Nat.le_of_ble_eq_true rfl) vc_0 rfl q728 q730 qs2 q129 q731 pa56 hn)
theorem n55_37 : Snd mt G 55 37 (oIfLe 46 40) := w_if_le (hm := mm55) dX1_beyond_37 rfl
theorem n55_40 : Snd mt G 55 40 (oConst (.int 1) 41) := w_iconst (hm := mm55) dX1_beyond_40 rfl
theorem n55_41 : Snd mt G 55 41 (oIload 2 42) := w_iload_n (hm := mm55) dX1_beyond_41
theorem n55_42 : Snd mt G 55 42 (oBin (fun x y => x <<< (y &&& 31)) 43) := w_ishl (hm := mm55) dX1_beyond_42
theorem n55_43 : Snd mt G 55 43 (oGoto 47) := w_goto (hm := mm55) dX1_beyond_43 rfl
theorem n55_46 : Snd mt G 55 46 (oConst (.int 0) 47) := w_iconst (hm := mm55) dX1_beyond_46 rfl
theorem n55_47 : Snd mt G 55 47 (oBin (fun x y => x ||| y) 48) := w_ior (hm := mm55) dX1_beyond_47
theorem n55_48 : Snd mt G 55 48 (oIstore 1 49) := w_istore_n (hm := mm55) dX1_beyond_48 (Nat.le_of_ble_eq_true rfl)
theorem n55_49 : Snd mt G 55 49 (oIinc 2 1 52) := w_iinc (hm := mm55) dX1_beyond_49 rfl (Nat.le_of_ble_eq_true rfl)
theorem n55_52 : Snd mt G 55 52 (oGoto 4) := w_goto (hm := mm55) dX1_beyond_52 rfl
theorem n55_55 : Snd mt G 55 55 (oIload 1 56) := w_iload_n (hm := mm55) dX1_beyond_55
theorem n55_56 : Snd mt G 55 56 (oRetI .int) := w_iret (hm := mm55) dX1_beyond_56 rfl
theorem sj55 : ∀ pc, Snd mt G 55 pc (j55 pc) := fun pc => (snd_br ((snd_br ((snd_br ((snd_br ((snd_br ((snd_lf n55_56)) ((snd_lf n55_55)))) ((snd_br ((snd_lf n55_52)) ((snd_lf n55_49)))))) ((snd_br ((snd_br ((snd_lf n55_48)) ((snd_lf n55_47)))) ((snd_br ((snd_lf n55_46)) ((snd_lf n55_43)))))))) ((snd_br ((snd_br ((snd_br ((snd_lf n55_42)) ((snd_lf n55_41)))) ((snd_br ((snd_lf n55_40)) ((snd_lf n55_37)))))) ((snd_br ((snd_br ((snd_lf n55_34)) ((snd_lf n55_31)))) ((snd_br ((snd_lf n55_28)) ((snd_lf n55_27)))))))))) ((snd_br ((snd_br ((snd_br ((snd_br ((snd_lf n55_24)) ((snd_lf n55_21)))) ((snd_br ((snd_lf n55_20)) ((snd_lf n55_19)))))) ((snd_br ((snd_br ((snd_lf n55_18)) ((snd_lf n55_15)))) ((snd_br ((snd_lf n55_12)) ((snd_lf n55_9)))))))) ((snd_br ((snd_br ((snd_br ((snd_lf n55_6)) ((snd_lf n55_5)))) ((snd_br ((snd_lf n55_4)) ((snd_lf n55_3)))))) ((snd_br ((snd_br ((snd_lf n55_2)) ((snd_lf n55_1)))) ((snd_lf n55_0)))))))))
end
section
variable {G : AG}
theorem n56_0 : Snd mt G 56 0 (oAload 0 1) := w_aload_n (hm := mm56) dX1_overOf_0
theorem n56_1 : Snd mt G 56 1 (oAload 1 2) := w_aload_n (hm := mm56) dX1_overOf_1
theorem n56_2 : Snd mt G 56 2 (oCall 2 (fV [1] 57 2) 0 5 xOut) := s_callV (m' := 57) (n := 1) xsh_out (w_xok0 mm56) (w_cal mm56 mm57 pn_X1 (Nat.le_of_ble_eq_true rfl) (Nat.le_of_ble_eq_true rfl)) (fun h b as hc hn => w_run_V (ci := 0) mm56 mm57 dX1_overOf_2 (Or.inl (List.mem_singleton.mp hc)) (Nat.le_of_ble_eq_true rfl) vc_0 rfl q732 q734 qs3 q129 q735 pa57 hn)
theorem n56_5 : Snd mt G 56 5 (oAload 0 6) := w_aload_n (hm := mm56) dX1_overOf_5
theorem n56_6 : Snd mt G 56 6 (oConst (.int 119) 8) := w_bipush (hm := mm56) dX1_overOf_6 (by decide)
theorem n56_8 : Snd mt G 56 8 (oConst (.int 0) 9) := w_iconst (hm := mm56) dX1_overOf_8 rfl
theorem n56_9 : Snd mt G 56 9 (oConst (.int 100000) 11) := w_ldc (hm := mm56) dX1_overOf_9 q745
theorem n56_11 : Snd mt G 56 11 (oCall 4 (fV [1] 60 5) 0 14 xOut) := s_callV (m' := 60) (n := 3) xsh_out (w_xok0 mm56) (w_cal mm56 mm60 pn_X1 (Nat.le_of_ble_eq_true rfl) (Nat.le_of_ble_eq_true rfl)) (fun h b as hc hn => w_run_V (ci := 0) mm56 mm60 dX1_overOf_11 (Or.inl (List.mem_singleton.mp hc)) (Nat.le_of_ble_eq_true rfl) vc_0 rfl q746 q748 qs6 q129 q749 pa60 hn)
theorem n56_14 : Snd mt G 56 14 (oIstore 2 15) := w_istore_n (hm := mm56) dX1_overOf_14 (Nat.le_of_ble_eq_true rfl)
theorem n56_15 : Snd mt G 56 15 (oIload 2 16) := w_iload_n (hm := mm56) dX1_overOf_15
theorem n56_16 : Snd mt G 56 16 (oConst (.int (-1)) 17) := w_iconst (hm := mm56) dX1_overOf_16 rfl
theorem n56_17 : Snd mt G 56 17 (oCmpEq 20 24) := w_icmp_ne (hm := mm56) dX1_overOf_17 rfl
theorem n56_20 : Snd mt G 56 20 (oConst (.int 0) 21) := w_iconst (hm := mm56) dX1_overOf_20 rfl
theorem n56_21 : Snd mt G 56 21 (oGoto 31) := w_goto (hm := mm56) dX1_overOf_21 rfl
theorem n56_24 : Snd mt G 56 24 (oAload 0 25) := w_aload_n (hm := mm56) dX1_overOf_24
theorem n56_25 : Snd mt G 56 25 (oAload 1 26) := w_aload_n (hm := mm56) dX1_overOf_25
theorem n56_26 : Snd mt G 56 26 (oCall 2 (fV [1] 62 5) 0 29 xOut) := s_callV (m' := 62) (n := 1) xsh_out (w_xok0 mm56) (w_cal mm56 mm62 pn_X1 (Nat.le_of_ble_eq_true rfl) (Nat.le_of_ble_eq_true rfl)) (fun h b as hc hn => w_run_V (ci := 0) mm56 mm62 dX1_overOf_26 (Or.inl (List.mem_singleton.mp hc)) (Nat.le_of_ble_eq_true rfl) vc_0 rfl q827 q829 qs8 q129 q830 pa62 hn)
theorem n56_29 : Snd mt G 56 29 (oIload 2 30) := w_iload_n (hm := mm56) dX1_overOf_29
theorem n56_30 : Snd mt G 56 30 (oBin (fun x y => x - y) 31) := w_isub (hm := mm56) dX1_overOf_30
theorem n56_31 : Snd mt G 56 31 (oRetI .int) := w_iret (hm := mm56) dX1_overOf_31 rfl
theorem sj56 : ∀ pc, Snd mt G 56 pc (j56 pc) := fun pc => (snd_br ((snd_br ((snd_br ((snd_br ((snd_br ((snd_lf n56_31)) ((snd_lf n56_30)))) ((snd_lf n56_29)))) ((snd_br ((snd_lf n56_26)) ((snd_lf n56_25)))))) ((snd_br ((snd_br ((snd_br ((snd_lf n56_24)) ((snd_lf n56_21)))) ((snd_lf n56_20)))) ((snd_br ((snd_lf n56_17)) ((snd_lf n56_16)))))))) ((snd_br ((snd_br ((snd_br ((snd_br ((snd_lf n56_15)) ((snd_lf n56_14)))) ((snd_lf n56_11)))) ((snd_br ((snd_lf n56_9)) ((snd_lf n56_8)))))) ((snd_br ((snd_br ((snd_br ((snd_lf n56_6)) ((snd_lf n56_5)))) ((snd_lf n56_2)))) ((snd_br ((snd_lf n56_1)) ((snd_lf n56_0)))))))))
end
section
variable {G : AG}
theorem n57_0 : Snd mt G 57 0 (oAload 0 1) := w_aload_n (hm := mm57) dX1_name_0
theorem n57_1 : Snd mt G 57 1 (oAload 1 2) := w_aload_n (hm := mm57) dX1_name_1
theorem n57_2 : Snd mt G 57 2 (oAload 0 3) := w_aload_n (hm := mm57) dX1_name_2
theorem n57_3 : Snd mt G 57 3 (oGetf [1] 0 6) := w_getf (hm := mm57) dX1_name_3 (fok1 (k := 0) (T := TX1) 0 (Nat.le_of_ble_eq_true rfl) vc_0 (Nat.le_of_ble_eq_true rfl) q623)
theorem n57_6 : Snd mt G 57 6 (oGetf [2] 12 9) := w_getfN (hm := mm57) dX1_name_6 (fokn1 (k := 12) (T := TX2) 1 (Nat.le_of_ble_eq_true rfl) vc_1 (Nat.le_of_ble_eq_true rfl) q567)
theorem n57_9 : Snd mt G 57 9 (oCall 3 (fV [1] 58 4) 0 12 xOut) := s_callV (m' := 58) (n := 2) xsh_out (w_xok0 mm57) (w_cal mm57 mm58 pn_X1 (Nat.le_of_ble_eq_true rfl) (Nat.le_of_ble_eq_true rfl)) (fun h b as hc hn => w_run_V (ci := 0) mm57 mm58 dX1_name_9 (Or.inl (List.mem_singleton.mp hc)) (Nat.le_of_ble_eq_true rfl) vc_0 rfl q736 q738 qs4 q129 q739 pa58 hn)
theorem n57_12 : Snd mt G 57 12 (oRetV) := w_vret (hm := mm57) dX1_name_12 rfl
theorem sj57 : ∀ pc, Snd mt G 57 pc (j57 pc) := fun pc => (snd_br ((snd_br ((snd_br ((snd_lf n57_12)) ((snd_lf n57_9)))) ((snd_br ((snd_lf n57_6)) ((snd_lf n57_3)))))) ((snd_br ((snd_br ((snd_lf n57_2)) ((snd_lf n57_1)))) ((snd_lf n57_0)))))
end
section
variable {G : AG}
theorem n58_0 : Snd mt G 58 0 (oAload 0 1) := w_aload_n (hm := mm58) dX1_name_2_0
theorem n58_1 : Snd mt G 58 1 (oGetf [1] 9 4) := w_getf (hm := mm58) dX1_name_2_1 (fok1 (k := 9) (T := TX1) 0 (Nat.le_of_ble_eq_true rfl) vc_0 (Nat.le_of_ble_eq_true rfl) q632)
theorem n58_4 : Snd mt G 58 4 (oConst (.int 0) 5) := w_iconst (hm := mm58) dX1_name_2_4 rfl
theorem n58_5 : Snd mt G 58 5 (oAload 1 6) := w_aload_n (hm := mm58) dX1_name_2_5
theorem n58_6 : Snd mt G 58 6 (oGetf [19] 0 9) := w_getfN (hm := mm58) dX1_name_2_6 (fokn1 (k := 0) (T := TX20) 18 (Nat.le_of_ble_eq_true rfl) vc_18 (Nat.le_of_ble_eq_true rfl) q1067)
theorem n58_9 : Snd mt G 58 9 (oIast [100] 10) := w_iastore (hm := mm58) (kt := 0) dX1_name_2_9 at_0 (Nat.le_of_ble_eq_true rfl) (List.forall_mem_cons.mpr ⟨rfl, (fun t ht => nomatch ht)⟩)
theorem n58_10 : Snd mt G 58 10 (oAload 0 11) := w_aload_n (hm := mm58) dX1_name_2_10
theorem n58_11 : Snd mt G 58 11 (oGetf [1] 9 14) := w_getf (hm := mm58) dX1_name_2_11 (fok1 (k := 9) (T := TX1) 0 (Nat.le_of_ble_eq_true rfl) vc_0 (Nat.le_of_ble_eq_true rfl) q632)
theorem n58_14 : Snd mt G 58 14 (oConst (.int 1) 15) := w_iconst (hm := mm58) dX1_name_2_14 rfl
theorem n58_15 : Snd mt G 58 15 (oAload 1 16) := w_aload_n (hm := mm58) dX1_name_2_15
theorem n58_16 : Snd mt G 58 16 (oGetf [19] 1 19) := w_getfN (hm := mm58) dX1_name_2_16 (fokn1 (k := 1) (T := TX20) 18 (Nat.le_of_ble_eq_true rfl) vc_18 (Nat.le_of_ble_eq_true rfl) q1069)
theorem n58_19 : Snd mt G 58 19 (oIast [100] 20) := w_iastore (hm := mm58) (kt := 0) dX1_name_2_19 at_0 (Nat.le_of_ble_eq_true rfl) (List.forall_mem_cons.mpr ⟨rfl, (fun t ht => nomatch ht)⟩)
theorem n58_20 : Snd mt G 58 20 (oAload 0 21) := w_aload_n (hm := mm58) dX1_name_2_20
theorem n58_21 : Snd mt G 58 21 (oGetf [1] 9 24) := w_getf (hm := mm58) dX1_name_2_21 (fok1 (k := 9) (T := TX1) 0 (Nat.le_of_ble_eq_true rfl) vc_0 (Nat.le_of_ble_eq_true rfl) q632)
theorem n58_24 : Snd mt G 58 24 (oConst (.int 2) 25) := w_iconst (hm := mm58) dX1_name_2_24 rfl
theorem n58_25 : Snd mt G 58 25 (oIload 2 26) := w_iload_n (hm := mm58) dX1_name_2_25
theorem n58_26 : Snd mt G 58 26 (oAload 1 27) := w_aload_n (hm := mm58) dX1_name_2_26
theorem n58_27 : Snd mt G 58 27 (oGetf [19] 7 30) := w_getfN (hm := mm58) dX1_name_2_27 (fokn1 (k := 7) (T := TX20) 18 (Nat.le_of_ble_eq_true rfl) vc_18 (Nat.le_of_ble_eq_true rfl) q1081)
theorem n58_30 : Snd mt G 58 30 (oBin (fun x y => x - y) 31) := w_isub (hm := mm58) dX1_name_2_30
theorem n58_31 : Snd mt G 58 31 (oConst (.int 365) 34) := w_sipush (hm := mm58) dX1_name_2_31 (by decide)
theorem n58_34 : Snd mt G 58 34 (oDiv (fun x y => x / y) 35) := w_idiv (hm := mm58) dX1_name_2_34
theorem n58_35 : Snd mt G 58 35 (oIast [100] 36) := w_iastore (hm := mm58) (kt := 0) dX1_name_2_35 at_0 (Nat.le_of_ble_eq_true rfl) (List.forall_mem_cons.mpr ⟨rfl, (fun t ht => nomatch ht)⟩)
theorem n58_36 : Snd mt G 58 36 (oAload 0 37) := w_aload_n (hm := mm58) dX1_name_2_36
theorem n58_37 : Snd mt G 58 37 (oGetf [1] 9 40) := w_getf (hm := mm58) dX1_name_2_37 (fok1 (k := 9) (T := TX1) 0 (Nat.le_of_ble_eq_true rfl) vc_0 (Nat.le_of_ble_eq_true rfl) q632)
theorem n58_40 : Snd mt G 58 40 (oConst (.int 3) 41) := w_iconst (hm := mm58) dX1_name_2_40 rfl
theorem n58_41 : Snd mt G 58 41 (oAload 1 42) := w_aload_n (hm := mm58) dX1_name_2_41
theorem n58_42 : Snd mt G 58 42 (oGetf [19] 3 45) := w_getfN (hm := mm58) dX1_name_2_42 (fokn1 (k := 3) (T := TX20) 18 (Nat.le_of_ble_eq_true rfl) vc_18 (Nat.le_of_ble_eq_true rfl) q1073)
theorem n58_45 : Snd mt G 58 45 (oIast [100] 46) := w_iastore (hm := mm58) (kt := 0) dX1_name_2_45 at_0 (Nat.le_of_ble_eq_true rfl) (List.forall_mem_cons.mpr ⟨rfl, (fun t ht => nomatch ht)⟩)
theorem n58_46 : Snd mt G 58 46 (oAload 0 47) := w_aload_n (hm := mm58) dX1_name_2_46
theorem n58_47 : Snd mt G 58 47 (oGetf [1] 9 50) := w_getf (hm := mm58) dX1_name_2_47 (fok1 (k := 9) (T := TX1) 0 (Nat.le_of_ble_eq_true rfl) vc_0 (Nat.le_of_ble_eq_true rfl) q632)
theorem n58_50 : Snd mt G 58 50 (oConst (.int 4) 51) := w_iconst (hm := mm58) dX1_name_2_50 rfl
theorem n58_51 : Snd mt G 58 51 (oAload 1 52) := w_aload_n (hm := mm58) dX1_name_2_51
theorem n58_52 : Snd mt G 58 52 (oGetf [19] 2 55) := w_getfN (hm := mm58) dX1_name_2_52 (fokn1 (k := 2) (T := TX20) 18 (Nat.le_of_ble_eq_true rfl) vc_18 (Nat.le_of_ble_eq_true rfl) q1071)
theorem n58_55 : Snd mt G 58 55 (oIast [100] 56) := w_iastore (hm := mm58) (kt := 0) dX1_name_2_55 at_0 (Nat.le_of_ble_eq_true rfl) (List.forall_mem_cons.mpr ⟨rfl, (fun t ht => nomatch ht)⟩)
theorem n58_56 : Snd mt G 58 56 (oAload 0 57) := w_aload_n (hm := mm58) dX1_name_2_56
theorem n58_57 : Snd mt G 58 57 (oGetf [1] 9 60) := w_getf (hm := mm58) dX1_name_2_57 (fok1 (k := 9) (T := TX1) 0 (Nat.le_of_ble_eq_true rfl) vc_0 (Nat.le_of_ble_eq_true rfl) q632)
theorem n58_60 : Snd mt G 58 60 (oConst (.int 5) 61) := w_iconst (hm := mm58) dX1_name_2_60 rfl
theorem n58_61 : Snd mt G 58 61 (oAload 1 62) := w_aload_n (hm := mm58) dX1_name_2_61
theorem n58_62 : Snd mt G 58 62 (oGetf [19] 9 65) := w_getfN (hm := mm58) dX1_name_2_62 (fokn1 (k := 9) (T := TX20) 18 (Nat.le_of_ble_eq_true rfl) vc_18 (Nat.le_of_ble_eq_true rfl) q1085)
theorem n58_65 : Snd mt G 58 65 (oIload 2 66) := w_iload_n (hm := mm58) dX1_name_2_65
theorem n58_66 : Snd mt G 58 66 (oConst (.int 365) 69) := w_sipush (hm := mm58) dX1_name_2_66 (by decide)
theorem n58_69 : Snd mt G 58 69 (oDiv (fun x y => x / y) 70) := w_idiv (hm := mm58) dX1_name_2_69
theorem n58_70 : Snd mt G 58 70 (oAld [100] 71) := w_iaload (hm := mm58) (kt := 0) dX1_name_2_70 at_0 (Nat.le_of_ble_eq_true rfl) (List.forall_mem_cons.mpr ⟨Or.inl rfl, (fun t ht => nomatch ht)⟩)
theorem n58_71 : Snd mt G 58 71 (oIast [100] 72) := w_iastore (hm := mm58) (kt := 0) dX1_name_2_71 at_0 (Nat.le_of_ble_eq_true rfl) (List.forall_mem_cons.mpr ⟨rfl, (fun t ht => nomatch ht)⟩)
theorem n58_72 : Snd mt G 58 72 (oAload 0 73) := w_aload_n (hm := mm58) dX1_name_2_72
theorem n58_73 : Snd mt G 58 73 (oIload 2 74) := w_iload_n (hm := mm58) dX1_name_2_73
theorem n58_74 : Snd mt G 58 74 (oCall 2 (fV [1] 59 4) 0 77 xOut) := s_callV (m' := 59) (n := 1) xsh_out (w_xok0 mm58) (w_cal mm58 mm59 pn_X1 (Nat.le_of_ble_eq_true rfl) (Nat.le_of_ble_eq_true rfl)) (fun h b as hc hn => w_run_V (ci := 0) mm58 mm59 dX1_name_2_74 (Or.inl (List.mem_singleton.mp hc)) (Nat.le_of_ble_eq_true rfl) vc_0 rfl q740 q742 qs5 q129 q743 pa59 hn)
theorem n58_77 : Snd mt G 58 77 (oIstore 3 78) := w_istore_n (hm := mm58) dX1_name_2_77 (Nat.le_of_ble_eq_true rfl)
theorem n58_78 : Snd mt G 58 78 (oAload 0 79) := w_aload_n (hm := mm58) dX1_name_2_78
theorem n58_79 : Snd mt G 58 79 (oIload 3 80) := w_iload_n (hm := mm58) dX1_name_2_79
theorem n58_80 : Snd mt G 58 80 (oConst (.int (-1)) 81) := w_iconst (hm := mm58) dX1_name_2_80 rfl
theorem n58_81 : Snd mt G 58 81 (oCmpEq 84 91) := w_icmp_ne (hm := mm58) dX1_name_2_81 rfl
theorem n58_84 : Snd mt G 58 84 (oAload 0 85) := w_aload_n (hm := mm58) dX1_name_2_84
theorem n58_85 : Snd mt G 58 85 (oGetf [1] 3 88) := w_getf (hm := mm58) dX1_name_2_85 (fok1 (k := 3) (T := TX1) 0 (Nat.le_of_ble_eq_true rfl) vc_0 (Nat.le_of_ble_eq_true rfl) q626)
theorem n58_88 : Snd mt G 58 88 (oGoto 105) := w_goto (hm := mm58) dX1_name_2_88 rfl
theorem n58_91 : Snd mt G 58 91 (oAload 0 92) := w_aload_n (hm := mm58) dX1_name_2_91
theorem n58_92 : Snd mt G 58 92 (oGetf [1] 1 95) := w_getf (hm := mm58) dX1_name_2_92 (fok1 (k := 1) (T := TX1) 0 (Nat.le_of_ble_eq_true rfl) vc_0 (Nat.le_of_ble_eq_true rfl) q624)
theorem n58_95 : Snd mt G 58 95 (oIload 3 96) := w_iload_n (hm := mm58) dX1_name_2_95
theorem n58_96 : Snd mt G 58 96 (oCall 2 (fV [3] 176 2) 0 99 xOut) := s_callV (m' := 176) (n := 1) xsh_out (w_xok0 mm58) (w_cal mm58 mm176 pn_J2 (Nat.le_of_ble_eq_true rfl) (Nat.le_of_ble_eq_true rfl)) (fun h b as hc hn => w_run_V (ci := 2) mm58 mm176 dX1_name_2_96 (Or.inl (List.mem_singleton.mp hc)) (Nat.le_of_ble_eq_true rfl) vc_2 rfl q713 q714 q715 q133 q716 pa176 hn)
theorem n58_99 : Snd mt G 58 99 (oCast [5] 102) := w_cast (hm := mm58) dX1_name_2_99 q744 (List.forall_mem_cons.mpr ⟨⟨4, _, Or.inl rfl, (Nat.le_of_ble_eq_true rfl), vc_4, Or.inl rfl⟩, (fun t ht => nomatch ht)⟩)
theorem n58_102 : Snd mt G 58 102 (oGetf [5] 1 105) := w_getfN (hm := mm58) dX1_name_2_102 (fokn1 (k := 1) (T := TX4) 4 (Nat.le_of_ble_eq_true rfl) vc_4 (Nat.le_of_ble_eq_true rfl) q1599)
theorem n58_105 : Snd mt G 58 105 (oPutf [1] 2 (.object "java/util/ArrayList") 108) := w_putf (hm := mm58) dX1_name_2_105 (pok1 (k := 2) (T := TX1) 0 (Nat.le_of_ble_eq_true rfl) vc_0 (Nat.le_of_ble_eq_true rfl) rfl pd_X1_2 q625)
theorem n58_108 : Snd mt G 58 108 (oRetV) := w_vret (hm := mm58) dX1_name_2_108 rfl
theorem sj58 : ∀ pc, Snd mt G 58 pc (j58 pc) := fun pc => (snd_br ((snd_br ((snd_br ((snd_br ((snd_br ((snd_br ((snd_lf n58_108)) ((snd_lf n58_105)))) ((snd_br ((snd_lf n58_102)) ((snd_lf n58_99)))))) ((snd_br ((snd_br ((snd_lf n58_96)) ((snd_lf n58_95)))) ((snd_br ((snd_lf n58_92)) ((snd_lf n58_91)))))))) ((snd_br ((snd_br ((snd_br ((snd_lf n58_88)) ((snd_lf n58_85)))) ((snd_br ((snd_lf n58_84)) ((snd_lf n58_81)))))) ((snd_br ((snd_br ((snd_lf n58_80)) ((snd_lf n58_79)))) ((snd_br ((snd_lf n58_78)) ((snd_lf n58_77)))))))))) ((snd_br ((snd_br ((snd_br ((snd_br ((snd_lf n58_74)) ((snd_lf n58_73)))) ((snd_br ((snd_lf n58_72)) ((snd_lf n58_71)))))) ((snd_br ((snd_br ((snd_lf n58_70)) ((snd_lf n58_69)))) ((snd_br ((snd_lf n58_66)) ((snd_lf n58_65)))))))) ((snd_br ((snd_br ((snd_br ((snd_lf n58_62)) ((snd_lf n58_61)))) ((snd_br ((snd_lf n58_60)) ((snd_lf n58_57)))))) ((snd_br ((snd_br ((snd_lf n58_56)) ((snd_lf n58_55)))) ((snd_br ((snd_lf n58_52)) ((snd_lf n58_51)))))))))))) ((snd_br ((snd_br ((snd_br ((snd_br ((snd_br ((snd_lf n58_50)) ((snd_lf n58_47)))) ((snd_br ((snd_lf n58_46)) ((snd_lf n58_45)))))) ((snd_br ((snd_br ((snd_lf n58_42)) ((snd_lf n58_41)))) ((snd_br ((snd_lf n58_40)) ((snd_lf n58_37)))))))) ((snd_br ((snd_br ((snd_br ((snd_lf n58_36)) ((snd_lf n58_35)))) ((snd_br ((snd_lf n58_34)) ((snd_lf n58_31)))))) ((snd_br ((snd_br ((snd_lf n58_30)) ((snd_lf n58_27)))) ((snd_br ((snd_lf n58_26)) ((snd_lf n58_25)))))))))) ((snd_br ((snd_br ((snd_br ((snd_br ((snd_lf n58_24)) ((snd_lf n58_21)))) ((snd_br ((snd_lf n58_20)) ((snd_lf n58_19)))))) ((snd_br ((snd_br ((snd_lf n58_16)) ((snd_lf n58_15)))) ((snd_br ((snd_lf n58_14)) ((snd_lf n58_11)))))))) ((snd_br ((snd_br ((snd_br ((snd_lf n58_10)) ((snd_lf n58_9)))) ((snd_br ((snd_lf n58_6)) ((snd_lf n58_5)))))) ((snd_br ((snd_br ((snd_lf n58_4)) ((snd_lf n58_1)))) ((snd_lf n58_0)))))))))))
end
section
variable {G : AG}
theorem n59_0 : Snd mt G 59 0 (oConst (.int (-1)) 1) := w_iconst (hm := mm59) dX1_countsOn_0 rfl
theorem n59_1 : Snd mt G 59 1 (oIstore 2 2) := w_istore_n (hm := mm59) dX1_countsOn_1 (Nat.le_of_ble_eq_true rfl)
theorem n59_2 : Snd mt G 59 2 (oConst (.int 0) 3) := w_iconst (hm := mm59) dX1_countsOn_2 rfl
theorem n59_3 : Snd mt G 59 3 (oIstore 3 4) := w_istore_n (hm := mm59) dX1_countsOn_3 (Nat.le_of_ble_eq_true rfl)
theorem n59_4 : Snd mt G 59 4 (oIload 3 5) := w_iload_n (hm := mm59) dX1_countsOn_4
theorem n59_5 : Snd mt G 59 5 (oAload 0 6) := w_aload_n (hm := mm59) dX1_countsOn_5
theorem n59_6 : Snd mt G 59 6 (oGetf [1] 1 9) := w_getf (hm := mm59) dX1_countsOn_6 (fok1 (k := 1) (T := TX1) 0 (Nat.le_of_ble_eq_true rfl) vc_0 (Nat.le_of_ble_eq_true rfl) q624)
theorem n59_9 : Snd mt G 59 9 (oCall 1 (fV [3] 175 1) 0 12 xOut) := s_callV (m' := 175) (n := 0) xsh_out (w_xok0 mm59) (w_cal mm59 mm175 pn_J2 (Nat.le_of_ble_eq_true rfl) (Nat.le_of_ble_eq_true rfl)) (fun h b as hc hn => w_run_V (ci := 2) mm59 mm175 dX1_countsOn_9 (Or.inl (List.mem_singleton.mp hc)) (Nat.le_of_ble_eq_true rfl) vc_2 rfl q709 q710 q711 q133 q712 pa175 hn)
theorem n59_12 : Snd mt G 59 12 (oCmpGe 77 15) := w_icmp_ge (hm := mm59) dX1_countsOn_12 rfl
theorem n59_15 : Snd mt G 59 15 (oAload 0 16) := w_aload_n (hm := mm59) dX1_countsOn_15
theorem n59_16 : Snd mt G 59 16 (oGetf [1] 1 19) := w_getf (hm := mm59) dX1_countsOn_16 (fok1 (k := 1) (T := TX1) 0 (Nat.le_of_ble_eq_true rfl) vc_0 (Nat.le_of_ble_eq_true rfl) q624)
theorem n59_19 : Snd mt G 59 19 (oIload 3 20) := w_iload_n (hm := mm59) dX1_countsOn_19
theorem n59_20 : Snd mt G 59 20 (oCall 2 (fV [3] 176 2) 0 23 xOut) := s_callV (m' := 176) (n := 1) xsh_out (w_xok0 mm59) (w_cal mm59 mm176 pn_J2 (Nat.le_of_ble_eq_true rfl) (Nat.le_of_ble_eq_true rfl)) (fun h b as hc hn => w_run_V (ci := 2) mm59 mm176 dX1_countsOn_20 (Or.inl (List.mem_singleton.mp hc)) (Nat.le_of_ble_eq_true rfl) vc_2 rfl q713 q714 q715 q133 q716 pa176 hn)
theorem n59_23 : Snd mt G 59 23 (oCast [5] 26) := w_cast (hm := mm59) dX1_countsOn_23 q744 (List.forall_mem_cons.mpr ⟨⟨4, _, Or.inl rfl, (Nat.le_of_ble_eq_true rfl), vc_4, Or.inl rfl⟩, (fun t ht => nomatch ht)⟩)
theorem n59_26 : Snd mt G 59 26 (oGetf [5] 0 29) := w_getfN (hm := mm59) dX1_countsOn_26 (fokn1 (k := 0) (T := TX4) 4 (Nat.le_of_ble_eq_true rfl) vc_4 (Nat.le_of_ble_eq_true rfl) q1597)
theorem n59_29 : Snd mt G 59 29 (oIload 1 30) := w_iload_n (hm := mm59) dX1_countsOn_29
theorem n59_30 : Snd mt G 59 30 (oCmpGt 71 33) := w_icmp_gt (hm := mm59) dX1_countsOn_30 rfl
theorem n59_33 : Snd mt G 59 33 (oIload 2 34) := w_iload_n (hm := mm59) dX1_countsOn_33
theorem n59_34 : Snd mt G 59 34 (oConst (.int (-1)) 35) := w_iconst (hm := mm59) dX1_countsOn_34 rfl
theorem n59_35 : Snd mt G 59 35 (oCmpEq 69 38) := w_icmp_eq (hm := mm59) dX1_countsOn_35 rfl
theorem n59_38 : Snd mt G 59 38 (oAload 0 39) := w_aload_n (hm := mm59) dX1_countsOn_38
theorem n59_39 : Snd mt G 59 39 (oGetf [1] 1 42) := w_getf (hm := mm59) dX1_countsOn_39 (fok1 (k := 1) (T := TX1) 0 (Nat.le_of_ble_eq_true rfl) vc_0 (Nat.le_of_ble_eq_true rfl) q624)
theorem n59_42 : Snd mt G 59 42 (oIload 3 43) := w_iload_n (hm := mm59) dX1_countsOn_42
theorem n59_43 : Snd mt G 59 43 (oCall 2 (fV [3] 176 2) 0 46 xOut) := s_callV (m' := 176) (n := 1) xsh_out (w_xok0 mm59) (w_cal mm59 mm176 pn_J2 (Nat.le_of_ble_eq_true rfl) (Nat.le_of_ble_eq_true rfl)) (fun h b as hc hn => w_run_V (ci := 2) mm59 mm176 dX1_countsOn_43 (Or.inl (List.mem_singleton.mp hc)) (Nat.le_of_ble_eq_true rfl) vc_2 rfl q713 q714 q715 q133 q716 pa176 hn)
theorem n59_46 : Snd mt G 59 46 (oCast [5] 49) := w_cast (hm := mm59) dX1_countsOn_46 q744 (List.forall_mem_cons.mpr ⟨⟨4, _, Or.inl rfl, (Nat.le_of_ble_eq_true rfl), vc_4, Or.inl rfl⟩, (fun t ht => nomatch ht)⟩)
theorem n59_49 : Snd mt G 59 49 (oGetf [5] 0 52) := w_getfN (hm := mm59) dX1_countsOn_49 (fokn1 (k := 0) (T := TX4) 4 (Nat.le_of_ble_eq_true rfl) vc_4 (Nat.le_of_ble_eq_true rfl) q1597)
theorem n59_52 : Snd mt G 59 52 (oAload 0 53) := w_aload_n (hm := mm59) dX1_countsOn_52
theorem n59_53 : Snd mt G 59 53 (oGetf [1] 1 56) := w_getf (hm := mm59) dX1_countsOn_53 (fok1 (k := 1) (T := TX1) 0 (Nat.le_of_ble_eq_true rfl) vc_0 (Nat.le_of_ble_eq_true rfl) q624)
theorem n59_56 : Snd mt G 59 56 (oIload 2 57) := w_iload_n (hm := mm59) dX1_countsOn_56
theorem n59_57 : Snd mt G 59 57 (oCall 2 (fV [3] 176 2) 0 60 xOut) := s_callV (m' := 176) (n := 1) xsh_out (w_xok0 mm59) (w_cal mm59 mm176 pn_J2 (Nat.le_of_ble_eq_true rfl) (Nat.le_of_ble_eq_true rfl)) (fun h b as hc hn => w_run_V (ci := 2) mm59 mm176 dX1_countsOn_57 (Or.inl (List.mem_singleton.mp hc)) (Nat.le_of_ble_eq_true rfl) vc_2 rfl q713 q714 q715 q133 q716 pa176 hn)
theorem n59_60 : Snd mt G 59 60 (oCast [5] 63) := w_cast (hm := mm59) dX1_countsOn_60 q744 (List.forall_mem_cons.mpr ⟨⟨4, _, Or.inl rfl, (Nat.le_of_ble_eq_true rfl), vc_4, Or.inl rfl⟩, (fun t ht => nomatch ht)⟩)
theorem n59_63 : Snd mt G 59 63 (oGetf [5] 0 66) := w_getfN (hm := mm59) dX1_countsOn_63 (fokn1 (k := 0) (T := TX4) 4 (Nat.le_of_ble_eq_true rfl) vc_4 (Nat.le_of_ble_eq_true rfl) q1597)
theorem n59_66 : Snd mt G 59 66 (oCmpLt 71 69) := w_icmp_lt (hm := mm59) dX1_countsOn_66 rfl
theorem n59_69 : Snd mt G 59 69 (oIload 3 70) := w_iload_n (hm := mm59) dX1_countsOn_69
theorem n59_70 : Snd mt G 59 70 (oIstore 2 71) := w_istore_n (hm := mm59) dX1_countsOn_70 (Nat.le_of_ble_eq_true rfl)
theorem n59_71 : Snd mt G 59 71 (oIinc 3 1 74) := w_iinc (hm := mm59) dX1_countsOn_71 rfl (Nat.le_of_ble_eq_true rfl)
theorem n59_74 : Snd mt G 59 74 (oGoto 4) := w_goto (hm := mm59) dX1_countsOn_74 rfl
theorem n59_77 : Snd mt G 59 77 (oIload 2 78) := w_iload_n (hm := mm59) dX1_countsOn_77
theorem n59_78 : Snd mt G 59 78 (oRetI .int) := w_iret (hm := mm59) dX1_countsOn_78 rfl
theorem sj59 : ∀ pc, Snd mt G 59 pc (j59 pc) := fun pc => (snd_br ((snd_br ((snd_br ((snd_br ((snd_br ((snd_br ((snd_lf n59_78)) ((snd_lf n59_77)))) ((snd_lf n59_74)))) ((snd_br ((snd_lf n59_71)) ((snd_lf n59_70)))))) ((snd_br ((snd_br ((snd_br ((snd_lf n59_69)) ((snd_lf n59_66)))) ((snd_lf n59_63)))) ((snd_br ((snd_lf n59_60)) ((snd_lf n59_57)))))))) ((snd_br ((snd_br ((snd_br ((snd_br ((snd_lf n59_56)) ((snd_lf n59_53)))) ((snd_lf n59_52)))) ((snd_br ((snd_lf n59_49)) ((snd_lf n59_46)))))) ((snd_br ((snd_br ((snd_br ((snd_lf n59_43)) ((snd_lf n59_42)))) ((snd_lf n59_39)))) ((snd_br ((snd_lf n59_38)) ((snd_lf n59_35)))))))))) ((snd_br ((snd_br ((snd_br ((snd_br ((snd_br ((snd_lf n59_34)) ((snd_lf n59_33)))) ((snd_lf n59_30)))) ((snd_br ((snd_lf n59_29)) ((snd_lf n59_26)))))) ((snd_br ((snd_br ((snd_br ((snd_lf n59_23)) ((snd_lf n59_20)))) ((snd_lf n59_19)))) ((snd_br ((snd_lf n59_16)) ((snd_lf n59_15)))))))) ((snd_br ((snd_br ((snd_br ((snd_br ((snd_lf n59_12)) ((snd_lf n59_9)))) ((snd_lf n59_6)))) ((snd_br ((snd_lf n59_5)) ((snd_lf n59_4)))))) ((snd_br ((snd_br ((snd_lf n59_3)) ((snd_lf n59_2)))) ((snd_br ((snd_lf n59_1)) ((snd_lf n59_0)))))))))))
end
section
variable {G : AG}
theorem n60_0 : Snd mt G 60 0 (oAload 0 1) := w_aload_n (hm := mm60) dX1_valueOf_0
theorem n60_1 : Snd mt G 60 1 (oIload 1 2) := w_iload_n (hm := mm60) dX1_valueOf_1
theorem n60_2 : Snd mt G 60 2 (oIload 2 3) := w_iload_n (hm := mm60) dX1_valueOf_2
theorem n60_3 : Snd mt G 60 3 (oCall 3 (fV [1] 61 5) 0 6 xOut) := s_callV (m' := 61) (n := 2) xsh_out (w_xok0 mm60) (w_cal mm60 mm61 pn_X1 (Nat.le_of_ble_eq_true rfl) (Nat.le_of_ble_eq_true rfl)) (fun h b as hc hn => w_run_V (ci := 0) mm60 mm61 dX1_valueOf_3 (Or.inl (List.mem_singleton.mp hc)) (Nat.le_of_ble_eq_true rfl) vc_0 rfl q750 q752 qs7 q129 q753 pa61 hn)
theorem n60_6 : Snd mt G 60 6 (oAstore 4 8) := w_astore (hm := mm60) dX1_valueOf_6 (Nat.le_of_ble_eq_true rfl)
theorem n60_8 : Snd mt G 60 8 (oAload 4 10) := w_aload (hm := mm60) dX1_valueOf_8
theorem n60_10 : Snd mt G 60 10 (oIfNull 13 17) := w_ifnonnull (hm := mm60) dX1_valueOf_10 rfl
theorem n60_13 : Snd mt G 60 13 (oConst (.int (-1)) 14) := w_iconst (hm := mm60) dX1_valueOf_13 rfl
theorem n60_14 : Snd mt G 60 14 (oGoto 34) := w_goto (hm := mm60) dX1_valueOf_14 rfl
theorem n60_17 : Snd mt G 60 17 (oConst (.int 0) 18) := w_iconst (hm := mm60) dX1_valueOf_17 rfl
theorem n60_18 : Snd mt G 60 18 (oIload 3 19) := w_iload_n (hm := mm60) dX1_valueOf_18
theorem n60_19 : Snd mt G 60 19 (oAload 4 21) := w_aload (hm := mm60) dX1_valueOf_19
theorem n60_21 : Snd mt G 60 21 (oAload 0 22) := w_aload_n (hm := mm60) dX1_valueOf_21
theorem n60_22 : Snd mt G 60 22 (oGetf [1] 9 25) := w_getf (hm := mm60) dX1_valueOf_22 (fok1 (k := 9) (T := TX1) 0 (Nat.le_of_ble_eq_true rfl) vc_0 (Nat.le_of_ble_eq_true rfl) q632)
theorem n60_25 : Snd mt G 60 25 (oCall 2 (fP [(8, 446, 2), (9, 454, 2), (13, 446, 2), (14, 446, 2)]) 0 28 xOut) := s_callP (n := 1) (len := 3) xsh_out (w_xok0 mm60) (List.forall_mem_cons.mpr ⟨(w_cal mm60 mm446 pn_X7 (Nat.le_of_ble_eq_true rfl) (Nat.le_of_ble_eq_true rfl)), (List.forall_mem_cons.mpr ⟨(w_cal mm60 mm454 pn_X9 (Nat.le_of_ble_eq_true rfl) (Nat.le_of_ble_eq_true rfl)), (List.forall_mem_cons.mpr ⟨(w_cal mm60 mm446 pn_X7 (Nat.le_of_ble_eq_true rfl) (Nat.le_of_ble_eq_true rfl)), (List.forall_mem_cons.mpr ⟨(w_cal mm60 mm446 pn_X7 (Nat.le_of_ble_eq_true rfl) (Nat.le_of_ble_eq_true rfl)), (fun z hz => nomatch hz)⟩)⟩)⟩)⟩) (List.forall_mem_cons.mpr ⟨(fun h b as hc hn => w_run_U (owner := "LimbBenches$Clause") (ci := 7) mm60 mm446 dX1_valueOf_25 (Or.inl hc) (Nat.le_of_ble_eq_true rfl) vc_7 (Or.inl rfl) q813 q815 q814 q816 q154 q824 ⟨by decide, by decide, by decide +kernel⟩ hn), (List.forall_mem_cons.mpr ⟨(fun h b as hc hn => w_run_U (owner := "LimbBenches$Clause") (ci := 8) mm60 mm454 dX1_valueOf_25 (Or.inl hc) (Nat.le_of_ble_eq_true rfl) vc_8 (Or.inr (Or.inl ⟨_, _, _, q824, q814⟩)) q813 q815 q820 q819 q156 q821 ⟨by decide, by decide, by decide +kernel⟩ hn), (List.forall_mem_cons.mpr ⟨(fun h b as hc hn => w_run_U (owner := "LimbBenches$Clause") (ci := 12) mm60 mm446 dX1_valueOf_25 (Or.inl hc) (Nat.le_of_ble_eq_true rfl) vc_12 (Or.inl rfl) q813 q815 q814 q818 q154 q824 ⟨by decide, by decide, by decide +kernel⟩ hn), (List.forall_mem_cons.mpr ⟨(fun h b as hc hn => w_run_U (owner := "LimbBenches$Clause") (ci := 13) mm60 mm446 dX1_valueOf_25 (Or.inl hc) (Nat.le_of_ble_eq_true rfl) vc_13 (Or.inl rfl) q813 q815 q814 q817 q154 q824 ⟨by decide, by decide, by decide +kernel⟩ hn), (fun z hz => nomatch hz)⟩)⟩)⟩)⟩)
theorem n60_28 : Snd mt G 60 28 (oMath2 (fun x y => if y < x then y else x) 31) := w_mmin (hm := mm60) dX1_valueOf_28 (Nat.le_of_ble_eq_true rfl) q825 q331 q143 q332
theorem n60_31 : Snd mt G 60 31 (oMath2 (fun x y => if x < y then y else x) 34) := w_mmax (hm := mm60) dX1_valueOf_31 (Nat.le_of_ble_eq_true rfl) q826 q313 q143 q314
theorem n60_34 : Snd mt G 60 34 (oRetI .int) := w_iret (hm := mm60) dX1_valueOf_34 rfl
theorem sj60 : ∀ pc, Snd mt G 60 pc (j60 pc) := fun pc => (snd_br ((snd_br ((snd_br ((snd_br ((snd_br ((snd_lf n60_34)) ((snd_lf n60_31)))) ((snd_lf n60_28)))) ((snd_br ((snd_lf n60_25)) ((snd_lf n60_22)))))) ((snd_br ((snd_br ((snd_lf n60_21)) ((snd_lf n60_19)))) ((snd_br ((snd_lf n60_18)) ((snd_lf n60_17)))))))) ((snd_br ((snd_br ((snd_br ((snd_br ((snd_lf n60_14)) ((snd_lf n60_13)))) ((snd_lf n60_10)))) ((snd_br ((snd_lf n60_8)) ((snd_lf n60_6)))))) ((snd_br ((snd_br ((snd_lf n60_3)) ((snd_lf n60_2)))) ((snd_br ((snd_lf n60_1)) ((snd_lf n60_0)))))))))
end
section
variable {G : AG}
theorem n61_0 : Snd mt G 61 0 (oConst .null 1) := w_null (hm := mm61) dX1_lastOf_0
theorem n61_1 : Snd mt G 61 1 (oAstore 3 2) := w_astore_n (hm := mm61) dX1_lastOf_1 (Nat.le_of_ble_eq_true rfl)
theorem n61_2 : Snd mt G 61 2 (oConst (.int 0) 3) := w_iconst (hm := mm61) dX1_lastOf_2 rfl
theorem n61_3 : Snd mt G 61 3 (oIstore 4 5) := w_istore (hm := mm61) dX1_lastOf_3 (Nat.le_of_ble_eq_true rfl)
theorem n61_5 : Snd mt G 61 5 (oIload 4 7) := w_iload (hm := mm61) dX1_lastOf_5
theorem n61_7 : Snd mt G 61 7 (oAload 0 8) := w_aload_n (hm := mm61) dX1_lastOf_7
theorem n61_8 : Snd mt G 61 8 (oGetf [1] 2 11) := w_getf (hm := mm61) dX1_lastOf_8 (fok1 (k := 2) (T := TX1) 0 (Nat.le_of_ble_eq_true rfl) vc_0 (Nat.le_of_ble_eq_true rfl) q625)
theorem n61_11 : Snd mt G 61 11 (oCall 1 (fV [3] 175 1) 0 14 xOut) := s_callV (m' := 175) (n := 0) xsh_out (w_xok0 mm61) (w_cal mm61 mm175 pn_J2 (Nat.le_of_ble_eq_true rfl) (Nat.le_of_ble_eq_true rfl)) (fun h b as hc hn => w_run_V (ci := 2) mm61 mm175 dX1_lastOf_11 (Or.inl (List.mem_singleton.mp hc)) (Nat.le_of_ble_eq_true rfl) vc_2 rfl q709 q710 q711 q133 q712 pa175 hn)
theorem n61_14 : Snd mt G 61 14 (oCmpGe 78 17) := w_icmp_ge (hm := mm61) dX1_lastOf_14 rfl
theorem n61_17 : Snd mt G 61 17 (oAload 0 18) := w_aload_n (hm := mm61) dX1_lastOf_17
theorem n61_18 : Snd mt G 61 18 (oGetf [1] 2 21) := w_getf (hm := mm61) dX1_lastOf_18 (fok1 (k := 2) (T := TX1) 0 (Nat.le_of_ble_eq_true rfl) vc_0 (Nat.le_of_ble_eq_true rfl) q625)
theorem n61_21 : Snd mt G 61 21 (oIload 4 23) := w_iload (hm := mm61) dX1_lastOf_21
theorem n61_23 : Snd mt G 61 23 (oCall 2 (fV [3] 176 2) 0 26 xOut) := s_callV (m' := 176) (n := 1) xsh_out (w_xok0 mm61) (w_cal mm61 mm176 pn_J2 (Nat.le_of_ble_eq_true rfl) (Nat.le_of_ble_eq_true rfl)) (fun h b as hc hn => w_run_V (ci := 2) mm61 mm176 dX1_lastOf_23 (Or.inl (List.mem_singleton.mp hc)) (Nat.le_of_ble_eq_true rfl) vc_2 rfl q713 q714 q715 q133 q716 pa176 hn)
theorem n61_26 : Snd mt G 61 26 (oCast [8, 9, 13, 14] 29) := w_cast (hm := mm61) dX1_lastOf_26 q754 (List.forall_mem_cons.mpr ⟨⟨7, _, Or.inl rfl, (Nat.le_of_ble_eq_true rfl), vc_7, Or.inr (List.mem_filter.mpr ⟨q3193, rfl⟩)⟩, (List.forall_mem_cons.mpr ⟨⟨8, _, Or.inl rfl, (Nat.le_of_ble_eq_true rfl), vc_8, Or.inr (List.mem_filter.mpr ⟨q3196, rfl⟩)⟩, (List.forall_mem_cons.mpr ⟨⟨12, _, Or.inl rfl, (Nat.le_of_ble_eq_true rfl), vc_12, Or.inr (List.mem_filter.mpr ⟨q3195, rfl⟩)⟩, (List.forall_mem_cons.mpr ⟨⟨13, _, Or.inl rfl, (Nat.le_of_ble_eq_true rfl), vc_13, Or.inr (List.mem_filter.mpr ⟨q3194, rfl⟩)⟩, (fun t ht => nomatch ht)⟩)⟩)⟩)⟩)
theorem n61_29 : Snd mt G 61 29 (oIload 1 30) := w_iload_n (hm := mm61) dX1_lastOf_29
theorem n61_30 : Snd mt G 61 30 (oIload 2 31) := w_iload_n (hm := mm61) dX1_lastOf_30
theorem n61_31 : Snd mt G 61 31 (oCall 3 (fP [(8, 444, 3), (9, 453, 3), (13, 444, 3), (14, 444, 3)]) 0 34 xOut) := s_callP (n := 2) (len := 3) xsh_out (w_xok0 mm61) (List.forall_mem_cons.mpr ⟨(w_cal mm61 mm444 pn_X7 (Nat.le_of_ble_eq_true rfl) (Nat.le_of_ble_eq_true rfl)), (List.forall_mem_cons.mpr ⟨(w_cal mm61 mm453 pn_X9 (Nat.le_of_ble_eq_true rfl) (Nat.le_of_ble_eq_true rfl)), (List.forall_mem_cons.mpr ⟨(w_cal mm61 mm444 pn_X7 (Nat.le_of_ble_eq_true rfl) (Nat.le_of_ble_eq_true rfl)), (List.forall_mem_cons.mpr ⟨(w_cal mm61 mm444 pn_X7 (Nat.le_of_ble_eq_true rfl) (Nat.le_of_ble_eq_true rfl)), (fun z hz => nomatch hz)⟩)⟩)⟩)⟩) (List.forall_mem_cons.mpr ⟨(fun h b as hc hn => w_run_U (owner := "LimbBenches$Clause") (ci := 7) mm61 mm444 dX1_lastOf_31 (Or.inl hc) (Nat.le_of_ble_eq_true rfl) vc_7 (Or.inl rfl) q755 q757 q756 q758 q154 q764 ⟨by decide, by decide, by decide +kernel⟩ hn), (List.forall_mem_cons.mpr ⟨(fun h b as hc hn => w_run_U (owner := "LimbBenches$Clause") (ci := 8) mm61 mm453 dX1_lastOf_31 (Or.inl hc) (Nat.le_of_ble_eq_true rfl) vc_8 (Or.inr (Or.inl ⟨_, _, _, q764, q756⟩)) q755 q757 q762 q761 q156 q763 ⟨by decide, by decide, by decide +kernel⟩ hn), (List.forall_mem_cons.mpr ⟨(fun h b as hc hn => w_run_U (owner := "LimbBenches$Clause") (ci := 12) mm61 mm444 dX1_lastOf_31 (Or.inl hc) (Nat.le_of_ble_eq_true rfl) vc_12 (Or.inl rfl) q755 q757 q756 q760 q154 q764 ⟨by decide, by decide, by decide +kernel⟩ hn), (List.forall_mem_cons.mpr ⟨(fun h b as hc hn => w_run_U (owner := "LimbBenches$Clause") (ci := 13) mm61 mm444 dX1_lastOf_31 (Or.inl hc) (Nat.le_of_ble_eq_true rfl) vc_13 (Or.inl rfl) q755 q757 q756 q759 q154 q764 ⟨by decide, by decide, by decide +kernel⟩ hn), (fun z hz => nomatch hz)⟩)⟩)⟩)⟩)
theorem n61_34 : Snd mt G 61 34 (oIfEq 72 37) := w_if_eq (hm := mm61) dX1_lastOf_34 rfl
theorem n61_37 : Snd mt G 61 37 (oAload 0 38) := w_aload_n (hm := mm61) dX1_lastOf_37
theorem n61_38 : Snd mt G 61 38 (oGetf [1] 2 41) := w_getf (hm := mm61) dX1_lastOf_38 (fok1 (k := 2) (T := TX1) 0 (Nat.le_of_ble_eq_true rfl) vc_0 (Nat.le_of_ble_eq_true rfl) q625)
theorem n61_41 : Snd mt G 61 41 (oIload 4 43) := w_iload (hm := mm61) dX1_lastOf_41
theorem n61_43 : Snd mt G 61 43 (oCall 2 (fV [3] 176 2) 0 46 xOut) := s_callV (m' := 176) (n := 1) xsh_out (w_xok0 mm61) (w_cal mm61 mm176 pn_J2 (Nat.le_of_ble_eq_true rfl) (Nat.le_of_ble_eq_true rfl)) (fun h b as hc hn => w_run_V (ci := 2) mm61 mm176 dX1_lastOf_43 (Or.inl (List.mem_singleton.mp hc)) (Nat.le_of_ble_eq_true rfl) vc_2 rfl q713 q714 q715 q133 q716 pa176 hn)
theorem n61_46 : Snd mt G 61 46 (oCast [8, 9, 13, 14] 49) := w_cast (hm := mm61) dX1_lastOf_46 q754 (List.forall_mem_cons.mpr ⟨⟨7, _, Or.inl rfl, (Nat.le_of_ble_eq_true rfl), vc_7, Or.inr (List.mem_filter.mpr ⟨q3193, rfl⟩)⟩, (List.forall_mem_cons.mpr ⟨⟨8, _, Or.inl rfl, (Nat.le_of_ble_eq_true rfl), vc_8, Or.inr (List.mem_filter.mpr ⟨q3196, rfl⟩)⟩, (List.forall_mem_cons.mpr ⟨⟨12, _, Or.inl rfl, (Nat.le_of_ble_eq_true rfl), vc_12, Or.inr (List.mem_filter.mpr ⟨q3195, rfl⟩)⟩, (List.forall_mem_cons.mpr ⟨⟨13, _, Or.inl rfl, (Nat.le_of_ble_eq_true rfl), vc_13, Or.inr (List.mem_filter.mpr ⟨q3194, rfl⟩)⟩, (fun t ht => nomatch ht)⟩)⟩)⟩)⟩)
theorem n61_49 : Snd mt G 61 49 (oAload 0 50) := w_aload_n (hm := mm61) dX1_lastOf_49
theorem n61_50 : Snd mt G 61 50 (oGetf [1] 9 53) := w_getf (hm := mm61) dX1_lastOf_50 (fok1 (k := 9) (T := TX1) 0 (Nat.le_of_ble_eq_true rfl) vc_0 (Nat.le_of_ble_eq_true rfl) q632)
theorem n61_53 : Snd mt G 61 53 (oCall 2 (fP [(8, 445, 2), (9, 445, 2), (13, 445, 2), (14, 445, 2)]) 0 56 xOut) := s_callP (n := 1) (len := 3) xsh_out (w_xok0 mm61) (List.forall_mem_cons.mpr ⟨(w_cal mm61 mm445 pn_X7 (Nat.le_of_ble_eq_true rfl) (Nat.le_of_ble_eq_true rfl)), (List.forall_mem_cons.mpr ⟨(w_cal mm61 mm445 pn_X7 (Nat.le_of_ble_eq_true rfl) (Nat.le_of_ble_eq_true rfl)), (List.forall_mem_cons.mpr ⟨(w_cal mm61 mm445 pn_X7 (Nat.le_of_ble_eq_true rfl) (Nat.le_of_ble_eq_true rfl)), (List.forall_mem_cons.mpr ⟨(w_cal mm61 mm445 pn_X7 (Nat.le_of_ble_eq_true rfl) (Nat.le_of_ble_eq_true rfl)), (fun z hz => nomatch hz)⟩)⟩)⟩)⟩) (List.forall_mem_cons.mpr ⟨(fun h b as hc hn => w_run_U (owner := "LimbBenches$Clause") (ci := 7) mm61 mm445 dX1_lastOf_53 (Or.inl hc) (Nat.le_of_ble_eq_true rfl) vc_7 (Or.inl rfl) q765 q767 q766 q768 q154 q772 ⟨by decide, by decide, by decide +kernel⟩ hn), (List.forall_mem_cons.mpr ⟨(fun h b as hc hn => w_run_U (owner := "LimbBenches$Clause") (ci := 8) mm61 mm445 dX1_lastOf_53 (Or.inl hc) (Nat.le_of_ble_eq_true rfl) vc_8 (Or.inl rfl) q765 q767 q766 q771 q154 q772 ⟨by decide, by decide, by decide +kernel⟩ hn), (List.forall_mem_cons.mpr ⟨(fun h b as hc hn => w_run_U (owner := "LimbBenches$Clause") (ci := 12) mm61 mm445 dX1_lastOf_53 (Or.inl hc) (Nat.le_of_ble_eq_true rfl) vc_12 (Or.inl rfl) q765 q767 q766 q770 q154 q772 ⟨by decide, by decide, by decide +kernel⟩ hn), (List.forall_mem_cons.mpr ⟨(fun h b as hc hn => w_run_U (owner := "LimbBenches$Clause") (ci := 13) mm61 mm445 dX1_lastOf_53 (Or.inl hc) (Nat.le_of_ble_eq_true rfl) vc_13 (Or.inl rfl) q765 q767 q766 q769 q154 q772 ⟨by decide, by decide, by decide +kernel⟩ hn), (fun z hz => nomatch hz)⟩)⟩)⟩)⟩)
theorem n61_56 : Snd mt G 61 56 (oIfEq 72 59) := w_if_eq (hm := mm61) dX1_lastOf_56 rfl
theorem n61_59 : Snd mt G 61 59 (oAload 0 60) := w_aload_n (hm := mm61) dX1_lastOf_59
theorem n61_60 : Snd mt G 61 60 (oGetf [1] 2 63) := w_getf (hm := mm61) dX1_lastOf_60 (fok1 (k := 2) (T := TX1) 0 (Nat.le_of_ble_eq_true rfl) vc_0 (Nat.le_of_ble_eq_true rfl) q625)
theorem n61_63 : Snd mt G 61 63 (oIload 4 65) := w_iload (hm := mm61) dX1_lastOf_63
theorem n61_65 : Snd mt G 61 65 (oCall 2 (fV [3] 176 2) 0 68 xOut) := s_callV (m' := 176) (n := 1) xsh_out (w_xok0 mm61) (w_cal mm61 mm176 pn_J2 (Nat.le_of_ble_eq_true rfl) (Nat.le_of_ble_eq_true rfl)) (fun h b as hc hn => w_run_V (ci := 2) mm61 mm176 dX1_lastOf_65 (Or.inl (List.mem_singleton.mp hc)) (Nat.le_of_ble_eq_true rfl) vc_2 rfl q713 q714 q715 q133 q716 pa176 hn)
theorem n61_68 : Snd mt G 61 68 (oCast [8, 9, 13, 14] 71) := w_cast (hm := mm61) dX1_lastOf_68 q754 (List.forall_mem_cons.mpr ⟨⟨7, _, Or.inl rfl, (Nat.le_of_ble_eq_true rfl), vc_7, Or.inr (List.mem_filter.mpr ⟨q3193, rfl⟩)⟩, (List.forall_mem_cons.mpr ⟨⟨8, _, Or.inl rfl, (Nat.le_of_ble_eq_true rfl), vc_8, Or.inr (List.mem_filter.mpr ⟨q3196, rfl⟩)⟩, (List.forall_mem_cons.mpr ⟨⟨12, _, Or.inl rfl, (Nat.le_of_ble_eq_true rfl), vc_12, Or.inr (List.mem_filter.mpr ⟨q3195, rfl⟩)⟩, (List.forall_mem_cons.mpr ⟨⟨13, _, Or.inl rfl, (Nat.le_of_ble_eq_true rfl), vc_13, Or.inr (List.mem_filter.mpr ⟨q3194, rfl⟩)⟩, (fun t ht => nomatch ht)⟩)⟩)⟩)⟩)
theorem n61_71 : Snd mt G 61 71 (oAstore 3 72) := w_astore_n (hm := mm61) dX1_lastOf_71 (Nat.le_of_ble_eq_true rfl)
theorem n61_72 : Snd mt G 61 72 (oIinc 4 1 75) := w_iinc (hm := mm61) dX1_lastOf_72 rfl (Nat.le_of_ble_eq_true rfl)
theorem n61_75 : Snd mt G 61 75 (oGoto 5) := w_goto (hm := mm61) dX1_lastOf_75 rfl
theorem n61_78 : Snd mt G 61 78 (oAload 3 79) := w_aload_n (hm := mm61) dX1_lastOf_78
theorem n61_79 : Snd mt G 61 79 (oRetA) := w_aret (hm := mm61) dX1_lastOf_79 rfl (Or.inl ⟨_, rfl⟩)
theorem sj61 : ∀ pc, Snd mt G 61 pc (j61 pc) := fun pc => (snd_br ((snd_br ((snd_br ((snd_br ((snd_br ((snd_br ((snd_lf n61_79)) ((snd_lf n61_78)))) ((snd_lf n61_75)))) ((snd_br ((snd_lf n61_72)) ((snd_lf n61_71)))))) ((snd_br ((snd_br ((snd_br ((snd_lf n61_68)) ((snd_lf n61_65)))) ((snd_lf n61_63)))) ((snd_br ((snd_lf n61_60)) ((snd_lf n61_59)))))))) ((snd_br ((snd_br ((snd_br ((snd_br ((snd_lf n61_56)) ((snd_lf n61_53)))) ((snd_lf n61_50)))) ((snd_br ((snd_lf n61_49)) ((snd_lf n61_46)))))) ((snd_br ((snd_br ((snd_lf n61_43)) ((snd_lf n61_41)))) ((snd_br ((snd_lf n61_38)) ((snd_lf n61_37)))))))))) ((snd_br ((snd_br ((snd_br ((snd_br ((snd_br ((snd_lf n61_34)) ((snd_lf n61_31)))) ((snd_lf n61_30)))) ((snd_br ((snd_lf n61_29)) ((snd_lf n61_26)))))) ((snd_br ((snd_br ((snd_lf n61_23)) ((snd_lf n61_21)))) ((snd_br ((snd_lf n61_18)) ((snd_lf n61_17)))))))) ((snd_br ((snd_br ((snd_br ((snd_br ((snd_lf n61_14)) ((snd_lf n61_11)))) ((snd_lf n61_8)))) ((snd_br ((snd_lf n61_7)) ((snd_lf n61_5)))))) ((snd_br ((snd_br ((snd_lf n61_3)) ((snd_lf n61_2)))) ((snd_br ((snd_lf n61_1)) ((snd_lf n61_0)))))))))))
end
section
variable {G : AG}
theorem n62_0 : Snd mt G 62 0 (oAload 0 1) := w_aload_n (hm := mm62) dX1_waitedOf_0
theorem n62_1 : Snd mt G 62 1 (oAload 1 2) := w_aload_n (hm := mm62) dX1_waitedOf_1
theorem n62_2 : Snd mt G 62 2 (oCall 2 (fV [1] 63 4) 0 5 xOut) := s_callV (m' := 63) (n := 1) xsh_out (w_xok0 mm62) (w_cal mm62 mm63 pn_X1 (Nat.le_of_ble_eq_true rfl) (Nat.le_of_ble_eq_true rfl)) (fun h b as hc hn => w_run_V (ci := 0) mm62 mm63 dX1_waitedOf_2 (Or.inl (List.mem_singleton.mp hc)) (Nat.le_of_ble_eq_true rfl) vc_0 rfl q831 q833 qs9 q129 q834 pa63 hn)
theorem n62_5 : Snd mt G 62 5 (oIstore 2 6) := w_istore_n (hm := mm62) dX1_waitedOf_5 (Nat.le_of_ble_eq_true rfl)
theorem n62_6 : Snd mt G 62 6 (oConst (.int 0) 7) := w_iconst (hm := mm62) dX1_waitedOf_6 rfl
theorem n62_7 : Snd mt G 62 7 (oIstore 3 8) := w_istore_n (hm := mm62) dX1_waitedOf_7 (Nat.le_of_ble_eq_true rfl)
theorem n62_8 : Snd mt G 62 8 (oConst (.int 0) 9) := w_iconst (hm := mm62) dX1_waitedOf_8 rfl
theorem n62_9 : Snd mt G 62 9 (oIstore 4 11) := w_istore (hm := mm62) dX1_waitedOf_9 (Nat.le_of_ble_eq_true rfl)
theorem n62_11 : Snd mt G 62 11 (oIload 4 13) := w_iload (hm := mm62) dX1_waitedOf_11
theorem n62_13 : Snd mt G 62 13 (oConst (.int 4) 14) := w_iconst (hm := mm62) dX1_waitedOf_13 rfl
theorem n62_14 : Snd mt G 62 14 (oCmpGe 53 17) := w_icmp_ge (hm := mm62) dX1_waitedOf_14 rfl
theorem n62_17 : Snd mt G 62 17 (oIload 2 18) := w_iload_n (hm := mm62) dX1_waitedOf_17
theorem n62_18 : Snd mt G 62 18 (oIload 4 20) := w_iload (hm := mm62) dX1_waitedOf_18
theorem n62_20 : Snd mt G 62 20 (oBin (fun x y => x >>> (y &&& 31)) 21) := w_ishr (hm := mm62) dX1_waitedOf_20
theorem n62_21 : Snd mt G 62 21 (oConst (.int 1) 22) := w_iconst (hm := mm62) dX1_waitedOf_21 rfl
theorem n62_22 : Snd mt G 62 22 (oBin (fun x y => x &&& y) 23) := w_iand (hm := mm62) dX1_waitedOf_22
theorem n62_23 : Snd mt G 62 23 (oConst (.int 1) 24) := w_iconst (hm := mm62) dX1_waitedOf_23 rfl
theorem n62_24 : Snd mt G 62 24 (oCmpEq 27 47) := w_icmp_ne (hm := mm62) dX1_waitedOf_24 rfl
theorem n62_27 : Snd mt G 62 27 (oIload 3 28) := w_iload_n (hm := mm62) dX1_waitedOf_27
theorem n62_28 : Snd mt G 62 28 (oAload 0 29) := w_aload_n (hm := mm62) dX1_waitedOf_28
theorem n62_29 : Snd mt G 62 29 (oGetf [1] 0 32) := w_getf (hm := mm62) dX1_waitedOf_29 (fok1 (k := 0) (T := TX1) 0 (Nat.le_of_ble_eq_true rfl) vc_0 (Nat.le_of_ble_eq_true rfl) q623)
theorem n62_32 : Snd mt G 62 32 (oGetf [2] 12 35) := w_getfN (hm := mm62) dX1_waitedOf_32 (fokn1 (k := 12) (T := TX2) 1 (Nat.le_of_ble_eq_true rfl) vc_1 (Nat.le_of_ble_eq_true rfl) q567)
theorem n62_35 : Snd mt G 62 35 (oAload 1 36) := w_aload_n (hm := mm62) dX1_waitedOf_35
theorem n62_36 : Snd mt G 62 36 (oGetf [19] 11 39) := w_getfN (hm := mm62) dX1_waitedOf_36 (fokn1 (k := 11) (T := TX20) 18 (Nat.le_of_ble_eq_true rfl) vc_18 (Nat.le_of_ble_eq_true rfl) q1089)
theorem n62_39 : Snd mt G 62 39 (oIload 4 41) := w_iload (hm := mm62) dX1_waitedOf_39
theorem n62_41 : Snd mt G 62 41 (oAld [100] 42) := w_iaload (hm := mm62) (kt := 0) dX1_waitedOf_41 at_0 (Nat.le_of_ble_eq_true rfl) (List.forall_mem_cons.mpr ⟨Or.inl rfl, (fun t ht => nomatch ht)⟩)
theorem n62_42 : Snd mt G 62 42 (oBin (fun x y => x - y) 43) := w_isub (hm := mm62) dX1_waitedOf_42
theorem n62_43 : Snd mt G 62 43 (oMath2 (fun x y => if x < y then y else x) 46) := w_mmax (hm := mm62) dX1_waitedOf_43 (Nat.le_of_ble_eq_true rfl) q826 q313 q143 q314
theorem n62_46 : Snd mt G 62 46 (oIstore 3 47) := w_istore_n (hm := mm62) dX1_waitedOf_46 (Nat.le_of_ble_eq_true rfl)
theorem n62_47 : Snd mt G 62 47 (oIinc 4 1 50) := w_iinc (hm := mm62) dX1_waitedOf_47 rfl (Nat.le_of_ble_eq_true rfl)
theorem n62_50 : Snd mt G 62 50 (oGoto 11) := w_goto (hm := mm62) dX1_waitedOf_50 rfl
theorem n62_53 : Snd mt G 62 53 (oIload 3 54) := w_iload_n (hm := mm62) dX1_waitedOf_53
theorem n62_54 : Snd mt G 62 54 (oRetI .int) := w_iret (hm := mm62) dX1_waitedOf_54 rfl
theorem sj62 : ∀ pc, Snd mt G 62 pc (j62 pc) := fun pc => (snd_br ((snd_br ((snd_br ((snd_br ((snd_br ((snd_br ((snd_lf n62_54)) ((snd_lf n62_53)))) ((snd_lf n62_50)))) ((snd_br ((snd_lf n62_47)) ((snd_lf n62_46)))))) ((snd_br ((snd_br ((snd_lf n62_43)) ((snd_lf n62_42)))) ((snd_br ((snd_lf n62_41)) ((snd_lf n62_39)))))))) ((snd_br ((snd_br ((snd_br ((snd_lf n62_36)) ((snd_lf n62_35)))) ((snd_br ((snd_lf n62_32)) ((snd_lf n62_29)))))) ((snd_br ((snd_br ((snd_lf n62_28)) ((snd_lf n62_27)))) ((snd_br ((snd_lf n62_24)) ((snd_lf n62_23)))))))))) ((snd_br ((snd_br ((snd_br ((snd_br ((snd_lf n62_22)) ((snd_lf n62_21)))) ((snd_br ((snd_lf n62_20)) ((snd_lf n62_18)))))) ((snd_br ((snd_br ((snd_lf n62_17)) ((snd_lf n62_14)))) ((snd_br ((snd_lf n62_13)) ((snd_lf n62_11)))))))) ((snd_br ((snd_br ((snd_br ((snd_lf n62_9)) ((snd_lf n62_8)))) ((snd_br ((snd_lf n62_7)) ((snd_lf n62_6)))))) ((snd_br ((snd_br ((snd_lf n62_5)) ((snd_lf n62_2)))) ((snd_br ((snd_lf n62_1)) ((snd_lf n62_0)))))))))))
end
section
variable {G : AG}
theorem n63_0 : Snd mt G 63 0 (oAload 0 1) := w_aload_n (hm := mm63) dX1_lacksOf_0
theorem n63_1 : Snd mt G 63 1 (oAload 1 2) := w_aload_n (hm := mm63) dX1_lacksOf_1
theorem n63_2 : Snd mt G 63 2 (oAload 0 3) := w_aload_n (hm := mm63) dX1_lacksOf_2
theorem n63_3 : Snd mt G 63 3 (oGetf [1] 0 6) := w_getf (hm := mm63) dX1_lacksOf_3 (fok1 (k := 0) (T := TX1) 0 (Nat.le_of_ble_eq_true rfl) vc_0 (Nat.le_of_ble_eq_true rfl) q623)
theorem n63_6 : Snd mt G 63 6 (oGetf [2] 12 9) := w_getfN (hm := mm63) dX1_lacksOf_6 (fokn1 (k := 12) (T := TX2) 1 (Nat.le_of_ble_eq_true rfl) vc_1 (Nat.le_of_ble_eq_true rfl) q567)
theorem n63_9 : Snd mt G 63 9 (oCall 3 (fV [1] 64 5) 0 12 xOut) := s_callV (m' := 64) (n := 2) xsh_out (w_xok0 mm63) (w_cal mm63 mm64 pn_X1 (Nat.le_of_ble_eq_true rfl) (Nat.le_of_ble_eq_true rfl)) (fun h b as hc hn => w_run_V (ci := 0) mm63 mm64 dX1_lacksOf_9 (Or.inl (List.mem_singleton.mp hc)) (Nat.le_of_ble_eq_true rfl) vc_0 rfl q835 q837 qs10 q129 q838 pa64 hn)
theorem n63_12 : Snd mt G 63 12 (oIstore 2 13) := w_istore_n (hm := mm63) dX1_lacksOf_12 (Nat.le_of_ble_eq_true rfl)
theorem n63_13 : Snd mt G 63 13 (oConst (.int 0) 14) := w_iconst (hm := mm63) dX1_lacksOf_13 rfl
theorem n63_14 : Snd mt G 63 14 (oIstore 3 15) := w_istore_n (hm := mm63) dX1_lacksOf_14 (Nat.le_of_ble_eq_true rfl)
theorem n63_15 : Snd mt G 63 15 (oIload 3 16) := w_iload_n (hm := mm63) dX1_lacksOf_15
theorem n63_16 : Snd mt G 63 16 (oConst (.int 4) 17) := w_iconst (hm := mm63) dX1_lacksOf_16 rfl
theorem n63_17 : Snd mt G 63 17 (oCmpGe 48 20) := w_icmp_ge (hm := mm63) dX1_lacksOf_17 rfl
theorem n63_20 : Snd mt G 63 20 (oIload 2 21) := w_iload_n (hm := mm63) dX1_lacksOf_20
theorem n63_21 : Snd mt G 63 21 (oAload 1 22) := w_aload_n (hm := mm63) dX1_lacksOf_21
theorem n63_22 : Snd mt G 63 22 (oGetf [19] 8 25) := w_getfN (hm := mm63) dX1_lacksOf_22 (fokn1 (k := 8) (T := TX20) 18 (Nat.le_of_ble_eq_true rfl) vc_18 (Nat.le_of_ble_eq_true rfl) q1083)
theorem n63_25 : Snd mt G 63 25 (oIload 3 26) := w_iload_n (hm := mm63) dX1_lacksOf_25
theorem n63_26 : Snd mt G 63 26 (oAld [104] 27) := w_aaload (hm := mm63) (kt := 4) dX1_lacksOf_26 rfl at_4 (Nat.le_of_ble_eq_true rfl) (List.forall_mem_cons.mpr ⟨Or.inl rfl, (fun t ht => nomatch ht)⟩)
theorem n63_27 : Snd mt G 63 27 (oIfNull 30 35) := w_ifnonnull (hm := mm63) dX1_lacksOf_27 rfl
theorem n63_30 : Snd mt G 63 30 (oConst (.int 15) 32) := w_bipush (hm := mm63) dX1_lacksOf_30 (by decide)
theorem n63_32 : Snd mt G 63 32 (oGoto 40) := w_goto (hm := mm63) dX1_lacksOf_32 rfl
theorem n63_35 : Snd mt G 63 35 (oConst (.int 1) 36) := w_iconst (hm := mm63) dX1_lacksOf_35 rfl
theorem n63_36 : Snd mt G 63 36 (oIload 3 37) := w_iload_n (hm := mm63) dX1_lacksOf_36
theorem n63_37 : Snd mt G 63 37 (oBin (fun x y => x <<< (y &&& 31)) 38) := w_ishl (hm := mm63) dX1_lacksOf_37
theorem n63_38 : Snd mt G 63 38 (oConst (.int (-1)) 39) := w_iconst (hm := mm63) dX1_lacksOf_38 rfl
theorem n63_39 : Snd mt G 63 39 (oBin (fun x y => x ^^^ y) 40) := w_ixor (hm := mm63) dX1_lacksOf_39
theorem n63_40 : Snd mt G 63 40 (oBin (fun x y => x &&& y) 41) := w_iand (hm := mm63) dX1_lacksOf_40
theorem n63_41 : Snd mt G 63 41 (oIstore 2 42) := w_istore_n (hm := mm63) dX1_lacksOf_41 (Nat.le_of_ble_eq_true rfl)
theorem n63_42 : Snd mt G 63 42 (oIinc 3 1 45) := w_iinc (hm := mm63) dX1_lacksOf_42 rfl (Nat.le_of_ble_eq_true rfl)
theorem n63_45 : Snd mt G 63 45 (oGoto 15) := w_goto (hm := mm63) dX1_lacksOf_45 rfl
theorem n63_48 : Snd mt G 63 48 (oIload 2 49) := w_iload_n (hm := mm63) dX1_lacksOf_48
theorem n63_49 : Snd mt G 63 49 (oRetI .int) := w_iret (hm := mm63) dX1_lacksOf_49 rfl
theorem sj63 : ∀ pc, Snd mt G 63 pc (j63 pc) := fun pc => (snd_br ((snd_br ((snd_br ((snd_br ((snd_br ((snd_lf n63_49)) ((snd_lf n63_48)))) ((snd_br ((snd_lf n63_45)) ((snd_lf n63_42)))))) ((snd_br ((snd_br ((snd_lf n63_41)) ((snd_lf n63_40)))) ((snd_br ((snd_lf n63_39)) ((snd_lf n63_38)))))))) ((snd_br ((snd_br ((snd_br ((snd_lf n63_37)) ((snd_lf n63_36)))) ((snd_br ((snd_lf n63_35)) ((snd_lf n63_32)))))) ((snd_br ((snd_br ((snd_lf n63_30)) ((snd_lf n63_27)))) ((snd_br ((snd_lf n63_26)) ((snd_lf n63_25)))))))))) ((snd_br ((snd_br ((snd_br ((snd_br ((snd_lf n63_22)) ((snd_lf n63_21)))) ((snd_br ((snd_lf n63_20)) ((snd_lf n63_17)))))) ((snd_br ((snd_br ((snd_lf n63_16)) ((snd_lf n63_15)))) ((snd_br ((snd_lf n63_14)) ((snd_lf n63_13)))))))) ((snd_br ((snd_br ((snd_br ((snd_lf n63_12)) ((snd_lf n63_9)))) ((snd_br ((snd_lf n63_6)) ((snd_lf n63_3)))))) ((snd_br ((snd_br ((snd_lf n63_2)) ((snd_lf n63_1)))) ((snd_lf n63_0)))))))))
end
section
variable {G : AG}
theorem n64_0 : Snd mt G 64 0 (oAload 0 1) := w_aload_n (hm := mm64) dX1_needsOf_0
theorem n64_1 : Snd mt G 64 1 (oAload 1 2) := w_aload_n (hm := mm64) dX1_needsOf_1
theorem n64_2 : Snd mt G 64 2 (oIload 2 3) := w_iload_n (hm := mm64) dX1_needsOf_2
theorem n64_3 : Snd mt G 64 3 (oCall 3 (fV [1] 58 4) 0 6 xOut) := s_callV (m' := 58) (n := 2) xsh_out (w_xok0 mm64) (w_cal mm64 mm58 pn_X1 (Nat.le_of_ble_eq_true rfl) (Nat.le_of_ble_eq_true rfl)) (fun h b as hc hn => w_run_V (ci := 0) mm64 mm58 dX1_needsOf_3 (Or.inl (List.mem_singleton.mp hc)) (Nat.le_of_ble_eq_true rfl) vc_0 rfl q736 q738 qs4 q129 q739 pa58 hn)
theorem n64_6 : Snd mt G 64 6 (oConst (.int 0) 7) := w_iconst (hm := mm64) dX1_needsOf_6 rfl
theorem n64_7 : Snd mt G 64 7 (oIstore 3 8) := w_istore_n (hm := mm64) dX1_needsOf_7 (Nat.le_of_ble_eq_true rfl)
theorem n64_8 : Snd mt G 64 8 (oConst (.int 0) 9) := w_iconst (hm := mm64) dX1_needsOf_8 rfl
theorem n64_9 : Snd mt G 64 9 (oIstore 4 11) := w_istore (hm := mm64) dX1_needsOf_9 (Nat.le_of_ble_eq_true rfl)
theorem n64_11 : Snd mt G 64 11 (oIload 4 13) := w_iload (hm := mm64) dX1_needsOf_11
theorem n64_13 : Snd mt G 64 13 (oAload 0 14) := w_aload_n (hm := mm64) dX1_needsOf_13
theorem n64_14 : Snd mt G 64 14 (oGetf [1] 2 17) := w_getf (hm := mm64) dX1_needsOf_14 (fok1 (k := 2) (T := TX1) 0 (Nat.le_of_ble_eq_true rfl) vc_0 (Nat.le_of_ble_eq_true rfl) q625)
theorem n64_17 : Snd mt G 64 17 (oCall 1 (fV [3] 175 1) 0 20 xOut) := s_callV (m' := 175) (n := 0) xsh_out (w_xok0 mm64) (w_cal mm64 mm175 pn_J2 (Nat.le_of_ble_eq_true rfl) (Nat.le_of_ble_eq_true rfl)) (fun h b as hc hn => w_run_V (ci := 2) mm64 mm175 dX1_needsOf_17 (Or.inl (List.mem_singleton.mp hc)) (Nat.le_of_ble_eq_true rfl) vc_2 rfl q709 q710 q711 q133 q712 pa175 hn)
theorem n64_20 : Snd mt G 64 20 (oCmpGe 90 23) := w_icmp_ge (hm := mm64) dX1_needsOf_20 rfl
theorem n64_23 : Snd mt G 64 23 (oAload 0 24) := w_aload_n (hm := mm64) dX1_needsOf_23
theorem n64_24 : Snd mt G 64 24 (oGetf [1] 2 27) := w_getf (hm := mm64) dX1_needsOf_24 (fok1 (k := 2) (T := TX1) 0 (Nat.le_of_ble_eq_true rfl) vc_0 (Nat.le_of_ble_eq_true rfl) q625)
theorem n64_27 : Snd mt G 64 27 (oIload 4 29) := w_iload (hm := mm64) dX1_needsOf_27
theorem n64_29 : Snd mt G 64 29 (oCall 2 (fV [3] 176 2) 0 32 xOut) := s_callV (m' := 176) (n := 1) xsh_out (w_xok0 mm64) (w_cal mm64 mm176 pn_J2 (Nat.le_of_ble_eq_true rfl) (Nat.le_of_ble_eq_true rfl)) (fun h b as hc hn => w_run_V (ci := 2) mm64 mm176 dX1_needsOf_29 (Or.inl (List.mem_singleton.mp hc)) (Nat.le_of_ble_eq_true rfl) vc_2 rfl q713 q714 q715 q133 q716 pa176 hn)
theorem n64_32 : Snd mt G 64 32 (oCast [8, 9, 13, 14] 35) := w_cast (hm := mm64) dX1_needsOf_32 q754 (List.forall_mem_cons.mpr ⟨⟨7, _, Or.inl rfl, (Nat.le_of_ble_eq_true rfl), vc_7, Or.inr (List.mem_filter.mpr ⟨q3193, rfl⟩)⟩, (List.forall_mem_cons.mpr ⟨⟨8, _, Or.inl rfl, (Nat.le_of_ble_eq_true rfl), vc_8, Or.inr (List.mem_filter.mpr ⟨q3196, rfl⟩)⟩, (List.forall_mem_cons.mpr ⟨⟨12, _, Or.inl rfl, (Nat.le_of_ble_eq_true rfl), vc_12, Or.inr (List.mem_filter.mpr ⟨q3195, rfl⟩)⟩, (List.forall_mem_cons.mpr ⟨⟨13, _, Or.inl rfl, (Nat.le_of_ble_eq_true rfl), vc_13, Or.inr (List.mem_filter.mpr ⟨q3194, rfl⟩)⟩, (fun t ht => nomatch ht)⟩)⟩)⟩)⟩)
theorem n64_35 : Snd mt G 64 35 (oCall 1 (fP [(8, 447, 1), (9, 447, 1), (13, 447, 1), (14, 464, 1)]) 0 38 xOut) := s_callP (n := 0) (len := 3) xsh_out (w_xok0 mm64) (List.forall_mem_cons.mpr ⟨(w_cal mm64 mm447 pn_X7 (Nat.le_of_ble_eq_true rfl) (Nat.le_of_ble_eq_true rfl)), (List.forall_mem_cons.mpr ⟨(w_cal mm64 mm447 pn_X7 (Nat.le_of_ble_eq_true rfl) (Nat.le_of_ble_eq_true rfl)), (List.forall_mem_cons.mpr ⟨(w_cal mm64 mm447 pn_X7 (Nat.le_of_ble_eq_true rfl) (Nat.le_of_ble_eq_true rfl)), (List.forall_mem_cons.mpr ⟨(w_cal mm64 mm464 pn_X14 (Nat.le_of_ble_eq_true rfl) (Nat.le_of_ble_eq_true rfl)), (fun z hz => nomatch hz)⟩)⟩)⟩)⟩) (List.forall_mem_cons.mpr ⟨(fun h b as hc hn => w_run_U (owner := "LimbBenches$Clause") (ci := 7) mm64 mm447 dX1_needsOf_35 (Or.inl hc) (Nat.le_of_ble_eq_true rfl) vc_7 (Or.inl rfl) q839 q841 q840 q842 q154 q848 ⟨by decide, by decide, by decide +kernel⟩ hn), (List.forall_mem_cons.mpr ⟨(fun h b as hc hn => w_run_U (owner := "LimbBenches$Clause") (ci := 8) mm64 mm447 dX1_needsOf_35 (Or.inl hc) (Nat.le_of_ble_eq_true rfl) vc_8 (Or.inl rfl) q839 q841 q840 q847 q154 q848 ⟨by decide, by decide, by decide +kernel⟩ hn), (List.forall_mem_cons.mpr ⟨(fun h b as hc hn => w_run_U (owner := "LimbBenches$Clause") (ci := 12) mm64 mm447 dX1_needsOf_35 (Or.inl hc) (Nat.le_of_ble_eq_true rfl) vc_12 (Or.inl rfl) q839 q841 q840 q846 q154 q848 ⟨by decide, by decide, by decide +kernel⟩ hn), (List.forall_mem_cons.mpr ⟨(fun h b as hc hn => w_run_U (owner := "LimbBenches$Clause") (ci := 13) mm64 mm464 dX1_needsOf_35 (Or.inl hc) (Nat.le_of_ble_eq_true rfl) vc_13 (Or.inr (Or.inl ⟨_, _, _, q848, q840⟩)) q839 q841 q844 q843 q161 q845 ⟨by decide, by decide, by decide +kernel⟩ hn), (fun z hz => nomatch hz)⟩)⟩)⟩)⟩)
theorem n64_38 : Snd mt G 64 38 (oConst (.int (-1)) 39) := w_iconst (hm := mm64) dX1_needsOf_38 rfl
theorem n64_39 : Snd mt G 64 39 (oCmpEq 84 42) := w_icmp_eq (hm := mm64) dX1_needsOf_39 rfl
theorem n64_42 : Snd mt G 64 42 (oAload 0 43) := w_aload_n (hm := mm64) dX1_needsOf_42
theorem n64_43 : Snd mt G 64 43 (oGetf [1] 2 46) := w_getf (hm := mm64) dX1_needsOf_43 (fok1 (k := 2) (T := TX1) 0 (Nat.le_of_ble_eq_true rfl) vc_0 (Nat.le_of_ble_eq_true rfl) q625)
theorem n64_46 : Snd mt G 64 46 (oIload 4 48) := w_iload (hm := mm64) dX1_needsOf_46
theorem n64_48 : Snd mt G 64 48 (oCall 2 (fV [3] 176 2) 0 51 xOut) := s_callV (m' := 176) (n := 1) xsh_out (w_xok0 mm64) (w_cal mm64 mm176 pn_J2 (Nat.le_of_ble_eq_true rfl) (Nat.le_of_ble_eq_true rfl)) (fun h b as hc hn => w_run_V (ci := 2) mm64 mm176 dX1_needsOf_48 (Or.inl (List.mem_singleton.mp hc)) (Nat.le_of_ble_eq_true rfl) vc_2 rfl q713 q714 q715 q133 q716 pa176 hn)
theorem n64_51 : Snd mt G 64 51 (oCast [8, 9, 13, 14] 54) := w_cast (hm := mm64) dX1_needsOf_51 q754 (List.forall_mem_cons.mpr ⟨⟨7, _, Or.inl rfl, (Nat.le_of_ble_eq_true rfl), vc_7, Or.inr (List.mem_filter.mpr ⟨q3193, rfl⟩)⟩, (List.forall_mem_cons.mpr ⟨⟨8, _, Or.inl rfl, (Nat.le_of_ble_eq_true rfl), vc_8, Or.inr (List.mem_filter.mpr ⟨q3196, rfl⟩)⟩, (List.forall_mem_cons.mpr ⟨⟨12, _, Or.inl rfl, (Nat.le_of_ble_eq_true rfl), vc_12, Or.inr (List.mem_filter.mpr ⟨q3195, rfl⟩)⟩, (List.forall_mem_cons.mpr ⟨⟨13, _, Or.inl rfl, (Nat.le_of_ble_eq_true rfl), vc_13, Or.inr (List.mem_filter.mpr ⟨q3194, rfl⟩)⟩, (fun t ht => nomatch ht)⟩)⟩)⟩)⟩)
theorem n64_54 : Snd mt G 64 54 (oAload 0 55) := w_aload_n (hm := mm64) dX1_needsOf_54
theorem n64_55 : Snd mt G 64 55 (oGetf [1] 9 58) := w_getf (hm := mm64) dX1_needsOf_55 (fok1 (k := 9) (T := TX1) 0 (Nat.le_of_ble_eq_true rfl) vc_0 (Nat.le_of_ble_eq_true rfl) q632)
theorem n64_58 : Snd mt G 64 58 (oCall 2 (fP [(8, 445, 2), (9, 445, 2), (13, 445, 2), (14, 445, 2)]) 0 61 xOut) := s_callP (n := 1) (len := 3) xsh_out (w_xok0 mm64) (List.forall_mem_cons.mpr ⟨(w_cal mm64 mm445 pn_X7 (Nat.le_of_ble_eq_true rfl) (Nat.le_of_ble_eq_true rfl)), (List.forall_mem_cons.mpr ⟨(w_cal mm64 mm445 pn_X7 (Nat.le_of_ble_eq_true rfl) (Nat.le_of_ble_eq_true rfl)), (List.forall_mem_cons.mpr ⟨(w_cal mm64 mm445 pn_X7 (Nat.le_of_ble_eq_true rfl) (Nat.le_of_ble_eq_true rfl)), (List.forall_mem_cons.mpr ⟨(w_cal mm64 mm445 pn_X7 (Nat.le_of_ble_eq_true rfl) (Nat.le_of_ble_eq_true rfl)), (fun z hz => nomatch hz)⟩)⟩)⟩)⟩) (List.forall_mem_cons.mpr ⟨(fun h b as hc hn => w_run_U (owner := "LimbBenches$Clause") (ci := 7) mm64 mm445 dX1_needsOf_58 (Or.inl hc) (Nat.le_of_ble_eq_true rfl) vc_7 (Or.inl rfl) q765 q767 q766 q768 q154 q772 ⟨by decide, by decide, by decide +kernel⟩ hn), (List.forall_mem_cons.mpr ⟨(fun h b as hc hn => w_run_U (owner := "LimbBenches$Clause") (ci := 8) mm64 mm445 dX1_needsOf_58 (Or.inl hc) (Nat.le_of_ble_eq_true rfl) vc_8 (Or.inl rfl) q765 q767 q766 q771 q154 q772 ⟨by decide, by decide, by decide +kernel⟩ hn), (List.forall_mem_cons.mpr ⟨(fun h b as hc hn => w_run_U (owner := "LimbBenches$Clause") (ci := 12) mm64 mm445 dX1_needsOf_58 (Or.inl hc) (Nat.le_of_ble_eq_true rfl) vc_12 (Or.inl rfl) q765 q767 q766 q770 q154 q772 ⟨by decide, by decide, by decide +kernel⟩ hn), (List.forall_mem_cons.mpr ⟨(fun h b as hc hn => w_run_U (owner := "LimbBenches$Clause") (ci := 13) mm64 mm445 dX1_needsOf_58 (Or.inl hc) (Nat.le_of_ble_eq_true rfl) vc_13 (Or.inl rfl) q765 q767 q766 q769 q154 q772 ⟨by decide, by decide, by decide +kernel⟩ hn), (fun z hz => nomatch hz)⟩)⟩)⟩)⟩)
theorem n64_61 : Snd mt G 64 61 (oIfEq 84 64) := w_if_eq (hm := mm64) dX1_needsOf_61 rfl
theorem n64_64 : Snd mt G 64 64 (oIload 3 65) := w_iload_n (hm := mm64) dX1_needsOf_64
theorem n64_65 : Snd mt G 64 65 (oConst (.int 1) 66) := w_iconst (hm := mm64) dX1_needsOf_65 rfl
theorem n64_66 : Snd mt G 64 66 (oAload 0 67) := w_aload_n (hm := mm64) dX1_needsOf_66
theorem n64_67 : Snd mt G 64 67 (oGetf [1] 2 70) := w_getf (hm := mm64) dX1_needsOf_67 (fok1 (k := 2) (T := TX1) 0 (Nat.le_of_ble_eq_true rfl) vc_0 (Nat.le_of_ble_eq_true rfl) q625)
theorem n64_70 : Snd mt G 64 70 (oIload 4 72) := w_iload (hm := mm64) dX1_needsOf_70
theorem n64_72 : Snd mt G 64 72 (oCall 2 (fV [3] 176 2) 0 75 xOut) := s_callV (m' := 176) (n := 1) xsh_out (w_xok0 mm64) (w_cal mm64 mm176 pn_J2 (Nat.le_of_ble_eq_true rfl) (Nat.le_of_ble_eq_true rfl)) (fun h b as hc hn => w_run_V (ci := 2) mm64 mm176 dX1_needsOf_72 (Or.inl (List.mem_singleton.mp hc)) (Nat.le_of_ble_eq_true rfl) vc_2 rfl q713 q714 q715 q133 q716 pa176 hn)
theorem n64_75 : Snd mt G 64 75 (oCast [8, 9, 13, 14] 78) := w_cast (hm := mm64) dX1_needsOf_75 q754 (List.forall_mem_cons.mpr ⟨⟨7, _, Or.inl rfl, (Nat.le_of_ble_eq_true rfl), vc_7, Or.inr (List.mem_filter.mpr ⟨q3193, rfl⟩)⟩, (List.forall_mem_cons.mpr ⟨⟨8, _, Or.inl rfl, (Nat.le_of_ble_eq_true rfl), vc_8, Or.inr (List.mem_filter.mpr ⟨q3196, rfl⟩)⟩, (List.forall_mem_cons.mpr ⟨⟨12, _, Or.inl rfl, (Nat.le_of_ble_eq_true rfl), vc_12, Or.inr (List.mem_filter.mpr ⟨q3195, rfl⟩)⟩, (List.forall_mem_cons.mpr ⟨⟨13, _, Or.inl rfl, (Nat.le_of_ble_eq_true rfl), vc_13, Or.inr (List.mem_filter.mpr ⟨q3194, rfl⟩)⟩, (fun t ht => nomatch ht)⟩)⟩)⟩)⟩)
theorem n64_78 : Snd mt G 64 78 (oCall 1 (fP [(8, 447, 1), (9, 447, 1), (13, 447, 1), (14, 464, 1)]) 0 81 xOut) := s_callP (n := 0) (len := 3) xsh_out (w_xok0 mm64) (List.forall_mem_cons.mpr ⟨(w_cal mm64 mm447 pn_X7 (Nat.le_of_ble_eq_true rfl) (Nat.le_of_ble_eq_true rfl)), (List.forall_mem_cons.mpr ⟨(w_cal mm64 mm447 pn_X7 (Nat.le_of_ble_eq_true rfl) (Nat.le_of_ble_eq_true rfl)), (List.forall_mem_cons.mpr ⟨(w_cal mm64 mm447 pn_X7 (Nat.le_of_ble_eq_true rfl) (Nat.le_of_ble_eq_true rfl)), (List.forall_mem_cons.mpr ⟨(w_cal mm64 mm464 pn_X14 (Nat.le_of_ble_eq_true rfl) (Nat.le_of_ble_eq_true rfl)), (fun z hz => nomatch hz)⟩)⟩)⟩)⟩) (List.forall_mem_cons.mpr ⟨(fun h b as hc hn => w_run_U (owner := "LimbBenches$Clause") (ci := 7) mm64 mm447 dX1_needsOf_78 (Or.inl hc) (Nat.le_of_ble_eq_true rfl) vc_7 (Or.inl rfl) q839 q841 q840 q842 q154 q848 ⟨by decide, by decide, by decide +kernel⟩ hn), (List.forall_mem_cons.mpr ⟨(fun h b as hc hn => w_run_U (owner := "LimbBenches$Clause") (ci := 8) mm64 mm447 dX1_needsOf_78 (Or.inl hc) (Nat.le_of_ble_eq_true rfl) vc_8 (Or.inl rfl) q839 q841 q840 q847 q154 q848 ⟨by decide, by decide, by decide +kernel⟩ hn), (List.forall_mem_cons.mpr ⟨(fun h b as hc hn => w_run_U (owner := "LimbBenches$Clause") (ci := 12) mm64 mm447 dX1_needsOf_78 (Or.inl hc) (Nat.le_of_ble_eq_true rfl) vc_12 (Or.inl rfl) q839 q841 q840 q846 q154 q848 ⟨by decide, by decide, by decide +kernel⟩ hn), (List.forall_mem_cons.mpr ⟨(fun h b as hc hn => w_run_U (owner := "LimbBenches$Clause") (ci := 13) mm64 mm464 dX1_needsOf_78 (Or.inl hc) (Nat.le_of_ble_eq_true rfl) vc_13 (Or.inr (Or.inl ⟨_, _, _, q848, q840⟩)) q839 q841 q844 q843 q161 q845 ⟨by decide, by decide, by decide +kernel⟩ hn), (fun z hz => nomatch hz)⟩)⟩)⟩)⟩)
theorem n64_81 : Snd mt G 64 81 (oBin (fun x y => x <<< (y &&& 31)) 82) := w_ishl (hm := mm64) dX1_needsOf_81
theorem n64_82 : Snd mt G 64 82 (oBin (fun x y => x ||| y) 83) := w_ior (hm := mm64) dX1_needsOf_82
theorem n64_83 : Snd mt G 64 83 (oIstore 3 84) := w_istore_n (hm := mm64) dX1_needsOf_83 (Nat.le_of_ble_eq_true rfl)
theorem n64_84 : Snd mt G 64 84 (oIinc 4 1 87) := w_iinc (hm := mm64) dX1_needsOf_84 rfl (Nat.le_of_ble_eq_true rfl)
theorem n64_87 : Snd mt G 64 87 (oGoto 11) := w_goto (hm := mm64) dX1_needsOf_87 rfl
theorem n64_90 : Snd mt G 64 90 (oIload 3 91) := w_iload_n (hm := mm64) dX1_needsOf_90
theorem n64_91 : Snd mt G 64 91 (oRetI .int) := w_iret (hm := mm64) dX1_needsOf_91 rfl
theorem sj64 : ∀ pc, Snd mt G 64 pc (j64 pc) := fun pc => (snd_br ((snd_br ((snd_br ((snd_br ((snd_br ((snd_br ((snd_lf n64_91)) ((snd_lf n64_90)))) ((snd_lf n64_87)))) ((snd_br ((snd_br ((snd_lf n64_84)) ((snd_lf n64_83)))) ((snd_lf n64_82)))))) ((snd_br ((snd_br ((snd_br ((snd_lf n64_81)) ((snd_lf n64_78)))) ((snd_lf n64_75)))) ((snd_br ((snd_br ((snd_lf n64_72)) ((snd_lf n64_70)))) ((snd_lf n64_67)))))))) ((snd_br ((snd_br ((snd_br ((snd_br ((snd_lf n64_66)) ((snd_lf n64_65)))) ((snd_lf n64_64)))) ((snd_br ((snd_br ((snd_lf n64_61)) ((snd_lf n64_58)))) ((snd_lf n64_55)))))) ((snd_br ((snd_br ((snd_br ((snd_lf n64_54)) ((snd_lf n64_51)))) ((snd_lf n64_48)))) ((snd_br ((snd_lf n64_46)) ((snd_lf n64_43)))))))))) ((snd_br ((snd_br ((snd_br ((snd_br ((snd_br ((snd_lf n64_42)) ((snd_lf n64_39)))) ((snd_lf n64_38)))) ((snd_br ((snd_br ((snd_lf n64_35)) ((snd_lf n64_32)))) ((snd_lf n64_29)))))) ((snd_br ((snd_br ((snd_br ((snd_lf n64_27)) ((snd_lf n64_24)))) ((snd_lf n64_23)))) ((snd_br ((snd_lf n64_20)) ((snd_lf n64_17)))))))) ((snd_br ((snd_br ((snd_br ((snd_br ((snd_lf n64_14)) ((snd_lf n64_13)))) ((snd_lf n64_11)))) ((snd_br ((snd_br ((snd_lf n64_9)) ((snd_lf n64_8)))) ((snd_lf n64_7)))))) ((snd_br ((snd_br ((snd_br ((snd_lf n64_6)) ((snd_lf n64_3)))) ((snd_lf n64_2)))) ((snd_br ((snd_lf n64_1)) ((snd_lf n64_0)))))))))))
end
section
variable {G : AG}
theorem n65_0 : Snd mt G 65 0 (oConst (.int 0) 1) := w_iconst (hm := mm65) dX1_served_0 rfl
theorem n65_1 : Snd mt G 65 1 (oIstore 2 2) := w_istore_n (hm := mm65) dX1_served_1 (Nat.le_of_ble_eq_true rfl)
theorem n65_2 : Snd mt G 65 2 (oIload 2 3) := w_iload_n (hm := mm65) dX1_served_2
theorem n65_3 : Snd mt G 65 3 (oAload 0 4) := w_aload_n (hm := mm65) dX1_served_3
theorem n65_4 : Snd mt G 65 4 (oGetf [1] 0 7) := w_getf (hm := mm65) dX1_served_4 (fok1 (k := 0) (T := TX1) 0 (Nat.le_of_ble_eq_true rfl) vc_0 (Nat.le_of_ble_eq_true rfl) q623)
theorem n65_7 : Snd mt G 65 7 (oGetf [2] 1 10) := w_getfN (hm := mm65) dX1_served_7 (fokn1 (k := 1) (T := TX2) 1 (Nat.le_of_ble_eq_true rfl) vc_1 (Nat.le_of_ble_eq_true rfl) q545)
theorem n65_10 : Snd mt G 65 10 (oCall 1 (fV [3] 175 1) 0 13 xOut) := s_callV (m' := 175) (n := 0) xsh_out (w_xok0 mm65) (w_cal mm65 mm175 pn_J2 (Nat.le_of_ble_eq_true rfl) (Nat.le_of_ble_eq_true rfl)) (fun h b as hc hn => w_run_V (ci := 2) mm65 mm175 dX1_served_10 (Or.inl (List.mem_singleton.mp hc)) (Nat.le_of_ble_eq_true rfl) vc_2 rfl q709 q710 q711 q133 q712 pa175 hn)
theorem n65_13 : Snd mt G 65 13 (oCmpGe 134 16) := w_icmp_ge (hm := mm65) dX1_served_13 rfl
theorem n65_16 : Snd mt G 65 16 (oAload 0 17) := w_aload_n (hm := mm65) dX1_served_16
theorem n65_17 : Snd mt G 65 17 (oAload 0 18) := w_aload_n (hm := mm65) dX1_served_17
theorem n65_18 : Snd mt G 65 18 (oGetf [1] 0 21) := w_getf (hm := mm65) dX1_served_18 (fok1 (k := 0) (T := TX1) 0 (Nat.le_of_ble_eq_true rfl) vc_0 (Nat.le_of_ble_eq_true rfl) q623)
theorem n65_21 : Snd mt G 65 21 (oGetf [2] 1 24) := w_getfN (hm := mm65) dX1_served_21 (fokn1 (k := 1) (T := TX2) 1 (Nat.le_of_ble_eq_true rfl) vc_1 (Nat.le_of_ble_eq_true rfl) q545)
theorem n65_24 : Snd mt G 65 24 (oIload 2 25) := w_iload_n (hm := mm65) dX1_served_24
theorem n65_25 : Snd mt G 65 25 (oCall 2 (fV [3] 176 2) 0 28 xOut) := s_callV (m' := 176) (n := 1) xsh_out (w_xok0 mm65) (w_cal mm65 mm176 pn_J2 (Nat.le_of_ble_eq_true rfl) (Nat.le_of_ble_eq_true rfl)) (fun h b as hc hn => w_run_V (ci := 2) mm65 mm176 dX1_served_25 (Or.inl (List.mem_singleton.mp hc)) (Nat.le_of_ble_eq_true rfl) vc_2 rfl q713 q714 q715 q133 q716 pa176 hn)
theorem n65_28 : Snd mt G 65 28 (oCast [19] 31) := w_cast (hm := mm65) dX1_served_28 q727 (List.forall_mem_cons.mpr ⟨⟨18, _, Or.inl rfl, (Nat.le_of_ble_eq_true rfl), vc_18, Or.inl rfl⟩, (fun t ht => nomatch ht)⟩)
theorem n65_31 : Snd mt G 65 31 (oCall 2 (fV [1] 56 3) 0 34 xOut) := s_callV (m' := 56) (n := 1) xsh_out (w_xok0 mm65) (w_cal mm65 mm56 pn_X1 (Nat.le_of_ble_eq_true rfl) (Nat.le_of_ble_eq_true rfl)) (fun h b as hc hn => w_run_V (ci := 0) mm65 mm56 dX1_served_31 (Or.inl (List.mem_singleton.mp hc)) (Nat.le_of_ble_eq_true rfl) vc_0 rfl q728 q730 qs2 q129 q731 pa56 hn)
theorem n65_34 : Snd mt G 65 34 (oIstore 3 35) := w_istore_n (hm := mm65) dX1_served_34 (Nat.le_of_ble_eq_true rfl)
theorem n65_35 : Snd mt G 65 35 (oConst (.int 0) 36) := w_iconst (hm := mm65) dX1_served_35 rfl
theorem n65_36 : Snd mt G 65 36 (oIstore 4 38) := w_istore (hm := mm65) dX1_served_36 (Nat.le_of_ble_eq_true rfl)
theorem n65_38 : Snd mt G 65 38 (oConst (.int 0) 39) := w_iconst (hm := mm65) dX1_served_38 rfl
theorem n65_39 : Snd mt G 65 39 (oIstore 5 41) := w_istore (hm := mm65) dX1_served_39 (Nat.le_of_ble_eq_true rfl)
theorem n65_41 : Snd mt G 65 41 (oIload 5 43) := w_iload (hm := mm65) dX1_served_41
theorem n65_43 : Snd mt G 65 43 (oAload 0 44) := w_aload_n (hm := mm65) dX1_served_43
theorem n65_44 : Snd mt G 65 44 (oGetf [1] 0 47) := w_getf (hm := mm65) dX1_served_44 (fok1 (k := 0) (T := TX1) 0 (Nat.le_of_ble_eq_true rfl) vc_0 (Nat.le_of_ble_eq_true rfl) q623)
theorem n65_47 : Snd mt G 65 47 (oGetf [2] 1 50) := w_getfN (hm := mm65) dX1_served_47 (fokn1 (k := 1) (T := TX2) 1 (Nat.le_of_ble_eq_true rfl) vc_1 (Nat.le_of_ble_eq_true rfl) q545)
theorem n65_50 : Snd mt G 65 50 (oCall 1 (fV [3] 175 1) 0 53 xOut) := s_callV (m' := 175) (n := 0) xsh_out (w_xok0 mm65) (w_cal mm65 mm175 pn_J2 (Nat.le_of_ble_eq_true rfl) (Nat.le_of_ble_eq_true rfl)) (fun h b as hc hn => w_run_V (ci := 2) mm65 mm175 dX1_served_50 (Or.inl (List.mem_singleton.mp hc)) (Nat.le_of_ble_eq_true rfl) vc_2 rfl q709 q710 q711 q133 q712 pa175 hn)
theorem n65_53 : Snd mt G 65 53 (oCmpGe 116 56) := w_icmp_ge (hm := mm65) dX1_served_53 rfl
theorem n65_56 : Snd mt G 65 56 (oAload 0 57) := w_aload_n (hm := mm65) dX1_served_56
theorem n65_57 : Snd mt G 65 57 (oAload 0 58) := w_aload_n (hm := mm65) dX1_served_57
theorem n65_58 : Snd mt G 65 58 (oGetf [1] 0 61) := w_getf (hm := mm65) dX1_served_58 (fok1 (k := 0) (T := TX1) 0 (Nat.le_of_ble_eq_true rfl) vc_0 (Nat.le_of_ble_eq_true rfl) q623)
theorem n65_61 : Snd mt G 65 61 (oGetf [2] 1 64) := w_getfN (hm := mm65) dX1_served_61 (fokn1 (k := 1) (T := TX2) 1 (Nat.le_of_ble_eq_true rfl) vc_1 (Nat.le_of_ble_eq_true rfl) q545)
theorem n65_64 : Snd mt G 65 64 (oIload 5 66) := w_iload (hm := mm65) dX1_served_64
theorem n65_66 : Snd mt G 65 66 (oCall 2 (fV [3] 176 2) 0 69 xOut) := s_callV (m' := 176) (n := 1) xsh_out (w_xok0 mm65) (w_cal mm65 mm176 pn_J2 (Nat.le_of_ble_eq_true rfl) (Nat.le_of_ble_eq_true rfl)) (fun h b as hc hn => w_run_V (ci := 2) mm65 mm176 dX1_served_66 (Or.inl (List.mem_singleton.mp hc)) (Nat.le_of_ble_eq_true rfl) vc_2 rfl q713 q714 q715 q133 q716 pa176 hn)
theorem n65_69 : Snd mt G 65 69 (oCast [19] 72) := w_cast (hm := mm65) dX1_served_69 q727 (List.forall_mem_cons.mpr ⟨⟨18, _, Or.inl rfl, (Nat.le_of_ble_eq_true rfl), vc_18, Or.inl rfl⟩, (fun t ht => nomatch ht)⟩)
theorem n65_72 : Snd mt G 65 72 (oCall 2 (fV [1] 56 3) 0 75 xOut) := s_callV (m' := 56) (n := 1) xsh_out (w_xok0 mm65) (w_cal mm65 mm56 pn_X1 (Nat.le_of_ble_eq_true rfl) (Nat.le_of_ble_eq_true rfl)) (fun h b as hc hn => w_run_V (ci := 0) mm65 mm56 dX1_served_72 (Or.inl (List.mem_singleton.mp hc)) (Nat.le_of_ble_eq_true rfl) vc_0 rfl q728 q730 qs2 q129 q731 pa56 hn)
theorem n65_75 : Snd mt G 65 75 (oIstore 6 77) := w_istore (hm := mm65) dX1_served_75 (Nat.le_of_ble_eq_true rfl)
theorem n65_77 : Snd mt G 65 77 (oIload 4 79) := w_iload (hm := mm65) dX1_served_77
theorem n65_79 : Snd mt G 65 79 (oIload 6 81) := w_iload (hm := mm65) dX1_served_79
theorem n65_81 : Snd mt G 65 81 (oIfLe 106 84) := w_if_le (hm := mm65) dX1_served_81 rfl
theorem n65_84 : Snd mt G 65 84 (oIload 6 86) := w_iload (hm := mm65) dX1_served_84
theorem n65_86 : Snd mt G 65 86 (oIload 3 87) := w_iload_n (hm := mm65) dX1_served_86
theorem n65_87 : Snd mt G 65 87 (oCmpGt 102 90) := w_icmp_gt (hm := mm65) dX1_served_87 rfl
theorem n65_90 : Snd mt G 65 90 (oIload 6 92) := w_iload (hm := mm65) dX1_served_90
theorem n65_92 : Snd mt G 65 92 (oIload 3 93) := w_iload_n (hm := mm65) dX1_served_92
theorem n65_93 : Snd mt G 65 93 (oCmpEq 96 106) := w_icmp_ne (hm := mm65) dX1_served_93 rfl
theorem n65_96 : Snd mt G 65 96 (oIload 5 98) := w_iload (hm := mm65) dX1_served_96
theorem n65_98 : Snd mt G 65 98 (oIload 2 99) := w_iload_n (hm := mm65) dX1_served_98
theorem n65_99 : Snd mt G 65 99 (oCmpGe 106 102) := w_icmp_ge (hm := mm65) dX1_served_99 rfl
theorem n65_102 : Snd mt G 65 102 (oConst (.int 1) 103) := w_iconst (hm := mm65) dX1_served_102 rfl
theorem n65_103 : Snd mt G 65 103 (oGoto 107) := w_goto (hm := mm65) dX1_served_103 rfl
theorem n65_106 : Snd mt G 65 106 (oConst (.int 0) 107) := w_iconst (hm := mm65) dX1_served_106 rfl
theorem n65_107 : Snd mt G 65 107 (oBin (fun x y => x + y) 108) := w_iadd (hm := mm65) dX1_served_107
theorem n65_108 : Snd mt G 65 108 (oIstore 4 110) := w_istore (hm := mm65) dX1_served_108 (Nat.le_of_ble_eq_true rfl)
theorem n65_110 : Snd mt G 65 110 (oIinc 5 1 113) := w_iinc (hm := mm65) dX1_served_110 rfl (Nat.le_of_ble_eq_true rfl)
theorem n65_113 : Snd mt G 65 113 (oGoto 41) := w_goto (hm := mm65) dX1_served_113 rfl
theorem n65_116 : Snd mt G 65 116 (oIload 3 117) := w_iload_n (hm := mm65) dX1_served_116
theorem n65_117 : Snd mt G 65 117 (oIfLe 128 120) := w_if_le (hm := mm65) dX1_served_117 rfl
theorem n65_120 : Snd mt G 65 120 (oIload 4 122) := w_iload (hm := mm65) dX1_served_120
theorem n65_122 : Snd mt G 65 122 (oIload 1 123) := w_iload_n (hm := mm65) dX1_served_122
theorem n65_123 : Snd mt G 65 123 (oCmpEq 126 128) := w_icmp_ne (hm := mm65) dX1_served_123 rfl
theorem n65_126 : Snd mt G 65 126 (oIload 2 127) := w_iload_n (hm := mm65) dX1_served_126
theorem n65_127 : Snd mt G 65 127 (oRetI .int) := w_iret (hm := mm65) dX1_served_127 rfl
theorem n65_128 : Snd mt G 65 128 (oIinc 2 1 131) := w_iinc (hm := mm65) dX1_served_128 rfl (Nat.le_of_ble_eq_true rfl)
theorem n65_131 : Snd mt G 65 131 (oGoto 2) := w_goto (hm := mm65) dX1_served_131 rfl
theorem n65_134 : Snd mt G 65 134 (oConst (.int (-1)) 135) := w_iconst (hm := mm65) dX1_served_134 rfl
theorem n65_135 : Snd mt G 65 135 (oRetI .int) := w_iret (hm := mm65) dX1_served_135 rfl
theorem sj65 : ∀ pc, Snd mt G 65 pc (j65 pc) := fun pc => (snd_br ((snd_br ((snd_br ((snd_br ((snd_br ((snd_br ((snd_br ((snd_lf n65_135)) ((snd_lf n65_134)))) ((snd_lf n65_131)))) ((snd_br ((snd_lf n65_128)) ((snd_lf n65_127)))))) ((snd_br ((snd_br ((snd_lf n65_126)) ((snd_lf n65_123)))) ((snd_br ((snd_lf n65_122)) ((snd_lf n65_120)))))))) ((snd_br ((snd_br ((snd_br ((snd_lf n65_117)) ((snd_lf n65_116)))) ((snd_br ((snd_lf n65_113)) ((snd_lf n65_110)))))) ((snd_br ((snd_br ((snd_lf n65_108)) ((snd_lf n65_107)))) ((snd_br ((snd_lf n65_106)) ((snd_lf n65_103)))))))))) ((snd_br ((snd_br ((snd_br ((snd_br ((snd_lf n65_102)) ((snd_lf n65_99)))) ((snd_br ((snd_lf n65_98)) ((snd_lf n65_96)))))) ((snd_br ((snd_br ((snd_lf n65_93)) ((snd_lf n65_92)))) ((snd_br ((snd_lf n65_90)) ((snd_lf n65_87)))))))) ((snd_br ((snd_br ((snd_br ((snd_lf n65_86)) ((snd_lf n65_84)))) ((snd_br ((snd_lf n65_81)) ((snd_lf n65_79)))))) ((snd_br ((snd_br ((snd_lf n65_77)) ((snd_lf n65_75)))) ((snd_br ((snd_lf n65_72)) ((snd_lf n65_69)))))))))))) ((snd_br ((snd_br ((snd_br ((snd_br ((snd_br ((snd_br ((snd_lf n65_66)) ((snd_lf n65_64)))) ((snd_lf n65_61)))) ((snd_br ((snd_lf n65_58)) ((snd_lf n65_57)))))) ((snd_br ((snd_br ((snd_lf n65_56)) ((snd_lf n65_53)))) ((snd_br ((snd_lf n65_50)) ((snd_lf n65_47)))))))) ((snd_br ((snd_br ((snd_br ((snd_lf n65_44)) ((snd_lf n65_43)))) ((snd_br ((snd_lf n65_41)) ((snd_lf n65_39)))))) ((snd_br ((snd_br ((snd_lf n65_38)) ((snd_lf n65_36)))) ((snd_br ((snd_lf n65_35)) ((snd_lf n65_34)))))))))) ((snd_br ((snd_br ((snd_br ((snd_br ((snd_lf n65_31)) ((snd_lf n65_28)))) ((snd_br ((snd_lf n65_25)) ((snd_lf n65_24)))))) ((snd_br ((snd_br ((snd_lf n65_21)) ((snd_lf n65_18)))) ((snd_br ((snd_lf n65_17)) ((snd_lf n65_16)))))))) ((snd_br ((snd_br ((snd_br ((snd_lf n65_13)) ((snd_lf n65_10)))) ((snd_br ((snd_lf n65_7)) ((snd_lf n65_4)))))) ((snd_br ((snd_br ((snd_lf n65_3)) ((snd_lf n65_2)))) ((snd_br ((snd_lf n65_1)) ((snd_lf n65_0)))))))))))))
end
section
variable {G : AG}
theorem n66_0 : Snd mt G 66 0 (oAload 0 1) := w_aload_n (hm := mm66) dX1_best_0
theorem n66_1 : Snd mt G 66 1 (oCall 1 (fV [1] 67 1) 0 4 xOut) := s_callV (m' := 67) (n := 0) xsh_out (w_xok0 mm66) (w_cal mm66 mm67 pn_X1 (Nat.le_of_ble_eq_true rfl) (Nat.le_of_ble_eq_true rfl)) (fun h b as hc hn => w_run_V (ci := 0) mm66 mm67 dX1_best_1 (Or.inl (List.mem_singleton.mp hc)) (Nat.le_of_ble_eq_true rfl) vc_0 rfl q857 q859 qs11 q129 q860 pa67 hn)
theorem n66_4 : Snd mt G 66 4 (oPop 5) := w_pop (hm := mm66) dX1_best_4
theorem n66_5 : Snd mt G 66 5 (oConst (.int 0) 6) := w_iconst (hm := mm66) dX1_best_5 rfl
theorem n66_6 : Snd mt G 66 6 (oIstore 1 7) := w_istore_n (hm := mm66) dX1_best_6 (Nat.le_of_ble_eq_true rfl)
theorem n66_7 : Snd mt G 66 7 (oConst (.int 0) 8) := w_iconst (hm := mm66) dX1_best_7 rfl
theorem n66_8 : Snd mt G 66 8 (oIstore 2 9) := w_istore_n (hm := mm66) dX1_best_8 (Nat.le_of_ble_eq_true rfl)
theorem n66_9 : Snd mt G 66 9 (oIload 2 10) := w_iload_n (hm := mm66) dX1_best_9
theorem n66_10 : Snd mt G 66 10 (oAload 0 11) := w_aload_n (hm := mm66) dX1_best_10
theorem n66_11 : Snd mt G 66 11 (oGetf [1] 0 14) := w_getf (hm := mm66) dX1_best_11 (fok1 (k := 0) (T := TX1) 0 (Nat.le_of_ble_eq_true rfl) vc_0 (Nat.le_of_ble_eq_true rfl) q623)
theorem n66_14 : Snd mt G 66 14 (oGetf [2] 2 17) := w_getfN (hm := mm66) dX1_best_14 (fokn1 (k := 2) (T := TX2) 1 (Nat.le_of_ble_eq_true rfl) vc_1 (Nat.le_of_ble_eq_true rfl) q547)
theorem n66_17 : Snd mt G 66 17 (oCall 1 (fV [3] 175 1) 0 20 xOut) := s_callV (m' := 175) (n := 0) xsh_out (w_xok0 mm66) (w_cal mm66 mm175 pn_J2 (Nat.le_of_ble_eq_true rfl) (Nat.le_of_ble_eq_true rfl)) (fun h b as hc hn => w_run_V (ci := 2) mm66 mm175 dX1_best_17 (Or.inl (List.mem_singleton.mp hc)) (Nat.le_of_ble_eq_true rfl) vc_2 rfl q709 q710 q711 q133 q712 pa175 hn)
theorem n66_20 : Snd mt G 66 20 (oCmpGe 41 23) := w_icmp_ge (hm := mm66) dX1_best_20 rfl
theorem n66_23 : Snd mt G 66 23 (oConst (.int 7) 25) := w_bipush (hm := mm66) dX1_best_23 (by decide)
theorem n66_25 : Snd mt G 66 25 (oIload 1 26) := w_iload_n (hm := mm66) dX1_best_25
theorem n66_26 : Snd mt G 66 26 (oBin (fun x y => x * y) 27) := w_imul (hm := mm66) dX1_best_26
theorem n66_27 : Snd mt G 66 27 (oAload 0 28) := w_aload_n (hm := mm66) dX1_best_27
theorem n66_28 : Snd mt G 66 28 (oGetf [1] 16 31) := w_getf (hm := mm66) dX1_best_28 (fok1 (k := 16) (T := TX1) 0 (Nat.le_of_ble_eq_true rfl) vc_0 (Nat.le_of_ble_eq_true rfl) q639)
theorem n66_31 : Snd mt G 66 31 (oIload 2 32) := w_iload_n (hm := mm66) dX1_best_31
theorem n66_32 : Snd mt G 66 32 (oAld [100] 33) := w_iaload (hm := mm66) (kt := 0) dX1_best_32 at_0 (Nat.le_of_ble_eq_true rfl) (List.forall_mem_cons.mpr ⟨Or.inl rfl, (fun t ht => nomatch ht)⟩)
theorem n66_33 : Snd mt G 66 33 (oBin (fun x y => x + y) 34) := w_iadd (hm := mm66) dX1_best_33
theorem n66_34 : Snd mt G 66 34 (oIstore 1 35) := w_istore_n (hm := mm66) dX1_best_34 (Nat.le_of_ble_eq_true rfl)
theorem n66_35 : Snd mt G 66 35 (oIinc 2 1 38) := w_iinc (hm := mm66) dX1_best_35 rfl (Nat.le_of_ble_eq_true rfl)
theorem n66_38 : Snd mt G 66 38 (oGoto 9) := w_goto (hm := mm66) dX1_best_38 rfl
theorem n66_41 : Snd mt G 66 41 (oIload 1 42) := w_iload_n (hm := mm66) dX1_best_41
theorem n66_42 : Snd mt G 66 42 (oRetI .int) := w_iret (hm := mm66) dX1_best_42 rfl
theorem sj66 : ∀ pc, Snd mt G 66 pc (j66 pc) := fun pc => (snd_br ((snd_br ((snd_br ((snd_br ((snd_br ((snd_lf n66_42)) ((snd_lf n66_41)))) ((snd_br ((snd_lf n66_38)) ((snd_lf n66_35)))))) ((snd_br ((snd_br ((snd_lf n66_34)) ((snd_lf n66_33)))) ((snd_lf n66_32)))))) ((snd_br ((snd_br ((snd_br ((snd_lf n66_31)) ((snd_lf n66_28)))) ((snd_lf n66_27)))) ((snd_br ((snd_br ((snd_lf n66_26)) ((snd_lf n66_25)))) ((snd_lf n66_23)))))))) ((snd_br ((snd_br ((snd_br ((snd_br ((snd_lf n66_20)) ((snd_lf n66_17)))) ((snd_br ((snd_lf n66_14)) ((snd_lf n66_11)))))) ((snd_br ((snd_br ((snd_lf n66_10)) ((snd_lf n66_9)))) ((snd_lf n66_8)))))) ((snd_br ((snd_br ((snd_br ((snd_lf n66_7)) ((snd_lf n66_6)))) ((snd_lf n66_5)))) ((snd_br ((snd_br ((snd_lf n66_4)) ((snd_lf n66_1)))) ((snd_lf n66_0)))))))))
end
section
variable {G : AG}
theorem n67_0 : Snd mt G 67 0 (oAload 0 1) := w_aload_n (hm := mm67) dX1_findBest_0
theorem n67_1 : Snd mt G 67 1 (oConst (.int (-1)) 2) := w_iconst (hm := mm67) dX1_findBest_1 rfl
theorem n67_2 : Snd mt G 67 2 (oPutf [1] 19 .int 5) := w_putf (hm := mm67) dX1_findBest_2 (pok1 (k := 19) (T := TX1) 0 (Nat.le_of_ble_eq_true rfl) vc_0 (Nat.le_of_ble_eq_true rfl) rfl pd_X1_19 q642)
theorem n67_5 : Snd mt G 67 5 (oAload 0 6) := w_aload_n (hm := mm67) dX1_findBest_5
theorem n67_6 : Snd mt G 67 6 (oConst (.int 0) 7) := w_iconst (hm := mm67) dX1_findBest_6 rfl
theorem n67_7 : Snd mt G 67 7 (oConst (.int 0) 8) := w_iconst (hm := mm67) dX1_findBest_7 rfl
theorem n67_8 : Snd mt G 67 8 (oConst (.int 0) 9) := w_iconst (hm := mm67) dX1_findBest_8 rfl
theorem n67_9 : Snd mt G 67 9 (oAload 0 10) := w_aload_n (hm := mm67) dX1_findBest_9
theorem n67_10 : Snd mt G 67 10 (oCall 1 (fV [1] 68 1) 0 13 xOut) := s_callV (m' := 68) (n := 0) xsh_out (w_xok0 mm67) (w_cal mm67 mm68 pn_X1 (Nat.le_of_ble_eq_true rfl) (Nat.le_of_ble_eq_true rfl)) (fun h b as hc hn => w_run_V (ci := 0) mm67 mm68 dX1_findBest_10 (Or.inl (List.mem_singleton.mp hc)) (Nat.le_of_ble_eq_true rfl) vc_0 rfl q861 q863 qs12 q129 q864 pa68 hn)
theorem n67_13 : Snd mt G 67 13 (oConst (.int 0) 14) := w_iconst (hm := mm67) dX1_findBest_13 rfl
theorem n67_14 : Snd mt G 67 14 (oCall 6 (fV [1] 69 10) 0 17 xOut) := s_callV (m' := 69) (n := 5) xsh_out (w_xok0 mm67) (w_cal mm67 mm69 pn_X1 (Nat.le_of_ble_eq_true rfl) (Nat.le_of_ble_eq_true rfl)) (fun h b as hc hn => w_run_V (ci := 0) mm67 mm69 dX1_findBest_14 (Or.inl (List.mem_singleton.mp hc)) (Nat.le_of_ble_eq_true rfl) vc_0 rfl q866 q868 qs13 q129 q869 pa69 hn)
theorem n67_17 : Snd mt G 67 17 (oAload 0 18) := w_aload_n (hm := mm67) dX1_findBest_17
theorem n67_18 : Snd mt G 67 18 (oGetf [1] 19 21) := w_getf (hm := mm67) dX1_findBest_18 (fok1 (k := 19) (T := TX1) 0 (Nat.le_of_ble_eq_true rfl) vc_0 (Nat.le_of_ble_eq_true rfl) q642)
theorem n67_21 : Snd mt G 67 21 (oRetI .int) := w_iret (hm := mm67) dX1_findBest_21 rfl
theorem sj67 : ∀ pc, Snd mt G 67 pc (j67 pc) := fun pc => (snd_br ((snd_br ((snd_br ((snd_br ((snd_lf n67_21)) ((snd_lf n67_18)))) ((snd_br ((snd_lf n67_17)) ((snd_lf n67_14)))))) ((snd_br ((snd_br ((snd_lf n67_13)) ((snd_lf n67_10)))) ((snd_lf n67_9)))))) ((snd_br ((snd_br ((snd_br ((snd_lf n67_8)) ((snd_lf n67_7)))) ((snd_br ((snd_lf n67_6)) ((snd_lf n67_5)))))) ((snd_br ((snd_br ((snd_lf n67_2)) ((snd_lf n67_1)))) ((snd_lf n67_0)))))))
end
section
variable {G : AG}
theorem n68_0 : Snd mt G 68 0 (oAload 0 1) := w_aload_n (hm := mm68) dX1_otherFree_0
theorem n68_1 : Snd mt G 68 1 (oGetf [1] 0 4) := w_getf (hm := mm68) dX1_otherFree_1 (fok1 (k := 0) (T := TX1) 0 (Nat.le_of_ble_eq_true rfl) vc_0 (Nat.le_of_ble_eq_true rfl) q623)
theorem n68_4 : Snd mt G 68 4 (oGetf [2] 18 7) := w_getfN (hm := mm68) dX1_otherFree_4 (fokn1 (k := 18) (T := TX2) 1 (Nat.le_of_ble_eq_true rfl) vc_1 (Nat.le_of_ble_eq_true rfl) q579)
theorem n68_7 : Snd mt G 68 7 (oConst (.int 2) 8) := w_iconst (hm := mm68) dX1_otherFree_7 rfl
theorem n68_8 : Snd mt G 68 8 (oCmpEq 11 15) := w_icmp_ne (hm := mm68) dX1_otherFree_8 rfl
theorem n68_11 : Snd mt G 68 11 (oConst (.int 0) 12) := w_iconst (hm := mm68) dX1_otherFree_11 rfl
theorem n68_12 : Snd mt G 68 12 (oGoto 18) := w_goto (hm := mm68) dX1_otherFree_12 rfl
theorem n68_15 : Snd mt G 68 15 (oConst (.int 2147483647) 18) := w_ldcw (hm := mm68) dX1_otherFree_15 q865
theorem n68_18 : Snd mt G 68 18 (oRetI .int) := w_iret (hm := mm68) dX1_otherFree_18 rfl
theorem sj68 : ∀ pc, Snd mt G 68 pc (j68 pc) := fun pc => (snd_br ((snd_br ((snd_br ((snd_br ((snd_lf n68_18)) ((snd_lf n68_15)))) ((snd_lf n68_12)))) ((snd_br ((snd_lf n68_11)) ((snd_lf n68_8)))))) ((snd_br ((snd_br ((snd_lf n68_7)) ((snd_lf n68_4)))) ((snd_br ((snd_lf n68_1)) ((snd_lf n68_0)))))))
end
section
variable {G : AG}
theorem n69_0 : Snd mt G 69 0 (oAload 0 1) := w_aload_n (hm := mm69) dX1_orders_0
theorem n69_1 : Snd mt G 69 1 (oGetf [1] 0 4) := w_getf (hm := mm69) dX1_orders_1 (fok1 (k := 0) (T := TX1) 0 (Nat.le_of_ble_eq_true rfl) vc_0 (Nat.le_of_ble_eq_true rfl) q623)
theorem n69_4 : Snd mt G 69 4 (oGetf [2] 2 7) := w_getfN (hm := mm69) dX1_orders_4 (fokn1 (k := 2) (T := TX2) 1 (Nat.le_of_ble_eq_true rfl) vc_1 (Nat.le_of_ble_eq_true rfl) q547)
theorem n69_7 : Snd mt G 69 7 (oCall 1 (fV [3] 175 1) 0 10 xOut) := s_callV (m' := 175) (n := 0) xsh_out (w_xok0 mm69) (w_cal mm69 mm175 pn_J2 (Nat.le_of_ble_eq_true rfl) (Nat.le_of_ble_eq_true rfl)) (fun h b as hc hn => w_run_V (ci := 2) mm69 mm175 dX1_orders_7 (Or.inl (List.mem_singleton.mp hc)) (Nat.le_of_ble_eq_true rfl) vc_2 rfl q709 q710 q711 q133 q712 pa175 hn)
theorem n69_10 : Snd mt G 69 10 (oIstore 6 12) := w_istore (hm := mm69) dX1_orders_10 (Nat.le_of_ble_eq_true rfl)
theorem n69_12 : Snd mt G 69 12 (oAload 0 13) := w_aload_n (hm := mm69) dX1_orders_12
theorem n69_13 : Snd mt G 69 13 (oGetf [1] 19 16) := w_getf (hm := mm69) dX1_orders_13 (fok1 (k := 19) (T := TX1) 0 (Nat.le_of_ble_eq_true rfl) vc_0 (Nat.le_of_ble_eq_true rfl) q642)
theorem n69_16 : Snd mt G 69 16 (oConst (.int (-1)) 17) := w_iconst (hm := mm69) dX1_orders_16 rfl
theorem n69_17 : Snd mt G 69 17 (oCmpEq 30 20) := w_icmp_eq (hm := mm69) dX1_orders_17 rfl
theorem n69_20 : Snd mt G 69 20 (oIload 5 22) := w_iload (hm := mm69) dX1_orders_20
theorem n69_22 : Snd mt G 69 22 (oAload 0 23) := w_aload_n (hm := mm69) dX1_orders_22
theorem n69_23 : Snd mt G 69 23 (oGetf [1] 19 26) := w_getf (hm := mm69) dX1_orders_23 (fok1 (k := 19) (T := TX1) 0 (Nat.le_of_ble_eq_true rfl) vc_0 (Nat.le_of_ble_eq_true rfl) q642)
theorem n69_26 : Snd mt G 69 26 (oCmpLe 30 29) := w_icmp_le (hm := mm69) dX1_orders_26 rfl
theorem n69_29 : Snd mt G 69 29 (oRetV) := w_vret (hm := mm69) dX1_orders_29 rfl
theorem n69_30 : Snd mt G 69 30 (oIload 1 31) := w_iload_n (hm := mm69) dX1_orders_30
theorem n69_31 : Snd mt G 69 31 (oIload 6 33) := w_iload (hm := mm69) dX1_orders_31
theorem n69_33 : Snd mt G 69 33 (oCmpEq 36 76) := w_icmp_ne (hm := mm69) dX1_orders_33 rfl
theorem n69_36 : Snd mt G 69 36 (oAload 0 37) := w_aload_n (hm := mm69) dX1_orders_36
theorem n69_37 : Snd mt G 69 37 (oGetf [1] 19 40) := w_getf (hm := mm69) dX1_orders_37 (fok1 (k := 19) (T := TX1) 0 (Nat.le_of_ble_eq_true rfl) vc_0 (Nat.le_of_ble_eq_true rfl) q642)
theorem n69_40 : Snd mt G 69 40 (oConst (.int (-1)) 41) := w_iconst (hm := mm69) dX1_orders_40 rfl
theorem n69_41 : Snd mt G 69 41 (oCmpEq 54 44) := w_icmp_eq (hm := mm69) dX1_orders_41 rfl
theorem n69_44 : Snd mt G 69 44 (oIload 5 46) := w_iload (hm := mm69) dX1_orders_44
theorem n69_46 : Snd mt G 69 46 (oAload 0 47) := w_aload_n (hm := mm69) dX1_orders_46
theorem n69_47 : Snd mt G 69 47 (oGetf [1] 19 50) := w_getf (hm := mm69) dX1_orders_47 (fok1 (k := 19) (T := TX1) 0 (Nat.le_of_ble_eq_true rfl) vc_0 (Nat.le_of_ble_eq_true rfl) q642)
theorem n69_50 : Snd mt G 69 50 (oCmpLt 54 53) := w_icmp_lt (hm := mm69) dX1_orders_50 rfl
theorem n69_53 : Snd mt G 69 53 (oRetV) := w_vret (hm := mm69) dX1_orders_53 rfl
theorem n69_54 : Snd mt G 69 54 (oAload 0 55) := w_aload_n (hm := mm69) dX1_orders_54
theorem n69_55 : Snd mt G 69 55 (oIload 5 57) := w_iload (hm := mm69) dX1_orders_55
theorem n69_57 : Snd mt G 69 57 (oPutf [1] 19 .int 60) := w_putf (hm := mm69) dX1_orders_57 (pok1 (k := 19) (T := TX1) 0 (Nat.le_of_ble_eq_true rfl) vc_0 (Nat.le_of_ble_eq_true rfl) rfl pd_X1_19 q642)
theorem n69_60 : Snd mt G 69 60 (oAload 0 61) := w_aload_n (hm := mm69) dX1_orders_60
theorem n69_61 : Snd mt G 69 61 (oGetf [1] 15 64) := w_getf (hm := mm69) dX1_orders_61 (fok1 (k := 15) (T := TX1) 0 (Nat.le_of_ble_eq_true rfl) vc_0 (Nat.le_of_ble_eq_true rfl) q638)
theorem n69_64 : Snd mt G 69 64 (oConst (.int 0) 65) := w_iconst (hm := mm69) dX1_orders_64 rfl
theorem n69_65 : Snd mt G 69 65 (oAload 0 66) := w_aload_n (hm := mm69) dX1_orders_65
theorem n69_66 : Snd mt G 69 66 (oGetf [1] 16 69) := w_getf (hm := mm69) dX1_orders_66 (fok1 (k := 16) (T := TX1) 0 (Nat.le_of_ble_eq_true rfl) vc_0 (Nat.le_of_ble_eq_true rfl) q639)
theorem n69_69 : Snd mt G 69 69 (oConst (.int 0) 70) := w_iconst (hm := mm69) dX1_orders_69 rfl
theorem n69_70 : Snd mt G 69 70 (oConst (.int 7) 72) := w_bipush (hm := mm69) dX1_orders_70 (by decide)
theorem n69_72 : Snd mt G 69 72 (oCopy [100] [100] (ckTy .int) 75) := w_copy (hm := mm69) (kt := 0) dX1_orders_72 (Nat.le_of_ble_eq_true rfl) at_0 (List.forall_mem_cons.mpr ⟨Or.inl rfl, (fun t ht => nomatch ht)⟩) (List.forall_mem_cons.mpr ⟨rfl, (fun t ht => nomatch ht)⟩) (fun s h H v _ _ e => ck_int s h H .int v e) (Nat.le_of_ble_eq_true rfl) q870 q335 q334 q145
theorem n69_75 : Snd mt G 69 75 (oRetV) := w_vret (hm := mm69) dX1_orders_75 rfl
theorem n69_76 : Snd mt G 69 76 (oConst (.int 0) 77) := w_iconst (hm := mm69) dX1_orders_76 rfl
theorem n69_77 : Snd mt G 69 77 (oIstore 7 79) := w_istore (hm := mm69) dX1_orders_77 (Nat.le_of_ble_eq_true rfl)
theorem n69_79 : Snd mt G 69 79 (oIload 7 81) := w_iload (hm := mm69) dX1_orders_79
theorem n69_81 : Snd mt G 69 81 (oIload 6 83) := w_iload (hm := mm69) dX1_orders_81
theorem n69_83 : Snd mt G 69 83 (oCmpGe 205 86) := w_icmp_ge (hm := mm69) dX1_orders_83 rfl
theorem n69_86 : Snd mt G 69 86 (oIload 2 87) := w_iload_n (hm := mm69) dX1_orders_86
theorem n69_87 : Snd mt G 69 87 (oIload 7 89) := w_iload (hm := mm69) dX1_orders_87
theorem n69_89 : Snd mt G 69 89 (oBin (fun x y => x >>> (y &&& 31)) 90) := w_ishr (hm := mm69) dX1_orders_89
theorem n69_90 : Snd mt G 69 90 (oConst (.int 1) 91) := w_iconst (hm := mm69) dX1_orders_90 rfl
theorem n69_91 : Snd mt G 69 91 (oBin (fun x y => x &&& y) 92) := w_iand (hm := mm69) dX1_orders_91
theorem n69_92 : Snd mt G 69 92 (oConst (.int 1) 93) := w_iconst (hm := mm69) dX1_orders_92 rfl
theorem n69_93 : Snd mt G 69 93 (oCmpEq 96 99) := w_icmp_ne (hm := mm69) dX1_orders_93 rfl
theorem n69_96 : Snd mt G 69 96 (oGoto 199) := w_goto (hm := mm69) dX1_orders_96 rfl
theorem n69_99 : Snd mt G 69 99 (oAload 0 100) := w_aload_n (hm := mm69) dX1_orders_99
theorem n69_100 : Snd mt G 69 100 (oGetf [1] 15 103) := w_getf (hm := mm69) dX1_orders_100 (fok1 (k := 15) (T := TX1) 0 (Nat.le_of_ble_eq_true rfl) vc_0 (Nat.le_of_ble_eq_true rfl) q638)
theorem n69_103 : Snd mt G 69 103 (oIload 1 104) := w_iload_n (hm := mm69) dX1_orders_103
theorem n69_104 : Snd mt G 69 104 (oIload 7 106) := w_iload (hm := mm69) dX1_orders_104
theorem n69_106 : Snd mt G 69 106 (oIast [100] 107) := w_iastore (hm := mm69) (kt := 0) dX1_orders_106 at_0 (Nat.le_of_ble_eq_true rfl) (List.forall_mem_cons.mpr ⟨rfl, (fun t ht => nomatch ht)⟩)
theorem n69_107 : Snd mt G 69 107 (oIload 3 108) := w_iload_n (hm := mm69) dX1_orders_107
theorem n69_108 : Snd mt G 69 108 (oIload 4 110) := w_iload (hm := mm69) dX1_orders_108
theorem n69_110 : Snd mt G 69 110 (oCmpGt 117 113) := w_icmp_gt (hm := mm69) dX1_orders_110 rfl
theorem n69_113 : Snd mt G 69 113 (oConst (.int 1) 114) := w_iconst (hm := mm69) dX1_orders_113 rfl
theorem n69_114 : Snd mt G 69 114 (oGoto 118) := w_goto (hm := mm69) dX1_orders_114 rfl
theorem n69_117 : Snd mt G 69 117 (oConst (.int 0) 118) := w_iconst (hm := mm69) dX1_orders_117 rfl
theorem n69_118 : Snd mt G 69 118 (oIstore 8 120) := w_istore (hm := mm69) dX1_orders_118 (Nat.le_of_ble_eq_true rfl)
theorem n69_120 : Snd mt G 69 120 (oAload 0 121) := w_aload_n (hm := mm69) dX1_orders_120
theorem n69_121 : Snd mt G 69 121 (oIload 7 123) := w_iload (hm := mm69) dX1_orders_121
theorem n69_123 : Snd mt G 69 123 (oIload 8 125) := w_iload (hm := mm69) dX1_orders_123
theorem n69_125 : Snd mt G 69 125 (oIfEq 132 128) := w_if_eq (hm := mm69) dX1_orders_125 rfl
theorem n69_128 : Snd mt G 69 128 (oIload 3 129) := w_iload_n (hm := mm69) dX1_orders_128
theorem n69_129 : Snd mt G 69 129 (oGoto 134) := w_goto (hm := mm69) dX1_orders_129 rfl
theorem n69_132 : Snd mt G 69 132 (oIload 4 134) := w_iload (hm := mm69) dX1_orders_132
theorem n69_134 : Snd mt G 69 134 (oCall 3 (fV [1] 70 4) 0 137 xOut) := s_callV (m' := 70) (n := 2) xsh_out (w_xok0 mm69) (w_cal mm69 mm70 pn_X1 (Nat.le_of_ble_eq_true rfl) (Nat.le_of_ble_eq_true rfl)) (fun h b as hc hn => w_run_V (ci := 0) mm69 mm70 dX1_orders_134 (Or.inl (List.mem_singleton.mp hc)) (Nat.le_of_ble_eq_true rfl) vc_0 rfl q871 q873 qs14 q129 q874 pa70 hn)
theorem n69_137 : Snd mt G 69 137 (oIstore 9 139) := w_istore (hm := mm69) dX1_orders_137 (Nat.le_of_ble_eq_true rfl)
theorem n69_139 : Snd mt G 69 139 (oAload 0 140) := w_aload_n (hm := mm69) dX1_orders_139
theorem n69_140 : Snd mt G 69 140 (oIload 1 141) := w_iload_n (hm := mm69) dX1_orders_140
theorem n69_141 : Snd mt G 69 141 (oConst (.int 1) 142) := w_iconst (hm := mm69) dX1_orders_141 rfl
theorem n69_142 : Snd mt G 69 142 (oBin (fun x y => x + y) 143) := w_iadd (hm := mm69) dX1_orders_142
theorem n69_143 : Snd mt G 69 143 (oIload 2 144) := w_iload_n (hm := mm69) dX1_orders_143
theorem n69_144 : Snd mt G 69 144 (oConst (.int 1) 145) := w_iconst (hm := mm69) dX1_orders_144 rfl
theorem n69_145 : Snd mt G 69 145 (oIload 7 147) := w_iload (hm := mm69) dX1_orders_145
theorem n69_147 : Snd mt G 69 147 (oBin (fun x y => x <<< (y &&& 31)) 148) := w_ishl (hm := mm69) dX1_orders_147
theorem n69_148 : Snd mt G 69 148 (oBin (fun x y => x ||| y) 149) := w_ior (hm := mm69) dX1_orders_148
theorem n69_149 : Snd mt G 69 149 (oIload 8 151) := w_iload (hm := mm69) dX1_orders_149
theorem n69_151 : Snd mt G 69 151 (oIfEq 159 154) := w_if_eq (hm := mm69) dX1_orders_151 rfl
theorem n69_154 : Snd mt G 69 154 (oIload 9 156) := w_iload (hm := mm69) dX1_orders_154
theorem n69_156 : Snd mt G 69 156 (oGoto 160) := w_goto (hm := mm69) dX1_orders_156 rfl
theorem n69_159 : Snd mt G 69 159 (oIload 3 160) := w_iload_n (hm := mm69) dX1_orders_159
theorem n69_160 : Snd mt G 69 160 (oIload 8 162) := w_iload (hm := mm69) dX1_orders_160
theorem n69_162 : Snd mt G 69 162 (oIfEq 170 165) := w_if_eq (hm := mm69) dX1_orders_162 rfl
theorem n69_165 : Snd mt G 69 165 (oIload 4 167) := w_iload (hm := mm69) dX1_orders_165
theorem n69_167 : Snd mt G 69 167 (oGoto 172) := w_goto (hm := mm69) dX1_orders_167 rfl
theorem n69_170 : Snd mt G 69 170 (oIload 9 172) := w_iload (hm := mm69) dX1_orders_170
theorem n69_172 : Snd mt G 69 172 (oIload 5 174) := w_iload (hm := mm69) dX1_orders_172
theorem n69_174 : Snd mt G 69 174 (oAload 0 175) := w_aload_n (hm := mm69) dX1_orders_174
theorem n69_175 : Snd mt G 69 175 (oGetf [1] 0 178) := w_getf (hm := mm69) dX1_orders_175 (fok1 (k := 0) (T := TX1) 0 (Nat.le_of_ble_eq_true rfl) vc_0 (Nat.le_of_ble_eq_true rfl) q623)
theorem n69_178 : Snd mt G 69 178 (oGetf [2] 2 181) := w_getfN (hm := mm69) dX1_orders_178 (fokn1 (k := 2) (T := TX2) 1 (Nat.le_of_ble_eq_true rfl) vc_1 (Nat.le_of_ble_eq_true rfl) q547)
theorem n69_181 : Snd mt G 69 181 (oIload 7 183) := w_iload (hm := mm69) dX1_orders_181
theorem n69_183 : Snd mt G 69 183 (oCall 2 (fV [3] 176 2) 0 186 xOut) := s_callV (m' := 176) (n := 1) xsh_out (w_xok0 mm69) (w_cal mm69 mm176 pn_J2 (Nat.le_of_ble_eq_true rfl) (Nat.le_of_ble_eq_true rfl)) (fun h b as hc hn => w_run_V (ci := 2) mm69 mm176 dX1_orders_183 (Or.inl (List.mem_singleton.mp hc)) (Nat.le_of_ble_eq_true rfl) vc_2 rfl q713 q714 q715 q133 q716 pa176 hn)
theorem n69_186 : Snd mt G 69 186 (oCast [22] 189) := w_cast (hm := mm69) dX1_orders_186 q875 (List.forall_mem_cons.mpr ⟨⟨21, _, Or.inl rfl, (Nat.le_of_ble_eq_true rfl), vc_21, Or.inl rfl⟩, (fun t ht => nomatch ht)⟩)
theorem n69_189 : Snd mt G 69 189 (oGetf [22] 2 192) := w_getfN (hm := mm69) dX1_orders_189 (fokn1 (k := 2) (T := TX23) 21 (Nat.le_of_ble_eq_true rfl) vc_21 (Nat.le_of_ble_eq_true rfl) q1995)
theorem n69_192 : Snd mt G 69 192 (oIload 9 194) := w_iload (hm := mm69) dX1_orders_192
theorem n69_194 : Snd mt G 69 194 (oBin (fun x y => x * y) 195) := w_imul (hm := mm69) dX1_orders_194
theorem n69_195 : Snd mt G 69 195 (oBin (fun x y => x + y) 196) := w_iadd (hm := mm69) dX1_orders_195
theorem n69_196 : Snd mt G 69 196 (oCall 6 (fV [1] 69 10) 1 199 xOut) := s_callV (m' := 69) (n := 5) xsh_out (w_xok0 mm69) (w_cal mm69 mm69 pn_X1 (Nat.le_of_ble_eq_true rfl) (Nat.le_of_ble_eq_true rfl)) (fun h b as hc hn => w_run_V (ci := 0) mm69 mm69 dX1_orders_196 (Or.inl (List.mem_singleton.mp hc)) (Nat.le_of_ble_eq_true rfl) vc_0 rfl q866 q868 qs13 q129 q869 pa69 hn)
theorem n69_199 : Snd mt G 69 199 (oIinc 7 1 202) := w_iinc (hm := mm69) dX1_orders_199 rfl (Nat.le_of_ble_eq_true rfl)
theorem n69_202 : Snd mt G 69 202 (oGoto 79) := w_goto (hm := mm69) dX1_orders_202 rfl
theorem n69_205 : Snd mt G 69 205 (oRetV) := w_vret (hm := mm69) dX1_orders_205 rfl
theorem sj69 : ∀ pc, Snd mt G 69 pc (j69 pc) := fun pc => (snd_br ((snd_br ((snd_br ((snd_br ((snd_br ((snd_br ((snd_br ((snd_lf n69_205)) ((snd_lf n69_202)))) ((snd_br ((snd_lf n69_199)) ((snd_lf n69_196)))))) ((snd_br ((snd_br ((snd_lf n69_195)) ((snd_lf n69_194)))) ((snd_lf n69_192)))))) ((snd_br ((snd_br ((snd_br ((snd_lf n69_189)) ((snd_lf n69_186)))) ((snd_br ((snd_lf n69_183)) ((snd_lf n69_181)))))) ((snd_br ((snd_br ((snd_lf n69_178)) ((snd_lf n69_175)))) ((snd_lf n69_174)))))))) ((snd_br ((snd_br ((snd_br ((snd_br ((snd_lf n69_172)) ((snd_lf n69_170)))) ((snd_br ((snd_lf n69_167)) ((snd_lf n69_165)))))) ((snd_br ((snd_br ((snd_lf n69_162)) ((snd_lf n69_160)))) ((snd_lf n69_159)))))) ((snd_br ((snd_br ((snd_br ((snd_lf n69_156)) ((snd_lf n69_154)))) ((snd_lf n69_151)))) ((snd_br ((snd_br ((snd_lf n69_149)) ((snd_lf n69_148)))) ((snd_lf n69_147)))))))))) ((snd_br ((snd_br ((snd_br ((snd_br ((snd_br ((snd_lf n69_145)) ((snd_lf n69_144)))) ((snd_br ((snd_lf n69_143)) ((snd_lf n69_142)))))) ((snd_br ((snd_br ((snd_lf n69_141)) ((snd_lf n69_140)))) ((snd_lf n69_139)))))) ((snd_br ((snd_br ((snd_br ((snd_lf n69_137)) ((snd_lf n69_134)))) ((snd_lf n69_132)))) ((snd_br ((snd_br ((snd_lf n69_129)) ((snd_lf n69_128)))) ((snd_lf n69_125)))))))) ((snd_br ((snd_br ((snd_br ((snd_br ((snd_lf n69_123)) ((snd_lf n69_121)))) ((snd_br ((snd_lf n69_120)) ((snd_lf n69_118)))))) ((snd_br ((snd_br ((snd_lf n69_117)) ((snd_lf n69_114)))) ((snd_lf n69_113)))))) ((snd_br ((snd_br ((snd_br ((snd_lf n69_110)) ((snd_lf n69_108)))) ((snd_lf n69_107)))) ((snd_br ((snd_br ((snd_lf n69_106)) ((snd_lf n69_104)))) ((snd_lf n69_103)))))))))))) ((snd_br ((snd_br ((snd_br ((snd_br ((snd_br ((snd_br ((snd_lf n69_100)) ((snd_lf n69_99)))) ((snd_br ((snd_lf n69_96)) ((snd_lf n69_93)))))) ((snd_br ((snd_br ((snd_lf n69_92)) ((snd_lf n69_91)))) ((snd_lf n69_90)))))) ((snd_br ((snd_br ((snd_br ((snd_lf n69_89)) ((snd_lf n69_87)))) ((snd_br ((snd_lf n69_86)) ((snd_lf n69_83)))))) ((snd_br ((snd_br ((snd_lf n69_81)) ((snd_lf n69_79)))) ((snd_lf n69_77)))))))) ((snd_br ((snd_br ((snd_br ((snd_br ((snd_lf n69_76)) ((snd_lf n69_75)))) ((snd_br ((snd_lf n69_72)) ((snd_lf n69_70)))))) ((snd_br ((snd_br ((snd_lf n69_69)) ((snd_lf n69_66)))) ((snd_lf n69_65)))))) ((snd_br ((snd_br ((snd_br ((snd_lf n69_64)) ((snd_lf n69_61)))) ((snd_lf n69_60)))) ((snd_br ((snd_br ((snd_lf n69_57)) ((snd_lf n69_55)))) ((snd_lf n69_54)))))))))) ((snd_br ((snd_br ((snd_br ((snd_br ((snd_br ((snd_lf n69_53)) ((snd_lf n69_50)))) ((snd_br ((snd_lf n69_47)) ((snd_lf n69_46)))))) ((snd_br ((snd_br ((snd_lf n69_44)) ((snd_lf n69_41)))) ((snd_lf n69_40)))))) ((snd_br ((snd_br ((snd_br ((snd_lf n69_37)) ((snd_lf n69_36)))) ((snd_lf n69_33)))) ((snd_br ((snd_br ((snd_lf n69_31)) ((snd_lf n69_30)))) ((snd_lf n69_29)))))))) ((snd_br ((snd_br ((snd_br ((snd_br ((snd_lf n69_26)) ((snd_lf n69_23)))) ((snd_br ((snd_lf n69_22)) ((snd_lf n69_20)))))) ((snd_br ((snd_br ((snd_lf n69_17)) ((snd_lf n69_16)))) ((snd_lf n69_13)))))) ((snd_br ((snd_br ((snd_br ((snd_lf n69_12)) ((snd_lf n69_10)))) ((snd_lf n69_7)))) ((snd_br ((snd_br ((snd_lf n69_4)) ((snd_lf n69_1)))) ((snd_lf n69_0)))))))))))))
end
section
variable {G : AG}
theorem n70_0 : Snd mt G 70 0 (oAload 0 1) := w_aload_n (hm := mm70) dX1_doneAt_0
theorem n70_1 : Snd mt G 70 1 (oGetf [1] 0 4) := w_getf (hm := mm70) dX1_doneAt_1 (fok1 (k := 0) (T := TX1) 0 (Nat.le_of_ble_eq_true rfl) vc_0 (Nat.le_of_ble_eq_true rfl) q623)
theorem n70_4 : Snd mt G 70 4 (oGetf [2] 2 7) := w_getfN (hm := mm70) dX1_doneAt_4 (fokn1 (k := 2) (T := TX2) 1 (Nat.le_of_ble_eq_true rfl) vc_1 (Nat.le_of_ble_eq_true rfl) q547)
theorem n70_7 : Snd mt G 70 7 (oIload 1 8) := w_iload_n (hm := mm70) dX1_doneAt_7
theorem n70_8 : Snd mt G 70 8 (oCall 2 (fV [3] 176 2) 0 11 xOut) := s_callV (m' := 176) (n := 1) xsh_out (w_xok0 mm70) (w_cal mm70 mm176 pn_J2 (Nat.le_of_ble_eq_true rfl) (Nat.le_of_ble_eq_true rfl)) (fun h b as hc hn => w_run_V (ci := 2) mm70 mm176 dX1_doneAt_8 (Or.inl (List.mem_singleton.mp hc)) (Nat.le_of_ble_eq_true rfl) vc_2 rfl q713 q714 q715 q133 q716 pa176 hn)
theorem n70_11 : Snd mt G 70 11 (oCast [22] 14) := w_cast (hm := mm70) dX1_doneAt_11 q875 (List.forall_mem_cons.mpr ⟨⟨21, _, Or.inl rfl, (Nat.le_of_ble_eq_true rfl), vc_21, Or.inl rfl⟩, (fun t ht => nomatch ht)⟩)
theorem n70_14 : Snd mt G 70 14 (oAstore 3 15) := w_astore_n (hm := mm70) dX1_doneAt_14 (Nat.le_of_ble_eq_true rfl)
theorem n70_15 : Snd mt G 70 15 (oIload 2 16) := w_iload_n (hm := mm70) dX1_doneAt_15
theorem n70_16 : Snd mt G 70 16 (oAload 3 17) := w_aload_n (hm := mm70) dX1_doneAt_16
theorem n70_17 : Snd mt G 70 17 (oGetf [22] 3 20) := w_getfN (hm := mm70) dX1_doneAt_17 (fokn1 (k := 3) (T := TX23) 21 (Nat.le_of_ble_eq_true rfl) vc_21 (Nat.le_of_ble_eq_true rfl) q1997)
theorem n70_20 : Snd mt G 70 20 (oIload 1 21) := w_iload_n (hm := mm70) dX1_doneAt_20
theorem n70_21 : Snd mt G 70 21 (oAload 0 22) := w_aload_n (hm := mm70) dX1_doneAt_21
theorem n70_22 : Snd mt G 70 22 (oGetf [1] 17 25) := w_getf (hm := mm70) dX1_doneAt_22 (fok1 (k := 17) (T := TX1) 0 (Nat.le_of_ble_eq_true rfl) vc_0 (Nat.le_of_ble_eq_true rfl) q640)
theorem n70_25 : Snd mt G 70 25 (oCmpEq 28 35) := w_icmp_ne (hm := mm70) dX1_doneAt_25 rfl
theorem n70_28 : Snd mt G 70 28 (oAload 0 29) := w_aload_n (hm := mm70) dX1_doneAt_28
theorem n70_29 : Snd mt G 70 29 (oGetf [1] 18 32) := w_getf (hm := mm70) dX1_doneAt_29 (fok1 (k := 18) (T := TX1) 0 (Nat.le_of_ble_eq_true rfl) vc_0 (Nat.le_of_ble_eq_true rfl) q641)
theorem n70_32 : Snd mt G 70 32 (oGoto 36) := w_goto (hm := mm70) dX1_doneAt_32 rfl
theorem n70_35 : Snd mt G 70 35 (oConst (.int 0) 36) := w_iconst (hm := mm70) dX1_doneAt_35 rfl
theorem n70_36 : Snd mt G 70 36 (oBin (fun x y => x + y) 37) := w_iadd (hm := mm70) dX1_doneAt_36
theorem n70_37 : Snd mt G 70 37 (oMath2 (fun x y => if x < y then y else x) 40) := w_mmax (hm := mm70) dX1_doneAt_37 (Nat.le_of_ble_eq_true rfl) q826 q313 q143 q314
theorem n70_40 : Snd mt G 70 40 (oAload 3 41) := w_aload_n (hm := mm70) dX1_doneAt_40
theorem n70_41 : Snd mt G 70 41 (oGetf [22] 1 44) := w_getfN (hm := mm70) dX1_doneAt_41 (fokn1 (k := 1) (T := TX23) 21 (Nat.le_of_ble_eq_true rfl) vc_21 (Nat.le_of_ble_eq_true rfl) q1993)
theorem n70_44 : Snd mt G 70 44 (oBin (fun x y => x + y) 45) := w_iadd (hm := mm70) dX1_doneAt_44
theorem n70_45 : Snd mt G 70 45 (oRetI .int) := w_iret (hm := mm70) dX1_doneAt_45 rfl
theorem sj70 : ∀ pc, Snd mt G 70 pc (j70 pc) := fun pc => (snd_br ((snd_br ((snd_br ((snd_br ((snd_br ((snd_lf n70_45)) ((snd_lf n70_44)))) ((snd_lf n70_41)))) ((snd_br ((snd_br ((snd_lf n70_40)) ((snd_lf n70_37)))) ((snd_lf n70_36)))))) ((snd_br ((snd_br ((snd_br ((snd_lf n70_35)) ((snd_lf n70_32)))) ((snd_lf n70_29)))) ((snd_br ((snd_br ((snd_lf n70_28)) ((snd_lf n70_25)))) ((snd_lf n70_22)))))))) ((snd_br ((snd_br ((snd_br ((snd_br ((snd_lf n70_21)) ((snd_lf n70_20)))) ((snd_lf n70_17)))) ((snd_br ((snd_br ((snd_lf n70_16)) ((snd_lf n70_15)))) ((snd_lf n70_14)))))) ((snd_br ((snd_br ((snd_br ((snd_lf n70_11)) ((snd_lf n70_8)))) ((snd_lf n70_7)))) ((snd_br ((snd_br ((snd_lf n70_4)) ((snd_lf n70_1)))) ((snd_lf n70_0)))))))))
end
section
variable {G : AG}
theorem n71_0 : Snd mt G 71 0 (oAload 0 1) := w_aload_n (hm := mm71) dX1_lending_0
theorem n71_1 : Snd mt G 71 1 (oCall 1 (fV [1] 72 1) 0 4 xOut) := s_callV (m' := 72) (n := 0) xsh_out (w_xok0 mm71) (w_cal mm71 mm72 pn_X1 (Nat.le_of_ble_eq_true rfl) (Nat.le_of_ble_eq_true rfl)) (fun h b as hc hn => w_run_V (ci := 0) mm71 mm72 dX1_lending_1 (Or.inl (List.mem_singleton.mp hc)) (Nat.le_of_ble_eq_true rfl) vc_0 rfl q880 q882 qs15 q129 q883 pa72 hn)
theorem n71_4 : Snd mt G 71 4 (oAload 0 5) := w_aload_n (hm := mm71) dX1_lending_4
theorem n71_5 : Snd mt G 71 5 (oGetf [1] 22 8) := w_getf (hm := mm71) dX1_lending_5 (fok1 (k := 22) (T := TX1) 0 (Nat.le_of_ble_eq_true rfl) vc_0 (Nat.le_of_ble_eq_true rfl) q645)
theorem n71_8 : Snd mt G 71 8 (oRetI .int) := w_iret (hm := mm71) dX1_lending_8 rfl
theorem sj71 : ∀ pc, Snd mt G 71 pc (j71 pc) := fun pc => (snd_br ((snd_br ((snd_br ((snd_lf n71_8)) ((snd_lf n71_5)))) ((snd_lf n71_4)))) ((snd_br ((snd_lf n71_1)) ((snd_lf n71_0)))))
end
section
variable {G : AG}
theorem n72_0 : Snd mt G 72 0 (oAload 0 1) := w_aload_n (hm := mm72) dX1_findLent_0
theorem n72_1 : Snd mt G 72 1 (oConst (.int (-1)) 2) := w_iconst (hm := mm72) dX1_findLent_1 rfl
theorem n72_2 : Snd mt G 72 2 (oPutf [1] 22 .int 5) := w_putf (hm := mm72) dX1_findLent_2 (pok1 (k := 22) (T := TX1) 0 (Nat.le_of_ble_eq_true rfl) vc_0 (Nat.le_of_ble_eq_true rfl) rfl pd_X1_22 q645)
theorem n72_5 : Snd mt G 72 5 (oAload 0 6) := w_aload_n (hm := mm72) dX1_findLent_5
theorem n72_6 : Snd mt G 72 6 (oConst (.int 0) 7) := w_iconst (hm := mm72) dX1_findLent_6 rfl
theorem n72_7 : Snd mt G 72 7 (oConst (.int 0) 8) := w_iconst (hm := mm72) dX1_findLent_7 rfl
theorem n72_8 : Snd mt G 72 8 (oConst (.int 0) 9) := w_iconst (hm := mm72) dX1_findLent_8 rfl
theorem n72_9 : Snd mt G 72 9 (oCall 4 (fV [1] 73 7) 0 12 xOut) := s_callV (m' := 73) (n := 3) xsh_out (w_xok0 mm72) (w_cal mm72 mm73 pn_X1 (Nat.le_of_ble_eq_true rfl) (Nat.le_of_ble_eq_true rfl)) (fun h b as hc hn => w_run_V (ci := 0) mm72 mm73 dX1_findLent_9 (Or.inl (List.mem_singleton.mp hc)) (Nat.le_of_ble_eq_true rfl) vc_0 rfl q884 q886 qs16 q129 q887 pa73 hn)
theorem n72_12 : Snd mt G 72 12 (oRetV) := w_vret (hm := mm72) dX1_findLent_12 rfl
theorem sj72 : ∀ pc, Snd mt G 72 pc (j72 pc) := fun pc => (snd_br ((snd_br ((snd_br ((snd_br ((snd_lf n72_12)) ((snd_lf n72_9)))) ((snd_lf n72_8)))) ((snd_br ((snd_lf n72_7)) ((snd_lf n72_6)))))) ((snd_br ((snd_br ((snd_lf n72_5)) ((snd_lf n72_2)))) ((snd_br ((snd_lf n72_1)) ((snd_lf n72_0)))))))
end
section
variable {G : AG}
theorem n73_0 : Snd mt G 73 0 (oIload 1 1) := w_iload_n (hm := mm73) dX1_lends_0
theorem n73_1 : Snd mt G 73 1 (oAload 0 2) := w_aload_n (hm := mm73) dX1_lends_1
theorem n73_2 : Snd mt G 73 2 (oGetf [1] 0 5) := w_getf (hm := mm73) dX1_lends_2 (fok1 (k := 0) (T := TX1) 0 (Nat.le_of_ble_eq_true rfl) vc_0 (Nat.le_of_ble_eq_true rfl) q623)
theorem n73_5 : Snd mt G 73 5 (oGetf [2] 13 8) := w_getfN (hm := mm73) dX1_lends_5 (fokn1 (k := 13) (T := TX2) 1 (Nat.le_of_ble_eq_true rfl) vc_1 (Nat.le_of_ble_eq_true rfl) q569)
theorem n73_8 : Snd mt G 73 8 (oCmpEq 11 41) := w_icmp_ne (hm := mm73) dX1_lends_8 rfl
theorem n73_11 : Snd mt G 73 11 (oIload 3 12) := w_iload_n (hm := mm73) dX1_lends_11
theorem n73_12 : Snd mt G 73 12 (oAload 0 13) := w_aload_n (hm := mm73) dX1_lends_12
theorem n73_13 : Snd mt G 73 13 (oGetf [1] 22 16) := w_getf (hm := mm73) dX1_lends_13 (fok1 (k := 22) (T := TX1) 0 (Nat.le_of_ble_eq_true rfl) vc_0 (Nat.le_of_ble_eq_true rfl) q645)
theorem n73_16 : Snd mt G 73 16 (oCmpGt 20 19) := w_icmp_gt (hm := mm73) dX1_lends_16 rfl
theorem n73_19 : Snd mt G 73 19 (oRetV) := w_vret (hm := mm73) dX1_lends_19 rfl
theorem n73_20 : Snd mt G 73 20 (oAload 0 21) := w_aload_n (hm := mm73) dX1_lends_20
theorem n73_21 : Snd mt G 73 21 (oIload 3 22) := w_iload_n (hm := mm73) dX1_lends_21
theorem n73_22 : Snd mt G 73 22 (oPutf [1] 22 .int 25) := w_putf (hm := mm73) dX1_lends_22 (pok1 (k := 22) (T := TX1) 0 (Nat.le_of_ble_eq_true rfl) vc_0 (Nat.le_of_ble_eq_true rfl) rfl pd_X1_22 q645)
theorem n73_25 : Snd mt G 73 25 (oAload 0 26) := w_aload_n (hm := mm73) dX1_lends_25
theorem n73_26 : Snd mt G 73 26 (oGetf [1] 20 29) := w_getf (hm := mm73) dX1_lends_26 (fok1 (k := 20) (T := TX1) 0 (Nat.le_of_ble_eq_true rfl) vc_0 (Nat.le_of_ble_eq_true rfl) q643)
theorem n73_29 : Snd mt G 73 29 (oConst (.int 0) 30) := w_iconst (hm := mm73) dX1_lends_29 rfl
theorem n73_30 : Snd mt G 73 30 (oAload 0 31) := w_aload_n (hm := mm73) dX1_lends_30
theorem n73_31 : Snd mt G 73 31 (oGetf [1] 21 34) := w_getf (hm := mm73) dX1_lends_31 (fok1 (k := 21) (T := TX1) 0 (Nat.le_of_ble_eq_true rfl) vc_0 (Nat.le_of_ble_eq_true rfl) q644)
theorem n73_34 : Snd mt G 73 34 (oConst (.int 0) 35) := w_iconst (hm := mm73) dX1_lends_34 rfl
theorem n73_35 : Snd mt G 73 35 (oConst (.int 6) 37) := w_bipush (hm := mm73) dX1_lends_35 (by decide)
theorem n73_37 : Snd mt G 73 37 (oCopy [100] [100] (ckTy .int) 40) := w_copy (hm := mm73) (kt := 0) dX1_lends_37 (Nat.le_of_ble_eq_true rfl) at_0 (List.forall_mem_cons.mpr ⟨Or.inl rfl, (fun t ht => nomatch ht)⟩) (List.forall_mem_cons.mpr ⟨rfl, (fun t ht => nomatch ht)⟩) (fun s h H v _ _ e => ck_int s h H .int v e) (Nat.le_of_ble_eq_true rfl) q870 q335 q334 q145
theorem n73_40 : Snd mt G 73 40 (oRetV) := w_vret (hm := mm73) dX1_lends_40 rfl
theorem n73_41 : Snd mt G 73 41 (oAload 0 42) := w_aload_n (hm := mm73) dX1_lends_41
theorem n73_42 : Snd mt G 73 42 (oGetf [1] 0 45) := w_getf (hm := mm73) dX1_lends_42 (fok1 (k := 0) (T := TX1) 0 (Nat.le_of_ble_eq_true rfl) vc_0 (Nat.le_of_ble_eq_true rfl) q623)
theorem n73_45 : Snd mt G 73 45 (oGetf [2] 0 48) := w_getfN (hm := mm73) dX1_lends_45 (fokn1 (k := 0) (T := TX2) 1 (Nat.le_of_ble_eq_true rfl) vc_1 (Nat.le_of_ble_eq_true rfl) q543)
theorem n73_48 : Snd mt G 73 48 (oAload 0 49) := w_aload_n (hm := mm73) dX1_lends_48
theorem n73_49 : Snd mt G 73 49 (oGetf [1] 0 52) := w_getf (hm := mm73) dX1_lends_49 (fok1 (k := 0) (T := TX1) 0 (Nat.le_of_ble_eq_true rfl) vc_0 (Nat.le_of_ble_eq_true rfl) q623)
theorem n73_52 : Snd mt G 73 52 (oGetf [2] 10 55) := w_getfN (hm := mm73) dX1_lends_52 (fokn1 (k := 10) (T := TX2) 1 (Nat.le_of_ble_eq_true rfl) vc_1 (Nat.le_of_ble_eq_true rfl) q563)
theorem n73_55 : Snd mt G 73 55 (oIload 1 56) := w_iload_n (hm := mm73) dX1_lends_55
theorem n73_56 : Snd mt G 73 56 (oAld [100] 57) := w_iaload (hm := mm73) (kt := 0) dX1_lends_56 at_0 (Nat.le_of_ble_eq_true rfl) (List.forall_mem_cons.mpr ⟨Or.inl rfl, (fun t ht => nomatch ht)⟩)
theorem n73_57 : Snd mt G 73 57 (oCall 2 (fV [3] 176 2) 0 60 xOut) := s_callV (m' := 176) (n := 1) xsh_out (w_xok0 mm73) (w_cal mm73 mm176 pn_J2 (Nat.le_of_ble_eq_true rfl) (Nat.le_of_ble_eq_true rfl)) (fun h b as hc hn => w_run_V (ci := 2) mm73 mm176 dX1_lends_57 (Or.inl (List.mem_singleton.mp hc)) (Nat.le_of_ble_eq_true rfl) vc_2 rfl q713 q714 q715 q133 q716 pa176 hn)
theorem n73_60 : Snd mt G 73 60 (oCast [18] 63) := w_cast (hm := mm73) dX1_lends_60 q888 (List.forall_mem_cons.mpr ⟨⟨17, _, Or.inl rfl, (Nat.le_of_ble_eq_true rfl), vc_17, Or.inl rfl⟩, (fun t ht => nomatch ht)⟩)
theorem n73_63 : Snd mt G 73 63 (oAstore 4 65) := w_astore (hm := mm73) dX1_lends_63 (Nat.le_of_ble_eq_true rfl)
theorem n73_65 : Snd mt G 73 65 (oAload 0 66) := w_aload_n (hm := mm73) dX1_lends_65
theorem n73_66 : Snd mt G 73 66 (oGetf [1] 20 69) := w_getf (hm := mm73) dX1_lends_66 (fok1 (k := 20) (T := TX1) 0 (Nat.le_of_ble_eq_true rfl) vc_0 (Nat.le_of_ble_eq_true rfl) q643)
theorem n73_69 : Snd mt G 73 69 (oIload 1 70) := w_iload_n (hm := mm73) dX1_lends_69
theorem n73_70 : Snd mt G 73 70 (oConst (.int (-1)) 71) := w_iconst (hm := mm73) dX1_lends_70 rfl
theorem n73_71 : Snd mt G 73 71 (oIast [100] 72) := w_iastore (hm := mm73) (kt := 0) dX1_lends_71 at_0 (Nat.le_of_ble_eq_true rfl) (List.forall_mem_cons.mpr ⟨rfl, (fun t ht => nomatch ht)⟩)
theorem n73_72 : Snd mt G 73 72 (oAload 0 73) := w_aload_n (hm := mm73) dX1_lends_72
theorem n73_73 : Snd mt G 73 73 (oIload 1 74) := w_iload_n (hm := mm73) dX1_lends_73
theorem n73_74 : Snd mt G 73 74 (oConst (.int 1) 75) := w_iconst (hm := mm73) dX1_lends_74 rfl
theorem n73_75 : Snd mt G 73 75 (oBin (fun x y => x + y) 76) := w_iadd (hm := mm73) dX1_lends_75
theorem n73_76 : Snd mt G 73 76 (oIload 2 77) := w_iload_n (hm := mm73) dX1_lends_76
theorem n73_77 : Snd mt G 73 77 (oIload 3 78) := w_iload_n (hm := mm73) dX1_lends_77
theorem n73_78 : Snd mt G 73 78 (oCall 4 (fV [1] 73 7) 1 81 xOut) := s_callV (m' := 73) (n := 3) xsh_out (w_xok0 mm73) (w_cal mm73 mm73 pn_X1 (Nat.le_of_ble_eq_true rfl) (Nat.le_of_ble_eq_true rfl)) (fun h b as hc hn => w_run_V (ci := 0) mm73 mm73 dX1_lends_78 (Or.inl (List.mem_singleton.mp hc)) (Nat.le_of_ble_eq_true rfl) vc_0 rfl q884 q886 qs16 q129 q887 pa73 hn)
theorem n73_81 : Snd mt G 73 81 (oConst (.int 0) 82) := w_iconst (hm := mm73) dX1_lends_81 rfl
theorem n73_82 : Snd mt G 73 82 (oIstore 5 84) := w_istore (hm := mm73) dX1_lends_82 (Nat.le_of_ble_eq_true rfl)
theorem n73_84 : Snd mt G 73 84 (oIload 5 86) := w_iload (hm := mm73) dX1_lends_84
theorem n73_86 : Snd mt G 73 86 (oAload 0 87) := w_aload_n (hm := mm73) dX1_lends_86
theorem n73_87 : Snd mt G 73 87 (oGetf [1] 0 90) := w_getf (hm := mm73) dX1_lends_87 (fok1 (k := 0) (T := TX1) 0 (Nat.le_of_ble_eq_true rfl) vc_0 (Nat.le_of_ble_eq_true rfl) q623)
theorem n73_90 : Snd mt G 73 90 (oGetf [2] 1 93) := w_getfN (hm := mm73) dX1_lends_90 (fokn1 (k := 1) (T := TX2) 1 (Nat.le_of_ble_eq_true rfl) vc_1 (Nat.le_of_ble_eq_true rfl) q545)
theorem n73_93 : Snd mt G 73 93 (oCall 1 (fV [3] 175 1) 0 96 xOut) := s_callV (m' := 175) (n := 0) xsh_out (w_xok0 mm73) (w_cal mm73 mm175 pn_J2 (Nat.le_of_ble_eq_true rfl) (Nat.le_of_ble_eq_true rfl)) (fun h b as hc hn => w_run_V (ci := 2) mm73 mm175 dX1_lends_93 (Or.inl (List.mem_singleton.mp hc)) (Nat.le_of_ble_eq_true rfl) vc_2 rfl q709 q710 q711 q133 q712 pa175 hn)
theorem n73_96 : Snd mt G 73 96 (oCmpGe 182 99) := w_icmp_ge (hm := mm73) dX1_lends_96 rfl
theorem n73_99 : Snd mt G 73 99 (oAload 0 100) := w_aload_n (hm := mm73) dX1_lends_99
theorem n73_100 : Snd mt G 73 100 (oGetf [1] 0 103) := w_getf (hm := mm73) dX1_lends_100 (fok1 (k := 0) (T := TX1) 0 (Nat.le_of_ble_eq_true rfl) vc_0 (Nat.le_of_ble_eq_true rfl) q623)
theorem n73_103 : Snd mt G 73 103 (oGetf [2] 1 106) := w_getfN (hm := mm73) dX1_lends_103 (fokn1 (k := 1) (T := TX2) 1 (Nat.le_of_ble_eq_true rfl) vc_1 (Nat.le_of_ble_eq_true rfl) q545)
theorem n73_106 : Snd mt G 73 106 (oIload 5 108) := w_iload (hm := mm73) dX1_lends_106
theorem n73_108 : Snd mt G 73 108 (oCall 2 (fV [3] 176 2) 0 111 xOut) := s_callV (m' := 176) (n := 1) xsh_out (w_xok0 mm73) (w_cal mm73 mm176 pn_J2 (Nat.le_of_ble_eq_true rfl) (Nat.le_of_ble_eq_true rfl)) (fun h b as hc hn => w_run_V (ci := 2) mm73 mm176 dX1_lends_108 (Or.inl (List.mem_singleton.mp hc)) (Nat.le_of_ble_eq_true rfl) vc_2 rfl q713 q714 q715 q133 q716 pa176 hn)
theorem n73_111 : Snd mt G 73 111 (oCast [19] 114) := w_cast (hm := mm73) dX1_lends_111 q727 (List.forall_mem_cons.mpr ⟨⟨18, _, Or.inl rfl, (Nat.le_of_ble_eq_true rfl), vc_18, Or.inl rfl⟩, (fun t ht => nomatch ht)⟩)
theorem n73_114 : Snd mt G 73 114 (oAstore 6 116) := w_astore (hm := mm73) dX1_lends_114 (Nat.le_of_ble_eq_true rfl)
theorem n73_116 : Snd mt G 73 116 (oIload 2 117) := w_iload_n (hm := mm73) dX1_lends_116
theorem n73_117 : Snd mt G 73 117 (oIload 5 119) := w_iload (hm := mm73) dX1_lends_117
theorem n73_119 : Snd mt G 73 119 (oBin (fun x y => x >>> (y &&& 31)) 120) := w_ishr (hm := mm73) dX1_lends_119
theorem n73_120 : Snd mt G 73 120 (oConst (.int 1) 121) := w_iconst (hm := mm73) dX1_lends_120 rfl
theorem n73_121 : Snd mt G 73 121 (oBin (fun x y => x &&& y) 122) := w_iand (hm := mm73) dX1_lends_121
theorem n73_122 : Snd mt G 73 122 (oConst (.int 1) 123) := w_iconst (hm := mm73) dX1_lends_122 rfl
theorem n73_123 : Snd mt G 73 123 (oCmpEq 176 126) := w_icmp_eq (hm := mm73) dX1_lends_123 rfl
theorem n73_126 : Snd mt G 73 126 (oAload 4 128) := w_aload (hm := mm73) dX1_lends_126
theorem n73_128 : Snd mt G 73 128 (oGetf [18] 2 131) := w_getfN (hm := mm73) dX1_lends_128 (fokn1 (k := 2) (T := TX19) 17 (Nat.le_of_ble_eq_true rfl) vc_17 (Nat.le_of_ble_eq_true rfl) q1634)
theorem n73_131 : Snd mt G 73 131 (oAload 6 133) := w_aload (hm := mm73) dX1_lends_131
theorem n73_133 : Snd mt G 73 133 (oGetf [19] 0 136) := w_getfN (hm := mm73) dX1_lends_133 (fokn1 (k := 0) (T := TX20) 18 (Nat.le_of_ble_eq_true rfl) vc_18 (Nat.le_of_ble_eq_true rfl) q1067)
theorem n73_136 : Snd mt G 73 136 (oCmpGe 142 139) := w_icmp_ge (hm := mm73) dX1_lends_136 rfl
theorem n73_139 : Snd mt G 73 139 (oGoto 176) := w_goto (hm := mm73) dX1_lends_139 rfl
theorem n73_142 : Snd mt G 73 142 (oAload 0 143) := w_aload_n (hm := mm73) dX1_lends_142
theorem n73_143 : Snd mt G 73 143 (oGetf [1] 20 146) := w_getf (hm := mm73) dX1_lends_143 (fok1 (k := 20) (T := TX1) 0 (Nat.le_of_ble_eq_true rfl) vc_0 (Nat.le_of_ble_eq_true rfl) q643)
theorem n73_146 : Snd mt G 73 146 (oIload 1 147) := w_iload_n (hm := mm73) dX1_lends_146
theorem n73_147 : Snd mt G 73 147 (oIload 5 149) := w_iload (hm := mm73) dX1_lends_147
theorem n73_149 : Snd mt G 73 149 (oIast [100] 150) := w_iastore (hm := mm73) (kt := 0) dX1_lends_149 at_0 (Nat.le_of_ble_eq_true rfl) (List.forall_mem_cons.mpr ⟨rfl, (fun t ht => nomatch ht)⟩)
theorem n73_150 : Snd mt G 73 150 (oAload 0 151) := w_aload_n (hm := mm73) dX1_lends_150
theorem n73_151 : Snd mt G 73 151 (oIload 1 152) := w_iload_n (hm := mm73) dX1_lends_151
theorem n73_152 : Snd mt G 73 152 (oConst (.int 1) 153) := w_iconst (hm := mm73) dX1_lends_152 rfl
theorem n73_153 : Snd mt G 73 153 (oBin (fun x y => x + y) 154) := w_iadd (hm := mm73) dX1_lends_153
theorem n73_154 : Snd mt G 73 154 (oIload 2 155) := w_iload_n (hm := mm73) dX1_lends_154
theorem n73_155 : Snd mt G 73 155 (oConst (.int 1) 156) := w_iconst (hm := mm73) dX1_lends_155 rfl
theorem n73_156 : Snd mt G 73 156 (oIload 5 158) := w_iload (hm := mm73) dX1_lends_156
theorem n73_158 : Snd mt G 73 158 (oBin (fun x y => x <<< (y &&& 31)) 159) := w_ishl (hm := mm73) dX1_lends_158
theorem n73_159 : Snd mt G 73 159 (oBin (fun x y => x ||| y) 160) := w_ior (hm := mm73) dX1_lends_159
theorem n73_160 : Snd mt G 73 160 (oIload 3 161) := w_iload_n (hm := mm73) dX1_lends_160
theorem n73_161 : Snd mt G 73 161 (oAload 4 163) := w_aload (hm := mm73) dX1_lends_161
theorem n73_163 : Snd mt G 73 163 (oGetf [18] 3 166) := w_getfN (hm := mm73) dX1_lends_163 (fokn1 (k := 3) (T := TX19) 17 (Nat.le_of_ble_eq_true rfl) vc_17 (Nat.le_of_ble_eq_true rfl) q1636)
theorem n73_166 : Snd mt G 73 166 (oAload 6 168) := w_aload (hm := mm73) dX1_lends_166
theorem n73_168 : Snd mt G 73 168 (oGetf [19] 1 171) := w_getfN (hm := mm73) dX1_lends_168 (fokn1 (k := 1) (T := TX20) 18 (Nat.le_of_ble_eq_true rfl) vc_18 (Nat.le_of_ble_eq_true rfl) q1069)
theorem n73_171 : Snd mt G 73 171 (oAld [100] 172) := w_iaload (hm := mm73) (kt := 0) dX1_lends_171 at_0 (Nat.le_of_ble_eq_true rfl) (List.forall_mem_cons.mpr ⟨Or.inl rfl, (fun t ht => nomatch ht)⟩)
theorem n73_172 : Snd mt G 73 172 (oBin (fun x y => x + y) 173) := w_iadd (hm := mm73) dX1_lends_172
theorem n73_173 : Snd mt G 73 173 (oCall 4 (fV [1] 73 7) 1 176 xOut) := s_callV (m' := 73) (n := 3) xsh_out (w_xok0 mm73) (w_cal mm73 mm73 pn_X1 (Nat.le_of_ble_eq_true rfl) (Nat.le_of_ble_eq_true rfl)) (fun h b as hc hn => w_run_V (ci := 0) mm73 mm73 dX1_lends_173 (Or.inl (List.mem_singleton.mp hc)) (Nat.le_of_ble_eq_true rfl) vc_0 rfl q884 q886 qs16 q129 q887 pa73 hn)
theorem n73_176 : Snd mt G 73 176 (oIinc 5 1 179) := w_iinc (hm := mm73) dX1_lends_176 rfl (Nat.le_of_ble_eq_true rfl)
theorem n73_179 : Snd mt G 73 179 (oGoto 84) := w_goto (hm := mm73) dX1_lends_179 rfl
theorem n73_182 : Snd mt G 73 182 (oAload 0 183) := w_aload_n (hm := mm73) dX1_lends_182
theorem n73_183 : Snd mt G 73 183 (oGetf [1] 20 186) := w_getf (hm := mm73) dX1_lends_183 (fok1 (k := 20) (T := TX1) 0 (Nat.le_of_ble_eq_true rfl) vc_0 (Nat.le_of_ble_eq_true rfl) q643)
theorem n73_186 : Snd mt G 73 186 (oIload 1 187) := w_iload_n (hm := mm73) dX1_lends_186
theorem n73_187 : Snd mt G 73 187 (oConst (.int (-1)) 188) := w_iconst (hm := mm73) dX1_lends_187 rfl
theorem n73_188 : Snd mt G 73 188 (oIast [100] 189) := w_iastore (hm := mm73) (kt := 0) dX1_lends_188 at_0 (Nat.le_of_ble_eq_true rfl) (List.forall_mem_cons.mpr ⟨rfl, (fun t ht => nomatch ht)⟩)
theorem n73_189 : Snd mt G 73 189 (oRetV) := w_vret (hm := mm73) dX1_lends_189 rfl
theorem sj73 : ∀ pc, Snd mt G 73 pc (j73 pc) := fun pc => (snd_br ((snd_br ((snd_br ((snd_br ((snd_br ((snd_br ((snd_br ((snd_lf n73_189)) ((snd_lf n73_188)))) ((snd_br ((snd_lf n73_187)) ((snd_lf n73_186)))))) ((snd_br ((snd_br ((snd_lf n73_183)) ((snd_lf n73_182)))) ((snd_lf n73_179)))))) ((snd_br ((snd_br ((snd_br ((snd_lf n73_176)) ((snd_lf n73_173)))) ((snd_lf n73_172)))) ((snd_br ((snd_br ((snd_lf n73_171)) ((snd_lf n73_168)))) ((snd_lf n73_166)))))))) ((snd_br ((snd_br ((snd_br ((snd_br ((snd_lf n73_163)) ((snd_lf n73_161)))) ((snd_br ((snd_lf n73_160)) ((snd_lf n73_159)))))) ((snd_br ((snd_br ((snd_lf n73_158)) ((snd_lf n73_156)))) ((snd_lf n73_155)))))) ((snd_br ((snd_br ((snd_br ((snd_lf n73_154)) ((snd_lf n73_153)))) ((snd_lf n73_152)))) ((snd_br ((snd_br ((snd_lf n73_151)) ((snd_lf n73_150)))) ((snd_lf n73_149)))))))))) ((snd_br ((snd_br ((snd_br ((snd_br ((snd_br ((snd_lf n73_147)) ((snd_lf n73_146)))) ((snd_br ((snd_lf n73_143)) ((snd_lf n73_142)))))) ((snd_br ((snd_br ((snd_lf n73_139)) ((snd_lf n73_136)))) ((snd_lf n73_133)))))) ((snd_br ((snd_br ((snd_br ((snd_lf n73_131)) ((snd_lf n73_128)))) ((snd_lf n73_126)))) ((snd_br ((snd_br ((snd_lf n73_123)) ((snd_lf n73_122)))) ((snd_lf n73_121)))))))) ((snd_br ((snd_br ((snd_br ((snd_br ((snd_lf n73_120)) ((snd_lf n73_119)))) ((snd_br ((snd_lf n73_117)) ((snd_lf n73_116)))))) ((snd_br ((snd_br ((snd_lf n73_114)) ((snd_lf n73_111)))) ((snd_lf n73_108)))))) ((snd_br ((snd_br ((snd_br ((snd_lf n73_106)) ((snd_lf n73_103)))) ((snd_lf n73_100)))) ((snd_br ((snd_br ((snd_lf n73_99)) ((snd_lf n73_96)))) ((snd_lf n73_93)))))))))))) ((snd_br ((snd_br ((snd_br ((snd_br ((snd_br ((snd_br ((snd_lf n73_90)) ((snd_lf n73_87)))) ((snd_br ((snd_lf n73_86)) ((snd_lf n73_84)))))) ((snd_br ((snd_br ((snd_lf n73_82)) ((snd_lf n73_81)))) ((snd_lf n73_78)))))) ((snd_br ((snd_br ((snd_br ((snd_lf n73_77)) ((snd_lf n73_76)))) ((snd_lf n73_75)))) ((snd_br ((snd_br ((snd_lf n73_74)) ((snd_lf n73_73)))) ((snd_lf n73_72)))))))) ((snd_br ((snd_br ((snd_br ((snd_br ((snd_lf n73_71)) ((snd_lf n73_70)))) ((snd_br ((snd_lf n73_69)) ((snd_lf n73_66)))))) ((snd_br ((snd_br ((snd_lf n73_65)) ((snd_lf n73_63)))) ((snd_lf n73_60)))))) ((snd_br ((snd_br ((snd_br ((snd_lf n73_57)) ((snd_lf n73_56)))) ((snd_lf n73_55)))) ((snd_br ((snd_br ((snd_lf n73_52)) ((snd_lf n73_49)))) ((snd_lf n73_48)))))))))) ((snd_br ((snd_br ((snd_br ((snd_br ((snd_br ((snd_lf n73_45)) ((snd_lf n73_42)))) ((snd_br ((snd_lf n73_41)) ((snd_lf n73_40)))))) ((snd_br ((snd_br ((snd_lf n73_37)) ((snd_lf n73_35)))) ((snd_lf n73_34)))))) ((snd_br ((snd_br ((snd_br ((snd_lf n73_31)) ((snd_lf n73_30)))) ((snd_lf n73_29)))) ((snd_br ((snd_br ((snd_lf n73_26)) ((snd_lf n73_25)))) ((snd_lf n73_22)))))))) ((snd_br ((snd_br ((snd_br ((snd_br ((snd_lf n73_21)) ((snd_lf n73_20)))) ((snd_lf n73_19)))) ((snd_br ((snd_br ((snd_lf n73_16)) ((snd_lf n73_13)))) ((snd_lf n73_12)))))) ((snd_br ((snd_br ((snd_br ((snd_lf n73_11)) ((snd_lf n73_8)))) ((snd_lf n73_5)))) ((snd_br ((snd_br ((snd_lf n73_2)) ((snd_lf n73_1)))) ((snd_lf n73_0)))))))))))))
end
section
variable {G : AG}
theorem n74_0 : Snd mt G 74 0 (oConst (.int 0) 1) := w_iconst (hm := mm74) dX1_recalled_0 rfl
theorem n74_1 : Snd mt G 74 1 (oIstore 1 2) := w_istore_n (hm := mm74) dX1_recalled_1 (Nat.le_of_ble_eq_true rfl)
theorem n74_2 : Snd mt G 74 2 (oConst (.int 0) 3) := w_iconst (hm := mm74) dX1_recalled_2 rfl
theorem n74_3 : Snd mt G 74 3 (oIstore 2 4) := w_istore_n (hm := mm74) dX1_recalled_3 (Nat.le_of_ble_eq_true rfl)
theorem n74_4 : Snd mt G 74 4 (oIload 2 5) := w_iload_n (hm := mm74) dX1_recalled_4
theorem n74_5 : Snd mt G 74 5 (oAload 0 6) := w_aload_n (hm := mm74) dX1_recalled_5
theorem n74_6 : Snd mt G 74 6 (oGetf [1] 0 9) := w_getf (hm := mm74) dX1_recalled_6 (fok1 (k := 0) (T := TX1) 0 (Nat.le_of_ble_eq_true rfl) vc_0 (Nat.le_of_ble_eq_true rfl) q623)
theorem n74_9 : Snd mt G 74 9 (oGetf [2] 1 12) := w_getfN (hm := mm74) dX1_recalled_9 (fokn1 (k := 1) (T := TX2) 1 (Nat.le_of_ble_eq_true rfl) vc_1 (Nat.le_of_ble_eq_true rfl) q545)
theorem n74_12 : Snd mt G 74 12 (oCall 1 (fV [3] 175 1) 0 15 xOut) := s_callV (m' := 175) (n := 0) xsh_out (w_xok0 mm74) (w_cal mm74 mm175 pn_J2 (Nat.le_of_ble_eq_true rfl) (Nat.le_of_ble_eq_true rfl)) (fun h b as hc hn => w_run_V (ci := 2) mm74 mm175 dX1_recalled_12 (Or.inl (List.mem_singleton.mp hc)) (Nat.le_of_ble_eq_true rfl) vc_2 rfl q709 q710 q711 q133 q712 pa175 hn)
theorem n74_15 : Snd mt G 74 15 (oCmpGe 56 18) := w_icmp_ge (hm := mm74) dX1_recalled_15 rfl
theorem n74_18 : Snd mt G 74 18 (oIload 1 19) := w_iload_n (hm := mm74) dX1_recalled_18
theorem n74_19 : Snd mt G 74 19 (oAload 0 20) := w_aload_n (hm := mm74) dX1_recalled_19
theorem n74_20 : Snd mt G 74 20 (oAload 0 21) := w_aload_n (hm := mm74) dX1_recalled_20
theorem n74_21 : Snd mt G 74 21 (oGetf [1] 0 24) := w_getf (hm := mm74) dX1_recalled_21 (fok1 (k := 0) (T := TX1) 0 (Nat.le_of_ble_eq_true rfl) vc_0 (Nat.le_of_ble_eq_true rfl) q623)
theorem n74_24 : Snd mt G 74 24 (oGetf [2] 1 27) := w_getfN (hm := mm74) dX1_recalled_24 (fokn1 (k := 1) (T := TX2) 1 (Nat.le_of_ble_eq_true rfl) vc_1 (Nat.le_of_ble_eq_true rfl) q545)
theorem n74_27 : Snd mt G 74 27 (oIload 2 28) := w_iload_n (hm := mm74) dX1_recalled_27
theorem n74_28 : Snd mt G 74 28 (oCall 2 (fV [3] 176 2) 0 31 xOut) := s_callV (m' := 176) (n := 1) xsh_out (w_xok0 mm74) (w_cal mm74 mm176 pn_J2 (Nat.le_of_ble_eq_true rfl) (Nat.le_of_ble_eq_true rfl)) (fun h b as hc hn => w_run_V (ci := 2) mm74 mm176 dX1_recalled_28 (Or.inl (List.mem_singleton.mp hc)) (Nat.le_of_ble_eq_true rfl) vc_2 rfl q713 q714 q715 q133 q716 pa176 hn)
theorem n74_31 : Snd mt G 74 31 (oCast [19] 34) := w_cast (hm := mm74) dX1_recalled_31 q727 (List.forall_mem_cons.mpr ⟨⟨18, _, Or.inl rfl, (Nat.le_of_ble_eq_true rfl), vc_18, Or.inl rfl⟩, (fun t ht => nomatch ht)⟩)
theorem n74_34 : Snd mt G 74 34 (oCall 2 (fV [1] 75 6) 0 37 xOut) := s_callV (m' := 75) (n := 1) xsh_out (w_xok0 mm74) (w_cal mm74 mm75 pn_X1 (Nat.le_of_ble_eq_true rfl) (Nat.le_of_ble_eq_true rfl)) (fun h b as hc hn => w_run_V (ci := 0) mm74 mm75 dX1_recalled_34 (Or.inl (List.mem_singleton.mp hc)) (Nat.le_of_ble_eq_true rfl) vc_0 rfl q893 q895 qs17 q129 q896 pa75 hn)
theorem n74_37 : Snd mt G 74 37 (oConst (.int (-1)) 38) := w_iconst (hm := mm74) dX1_recalled_37 rfl
theorem n74_38 : Snd mt G 74 38 (oCmpEq 47 41) := w_icmp_eq (hm := mm74) dX1_recalled_38 rfl
theorem n74_41 : Snd mt G 74 41 (oConst (.int 1) 42) := w_iconst (hm := mm74) dX1_recalled_41 rfl
theorem n74_42 : Snd mt G 74 42 (oIload 2 43) := w_iload_n (hm := mm74) dX1_recalled_42
theorem n74_43 : Snd mt G 74 43 (oBin (fun x y => x <<< (y &&& 31)) 44) := w_ishl (hm := mm74) dX1_recalled_43
theorem n74_44 : Snd mt G 74 44 (oGoto 48) := w_goto (hm := mm74) dX1_recalled_44 rfl
theorem n74_47 : Snd mt G 74 47 (oConst (.int 0) 48) := w_iconst (hm := mm74) dX1_recalled_47 rfl
theorem n74_48 : Snd mt G 74 48 (oBin (fun x y => x ||| y) 49) := w_ior (hm := mm74) dX1_recalled_48
theorem n74_49 : Snd mt G 74 49 (oIstore 1 50) := w_istore_n (hm := mm74) dX1_recalled_49 (Nat.le_of_ble_eq_true rfl)
theorem n74_50 : Snd mt G 74 50 (oIinc 2 1 53) := w_iinc (hm := mm74) dX1_recalled_50 rfl (Nat.le_of_ble_eq_true rfl)
theorem n74_53 : Snd mt G 74 53 (oGoto 4) := w_goto (hm := mm74) dX1_recalled_53 rfl
theorem n74_56 : Snd mt G 74 56 (oIload 1 57) := w_iload_n (hm := mm74) dX1_recalled_56
theorem n74_57 : Snd mt G 74 57 (oRetI .int) := w_iret (hm := mm74) dX1_recalled_57 rfl
theorem sj74 : ∀ pc, Snd mt G 74 pc (j74 pc) := fun pc => (snd_br ((snd_br ((snd_br ((snd_br ((snd_br ((snd_lf n74_57)) ((snd_lf n74_56)))) ((snd_br ((snd_lf n74_53)) ((snd_lf n74_50)))))) ((snd_br ((snd_br ((snd_lf n74_49)) ((snd_lf n74_48)))) ((snd_br ((snd_lf n74_47)) ((snd_lf n74_44)))))))) ((snd_br ((snd_br ((snd_br ((snd_lf n74_43)) ((snd_lf n74_42)))) ((snd_br ((snd_lf n74_41)) ((snd_lf n74_38)))))) ((snd_br ((snd_br ((snd_lf n74_37)) ((snd_lf n74_34)))) ((snd_br ((snd_lf n74_31)) ((snd_lf n74_28)))))))))) ((snd_br ((snd_br ((snd_br ((snd_br ((snd_lf n74_27)) ((snd_lf n74_24)))) ((snd_br ((snd_lf n74_21)) ((snd_lf n74_20)))))) ((snd_br ((snd_br ((snd_lf n74_19)) ((snd_lf n74_18)))) ((snd_br ((snd_lf n74_15)) ((snd_lf n74_12)))))))) ((snd_br ((snd_br ((snd_br ((snd_lf n74_9)) ((snd_lf n74_6)))) ((snd_br ((snd_lf n74_5)) ((snd_lf n74_4)))))) ((snd_br ((snd_br ((snd_lf n74_3)) ((snd_lf n74_2)))) ((snd_br ((snd_lf n74_1)) ((snd_lf n74_0)))))))))))
end
section
variable {G : AG}
theorem n75_0 : Snd mt G 75 0 (oAload 0 1) := w_aload_n (hm := mm75) dX1_wornRecalled_0
theorem n75_1 : Snd mt G 75 1 (oAload 1 2) := w_aload_n (hm := mm75) dX1_wornRecalled_1
theorem n75_2 : Snd mt G 75 2 (oCall 2 (fV [1] 57 2) 0 5 xOut) := s_callV (m' := 57) (n := 1) xsh_out (w_xok0 mm75) (w_cal mm75 mm57 pn_X1 (Nat.le_of_ble_eq_true rfl) (Nat.le_of_ble_eq_true rfl)) (fun h b as hc hn => w_run_V (ci := 0) mm75 mm57 dX1_wornRecalled_2 (Or.inl (List.mem_singleton.mp hc)) (Nat.le_of_ble_eq_true rfl) vc_0 rfl q732 q734 qs3 q129 q735 pa57 hn)
theorem n75_5 : Snd mt G 75 5 (oConst (.int (-1)) 6) := w_iconst (hm := mm75) dX1_wornRecalled_5 rfl
theorem n75_6 : Snd mt G 75 6 (oIstore 2 7) := w_istore_n (hm := mm75) dX1_wornRecalled_6 (Nat.le_of_ble_eq_true rfl)
theorem n75_7 : Snd mt G 75 7 (oConst (.int 0) 8) := w_iconst (hm := mm75) dX1_wornRecalled_7 rfl
theorem n75_8 : Snd mt G 75 8 (oIstore 3 9) := w_istore_n (hm := mm75) dX1_wornRecalled_8 (Nat.le_of_ble_eq_true rfl)
theorem n75_9 : Snd mt G 75 9 (oIload 3 10) := w_iload_n (hm := mm75) dX1_wornRecalled_9
theorem n75_10 : Snd mt G 75 10 (oConst (.int 4) 11) := w_iconst (hm := mm75) dX1_wornRecalled_10 rfl
theorem n75_11 : Snd mt G 75 11 (oCmpGe 118 14) := w_icmp_ge (hm := mm75) dX1_wornRecalled_11 rfl
theorem n75_14 : Snd mt G 75 14 (oAload 1 15) := w_aload_n (hm := mm75) dX1_wornRecalled_14
theorem n75_15 : Snd mt G 75 15 (oGetf [19] 8 18) := w_getfN (hm := mm75) dX1_wornRecalled_15 (fokn1 (k := 8) (T := TX20) 18 (Nat.le_of_ble_eq_true rfl) vc_18 (Nat.le_of_ble_eq_true rfl) q1083)
theorem n75_18 : Snd mt G 75 18 (oIload 3 19) := w_iload_n (hm := mm75) dX1_wornRecalled_18
theorem n75_19 : Snd mt G 75 19 (oAld [104] 20) := w_aaload (hm := mm75) (kt := 4) dX1_wornRecalled_19 rfl at_4 (Nat.le_of_ble_eq_true rfl) (List.forall_mem_cons.mpr ⟨Or.inl rfl, (fun t ht => nomatch ht)⟩)
theorem n75_20 : Snd mt G 75 20 (oIfNull 23 26) := w_ifnonnull (hm := mm75) dX1_wornRecalled_20 rfl
theorem n75_23 : Snd mt G 75 23 (oGoto 112) := w_goto (hm := mm75) dX1_wornRecalled_23 rfl
theorem n75_26 : Snd mt G 75 26 (oConst (.int 0) 27) := w_iconst (hm := mm75) dX1_wornRecalled_26 rfl
theorem n75_27 : Snd mt G 75 27 (oIstore 4 29) := w_istore (hm := mm75) dX1_wornRecalled_27 (Nat.le_of_ble_eq_true rfl)
theorem n75_29 : Snd mt G 75 29 (oConst (.int 0) 30) := w_iconst (hm := mm75) dX1_wornRecalled_29 rfl
theorem n75_30 : Snd mt G 75 30 (oIstore 5 32) := w_istore (hm := mm75) dX1_wornRecalled_30 (Nat.le_of_ble_eq_true rfl)
theorem n75_32 : Snd mt G 75 32 (oIload 5 34) := w_iload (hm := mm75) dX1_wornRecalled_32
theorem n75_34 : Snd mt G 75 34 (oAload 0 35) := w_aload_n (hm := mm75) dX1_wornRecalled_34
theorem n75_35 : Snd mt G 75 35 (oGetf [1] 2 38) := w_getf (hm := mm75) dX1_wornRecalled_35 (fok1 (k := 2) (T := TX1) 0 (Nat.le_of_ble_eq_true rfl) vc_0 (Nat.le_of_ble_eq_true rfl) q625)
theorem n75_38 : Snd mt G 75 38 (oCall 1 (fV [3] 175 1) 0 41 xOut) := s_callV (m' := 175) (n := 0) xsh_out (w_xok0 mm75) (w_cal mm75 mm175 pn_J2 (Nat.le_of_ble_eq_true rfl) (Nat.le_of_ble_eq_true rfl)) (fun h b as hc hn => w_run_V (ci := 2) mm75 mm175 dX1_wornRecalled_38 (Or.inl (List.mem_singleton.mp hc)) (Nat.le_of_ble_eq_true rfl) vc_2 rfl q709 q710 q711 q133 q712 pa175 hn)
theorem n75_41 : Snd mt G 75 41 (oCmpGe 90 44) := w_icmp_ge (hm := mm75) dX1_wornRecalled_41 rfl
theorem n75_44 : Snd mt G 75 44 (oIload 4 46) := w_iload (hm := mm75) dX1_wornRecalled_44
theorem n75_46 : Snd mt G 75 46 (oIfEq 49 77) := w_if_ne (hm := mm75) dX1_wornRecalled_46 rfl
theorem n75_49 : Snd mt G 75 49 (oAload 0 50) := w_aload_n (hm := mm75) dX1_wornRecalled_49
theorem n75_50 : Snd mt G 75 50 (oGetf [1] 2 53) := w_getf (hm := mm75) dX1_wornRecalled_50 (fok1 (k := 2) (T := TX1) 0 (Nat.le_of_ble_eq_true rfl) vc_0 (Nat.le_of_ble_eq_true rfl) q625)
theorem n75_53 : Snd mt G 75 53 (oIload 5 55) := w_iload (hm := mm75) dX1_wornRecalled_53
theorem n75_55 : Snd mt G 75 55 (oCall 2 (fV [3] 176 2) 0 58 xOut) := s_callV (m' := 176) (n := 1) xsh_out (w_xok0 mm75) (w_cal mm75 mm176 pn_J2 (Nat.le_of_ble_eq_true rfl) (Nat.le_of_ble_eq_true rfl)) (fun h b as hc hn => w_run_V (ci := 2) mm75 mm176 dX1_wornRecalled_55 (Or.inl (List.mem_singleton.mp hc)) (Nat.le_of_ble_eq_true rfl) vc_2 rfl q713 q714 q715 q133 q716 pa176 hn)
theorem n75_58 : Snd mt G 75 58 (oCast [8, 9, 13, 14] 61) := w_cast (hm := mm75) dX1_wornRecalled_58 q754 (List.forall_mem_cons.mpr ⟨⟨7, _, Or.inl rfl, (Nat.le_of_ble_eq_true rfl), vc_7, Or.inr (List.mem_filter.mpr ⟨q3193, rfl⟩)⟩, (List.forall_mem_cons.mpr ⟨⟨8, _, Or.inl rfl, (Nat.le_of_ble_eq_true rfl), vc_8, Or.inr (List.mem_filter.mpr ⟨q3196, rfl⟩)⟩, (List.forall_mem_cons.mpr ⟨⟨12, _, Or.inl rfl, (Nat.le_of_ble_eq_true rfl), vc_12, Or.inr (List.mem_filter.mpr ⟨q3195, rfl⟩)⟩, (List.forall_mem_cons.mpr ⟨⟨13, _, Or.inl rfl, (Nat.le_of_ble_eq_true rfl), vc_13, Or.inr (List.mem_filter.mpr ⟨q3194, rfl⟩)⟩, (fun t ht => nomatch ht)⟩)⟩)⟩)⟩)
theorem n75_61 : Snd mt G 75 61 (oAload 1 62) := w_aload_n (hm := mm75) dX1_wornRecalled_61
theorem n75_62 : Snd mt G 75 62 (oGetf [19] 8 65) := w_getfN (hm := mm75) dX1_wornRecalled_62 (fokn1 (k := 8) (T := TX20) 18 (Nat.le_of_ble_eq_true rfl) vc_18 (Nat.le_of_ble_eq_true rfl) q1083)
theorem n75_65 : Snd mt G 75 65 (oIload 3 66) := w_iload_n (hm := mm75) dX1_wornRecalled_65
theorem n75_66 : Snd mt G 75 66 (oAld [104] 67) := w_aaload (hm := mm75) (kt := 4) dX1_wornRecalled_66 rfl at_4 (Nat.le_of_ble_eq_true rfl) (List.forall_mem_cons.mpr ⟨Or.inl rfl, (fun t ht => nomatch ht)⟩)
theorem n75_67 : Snd mt G 75 67 (oAload 0 68) := w_aload_n (hm := mm75) dX1_wornRecalled_67
theorem n75_68 : Snd mt G 75 68 (oGetf [1] 9 71) := w_getf (hm := mm75) dX1_wornRecalled_68 (fok1 (k := 9) (T := TX1) 0 (Nat.le_of_ble_eq_true rfl) vc_0 (Nat.le_of_ble_eq_true rfl) q632)
theorem n75_71 : Snd mt G 75 71 (oCall 3 (fP [(8, 448, 3), (9, 448, 3), (13, 462, 3), (14, 448, 3)]) 0 74 xOut) := s_callP (n := 2) (len := 3) xsh_out (w_xok0 mm75) (List.forall_mem_cons.mpr ⟨(w_cal mm75 mm448 pn_X7 (Nat.le_of_ble_eq_true rfl) (Nat.le_of_ble_eq_true rfl)), (List.forall_mem_cons.mpr ⟨(w_cal mm75 mm448 pn_X7 (Nat.le_of_ble_eq_true rfl) (Nat.le_of_ble_eq_true rfl)), (List.forall_mem_cons.mpr ⟨(w_cal mm75 mm462 pn_X13 (Nat.le_of_ble_eq_true rfl) (Nat.le_of_ble_eq_true rfl)), (List.forall_mem_cons.mpr ⟨(w_cal mm75 mm448 pn_X7 (Nat.le_of_ble_eq_true rfl) (Nat.le_of_ble_eq_true rfl)), (fun z hz => nomatch hz)⟩)⟩)⟩)⟩) (List.forall_mem_cons.mpr ⟨(fun h b as hc hn => w_run_U (owner := "LimbBenches$Clause") (ci := 7) mm75 mm448 dX1_wornRecalled_71 (Or.inl hc) (Nat.le_of_ble_eq_true rfl) vc_7 (Or.inl rfl) q897 q899 q898 q900 q154 q910 ⟨by decide, by decide, by decide +kernel⟩ hn), (List.forall_mem_cons.mpr ⟨(fun h b as hc hn => w_run_U (owner := "LimbBenches$Clause") (ci := 8) mm75 mm448 dX1_wornRecalled_71 (Or.inl hc) (Nat.le_of_ble_eq_true rfl) vc_8 (Or.inl rfl) q897 q899 q898 q909 q154 q910 ⟨by decide, by decide, by decide +kernel⟩ hn), (List.forall_mem_cons.mpr ⟨(fun h b as hc hn => w_run_U (owner := "LimbBenches$Clause") (ci := 12) mm75 mm462 dX1_wornRecalled_71 (Or.inl hc) (Nat.le_of_ble_eq_true rfl) vc_12 (Or.inr (Or.inl ⟨_, _, _, q910, q898⟩)) q897 q899 q903 q902 q160 q904 ⟨by decide, by decide, by decide +kernel⟩ hn), (List.forall_mem_cons.mpr ⟨(fun h b as hc hn => w_run_U (owner := "LimbBenches$Clause") (ci := 13) mm75 mm448 dX1_wornRecalled_71 (Or.inl hc) (Nat.le_of_ble_eq_true rfl) vc_13 (Or.inl rfl) q897 q899 q898 q901 q154 q910 ⟨by decide, by decide, by decide +kernel⟩ hn), (fun z hz => nomatch hz)⟩)⟩)⟩)⟩)
theorem n75_74 : Snd mt G 75 74 (oIfEq 81 77) := w_if_eq (hm := mm75) dX1_wornRecalled_74 rfl
theorem n75_77 : Snd mt G 75 77 (oConst (.int 1) 78) := w_iconst (hm := mm75) dX1_wornRecalled_77 rfl
theorem n75_78 : Snd mt G 75 78 (oGoto 82) := w_goto (hm := mm75) dX1_wornRecalled_78 rfl
theorem n75_81 : Snd mt G 75 81 (oConst (.int 0) 82) := w_iconst (hm := mm75) dX1_wornRecalled_81 rfl
theorem n75_82 : Snd mt G 75 82 (oIstore 4 84) := w_istore (hm := mm75) dX1_wornRecalled_82 (Nat.le_of_ble_eq_true rfl)
theorem n75_84 : Snd mt G 75 84 (oIinc 5 1 87) := w_iinc (hm := mm75) dX1_wornRecalled_84 rfl (Nat.le_of_ble_eq_true rfl)
theorem n75_87 : Snd mt G 75 87 (oGoto 32) := w_goto (hm := mm75) dX1_wornRecalled_87 rfl
theorem n75_90 : Snd mt G 75 90 (oIload 4 92) := w_iload (hm := mm75) dX1_wornRecalled_90
theorem n75_92 : Snd mt G 75 92 (oIfEq 112 95) := w_if_eq (hm := mm75) dX1_wornRecalled_92 rfl
theorem n75_95 : Snd mt G 75 95 (oIload 2 96) := w_iload_n (hm := mm75) dX1_wornRecalled_95
theorem n75_96 : Snd mt G 75 96 (oAload 1 97) := w_aload_n (hm := mm75) dX1_wornRecalled_96
theorem n75_97 : Snd mt G 75 97 (oIload 3 98) := w_iload_n (hm := mm75) dX1_wornRecalled_97
theorem n75_98 : Snd mt G 75 98 (oAload 0 99) := w_aload_n (hm := mm75) dX1_wornRecalled_98
theorem n75_99 : Snd mt G 75 99 (oGetf [1] 0 102) := w_getf (hm := mm75) dX1_wornRecalled_99 (fok1 (k := 0) (T := TX1) 0 (Nat.le_of_ble_eq_true rfl) vc_0 (Nat.le_of_ble_eq_true rfl) q623)
theorem n75_102 : Snd mt G 75 102 (oGetf [2] 12 105) := w_getfN (hm := mm75) dX1_wornRecalled_102 (fokn1 (k := 12) (T := TX2) 1 (Nat.le_of_ble_eq_true rfl) vc_1 (Nat.le_of_ble_eq_true rfl) q567)
theorem n75_105 : Snd mt G 75 105 (oCall 3 (fV [19] 476 3) 0 108 xOut) := s_callV (m' := 476) (n := 2) xsh_out (w_xok0 mm75) (w_cal mm75 mm476 pn_X20 (Nat.le_of_ble_eq_true rfl) (Nat.le_of_ble_eq_true rfl)) (fun h b as hc hn => w_run_V (ci := 18) mm75 mm476 dX1_wornRecalled_105 (Or.inl (List.mem_singleton.mp hc)) (Nat.le_of_ble_eq_true rfl) vc_18 rfl q911 q912 q913 q169 q914 pa476 hn)
theorem n75_108 : Snd mt G 75 108 (oMath2 (fun x y => if x < y then y else x) 111) := w_mmax (hm := mm75) dX1_wornRecalled_108 (Nat.le_of_ble_eq_true rfl) q826 q313 q143 q314
theorem n75_111 : Snd mt G 75 111 (oIstore 2 112) := w_istore_n (hm := mm75) dX1_wornRecalled_111 (Nat.le_of_ble_eq_true rfl)
theorem n75_112 : Snd mt G 75 112 (oIinc 3 1 115) := w_iinc (hm := mm75) dX1_wornRecalled_112 rfl (Nat.le_of_ble_eq_true rfl)
theorem n75_115 : Snd mt G 75 115 (oGoto 9) := w_goto (hm := mm75) dX1_wornRecalled_115 rfl
theorem n75_118 : Snd mt G 75 118 (oIload 2 119) := w_iload_n (hm := mm75) dX1_wornRecalled_118
theorem n75_119 : Snd mt G 75 119 (oRetI .int) := w_iret (hm := mm75) dX1_wornRecalled_119 rfl
theorem sj75 : ∀ pc, Snd mt G 75 pc (j75 pc) := fun pc => (snd_br ((snd_br ((snd_br ((snd_br ((snd_br ((snd_br ((snd_lf n75_119)) ((snd_lf n75_118)))) ((snd_br ((snd_lf n75_115)) ((snd_lf n75_112)))))) ((snd_br ((snd_br ((snd_lf n75_111)) ((snd_lf n75_108)))) ((snd_br ((snd_lf n75_105)) ((snd_lf n75_102)))))))) ((snd_br ((snd_br ((snd_br ((snd_lf n75_99)) ((snd_lf n75_98)))) ((snd_br ((snd_lf n75_97)) ((snd_lf n75_96)))))) ((snd_br ((snd_br ((snd_lf n75_95)) ((snd_lf n75_92)))) ((snd_br ((snd_lf n75_90)) ((snd_lf n75_87)))))))))) ((snd_br ((snd_br ((snd_br ((snd_br ((snd_lf n75_84)) ((snd_lf n75_82)))) ((snd_br ((snd_lf n75_81)) ((snd_lf n75_78)))))) ((snd_br ((snd_br ((snd_lf n75_77)) ((snd_lf n75_74)))) ((snd_br ((snd_lf n75_71)) ((snd_lf n75_68)))))))) ((snd_br ((snd_br ((snd_br ((snd_lf n75_67)) ((snd_lf n75_66)))) ((snd_br ((snd_lf n75_65)) ((snd_lf n75_62)))))) ((snd_br ((snd_br ((snd_lf n75_61)) ((snd_lf n75_58)))) ((snd_lf n75_55)))))))))) ((snd_br ((snd_br ((snd_br ((snd_br ((snd_br ((snd_lf n75_53)) ((snd_lf n75_50)))) ((snd_br ((snd_lf n75_49)) ((snd_lf n75_46)))))) ((snd_br ((snd_br ((snd_lf n75_44)) ((snd_lf n75_41)))) ((snd_br ((snd_lf n75_38)) ((snd_lf n75_35)))))))) ((snd_br ((snd_br ((snd_br ((snd_lf n75_34)) ((snd_lf n75_32)))) ((snd_br ((snd_lf n75_30)) ((snd_lf n75_29)))))) ((snd_br ((snd_br ((snd_lf n75_27)) ((snd_lf n75_26)))) ((snd_lf n75_23)))))))) ((snd_br ((snd_br ((snd_br ((snd_br ((snd_lf n75_20)) ((snd_lf n75_19)))) ((snd_br ((snd_lf n75_18)) ((snd_lf n75_15)))))) ((snd_br ((snd_br ((snd_lf n75_14)) ((snd_lf n75_11)))) ((snd_br ((snd_lf n75_10)) ((snd_lf n75_9)))))))) ((snd_br ((snd_br ((snd_br ((snd_lf n75_8)) ((snd_lf n75_7)))) ((snd_br ((snd_lf n75_6)) ((snd_lf n75_5)))))) ((snd_br ((snd_br ((snd_lf n75_2)) ((snd_lf n75_1)))) ((snd_lf n75_0)))))))))))
end
section
variable {G : AG}
theorem n76_0 : Snd mt G 76 0 (oAload 0 1) := w_aload_n (hm := mm76) dX1_gain_0
theorem n76_1 : Snd mt G 76 1 (oConst (.int 0) 2) := w_iconst (hm := mm76) dX1_gain_1 rfl
theorem n76_2 : Snd mt G 76 2 (oCall 2 (fV [1] 77 5) 0 5 xOut) := s_callV (m' := 77) (n := 1) xsh_out (w_xok0 mm76) (w_cal mm76 mm77 pn_X1 (Nat.le_of_ble_eq_true rfl) (Nat.le_of_ble_eq_true rfl)) (fun h b as hc hn => w_run_V (ci := 0) mm76 mm77 dX1_gain_2 (Or.inl (List.mem_singleton.mp hc)) (Nat.le_of_ble_eq_true rfl) vc_0 rfl q927 q929 qs18 q129 q930 pa77 hn)
theorem n76_5 : Snd mt G 76 5 (oRetI .int) := w_iret (hm := mm76) dX1_gain_5 rfl
theorem sj76 : ∀ pc, Snd mt G 76 pc (j76 pc) := fun pc => (snd_br ((snd_br ((snd_lf n76_5)) ((snd_lf n76_2)))) ((snd_br ((snd_lf n76_1)) ((snd_lf n76_0)))))
end
section
variable {G : AG}
theorem n77_0 : Snd mt G 77 0 (oConst (.int 0) 1) := w_iconst (hm := mm77) dX1_gainOf_0 rfl
theorem n77_1 : Snd mt G 77 1 (oIstore 2 2) := w_istore_n (hm := mm77) dX1_gainOf_1 (Nat.le_of_ble_eq_true rfl)
theorem n77_2 : Snd mt G 77 2 (oConst (.int 0) 3) := w_iconst (hm := mm77) dX1_gainOf_2 rfl
theorem n77_3 : Snd mt G 77 3 (oIstore 3 4) := w_istore_n (hm := mm77) dX1_gainOf_3 (Nat.le_of_ble_eq_true rfl)
theorem n77_4 : Snd mt G 77 4 (oIload 3 5) := w_iload_n (hm := mm77) dX1_gainOf_4
theorem n77_5 : Snd mt G 77 5 (oAload 0 6) := w_aload_n (hm := mm77) dX1_gainOf_5
theorem n77_6 : Snd mt G 77 6 (oGetf [1] 0 9) := w_getf (hm := mm77) dX1_gainOf_6 (fok1 (k := 0) (T := TX1) 0 (Nat.le_of_ble_eq_true rfl) vc_0 (Nat.le_of_ble_eq_true rfl) q623)
theorem n77_9 : Snd mt G 77 9 (oGetf [2] 9 12) := w_getfN (hm := mm77) dX1_gainOf_9 (fokn1 (k := 9) (T := TX2) 1 (Nat.le_of_ble_eq_true rfl) vc_1 (Nat.le_of_ble_eq_true rfl) q561)
theorem n77_12 : Snd mt G 77 12 (oCall 1 (fV [3] 175 1) 0 15 xOut) := s_callV (m' := 175) (n := 0) xsh_out (w_xok0 mm77) (w_cal mm77 mm175 pn_J2 (Nat.le_of_ble_eq_true rfl) (Nat.le_of_ble_eq_true rfl)) (fun h b as hc hn => w_run_V (ci := 2) mm77 mm175 dX1_gainOf_12 (Or.inl (List.mem_singleton.mp hc)) (Nat.le_of_ble_eq_true rfl) vc_2 rfl q709 q710 q711 q133 q712 pa175 hn)
theorem n77_15 : Snd mt G 77 15 (oCmpGe 81 18) := w_icmp_ge (hm := mm77) dX1_gainOf_15 rfl
theorem n77_18 : Snd mt G 77 18 (oAload 0 19) := w_aload_n (hm := mm77) dX1_gainOf_18
theorem n77_19 : Snd mt G 77 19 (oGetf [1] 0 22) := w_getf (hm := mm77) dX1_gainOf_19 (fok1 (k := 0) (T := TX1) 0 (Nat.le_of_ble_eq_true rfl) vc_0 (Nat.le_of_ble_eq_true rfl) q623)
theorem n77_22 : Snd mt G 77 22 (oGetf [2] 9 25) := w_getfN (hm := mm77) dX1_gainOf_22 (fokn1 (k := 9) (T := TX2) 1 (Nat.le_of_ble_eq_true rfl) vc_1 (Nat.le_of_ble_eq_true rfl) q561)
theorem n77_25 : Snd mt G 77 25 (oIload 3 26) := w_iload_n (hm := mm77) dX1_gainOf_25
theorem n77_26 : Snd mt G 77 26 (oCall 2 (fV [3] 176 2) 0 29 xOut) := s_callV (m' := 176) (n := 1) xsh_out (w_xok0 mm77) (w_cal mm77 mm176 pn_J2 (Nat.le_of_ble_eq_true rfl) (Nat.le_of_ble_eq_true rfl)) (fun h b as hc hn => w_run_V (ci := 2) mm77 mm176 dX1_gainOf_26 (Or.inl (List.mem_singleton.mp hc)) (Nat.le_of_ble_eq_true rfl) vc_2 rfl q713 q714 q715 q133 q716 pa176 hn)
theorem n77_29 : Snd mt G 77 29 (oCast [26] 32) := w_cast (hm := mm77) dX1_gainOf_29 q931 (List.forall_mem_cons.mpr ⟨⟨25, _, Or.inl rfl, (Nat.le_of_ble_eq_true rfl), vc_25, Or.inl rfl⟩, (fun t ht => nomatch ht)⟩)
theorem n77_32 : Snd mt G 77 32 (oGetf [26] 1 35) := w_getfN (hm := mm77) dX1_gainOf_32 (fokn1 (k := 1) (T := TX27) 25 (Nat.le_of_ble_eq_true rfl) vc_25 (Nat.le_of_ble_eq_true rfl) q2320)
theorem n77_35 : Snd mt G 77 35 (oAload 0 36) := w_aload_n (hm := mm77) dX1_gainOf_35
theorem n77_36 : Snd mt G 77 36 (oGetf [1] 0 39) := w_getf (hm := mm77) dX1_gainOf_36 (fok1 (k := 0) (T := TX1) 0 (Nat.le_of_ble_eq_true rfl) vc_0 (Nat.le_of_ble_eq_true rfl) q623)
theorem n77_39 : Snd mt G 77 39 (oGetf [2] 9 42) := w_getfN (hm := mm77) dX1_gainOf_39 (fokn1 (k := 9) (T := TX2) 1 (Nat.le_of_ble_eq_true rfl) vc_1 (Nat.le_of_ble_eq_true rfl) q561)
theorem n77_42 : Snd mt G 77 42 (oIload 3 43) := w_iload_n (hm := mm77) dX1_gainOf_42
theorem n77_43 : Snd mt G 77 43 (oCall 2 (fV [3] 176 2) 0 46 xOut) := s_callV (m' := 176) (n := 1) xsh_out (w_xok0 mm77) (w_cal mm77 mm176 pn_J2 (Nat.le_of_ble_eq_true rfl) (Nat.le_of_ble_eq_true rfl)) (fun h b as hc hn => w_run_V (ci := 2) mm77 mm176 dX1_gainOf_43 (Or.inl (List.mem_singleton.mp hc)) (Nat.le_of_ble_eq_true rfl) vc_2 rfl q713 q714 q715 q133 q716 pa176 hn)
theorem n77_46 : Snd mt G 77 46 (oCast [26] 49) := w_cast (hm := mm77) dX1_gainOf_46 q931 (List.forall_mem_cons.mpr ⟨⟨25, _, Or.inl rfl, (Nat.le_of_ble_eq_true rfl), vc_25, Or.inl rfl⟩, (fun t ht => nomatch ht)⟩)
theorem n77_49 : Snd mt G 77 49 (oGetf [26] 0 52) := w_getfN (hm := mm77) dX1_gainOf_49 (fokn1 (k := 0) (T := TX27) 25 (Nat.le_of_ble_eq_true rfl) vc_25 (Nat.le_of_ble_eq_true rfl) q2318)
theorem n77_52 : Snd mt G 77 52 (oBin (fun x y => x - y) 53) := w_isub (hm := mm77) dX1_gainOf_52
theorem n77_53 : Snd mt G 77 53 (oIstore 4 55) := w_istore (hm := mm77) dX1_gainOf_53 (Nat.le_of_ble_eq_true rfl)
theorem n77_55 : Snd mt G 77 55 (oIload 2 56) := w_iload_n (hm := mm77) dX1_gainOf_55
theorem n77_56 : Snd mt G 77 56 (oIload 1 57) := w_iload_n (hm := mm77) dX1_gainOf_56
theorem n77_57 : Snd mt G 77 57 (oIload 3 58) := w_iload_n (hm := mm77) dX1_gainOf_57
theorem n77_58 : Snd mt G 77 58 (oBin (fun x y => x >>> (y &&& 31)) 59) := w_ishr (hm := mm77) dX1_gainOf_58
theorem n77_59 : Snd mt G 77 59 (oConst (.int 1) 60) := w_iconst (hm := mm77) dX1_gainOf_59 rfl
theorem n77_60 : Snd mt G 77 60 (oBin (fun x y => x &&& y) 61) := w_iand (hm := mm77) dX1_gainOf_60
theorem n77_61 : Snd mt G 77 61 (oConst (.int 1) 62) := w_iconst (hm := mm77) dX1_gainOf_61 rfl
theorem n77_62 : Snd mt G 77 62 (oCmpEq 65 71) := w_icmp_ne (hm := mm77) dX1_gainOf_62 rfl
theorem n77_65 : Snd mt G 77 65 (oIload 4 67) := w_iload (hm := mm77) dX1_gainOf_65
theorem n77_67 : Snd mt G 77 67 (oUn (fun x => .int (-x)) 68) := w_ineg (hm := mm77) dX1_gainOf_67
theorem n77_68 : Snd mt G 77 68 (oGoto 73) := w_goto (hm := mm77) dX1_gainOf_68 rfl
theorem n77_71 : Snd mt G 77 71 (oIload 4 73) := w_iload (hm := mm77) dX1_gainOf_71
theorem n77_73 : Snd mt G 77 73 (oBin (fun x y => x + y) 74) := w_iadd (hm := mm77) dX1_gainOf_73
theorem n77_74 : Snd mt G 77 74 (oIstore 2 75) := w_istore_n (hm := mm77) dX1_gainOf_74 (Nat.le_of_ble_eq_true rfl)
theorem n77_75 : Snd mt G 77 75 (oIinc 3 1 78) := w_iinc (hm := mm77) dX1_gainOf_75 rfl (Nat.le_of_ble_eq_true rfl)
theorem n77_78 : Snd mt G 77 78 (oGoto 4) := w_goto (hm := mm77) dX1_gainOf_78 rfl
theorem n77_81 : Snd mt G 77 81 (oIload 2 82) := w_iload_n (hm := mm77) dX1_gainOf_81
theorem n77_82 : Snd mt G 77 82 (oRetI .int) := w_iret (hm := mm77) dX1_gainOf_82 rfl
theorem sj77 : ∀ pc, Snd mt G 77 pc (j77 pc) := fun pc => (snd_br ((snd_br ((snd_br ((snd_br ((snd_br ((snd_br ((snd_lf n77_82)) ((snd_lf n77_81)))) ((snd_lf n77_78)))) ((snd_br ((snd_br ((snd_lf n77_75)) ((snd_lf n77_74)))) ((snd_lf n77_73)))))) ((snd_br ((snd_br ((snd_br ((snd_lf n77_71)) ((snd_lf n77_68)))) ((snd_lf n77_67)))) ((snd_br ((snd_lf n77_65)) ((snd_lf n77_62)))))))) ((snd_br ((snd_br ((snd_br ((snd_br ((snd_lf n77_61)) ((snd_lf n77_60)))) ((snd_lf n77_59)))) ((snd_br ((snd_br ((snd_lf n77_58)) ((snd_lf n77_57)))) ((snd_lf n77_56)))))) ((snd_br ((snd_br ((snd_br ((snd_lf n77_55)) ((snd_lf n77_53)))) ((snd_lf n77_52)))) ((snd_br ((snd_lf n77_49)) ((snd_lf n77_46)))))))))) ((snd_br ((snd_br ((snd_br ((snd_br ((snd_br ((snd_lf n77_43)) ((snd_lf n77_42)))) ((snd_lf n77_39)))) ((snd_br ((snd_br ((snd_lf n77_36)) ((snd_lf n77_35)))) ((snd_lf n77_32)))))) ((snd_br ((snd_br ((snd_br ((snd_lf n77_29)) ((snd_lf n77_26)))) ((snd_lf n77_25)))) ((snd_br ((snd_lf n77_22)) ((snd_lf n77_19)))))))) ((snd_br ((snd_br ((snd_br ((snd_br ((snd_lf n77_18)) ((snd_lf n77_15)))) ((snd_lf n77_12)))) ((snd_br ((snd_br ((snd_lf n77_9)) ((snd_lf n77_6)))) ((snd_lf n77_5)))))) ((snd_br ((snd_br ((snd_br ((snd_lf n77_4)) ((snd_lf n77_3)))) ((snd_lf n77_2)))) ((snd_br ((snd_lf n77_1)) ((snd_lf n77_0)))))))))))
end
section
variable {G : AG}
theorem n78_0 : Snd mt G 78 0 (oConst (.int 0) 1) := w_iconst (hm := mm78) dX1_ways_0 rfl
theorem n78_1 : Snd mt G 78 1 (oIstore 1 2) := w_istore_n (hm := mm78) dX1_ways_1 (Nat.le_of_ble_eq_true rfl)
theorem n78_2 : Snd mt G 78 2 (oConst (.int 0) 3) := w_iconst (hm := mm78) dX1_ways_2 rfl
theorem n78_3 : Snd mt G 78 3 (oIstore 2 4) := w_istore_n (hm := mm78) dX1_ways_3 (Nat.le_of_ble_eq_true rfl)
theorem n78_4 : Snd mt G 78 4 (oIload 2 5) := w_iload_n (hm := mm78) dX1_ways_4
theorem n78_5 : Snd mt G 78 5 (oConst (.int 1) 6) := w_iconst (hm := mm78) dX1_ways_5 rfl
theorem n78_6 : Snd mt G 78 6 (oAload 0 7) := w_aload_n (hm := mm78) dX1_ways_6
theorem n78_7 : Snd mt G 78 7 (oGetf [1] 0 10) := w_getf (hm := mm78) dX1_ways_7 (fok1 (k := 0) (T := TX1) 0 (Nat.le_of_ble_eq_true rfl) vc_0 (Nat.le_of_ble_eq_true rfl) q623)
theorem n78_10 : Snd mt G 78 10 (oGetf [2] 9 13) := w_getfN (hm := mm78) dX1_ways_10 (fokn1 (k := 9) (T := TX2) 1 (Nat.le_of_ble_eq_true rfl) vc_1 (Nat.le_of_ble_eq_true rfl) q561)
theorem n78_13 : Snd mt G 78 13 (oCall 1 (fV [3] 175 1) 0 16 xOut) := s_callV (m' := 175) (n := 0) xsh_out (w_xok0 mm78) (w_cal mm78 mm175 pn_J2 (Nat.le_of_ble_eq_true rfl) (Nat.le_of_ble_eq_true rfl)) (fun h b as hc hn => w_run_V (ci := 2) mm78 mm175 dX1_ways_13 (Or.inl (List.mem_singleton.mp hc)) (Nat.le_of_ble_eq_true rfl) vc_2 rfl q709 q710 q711 q133 q712 pa175 hn)
theorem n78_16 : Snd mt G 78 16 (oBin (fun x y => x <<< (y &&& 31)) 17) := w_ishl (hm := mm78) dX1_ways_16
theorem n78_17 : Snd mt G 78 17 (oCmpGe 47 20) := w_icmp_ge (hm := mm78) dX1_ways_17 rfl
theorem n78_20 : Snd mt G 78 20 (oIload 1 21) := w_iload_n (hm := mm78) dX1_ways_20
theorem n78_21 : Snd mt G 78 21 (oAload 0 22) := w_aload_n (hm := mm78) dX1_ways_21
theorem n78_22 : Snd mt G 78 22 (oIload 2 23) := w_iload_n (hm := mm78) dX1_ways_22
theorem n78_23 : Snd mt G 78 23 (oCall 2 (fV [1] 77 5) 0 26 xOut) := s_callV (m' := 77) (n := 1) xsh_out (w_xok0 mm78) (w_cal mm78 mm77 pn_X1 (Nat.le_of_ble_eq_true rfl) (Nat.le_of_ble_eq_true rfl)) (fun h b as hc hn => w_run_V (ci := 0) mm78 mm77 dX1_ways_23 (Or.inl (List.mem_singleton.mp hc)) (Nat.le_of_ble_eq_true rfl) vc_0 rfl q927 q929 qs18 q129 q930 pa77 hn)
theorem n78_26 : Snd mt G 78 26 (oAload 0 27) := w_aload_n (hm := mm78) dX1_ways_26
theorem n78_27 : Snd mt G 78 27 (oConst (.int 0) 28) := w_iconst (hm := mm78) dX1_ways_27 rfl
theorem n78_28 : Snd mt G 78 28 (oCall 2 (fV [1] 77 5) 0 31 xOut) := s_callV (m' := 77) (n := 1) xsh_out (w_xok0 mm78) (w_cal mm78 mm77 pn_X1 (Nat.le_of_ble_eq_true rfl) (Nat.le_of_ble_eq_true rfl)) (fun h b as hc hn => w_run_V (ci := 0) mm78 mm77 dX1_ways_28 (Or.inl (List.mem_singleton.mp hc)) (Nat.le_of_ble_eq_true rfl) vc_0 rfl q927 q929 qs18 q129 q930 pa77 hn)
theorem n78_31 : Snd mt G 78 31 (oCmpLt 38 34) := w_icmp_lt (hm := mm78) dX1_ways_31 rfl
theorem n78_34 : Snd mt G 78 34 (oConst (.int 1) 35) := w_iconst (hm := mm78) dX1_ways_34 rfl
theorem n78_35 : Snd mt G 78 35 (oGoto 39) := w_goto (hm := mm78) dX1_ways_35 rfl
theorem n78_38 : Snd mt G 78 38 (oConst (.int 0) 39) := w_iconst (hm := mm78) dX1_ways_38 rfl
theorem n78_39 : Snd mt G 78 39 (oBin (fun x y => x + y) 40) := w_iadd (hm := mm78) dX1_ways_39
theorem n78_40 : Snd mt G 78 40 (oIstore 1 41) := w_istore_n (hm := mm78) dX1_ways_40 (Nat.le_of_ble_eq_true rfl)
theorem n78_41 : Snd mt G 78 41 (oIinc 2 1 44) := w_iinc (hm := mm78) dX1_ways_41 rfl (Nat.le_of_ble_eq_true rfl)
theorem n78_44 : Snd mt G 78 44 (oGoto 4) := w_goto (hm := mm78) dX1_ways_44 rfl
theorem n78_47 : Snd mt G 78 47 (oIload 1 48) := w_iload_n (hm := mm78) dX1_ways_47
theorem n78_48 : Snd mt G 78 48 (oRetI .int) := w_iret (hm := mm78) dX1_ways_48 rfl
theorem sj78 : ∀ pc, Snd mt G 78 pc (j78 pc) := fun pc => (snd_br ((snd_br ((snd_br ((snd_br ((snd_br ((snd_lf n78_48)) ((snd_lf n78_47)))) ((snd_br ((snd_lf n78_44)) ((snd_lf n78_41)))))) ((snd_br ((snd_br ((snd_lf n78_40)) ((snd_lf n78_39)))) ((snd_br ((snd_lf n78_38)) ((snd_lf n78_35)))))))) ((snd_br ((snd_br ((snd_br ((snd_lf n78_34)) ((snd_lf n78_31)))) ((snd_br ((snd_lf n78_28)) ((snd_lf n78_27)))))) ((snd_br ((snd_br ((snd_lf n78_26)) ((snd_lf n78_23)))) ((snd_lf n78_22)))))))) ((snd_br ((snd_br ((snd_br ((snd_br ((snd_lf n78_21)) ((snd_lf n78_20)))) ((snd_br ((snd_lf n78_17)) ((snd_lf n78_16)))))) ((snd_br ((snd_br ((snd_lf n78_13)) ((snd_lf n78_10)))) ((snd_lf n78_7)))))) ((snd_br ((snd_br ((snd_br ((snd_lf n78_6)) ((snd_lf n78_5)))) ((snd_br ((snd_lf n78_4)) ((snd_lf n78_3)))))) ((snd_br ((snd_br ((snd_lf n78_2)) ((snd_lf n78_1)))) ((snd_lf n78_0)))))))))
end
section
variable {G : AG}
theorem n79_0 : Snd mt G 79 0 (oAload 0 1) := w_aload_n (hm := mm79) dX1_anew_0
theorem n79_1 : Snd mt G 79 1 (oGetf [1] 0 4) := w_getf (hm := mm79) dX1_anew_1 (fok1 (k := 0) (T := TX1) 0 (Nat.le_of_ble_eq_true rfl) vc_0 (Nat.le_of_ble_eq_true rfl) q623)
theorem n79_4 : Snd mt G 79 4 (oGetf [2] 9 7) := w_getfN (hm := mm79) dX1_anew_4 (fokn1 (k := 9) (T := TX2) 1 (Nat.le_of_ble_eq_true rfl) vc_1 (Nat.le_of_ble_eq_true rfl) q561)
theorem n79_7 : Snd mt G 79 7 (oCall 1 (fV [3] 175 1) 0 10 xOut) := s_callV (m' := 175) (n := 0) xsh_out (w_xok0 mm79) (w_cal mm79 mm175 pn_J2 (Nat.le_of_ble_eq_true rfl) (Nat.le_of_ble_eq_true rfl)) (fun h b as hc hn => w_run_V (ci := 2) mm79 mm175 dX1_anew_7 (Or.inl (List.mem_singleton.mp hc)) (Nat.le_of_ble_eq_true rfl) vc_2 rfl q709 q710 q711 q133 q712 pa175 hn)
theorem n79_10 : Snd mt G 79 10 (oIstore 1 11) := w_istore_n (hm := mm79) dX1_anew_10 (Nat.le_of_ble_eq_true rfl)
theorem n79_11 : Snd mt G 79 11 (oAload 0 12) := w_aload_n (hm := mm79) dX1_anew_11
theorem n79_12 : Snd mt G 79 12 (oGetf [1] 0 15) := w_getf (hm := mm79) dX1_anew_12 (fok1 (k := 0) (T := TX1) 0 (Nat.le_of_ble_eq_true rfl) vc_0 (Nat.le_of_ble_eq_true rfl) q623)
theorem n79_15 : Snd mt G 79 15 (oGetf [2] 9 18) := w_getfN (hm := mm79) dX1_anew_15 (fokn1 (k := 9) (T := TX2) 1 (Nat.le_of_ble_eq_true rfl) vc_1 (Nat.le_of_ble_eq_true rfl) q561)
theorem n79_18 : Snd mt G 79 18 (oCall 1 (fV [3] 178 4) 0 21 xOut) := s_callV (m' := 178) (n := 0) xsh_out (w_xok0 mm79) (w_cal mm79 mm178 pn_J2 (Nat.le_of_ble_eq_true rfl) (Nat.le_of_ble_eq_true rfl)) (fun h b as hc hn => w_run_V (ci := 2) mm79 mm178 dX1_anew_18 (Or.inl (List.mem_singleton.mp hc)) (Nat.le_of_ble_eq_true rfl) vc_2 rfl q940 q941 q942 q133 q943 pa178 hn)
theorem n79_21 : Snd mt G 79 21 (oIload 1 22) := w_iload_n (hm := mm79) dX1_anew_21
theorem n79_22 : Snd mt G 79 22 (oRetI .int) := w_iret (hm := mm79) dX1_anew_22 rfl
theorem sj79 : ∀ pc, Snd mt G 79 pc (j79 pc) := fun pc => (snd_br ((snd_br ((snd_br ((snd_br ((snd_lf n79_22)) ((snd_lf n79_21)))) ((snd_lf n79_18)))) ((snd_br ((snd_br ((snd_lf n79_15)) ((snd_lf n79_12)))) ((snd_lf n79_11)))))) ((snd_br ((snd_br ((snd_br ((snd_lf n79_10)) ((snd_lf n79_7)))) ((snd_lf n79_4)))) ((snd_br ((snd_lf n79_1)) ((snd_lf n79_0)))))))
end
section
variable {G : AG}
theorem n80_0 : Snd mt G 80 0 (oAload 0 1) := w_aload_n (hm := mm80) dX1_sure_0
theorem n80_1 : Snd mt G 80 1 (oCall 1 (fV [1] 81 3) 0 4 xOut) := s_callV (m' := 81) (n := 0) xsh_out (w_xok0 mm80) (w_cal mm80 mm81 pn_X1 (Nat.le_of_ble_eq_true rfl) (Nat.le_of_ble_eq_true rfl)) (fun h b as hc hn => w_run_V (ci := 0) mm80 mm81 dX1_sure_1 (Or.inl (List.mem_singleton.mp hc)) (Nat.le_of_ble_eq_true rfl) vc_0 rfl q948 q950 qs19 q129 q951 pa81 hn)
theorem n80_4 : Snd mt G 80 4 (oIstore 1 5) := w_istore_n (hm := mm80) dX1_sure_4 (Nat.le_of_ble_eq_true rfl)
theorem n80_5 : Snd mt G 80 5 (oIload 1 6) := w_iload_n (hm := mm80) dX1_sure_5
theorem n80_6 : Snd mt G 80 6 (oIfEq 9 14) := w_if_ne (hm := mm80) dX1_sure_6 rfl
theorem n80_9 : Snd mt G 80 9 (oConst (.int (-2)) 11) := w_bipush (hm := mm80) dX1_sure_9 (by decide)
theorem n80_11 : Snd mt G 80 11 (oGoto 30) := w_goto (hm := mm80) dX1_sure_11 rfl
theorem n80_14 : Snd mt G 80 14 (oIload 1 15) := w_iload_n (hm := mm80) dX1_sure_14
theorem n80_15 : Snd mt G 80 15 (oCall 1 (fS 274 1) 0 18 xOut) := s_callS (m' := 274) (n := 1) xsh_out (w_xok0 mm80) (w_cal mm80 mm274 pn_J17 (Nat.le_of_ble_eq_true rfl) (Nat.le_of_ble_eq_true rfl)) (fun h as hn => w_run_S mm80 mm274 dX1_sure_15 q957 q958 q149 q959 pa274 hn)
theorem n80_18 : Snd mt G 80 18 (oConst (.int 1) 19) := w_iconst (hm := mm80) dX1_sure_18 rfl
theorem n80_19 : Snd mt G 80 19 (oCmpLe 26 22) := w_icmp_le (hm := mm80) dX1_sure_19 rfl
theorem n80_22 : Snd mt G 80 22 (oConst (.int (-1)) 23) := w_iconst (hm := mm80) dX1_sure_22 rfl
theorem n80_23 : Snd mt G 80 23 (oGoto 30) := w_goto (hm := mm80) dX1_sure_23 rfl
theorem n80_26 : Snd mt G 80 26 (oIload 1 27) := w_iload_n (hm := mm80) dX1_sure_26
theorem n80_27 : Snd mt G 80 27 (oCall 1 (fS 275 2) 0 30 xOut) := s_callS (m' := 275) (n := 1) xsh_out (w_xok0 mm80) (w_cal mm80 mm275 pn_J17 (Nat.le_of_ble_eq_true rfl) (Nat.le_of_ble_eq_true rfl)) (fun h as hn => w_run_S mm80 mm275 dX1_sure_27 q963 q964 q149 q965 pa275 hn)
theorem n80_30 : Snd mt G 80 30 (oRetI .int) := w_iret (hm := mm80) dX1_sure_30 rfl
theorem sj80 : ∀ pc, Snd mt G 80 pc (j80 pc) := fun pc => (snd_br ((snd_br ((snd_br ((snd_br ((snd_lf n80_30)) ((snd_lf n80_27)))) ((snd_br ((snd_lf n80_26)) ((snd_lf n80_23)))))) ((snd_br ((snd_br ((snd_lf n80_22)) ((snd_lf n80_19)))) ((snd_br ((snd_lf n80_18)) ((snd_lf n80_15)))))))) ((snd_br ((snd_br ((snd_br ((snd_lf n80_14)) ((snd_lf n80_11)))) ((snd_br ((snd_lf n80_9)) ((snd_lf n80_6)))))) ((snd_br ((snd_br ((snd_lf n80_5)) ((snd_lf n80_4)))) ((snd_br ((snd_lf n80_1)) ((snd_lf n80_0)))))))))
end
section
variable {G : AG}
theorem n81_0 : Snd mt G 81 0 (oConst (.int 0) 1) := w_iconst (hm := mm81) dX1_openNow_0 rfl
theorem n81_1 : Snd mt G 81 1 (oIstore 1 2) := w_istore_n (hm := mm81) dX1_openNow_1 (Nat.le_of_ble_eq_true rfl)
theorem n81_2 : Snd mt G 81 2 (oConst (.int 0) 3) := w_iconst (hm := mm81) dX1_openNow_2 rfl
theorem n81_3 : Snd mt G 81 3 (oIstore 2 4) := w_istore_n (hm := mm81) dX1_openNow_3 (Nat.le_of_ble_eq_true rfl)
theorem n81_4 : Snd mt G 81 4 (oIload 2 5) := w_iload_n (hm := mm81) dX1_openNow_4
theorem n81_5 : Snd mt G 81 5 (oAload 0 6) := w_aload_n (hm := mm81) dX1_openNow_5
theorem n81_6 : Snd mt G 81 6 (oGetf [1] 0 9) := w_getf (hm := mm81) dX1_openNow_6 (fok1 (k := 0) (T := TX1) 0 (Nat.le_of_ble_eq_true rfl) vc_0 (Nat.le_of_ble_eq_true rfl) q623)
theorem n81_9 : Snd mt G 81 9 (oGetf [2] 4 12) := w_getfN (hm := mm81) dX1_openNow_9 (fokn1 (k := 4) (T := TX2) 1 (Nat.le_of_ble_eq_true rfl) vc_1 (Nat.le_of_ble_eq_true rfl) q551)
theorem n81_12 : Snd mt G 81 12 (oCall 1 (fV [3] 175 1) 0 15 xOut) := s_callV (m' := 175) (n := 0) xsh_out (w_xok0 mm81) (w_cal mm81 mm175 pn_J2 (Nat.le_of_ble_eq_true rfl) (Nat.le_of_ble_eq_true rfl)) (fun h b as hc hn => w_run_V (ci := 2) mm81 mm175 dX1_openNow_12 (Or.inl (List.mem_singleton.mp hc)) (Nat.le_of_ble_eq_true rfl) vc_2 rfl q709 q710 q711 q133 q712 pa175 hn)
theorem n81_15 : Snd mt G 81 15 (oCmpGe 55 18) := w_icmp_ge (hm := mm81) dX1_openNow_15 rfl
theorem n81_18 : Snd mt G 81 18 (oIload 1 19) := w_iload_n (hm := mm81) dX1_openNow_18
theorem n81_19 : Snd mt G 81 19 (oAload 0 20) := w_aload_n (hm := mm81) dX1_openNow_19
theorem n81_20 : Snd mt G 81 20 (oAload 0 21) := w_aload_n (hm := mm81) dX1_openNow_20
theorem n81_21 : Snd mt G 81 21 (oGetf [1] 0 24) := w_getf (hm := mm81) dX1_openNow_21 (fok1 (k := 0) (T := TX1) 0 (Nat.le_of_ble_eq_true rfl) vc_0 (Nat.le_of_ble_eq_true rfl) q623)
theorem n81_24 : Snd mt G 81 24 (oGetf [2] 4 27) := w_getfN (hm := mm81) dX1_openNow_24 (fokn1 (k := 4) (T := TX2) 1 (Nat.le_of_ble_eq_true rfl) vc_1 (Nat.le_of_ble_eq_true rfl) q551)
theorem n81_27 : Snd mt G 81 27 (oIload 2 28) := w_iload_n (hm := mm81) dX1_openNow_27
theorem n81_28 : Snd mt G 81 28 (oCall 2 (fV [3] 176 2) 0 31 xOut) := s_callV (m' := 176) (n := 1) xsh_out (w_xok0 mm81) (w_cal mm81 mm176 pn_J2 (Nat.le_of_ble_eq_true rfl) (Nat.le_of_ble_eq_true rfl)) (fun h b as hc hn => w_run_V (ci := 2) mm81 mm176 dX1_openNow_28 (Or.inl (List.mem_singleton.mp hc)) (Nat.le_of_ble_eq_true rfl) vc_2 rfl q713 q714 q715 q133 q716 pa176 hn)
theorem n81_31 : Snd mt G 81 31 (oCast [27] 34) := w_cast (hm := mm81) dX1_openNow_31 q952 (List.forall_mem_cons.mpr ⟨⟨26, _, Or.inl rfl, (Nat.le_of_ble_eq_true rfl), vc_26, Or.inl rfl⟩, (fun t ht => nomatch ht)⟩)
theorem n81_34 : Snd mt G 81 34 (oCall 2 (fV [1] 82 2) 0 37 xOut) := s_callV (m' := 82) (n := 1) xsh_out (w_xok0 mm81) (w_cal mm81 mm82 pn_X1 (Nat.le_of_ble_eq_true rfl) (Nat.le_of_ble_eq_true rfl)) (fun h b as hc hn => w_run_V (ci := 0) mm81 mm82 dX1_openNow_34 (Or.inl (List.mem_singleton.mp hc)) (Nat.le_of_ble_eq_true rfl) vc_0 rfl q953 q955 qs20 q129 q956 pa82 hn)
theorem n81_37 : Snd mt G 81 37 (oIfEq 46 40) := w_if_eq (hm := mm81) dX1_openNow_37 rfl
theorem n81_40 : Snd mt G 81 40 (oConst (.int 1) 41) := w_iconst (hm := mm81) dX1_openNow_40 rfl
theorem n81_41 : Snd mt G 81 41 (oIload 2 42) := w_iload_n (hm := mm81) dX1_openNow_41
theorem n81_42 : Snd mt G 81 42 (oBin (fun x y => x <<< (y &&& 31)) 43) := w_ishl (hm := mm81) dX1_openNow_42
theorem n81_43 : Snd mt G 81 43 (oGoto 47) := w_goto (hm := mm81) dX1_openNow_43 rfl
theorem n81_46 : Snd mt G 81 46 (oConst (.int 0) 47) := w_iconst (hm := mm81) dX1_openNow_46 rfl
theorem n81_47 : Snd mt G 81 47 (oBin (fun x y => x ||| y) 48) := w_ior (hm := mm81) dX1_openNow_47
theorem n81_48 : Snd mt G 81 48 (oIstore 1 49) := w_istore_n (hm := mm81) dX1_openNow_48 (Nat.le_of_ble_eq_true rfl)
theorem n81_49 : Snd mt G 81 49 (oIinc 2 1 52) := w_iinc (hm := mm81) dX1_openNow_49 rfl (Nat.le_of_ble_eq_true rfl)
theorem n81_52 : Snd mt G 81 52 (oGoto 4) := w_goto (hm := mm81) dX1_openNow_52 rfl
theorem n81_55 : Snd mt G 81 55 (oIload 1 56) := w_iload_n (hm := mm81) dX1_openNow_55
theorem n81_56 : Snd mt G 81 56 (oRetI .int) := w_iret (hm := mm81) dX1_openNow_56 rfl
theorem sj81 : ∀ pc, Snd mt G 81 pc (j81 pc) := fun pc => (snd_br ((snd_br ((snd_br ((snd_br ((snd_br ((snd_lf n81_56)) ((snd_lf n81_55)))) ((snd_br ((snd_lf n81_52)) ((snd_lf n81_49)))))) ((snd_br ((snd_br ((snd_lf n81_48)) ((snd_lf n81_47)))) ((snd_br ((snd_lf n81_46)) ((snd_lf n81_43)))))))) ((snd_br ((snd_br ((snd_br ((snd_lf n81_42)) ((snd_lf n81_41)))) ((snd_br ((snd_lf n81_40)) ((snd_lf n81_37)))))) ((snd_br ((snd_br ((snd_lf n81_34)) ((snd_lf n81_31)))) ((snd_br ((snd_lf n81_28)) ((snd_lf n81_27)))))))))) ((snd_br ((snd_br ((snd_br ((snd_br ((snd_lf n81_24)) ((snd_lf n81_21)))) ((snd_br ((snd_lf n81_20)) ((snd_lf n81_19)))))) ((snd_br ((snd_br ((snd_lf n81_18)) ((snd_lf n81_15)))) ((snd_br ((snd_lf n81_12)) ((snd_lf n81_9)))))))) ((snd_br ((snd_br ((snd_br ((snd_lf n81_6)) ((snd_lf n81_5)))) ((snd_br ((snd_lf n81_4)) ((snd_lf n81_3)))))) ((snd_br ((snd_br ((snd_lf n81_2)) ((snd_lf n81_1)))) ((snd_lf n81_0)))))))))
end
section
variable {G : AG}
theorem n82_0 : Snd mt G 82 0 (oAload 0 1) := w_aload_n (hm := mm82) dX1_isOpen_0
theorem n82_1 : Snd mt G 82 1 (oGetf [1] 0 4) := w_getf (hm := mm82) dX1_isOpen_1 (fok1 (k := 0) (T := TX1) 0 (Nat.le_of_ble_eq_true rfl) vc_0 (Nat.le_of_ble_eq_true rfl) q623)
theorem n82_4 : Snd mt G 82 4 (oGetf [2] 14 7) := w_getfN (hm := mm82) dX1_isOpen_4 (fokn1 (k := 14) (T := TX2) 1 (Nat.le_of_ble_eq_true rfl) vc_1 (Nat.le_of_ble_eq_true rfl) q571)
theorem n82_7 : Snd mt G 82 7 (oAload 1 8) := w_aload_n (hm := mm82) dX1_isOpen_7
theorem n82_8 : Snd mt G 82 8 (oGetf [27] 0 11) := w_getfN (hm := mm82) dX1_isOpen_8 (fokn1 (k := 0) (T := TX28) 26 (Nat.le_of_ble_eq_true rfl) vc_26 (Nat.le_of_ble_eq_true rfl) q2342)
theorem n82_11 : Snd mt G 82 11 (oAload 1 12) := w_aload_n (hm := mm82) dX1_isOpen_11
theorem n82_12 : Snd mt G 82 12 (oGetf [27] 1 15) := w_getfN (hm := mm82) dX1_isOpen_12 (fokn1 (k := 1) (T := TX28) 26 (Nat.le_of_ble_eq_true rfl) vc_26 (Nat.le_of_ble_eq_true rfl) q2344)
theorem n82_15 : Snd mt G 82 15 (oBin (fun x y => x ||| y) 16) := w_ior (hm := mm82) dX1_isOpen_15
theorem n82_16 : Snd mt G 82 16 (oConst (.int (-1)) 17) := w_iconst (hm := mm82) dX1_isOpen_16 rfl
theorem n82_17 : Snd mt G 82 17 (oBin (fun x y => x ^^^ y) 18) := w_ixor (hm := mm82) dX1_isOpen_17
theorem n82_18 : Snd mt G 82 18 (oBin (fun x y => x &&& y) 19) := w_iand (hm := mm82) dX1_isOpen_18
theorem n82_19 : Snd mt G 82 19 (oIfEq 22 41) := w_if_ne (hm := mm82) dX1_isOpen_19 rfl
theorem n82_22 : Snd mt G 82 22 (oAload 0 23) := w_aload_n (hm := mm82) dX1_isOpen_22
theorem n82_23 : Snd mt G 82 23 (oGetf [1] 0 26) := w_getf (hm := mm82) dX1_isOpen_23 (fok1 (k := 0) (T := TX1) 0 (Nat.le_of_ble_eq_true rfl) vc_0 (Nat.le_of_ble_eq_true rfl) q623)
theorem n82_26 : Snd mt G 82 26 (oGetf [2] 15 29) := w_getfN (hm := mm82) dX1_isOpen_26 (fokn1 (k := 15) (T := TX2) 1 (Nat.le_of_ble_eq_true rfl) vc_1 (Nat.le_of_ble_eq_true rfl) q573)
theorem n82_29 : Snd mt G 82 29 (oAload 1 30) := w_aload_n (hm := mm82) dX1_isOpen_29
theorem n82_30 : Snd mt G 82 30 (oGetf [27] 0 33) := w_getfN (hm := mm82) dX1_isOpen_30 (fokn1 (k := 0) (T := TX28) 26 (Nat.le_of_ble_eq_true rfl) vc_26 (Nat.le_of_ble_eq_true rfl) q2342)
theorem n82_33 : Snd mt G 82 33 (oBin (fun x y => x &&& y) 34) := w_iand (hm := mm82) dX1_isOpen_33
theorem n82_34 : Snd mt G 82 34 (oIfEq 37 41) := w_if_ne (hm := mm82) dX1_isOpen_34 rfl
theorem n82_37 : Snd mt G 82 37 (oConst (.int 1) 38) := w_iconst (hm := mm82) dX1_isOpen_37 rfl
theorem n82_38 : Snd mt G 82 38 (oGoto 42) := w_goto (hm := mm82) dX1_isOpen_38 rfl
theorem n82_41 : Snd mt G 82 41 (oConst (.int 0) 42) := w_iconst (hm := mm82) dX1_isOpen_41 rfl
theorem n82_42 : Snd mt G 82 42 (oRetI .boolean) := w_zret (hm := mm82) dX1_isOpen_42 rfl
theorem sj82 : ∀ pc, Snd mt G 82 pc (j82 pc) := fun pc => (snd_br ((snd_br ((snd_br ((snd_br ((snd_br ((snd_lf n82_42)) ((snd_lf n82_41)))) ((snd_lf n82_38)))) ((snd_br ((snd_br ((snd_lf n82_37)) ((snd_lf n82_34)))) ((snd_lf n82_33)))))) ((snd_br ((snd_br ((snd_br ((snd_lf n82_30)) ((snd_lf n82_29)))) ((snd_lf n82_26)))) ((snd_br ((snd_br ((snd_lf n82_23)) ((snd_lf n82_22)))) ((snd_lf n82_19)))))))) ((snd_br ((snd_br ((snd_br ((snd_br ((snd_lf n82_18)) ((snd_lf n82_17)))) ((snd_lf n82_16)))) ((snd_br ((snd_br ((snd_lf n82_15)) ((snd_lf n82_12)))) ((snd_lf n82_11)))))) ((snd_br ((snd_br ((snd_br ((snd_lf n82_8)) ((snd_lf n82_7)))) ((snd_lf n82_4)))) ((snd_br ((snd_lf n82_1)) ((snd_lf n82_0)))))))))
end
section
variable {G : AG}
theorem n83_0 : Snd mt G 83 0 (oConst (.int (-1)) 1) := w_iconst (hm := mm83) dX1_look_0 rfl
theorem n83_1 : Snd mt G 83 1 (oIstore 1 2) := w_istore_n (hm := mm83) dX1_look_1 (Nat.le_of_ble_eq_true rfl)
theorem n83_2 : Snd mt G 83 2 (oConst (.int 0) 3) := w_iconst (hm := mm83) dX1_look_2 rfl
theorem n83_3 : Snd mt G 83 3 (oIstore 2 4) := w_istore_n (hm := mm83) dX1_look_3 (Nat.le_of_ble_eq_true rfl)
theorem n83_4 : Snd mt G 83 4 (oConst (.int 0) 5) := w_iconst (hm := mm83) dX1_look_4 rfl
theorem n83_5 : Snd mt G 83 5 (oIstore 3 6) := w_istore_n (hm := mm83) dX1_look_5 (Nat.le_of_ble_eq_true rfl)
theorem n83_6 : Snd mt G 83 6 (oIload 3 7) := w_iload_n (hm := mm83) dX1_look_6
theorem n83_7 : Snd mt G 83 7 (oConst (.int 8) 9) := w_bipush (hm := mm83) dX1_look_7 (by decide)
theorem n83_9 : Snd mt G 83 9 (oCmpGe 182 12) := w_icmp_ge (hm := mm83) dX1_look_9 rfl
theorem n83_12 : Snd mt G 83 12 (oAload 0 13) := w_aload_n (hm := mm83) dX1_look_12
theorem n83_13 : Snd mt G 83 13 (oGetf [1] 0 16) := w_getf (hm := mm83) dX1_look_13 (fok1 (k := 0) (T := TX1) 0 (Nat.le_of_ble_eq_true rfl) vc_0 (Nat.le_of_ble_eq_true rfl) q623)
theorem n83_16 : Snd mt G 83 16 (oGetf [2] 14 19) := w_getfN (hm := mm83) dX1_look_16 (fokn1 (k := 14) (T := TX2) 1 (Nat.le_of_ble_eq_true rfl) vc_1 (Nat.le_of_ble_eq_true rfl) q571)
theorem n83_19 : Snd mt G 83 19 (oAload 0 20) := w_aload_n (hm := mm83) dX1_look_19
theorem n83_20 : Snd mt G 83 20 (oGetf [1] 0 23) := w_getf (hm := mm83) dX1_look_20 (fok1 (k := 0) (T := TX1) 0 (Nat.le_of_ble_eq_true rfl) vc_0 (Nat.le_of_ble_eq_true rfl) q623)
theorem n83_23 : Snd mt G 83 23 (oGetf [2] 15 26) := w_getfN (hm := mm83) dX1_look_23 (fokn1 (k := 15) (T := TX2) 1 (Nat.le_of_ble_eq_true rfl) vc_1 (Nat.le_of_ble_eq_true rfl) q573)
theorem n83_26 : Snd mt G 83 26 (oBin (fun x y => x ||| y) 27) := w_ior (hm := mm83) dX1_look_26
theorem n83_27 : Snd mt G 83 27 (oIload 3 28) := w_iload_n (hm := mm83) dX1_look_27
theorem n83_28 : Snd mt G 83 28 (oBin (fun x y => x >>> (y &&& 31)) 29) := w_ishr (hm := mm83) dX1_look_28
theorem n83_29 : Snd mt G 83 29 (oConst (.int 1) 30) := w_iconst (hm := mm83) dX1_look_29 rfl
theorem n83_30 : Snd mt G 83 30 (oBin (fun x y => x &&& y) 31) := w_iand (hm := mm83) dX1_look_30
theorem n83_31 : Snd mt G 83 31 (oConst (.int 1) 32) := w_iconst (hm := mm83) dX1_look_31 rfl
theorem n83_32 : Snd mt G 83 32 (oCmpEq 35 38) := w_icmp_ne (hm := mm83) dX1_look_32 rfl
theorem n83_35 : Snd mt G 83 35 (oGoto 176) := w_goto (hm := mm83) dX1_look_35 rfl
theorem n83_38 : Snd mt G 83 38 (oConst (.int 0) 39) := w_iconst (hm := mm83) dX1_look_38 rfl
theorem n83_39 : Snd mt G 83 39 (oIstore 4 41) := w_istore (hm := mm83) dX1_look_39 (Nat.le_of_ble_eq_true rfl)
theorem n83_41 : Snd mt G 83 41 (oConst (.int 0) 42) := w_iconst (hm := mm83) dX1_look_41 rfl
theorem n83_42 : Snd mt G 83 42 (oIstore 5 44) := w_istore (hm := mm83) dX1_look_42 (Nat.le_of_ble_eq_true rfl)
theorem n83_44 : Snd mt G 83 44 (oConst (.int 0) 45) := w_iconst (hm := mm83) dX1_look_44 rfl
theorem n83_45 : Snd mt G 83 45 (oIstore 6 47) := w_istore (hm := mm83) dX1_look_45 (Nat.le_of_ble_eq_true rfl)
theorem n83_47 : Snd mt G 83 47 (oIload 6 49) := w_iload (hm := mm83) dX1_look_47
theorem n83_49 : Snd mt G 83 49 (oAload 0 50) := w_aload_n (hm := mm83) dX1_look_49
theorem n83_50 : Snd mt G 83 50 (oGetf [1] 0 53) := w_getf (hm := mm83) dX1_look_50 (fok1 (k := 0) (T := TX1) 0 (Nat.le_of_ble_eq_true rfl) vc_0 (Nat.le_of_ble_eq_true rfl) q623)
theorem n83_53 : Snd mt G 83 53 (oGetf [2] 4 56) := w_getfN (hm := mm83) dX1_look_53 (fokn1 (k := 4) (T := TX2) 1 (Nat.le_of_ble_eq_true rfl) vc_1 (Nat.le_of_ble_eq_true rfl) q551)
theorem n83_56 : Snd mt G 83 56 (oCall 1 (fV [3] 175 1) 0 59 xOut) := s_callV (m' := 175) (n := 0) xsh_out (w_xok0 mm83) (w_cal mm83 mm175 pn_J2 (Nat.le_of_ble_eq_true rfl) (Nat.le_of_ble_eq_true rfl)) (fun h b as hc hn => w_run_V (ci := 2) mm83 mm175 dX1_look_56 (Or.inl (List.mem_singleton.mp hc)) (Nat.le_of_ble_eq_true rfl) vc_2 rfl q709 q710 q711 q133 q712 pa175 hn)
theorem n83_59 : Snd mt G 83 59 (oCmpGe 148 62) := w_icmp_ge (hm := mm83) dX1_look_59 rfl
theorem n83_62 : Snd mt G 83 62 (oAload 0 63) := w_aload_n (hm := mm83) dX1_look_62
theorem n83_63 : Snd mt G 83 63 (oGetf [1] 0 66) := w_getf (hm := mm83) dX1_look_63 (fok1 (k := 0) (T := TX1) 0 (Nat.le_of_ble_eq_true rfl) vc_0 (Nat.le_of_ble_eq_true rfl) q623)
theorem n83_66 : Snd mt G 83 66 (oGetf [2] 4 69) := w_getfN (hm := mm83) dX1_look_66 (fokn1 (k := 4) (T := TX2) 1 (Nat.le_of_ble_eq_true rfl) vc_1 (Nat.le_of_ble_eq_true rfl) q551)
theorem n83_69 : Snd mt G 83 69 (oIload 6 71) := w_iload (hm := mm83) dX1_look_69
theorem n83_71 : Snd mt G 83 71 (oCall 2 (fV [3] 176 2) 0 74 xOut) := s_callV (m' := 176) (n := 1) xsh_out (w_xok0 mm83) (w_cal mm83 mm176 pn_J2 (Nat.le_of_ble_eq_true rfl) (Nat.le_of_ble_eq_true rfl)) (fun h b as hc hn => w_run_V (ci := 2) mm83 mm176 dX1_look_71 (Or.inl (List.mem_singleton.mp hc)) (Nat.le_of_ble_eq_true rfl) vc_2 rfl q713 q714 q715 q133 q716 pa176 hn)
theorem n83_74 : Snd mt G 83 74 (oCast [27] 77) := w_cast (hm := mm83) dX1_look_74 q952 (List.forall_mem_cons.mpr ⟨⟨26, _, Or.inl rfl, (Nat.le_of_ble_eq_true rfl), vc_26, Or.inl rfl⟩, (fun t ht => nomatch ht)⟩)
theorem n83_77 : Snd mt G 83 77 (oAstore 7 79) := w_astore (hm := mm83) dX1_look_77 (Nat.le_of_ble_eq_true rfl)
theorem n83_79 : Snd mt G 83 79 (oAload 0 80) := w_aload_n (hm := mm83) dX1_look_79
theorem n83_80 : Snd mt G 83 80 (oAload 7 82) := w_aload (hm := mm83) dX1_look_80
theorem n83_82 : Snd mt G 83 82 (oCall 2 (fV [1] 82 2) 0 85 xOut) := s_callV (m' := 82) (n := 1) xsh_out (w_xok0 mm83) (w_cal mm83 mm82 pn_X1 (Nat.le_of_ble_eq_true rfl) (Nat.le_of_ble_eq_true rfl)) (fun h b as hc hn => w_run_V (ci := 0) mm83 mm82 dX1_look_82 (Or.inl (List.mem_singleton.mp hc)) (Nat.le_of_ble_eq_true rfl) vc_0 rfl q953 q955 qs20 q129 q956 pa82 hn)
theorem n83_85 : Snd mt G 83 85 (oIfEq 88 91) := w_if_ne (hm := mm83) dX1_look_85 rfl
theorem n83_88 : Snd mt G 83 88 (oGoto 142) := w_goto (hm := mm83) dX1_look_88 rfl
theorem n83_91 : Snd mt G 83 91 (oIload 4 93) := w_iload (hm := mm83) dX1_look_91
theorem n83_93 : Snd mt G 83 93 (oAload 7 95) := w_aload (hm := mm83) dX1_look_93
theorem n83_95 : Snd mt G 83 95 (oGetf [27] 0 98) := w_getfN (hm := mm83) dX1_look_95 (fokn1 (k := 0) (T := TX28) 26 (Nat.le_of_ble_eq_true rfl) vc_26 (Nat.le_of_ble_eq_true rfl) q2342)
theorem n83_98 : Snd mt G 83 98 (oAload 7 100) := w_aload (hm := mm83) dX1_look_98
theorem n83_100 : Snd mt G 83 100 (oGetf [27] 1 103) := w_getfN (hm := mm83) dX1_look_100 (fokn1 (k := 1) (T := TX28) 26 (Nat.le_of_ble_eq_true rfl) vc_26 (Nat.le_of_ble_eq_true rfl) q2344)
theorem n83_103 : Snd mt G 83 103 (oBin (fun x y => x ||| y) 104) := w_ior (hm := mm83) dX1_look_103
theorem n83_104 : Snd mt G 83 104 (oIload 3 105) := w_iload_n (hm := mm83) dX1_look_104
theorem n83_105 : Snd mt G 83 105 (oBin (fun x y => x >>> (y &&& 31)) 106) := w_ishr (hm := mm83) dX1_look_105
theorem n83_106 : Snd mt G 83 106 (oConst (.int 1) 107) := w_iconst (hm := mm83) dX1_look_106 rfl
theorem n83_107 : Snd mt G 83 107 (oBin (fun x y => x &&& y) 108) := w_iand (hm := mm83) dX1_look_107
theorem n83_108 : Snd mt G 83 108 (oConst (.int 1) 109) := w_iconst (hm := mm83) dX1_look_108 rfl
theorem n83_109 : Snd mt G 83 109 (oCmpEq 112 116) := w_icmp_ne (hm := mm83) dX1_look_109 rfl
theorem n83_112 : Snd mt G 83 112 (oConst (.int 1) 113) := w_iconst (hm := mm83) dX1_look_112 rfl
theorem n83_113 : Snd mt G 83 113 (oGoto 117) := w_goto (hm := mm83) dX1_look_113 rfl
theorem n83_116 : Snd mt G 83 116 (oConst (.int 0) 117) := w_iconst (hm := mm83) dX1_look_116 rfl
theorem n83_117 : Snd mt G 83 117 (oBin (fun x y => x + y) 118) := w_iadd (hm := mm83) dX1_look_117
theorem n83_118 : Snd mt G 83 118 (oIstore 4 120) := w_istore (hm := mm83) dX1_look_118 (Nat.le_of_ble_eq_true rfl)
theorem n83_120 : Snd mt G 83 120 (oIload 5 122) := w_iload (hm := mm83) dX1_look_120
theorem n83_122 : Snd mt G 83 122 (oAload 7 124) := w_aload (hm := mm83) dX1_look_122
theorem n83_124 : Snd mt G 83 124 (oGetf [27] 0 127) := w_getfN (hm := mm83) dX1_look_124 (fokn1 (k := 0) (T := TX28) 26 (Nat.le_of_ble_eq_true rfl) vc_26 (Nat.le_of_ble_eq_true rfl) q2342)
theorem n83_127 : Snd mt G 83 127 (oIload 3 128) := w_iload_n (hm := mm83) dX1_look_127
theorem n83_128 : Snd mt G 83 128 (oBin (fun x y => x >>> (y &&& 31)) 129) := w_ishr (hm := mm83) dX1_look_128
theorem n83_129 : Snd mt G 83 129 (oConst (.int 1) 130) := w_iconst (hm := mm83) dX1_look_129 rfl
theorem n83_130 : Snd mt G 83 130 (oBin (fun x y => x &&& y) 131) := w_iand (hm := mm83) dX1_look_130
theorem n83_131 : Snd mt G 83 131 (oIfEq 134 138) := w_if_ne (hm := mm83) dX1_look_131 rfl
theorem n83_134 : Snd mt G 83 134 (oConst (.int 1) 135) := w_iconst (hm := mm83) dX1_look_134 rfl
theorem n83_135 : Snd mt G 83 135 (oGoto 139) := w_goto (hm := mm83) dX1_look_135 rfl
theorem n83_138 : Snd mt G 83 138 (oConst (.int 0) 139) := w_iconst (hm := mm83) dX1_look_138 rfl
theorem n83_139 : Snd mt G 83 139 (oBin (fun x y => x + y) 140) := w_iadd (hm := mm83) dX1_look_139
theorem n83_140 : Snd mt G 83 140 (oIstore 5 142) := w_istore (hm := mm83) dX1_look_140 (Nat.le_of_ble_eq_true rfl)
theorem n83_142 : Snd mt G 83 142 (oIinc 6 1 145) := w_iinc (hm := mm83) dX1_look_142 rfl (Nat.le_of_ble_eq_true rfl)
theorem n83_145 : Snd mt G 83 145 (oGoto 47) := w_goto (hm := mm83) dX1_look_145 rfl
theorem n83_148 : Snd mt G 83 148 (oIload 4 150) := w_iload (hm := mm83) dX1_look_148
theorem n83_150 : Snd mt G 83 150 (oIload 5 152) := w_iload (hm := mm83) dX1_look_150
theorem n83_152 : Snd mt G 83 152 (oMath2 (fun x y => if x < y then y else x) 155) := w_mmax (hm := mm83) dX1_look_152 (Nat.le_of_ble_eq_true rfl) q826 q313 q143 q314
theorem n83_155 : Snd mt G 83 155 (oIstore 6 157) := w_istore (hm := mm83) dX1_look_155 (Nat.le_of_ble_eq_true rfl)
theorem n83_157 : Snd mt G 83 157 (oIload 1 158) := w_iload_n (hm := mm83) dX1_look_157
theorem n83_158 : Snd mt G 83 158 (oConst (.int (-1)) 159) := w_iconst (hm := mm83) dX1_look_158 rfl
theorem n83_159 : Snd mt G 83 159 (oCmpEq 171 162) := w_icmp_eq (hm := mm83) dX1_look_159 rfl
theorem n83_162 : Snd mt G 83 162 (oIload 6 164) := w_iload (hm := mm83) dX1_look_162
theorem n83_164 : Snd mt G 83 164 (oIload 2 165) := w_iload_n (hm := mm83) dX1_look_164
theorem n83_165 : Snd mt G 83 165 (oCmpLt 171 168) := w_icmp_lt (hm := mm83) dX1_look_165 rfl
theorem n83_168 : Snd mt G 83 168 (oGoto 176) := w_goto (hm := mm83) dX1_look_168 rfl
theorem n83_171 : Snd mt G 83 171 (oIload 3 172) := w_iload_n (hm := mm83) dX1_look_171
theorem n83_172 : Snd mt G 83 172 (oIstore 1 173) := w_istore_n (hm := mm83) dX1_look_172 (Nat.le_of_ble_eq_true rfl)
theorem n83_173 : Snd mt G 83 173 (oIload 6 175) := w_iload (hm := mm83) dX1_look_173
theorem n83_175 : Snd mt G 83 175 (oIstore 2 176) := w_istore_n (hm := mm83) dX1_look_175 (Nat.le_of_ble_eq_true rfl)
theorem n83_176 : Snd mt G 83 176 (oIinc 3 1 179) := w_iinc (hm := mm83) dX1_look_176 rfl (Nat.le_of_ble_eq_true rfl)
theorem n83_179 : Snd mt G 83 179 (oGoto 6) := w_goto (hm := mm83) dX1_look_179 rfl
theorem n83_182 : Snd mt G 83 182 (oIload 1 183) := w_iload_n (hm := mm83) dX1_look_182
theorem n83_183 : Snd mt G 83 183 (oRetI .int) := w_iret (hm := mm83) dX1_look_183 rfl
theorem sj83 : ∀ pc, Snd mt G 83 pc (j83 pc) := fun pc => (snd_br ((snd_br ((snd_br ((snd_br ((snd_br ((snd_br ((snd_br ((snd_lf n83_183)) ((snd_lf n83_182)))) ((snd_br ((snd_lf n83_179)) ((snd_lf n83_176)))))) ((snd_br ((snd_br ((snd_lf n83_175)) ((snd_lf n83_173)))) ((snd_lf n83_172)))))) ((snd_br ((snd_br ((snd_br ((snd_lf n83_171)) ((snd_lf n83_168)))) ((snd_lf n83_165)))) ((snd_br ((snd_br ((snd_lf n83_164)) ((snd_lf n83_162)))) ((snd_lf n83_159)))))))) ((snd_br ((snd_br ((snd_br ((snd_br ((snd_lf n83_158)) ((snd_lf n83_157)))) ((snd_lf n83_155)))) ((snd_br ((snd_br ((snd_lf n83_152)) ((snd_lf n83_150)))) ((snd_lf n83_148)))))) ((snd_br ((snd_br ((snd_br ((snd_lf n83_145)) ((snd_lf n83_142)))) ((snd_lf n83_140)))) ((snd_br ((snd_br ((snd_lf n83_139)) ((snd_lf n83_138)))) ((snd_lf n83_135)))))))))) ((snd_br ((snd_br ((snd_br ((snd_br ((snd_br ((snd_lf n83_134)) ((snd_lf n83_131)))) ((snd_lf n83_130)))) ((snd_br ((snd_br ((snd_lf n83_129)) ((snd_lf n83_128)))) ((snd_lf n83_127)))))) ((snd_br ((snd_br ((snd_br ((snd_lf n83_124)) ((snd_lf n83_122)))) ((snd_lf n83_120)))) ((snd_br ((snd_br ((snd_lf n83_118)) ((snd_lf n83_117)))) ((snd_lf n83_116)))))))) ((snd_br ((snd_br ((snd_br ((snd_br ((snd_lf n83_113)) ((snd_lf n83_112)))) ((snd_lf n83_109)))) ((snd_br ((snd_br ((snd_lf n83_108)) ((snd_lf n83_107)))) ((snd_lf n83_106)))))) ((snd_br ((snd_br ((snd_br ((snd_lf n83_105)) ((snd_lf n83_104)))) ((snd_lf n83_103)))) ((snd_br ((snd_br ((snd_lf n83_100)) ((snd_lf n83_98)))) ((snd_lf n83_95)))))))))))) ((snd_br ((snd_br ((snd_br ((snd_br ((snd_br ((snd_br ((snd_lf n83_93)) ((snd_lf n83_91)))) ((snd_br ((snd_lf n83_88)) ((snd_lf n83_85)))))) ((snd_br ((snd_br ((snd_lf n83_82)) ((snd_lf n83_80)))) ((snd_lf n83_79)))))) ((snd_br ((snd_br ((snd_br ((snd_lf n83_77)) ((snd_lf n83_74)))) ((snd_lf n83_71)))) ((snd_br ((snd_br ((snd_lf n83_69)) ((snd_lf n83_66)))) ((snd_lf n83_63)))))))) ((snd_br ((snd_br ((snd_br ((snd_br ((snd_lf n83_62)) ((snd_lf n83_59)))) ((snd_lf n83_56)))) ((snd_br ((snd_br ((snd_lf n83_53)) ((snd_lf n83_50)))) ((snd_lf n83_49)))))) ((snd_br ((snd_br ((snd_br ((snd_lf n83_47)) ((snd_lf n83_45)))) ((snd_lf n83_44)))) ((snd_br ((snd_br ((snd_lf n83_42)) ((snd_lf n83_41)))) ((snd_lf n83_39)))))))))) ((snd_br ((snd_br ((snd_br ((snd_br ((snd_br ((snd_lf n83_38)) ((snd_lf n83_35)))) ((snd_lf n83_32)))) ((snd_br ((snd_br ((snd_lf n83_31)) ((snd_lf n83_30)))) ((snd_lf n83_29)))))) ((snd_br ((snd_br ((snd_br ((snd_lf n83_28)) ((snd_lf n83_27)))) ((snd_lf n83_26)))) ((snd_br ((snd_br ((snd_lf n83_23)) ((snd_lf n83_20)))) ((snd_lf n83_19)))))))) ((snd_br ((snd_br ((snd_br ((snd_br ((snd_lf n83_16)) ((snd_lf n83_13)))) ((snd_lf n83_12)))) ((snd_br ((snd_br ((snd_lf n83_9)) ((snd_lf n83_7)))) ((snd_lf n83_6)))))) ((snd_br ((snd_br ((snd_br ((snd_lf n83_5)) ((snd_lf n83_4)))) ((snd_lf n83_3)))) ((snd_br ((snd_br ((snd_lf n83_2)) ((snd_lf n83_1)))) ((snd_lf n83_0)))))))))))))
end
section
variable {G : AG}
theorem n84_0 : Snd mt G 84 0 (oAload 0 1) := w_aload_n (hm := mm84) dX1_image_0
theorem n84_1 : Snd mt G 84 1 (oGetf [1] 6 4) := w_getf (hm := mm84) dX1_image_1 (fok1 (k := 6) (T := TX1) 0 (Nat.le_of_ble_eq_true rfl) vc_0 (Nat.le_of_ble_eq_true rfl) q629)
theorem n84_4 : Snd mt G 84 4 (oConst (.int 3) 5) := w_iconst (hm := mm84) dX1_image_4 rfl
theorem n84_5 : Snd mt G 84 5 (oCmpEq 8 10) := w_icmp_ne (hm := mm84) dX1_image_5 rfl
theorem n84_8 : Snd mt G 84 8 (oConst (.int (-1)) 9) := w_iconst (hm := mm84) dX1_image_8 rfl
theorem n84_9 : Snd mt G 84 9 (oRetI .int) := w_iret (hm := mm84) dX1_image_9 rfl
theorem n84_10 : Snd mt G 84 10 (oAload 0 11) := w_aload_n (hm := mm84) dX1_image_10
theorem n84_11 : Snd mt G 84 11 (oGetf [1] 8 14) := w_getf (hm := mm84) dX1_image_11 (fok1 (k := 8) (T := TX1) 0 (Nat.le_of_ble_eq_true rfl) vc_0 (Nat.le_of_ble_eq_true rfl) q631)
theorem n84_14 : Snd mt G 84 14 (oAload 0 15) := w_aload_n (hm := mm84) dX1_image_14
theorem n84_15 : Snd mt G 84 15 (oGetf [1] 6 18) := w_getf (hm := mm84) dX1_image_15 (fok1 (k := 6) (T := TX1) 0 (Nat.le_of_ble_eq_true rfl) vc_0 (Nat.le_of_ble_eq_true rfl) q629)
theorem n84_18 : Snd mt G 84 18 (oAload 0 19) := w_aload_n (hm := mm84) dX1_image_18
theorem n84_19 : Snd mt G 84 19 (oGetf [1] 0 22) := w_getf (hm := mm84) dX1_image_19 (fok1 (k := 0) (T := TX1) 0 (Nat.le_of_ble_eq_true rfl) vc_0 (Nat.le_of_ble_eq_true rfl) q623)
theorem n84_22 : Snd mt G 84 22 (oCall 1 (fV [2] 171 3) 0 25 xOut) := s_callV (m' := 171) (n := 0) xsh_out (w_xok0 mm84) (w_cal mm84 mm171 pn_X2 (Nat.le_of_ble_eq_true rfl) (Nat.le_of_ble_eq_true rfl)) (fun h b as hc hn => w_run_V (ci := 1) mm84 mm171 dX1_image_22 (Or.inl (List.mem_singleton.mp hc)) (Nat.le_of_ble_eq_true rfl) vc_1 rfl q975 q976 q977 q130 q978 pa171 hn)
theorem n84_25 : Snd mt G 84 25 (oAast [105] es5 26) := w_aastore (hm := mm84) (kt := 5) dX1_image_25 at_5 (Nat.le_of_ble_eq_true rfl) (List.forall_mem_cons.mpr ⟨rfl, (fun t ht => nomatch ht)⟩) es5_ok
theorem n84_26 : Snd mt G 84 26 (oAload 0 27) := w_aload_n (hm := mm84) dX1_image_26
theorem n84_27 : Snd mt G 84 27 (oDup 28) := w_dup (hm := mm84) dX1_image_27
theorem n84_28 : Snd mt G 84 28 (oGetf [1] 6 31) := w_getf (hm := mm84) dX1_image_28 (fok1 (k := 6) (T := TX1) 0 (Nat.le_of_ble_eq_true rfl) vc_0 (Nat.le_of_ble_eq_true rfl) q629)
theorem n84_31 : Snd mt G 84 31 (oConst (.int 1) 32) := w_iconst (hm := mm84) dX1_image_31 rfl
theorem n84_32 : Snd mt G 84 32 (oBin (fun x y => x + y) 33) := w_iadd (hm := mm84) dX1_image_32
theorem n84_33 : Snd mt G 84 33 (oPutf [1] 6 .int 36) := w_putf (hm := mm84) dX1_image_33 (pok1 (k := 6) (T := TX1) 0 (Nat.le_of_ble_eq_true rfl) vc_0 (Nat.le_of_ble_eq_true rfl) rfl pd_X1_6 q629)
theorem n84_36 : Snd mt G 84 36 (oAload 0 37) := w_aload_n (hm := mm84) dX1_image_36
theorem n84_37 : Snd mt G 84 37 (oGetf [1] 6 40) := w_getf (hm := mm84) dX1_image_37 (fok1 (k := 6) (T := TX1) 0 (Nat.le_of_ble_eq_true rfl) vc_0 (Nat.le_of_ble_eq_true rfl) q629)
theorem n84_40 : Snd mt G 84 40 (oRetI .int) := w_iret (hm := mm84) dX1_image_40 rfl
theorem sj84 : ∀ pc, Snd mt G 84 pc (j84 pc) := fun pc => (snd_br ((snd_br ((snd_br ((snd_br ((snd_br ((snd_lf n84_40)) ((snd_lf n84_37)))) ((snd_lf n84_36)))) ((snd_br ((snd_br ((snd_lf n84_33)) ((snd_lf n84_32)))) ((snd_lf n84_31)))))) ((snd_br ((snd_br ((snd_br ((snd_lf n84_28)) ((snd_lf n84_27)))) ((snd_lf n84_26)))) ((snd_br ((snd_br ((snd_lf n84_25)) ((snd_lf n84_22)))) ((snd_lf n84_19)))))))) ((snd_br ((snd_br ((snd_br ((snd_br ((snd_lf n84_18)) ((snd_lf n84_15)))) ((snd_lf n84_14)))) ((snd_br ((snd_br ((snd_lf n84_11)) ((snd_lf n84_10)))) ((snd_lf n84_9)))))) ((snd_br ((snd_br ((snd_br ((snd_lf n84_8)) ((snd_lf n84_5)))) ((snd_lf n84_4)))) ((snd_br ((snd_lf n84_1)) ((snd_lf n84_0)))))))))
end
section
variable {G : AG}
theorem n85_0 : Snd mt G 85 0 (oAload 0 1) := w_aload_n (hm := mm85) dX1_restore_0
theorem n85_1 : Snd mt G 85 1 (oGetf [1] 6 4) := w_getf (hm := mm85) dX1_restore_1 (fok1 (k := 6) (T := TX1) 0 (Nat.le_of_ble_eq_true rfl) vc_0 (Nat.le_of_ble_eq_true rfl) q629)
theorem n85_4 : Snd mt G 85 4 (oIfEq 7 9) := w_if_ne (hm := mm85) dX1_restore_4 rfl
theorem n85_7 : Snd mt G 85 7 (oConst (.int (-1)) 8) := w_iconst (hm := mm85) dX1_restore_7 rfl
theorem n85_8 : Snd mt G 85 8 (oRetI .int) := w_iret (hm := mm85) dX1_restore_8 rfl
theorem n85_9 : Snd mt G 85 9 (oAload 0 10) := w_aload_n (hm := mm85) dX1_restore_9
theorem n85_10 : Snd mt G 85 10 (oDup 11) := w_dup (hm := mm85) dX1_restore_10
theorem n85_11 : Snd mt G 85 11 (oGetf [1] 6 14) := w_getf (hm := mm85) dX1_restore_11 (fok1 (k := 6) (T := TX1) 0 (Nat.le_of_ble_eq_true rfl) vc_0 (Nat.le_of_ble_eq_true rfl) q629)
theorem n85_14 : Snd mt G 85 14 (oConst (.int 1) 15) := w_iconst (hm := mm85) dX1_restore_14 rfl
theorem n85_15 : Snd mt G 85 15 (oBin (fun x y => x - y) 16) := w_isub (hm := mm85) dX1_restore_15
theorem n85_16 : Snd mt G 85 16 (oPutf [1] 6 .int 19) := w_putf (hm := mm85) dX1_restore_16 (pok1 (k := 6) (T := TX1) 0 (Nat.le_of_ble_eq_true rfl) vc_0 (Nat.le_of_ble_eq_true rfl) rfl pd_X1_6 q629)
theorem n85_19 : Snd mt G 85 19 (oAload 0 20) := w_aload_n (hm := mm85) dX1_restore_19
theorem n85_20 : Snd mt G 85 20 (oAload 0 21) := w_aload_n (hm := mm85) dX1_restore_20
theorem n85_21 : Snd mt G 85 21 (oGetf [1] 8 24) := w_getf (hm := mm85) dX1_restore_21 (fok1 (k := 8) (T := TX1) 0 (Nat.le_of_ble_eq_true rfl) vc_0 (Nat.le_of_ble_eq_true rfl) q631)
theorem n85_24 : Snd mt G 85 24 (oAload 0 25) := w_aload_n (hm := mm85) dX1_restore_24
theorem n85_25 : Snd mt G 85 25 (oGetf [1] 6 28) := w_getf (hm := mm85) dX1_restore_25 (fok1 (k := 6) (T := TX1) 0 (Nat.le_of_ble_eq_true rfl) vc_0 (Nat.le_of_ble_eq_true rfl) q629)
theorem n85_28 : Snd mt G 85 28 (oAld [105] 29) := w_aaload (hm := mm85) (kt := 5) dX1_restore_28 rfl at_5 (Nat.le_of_ble_eq_true rfl) (List.forall_mem_cons.mpr ⟨Or.inl rfl, (fun t ht => nomatch ht)⟩)
theorem n85_29 : Snd mt G 85 29 (oPutf [1] 0 (.object "LimbBenches$State") 32) := w_putf (hm := mm85) dX1_restore_29 (pok1 (k := 0) (T := TX1) 0 (Nat.le_of_ble_eq_true rfl) vc_0 (Nat.le_of_ble_eq_true rfl) rfl pd_X1_0 q623)
theorem n85_32 : Snd mt G 85 32 (oAload 0 33) := w_aload_n (hm := mm85) dX1_restore_32
theorem n85_33 : Snd mt G 85 33 (oGetf [1] 8 36) := w_getf (hm := mm85) dX1_restore_33 (fok1 (k := 8) (T := TX1) 0 (Nat.le_of_ble_eq_true rfl) vc_0 (Nat.le_of_ble_eq_true rfl) q631)
theorem n85_36 : Snd mt G 85 36 (oAload 0 37) := w_aload_n (hm := mm85) dX1_restore_36
theorem n85_37 : Snd mt G 85 37 (oGetf [1] 6 40) := w_getf (hm := mm85) dX1_restore_37 (fok1 (k := 6) (T := TX1) 0 (Nat.le_of_ble_eq_true rfl) vc_0 (Nat.le_of_ble_eq_true rfl) q629)
theorem n85_40 : Snd mt G 85 40 (oConst .null 41) := w_null (hm := mm85) dX1_restore_40
theorem n85_41 : Snd mt G 85 41 (oAast [105] es5 42) := w_aastore (hm := mm85) (kt := 5) dX1_restore_41 at_5 (Nat.le_of_ble_eq_true rfl) (List.forall_mem_cons.mpr ⟨rfl, (fun t ht => nomatch ht)⟩) es5_ok
theorem n85_42 : Snd mt G 85 42 (oAload 0 43) := w_aload_n (hm := mm85) dX1_restore_42
theorem n85_43 : Snd mt G 85 43 (oGetf [1] 6 46) := w_getf (hm := mm85) dX1_restore_43 (fok1 (k := 6) (T := TX1) 0 (Nat.le_of_ble_eq_true rfl) vc_0 (Nat.le_of_ble_eq_true rfl) q629)
theorem n85_46 : Snd mt G 85 46 (oRetI .int) := w_iret (hm := mm85) dX1_restore_46 rfl
theorem sj85 : ∀ pc, Snd mt G 85 pc (j85 pc) := fun pc => (snd_br ((snd_br ((snd_br ((snd_br ((snd_br ((snd_lf n85_46)) ((snd_lf n85_43)))) ((snd_br ((snd_lf n85_42)) ((snd_lf n85_41)))))) ((snd_br ((snd_br ((snd_lf n85_40)) ((snd_lf n85_37)))) ((snd_lf n85_36)))))) ((snd_br ((snd_br ((snd_br ((snd_lf n85_33)) ((snd_lf n85_32)))) ((snd_br ((snd_lf n85_29)) ((snd_lf n85_28)))))) ((snd_br ((snd_br ((snd_lf n85_25)) ((snd_lf n85_24)))) ((snd_lf n85_21)))))))) ((snd_br ((snd_br ((snd_br ((snd_br ((snd_lf n85_20)) ((snd_lf n85_19)))) ((snd_br ((snd_lf n85_16)) ((snd_lf n85_15)))))) ((snd_br ((snd_br ((snd_lf n85_14)) ((snd_lf n85_11)))) ((snd_lf n85_10)))))) ((snd_br ((snd_br ((snd_br ((snd_lf n85_9)) ((snd_lf n85_8)))) ((snd_lf n85_7)))) ((snd_br ((snd_br ((snd_lf n85_4)) ((snd_lf n85_1)))) ((snd_lf n85_0)))))))))
end
section
variable {G : AG}
theorem n86_0 : Snd mt G 86 0 (oIload 1 1) := w_iload_n (hm := mm86) dX1_count_0
theorem n86_1 : Snd mt G 86 1 (oSwitch sw86_1) := w_tableL (hm := mm86) (dfl := 259) (L := [88, 96, 107, 118, 126, 137, 145, 156, 167, 172, 177, 188, 199, 210, 221, 232, 243, 251]) dX1_count_1 rfl rfl (by decide +kernel)
theorem n86_88 : Snd mt G 86 88 (oAload 0 89) := w_aload_n (hm := mm86) dX1_count_88
theorem n86_89 : Snd mt G 86 89 (oGetf [1] 1 92) := w_getf (hm := mm86) dX1_count_89 (fok1 (k := 1) (T := TX1) 0 (Nat.le_of_ble_eq_true rfl) vc_0 (Nat.le_of_ble_eq_true rfl) q624)
theorem n86_92 : Snd mt G 86 92 (oCall 1 (fV [3] 175 1) 0 95 xOut) := s_callV (m' := 175) (n := 0) xsh_out (w_xok0 mm86) (w_cal mm86 mm175 pn_J2 (Nat.le_of_ble_eq_true rfl) (Nat.le_of_ble_eq_true rfl)) (fun h b as hc hn => w_run_V (ci := 2) mm86 mm175 dX1_count_92 (Or.inl (List.mem_singleton.mp hc)) (Nat.le_of_ble_eq_true rfl) vc_2 rfl q709 q710 q711 q133 q712 pa175 hn)
theorem n86_95 : Snd mt G 86 95 (oRetI .int) := w_iret (hm := mm86) dX1_count_95 rfl
theorem n86_96 : Snd mt G 86 96 (oAload 0 97) := w_aload_n (hm := mm86) dX1_count_96
theorem n86_97 : Snd mt G 86 97 (oGetf [1] 0 100) := w_getf (hm := mm86) dX1_count_97 (fok1 (k := 0) (T := TX1) 0 (Nat.le_of_ble_eq_true rfl) vc_0 (Nat.le_of_ble_eq_true rfl) q623)
theorem n86_100 : Snd mt G 86 100 (oGetf [2] 0 103) := w_getfN (hm := mm86) dX1_count_100 (fokn1 (k := 0) (T := TX2) 1 (Nat.le_of_ble_eq_true rfl) vc_1 (Nat.le_of_ble_eq_true rfl) q543)
theorem n86_103 : Snd mt G 86 103 (oCall 1 (fV [3] 175 1) 0 106 xOut) := s_callV (m' := 175) (n := 0) xsh_out (w_xok0 mm86) (w_cal mm86 mm175 pn_J2 (Nat.le_of_ble_eq_true rfl) (Nat.le_of_ble_eq_true rfl)) (fun h b as hc hn => w_run_V (ci := 2) mm86 mm175 dX1_count_103 (Or.inl (List.mem_singleton.mp hc)) (Nat.le_of_ble_eq_true rfl) vc_2 rfl q709 q710 q711 q133 q712 pa175 hn)
theorem n86_106 : Snd mt G 86 106 (oRetI .int) := w_iret (hm := mm86) dX1_count_106 rfl
theorem n86_107 : Snd mt G 86 107 (oAload 0 108) := w_aload_n (hm := mm86) dX1_count_107
theorem n86_108 : Snd mt G 86 108 (oGetf [1] 0 111) := w_getf (hm := mm86) dX1_count_108 (fok1 (k := 0) (T := TX1) 0 (Nat.le_of_ble_eq_true rfl) vc_0 (Nat.le_of_ble_eq_true rfl) q623)
theorem n86_111 : Snd mt G 86 111 (oGetf [2] 1 114) := w_getfN (hm := mm86) dX1_count_111 (fokn1 (k := 1) (T := TX2) 1 (Nat.le_of_ble_eq_true rfl) vc_1 (Nat.le_of_ble_eq_true rfl) q545)
theorem n86_114 : Snd mt G 86 114 (oCall 1 (fV [3] 175 1) 0 117 xOut) := s_callV (m' := 175) (n := 0) xsh_out (w_xok0 mm86) (w_cal mm86 mm175 pn_J2 (Nat.le_of_ble_eq_true rfl) (Nat.le_of_ble_eq_true rfl)) (fun h b as hc hn => w_run_V (ci := 2) mm86 mm175 dX1_count_114 (Or.inl (List.mem_singleton.mp hc)) (Nat.le_of_ble_eq_true rfl) vc_2 rfl q709 q710 q711 q133 q712 pa175 hn)
theorem n86_117 : Snd mt G 86 117 (oRetI .int) := w_iret (hm := mm86) dX1_count_117 rfl
theorem n86_118 : Snd mt G 86 118 (oAload 0 119) := w_aload_n (hm := mm86) dX1_count_118
theorem n86_119 : Snd mt G 86 119 (oGetf [1] 0 122) := w_getf (hm := mm86) dX1_count_119 (fok1 (k := 0) (T := TX1) 0 (Nat.le_of_ble_eq_true rfl) vc_0 (Nat.le_of_ble_eq_true rfl) q623)
theorem n86_122 : Snd mt G 86 122 (oGetf [2] 12 125) := w_getfN (hm := mm86) dX1_count_122 (fokn1 (k := 12) (T := TX2) 1 (Nat.le_of_ble_eq_true rfl) vc_1 (Nat.le_of_ble_eq_true rfl) q567)
theorem n86_125 : Snd mt G 86 125 (oRetI .int) := w_iret (hm := mm86) dX1_count_125 rfl
theorem n86_126 : Snd mt G 86 126 (oAload 0 127) := w_aload_n (hm := mm86) dX1_count_126
theorem n86_127 : Snd mt G 86 127 (oGetf [1] 0 130) := w_getf (hm := mm86) dX1_count_127 (fok1 (k := 0) (T := TX1) 0 (Nat.le_of_ble_eq_true rfl) vc_0 (Nat.le_of_ble_eq_true rfl) q623)
theorem n86_130 : Snd mt G 86 130 (oGetf [2] 2 133) := w_getfN (hm := mm86) dX1_count_130 (fokn1 (k := 2) (T := TX2) 1 (Nat.le_of_ble_eq_true rfl) vc_1 (Nat.le_of_ble_eq_true rfl) q547)
theorem n86_133 : Snd mt G 86 133 (oCall 1 (fV [3] 175 1) 0 136 xOut) := s_callV (m' := 175) (n := 0) xsh_out (w_xok0 mm86) (w_cal mm86 mm175 pn_J2 (Nat.le_of_ble_eq_true rfl) (Nat.le_of_ble_eq_true rfl)) (fun h b as hc hn => w_run_V (ci := 2) mm86 mm175 dX1_count_133 (Or.inl (List.mem_singleton.mp hc)) (Nat.le_of_ble_eq_true rfl) vc_2 rfl q709 q710 q711 q133 q712 pa175 hn)
theorem n86_136 : Snd mt G 86 136 (oRetI .int) := w_iret (hm := mm86) dX1_count_136 rfl
theorem n86_137 : Snd mt G 86 137 (oAload 0 138) := w_aload_n (hm := mm86) dX1_count_137
theorem n86_138 : Snd mt G 86 138 (oGetf [1] 0 141) := w_getf (hm := mm86) dX1_count_138 (fok1 (k := 0) (T := TX1) 0 (Nat.le_of_ble_eq_true rfl) vc_0 (Nat.le_of_ble_eq_true rfl) q623)
theorem n86_141 : Snd mt G 86 141 (oGetf [2] 13 144) := w_getfN (hm := mm86) dX1_count_141 (fokn1 (k := 13) (T := TX2) 1 (Nat.le_of_ble_eq_true rfl) vc_1 (Nat.le_of_ble_eq_true rfl) q569)
theorem n86_144 : Snd mt G 86 144 (oRetI .int) := w_iret (hm := mm86) dX1_count_144 rfl
theorem n86_145 : Snd mt G 86 145 (oAload 0 146) := w_aload_n (hm := mm86) dX1_count_145
theorem n86_146 : Snd mt G 86 146 (oGetf [1] 0 149) := w_getf (hm := mm86) dX1_count_146 (fok1 (k := 0) (T := TX1) 0 (Nat.le_of_ble_eq_true rfl) vc_0 (Nat.le_of_ble_eq_true rfl) q623)
theorem n86_149 : Snd mt G 86 149 (oGetf [2] 4 152) := w_getfN (hm := mm86) dX1_count_149 (fokn1 (k := 4) (T := TX2) 1 (Nat.le_of_ble_eq_true rfl) vc_1 (Nat.le_of_ble_eq_true rfl) q551)
theorem n86_152 : Snd mt G 86 152 (oCall 1 (fV [3] 175 1) 0 155 xOut) := s_callV (m' := 175) (n := 0) xsh_out (w_xok0 mm86) (w_cal mm86 mm175 pn_J2 (Nat.le_of_ble_eq_true rfl) (Nat.le_of_ble_eq_true rfl)) (fun h b as hc hn => w_run_V (ci := 2) mm86 mm175 dX1_count_152 (Or.inl (List.mem_singleton.mp hc)) (Nat.le_of_ble_eq_true rfl) vc_2 rfl q709 q710 q711 q133 q712 pa175 hn)
theorem n86_155 : Snd mt G 86 155 (oRetI .int) := w_iret (hm := mm86) dX1_count_155 rfl
theorem n86_156 : Snd mt G 86 156 (oAload 0 157) := w_aload_n (hm := mm86) dX1_count_156
theorem n86_157 : Snd mt G 86 157 (oGetf [1] 0 160) := w_getf (hm := mm86) dX1_count_157 (fok1 (k := 0) (T := TX1) 0 (Nat.le_of_ble_eq_true rfl) vc_0 (Nat.le_of_ble_eq_true rfl) q623)
theorem n86_160 : Snd mt G 86 160 (oGetf [2] 3 163) := w_getfN (hm := mm86) dX1_count_160 (fokn1 (k := 3) (T := TX2) 1 (Nat.le_of_ble_eq_true rfl) vc_1 (Nat.le_of_ble_eq_true rfl) q549)
theorem n86_163 : Snd mt G 86 163 (oCall 1 (fV [3] 175 1) 0 166 xOut) := s_callV (m' := 175) (n := 0) xsh_out (w_xok0 mm86) (w_cal mm86 mm175 pn_J2 (Nat.le_of_ble_eq_true rfl) (Nat.le_of_ble_eq_true rfl)) (fun h b as hc hn => w_run_V (ci := 2) mm86 mm175 dX1_count_163 (Or.inl (List.mem_singleton.mp hc)) (Nat.le_of_ble_eq_true rfl) vc_2 rfl q709 q710 q711 q133 q712 pa175 hn)
theorem n86_166 : Snd mt G 86 166 (oRetI .int) := w_iret (hm := mm86) dX1_count_166 rfl
theorem n86_167 : Snd mt G 86 167 (oAload 0 168) := w_aload_n (hm := mm86) dX1_count_167
theorem n86_168 : Snd mt G 86 168 (oGetf [1] 6 171) := w_getf (hm := mm86) dX1_count_168 (fok1 (k := 6) (T := TX1) 0 (Nat.le_of_ble_eq_true rfl) vc_0 (Nat.le_of_ble_eq_true rfl) q629)
theorem n86_171 : Snd mt G 86 171 (oRetI .int) := w_iret (hm := mm86) dX1_count_171 rfl
theorem n86_172 : Snd mt G 86 172 (oAload 0 173) := w_aload_n (hm := mm86) dX1_count_172
theorem n86_173 : Snd mt G 86 173 (oGetf [1] 4 176) := w_getf (hm := mm86) dX1_count_173 (fok1 (k := 4) (T := TX1) 0 (Nat.le_of_ble_eq_true rfl) vc_0 (Nat.le_of_ble_eq_true rfl) q627)
theorem n86_176 : Snd mt G 86 176 (oRetI .int) := w_iret (hm := mm86) dX1_count_176 rfl
theorem n86_177 : Snd mt G 86 177 (oAload 0 178) := w_aload_n (hm := mm86) dX1_count_177
theorem n86_178 : Snd mt G 86 178 (oGetf [1] 0 181) := w_getf (hm := mm86) dX1_count_178 (fok1 (k := 0) (T := TX1) 0 (Nat.le_of_ble_eq_true rfl) vc_0 (Nat.le_of_ble_eq_true rfl) q623)
theorem n86_181 : Snd mt G 86 181 (oGetf [2] 14 184) := w_getfN (hm := mm86) dX1_count_181 (fokn1 (k := 14) (T := TX2) 1 (Nat.le_of_ble_eq_true rfl) vc_1 (Nat.le_of_ble_eq_true rfl) q571)
theorem n86_184 : Snd mt G 86 184 (oCall 1 (fS 274 1) 0 187 xOut) := s_callS (m' := 274) (n := 1) xsh_out (w_xok0 mm86) (w_cal mm86 mm274 pn_J17 (Nat.le_of_ble_eq_true rfl) (Nat.le_of_ble_eq_true rfl)) (fun h as hn => w_run_S mm86 mm274 dX1_count_184 q957 q958 q149 q959 pa274 hn)
theorem n86_187 : Snd mt G 86 187 (oRetI .int) := w_iret (hm := mm86) dX1_count_187 rfl
theorem n86_188 : Snd mt G 86 188 (oAload 0 189) := w_aload_n (hm := mm86) dX1_count_188
theorem n86_189 : Snd mt G 86 189 (oGetf [1] 0 192) := w_getf (hm := mm86) dX1_count_189 (fok1 (k := 0) (T := TX1) 0 (Nat.le_of_ble_eq_true rfl) vc_0 (Nat.le_of_ble_eq_true rfl) q623)
theorem n86_192 : Snd mt G 86 192 (oGetf [2] 15 195) := w_getfN (hm := mm86) dX1_count_192 (fokn1 (k := 15) (T := TX2) 1 (Nat.le_of_ble_eq_true rfl) vc_1 (Nat.le_of_ble_eq_true rfl) q573)
theorem n86_195 : Snd mt G 86 195 (oCall 1 (fS 274 1) 0 198 xOut) := s_callS (m' := 274) (n := 1) xsh_out (w_xok0 mm86) (w_cal mm86 mm274 pn_J17 (Nat.le_of_ble_eq_true rfl) (Nat.le_of_ble_eq_true rfl)) (fun h as hn => w_run_S mm86 mm274 dX1_count_195 q957 q958 q149 q959 pa274 hn)
theorem n86_198 : Snd mt G 86 198 (oRetI .int) := w_iret (hm := mm86) dX1_count_198 rfl
theorem n86_199 : Snd mt G 86 199 (oAload 0 200) := w_aload_n (hm := mm86) dX1_count_199
theorem n86_200 : Snd mt G 86 200 (oGetf [1] 0 203) := w_getf (hm := mm86) dX1_count_200 (fok1 (k := 0) (T := TX1) 0 (Nat.le_of_ble_eq_true rfl) vc_0 (Nat.le_of_ble_eq_true rfl) q623)
theorem n86_203 : Snd mt G 86 203 (oGetf [2] 6 206) := w_getfN (hm := mm86) dX1_count_203 (fokn1 (k := 6) (T := TX2) 1 (Nat.le_of_ble_eq_true rfl) vc_1 (Nat.le_of_ble_eq_true rfl) q555)
theorem n86_206 : Snd mt G 86 206 (oCall 1 (fV [3] 175 1) 0 209 xOut) := s_callV (m' := 175) (n := 0) xsh_out (w_xok0 mm86) (w_cal mm86 mm175 pn_J2 (Nat.le_of_ble_eq_true rfl) (Nat.le_of_ble_eq_true rfl)) (fun h b as hc hn => w_run_V (ci := 2) mm86 mm175 dX1_count_206 (Or.inl (List.mem_singleton.mp hc)) (Nat.le_of_ble_eq_true rfl) vc_2 rfl q709 q710 q711 q133 q712 pa175 hn)
theorem n86_209 : Snd mt G 86 209 (oRetI .int) := w_iret (hm := mm86) dX1_count_209 rfl
theorem n86_210 : Snd mt G 86 210 (oAload 0 211) := w_aload_n (hm := mm86) dX1_count_210
theorem n86_211 : Snd mt G 86 211 (oGetf [1] 0 214) := w_getf (hm := mm86) dX1_count_211 (fok1 (k := 0) (T := TX1) 0 (Nat.le_of_ble_eq_true rfl) vc_0 (Nat.le_of_ble_eq_true rfl) q623)
theorem n86_214 : Snd mt G 86 214 (oGetf [2] 7 217) := w_getfN (hm := mm86) dX1_count_214 (fokn1 (k := 7) (T := TX2) 1 (Nat.le_of_ble_eq_true rfl) vc_1 (Nat.le_of_ble_eq_true rfl) q557)
theorem n86_217 : Snd mt G 86 217 (oCall 1 (fV [3] 175 1) 0 220 xOut) := s_callV (m' := 175) (n := 0) xsh_out (w_xok0 mm86) (w_cal mm86 mm175 pn_J2 (Nat.le_of_ble_eq_true rfl) (Nat.le_of_ble_eq_true rfl)) (fun h b as hc hn => w_run_V (ci := 2) mm86 mm175 dX1_count_217 (Or.inl (List.mem_singleton.mp hc)) (Nat.le_of_ble_eq_true rfl) vc_2 rfl q709 q710 q711 q133 q712 pa175 hn)
theorem n86_220 : Snd mt G 86 220 (oRetI .int) := w_iret (hm := mm86) dX1_count_220 rfl
theorem n86_221 : Snd mt G 86 221 (oAload 0 222) := w_aload_n (hm := mm86) dX1_count_221
theorem n86_222 : Snd mt G 86 222 (oGetf [1] 0 225) := w_getf (hm := mm86) dX1_count_222 (fok1 (k := 0) (T := TX1) 0 (Nat.le_of_ble_eq_true rfl) vc_0 (Nat.le_of_ble_eq_true rfl) q623)
theorem n86_225 : Snd mt G 86 225 (oGetf [2] 8 228) := w_getfN (hm := mm86) dX1_count_225 (fokn1 (k := 8) (T := TX2) 1 (Nat.le_of_ble_eq_true rfl) vc_1 (Nat.le_of_ble_eq_true rfl) q559)
theorem n86_228 : Snd mt G 86 228 (oCall 1 (fV [3] 175 1) 0 231 xOut) := s_callV (m' := 175) (n := 0) xsh_out (w_xok0 mm86) (w_cal mm86 mm175 pn_J2 (Nat.le_of_ble_eq_true rfl) (Nat.le_of_ble_eq_true rfl)) (fun h b as hc hn => w_run_V (ci := 2) mm86 mm175 dX1_count_228 (Or.inl (List.mem_singleton.mp hc)) (Nat.le_of_ble_eq_true rfl) vc_2 rfl q709 q710 q711 q133 q712 pa175 hn)
theorem n86_231 : Snd mt G 86 231 (oRetI .int) := w_iret (hm := mm86) dX1_count_231 rfl
theorem n86_232 : Snd mt G 86 232 (oAload 0 233) := w_aload_n (hm := mm86) dX1_count_232
theorem n86_233 : Snd mt G 86 233 (oGetf [1] 0 236) := w_getf (hm := mm86) dX1_count_233 (fok1 (k := 0) (T := TX1) 0 (Nat.le_of_ble_eq_true rfl) vc_0 (Nat.le_of_ble_eq_true rfl) q623)
theorem n86_236 : Snd mt G 86 236 (oGetf [2] 9 239) := w_getfN (hm := mm86) dX1_count_236 (fokn1 (k := 9) (T := TX2) 1 (Nat.le_of_ble_eq_true rfl) vc_1 (Nat.le_of_ble_eq_true rfl) q561)
theorem n86_239 : Snd mt G 86 239 (oCall 1 (fV [3] 175 1) 0 242 xOut) := s_callV (m' := 175) (n := 0) xsh_out (w_xok0 mm86) (w_cal mm86 mm175 pn_J2 (Nat.le_of_ble_eq_true rfl) (Nat.le_of_ble_eq_true rfl)) (fun h b as hc hn => w_run_V (ci := 2) mm86 mm175 dX1_count_239 (Or.inl (List.mem_singleton.mp hc)) (Nat.le_of_ble_eq_true rfl) vc_2 rfl q709 q710 q711 q133 q712 pa175 hn)
theorem n86_242 : Snd mt G 86 242 (oRetI .int) := w_iret (hm := mm86) dX1_count_242 rfl
theorem n86_243 : Snd mt G 86 243 (oAload 0 244) := w_aload_n (hm := mm86) dX1_count_243
theorem n86_244 : Snd mt G 86 244 (oGetf [1] 0 247) := w_getf (hm := mm86) dX1_count_244 (fok1 (k := 0) (T := TX1) 0 (Nat.le_of_ble_eq_true rfl) vc_0 (Nat.le_of_ble_eq_true rfl) q623)
theorem n86_247 : Snd mt G 86 247 (oGetf [2] 17 250) := w_getfN (hm := mm86) dX1_count_247 (fokn1 (k := 17) (T := TX2) 1 (Nat.le_of_ble_eq_true rfl) vc_1 (Nat.le_of_ble_eq_true rfl) q577)
theorem n86_250 : Snd mt G 86 250 (oRetI .int) := w_iret (hm := mm86) dX1_count_250 rfl
theorem n86_251 : Snd mt G 86 251 (oAload 0 252) := w_aload_n (hm := mm86) dX1_count_251
theorem n86_252 : Snd mt G 86 252 (oGetf [1] 0 255) := w_getf (hm := mm86) dX1_count_252 (fok1 (k := 0) (T := TX1) 0 (Nat.le_of_ble_eq_true rfl) vc_0 (Nat.le_of_ble_eq_true rfl) q623)
theorem n86_255 : Snd mt G 86 255 (oGetf [2] 18 258) := w_getfN (hm := mm86) dX1_count_255 (fokn1 (k := 18) (T := TX2) 1 (Nat.le_of_ble_eq_true rfl) vc_1 (Nat.le_of_ble_eq_true rfl) q579)
theorem n86_258 : Snd mt G 86 258 (oRetI .int) := w_iret (hm := mm86) dX1_count_258 rfl
theorem n86_259 : Snd mt G 86 259 (oConst (.int (-1)) 260) := w_iconst (hm := mm86) dX1_count_259 rfl
theorem n86_260 : Snd mt G 86 260 (oRetI .int) := w_iret (hm := mm86) dX1_count_260 rfl
theorem sj86 : ∀ pc, Snd mt G 86 pc (j86 pc) := fun pc => (snd_br ((snd_br ((snd_br ((snd_br ((snd_br ((snd_br ((snd_br ((snd_lf n86_260)) ((snd_lf n86_259)))) ((snd_lf n86_258)))) ((snd_br ((snd_br ((snd_lf n86_255)) ((snd_lf n86_252)))) ((snd_lf n86_251)))))) ((snd_br ((snd_br ((snd_br ((snd_lf n86_250)) ((snd_lf n86_247)))) ((snd_lf n86_244)))) ((snd_br ((snd_lf n86_243)) ((snd_lf n86_242)))))))) ((snd_br ((snd_br ((snd_br ((snd_br ((snd_lf n86_239)) ((snd_lf n86_236)))) ((snd_lf n86_233)))) ((snd_br ((snd_br ((snd_lf n86_232)) ((snd_lf n86_231)))) ((snd_lf n86_228)))))) ((snd_br ((snd_br ((snd_br ((snd_lf n86_225)) ((snd_lf n86_222)))) ((snd_lf n86_221)))) ((snd_br ((snd_lf n86_220)) ((snd_lf n86_217)))))))))) ((snd_br ((snd_br ((snd_br ((snd_br ((snd_br ((snd_lf n86_214)) ((snd_lf n86_211)))) ((snd_lf n86_210)))) ((snd_br ((snd_br ((snd_lf n86_209)) ((snd_lf n86_206)))) ((snd_lf n86_203)))))) ((snd_br ((snd_br ((snd_br ((snd_lf n86_200)) ((snd_lf n86_199)))) ((snd_lf n86_198)))) ((snd_br ((snd_lf n86_195)) ((snd_lf n86_192)))))))) ((snd_br ((snd_br ((snd_br ((snd_br ((snd_lf n86_189)) ((snd_lf n86_188)))) ((snd_lf n86_187)))) ((snd_br ((snd_lf n86_184)) ((snd_lf n86_181)))))) ((snd_br ((snd_br ((snd_br ((snd_lf n86_178)) ((snd_lf n86_177)))) ((snd_lf n86_176)))) ((snd_br ((snd_lf n86_173)) ((snd_lf n86_172)))))))))))) ((snd_br ((snd_br ((snd_br ((snd_br ((snd_br ((snd_br ((snd_lf n86_171)) ((snd_lf n86_168)))) ((snd_lf n86_167)))) ((snd_br ((snd_br ((snd_lf n86_166)) ((snd_lf n86_163)))) ((snd_lf n86_160)))))) ((snd_br ((snd_br ((snd_br ((snd_lf n86_157)) ((snd_lf n86_156)))) ((snd_lf n86_155)))) ((snd_br ((snd_lf n86_152)) ((snd_lf n86_149)))))))) ((snd_br ((snd_br ((snd_br ((snd_br ((snd_lf n86_146)) ((snd_lf n86_145)))) ((snd_lf n86_144)))) ((snd_br ((snd_lf n86_141)) ((snd_lf n86_138)))))) ((snd_br ((snd_br ((snd_br ((snd_lf n86_137)) ((snd_lf n86_136)))) ((snd_lf n86_133)))) ((snd_br ((snd_lf n86_130)) ((snd_lf n86_127)))))))))) ((snd_br ((snd_br ((snd_br ((snd_br ((snd_br ((snd_lf n86_126)) ((snd_lf n86_125)))) ((snd_lf n86_122)))) ((snd_br ((snd_br ((snd_lf n86_119)) ((snd_lf n86_118)))) ((snd_lf n86_117)))))) ((snd_br ((snd_br ((snd_br ((snd_lf n86_114)) ((snd_lf n86_111)))) ((snd_lf n86_108)))) ((snd_br ((snd_lf n86_107)) ((snd_lf n86_106)))))))) ((snd_br ((snd_br ((snd_br ((snd_br ((snd_lf n86_103)) ((snd_lf n86_100)))) ((snd_lf n86_97)))) ((snd_br ((snd_lf n86_96)) ((snd_lf n86_95)))))) ((snd_br ((snd_br ((snd_br ((snd_lf n86_92)) ((snd_lf n86_89)))) ((snd_lf n86_88)))) ((snd_br ((snd_lf n86_1)) ((snd_lf n86_0)))))))))))))
end
section
variable {G : AG}
theorem n87_0 : Snd mt G 87 0 (oIload 1 1) := w_iload_n (hm := mm87) dX1_rules_0
theorem n87_1 : Snd mt G 87 1 (oCall 1 (fS 88 1) 0 4 xOut) := s_callS (m' := 88) (n := 1) xsh_out (w_xok1 mm87 (by decide)) (w_cal mm87 mm88 pn_X1 (Nat.le_of_ble_eq_true rfl) (Nat.le_of_ble_eq_true rfl)) (fun h as hn => w_run_S mm87 mm88 dX1_rules_1 q1177 q1178 q129 q1179 pa88 hn)
theorem n87_4 : Snd mt G 87 4 (oIfEq 23 7) := w_if_eq (hm := mm87) dX1_rules_4 rfl
theorem n87_7 : Snd mt G 87 7 (oIload 2 8) := w_iload_n (hm := mm87) dX1_rules_7
theorem n87_8 : Snd mt G 87 8 (oIfLt 23 11) := w_if_lt (hm := mm87) dX1_rules_8 rfl
theorem n87_11 : Snd mt G 87 11 (oIload 2 12) := w_iload_n (hm := mm87) dX1_rules_11
theorem n87_12 : Snd mt G 87 12 (oAload 0 13) := w_aload_n (hm := mm87) dX1_rules_12
theorem n87_13 : Snd mt G 87 13 (oGetf [1] 4 16) := w_getf (hm := mm87) dX1_rules_13 (fok1 (k := 4) (T := TX1) 0 (Nat.le_of_ble_eq_true rfl) vc_0 (Nat.le_of_ble_eq_true rfl) q627)
theorem n87_16 : Snd mt G 87 16 (oCmpGt 23 19) := w_icmp_gt (hm := mm87) dX1_rules_16 rfl
theorem n87_19 : Snd mt G 87 19 (oConst (.int 1) 20) := w_iconst (hm := mm87) dX1_rules_19 rfl
theorem n87_20 : Snd mt G 87 20 (oGoto 24) := w_goto (hm := mm87) dX1_rules_20 rfl
theorem n87_23 : Snd mt G 87 23 (oConst (.int 0) 24) := w_iconst (hm := mm87) dX1_rules_23 rfl
theorem n87_24 : Snd mt G 87 24 (oCall 1 (fS 89 1) 0 27 xOut) := s_callS (m' := 89) (n := 1) xsh_out (w_xok1 mm87 (by decide)) (w_cal mm87 mm89 pn_X1 (Nat.le_of_ble_eq_true rfl) (Nat.le_of_ble_eq_true rfl)) (fun h as hn => w_run_S mm87 mm89 dX1_rules_24 q1180 q1181 q129 q1182 pa89 hn)
theorem n87_27 : Snd mt G 87 27 (oAload 0 28) := w_aload_n (hm := mm87) dX1_rules_27
theorem n87_28 : Snd mt G 87 28 (oConst (.int (-1)) 29) := w_iconst (hm := mm87) dX1_rules_28 rfl
theorem n87_29 : Snd mt G 87 29 (oPutf [1] 5 .int 32) := w_putf (hm := mm87) dX1_rules_29 (pok1 (k := 5) (T := TX1) 0 (Nat.le_of_ble_eq_true rfl) vc_0 (Nat.le_of_ble_eq_true rfl) rfl pd_X1_5 q628)
theorem n87_32 : Snd mt G 87 32 (oAload 0 33) := w_aload_n (hm := mm87) dX1_rules_32
theorem n87_33 : Snd mt G 87 33 (oGetf [1] 1 36) := w_getf (hm := mm87) dX1_rules_33 (fok1 (k := 1) (T := TX1) 0 (Nat.le_of_ble_eq_true rfl) vc_0 (Nat.le_of_ble_eq_true rfl) q624)
theorem n87_36 : Snd mt G 87 36 (oCall 1 (fV [3] 175 1) 0 39 (xCatch [(7, 100)])) := s_callV (m' := 175) (n := 0) (xsh_catch _) (w_xokC mm87 (List.forall_mem_cons.mpr ⟨⟨6, _, 0, _, _, rfl, (Nat.le_of_ble_eq_true rfl), vc_6, rfl, rfl, (fun y hy => nomatch hy), by decide, by decide, q1176, List.mem_filter.mpr ⟨q1339, rfl⟩⟩, (fun y hy => nomatch hy)⟩)) (w_cal mm87 mm175 pn_J2 (Nat.le_of_ble_eq_true rfl) (Nat.le_of_ble_eq_true rfl)) (fun h b as hc hn => w_run_V (ci := 2) mm87 mm175 dX1_rules_36 (Or.inl (List.mem_singleton.mp hc)) (Nat.le_of_ble_eq_true rfl) vc_2 rfl q709 q710 q711 q133 q712 pa175 hn)
theorem n87_39 : Snd mt G 87 39 (oConst (.int 5) 40) := w_iconst (hm := mm87) dX1_rules_39 rfl
theorem n87_40 : Snd mt G 87 40 (oCmpEq 43 52) := w_icmp_ne (hm := mm87) dX1_rules_40 rfl
theorem n87_43 : Snd mt G 87 43 (oConst (.int (-1)) 44) := w_iconst (hm := mm87) dX1_rules_43 rfl
theorem n87_44 : Snd mt G 87 44 (oIstore 3 45) := w_istore_n (hm := mm87) dX1_rules_44 (Nat.le_of_ble_eq_true rfl)
theorem n87_45 : Snd mt G 87 45 (oAload 0 46) := w_aload_n (hm := mm87) dX1_rules_45
theorem n87_46 : Snd mt G 87 46 (oConst (.int 0) 47) := w_iconst (hm := mm87) dX1_rules_46 rfl
theorem n87_47 : Snd mt G 87 47 (oPutf [1] 4 .int 50) := w_putf (hm := mm87) dX1_rules_47 (pok1 (k := 4) (T := TX1) 0 (Nat.le_of_ble_eq_true rfl) vc_0 (Nat.le_of_ble_eq_true rfl) rfl pd_X1_4 q627)
theorem n87_50 : Snd mt G 87 50 (oIload 3 51) := w_iload_n (hm := mm87) dX1_rules_50
theorem n87_51 : Snd mt G 87 51 (oRetI .int) := w_iret (hm := mm87) dX1_rules_51 rfl
theorem n87_52 : Snd mt G 87 52 (oAload 0 53) := w_aload_n (hm := mm87) dX1_rules_52
theorem n87_53 : Snd mt G 87 53 (oGetf [1] 1 56) := w_getf (hm := mm87) dX1_rules_53 (fok1 (k := 1) (T := TX1) 0 (Nat.le_of_ble_eq_true rfl) vc_0 (Nat.le_of_ble_eq_true rfl) q624)
theorem n87_56 : Snd mt G 87 56 (oNew 5 2 nfX4 59) := w_new (hm := mm87) (ci := 4) (T9 := TX4) (ty := tyX4) dX1_rules_56 (Nat.le_of_ble_eq_true rfl) vc_4 tyX4_ok (fun _ _ => rfl) q744 q1194 q151
theorem n87_59 : Snd mt G 87 59 (oDup 60) := w_dup (hm := mm87) dX1_rules_59
theorem n87_60 : Snd mt G 87 60 (oIload 1 61) := w_iload_n (hm := mm87) dX1_rules_60
theorem n87_61 : Snd mt G 87 61 (oNew 6 4 nfX5 64) := w_new (hm := mm87) (ci := 5) (T9 := TX5) (ty := tyX5) dX1_rules_61 (Nat.le_of_ble_eq_true rfl) vc_5 tyX5_ok (fun _ _ => rfl) q1195 q1196 q152
theorem n87_64 : Snd mt G 87 64 (oDup 65) := w_dup (hm := mm87) dX1_rules_64
theorem n87_65 : Snd mt G 87 65 (oAload 0 66) := w_aload_n (hm := mm87) dX1_rules_65
theorem n87_66 : Snd mt G 87 66 (oGetf [1] 7 69) := w_getf (hm := mm87) dX1_rules_66 (fok1 (k := 7) (T := TX1) 0 (Nat.le_of_ble_eq_true rfl) vc_0 (Nat.le_of_ble_eq_true rfl) q630)
theorem n87_69 : Snd mt G 87 69 (oIload 2 70) := w_iload_n (hm := mm87) dX1_rules_69
theorem n87_70 : Snd mt G 87 70 (oCall 3 (fI 423 3) 0 73 (xCatch [(7, 100)])) := s_callI (m' := 423) (n := 2) (xsh_catch _) (w_xokC mm87 (List.forall_mem_cons.mpr ⟨⟨6, _, 1, _, _, rfl, (Nat.le_of_ble_eq_true rfl), vc_6, rfl, rfl, (List.forall_mem_cons.mpr ⟨Or.inl (by decide), (fun y hy => nomatch hy)⟩), by decide, by decide, q1176, List.mem_filter.mpr ⟨q1339, rfl⟩⟩, (fun y hy => nomatch hy)⟩)) (w_cal mm87 mm423 pn_X5 (Nat.le_of_ble_eq_true rfl) (Nat.le_of_ble_eq_true rfl)) (fun h b as hn => w_run_I mm87 mm423 dX1_rules_70 rfl rfl q1197 q1198 q152 q1199 pa423 hn)
theorem n87_73 : Snd mt G 87 73 (oCall 1 (fV [6] 424 3) 0 76 (xCatch [(7, 100)])) := s_callV (m' := 424) (n := 0) (xsh_catch _) (w_xokC mm87 (List.forall_mem_cons.mpr ⟨⟨6, _, 1, _, _, rfl, (Nat.le_of_ble_eq_true rfl), vc_6, rfl, rfl, (List.forall_mem_cons.mpr ⟨Or.inl (by decide), (fun y hy => nomatch hy)⟩), by decide, by decide, q1176, List.mem_filter.mpr ⟨q1339, rfl⟩⟩, (fun y hy => nomatch hy)⟩)) (w_cal mm87 mm424 pn_X5 (Nat.le_of_ble_eq_true rfl) (Nat.le_of_ble_eq_true rfl)) (fun h b as hc hn => w_run_V (ci := 5) mm87 mm424 dX1_rules_73 (Or.inl (List.mem_singleton.mp hc)) (Nat.le_of_ble_eq_true rfl) vc_5 rfl q1214 q1215 q1216 q152 q1217 pa424 hn)
theorem n87_76 : Snd mt G 87 76 (oCall 3 (fI 422 3) 0 79 (xCatch [(7, 100)])) := s_callI (m' := 422) (n := 2) (xsh_catch _) (w_xokC mm87 (List.forall_mem_cons.mpr ⟨⟨6, _, 1, _, _, rfl, (Nat.le_of_ble_eq_true rfl), vc_6, rfl, rfl, (List.forall_mem_cons.mpr ⟨Or.inl (by decide), (fun y hy => nomatch hy)⟩), by decide, by decide, q1176, List.mem_filter.mpr ⟨q1339, rfl⟩⟩, (fun y hy => nomatch hy)⟩)) (w_cal mm87 mm422 pn_X4 (Nat.le_of_ble_eq_true rfl) (Nat.le_of_ble_eq_true rfl)) (fun h b as hn => w_run_I mm87 mm422 dX1_rules_76 rfl rfl q1592 q1593 q151 q1594 pa422 hn)
theorem n87_79 : Snd mt G 87 79 (oCall 2 (fV [3] 179 2) 0 82 (xCatch [(7, 100)])) := s_callV (m' := 179) (n := 1) (xsh_catch _) (w_xokC mm87 (List.forall_mem_cons.mpr ⟨⟨6, _, 1, _, _, rfl, (Nat.le_of_ble_eq_true rfl), vc_6, rfl, rfl, (List.forall_mem_cons.mpr ⟨Or.inl (by decide), (fun y hy => nomatch hy)⟩), by decide, by decide, q1176, List.mem_filter.mpr ⟨q1339, rfl⟩⟩, (fun y hy => nomatch hy)⟩)) (w_cal mm87 mm179 pn_J2 (Nat.le_of_ble_eq_true rfl) (Nat.le_of_ble_eq_true rfl)) (fun h b as hc hn => w_run_V (ci := 2) mm87 mm179 dX1_rules_79 (Or.inl (List.mem_singleton.mp hc)) (Nat.le_of_ble_eq_true rfl) vc_2 rfl q1605 q985 q986 q133 q987 pa179 hn)
theorem n87_82 : Snd mt G 87 82 (oPop 83) := w_pop (hm := mm87) dX1_rules_82
theorem n87_83 : Snd mt G 87 83 (oAload 0 84) := w_aload_n (hm := mm87) dX1_rules_83
theorem n87_84 : Snd mt G 87 84 (oGetf [1] 1 87) := w_getf (hm := mm87) dX1_rules_84 (fok1 (k := 1) (T := TX1) 0 (Nat.le_of_ble_eq_true rfl) vc_0 (Nat.le_of_ble_eq_true rfl) q624)
theorem n87_87 : Snd mt G 87 87 (oCall 1 (fV [3] 175 1) 0 90 (xCatch [(7, 100)])) := s_callV (m' := 175) (n := 0) (xsh_catch _) (w_xokC mm87 (List.forall_mem_cons.mpr ⟨⟨6, _, 1, _, _, rfl, (Nat.le_of_ble_eq_true rfl), vc_6, rfl, rfl, (List.forall_mem_cons.mpr ⟨Or.inl (by decide), (fun y hy => nomatch hy)⟩), by decide, by decide, q1176, List.mem_filter.mpr ⟨q1339, rfl⟩⟩, (fun y hy => nomatch hy)⟩)) (w_cal mm87 mm175 pn_J2 (Nat.le_of_ble_eq_true rfl) (Nat.le_of_ble_eq_true rfl)) (fun h b as hc hn => w_run_V (ci := 2) mm87 mm175 dX1_rules_87 (Or.inl (List.mem_singleton.mp hc)) (Nat.le_of_ble_eq_true rfl) vc_2 rfl q709 q710 q711 q133 q712 pa175 hn)
theorem n87_90 : Snd mt G 87 90 (oConst (.int 1) 91) := w_iconst (hm := mm87) dX1_rules_90 rfl
theorem n87_91 : Snd mt G 87 91 (oBin (fun x y => x - y) 92) := w_isub (hm := mm87) dX1_rules_91
theorem n87_92 : Snd mt G 87 92 (oIstore 3 93) := w_istore_n (hm := mm87) dX1_rules_92 (Nat.le_of_ble_eq_true rfl)
theorem n87_93 : Snd mt G 87 93 (oAload 0 94) := w_aload_n (hm := mm87) dX1_rules_93
theorem n87_94 : Snd mt G 87 94 (oConst (.int 0) 95) := w_iconst (hm := mm87) dX1_rules_94 rfl
theorem n87_95 : Snd mt G 87 95 (oPutf [1] 4 .int 98) := w_putf (hm := mm87) dX1_rules_95 (pok1 (k := 4) (T := TX1) 0 (Nat.le_of_ble_eq_true rfl) vc_0 (Nat.le_of_ble_eq_true rfl) rfl pd_X1_4 q627)
theorem n87_98 : Snd mt G 87 98 (oIload 3 99) := w_iload_n (hm := mm87) dX1_rules_98
theorem n87_99 : Snd mt G 87 99 (oRetI .int) := w_iret (hm := mm87) dX1_rules_99 rfl
theorem n87_100 : Snd mt G 87 100 (oAstore 3 101) := w_astore_n (hm := mm87) dX1_rules_100 (Nat.le_of_ble_eq_true rfl)
theorem n87_101 : Snd mt G 87 101 (oAload 0 102) := w_aload_n (hm := mm87) dX1_rules_101
theorem n87_102 : Snd mt G 87 102 (oAload 3 103) := w_aload_n (hm := mm87) dX1_rules_102
theorem n87_103 : Snd mt G 87 103 (oGetf [7] 7 106) := w_getfN (hm := mm87) dX1_rules_103 (fokn1 (k := 7) (T := TX6) 6 (Nat.le_of_ble_eq_true rfl) vc_6 (Nat.le_of_ble_eq_true rfl) q1358)
theorem n87_106 : Snd mt G 87 106 (oPutf [1] 5 .int 109) := w_putf (hm := mm87) dX1_rules_106 (pok1 (k := 5) (T := TX1) 0 (Nat.le_of_ble_eq_true rfl) vc_0 (Nat.le_of_ble_eq_true rfl) rfl pd_X1_5 q628)
theorem n87_109 : Snd mt G 87 109 (oAload 3 110) := w_aload_n (hm := mm87) dX1_rules_109
theorem n87_110 : Snd mt G 87 110 (oGetf [7] 6 113) := w_getfN (hm := mm87) dX1_rules_110 (fokn1 (k := 6) (T := TX6) 6 (Nat.le_of_ble_eq_true rfl) vc_6 (Nat.le_of_ble_eq_true rfl) q1356)
theorem n87_113 : Snd mt G 87 113 (oConst (.int 10) 115) := w_bipush (hm := mm87) dX1_rules_113 (by decide)
theorem n87_115 : Snd mt G 87 115 (oBin (fun x y => x - y) 116) := w_isub (hm := mm87) dX1_rules_115
theorem n87_116 : Snd mt G 87 116 (oIstore 4 118) := w_istore (hm := mm87) dX1_rules_116 (Nat.le_of_ble_eq_true rfl)
theorem n87_118 : Snd mt G 87 118 (oAload 0 119) := w_aload_n (hm := mm87) dX1_rules_118
theorem n87_119 : Snd mt G 87 119 (oConst (.int 0) 120) := w_iconst (hm := mm87) dX1_rules_119 rfl
theorem n87_120 : Snd mt G 87 120 (oPutf [1] 4 .int 123) := w_putf (hm := mm87) dX1_rules_120 (pok1 (k := 4) (T := TX1) 0 (Nat.le_of_ble_eq_true rfl) vc_0 (Nat.le_of_ble_eq_true rfl) rfl pd_X1_4 q627)
theorem n87_123 : Snd mt G 87 123 (oIload 4 125) := w_iload (hm := mm87) dX1_rules_123
theorem n87_125 : Snd mt G 87 125 (oRetI .int) := w_iret (hm := mm87) dX1_rules_125 rfl
theorem n87_126 : Snd mt G 87 126 (oAstore 5 128) := w_astore (hm := mm87) dX1_rules_126 (Nat.le_of_ble_eq_true rfl)
theorem n87_128 : Snd mt G 87 128 (oAload 0 129) := w_aload_n (hm := mm87) dX1_rules_128
theorem n87_129 : Snd mt G 87 129 (oConst (.int 0) 130) := w_iconst (hm := mm87) dX1_rules_129 rfl
theorem n87_130 : Snd mt G 87 130 (oPutf [1] 4 .int 133) := w_putf (hm := mm87) dX1_rules_130 (pok1 (k := 4) (T := TX1) 0 (Nat.le_of_ble_eq_true rfl) vc_0 (Nat.le_of_ble_eq_true rfl) rfl pd_X1_4 q627)
theorem n87_133 : Snd mt G 87 133 (oAload 5 135) := w_aload (hm := mm87) dX1_rules_133
theorem n87_135 : Snd mt G 87 135 (fun _ _ _ _ => stuck) := snd_stuck
theorem sj87 : ∀ pc, Snd mt G 87 pc (j87 pc) := fun pc => (snd_br ((snd_br ((snd_br ((snd_br ((snd_br ((snd_br ((snd_br ((snd_lf n87_135)) ((snd_lf n87_133)))) ((snd_lf n87_130)))) ((snd_br ((snd_lf n87_129)) ((snd_lf n87_128)))))) ((snd_br ((snd_br ((snd_br ((snd_lf n87_126)) ((snd_lf n87_125)))) ((snd_lf n87_123)))) ((snd_br ((snd_lf n87_120)) ((snd_lf n87_119)))))))) ((snd_br ((snd_br ((snd_br ((snd_br ((snd_lf n87_118)) ((snd_lf n87_116)))) ((snd_lf n87_115)))) ((snd_br ((snd_lf n87_113)) ((snd_lf n87_110)))))) ((snd_br ((snd_br ((snd_lf n87_109)) ((snd_lf n87_106)))) ((snd_br ((snd_lf n87_103)) ((snd_lf n87_102)))))))))) ((snd_br ((snd_br ((snd_br ((snd_br ((snd_br ((snd_lf n87_101)) ((snd_lf n87_100)))) ((snd_lf n87_99)))) ((snd_br ((snd_lf n87_98)) ((snd_lf n87_95)))))) ((snd_br ((snd_br ((snd_br ((snd_lf n87_94)) ((snd_lf n87_93)))) ((snd_lf n87_92)))) ((snd_br ((snd_lf n87_91)) ((snd_lf n87_90)))))))) ((snd_br ((snd_br ((snd_br ((snd_br ((snd_lf n87_87)) ((snd_lf n87_84)))) ((snd_lf n87_83)))) ((snd_br ((snd_lf n87_82)) ((snd_lf n87_79)))))) ((snd_br ((snd_br ((snd_lf n87_76)) ((snd_lf n87_73)))) ((snd_br ((snd_lf n87_70)) ((snd_lf n87_69)))))))))))) ((snd_br ((snd_br ((snd_br ((snd_br ((snd_br ((snd_br ((snd_lf n87_66)) ((snd_lf n87_65)))) ((snd_lf n87_64)))) ((snd_br ((snd_lf n87_61)) ((snd_lf n87_60)))))) ((snd_br ((snd_br ((snd_br ((snd_lf n87_59)) ((snd_lf n87_56)))) ((snd_lf n87_53)))) ((snd_br ((snd_lf n87_52)) ((snd_lf n87_51)))))))) ((snd_br ((snd_br ((snd_br ((snd_br ((snd_lf n87_50)) ((snd_lf n87_47)))) ((snd_lf n87_46)))) ((snd_br ((snd_lf n87_45)) ((snd_lf n87_44)))))) ((snd_br ((snd_br ((snd_lf n87_43)) ((snd_lf n87_40)))) ((snd_br ((snd_lf n87_39)) ((snd_lf n87_36)))))))))) ((snd_br ((snd_br ((snd_br ((snd_br ((snd_br ((snd_lf n87_33)) ((snd_lf n87_32)))) ((snd_lf n87_29)))) ((snd_br ((snd_lf n87_28)) ((snd_lf n87_27)))))) ((snd_br ((snd_br ((snd_lf n87_24)) ((snd_lf n87_23)))) ((snd_br ((snd_lf n87_20)) ((snd_lf n87_19)))))))) ((snd_br ((snd_br ((snd_br ((snd_br ((snd_lf n87_16)) ((snd_lf n87_13)))) ((snd_lf n87_12)))) ((snd_br ((snd_lf n87_11)) ((snd_lf n87_8)))))) ((snd_br ((snd_br ((snd_lf n87_7)) ((snd_lf n87_4)))) ((snd_br ((snd_lf n87_1)) ((snd_lf n87_0)))))))))))))
end
section
variable {G : AG}
theorem n88_0 : Snd mt G 88 0 (oIload 0 1) := w_iload_n (hm := mm88) dX1_isDay_0
theorem n88_1 : Snd mt G 88 1 (oIfLt 15 4) := w_if_lt (hm := mm88) dX1_isDay_1 rfl
theorem n88_4 : Snd mt G 88 4 (oIload 0 5) := w_iload_n (hm := mm88) dX1_isDay_4
theorem n88_5 : Snd mt G 88 5 (oConst (.int 20000) 8) := w_sipush (hm := mm88) dX1_isDay_5 (by decide)
theorem n88_8 : Snd mt G 88 8 (oCmpGt 15 11) := w_icmp_gt (hm := mm88) dX1_isDay_8 rfl
theorem n88_11 : Snd mt G 88 11 (oConst (.int 1) 12) := w_iconst (hm := mm88) dX1_isDay_11 rfl
theorem n88_12 : Snd mt G 88 12 (oGoto 16) := w_goto (hm := mm88) dX1_isDay_12 rfl
theorem n88_15 : Snd mt G 88 15 (oConst (.int 0) 16) := w_iconst (hm := mm88) dX1_isDay_15 rfl
theorem n88_16 : Snd mt G 88 16 (oRetI .boolean) := w_zret (hm := mm88) dX1_isDay_16 rfl
theorem sj88 : ∀ pc, Snd mt G 88 pc (j88 pc) := fun pc => (snd_br ((snd_br ((snd_br ((snd_br ((snd_lf n88_16)) ((snd_lf n88_15)))) ((snd_lf n88_12)))) ((snd_br ((snd_lf n88_11)) ((snd_lf n88_8)))))) ((snd_br ((snd_br ((snd_lf n88_5)) ((snd_lf n88_4)))) ((snd_br ((snd_lf n88_1)) ((snd_lf n88_0)))))))
end
section
variable {G : AG}
theorem n89_0 : Snd mt G 89 0 (oIload 0 1) := w_iload_n (hm := mm89) dX1_need_0
theorem n89_1 : Snd mt G 89 1 (oIfEq 4 12) := w_if_ne (hm := mm89) dX1_need_1 rfl
theorem n89_4 : Snd mt G 89 4 (oThrow0 32) := w_throw0 (hm := mm89) (ci := 31) (Nat.le_of_ble_eq_true rfl) vc_31 rfl dX1_need_4 dX1_need_7 dX1_need_8 dX1_need_11 zt_X1_70_J6_f zt_X1_70_J6_n (Nat.le_of_ble_eq_true rfl) (Nat.le_of_ble_eq_true rfl) q1183 q137 zt_X1_70_J6_a zt_X1_70_J6_g (by decide)
theorem n89_7 : Snd mt G 89 7 (oDup 8) := w_dup (hm := mm89) dX1_need_7
theorem n89_8 : Snd mt G 89 8 (oCall 1 (fI 194 1) 0 11 xOut) := s_callI (m' := 194) (n := 0) xsh_out (w_xok0 mm89) (w_cal mm89 mm194 pn_J6 (Nat.le_of_ble_eq_true rfl) (Nat.le_of_ble_eq_true rfl)) (fun h b as hn => w_run_I mm89 mm194 dX1_need_8 rfl rfl q1184 q1185 q137 q1186 pa194 hn)
theorem n89_11 : Snd mt G 89 11 (oThrow [7]) := w_throw (hm := mm89) dX1_need_11 (List.forall_mem_cons.mpr ⟨⟨6, _, rfl, (Nat.le_of_ble_eq_true rfl), vc_6⟩, (fun t ht => nomatch ht)⟩) rfl
theorem n89_12 : Snd mt G 89 12 (oRetV) := w_vret (hm := mm89) dX1_need_12 rfl
theorem sj89 : ∀ pc, Snd mt G 89 pc (j89 pc) := fun pc => (snd_br ((snd_br ((snd_br ((snd_lf n89_12)) ((snd_lf n89_11)))) ((snd_br ((snd_lf n89_8)) ((snd_lf n89_7)))))) ((snd_br ((snd_br ((snd_lf n89_4)) ((snd_lf n89_1)))) ((snd_lf n89_0)))))
end
section
variable {G : AG}
theorem n90_0 : Snd mt G 90 0 (oIload 1 1) := w_iload_n (hm := mm90) dX1_counts_0
theorem n90_1 : Snd mt G 90 1 (oCall 1 (fS 88 1) 0 4 xOut) := s_callS (m' := 88) (n := 1) xsh_out (w_xok0 mm90) (w_cal mm90 mm88 pn_X1 (Nat.le_of_ble_eq_true rfl) (Nat.le_of_ble_eq_true rfl)) (fun h as hn => w_run_S mm90 mm88 dX1_counts_1 q1177 q1178 q129 q1179 pa88 hn)
theorem n90_4 : Snd mt G 90 4 (oCall 1 (fS 89 1) 0 7 xOut) := s_callS (m' := 89) (n := 1) xsh_out (w_xok0 mm90) (w_cal mm90 mm89 pn_X1 (Nat.le_of_ble_eq_true rfl) (Nat.le_of_ble_eq_true rfl)) (fun h as hn => w_run_S mm90 mm89 dX1_counts_4 q1180 q1181 q129 q1182 pa89 hn)
theorem n90_7 : Snd mt G 90 7 (oAload 0 8) := w_aload_n (hm := mm90) dX1_counts_7
theorem n90_8 : Snd mt G 90 8 (oIload 1 9) := w_iload_n (hm := mm90) dX1_counts_8
theorem n90_9 : Snd mt G 90 9 (oCall 2 (fV [1] 59 4) 0 12 xOut) := s_callV (m' := 59) (n := 1) xsh_out (w_xok0 mm90) (w_cal mm90 mm59 pn_X1 (Nat.le_of_ble_eq_true rfl) (Nat.le_of_ble_eq_true rfl)) (fun h b as hc hn => w_run_V (ci := 0) mm90 mm59 dX1_counts_9 (Or.inl (List.mem_singleton.mp hc)) (Nat.le_of_ble_eq_true rfl) vc_0 rfl q740 q742 qs5 q129 q743 pa59 hn)
theorem n90_12 : Snd mt G 90 12 (oRetI .int) := w_iret (hm := mm90) dX1_counts_12 rfl
theorem sj90 : ∀ pc, Snd mt G 90 pc (j90 pc) := fun pc => (snd_br ((snd_br ((snd_br ((snd_lf n90_12)) ((snd_lf n90_9)))) ((snd_br ((snd_lf n90_8)) ((snd_lf n90_7)))))) ((snd_br ((snd_br ((snd_lf n90_4)) ((snd_lf n90_1)))) ((snd_lf n90_0)))))
end
section
variable {G : AG}
theorem n91_0 : Snd mt G 91 0 (oIload 1 1) := w_iload_n (hm := mm91) dX1_model_0
theorem n91_1 : Snd mt G 91 1 (oCall 1 (fS 92 1) 0 4 xOut) := s_callS (m' := 92) (n := 1) xsh_out (w_xok0 mm91) (w_cal mm91 mm92 pn_X1 (Nat.le_of_ble_eq_true rfl) (Nat.le_of_ble_eq_true rfl)) (fun h as hn => w_run_S mm91 mm92 dX1_model_1 q1620 q1621 q129 q1622 pa92 hn)
theorem n91_4 : Snd mt G 91 4 (oIfEq 46 7) := w_if_eq (hm := mm91) dX1_model_4 rfl
theorem n91_7 : Snd mt G 91 7 (oIload 2 8) := w_iload_n (hm := mm91) dX1_model_7
theorem n91_8 : Snd mt G 91 8 (oIfLt 46 11) := w_if_lt (hm := mm91) dX1_model_8 rfl
theorem n91_11 : Snd mt G 91 11 (oIload 2 12) := w_iload_n (hm := mm91) dX1_model_11
theorem n91_12 : Snd mt G 91 12 (oConst (.int 9999) 15) := w_sipush (hm := mm91) dX1_model_12 (by decide)
theorem n91_15 : Snd mt G 91 15 (oCmpGt 46 18) := w_icmp_gt (hm := mm91) dX1_model_15 rfl
theorem n91_18 : Snd mt G 91 18 (oIload 3 19) := w_iload_n (hm := mm91) dX1_model_18
theorem n91_19 : Snd mt G 91 19 (oConst (.int 1) 20) := w_iconst (hm := mm91) dX1_model_19 rfl
theorem n91_20 : Snd mt G 91 20 (oCmpLt 46 23) := w_icmp_lt (hm := mm91) dX1_model_20 rfl
theorem n91_23 : Snd mt G 91 23 (oIload 3 24) := w_iload_n (hm := mm91) dX1_model_23
theorem n91_24 : Snd mt G 91 24 (oConst (.int 200) 27) := w_sipush (hm := mm91) dX1_model_24 (by decide)
theorem n91_27 : Snd mt G 91 27 (oCmpGt 46 30) := w_icmp_gt (hm := mm91) dX1_model_27 rfl
theorem n91_30 : Snd mt G 91 30 (oIload 4 32) := w_iload (hm := mm91) dX1_model_30
theorem n91_32 : Snd mt G 91 32 (oIfLt 46 35) := w_if_lt (hm := mm91) dX1_model_32 rfl
theorem n91_35 : Snd mt G 91 35 (oIload 4 37) := w_iload (hm := mm91) dX1_model_35
theorem n91_37 : Snd mt G 91 37 (oConst (.int 99999999) 39) := w_ldc (hm := mm91) dX1_model_37 q1623
theorem n91_39 : Snd mt G 91 39 (oCmpGt 46 42) := w_icmp_gt (hm := mm91) dX1_model_39 rfl
theorem n91_42 : Snd mt G 91 42 (oConst (.int 1) 43) := w_iconst (hm := mm91) dX1_model_42 rfl
theorem n91_43 : Snd mt G 91 43 (oGoto 47) := w_goto (hm := mm91) dX1_model_43 rfl
theorem n91_46 : Snd mt G 91 46 (oConst (.int 0) 47) := w_iconst (hm := mm91) dX1_model_46 rfl
theorem n91_47 : Snd mt G 91 47 (oCall 1 (fS 89 1) 0 50 xOut) := s_callS (m' := 89) (n := 1) xsh_out (w_xok0 mm91) (w_cal mm91 mm89 pn_X1 (Nat.le_of_ble_eq_true rfl) (Nat.le_of_ble_eq_true rfl)) (fun h as hn => w_run_S mm91 mm89 dX1_model_47 q1180 q1181 q129 q1182 pa89 hn)
theorem n91_50 : Snd mt G 91 50 (oAload 0 51) := w_aload_n (hm := mm91) dX1_model_50
theorem n91_51 : Snd mt G 91 51 (oGetf [1] 0 54) := w_getf (hm := mm91) dX1_model_51 (fok1 (k := 0) (T := TX1) 0 (Nat.le_of_ble_eq_true rfl) vc_0 (Nat.le_of_ble_eq_true rfl) q623)
theorem n91_54 : Snd mt G 91 54 (oGetf [2] 0 57) := w_getfN (hm := mm91) dX1_model_54 (fokn1 (k := 0) (T := TX2) 1 (Nat.le_of_ble_eq_true rfl) vc_1 (Nat.le_of_ble_eq_true rfl) q543)
theorem n91_57 : Snd mt G 91 57 (oCall 1 (fV [3] 175 1) 0 60 xOut) := s_callV (m' := 175) (n := 0) xsh_out (w_xok0 mm91) (w_cal mm91 mm175 pn_J2 (Nat.le_of_ble_eq_true rfl) (Nat.le_of_ble_eq_true rfl)) (fun h b as hc hn => w_run_V (ci := 2) mm91 mm175 dX1_model_57 (Or.inl (List.mem_singleton.mp hc)) (Nat.le_of_ble_eq_true rfl) vc_2 rfl q709 q710 q711 q133 q712 pa175 hn)
theorem n91_60 : Snd mt G 91 60 (oConst (.int 12) 62) := w_bipush (hm := mm91) dX1_model_60 (by decide)
theorem n91_62 : Snd mt G 91 62 (oCmpEq 65 67) := w_icmp_ne (hm := mm91) dX1_model_62 rfl
theorem n91_65 : Snd mt G 91 65 (oConst (.int (-1)) 66) := w_iconst (hm := mm91) dX1_model_65 rfl
theorem n91_66 : Snd mt G 91 66 (oRetI .int) := w_iret (hm := mm91) dX1_model_66 rfl
theorem n91_67 : Snd mt G 91 67 (oAload 0 68) := w_aload_n (hm := mm91) dX1_model_67
theorem n91_68 : Snd mt G 91 68 (oGetf [1] 0 71) := w_getf (hm := mm91) dX1_model_68 (fok1 (k := 0) (T := TX1) 0 (Nat.le_of_ble_eq_true rfl) vc_0 (Nat.le_of_ble_eq_true rfl) q623)
theorem n91_71 : Snd mt G 91 71 (oGetf [2] 0 74) := w_getfN (hm := mm91) dX1_model_71 (fokn1 (k := 0) (T := TX2) 1 (Nat.le_of_ble_eq_true rfl) vc_1 (Nat.le_of_ble_eq_true rfl) q543)
theorem n91_74 : Snd mt G 91 74 (oNew 18 4 nfX19 77) := w_new (hm := mm91) (ci := 17) (T9 := TX19) (ty := tyX19) dX1_model_74 (Nat.le_of_ble_eq_true rfl) vc_17 tyX19_ok (fun _ _ => rfl) q888 q1624 q167
theorem n91_77 : Snd mt G 91 77 (oDup 78) := w_dup (hm := mm91) dX1_model_77
theorem n91_78 : Snd mt G 91 78 (oIload 1 79) := w_iload_n (hm := mm91) dX1_model_78
theorem n91_79 : Snd mt G 91 79 (oIload 2 80) := w_iload_n (hm := mm91) dX1_model_79
theorem n91_80 : Snd mt G 91 80 (oIload 3 81) := w_iload_n (hm := mm91) dX1_model_80
theorem n91_81 : Snd mt G 91 81 (oIload 4 83) := w_iload (hm := mm91) dX1_model_81
theorem n91_83 : Snd mt G 91 83 (oCall 5 (fI 474 7) 0 86 xOut) := s_callI (m' := 474) (n := 4) xsh_out (w_xok0 mm91) (w_cal mm91 mm474 pn_X19 (Nat.le_of_ble_eq_true rfl) (Nat.le_of_ble_eq_true rfl)) (fun h b as hn => w_run_I mm91 mm474 dX1_model_83 rfl rfl q1625 q1626 q167 q1627 pa474 hn)
theorem n91_86 : Snd mt G 91 86 (oCall 2 (fV [3] 179 2) 0 89 xOut) := s_callV (m' := 179) (n := 1) xsh_out (w_xok0 mm91) (w_cal mm91 mm179 pn_J2 (Nat.le_of_ble_eq_true rfl) (Nat.le_of_ble_eq_true rfl)) (fun h b as hc hn => w_run_V (ci := 2) mm91 mm179 dX1_model_86 (Or.inl (List.mem_singleton.mp hc)) (Nat.le_of_ble_eq_true rfl) vc_2 rfl q1605 q985 q986 q133 q987 pa179 hn)
theorem n91_89 : Snd mt G 91 89 (oPop 90) := w_pop (hm := mm91) dX1_model_89
theorem n91_90 : Snd mt G 91 90 (oAload 0 91) := w_aload_n (hm := mm91) dX1_model_90
theorem n91_91 : Snd mt G 91 91 (oGetf [1] 0 94) := w_getf (hm := mm91) dX1_model_91 (fok1 (k := 0) (T := TX1) 0 (Nat.le_of_ble_eq_true rfl) vc_0 (Nat.le_of_ble_eq_true rfl) q623)
theorem n91_94 : Snd mt G 91 94 (oGetf [2] 0 97) := w_getfN (hm := mm91) dX1_model_94 (fokn1 (k := 0) (T := TX2) 1 (Nat.le_of_ble_eq_true rfl) vc_1 (Nat.le_of_ble_eq_true rfl) q543)
theorem n91_97 : Snd mt G 91 97 (oCall 1 (fV [3] 175 1) 0 100 xOut) := s_callV (m' := 175) (n := 0) xsh_out (w_xok0 mm91) (w_cal mm91 mm175 pn_J2 (Nat.le_of_ble_eq_true rfl) (Nat.le_of_ble_eq_true rfl)) (fun h b as hc hn => w_run_V (ci := 2) mm91 mm175 dX1_model_97 (Or.inl (List.mem_singleton.mp hc)) (Nat.le_of_ble_eq_true rfl) vc_2 rfl q709 q710 q711 q133 q712 pa175 hn)
theorem n91_100 : Snd mt G 91 100 (oConst (.int 1) 101) := w_iconst (hm := mm91) dX1_model_100 rfl
theorem n91_101 : Snd mt G 91 101 (oBin (fun x y => x - y) 102) := w_isub (hm := mm91) dX1_model_101
theorem n91_102 : Snd mt G 91 102 (oRetI .int) := w_iret (hm := mm91) dX1_model_102 rfl
theorem sj91 : ∀ pc, Snd mt G 91 pc (j91 pc) := fun pc => (snd_br ((snd_br ((snd_br ((snd_br ((snd_br ((snd_br ((snd_lf n91_102)) ((snd_lf n91_101)))) ((snd_br ((snd_lf n91_100)) ((snd_lf n91_97)))))) ((snd_br ((snd_br ((snd_lf n91_94)) ((snd_lf n91_91)))) ((snd_lf n91_90)))))) ((snd_br ((snd_br ((snd_br ((snd_lf n91_89)) ((snd_lf n91_86)))) ((snd_lf n91_83)))) ((snd_br ((snd_br ((snd_lf n91_81)) ((snd_lf n91_80)))) ((snd_lf n91_79)))))))) ((snd_br ((snd_br ((snd_br ((snd_br ((snd_lf n91_78)) ((snd_lf n91_77)))) ((snd_lf n91_74)))) ((snd_br ((snd_br ((snd_lf n91_71)) ((snd_lf n91_68)))) ((snd_lf n91_67)))))) ((snd_br ((snd_br ((snd_br ((snd_lf n91_66)) ((snd_lf n91_65)))) ((snd_lf n91_62)))) ((snd_br ((snd_br ((snd_lf n91_60)) ((snd_lf n91_57)))) ((snd_lf n91_54)))))))))) ((snd_br ((snd_br ((snd_br ((snd_br ((snd_br ((snd_lf n91_51)) ((snd_lf n91_50)))) ((snd_br ((snd_lf n91_47)) ((snd_lf n91_46)))))) ((snd_br ((snd_br ((snd_lf n91_43)) ((snd_lf n91_42)))) ((snd_lf n91_39)))))) ((snd_br ((snd_br ((snd_br ((snd_lf n91_37)) ((snd_lf n91_35)))) ((snd_lf n91_32)))) ((snd_br ((snd_br ((snd_lf n91_30)) ((snd_lf n91_27)))) ((snd_lf n91_24)))))))) ((snd_br ((snd_br ((snd_br ((snd_br ((snd_lf n91_23)) ((snd_lf n91_20)))) ((snd_lf n91_19)))) ((snd_br ((snd_br ((snd_lf n91_18)) ((snd_lf n91_15)))) ((snd_lf n91_12)))))) ((snd_br ((snd_br ((snd_br ((snd_lf n91_11)) ((snd_lf n91_8)))) ((snd_lf n91_7)))) ((snd_br ((snd_br ((snd_lf n91_4)) ((snd_lf n91_1)))) ((snd_lf n91_0)))))))))))
end
section
variable {G : AG}
theorem n92_0 : Snd mt G 92 0 (oIload 0 1) := w_iload_n (hm := mm92) dX1_isKind_0
theorem n92_1 : Snd mt G 92 1 (oIfLt 13 4) := w_if_lt (hm := mm92) dX1_isKind_1 rfl
theorem n92_4 : Snd mt G 92 4 (oIload 0 5) := w_iload_n (hm := mm92) dX1_isKind_4
theorem n92_5 : Snd mt G 92 5 (oConst (.int 4) 6) := w_iconst (hm := mm92) dX1_isKind_5 rfl
theorem n92_6 : Snd mt G 92 6 (oCmpGe 13 9) := w_icmp_ge (hm := mm92) dX1_isKind_6 rfl
theorem n92_9 : Snd mt G 92 9 (oConst (.int 1) 10) := w_iconst (hm := mm92) dX1_isKind_9 rfl
theorem n92_10 : Snd mt G 92 10 (oGoto 14) := w_goto (hm := mm92) dX1_isKind_10 rfl
theorem n92_13 : Snd mt G 92 13 (oConst (.int 0) 14) := w_iconst (hm := mm92) dX1_isKind_13 rfl
theorem n92_14 : Snd mt G 92 14 (oRetI .boolean) := w_zret (hm := mm92) dX1_isKind_14 rfl
theorem sj92 : ∀ pc, Snd mt G 92 pc (j92 pc) := fun pc => (snd_br ((snd_br ((snd_br ((snd_br ((snd_lf n92_14)) ((snd_lf n92_13)))) ((snd_lf n92_10)))) ((snd_br ((snd_lf n92_9)) ((snd_lf n92_6)))))) ((snd_br ((snd_br ((snd_lf n92_5)) ((snd_lf n92_4)))) ((snd_br ((snd_lf n92_1)) ((snd_lf n92_0)))))))
end
section
variable {G : AG}
theorem n93_0 : Snd mt G 93 0 (oIload 1 1) := w_iload_n (hm := mm93) dX1_days_0
theorem n93_1 : Snd mt G 93 1 (oIfLt 15 4) := w_if_lt (hm := mm93) dX1_days_1 rfl
theorem n93_4 : Snd mt G 93 4 (oIload 1 5) := w_iload_n (hm := mm93) dX1_days_4
theorem n93_5 : Snd mt G 93 5 (oConst (.int 999) 8) := w_sipush (hm := mm93) dX1_days_5 (by decide)
theorem n93_8 : Snd mt G 93 8 (oCmpGt 15 11) := w_icmp_gt (hm := mm93) dX1_days_8 rfl
theorem n93_11 : Snd mt G 93 11 (oConst (.int 1) 12) := w_iconst (hm := mm93) dX1_days_11 rfl
theorem n93_12 : Snd mt G 93 12 (oGoto 16) := w_goto (hm := mm93) dX1_days_12 rfl
theorem n93_15 : Snd mt G 93 15 (oConst (.int 0) 16) := w_iconst (hm := mm93) dX1_days_15 rfl
theorem n93_16 : Snd mt G 93 16 (oCall 1 (fS 89 1) 0 19 xOut) := s_callS (m' := 89) (n := 1) xsh_out (w_xok0 mm93) (w_cal mm93 mm89 pn_X1 (Nat.le_of_ble_eq_true rfl) (Nat.le_of_ble_eq_true rfl)) (fun h as hn => w_run_S mm93 mm89 dX1_days_16 q1180 q1181 q129 q1182 pa89 hn)
theorem n93_19 : Snd mt G 93 19 (oAload 0 20) := w_aload_n (hm := mm93) dX1_days_19
theorem n93_20 : Snd mt G 93 20 (oGetf [1] 0 23) := w_getf (hm := mm93) dX1_days_20 (fok1 (k := 0) (T := TX1) 0 (Nat.le_of_ble_eq_true rfl) vc_0 (Nat.le_of_ble_eq_true rfl) q623)
theorem n93_23 : Snd mt G 93 23 (oGetf [2] 12 26) := w_getfN (hm := mm93) dX1_days_23 (fokn1 (k := 12) (T := TX2) 1 (Nat.le_of_ble_eq_true rfl) vc_1 (Nat.le_of_ble_eq_true rfl) q567)
theorem n93_26 : Snd mt G 93 26 (oIload 1 27) := w_iload_n (hm := mm93) dX1_days_26
theorem n93_27 : Snd mt G 93 27 (oBin (fun x y => x + y) 28) := w_iadd (hm := mm93) dX1_days_27
theorem n93_28 : Snd mt G 93 28 (oConst (.int 20000) 31) := w_sipush (hm := mm93) dX1_days_28 (by decide)
theorem n93_31 : Snd mt G 93 31 (oCmpLe 42 34) := w_icmp_le (hm := mm93) dX1_days_31 rfl
theorem n93_34 : Snd mt G 93 34 (oThrow0 33) := w_throw0 (hm := mm93) (ci := 32) (Nat.le_of_ble_eq_true rfl) vc_32 rfl dX1_days_34 dX1_days_37 dX1_days_38 dX1_days_41 zt_X1_154_J19_f zt_X1_154_J19_n (Nat.le_of_ble_eq_true rfl) (Nat.le_of_ble_eq_true rfl) q1654 q168 zt_X1_154_J19_a zt_X1_154_J19_g (by decide)
theorem n93_37 : Snd mt G 93 37 (oDup 38) := w_dup (hm := mm93) dX1_days_37
theorem n93_38 : Snd mt G 93 38 (oCall 1 (fI 475 1) 0 41 xOut) := s_callI (m' := 475) (n := 0) xsh_out (w_xok0 mm93) (w_cal mm93 mm475 pn_J19 (Nat.le_of_ble_eq_true rfl) (Nat.le_of_ble_eq_true rfl)) (fun h b as hn => w_run_I mm93 mm475 dX1_days_38 rfl rfl q1663 q1664 q168 q1665 pa475 hn)
theorem n93_41 : Snd mt G 93 41 (oThrow [7]) := w_throw (hm := mm93) dX1_days_41 (List.forall_mem_cons.mpr ⟨⟨6, _, rfl, (Nat.le_of_ble_eq_true rfl), vc_6⟩, (fun t ht => nomatch ht)⟩) rfl
theorem n93_42 : Snd mt G 93 42 (oAload 0 43) := w_aload_n (hm := mm93) dX1_days_42
theorem n93_43 : Snd mt G 93 43 (oGetf [1] 0 46) := w_getf (hm := mm93) dX1_days_43 (fok1 (k := 0) (T := TX1) 0 (Nat.le_of_ble_eq_true rfl) vc_0 (Nat.le_of_ble_eq_true rfl) q623)
theorem n93_46 : Snd mt G 93 46 (oDup 47) := w_dup (hm := mm93) dX1_days_46
theorem n93_47 : Snd mt G 93 47 (oGetf [2] 12 50) := w_getfN (hm := mm93) dX1_days_47 (fokn1 (k := 12) (T := TX2) 1 (Nat.le_of_ble_eq_true rfl) vc_1 (Nat.le_of_ble_eq_true rfl) q567)
theorem n93_50 : Snd mt G 93 50 (oIload 1 51) := w_iload_n (hm := mm93) dX1_days_50
theorem n93_51 : Snd mt G 93 51 (oBin (fun x y => x + y) 52) := w_iadd (hm := mm93) dX1_days_51
theorem n93_52 : Snd mt G 93 52 (oPutf [2] 12 .int 55) := w_putfN (hm := mm93) dX1_days_52 (pnk1 (k := 12) (T := TX2) 1 (Nat.le_of_ble_eq_true rfl) vc_1 (Nat.le_of_ble_eq_true rfl) rfl pd_X2_12 q567)
theorem n93_55 : Snd mt G 93 55 (oAload 0 56) := w_aload_n (hm := mm93) dX1_days_55
theorem n93_56 : Snd mt G 93 56 (oGetf [1] 0 59) := w_getf (hm := mm93) dX1_days_56 (fok1 (k := 0) (T := TX1) 0 (Nat.le_of_ble_eq_true rfl) vc_0 (Nat.le_of_ble_eq_true rfl) q623)
theorem n93_59 : Snd mt G 93 59 (oGetf [2] 12 62) := w_getfN (hm := mm93) dX1_days_59 (fokn1 (k := 12) (T := TX2) 1 (Nat.le_of_ble_eq_true rfl) vc_1 (Nat.le_of_ble_eq_true rfl) q567)
theorem n93_62 : Snd mt G 93 62 (oRetI .int) := w_iret (hm := mm93) dX1_days_62 rfl
theorem sj93 : ∀ pc, Snd mt G 93 pc (j93 pc) := fun pc => (snd_br ((snd_br ((snd_br ((snd_br ((snd_br ((snd_lf n93_62)) ((snd_lf n93_59)))) ((snd_br ((snd_lf n93_56)) ((snd_lf n93_55)))))) ((snd_br ((snd_br ((snd_lf n93_52)) ((snd_lf n93_51)))) ((snd_br ((snd_lf n93_50)) ((snd_lf n93_47)))))))) ((snd_br ((snd_br ((snd_br ((snd_lf n93_46)) ((snd_lf n93_43)))) ((snd_br ((snd_lf n93_42)) ((snd_lf n93_41)))))) ((snd_br ((snd_br ((snd_lf n93_38)) ((snd_lf n93_37)))) ((snd_br ((snd_lf n93_34)) ((snd_lf n93_31)))))))))) ((snd_br ((snd_br ((snd_br ((snd_br ((snd_lf n93_28)) ((snd_lf n93_27)))) ((snd_br ((snd_lf n93_26)) ((snd_lf n93_23)))))) ((snd_br ((snd_br ((snd_lf n93_20)) ((snd_lf n93_19)))) ((snd_br ((snd_lf n93_16)) ((snd_lf n93_15)))))))) ((snd_br ((snd_br ((snd_br ((snd_lf n93_12)) ((snd_lf n93_11)))) ((snd_br ((snd_lf n93_8)) ((snd_lf n93_5)))))) ((snd_br ((snd_br ((snd_lf n93_4)) ((snd_lf n93_1)))) ((snd_lf n93_0)))))))))
end
section
variable {G : AG}
theorem n94_0 : Snd mt G 94 0 (oConst (.int 0) 1) := w_iconst (hm := mm94) dX1_person_0 rfl
theorem n94_1 : Snd mt G 94 1 (oIload 1 2) := w_iload_n (hm := mm94) dX1_person_1
theorem n94_2 : Snd mt G 94 2 (oCall 2 (fS 95 2) 0 5 xOut) := s_callS (m' := 95) (n := 2) xsh_out (w_xok0 mm94) (w_cal mm94 mm95 pn_X1 (Nat.le_of_ble_eq_true rfl) (Nat.le_of_ble_eq_true rfl)) (fun h as hn => w_run_S mm94 mm95 dX1_person_2 q1676 q1677 q129 q1678 pa95 hn)
theorem n94_5 : Snd mt G 94 5 (oIfEq 47 8) := w_if_eq (hm := mm94) dX1_person_5 rfl
theorem n94_8 : Snd mt G 94 8 (oConst (.int 1) 9) := w_iconst (hm := mm94) dX1_person_8 rfl
theorem n94_9 : Snd mt G 94 9 (oIload 2 10) := w_iload_n (hm := mm94) dX1_person_9
theorem n94_10 : Snd mt G 94 10 (oCall 2 (fS 95 2) 0 13 xOut) := s_callS (m' := 95) (n := 2) xsh_out (w_xok0 mm94) (w_cal mm94 mm95 pn_X1 (Nat.le_of_ble_eq_true rfl) (Nat.le_of_ble_eq_true rfl)) (fun h as hn => w_run_S mm94 mm95 dX1_person_10 q1676 q1677 q129 q1678 pa95 hn)
theorem n94_13 : Snd mt G 94 13 (oIfEq 47 16) := w_if_eq (hm := mm94) dX1_person_13 rfl
theorem n94_16 : Snd mt G 94 16 (oIload 3 17) := w_iload_n (hm := mm94) dX1_person_16
theorem n94_17 : Snd mt G 94 17 (oConst (.int (-30000)) 20) := w_sipush (hm := mm94) dX1_person_17 (by decide)
theorem n94_20 : Snd mt G 94 20 (oCmpLt 47 23) := w_icmp_lt (hm := mm94) dX1_person_20 rfl
theorem n94_23 : Snd mt G 94 23 (oIload 3 24) := w_iload_n (hm := mm94) dX1_person_23
theorem n94_24 : Snd mt G 94 24 (oAload 0 25) := w_aload_n (hm := mm94) dX1_person_24
theorem n94_25 : Snd mt G 94 25 (oGetf [1] 0 28) := w_getf (hm := mm94) dX1_person_25 (fok1 (k := 0) (T := TX1) 0 (Nat.le_of_ble_eq_true rfl) vc_0 (Nat.le_of_ble_eq_true rfl) q623)
theorem n94_28 : Snd mt G 94 28 (oGetf [2] 12 31) := w_getfN (hm := mm94) dX1_person_28 (fokn1 (k := 12) (T := TX2) 1 (Nat.le_of_ble_eq_true rfl) vc_1 (Nat.le_of_ble_eq_true rfl) q567)
theorem n94_31 : Snd mt G 94 31 (oCmpGt 47 34) := w_icmp_gt (hm := mm94) dX1_person_31 rfl
theorem n94_34 : Snd mt G 94 34 (oConst (.int 2) 35) := w_iconst (hm := mm94) dX1_person_34 rfl
theorem n94_35 : Snd mt G 94 35 (oIload 4 37) := w_iload (hm := mm94) dX1_person_35
theorem n94_37 : Snd mt G 94 37 (oCall 2 (fS 95 2) 0 40 xOut) := s_callS (m' := 95) (n := 2) xsh_out (w_xok0 mm94) (w_cal mm94 mm95 pn_X1 (Nat.le_of_ble_eq_true rfl) (Nat.le_of_ble_eq_true rfl)) (fun h as hn => w_run_S mm94 mm95 dX1_person_37 q1676 q1677 q129 q1678 pa95 hn)
theorem n94_40 : Snd mt G 94 40 (oIfEq 47 43) := w_if_eq (hm := mm94) dX1_person_40 rfl
theorem n94_43 : Snd mt G 94 43 (oConst (.int 1) 44) := w_iconst (hm := mm94) dX1_person_43 rfl
theorem n94_44 : Snd mt G 94 44 (oGoto 48) := w_goto (hm := mm94) dX1_person_44 rfl
theorem n94_47 : Snd mt G 94 47 (oConst (.int 0) 48) := w_iconst (hm := mm94) dX1_person_47 rfl
theorem n94_48 : Snd mt G 94 48 (oCall 1 (fS 89 1) 0 51 xOut) := s_callS (m' := 89) (n := 1) xsh_out (w_xok0 mm94) (w_cal mm94 mm89 pn_X1 (Nat.le_of_ble_eq_true rfl) (Nat.le_of_ble_eq_true rfl)) (fun h as hn => w_run_S mm94 mm89 dX1_person_48 q1180 q1181 q129 q1182 pa89 hn)
theorem n94_51 : Snd mt G 94 51 (oAload 0 52) := w_aload_n (hm := mm94) dX1_person_51
theorem n94_52 : Snd mt G 94 52 (oGetf [1] 0 55) := w_getf (hm := mm94) dX1_person_52 (fok1 (k := 0) (T := TX1) 0 (Nat.le_of_ble_eq_true rfl) vc_0 (Nat.le_of_ble_eq_true rfl) q623)
theorem n94_55 : Snd mt G 94 55 (oGetf [2] 1 58) := w_getfN (hm := mm94) dX1_person_55 (fokn1 (k := 1) (T := TX2) 1 (Nat.le_of_ble_eq_true rfl) vc_1 (Nat.le_of_ble_eq_true rfl) q545)
theorem n94_58 : Snd mt G 94 58 (oCall 1 (fV [3] 175 1) 0 61 xOut) := s_callV (m' := 175) (n := 0) xsh_out (w_xok0 mm94) (w_cal mm94 mm175 pn_J2 (Nat.le_of_ble_eq_true rfl) (Nat.le_of_ble_eq_true rfl)) (fun h b as hc hn => w_run_V (ci := 2) mm94 mm175 dX1_person_58 (Or.inl (List.mem_singleton.mp hc)) (Nat.le_of_ble_eq_true rfl) vc_2 rfl q709 q710 q711 q133 q712 pa175 hn)
theorem n94_61 : Snd mt G 94 61 (oConst (.int 10) 63) := w_bipush (hm := mm94) dX1_person_61 (by decide)
theorem n94_63 : Snd mt G 94 63 (oCmpEq 66 68) := w_icmp_ne (hm := mm94) dX1_person_63 rfl
theorem n94_66 : Snd mt G 94 66 (oConst (.int (-1)) 67) := w_iconst (hm := mm94) dX1_person_66 rfl
theorem n94_67 : Snd mt G 94 67 (oRetI .int) := w_iret (hm := mm94) dX1_person_67 rfl
theorem n94_68 : Snd mt G 94 68 (oAload 0 69) := w_aload_n (hm := mm94) dX1_person_68
theorem n94_69 : Snd mt G 94 69 (oGetf [1] 0 72) := w_getf (hm := mm94) dX1_person_69 (fok1 (k := 0) (T := TX1) 0 (Nat.le_of_ble_eq_true rfl) vc_0 (Nat.le_of_ble_eq_true rfl) q623)
theorem n94_72 : Snd mt G 94 72 (oGetf [2] 1 75) := w_getfN (hm := mm94) dX1_person_72 (fokn1 (k := 1) (T := TX2) 1 (Nat.le_of_ble_eq_true rfl) vc_1 (Nat.le_of_ble_eq_true rfl) q545)
theorem n94_75 : Snd mt G 94 75 (oNew 19 12 nfX20 78) := w_new (hm := mm94) (ci := 18) (T9 := TX20) (ty := tyX20) dX1_person_75 (Nat.le_of_ble_eq_true rfl) vc_18 tyX20_ok (fun _ _ => rfl) q727 q1059 q169
theorem n94_78 : Snd mt G 94 78 (oDup 79) := w_dup (hm := mm94) dX1_person_78
theorem n94_79 : Snd mt G 94 79 (oIload 1 80) := w_iload_n (hm := mm94) dX1_person_79
theorem n94_80 : Snd mt G 94 80 (oIload 2 81) := w_iload_n (hm := mm94) dX1_person_80
theorem n94_81 : Snd mt G 94 81 (oIload 3 82) := w_iload_n (hm := mm94) dX1_person_81
theorem n94_82 : Snd mt G 94 82 (oIload 4 84) := w_iload (hm := mm94) dX1_person_82
theorem n94_84 : Snd mt G 94 84 (oIload 5 86) := w_iload (hm := mm94) dX1_person_84
theorem n94_86 : Snd mt G 94 86 (oIfEq 93 89) := w_if_eq (hm := mm94) dX1_person_86 rfl
theorem n94_89 : Snd mt G 94 89 (oConst (.int 1) 90) := w_iconst (hm := mm94) dX1_person_89 rfl
theorem n94_90 : Snd mt G 94 90 (oGoto 94) := w_goto (hm := mm94) dX1_person_90 rfl
theorem n94_93 : Snd mt G 94 93 (oConst (.int 0) 94) := w_iconst (hm := mm94) dX1_person_93 rfl
theorem n94_94 : Snd mt G 94 94 (oAload 0 95) := w_aload_n (hm := mm94) dX1_person_94
theorem n94_95 : Snd mt G 94 95 (oGetf [1] 0 98) := w_getf (hm := mm94) dX1_person_95 (fok1 (k := 0) (T := TX1) 0 (Nat.le_of_ble_eq_true rfl) vc_0 (Nat.le_of_ble_eq_true rfl) q623)
theorem n94_98 : Snd mt G 94 98 (oGetf [2] 12 101) := w_getfN (hm := mm94) dX1_person_98 (fokn1 (k := 12) (T := TX2) 1 (Nat.le_of_ble_eq_true rfl) vc_1 (Nat.le_of_ble_eq_true rfl) q567)
theorem n94_101 : Snd mt G 94 101 (oCall 7 (fI 480 8) 0 104 xOut) := s_callI (m' := 480) (n := 6) xsh_out (w_xok0 mm94) (w_cal mm94 mm480 pn_X20 (Nat.le_of_ble_eq_true rfl) (Nat.le_of_ble_eq_true rfl)) (fun h b as hn => w_run_I mm94 mm480 dX1_person_101 rfl rfl q1679 q1061 q169 q1062 pa480 hn)
theorem n94_104 : Snd mt G 94 104 (oCall 2 (fV [3] 179 2) 0 107 xOut) := s_callV (m' := 179) (n := 1) xsh_out (w_xok0 mm94) (w_cal mm94 mm179 pn_J2 (Nat.le_of_ble_eq_true rfl) (Nat.le_of_ble_eq_true rfl)) (fun h b as hc hn => w_run_V (ci := 2) mm94 mm179 dX1_person_104 (Or.inl (List.mem_singleton.mp hc)) (Nat.le_of_ble_eq_true rfl) vc_2 rfl q1605 q985 q986 q133 q987 pa179 hn)
theorem n94_107 : Snd mt G 94 107 (oPop 108) := w_pop (hm := mm94) dX1_person_107
theorem n94_108 : Snd mt G 94 108 (oAload 0 109) := w_aload_n (hm := mm94) dX1_person_108
theorem n94_109 : Snd mt G 94 109 (oGetf [1] 0 112) := w_getf (hm := mm94) dX1_person_109 (fok1 (k := 0) (T := TX1) 0 (Nat.le_of_ble_eq_true rfl) vc_0 (Nat.le_of_ble_eq_true rfl) q623)
theorem n94_112 : Snd mt G 94 112 (oGetf [2] 1 115) := w_getfN (hm := mm94) dX1_person_112 (fokn1 (k := 1) (T := TX2) 1 (Nat.le_of_ble_eq_true rfl) vc_1 (Nat.le_of_ble_eq_true rfl) q545)
theorem n94_115 : Snd mt G 94 115 (oCall 1 (fV [3] 175 1) 0 118 xOut) := s_callV (m' := 175) (n := 0) xsh_out (w_xok0 mm94) (w_cal mm94 mm175 pn_J2 (Nat.le_of_ble_eq_true rfl) (Nat.le_of_ble_eq_true rfl)) (fun h b as hc hn => w_run_V (ci := 2) mm94 mm175 dX1_person_115 (Or.inl (List.mem_singleton.mp hc)) (Nat.le_of_ble_eq_true rfl) vc_2 rfl q709 q710 q711 q133 q712 pa175 hn)
theorem n94_118 : Snd mt G 94 118 (oConst (.int 1) 119) := w_iconst (hm := mm94) dX1_person_118 rfl
theorem n94_119 : Snd mt G 94 119 (oBin (fun x y => x - y) 120) := w_isub (hm := mm94) dX1_person_119
theorem n94_120 : Snd mt G 94 120 (oRetI .int) := w_iret (hm := mm94) dX1_person_120 rfl
theorem sj94 : ∀ pc, Snd mt G 94 pc (j94 pc) := fun pc => (snd_br ((snd_br ((snd_br ((snd_br ((snd_br ((snd_br ((snd_lf n94_120)) ((snd_lf n94_119)))) ((snd_br ((snd_lf n94_118)) ((snd_lf n94_115)))))) ((snd_br ((snd_br ((snd_lf n94_112)) ((snd_lf n94_109)))) ((snd_br ((snd_lf n94_108)) ((snd_lf n94_107)))))))) ((snd_br ((snd_br ((snd_br ((snd_lf n94_104)) ((snd_lf n94_101)))) ((snd_br ((snd_lf n94_98)) ((snd_lf n94_95)))))) ((snd_br ((snd_br ((snd_lf n94_94)) ((snd_lf n94_93)))) ((snd_lf n94_90)))))))) ((snd_br ((snd_br ((snd_br ((snd_br ((snd_lf n94_89)) ((snd_lf n94_86)))) ((snd_br ((snd_lf n94_84)) ((snd_lf n94_82)))))) ((snd_br ((snd_br ((snd_lf n94_81)) ((snd_lf n94_80)))) ((snd_br ((snd_lf n94_79)) ((snd_lf n94_78)))))))) ((snd_br ((snd_br ((snd_br ((snd_lf n94_75)) ((snd_lf n94_72)))) ((snd_br ((snd_lf n94_69)) ((snd_lf n94_68)))))) ((snd_br ((snd_br ((snd_lf n94_67)) ((snd_lf n94_66)))) ((snd_lf n94_63)))))))))) ((snd_br ((snd_br ((snd_br ((snd_br ((snd_br ((snd_lf n94_61)) ((snd_lf n94_58)))) ((snd_br ((snd_lf n94_55)) ((snd_lf n94_52)))))) ((snd_br ((snd_br ((snd_lf n94_51)) ((snd_lf n94_48)))) ((snd_br ((snd_lf n94_47)) ((snd_lf n94_44)))))))) ((snd_br ((snd_br ((snd_br ((snd_lf n94_43)) ((snd_lf n94_40)))) ((snd_br ((snd_lf n94_37)) ((snd_lf n94_35)))))) ((snd_br ((snd_br ((snd_lf n94_34)) ((snd_lf n94_31)))) ((snd_lf n94_28)))))))) ((snd_br ((snd_br ((snd_br ((snd_br ((snd_lf n94_25)) ((snd_lf n94_24)))) ((snd_br ((snd_lf n94_23)) ((snd_lf n94_20)))))) ((snd_br ((snd_br ((snd_lf n94_17)) ((snd_lf n94_16)))) ((snd_lf n94_13)))))) ((snd_br ((snd_br ((snd_br ((snd_lf n94_10)) ((snd_lf n94_9)))) ((snd_br ((snd_lf n94_8)) ((snd_lf n94_5)))))) ((snd_br ((snd_br ((snd_lf n94_2)) ((snd_lf n94_1)))) ((snd_lf n94_0)))))))))))
end
section
variable {G : AG}
theorem n95_0 : Snd mt G 95 0 (oIload 0 1) := w_iload_n (hm := mm95) dX1_isTold_0
theorem n95_1 : Snd mt G 95 1 (oSwitch sw95_1) := w_tableL (hm := mm95) (dfl := 77) (L := [28, 46, 61]) dX1_isTold_1 rfl rfl (by decide +kernel)
theorem n95_28 : Snd mt G 95 28 (oIload 1 29) := w_iload_n (hm := mm95) dX1_isTold_28
theorem n95_29 : Snd mt G 95 29 (oConst (.int 1) 30) := w_iconst (hm := mm95) dX1_isTold_29 rfl
theorem n95_30 : Snd mt G 95 30 (oCmpLt 44 33) := w_icmp_lt (hm := mm95) dX1_isTold_30 rfl
theorem n95_33 : Snd mt G 95 33 (oIload 1 34) := w_iload_n (hm := mm95) dX1_isTold_33
theorem n95_34 : Snd mt G 95 34 (oConst (.int 200) 37) := w_sipush (hm := mm95) dX1_isTold_34 (by decide)
theorem n95_37 : Snd mt G 95 37 (oCmpGt 44 40) := w_icmp_gt (hm := mm95) dX1_isTold_37 rfl
theorem n95_40 : Snd mt G 95 40 (oConst (.int 1) 41) := w_iconst (hm := mm95) dX1_isTold_40 rfl
theorem n95_41 : Snd mt G 95 41 (oGoto 45) := w_goto (hm := mm95) dX1_isTold_41 rfl
theorem n95_44 : Snd mt G 95 44 (oConst (.int 0) 45) := w_iconst (hm := mm95) dX1_isTold_44 rfl
theorem n95_45 : Snd mt G 95 45 (oRetI .boolean) := w_zret (hm := mm95) dX1_isTold_45 rfl
theorem n95_46 : Snd mt G 95 46 (oIload 1 47) := w_iload_n (hm := mm95) dX1_isTold_46
theorem n95_47 : Snd mt G 95 47 (oIfLt 59 50) := w_if_lt (hm := mm95) dX1_isTold_47 rfl
theorem n95_50 : Snd mt G 95 50 (oIload 1 51) := w_iload_n (hm := mm95) dX1_isTold_50
theorem n95_51 : Snd mt G 95 51 (oConst (.int 4) 52) := w_iconst (hm := mm95) dX1_isTold_51 rfl
theorem n95_52 : Snd mt G 95 52 (oCmpGe 59 55) := w_icmp_ge (hm := mm95) dX1_isTold_52 rfl
theorem n95_55 : Snd mt G 95 55 (oConst (.int 1) 56) := w_iconst (hm := mm95) dX1_isTold_55 rfl
theorem n95_56 : Snd mt G 95 56 (oGoto 60) := w_goto (hm := mm95) dX1_isTold_56 rfl
theorem n95_59 : Snd mt G 95 59 (oConst (.int 0) 60) := w_iconst (hm := mm95) dX1_isTold_59 rfl
theorem n95_60 : Snd mt G 95 60 (oRetI .boolean) := w_zret (hm := mm95) dX1_isTold_60 rfl
theorem n95_61 : Snd mt G 95 61 (oIload 1 62) := w_iload_n (hm := mm95) dX1_isTold_61
theorem n95_62 : Snd mt G 95 62 (oIfLt 75 65) := w_if_lt (hm := mm95) dX1_isTold_62 rfl
theorem n95_65 : Snd mt G 95 65 (oIload 1 66) := w_iload_n (hm := mm95) dX1_isTold_65
theorem n95_66 : Snd mt G 95 66 (oConst (.int 99) 68) := w_bipush (hm := mm95) dX1_isTold_66 (by decide)
theorem n95_68 : Snd mt G 95 68 (oCmpGt 75 71) := w_icmp_gt (hm := mm95) dX1_isTold_68 rfl
theorem n95_71 : Snd mt G 95 71 (oConst (.int 1) 72) := w_iconst (hm := mm95) dX1_isTold_71 rfl
theorem n95_72 : Snd mt G 95 72 (oGoto 76) := w_goto (hm := mm95) dX1_isTold_72 rfl
theorem n95_75 : Snd mt G 95 75 (oConst (.int 0) 76) := w_iconst (hm := mm95) dX1_isTold_75 rfl
theorem n95_76 : Snd mt G 95 76 (oRetI .boolean) := w_zret (hm := mm95) dX1_isTold_76 rfl
theorem n95_77 : Snd mt G 95 77 (oIload 1 78) := w_iload_n (hm := mm95) dX1_isTold_77
theorem n95_78 : Snd mt G 95 78 (oIfEq 86 81) := w_if_eq (hm := mm95) dX1_isTold_78 rfl
theorem n95_81 : Snd mt G 95 81 (oIload 1 82) := w_iload_n (hm := mm95) dX1_isTold_81
theorem n95_82 : Snd mt G 95 82 (oConst (.int 1) 83) := w_iconst (hm := mm95) dX1_isTold_82 rfl
theorem n95_83 : Snd mt G 95 83 (oCmpEq 86 90) := w_icmp_ne (hm := mm95) dX1_isTold_83 rfl
theorem n95_86 : Snd mt G 95 86 (oConst (.int 1) 87) := w_iconst (hm := mm95) dX1_isTold_86 rfl
theorem n95_87 : Snd mt G 95 87 (oGoto 91) := w_goto (hm := mm95) dX1_isTold_87 rfl
theorem n95_90 : Snd mt G 95 90 (oConst (.int 0) 91) := w_iconst (hm := mm95) dX1_isTold_90 rfl
theorem n95_91 : Snd mt G 95 91 (oRetI .boolean) := w_zret (hm := mm95) dX1_isTold_91 rfl
theorem sj95 : ∀ pc, Snd mt G 95 pc (j95 pc) := fun pc => (snd_br ((snd_br ((snd_br ((snd_br ((snd_br ((snd_br ((snd_lf n95_91)) ((snd_lf n95_90)))) ((snd_lf n95_87)))) ((snd_br ((snd_lf n95_86)) ((snd_lf n95_83)))))) ((snd_br ((snd_br ((snd_br ((snd_lf n95_82)) ((snd_lf n95_81)))) ((snd_lf n95_78)))) ((snd_br ((snd_lf n95_77)) ((snd_lf n95_76)))))))) ((snd_br ((snd_br ((snd_br ((snd_br ((snd_lf n95_75)) ((snd_lf n95_72)))) ((snd_lf n95_71)))) ((snd_br ((snd_lf n95_68)) ((snd_lf n95_66)))))) ((snd_br ((snd_br ((snd_br ((snd_lf n95_65)) ((snd_lf n95_62)))) ((snd_lf n95_61)))) ((snd_br ((snd_lf n95_60)) ((snd_lf n95_59)))))))))) ((snd_br ((snd_br ((snd_br ((snd_br ((snd_br ((snd_lf n95_56)) ((snd_lf n95_55)))) ((snd_lf n95_52)))) ((snd_br ((snd_lf n95_51)) ((snd_lf n95_50)))))) ((snd_br ((snd_br ((snd_br ((snd_lf n95_47)) ((snd_lf n95_46)))) ((snd_lf n95_45)))) ((snd_br ((snd_lf n95_44)) ((snd_lf n95_41)))))))) ((snd_br ((snd_br ((snd_br ((snd_br ((snd_lf n95_40)) ((snd_lf n95_37)))) ((snd_lf n95_34)))) ((snd_br ((snd_lf n95_33)) ((snd_lf n95_30)))))) ((snd_br ((snd_br ((snd_lf n95_29)) ((snd_lf n95_28)))) ((snd_br ((snd_lf n95_1)) ((snd_lf n95_0)))))))))))
end
section
variable {G : AG}
theorem n96_0 : Snd mt G 96 0 (oAload 0 1) := w_aload_n (hm := mm96) dX1_stump_0
theorem n96_1 : Snd mt G 96 1 (oIload 1 2) := w_iload_n (hm := mm96) dX1_stump_1
theorem n96_2 : Snd mt G 96 2 (oCall 2 (fV [1] 97 2) 0 5 xOut) := s_callV (m' := 97) (n := 1) xsh_out (w_xok0 mm96) (w_cal mm96 mm97 pn_X1 (Nat.le_of_ble_eq_true rfl) (Nat.le_of_ble_eq_true rfl)) (fun h b as hc hn => w_run_V (ci := 0) mm96 mm97 dX1_stump_2 (Or.inl (List.mem_singleton.mp hc)) (Nat.le_of_ble_eq_true rfl) vc_0 rfl q1688 q1690 qs41 q129 q1691 pa97 hn)
theorem n96_5 : Snd mt G 96 5 (oAstore 4 7) := w_astore (hm := mm96) dX1_stump_5 (Nat.le_of_ble_eq_true rfl)
theorem n96_7 : Snd mt G 96 7 (oIload 2 8) := w_iload_n (hm := mm96) dX1_stump_7
theorem n96_8 : Snd mt G 96 8 (oIfLt 34 11) := w_if_lt (hm := mm96) dX1_stump_8 rfl
theorem n96_11 : Snd mt G 96 11 (oIload 2 12) := w_iload_n (hm := mm96) dX1_stump_11
theorem n96_12 : Snd mt G 96 12 (oConst (.int 999) 15) := w_sipush (hm := mm96) dX1_stump_12 (by decide)
theorem n96_15 : Snd mt G 96 15 (oCmpGt 34 18) := w_icmp_gt (hm := mm96) dX1_stump_15 rfl
theorem n96_18 : Snd mt G 96 18 (oIload 3 19) := w_iload_n (hm := mm96) dX1_stump_18
theorem n96_19 : Snd mt G 96 19 (oConst (.int (-99)) 21) := w_bipush (hm := mm96) dX1_stump_19 (by decide)
theorem n96_21 : Snd mt G 96 21 (oCmpLt 34 24) := w_icmp_lt (hm := mm96) dX1_stump_21 rfl
theorem n96_24 : Snd mt G 96 24 (oIload 3 25) := w_iload_n (hm := mm96) dX1_stump_24
theorem n96_25 : Snd mt G 96 25 (oConst (.int 99) 27) := w_bipush (hm := mm96) dX1_stump_25 (by decide)
theorem n96_27 : Snd mt G 96 27 (oCmpGt 34 30) := w_icmp_gt (hm := mm96) dX1_stump_27 rfl
theorem n96_30 : Snd mt G 96 30 (oConst (.int 1) 31) := w_iconst (hm := mm96) dX1_stump_30 rfl
theorem n96_31 : Snd mt G 96 31 (oGoto 35) := w_goto (hm := mm96) dX1_stump_31 rfl
theorem n96_34 : Snd mt G 96 34 (oConst (.int 0) 35) := w_iconst (hm := mm96) dX1_stump_34 rfl
theorem n96_35 : Snd mt G 96 35 (oCall 1 (fS 89 1) 0 38 xOut) := s_callS (m' := 89) (n := 1) xsh_out (w_xok0 mm96) (w_cal mm96 mm89 pn_X1 (Nat.le_of_ble_eq_true rfl) (Nat.le_of_ble_eq_true rfl)) (fun h as hn => w_run_S mm96 mm89 dX1_stump_35 q1180 q1181 q129 q1182 pa89 hn)
theorem n96_38 : Snd mt G 96 38 (oAload 4 40) := w_aload (hm := mm96) dX1_stump_38
theorem n96_40 : Snd mt G 96 40 (oAload 0 41) := w_aload_n (hm := mm96) dX1_stump_40
theorem n96_41 : Snd mt G 96 41 (oGetf [1] 0 44) := w_getf (hm := mm96) dX1_stump_41 (fok1 (k := 0) (T := TX1) 0 (Nat.le_of_ble_eq_true rfl) vc_0 (Nat.le_of_ble_eq_true rfl) q623)
theorem n96_44 : Snd mt G 96 44 (oGetf [2] 12 47) := w_getfN (hm := mm96) dX1_stump_44 (fokn1 (k := 12) (T := TX2) 1 (Nat.le_of_ble_eq_true rfl) vc_1 (Nat.le_of_ble_eq_true rfl) q567)
theorem n96_47 : Snd mt G 96 47 (oCall 2 (fV [19] 481 2) 0 50 xOut) := s_callV (m' := 481) (n := 1) xsh_out (w_xok0 mm96) (w_cal mm96 mm481 pn_X20 (Nat.le_of_ble_eq_true rfl) (Nat.le_of_ble_eq_true rfl)) (fun h b as hc hn => w_run_V (ci := 18) mm96 mm481 dX1_stump_47 (Or.inl (List.mem_singleton.mp hc)) (Nat.le_of_ble_eq_true rfl) vc_18 rfl q1707 q1708 q1709 q169 q1710 pa481 hn)
theorem n96_50 : Snd mt G 96 50 (oIstore 5 52) := w_istore (hm := mm96) dX1_stump_50 (Nat.le_of_ble_eq_true rfl)
theorem n96_52 : Snd mt G 96 52 (oAload 4 54) := w_aload (hm := mm96) dX1_stump_52
theorem n96_54 : Snd mt G 96 54 (oIload 2 55) := w_iload_n (hm := mm96) dX1_stump_54
theorem n96_55 : Snd mt G 96 55 (oPutf [19] 4 .int 58) := w_putfN (hm := mm96) dX1_stump_55 (pnk1 (k := 4) (T := TX20) 18 (Nat.le_of_ble_eq_true rfl) vc_18 (Nat.le_of_ble_eq_true rfl) rfl pd_X20_4 q1075)
theorem n96_58 : Snd mt G 96 58 (oAload 4 60) := w_aload (hm := mm96) dX1_stump_58
theorem n96_60 : Snd mt G 96 60 (oIload 3 61) := w_iload_n (hm := mm96) dX1_stump_60
theorem n96_61 : Snd mt G 96 61 (oPutf [19] 5 .int 64) := w_putfN (hm := mm96) dX1_stump_61 (pnk1 (k := 5) (T := TX20) 18 (Nat.le_of_ble_eq_true rfl) vc_18 (Nat.le_of_ble_eq_true rfl) rfl pd_X20_5 q1077)
theorem n96_64 : Snd mt G 96 64 (oAload 4 66) := w_aload (hm := mm96) dX1_stump_64
theorem n96_66 : Snd mt G 96 66 (oAload 0 67) := w_aload_n (hm := mm96) dX1_stump_66
theorem n96_67 : Snd mt G 96 67 (oGetf [1] 0 70) := w_getf (hm := mm96) dX1_stump_67 (fok1 (k := 0) (T := TX1) 0 (Nat.le_of_ble_eq_true rfl) vc_0 (Nat.le_of_ble_eq_true rfl) q623)
theorem n96_70 : Snd mt G 96 70 (oGetf [2] 12 73) := w_getfN (hm := mm96) dX1_stump_70 (fokn1 (k := 12) (T := TX2) 1 (Nat.le_of_ble_eq_true rfl) vc_1 (Nat.le_of_ble_eq_true rfl) q567)
theorem n96_73 : Snd mt G 96 73 (oPutf [19] 6 .int 76) := w_putfN (hm := mm96) dX1_stump_73 (pnk1 (k := 6) (T := TX20) 18 (Nat.le_of_ble_eq_true rfl) vc_18 (Nat.le_of_ble_eq_true rfl) rfl pd_X20_6 q1079)
theorem n96_76 : Snd mt G 96 76 (oIload 5 78) := w_iload (hm := mm96) dX1_stump_76
theorem n96_78 : Snd mt G 96 78 (oRetI .int) := w_iret (hm := mm96) dX1_stump_78 rfl
theorem sj96 : ∀ pc, Snd mt G 96 pc (j96 pc) := fun pc => (snd_br ((snd_br ((snd_br ((snd_br ((snd_br ((snd_br ((snd_lf n96_78)) ((snd_lf n96_76)))) ((snd_lf n96_73)))) ((snd_br ((snd_lf n96_70)) ((snd_lf n96_67)))))) ((snd_br ((snd_br ((snd_br ((snd_lf n96_66)) ((snd_lf n96_64)))) ((snd_lf n96_61)))) ((snd_br ((snd_lf n96_60)) ((snd_lf n96_58)))))))) ((snd_br ((snd_br ((snd_br ((snd_br ((snd_lf n96_55)) ((snd_lf n96_54)))) ((snd_lf n96_52)))) ((snd_br ((snd_lf n96_50)) ((snd_lf n96_47)))))) ((snd_br ((snd_br ((snd_lf n96_44)) ((snd_lf n96_41)))) ((snd_br ((snd_lf n96_40)) ((snd_lf n96_38)))))))))) ((snd_br ((snd_br ((snd_br ((snd_br ((snd_br ((snd_lf n96_35)) ((snd_lf n96_34)))) ((snd_lf n96_31)))) ((snd_br ((snd_lf n96_30)) ((snd_lf n96_27)))))) ((snd_br ((snd_br ((snd_br ((snd_lf n96_25)) ((snd_lf n96_24)))) ((snd_lf n96_21)))) ((snd_br ((snd_lf n96_19)) ((snd_lf n96_18)))))))) ((snd_br ((snd_br ((snd_br ((snd_br ((snd_lf n96_15)) ((snd_lf n96_12)))) ((snd_lf n96_11)))) ((snd_br ((snd_lf n96_8)) ((snd_lf n96_7)))))) ((snd_br ((snd_br ((snd_lf n96_5)) ((snd_lf n96_2)))) ((snd_br ((snd_lf n96_1)) ((snd_lf n96_0)))))))))))
end
section
variable {G : AG}
theorem n97_0 : Snd mt G 97 0 (oIload 1 1) := w_iload_n (hm := mm97) dX1_personOf_0
theorem n97_1 : Snd mt G 97 1 (oIfLt 18 4) := w_if_lt (hm := mm97) dX1_personOf_1 rfl
theorem n97_4 : Snd mt G 97 4 (oIload 1 5) := w_iload_n (hm := mm97) dX1_personOf_4
theorem n97_5 : Snd mt G 97 5 (oAload 0 6) := w_aload_n (hm := mm97) dX1_personOf_5
theorem n97_6 : Snd mt G 97 6 (oGetf [1] 0 9) := w_getf (hm := mm97) dX1_personOf_6 (fok1 (k := 0) (T := TX1) 0 (Nat.le_of_ble_eq_true rfl) vc_0 (Nat.le_of_ble_eq_true rfl) q623)
theorem n97_9 : Snd mt G 97 9 (oGetf [2] 1 12) := w_getfN (hm := mm97) dX1_personOf_9 (fokn1 (k := 1) (T := TX2) 1 (Nat.le_of_ble_eq_true rfl) vc_1 (Nat.le_of_ble_eq_true rfl) q545)
theorem n97_12 : Snd mt G 97 12 (oCall 1 (fV [3] 175 1) 0 15 xOut) := s_callV (m' := 175) (n := 0) xsh_out (w_xok0 mm97) (w_cal mm97 mm175 pn_J2 (Nat.le_of_ble_eq_true rfl) (Nat.le_of_ble_eq_true rfl)) (fun h b as hc hn => w_run_V (ci := 2) mm97 mm175 dX1_personOf_12 (Or.inl (List.mem_singleton.mp hc)) (Nat.le_of_ble_eq_true rfl) vc_2 rfl q709 q710 q711 q133 q712 pa175 hn)
theorem n97_15 : Snd mt G 97 15 (oCmpLt 26 18) := w_icmp_lt (hm := mm97) dX1_personOf_15 rfl
theorem n97_18 : Snd mt G 97 18 (oThrow0 34) := w_throw0 (hm := mm97) (ci := 33) (Nat.le_of_ble_eq_true rfl) vc_33 rfl dX1_personOf_18 dX1_personOf_21 dX1_personOf_22 dX1_personOf_25 zt_X1_80_J20_f zt_X1_80_J20_n (Nat.le_of_ble_eq_true rfl) (Nat.le_of_ble_eq_true rfl) q1692 q170 zt_X1_80_J20_a zt_X1_80_J20_g (by decide)
theorem n97_21 : Snd mt G 97 21 (oDup 22) := w_dup (hm := mm97) dX1_personOf_21
theorem n97_22 : Snd mt G 97 22 (oCall 1 (fI 482 1) 0 25 xOut) := s_callI (m' := 482) (n := 0) xsh_out (w_xok0 mm97) (w_cal mm97 mm482 pn_J20 (Nat.le_of_ble_eq_true rfl) (Nat.le_of_ble_eq_true rfl)) (fun h b as hn => w_run_I mm97 mm482 dX1_personOf_22 rfl rfl q1701 q1702 q170 q1703 pa482 hn)
theorem n97_25 : Snd mt G 97 25 (oThrow [7]) := w_throw (hm := mm97) dX1_personOf_25 (List.forall_mem_cons.mpr ⟨⟨6, _, rfl, (Nat.le_of_ble_eq_true rfl), vc_6⟩, (fun t ht => nomatch ht)⟩) rfl
theorem n97_26 : Snd mt G 97 26 (oAload 0 27) := w_aload_n (hm := mm97) dX1_personOf_26
theorem n97_27 : Snd mt G 97 27 (oGetf [1] 0 30) := w_getf (hm := mm97) dX1_personOf_27 (fok1 (k := 0) (T := TX1) 0 (Nat.le_of_ble_eq_true rfl) vc_0 (Nat.le_of_ble_eq_true rfl) q623)
theorem n97_30 : Snd mt G 97 30 (oGetf [2] 1 33) := w_getfN (hm := mm97) dX1_personOf_30 (fokn1 (k := 1) (T := TX2) 1 (Nat.le_of_ble_eq_true rfl) vc_1 (Nat.le_of_ble_eq_true rfl) q545)
theorem n97_33 : Snd mt G 97 33 (oIload 1 34) := w_iload_n (hm := mm97) dX1_personOf_33
theorem n97_34 : Snd mt G 97 34 (oCall 2 (fV [3] 176 2) 0 37 xOut) := s_callV (m' := 176) (n := 1) xsh_out (w_xok0 mm97) (w_cal mm97 mm176 pn_J2 (Nat.le_of_ble_eq_true rfl) (Nat.le_of_ble_eq_true rfl)) (fun h b as hc hn => w_run_V (ci := 2) mm97 mm176 dX1_personOf_34 (Or.inl (List.mem_singleton.mp hc)) (Nat.le_of_ble_eq_true rfl) vc_2 rfl q713 q714 q715 q133 q716 pa176 hn)
theorem n97_37 : Snd mt G 97 37 (oCast [19] 40) := w_cast (hm := mm97) dX1_personOf_37 q727 (List.forall_mem_cons.mpr ⟨⟨18, _, Or.inl rfl, (Nat.le_of_ble_eq_true rfl), vc_18, Or.inl rfl⟩, (fun t ht => nomatch ht)⟩)
theorem n97_40 : Snd mt G 97 40 (oRetA) := w_aret (hm := mm97) dX1_personOf_40 rfl (Or.inl ⟨_, rfl⟩)
theorem sj97 : ∀ pc, Snd mt G 97 pc (j97 pc) := fun pc => (snd_br ((snd_br ((snd_br ((snd_br ((snd_br ((snd_lf n97_40)) ((snd_lf n97_37)))) ((snd_lf n97_34)))) ((snd_br ((snd_lf n97_33)) ((snd_lf n97_30)))))) ((snd_br ((snd_br ((snd_br ((snd_lf n97_27)) ((snd_lf n97_26)))) ((snd_lf n97_25)))) ((snd_br ((snd_lf n97_22)) ((snd_lf n97_21)))))))) ((snd_br ((snd_br ((snd_br ((snd_br ((snd_lf n97_18)) ((snd_lf n97_15)))) ((snd_lf n97_12)))) ((snd_br ((snd_lf n97_9)) ((snd_lf n97_6)))))) ((snd_br ((snd_br ((snd_lf n97_5)) ((snd_lf n97_4)))) ((snd_br ((snd_lf n97_1)) ((snd_lf n97_0)))))))))
end
section
variable {G : AG}
theorem n98_0 : Snd mt G 98 0 (oAload 0 1) := w_aload_n (hm := mm98) dX1_change_0
theorem n98_1 : Snd mt G 98 1 (oIload 1 2) := w_iload_n (hm := mm98) dX1_change_1
theorem n98_2 : Snd mt G 98 2 (oCall 2 (fV [1] 97 2) 0 5 xOut) := s_callV (m' := 97) (n := 1) xsh_out (w_xok0 mm98) (w_cal mm98 mm97 pn_X1 (Nat.le_of_ble_eq_true rfl) (Nat.le_of_ble_eq_true rfl)) (fun h b as hc hn => w_run_V (ci := 0) mm98 mm97 dX1_change_2 (Or.inl (List.mem_singleton.mp hc)) (Nat.le_of_ble_eq_true rfl) vc_0 rfl q1688 q1690 qs41 q129 q1691 pa97 hn)
theorem n98_5 : Snd mt G 98 5 (oAstore 4 7) := w_astore (hm := mm98) dX1_change_5 (Nat.le_of_ble_eq_true rfl)
theorem n98_7 : Snd mt G 98 7 (oIload 2 8) := w_iload_n (hm := mm98) dX1_change_7
theorem n98_8 : Snd mt G 98 8 (oIfLt 28 11) := w_if_lt (hm := mm98) dX1_change_8 rfl
theorem n98_11 : Snd mt G 98 11 (oIload 2 12) := w_iload_n (hm := mm98) dX1_change_11
theorem n98_12 : Snd mt G 98 12 (oConst (.int 3) 13) := w_iconst (hm := mm98) dX1_change_12 rfl
theorem n98_13 : Snd mt G 98 13 (oCmpGt 28 16) := w_icmp_gt (hm := mm98) dX1_change_13 rfl
theorem n98_16 : Snd mt G 98 16 (oIload 2 17) := w_iload_n (hm := mm98) dX1_change_16
theorem n98_17 : Snd mt G 98 17 (oIload 3 18) := w_iload_n (hm := mm98) dX1_change_17
theorem n98_18 : Snd mt G 98 18 (oCall 2 (fS 95 2) 0 21 xOut) := s_callS (m' := 95) (n := 2) xsh_out (w_xok0 mm98) (w_cal mm98 mm95 pn_X1 (Nat.le_of_ble_eq_true rfl) (Nat.le_of_ble_eq_true rfl)) (fun h as hn => w_run_S mm98 mm95 dX1_change_18 q1676 q1677 q129 q1678 pa95 hn)
theorem n98_21 : Snd mt G 98 21 (oIfEq 28 24) := w_if_eq (hm := mm98) dX1_change_21 rfl
theorem n98_24 : Snd mt G 98 24 (oConst (.int 1) 25) := w_iconst (hm := mm98) dX1_change_24 rfl
theorem n98_25 : Snd mt G 98 25 (oGoto 29) := w_goto (hm := mm98) dX1_change_25 rfl
theorem n98_28 : Snd mt G 98 28 (oConst (.int 0) 29) := w_iconst (hm := mm98) dX1_change_28 rfl
theorem n98_29 : Snd mt G 98 29 (oCall 1 (fS 89 1) 0 32 xOut) := s_callS (m' := 89) (n := 1) xsh_out (w_xok0 mm98) (w_cal mm98 mm89 pn_X1 (Nat.le_of_ble_eq_true rfl) (Nat.le_of_ble_eq_true rfl)) (fun h as hn => w_run_S mm98 mm89 dX1_change_29 q1180 q1181 q129 q1182 pa89 hn)
theorem n98_32 : Snd mt G 98 32 (oIload 2 33) := w_iload_n (hm := mm98) dX1_change_32
theorem n98_33 : Snd mt G 98 33 (oIfEq 36 44) := w_if_ne (hm := mm98) dX1_change_33 rfl
theorem n98_36 : Snd mt G 98 36 (oAload 4 38) := w_aload (hm := mm98) dX1_change_36
theorem n98_38 : Snd mt G 98 38 (oGetf [19] 0 41) := w_getfN (hm := mm98) dX1_change_38 (fokn1 (k := 0) (T := TX20) 18 (Nat.le_of_ble_eq_true rfl) vc_18 (Nat.le_of_ble_eq_true rfl) q1067)
theorem n98_41 : Snd mt G 98 41 (oGoto 75) := w_goto (hm := mm98) dX1_change_41 rfl
theorem n98_44 : Snd mt G 98 44 (oIload 2 45) := w_iload_n (hm := mm98) dX1_change_44
theorem n98_45 : Snd mt G 98 45 (oConst (.int 1) 46) := w_iconst (hm := mm98) dX1_change_45 rfl
theorem n98_46 : Snd mt G 98 46 (oCmpEq 49 57) := w_icmp_ne (hm := mm98) dX1_change_46 rfl
theorem n98_49 : Snd mt G 98 49 (oAload 4 51) := w_aload (hm := mm98) dX1_change_49
theorem n98_51 : Snd mt G 98 51 (oGetf [19] 1 54) := w_getfN (hm := mm98) dX1_change_51 (fokn1 (k := 1) (T := TX20) 18 (Nat.le_of_ble_eq_true rfl) vc_18 (Nat.le_of_ble_eq_true rfl) q1069)
theorem n98_54 : Snd mt G 98 54 (oGoto 75) := w_goto (hm := mm98) dX1_change_54 rfl
theorem n98_57 : Snd mt G 98 57 (oIload 2 58) := w_iload_n (hm := mm98) dX1_change_57
theorem n98_58 : Snd mt G 98 58 (oConst (.int 2) 59) := w_iconst (hm := mm98) dX1_change_58 rfl
theorem n98_59 : Snd mt G 98 59 (oCmpEq 62 70) := w_icmp_ne (hm := mm98) dX1_change_59 rfl
theorem n98_62 : Snd mt G 98 62 (oAload 4 64) := w_aload (hm := mm98) dX1_change_62
theorem n98_64 : Snd mt G 98 64 (oGetf [19] 2 67) := w_getfN (hm := mm98) dX1_change_64 (fokn1 (k := 2) (T := TX20) 18 (Nat.le_of_ble_eq_true rfl) vc_18 (Nat.le_of_ble_eq_true rfl) q1071)
theorem n98_67 : Snd mt G 98 67 (oGoto 75) := w_goto (hm := mm98) dX1_change_67 rfl
theorem n98_70 : Snd mt G 98 70 (oAload 4 72) := w_aload (hm := mm98) dX1_change_70
theorem n98_72 : Snd mt G 98 72 (oGetf [19] 3 75) := w_getfN (hm := mm98) dX1_change_72 (fokn1 (k := 3) (T := TX20) 18 (Nat.le_of_ble_eq_true rfl) vc_18 (Nat.le_of_ble_eq_true rfl) q1073)
theorem n98_75 : Snd mt G 98 75 (oIstore 5 77) := w_istore (hm := mm98) dX1_change_75 (Nat.le_of_ble_eq_true rfl)
theorem n98_77 : Snd mt G 98 77 (oIload 2 78) := w_iload_n (hm := mm98) dX1_change_77
theorem n98_78 : Snd mt G 98 78 (oSwitch sw98_78) := w_tableL (hm := mm98) (dfl := 131) (L := [104, 113, 122]) dX1_change_78 rfl rfl (by decide +kernel)
theorem n98_104 : Snd mt G 98 104 (oAload 4 106) := w_aload (hm := mm98) dX1_change_104
theorem n98_106 : Snd mt G 98 106 (oIload 3 107) := w_iload_n (hm := mm98) dX1_change_106
theorem n98_107 : Snd mt G 98 107 (oPutf [19] 0 .int 110) := w_putfN (hm := mm98) dX1_change_107 (pnk1 (k := 0) (T := TX20) 18 (Nat.le_of_ble_eq_true rfl) vc_18 (Nat.le_of_ble_eq_true rfl) rfl pd_X20_0 q1067)
theorem n98_110 : Snd mt G 98 110 (oGoto 137) := w_goto (hm := mm98) dX1_change_110 rfl
theorem n98_113 : Snd mt G 98 113 (oAload 4 115) := w_aload (hm := mm98) dX1_change_113
theorem n98_115 : Snd mt G 98 115 (oIload 3 116) := w_iload_n (hm := mm98) dX1_change_115
theorem n98_116 : Snd mt G 98 116 (oPutf [19] 1 .int 119) := w_putfN (hm := mm98) dX1_change_116 (pnk1 (k := 1) (T := TX20) 18 (Nat.le_of_ble_eq_true rfl) vc_18 (Nat.le_of_ble_eq_true rfl) rfl pd_X20_1 q1069)
theorem n98_119 : Snd mt G 98 119 (oGoto 137) := w_goto (hm := mm98) dX1_change_119 rfl
theorem n98_122 : Snd mt G 98 122 (oAload 4 124) := w_aload (hm := mm98) dX1_change_122
theorem n98_124 : Snd mt G 98 124 (oIload 3 125) := w_iload_n (hm := mm98) dX1_change_124
theorem n98_125 : Snd mt G 98 125 (oPutf [19] 2 .int 128) := w_putfN (hm := mm98) dX1_change_125 (pnk1 (k := 2) (T := TX20) 18 (Nat.le_of_ble_eq_true rfl) vc_18 (Nat.le_of_ble_eq_true rfl) rfl pd_X20_2 q1071)
theorem n98_128 : Snd mt G 98 128 (oGoto 137) := w_goto (hm := mm98) dX1_change_128 rfl
theorem n98_131 : Snd mt G 98 131 (oAload 4 133) := w_aload (hm := mm98) dX1_change_131
theorem n98_133 : Snd mt G 98 133 (oIload 3 134) := w_iload_n (hm := mm98) dX1_change_133
theorem n98_134 : Snd mt G 98 134 (oPutf [19] 3 .int 137) := w_putfN (hm := mm98) dX1_change_134 (pnk1 (k := 3) (T := TX20) 18 (Nat.le_of_ble_eq_true rfl) vc_18 (Nat.le_of_ble_eq_true rfl) rfl pd_X20_3 q1073)
theorem n98_137 : Snd mt G 98 137 (oIload 5 139) := w_iload (hm := mm98) dX1_change_137
theorem n98_139 : Snd mt G 98 139 (oRetI .int) := w_iret (hm := mm98) dX1_change_139 rfl
theorem sj98 : ∀ pc, Snd mt G 98 pc (j98 pc) := fun pc => (snd_br ((snd_br ((snd_br ((snd_br ((snd_br ((snd_br ((snd_lf n98_139)) ((snd_lf n98_137)))) ((snd_br ((snd_lf n98_134)) ((snd_lf n98_133)))))) ((snd_br ((snd_br ((snd_lf n98_131)) ((snd_lf n98_128)))) ((snd_lf n98_125)))))) ((snd_br ((snd_br ((snd_br ((snd_lf n98_124)) ((snd_lf n98_122)))) ((snd_br ((snd_lf n98_119)) ((snd_lf n98_116)))))) ((snd_br ((snd_br ((snd_lf n98_115)) ((snd_lf n98_113)))) ((snd_lf n98_110)))))))) ((snd_br ((snd_br ((snd_br ((snd_br ((snd_lf n98_107)) ((snd_lf n98_106)))) ((snd_br ((snd_lf n98_104)) ((snd_lf n98_78)))))) ((snd_br ((snd_br ((snd_lf n98_77)) ((snd_lf n98_75)))) ((snd_lf n98_72)))))) ((snd_br ((snd_br ((snd_br ((snd_lf n98_70)) ((snd_lf n98_67)))) ((snd_br ((snd_lf n98_64)) ((snd_lf n98_62)))))) ((snd_br ((snd_br ((snd_lf n98_59)) ((snd_lf n98_58)))) ((snd_lf n98_57)))))))))) ((snd_br ((snd_br ((snd_br ((snd_br ((snd_br ((snd_lf n98_54)) ((snd_lf n98_51)))) ((snd_br ((snd_lf n98_49)) ((snd_lf n98_46)))))) ((snd_br ((snd_br ((snd_lf n98_45)) ((snd_lf n98_44)))) ((snd_lf n98_41)))))) ((snd_br ((snd_br ((snd_br ((snd_lf n98_38)) ((snd_lf n98_36)))) ((snd_br ((snd_lf n98_33)) ((snd_lf n98_32)))))) ((snd_br ((snd_br ((snd_lf n98_29)) ((snd_lf n98_28)))) ((snd_lf n98_25)))))))) ((snd_br ((snd_br ((snd_br ((snd_br ((snd_lf n98_24)) ((snd_lf n98_21)))) ((snd_br ((snd_lf n98_18)) ((snd_lf n98_17)))))) ((snd_br ((snd_br ((snd_lf n98_16)) ((snd_lf n98_13)))) ((snd_lf n98_12)))))) ((snd_br ((snd_br ((snd_br ((snd_lf n98_11)) ((snd_lf n98_8)))) ((snd_br ((snd_lf n98_7)) ((snd_lf n98_5)))))) ((snd_br ((snd_br ((snd_lf n98_2)) ((snd_lf n98_1)))) ((snd_lf n98_0)))))))))))
end
section
variable {G : AG}
theorem n99_0 : Snd mt G 99 0 (oAload 0 1) := w_aload_n (hm := mm99) dX1_size_0
theorem n99_1 : Snd mt G 99 1 (oIload 1 2) := w_iload_n (hm := mm99) dX1_size_1
theorem n99_2 : Snd mt G 99 2 (oCall 2 (fV [1] 97 2) 0 5 xOut) := s_callV (m' := 97) (n := 1) xsh_out (w_xok0 mm99) (w_cal mm99 mm97 pn_X1 (Nat.le_of_ble_eq_true rfl) (Nat.le_of_ble_eq_true rfl)) (fun h b as hc hn => w_run_V (ci := 0) mm99 mm97 dX1_size_2 (Or.inl (List.mem_singleton.mp hc)) (Nat.le_of_ble_eq_true rfl) vc_0 rfl q1688 q1690 qs41 q129 q1691 pa97 hn)
theorem n99_5 : Snd mt G 99 5 (oAstore 3 6) := w_astore_n (hm := mm99) dX1_size_5 (Nat.le_of_ble_eq_true rfl)
theorem n99_6 : Snd mt G 99 6 (oIload 2 7) := w_iload_n (hm := mm99) dX1_size_6
theorem n99_7 : Snd mt G 99 7 (oCall 1 (fS 88 1) 0 10 xOut) := s_callS (m' := 88) (n := 1) xsh_out (w_xok0 mm99) (w_cal mm99 mm88 pn_X1 (Nat.le_of_ble_eq_true rfl) (Nat.le_of_ble_eq_true rfl)) (fun h as hn => w_run_S mm99 mm88 dX1_size_7 q1177 q1178 q129 q1179 pa88 hn)
theorem n99_10 : Snd mt G 99 10 (oCall 1 (fS 89 1) 0 13 xOut) := s_callS (m' := 89) (n := 1) xsh_out (w_xok0 mm99) (w_cal mm99 mm89 pn_X1 (Nat.le_of_ble_eq_true rfl) (Nat.le_of_ble_eq_true rfl)) (fun h as hn => w_run_S mm99 mm89 dX1_size_10 q1180 q1181 q129 q1182 pa89 hn)
theorem n99_13 : Snd mt G 99 13 (oAload 3 14) := w_aload_n (hm := mm99) dX1_size_13
theorem n99_14 : Snd mt G 99 14 (oIload 2 15) := w_iload_n (hm := mm99) dX1_size_14
theorem n99_15 : Snd mt G 99 15 (oCall 2 (fV [19] 481 2) 0 18 xOut) := s_callV (m' := 481) (n := 1) xsh_out (w_xok0 mm99) (w_cal mm99 mm481 pn_X20 (Nat.le_of_ble_eq_true rfl) (Nat.le_of_ble_eq_true rfl)) (fun h b as hc hn => w_run_V (ci := 18) mm99 mm481 dX1_size_15 (Or.inl (List.mem_singleton.mp hc)) (Nat.le_of_ble_eq_true rfl) vc_18 rfl q1707 q1708 q1709 q169 q1710 pa481 hn)
theorem n99_18 : Snd mt G 99 18 (oRetI .int) := w_iret (hm := mm99) dX1_size_18 rfl
theorem sj99 : ∀ pc, Snd mt G 99 pc (j99 pc) := fun pc => (snd_br ((snd_br ((snd_br ((snd_br ((snd_lf n99_18)) ((snd_lf n99_15)))) ((snd_lf n99_14)))) ((snd_br ((snd_br ((snd_lf n99_13)) ((snd_lf n99_10)))) ((snd_lf n99_7)))))) ((snd_br ((snd_br ((snd_br ((snd_lf n99_6)) ((snd_lf n99_5)))) ((snd_lf n99_2)))) ((snd_br ((snd_lf n99_1)) ((snd_lf n99_0)))))))
end
section
variable {G : AG}
theorem n100_0 : Snd mt G 100 0 (oAload 0 1) := w_aload_n (hm := mm100) dX1_told_0
theorem n100_1 : Snd mt G 100 1 (oIload 1 2) := w_iload_n (hm := mm100) dX1_told_1
theorem n100_2 : Snd mt G 100 2 (oCall 2 (fV [1] 97 2) 0 5 xOut) := s_callV (m' := 97) (n := 1) xsh_out (w_xok0 mm100) (w_cal mm100 mm97 pn_X1 (Nat.le_of_ble_eq_true rfl) (Nat.le_of_ble_eq_true rfl)) (fun h b as hc hn => w_run_V (ci := 0) mm100 mm97 dX1_told_2 (Or.inl (List.mem_singleton.mp hc)) (Nat.le_of_ble_eq_true rfl) vc_0 rfl q1688 q1690 qs41 q129 q1691 pa97 hn)
theorem n100_5 : Snd mt G 100 5 (oAstore 4 7) := w_astore (hm := mm100) dX1_told_5 (Nat.le_of_ble_eq_true rfl)
theorem n100_7 : Snd mt G 100 7 (oIload 2 8) := w_iload_n (hm := mm100) dX1_told_7
theorem n100_8 : Snd mt G 100 8 (oIfLt 28 11) := w_if_lt (hm := mm100) dX1_told_8 rfl
theorem n100_11 : Snd mt G 100 11 (oIload 2 12) := w_iload_n (hm := mm100) dX1_told_11
theorem n100_12 : Snd mt G 100 12 (oConst (.int 12) 14) := w_bipush (hm := mm100) dX1_told_12 (by decide)
theorem n100_14 : Snd mt G 100 14 (oCmpGt 28 17) := w_icmp_gt (hm := mm100) dX1_told_14 rfl
theorem n100_17 : Snd mt G 100 17 (oIload 3 18) := w_iload_n (hm := mm100) dX1_told_17
theorem n100_18 : Snd mt G 100 18 (oCall 1 (fS 88 1) 0 21 xOut) := s_callS (m' := 88) (n := 1) xsh_out (w_xok0 mm100) (w_cal mm100 mm88 pn_X1 (Nat.le_of_ble_eq_true rfl) (Nat.le_of_ble_eq_true rfl)) (fun h as hn => w_run_S mm100 mm88 dX1_told_18 q1177 q1178 q129 q1179 pa88 hn)
theorem n100_21 : Snd mt G 100 21 (oIfEq 28 24) := w_if_eq (hm := mm100) dX1_told_21 rfl
theorem n100_24 : Snd mt G 100 24 (oConst (.int 1) 25) := w_iconst (hm := mm100) dX1_told_24 rfl
theorem n100_25 : Snd mt G 100 25 (oGoto 29) := w_goto (hm := mm100) dX1_told_25 rfl
theorem n100_28 : Snd mt G 100 28 (oConst (.int 0) 29) := w_iconst (hm := mm100) dX1_told_28 rfl
theorem n100_29 : Snd mt G 100 29 (oCall 1 (fS 89 1) 0 32 xOut) := s_callS (m' := 89) (n := 1) xsh_out (w_xok0 mm100) (w_cal mm100 mm89 pn_X1 (Nat.le_of_ble_eq_true rfl) (Nat.le_of_ble_eq_true rfl)) (fun h as hn => w_run_S mm100 mm89 dX1_told_29 q1180 q1181 q129 q1182 pa89 hn)
theorem n100_32 : Snd mt G 100 32 (oAload 0 33) := w_aload_n (hm := mm100) dX1_told_32
theorem n100_33 : Snd mt G 100 33 (oAload 4 35) := w_aload (hm := mm100) dX1_told_33
theorem n100_35 : Snd mt G 100 35 (oIload 3 36) := w_iload_n (hm := mm100) dX1_told_35
theorem n100_36 : Snd mt G 100 36 (oCall 3 (fV [1] 58 4) 0 39 xOut) := s_callV (m' := 58) (n := 2) xsh_out (w_xok0 mm100) (w_cal mm100 mm58 pn_X1 (Nat.le_of_ble_eq_true rfl) (Nat.le_of_ble_eq_true rfl)) (fun h b as hc hn => w_run_V (ci := 0) mm100 mm58 dX1_told_36 (Or.inl (List.mem_singleton.mp hc)) (Nat.le_of_ble_eq_true rfl) vc_0 rfl q736 q738 qs4 q129 q739 pa58 hn)
theorem n100_39 : Snd mt G 100 39 (oIload 2 40) := w_iload_n (hm := mm100) dX1_told_39
theorem n100_40 : Snd mt G 100 40 (oSwitch sw100_40) := w_tableL (hm := mm100) (dfl := 132) (L := [92, 100, 132, 132, 132, 132, 108, 115, 122]) dX1_told_40 rfl rfl (by decide +kernel)
theorem n100_92 : Snd mt G 100 92 (oAload 0 93) := w_aload_n (hm := mm100) dX1_told_92
theorem n100_93 : Snd mt G 100 93 (oAload 4 95) := w_aload (hm := mm100) dX1_told_93
theorem n100_95 : Snd mt G 100 95 (oIload 3 96) := w_iload_n (hm := mm100) dX1_told_95
theorem n100_96 : Snd mt G 100 96 (oCall 3 (fV [1] 101 3) 0 99 xOut) := s_callV (m' := 101) (n := 2) xsh_out (w_xok0 mm100) (w_cal mm100 mm101 pn_X1 (Nat.le_of_ble_eq_true rfl) (Nat.le_of_ble_eq_true rfl)) (fun h b as hc hn => w_run_V (ci := 0) mm100 mm101 dX1_told_96 (Or.inl (List.mem_singleton.mp hc)) (Nat.le_of_ble_eq_true rfl) vc_0 rfl q1732 q1734 qs42 q129 q1735 pa101 hn)
theorem n100_99 : Snd mt G 100 99 (oRetI .int) := w_iret (hm := mm100) dX1_told_99 rfl
theorem n100_100 : Snd mt G 100 100 (oAload 0 101) := w_aload_n (hm := mm100) dX1_told_100
theorem n100_101 : Snd mt G 100 101 (oAload 4 103) := w_aload (hm := mm100) dX1_told_101
theorem n100_103 : Snd mt G 100 103 (oIload 3 104) := w_iload_n (hm := mm100) dX1_told_103
theorem n100_104 : Snd mt G 100 104 (oCall 3 (fV [1] 64 5) 0 107 xOut) := s_callV (m' := 64) (n := 2) xsh_out (w_xok0 mm100) (w_cal mm100 mm64 pn_X1 (Nat.le_of_ble_eq_true rfl) (Nat.le_of_ble_eq_true rfl)) (fun h b as hc hn => w_run_V (ci := 0) mm100 mm64 dX1_told_104 (Or.inl (List.mem_singleton.mp hc)) (Nat.le_of_ble_eq_true rfl) vc_0 rfl q835 q837 qs10 q129 q838 pa64 hn)
theorem n100_107 : Snd mt G 100 107 (oRetI .int) := w_iret (hm := mm100) dX1_told_107 rfl
theorem n100_108 : Snd mt G 100 108 (oAload 0 109) := w_aload_n (hm := mm100) dX1_told_108
theorem n100_109 : Snd mt G 100 109 (oGetf [1] 9 112) := w_getf (hm := mm100) dX1_told_109 (fok1 (k := 9) (T := TX1) 0 (Nat.le_of_ble_eq_true rfl) vc_0 (Nat.le_of_ble_eq_true rfl) q632)
theorem n100_112 : Snd mt G 100 112 (oConst (.int 2) 113) := w_iconst (hm := mm100) dX1_told_112 rfl
theorem n100_113 : Snd mt G 100 113 (oAld [100] 114) := w_iaload (hm := mm100) (kt := 0) dX1_told_113 at_0 (Nat.le_of_ble_eq_true rfl) (List.forall_mem_cons.mpr ⟨Or.inl rfl, (fun t ht => nomatch ht)⟩)
theorem n100_114 : Snd mt G 100 114 (oRetI .int) := w_iret (hm := mm100) dX1_told_114 rfl
theorem n100_115 : Snd mt G 100 115 (oAload 0 116) := w_aload_n (hm := mm100) dX1_told_115
theorem n100_116 : Snd mt G 100 116 (oGetf [1] 9 119) := w_getf (hm := mm100) dX1_told_116 (fok1 (k := 9) (T := TX1) 0 (Nat.le_of_ble_eq_true rfl) vc_0 (Nat.le_of_ble_eq_true rfl) q632)
theorem n100_119 : Snd mt G 100 119 (oConst (.int 5) 120) := w_iconst (hm := mm100) dX1_told_119 rfl
theorem n100_120 : Snd mt G 100 120 (oAld [100] 121) := w_iaload (hm := mm100) (kt := 0) dX1_told_120 at_0 (Nat.le_of_ble_eq_true rfl) (List.forall_mem_cons.mpr ⟨Or.inl rfl, (fun t ht => nomatch ht)⟩)
theorem n100_121 : Snd mt G 100 121 (oRetI .int) := w_iret (hm := mm100) dX1_told_121 rfl
theorem n100_122 : Snd mt G 100 122 (oAload 0 123) := w_aload_n (hm := mm100) dX1_told_122
theorem n100_123 : Snd mt G 100 123 (oConst (.int 119) 125) := w_bipush (hm := mm100) dX1_told_123 (by decide)
theorem n100_125 : Snd mt G 100 125 (oConst (.int 0) 126) := w_iconst (hm := mm100) dX1_told_125 rfl
theorem n100_126 : Snd mt G 100 126 (oConst (.int 100000) 128) := w_ldc (hm := mm100) dX1_told_126 q745
theorem n100_128 : Snd mt G 100 128 (oCall 4 (fV [1] 60 5) 0 131 xOut) := s_callV (m' := 60) (n := 3) xsh_out (w_xok0 mm100) (w_cal mm100 mm60 pn_X1 (Nat.le_of_ble_eq_true rfl) (Nat.le_of_ble_eq_true rfl)) (fun h b as hc hn => w_run_V (ci := 0) mm100 mm60 dX1_told_128 (Or.inl (List.mem_singleton.mp hc)) (Nat.le_of_ble_eq_true rfl) vc_0 rfl q746 q748 qs6 q129 q749 pa60 hn)
theorem n100_131 : Snd mt G 100 131 (oRetI .int) := w_iret (hm := mm100) dX1_told_131 rfl
theorem n100_132 : Snd mt G 100 132 (oIload 2 133) := w_iload_n (hm := mm100) dX1_told_132
theorem n100_133 : Snd mt G 100 133 (oConst (.int 6) 135) := w_bipush (hm := mm100) dX1_told_133 (by decide)
theorem n100_135 : Snd mt G 100 135 (oCmpGe 152 138) := w_icmp_ge (hm := mm100) dX1_told_135 rfl
theorem n100_138 : Snd mt G 100 138 (oAload 0 139) := w_aload_n (hm := mm100) dX1_told_138
theorem n100_139 : Snd mt G 100 139 (oConst (.int 108) 141) := w_bipush (hm := mm100) dX1_told_139 (by decide)
theorem n100_141 : Snd mt G 100 141 (oIload 2 142) := w_iload_n (hm := mm100) dX1_told_141
theorem n100_142 : Snd mt G 100 142 (oConst (.int 2) 143) := w_iconst (hm := mm100) dX1_told_142 rfl
theorem n100_143 : Snd mt G 100 143 (oBin (fun x y => x - y) 144) := w_isub (hm := mm100) dX1_told_143
theorem n100_144 : Snd mt G 100 144 (oConst (.int 100000) 146) := w_ldc (hm := mm100) dX1_told_144 q745
theorem n100_146 : Snd mt G 100 146 (oCall 4 (fV [1] 60 5) 0 149 xOut) := s_callV (m' := 60) (n := 3) xsh_out (w_xok0 mm100) (w_cal mm100 mm60 pn_X1 (Nat.le_of_ble_eq_true rfl) (Nat.le_of_ble_eq_true rfl)) (fun h b as hc hn => w_run_V (ci := 0) mm100 mm60 dX1_told_146 (Or.inl (List.mem_singleton.mp hc)) (Nat.le_of_ble_eq_true rfl) vc_0 rfl q746 q748 qs6 q129 q749 pa60 hn)
theorem n100_149 : Snd mt G 100 149 (oGoto 164) := w_goto (hm := mm100) dX1_told_149 rfl
theorem n100_152 : Snd mt G 100 152 (oAload 0 153) := w_aload_n (hm := mm100) dX1_told_152
theorem n100_153 : Snd mt G 100 153 (oConst (.int 117) 155) := w_bipush (hm := mm100) dX1_told_153 (by decide)
theorem n100_155 : Snd mt G 100 155 (oIload 2 156) := w_iload_n (hm := mm100) dX1_told_155
theorem n100_156 : Snd mt G 100 156 (oConst (.int 9) 158) := w_bipush (hm := mm100) dX1_told_156 (by decide)
theorem n100_158 : Snd mt G 100 158 (oBin (fun x y => x - y) 159) := w_isub (hm := mm100) dX1_told_158
theorem n100_159 : Snd mt G 100 159 (oConst (.int 100000) 161) := w_ldc (hm := mm100) dX1_told_159 q745
theorem n100_161 : Snd mt G 100 161 (oCall 4 (fV [1] 60 5) 0 164 xOut) := s_callV (m' := 60) (n := 3) xsh_out (w_xok0 mm100) (w_cal mm100 mm60 pn_X1 (Nat.le_of_ble_eq_true rfl) (Nat.le_of_ble_eq_true rfl)) (fun h b as hc hn => w_run_V (ci := 0) mm100 mm60 dX1_told_161 (Or.inl (List.mem_singleton.mp hc)) (Nat.le_of_ble_eq_true rfl) vc_0 rfl q746 q748 qs6 q129 q749 pa60 hn)
theorem n100_164 : Snd mt G 100 164 (oRetI .int) := w_iret (hm := mm100) dX1_told_164 rfl
theorem sj100 : ∀ pc, Snd mt G 100 pc (j100 pc) := fun pc => (snd_br ((snd_br ((snd_br ((snd_br ((snd_br ((snd_br ((snd_br ((snd_lf n100_164)) ((snd_lf n100_161)))) ((snd_lf n100_159)))) ((snd_br ((snd_lf n100_158)) ((snd_lf n100_156)))))) ((snd_br ((snd_br ((snd_lf n100_155)) ((snd_lf n100_153)))) ((snd_br ((snd_lf n100_152)) ((snd_lf n100_149)))))))) ((snd_br ((snd_br ((snd_br ((snd_lf n100_146)) ((snd_lf n100_144)))) ((snd_br ((snd_lf n100_143)) ((snd_lf n100_142)))))) ((snd_br ((snd_br ((snd_lf n100_141)) ((snd_lf n100_139)))) ((snd_br ((snd_lf n100_138)) ((snd_lf n100_135)))))))))) ((snd_br ((snd_br ((snd_br ((snd_br ((snd_br ((snd_lf n100_133)) ((snd_lf n100_132)))) ((snd_lf n100_131)))) ((snd_br ((snd_lf n100_128)) ((snd_lf n100_126)))))) ((snd_br ((snd_br ((snd_lf n100_125)) ((snd_lf n100_123)))) ((snd_br ((snd_lf n100_122)) ((snd_lf n100_121)))))))) ((snd_br ((snd_br ((snd_br ((snd_lf n100_120)) ((snd_lf n100_119)))) ((snd_br ((snd_lf n100_116)) ((snd_lf n100_115)))))) ((snd_br ((snd_br ((snd_lf n100_114)) ((snd_lf n100_113)))) ((snd_br ((snd_lf n100_112)) ((snd_lf n100_109)))))))))))) ((snd_br ((snd_br ((snd_br ((snd_br ((snd_br ((snd_br ((snd_lf n100_108)) ((snd_lf n100_107)))) ((snd_lf n100_104)))) ((snd_br ((snd_lf n100_103)) ((snd_lf n100_101)))))) ((snd_br ((snd_br ((snd_lf n100_100)) ((snd_lf n100_99)))) ((snd_br ((snd_lf n100_96)) ((snd_lf n100_95)))))))) ((snd_br ((snd_br ((snd_br ((snd_lf n100_93)) ((snd_lf n100_92)))) ((snd_br ((snd_lf n100_40)) ((snd_lf n100_39)))))) ((snd_br ((snd_br ((snd_lf n100_36)) ((snd_lf n100_35)))) ((snd_br ((snd_lf n100_33)) ((snd_lf n100_32)))))))))) ((snd_br ((snd_br ((snd_br ((snd_br ((snd_lf n100_29)) ((snd_lf n100_28)))) ((snd_br ((snd_lf n100_25)) ((snd_lf n100_24)))))) ((snd_br ((snd_br ((snd_lf n100_21)) ((snd_lf n100_18)))) ((snd_br ((snd_lf n100_17)) ((snd_lf n100_14)))))))) ((snd_br ((snd_br ((snd_br ((snd_lf n100_12)) ((snd_lf n100_11)))) ((snd_br ((snd_lf n100_8)) ((snd_lf n100_7)))))) ((snd_br ((snd_br ((snd_lf n100_5)) ((snd_lf n100_2)))) ((snd_br ((snd_lf n100_1)) ((snd_lf n100_0)))))))))))))
end
section
variable {G : AG}
theorem n101_0 : Snd mt G 101 0 (oAload 0 1) := w_aload_n (hm := mm101) dX1_rightOf_0
theorem n101_1 : Snd mt G 101 1 (oAload 1 2) := w_aload_n (hm := mm101) dX1_rightOf_1
theorem n101_2 : Snd mt G 101 2 (oIload 2 3) := w_iload_n (hm := mm101) dX1_rightOf_2
theorem n101_3 : Snd mt G 101 3 (oCall 3 (fV [1] 58 4) 0 6 xOut) := s_callV (m' := 58) (n := 2) xsh_out (w_xok0 mm101) (w_cal mm101 mm58 pn_X1 (Nat.le_of_ble_eq_true rfl) (Nat.le_of_ble_eq_true rfl)) (fun h b as hc hn => w_run_V (ci := 0) mm101 mm58 dX1_rightOf_3 (Or.inl (List.mem_singleton.mp hc)) (Nat.le_of_ble_eq_true rfl) vc_0 rfl q736 q738 qs4 q129 q739 pa58 hn)
theorem n101_6 : Snd mt G 101 6 (oConst (.int 0) 7) := w_iconst (hm := mm101) dX1_rightOf_6 rfl
theorem n101_7 : Snd mt G 101 7 (oAload 0 8) := w_aload_n (hm := mm101) dX1_rightOf_7
theorem n101_8 : Snd mt G 101 8 (oConst (.int 114) 10) := w_bipush (hm := mm101) dX1_rightOf_8 (by decide)
theorem n101_10 : Snd mt G 101 10 (oConst (.int 0) 11) := w_iconst (hm := mm101) dX1_rightOf_10 rfl
theorem n101_11 : Snd mt G 101 11 (oConst (.int 1000000) 13) := w_ldc (hm := mm101) dX1_rightOf_11 q1736
theorem n101_13 : Snd mt G 101 13 (oCall 4 (fV [1] 60 5) 0 16 xOut) := s_callV (m' := 60) (n := 3) xsh_out (w_xok0 mm101) (w_cal mm101 mm60 pn_X1 (Nat.le_of_ble_eq_true rfl) (Nat.le_of_ble_eq_true rfl)) (fun h b as hc hn => w_run_V (ci := 0) mm101 mm60 dX1_rightOf_13 (Or.inl (List.mem_singleton.mp hc)) (Nat.le_of_ble_eq_true rfl) vc_0 rfl q746 q748 qs6 q129 q749 pa60 hn)
theorem n101_16 : Snd mt G 101 16 (oMath2 (fun x y => if x < y then y else x) 19) := w_mmax (hm := mm101) dX1_rightOf_16 (Nat.le_of_ble_eq_true rfl) q826 q313 q143 q314
theorem n101_19 : Snd mt G 101 19 (oRetI .int) := w_iret (hm := mm101) dX1_rightOf_19 rfl
theorem sj101 : ∀ pc, Snd mt G 101 pc (j101 pc) := fun pc => (snd_br ((snd_br ((snd_br ((snd_br ((snd_lf n101_19)) ((snd_lf n101_16)))) ((snd_lf n101_13)))) ((snd_br ((snd_br ((snd_lf n101_11)) ((snd_lf n101_10)))) ((snd_lf n101_8)))))) ((snd_br ((snd_br ((snd_br ((snd_lf n101_7)) ((snd_lf n101_6)))) ((snd_lf n101_3)))) ((snd_br ((snd_br ((snd_lf n101_2)) ((snd_lf n101_1)))) ((snd_lf n101_0)))))))
end
section
variable {G : AG}
theorem n102_0 : Snd mt G 102 0 (oAload 0 1) := w_aload_n (hm := mm102) dX1_barred_0
theorem n102_1 : Snd mt G 102 1 (oIload 1 2) := w_iload_n (hm := mm102) dX1_barred_1
theorem n102_2 : Snd mt G 102 2 (oCall 2 (fV [1] 97 2) 0 5 xOut) := s_callV (m' := 97) (n := 1) xsh_out (w_xok0 mm102) (w_cal mm102 mm97 pn_X1 (Nat.le_of_ble_eq_true rfl) (Nat.le_of_ble_eq_true rfl)) (fun h b as hc hn => w_run_V (ci := 0) mm102 mm97 dX1_barred_2 (Or.inl (List.mem_singleton.mp hc)) (Nat.le_of_ble_eq_true rfl) vc_0 rfl q1688 q1690 qs41 q129 q1691 pa97 hn)
theorem n102_5 : Snd mt G 102 5 (oAstore 4 7) := w_astore (hm := mm102) dX1_barred_5 (Nat.le_of_ble_eq_true rfl)
theorem n102_7 : Snd mt G 102 7 (oAload 0 8) := w_aload_n (hm := mm102) dX1_barred_7
theorem n102_8 : Snd mt G 102 8 (oIload 2 9) := w_iload_n (hm := mm102) dX1_barred_8
theorem n102_9 : Snd mt G 102 9 (oCall 2 (fV [1] 103 2) 0 12 xOut) := s_callV (m' := 103) (n := 1) xsh_out (w_xok0 mm102) (w_cal mm102 mm103 pn_X1 (Nat.le_of_ble_eq_true rfl) (Nat.le_of_ble_eq_true rfl)) (fun h b as hc hn => w_run_V (ci := 0) mm102 mm103 dX1_barred_9 (Or.inl (List.mem_singleton.mp hc)) (Nat.le_of_ble_eq_true rfl) vc_0 rfl q1763 q1765 qs43 q129 q1766 pa103 hn)
theorem n102_12 : Snd mt G 102 12 (oPop 13) := w_pop (hm := mm102) dX1_barred_12
theorem n102_13 : Snd mt G 102 13 (oAload 0 14) := w_aload_n (hm := mm102) dX1_barred_13
theorem n102_14 : Snd mt G 102 14 (oIload 3 15) := w_iload_n (hm := mm102) dX1_barred_14
theorem n102_15 : Snd mt G 102 15 (oCall 2 (fV [1] 103 2) 0 18 xOut) := s_callV (m' := 103) (n := 1) xsh_out (w_xok0 mm102) (w_cal mm102 mm103 pn_X1 (Nat.le_of_ble_eq_true rfl) (Nat.le_of_ble_eq_true rfl)) (fun h b as hc hn => w_run_V (ci := 0) mm102 mm103 dX1_barred_15 (Or.inl (List.mem_singleton.mp hc)) (Nat.le_of_ble_eq_true rfl) vc_0 rfl q1763 q1765 qs43 q129 q1766 pa103 hn)
theorem n102_18 : Snd mt G 102 18 (oPop 19) := w_pop (hm := mm102) dX1_barred_18
theorem n102_19 : Snd mt G 102 19 (oAload 0 20) := w_aload_n (hm := mm102) dX1_barred_19
theorem n102_20 : Snd mt G 102 20 (oAload 4 22) := w_aload (hm := mm102) dX1_barred_20
theorem n102_22 : Snd mt G 102 22 (oIload 2 23) := w_iload_n (hm := mm102) dX1_barred_22
theorem n102_23 : Snd mt G 102 23 (oIload 3 24) := w_iload_n (hm := mm102) dX1_barred_23
theorem n102_24 : Snd mt G 102 24 (oCall 4 (fV [1] 104 5) 0 27 xOut) := s_callV (m' := 104) (n := 3) xsh_out (w_xok0 mm102) (w_cal mm102 mm104 pn_X1 (Nat.le_of_ble_eq_true rfl) (Nat.le_of_ble_eq_true rfl)) (fun h b as hc hn => w_run_V (ci := 0) mm102 mm104 dX1_barred_24 (Or.inl (List.mem_singleton.mp hc)) (Nat.le_of_ble_eq_true rfl) vc_0 rfl q1782 q1784 qs44 q129 q1785 pa104 hn)
theorem n102_27 : Snd mt G 102 27 (oConst (.int (-1)) 28) := w_iconst (hm := mm102) dX1_barred_27 rfl
theorem n102_28 : Snd mt G 102 28 (oCmpEq 35 31) := w_icmp_eq (hm := mm102) dX1_barred_28 rfl
theorem n102_31 : Snd mt G 102 31 (oConst (.int 1) 32) := w_iconst (hm := mm102) dX1_barred_31 rfl
theorem n102_32 : Snd mt G 102 32 (oGoto 36) := w_goto (hm := mm102) dX1_barred_32 rfl
theorem n102_35 : Snd mt G 102 35 (oConst (.int 0) 36) := w_iconst (hm := mm102) dX1_barred_35 rfl
theorem n102_36 : Snd mt G 102 36 (oRetI .boolean) := w_zret (hm := mm102) dX1_barred_36 rfl
theorem sj102 : ∀ pc, Snd mt G 102 pc (j102 pc) := fun pc => (snd_br ((snd_br ((snd_br ((snd_br ((snd_br ((snd_lf n102_36)) ((snd_lf n102_35)))) ((snd_lf n102_32)))) ((snd_br ((snd_br ((snd_lf n102_31)) ((snd_lf n102_28)))) ((snd_lf n102_27)))))) ((snd_br ((snd_br ((snd_br ((snd_lf n102_24)) ((snd_lf n102_23)))) ((snd_lf n102_22)))) ((snd_br ((snd_br ((snd_lf n102_20)) ((snd_lf n102_19)))) ((snd_lf n102_18)))))))) ((snd_br ((snd_br ((snd_br ((snd_br ((snd_lf n102_15)) ((snd_lf n102_14)))) ((snd_lf n102_13)))) ((snd_br ((snd_br ((snd_lf n102_12)) ((snd_lf n102_9)))) ((snd_lf n102_8)))))) ((snd_br ((snd_br ((snd_br ((snd_lf n102_7)) ((snd_lf n102_5)))) ((snd_lf n102_2)))) ((snd_br ((snd_lf n102_1)) ((snd_lf n102_0)))))))))
end
section
variable {G : AG}
theorem n103_0 : Snd mt G 103 0 (oIload 1 1) := w_iload_n (hm := mm103) dX1_modelOf_0
theorem n103_1 : Snd mt G 103 1 (oIfLt 18 4) := w_if_lt (hm := mm103) dX1_modelOf_1 rfl
theorem n103_4 : Snd mt G 103 4 (oIload 1 5) := w_iload_n (hm := mm103) dX1_modelOf_4
theorem n103_5 : Snd mt G 103 5 (oAload 0 6) := w_aload_n (hm := mm103) dX1_modelOf_5
theorem n103_6 : Snd mt G 103 6 (oGetf [1] 0 9) := w_getf (hm := mm103) dX1_modelOf_6 (fok1 (k := 0) (T := TX1) 0 (Nat.le_of_ble_eq_true rfl) vc_0 (Nat.le_of_ble_eq_true rfl) q623)
theorem n103_9 : Snd mt G 103 9 (oGetf [2] 0 12) := w_getfN (hm := mm103) dX1_modelOf_9 (fokn1 (k := 0) (T := TX2) 1 (Nat.le_of_ble_eq_true rfl) vc_1 (Nat.le_of_ble_eq_true rfl) q543)
theorem n103_12 : Snd mt G 103 12 (oCall 1 (fV [3] 175 1) 0 15 xOut) := s_callV (m' := 175) (n := 0) xsh_out (w_xok0 mm103) (w_cal mm103 mm175 pn_J2 (Nat.le_of_ble_eq_true rfl) (Nat.le_of_ble_eq_true rfl)) (fun h b as hc hn => w_run_V (ci := 2) mm103 mm175 dX1_modelOf_12 (Or.inl (List.mem_singleton.mp hc)) (Nat.le_of_ble_eq_true rfl) vc_2 rfl q709 q710 q711 q133 q712 pa175 hn)
theorem n103_15 : Snd mt G 103 15 (oCmpLt 26 18) := w_icmp_lt (hm := mm103) dX1_modelOf_15 rfl
theorem n103_18 : Snd mt G 103 18 (oThrow0 35) := w_throw0 (hm := mm103) (ci := 34) (Nat.le_of_ble_eq_true rfl) vc_34 rfl dX1_modelOf_18 dX1_modelOf_21 dX1_modelOf_22 dX1_modelOf_25 zt_X1_92_J21_f zt_X1_92_J21_n (Nat.le_of_ble_eq_true rfl) (Nat.le_of_ble_eq_true rfl) q1767 q171 zt_X1_92_J21_a zt_X1_92_J21_g (by decide)
theorem n103_21 : Snd mt G 103 21 (oDup 22) := w_dup (hm := mm103) dX1_modelOf_21
theorem n103_22 : Snd mt G 103 22 (oCall 1 (fI 484 1) 0 25 xOut) := s_callI (m' := 484) (n := 0) xsh_out (w_xok0 mm103) (w_cal mm103 mm484 pn_J21 (Nat.le_of_ble_eq_true rfl) (Nat.le_of_ble_eq_true rfl)) (fun h b as hn => w_run_I mm103 mm484 dX1_modelOf_22 rfl rfl q1776 q1777 q171 q1778 pa484 hn)
theorem n103_25 : Snd mt G 103 25 (oThrow [7]) := w_throw (hm := mm103) dX1_modelOf_25 (List.forall_mem_cons.mpr ⟨⟨6, _, rfl, (Nat.le_of_ble_eq_true rfl), vc_6⟩, (fun t ht => nomatch ht)⟩) rfl
theorem n103_26 : Snd mt G 103 26 (oAload 0 27) := w_aload_n (hm := mm103) dX1_modelOf_26
theorem n103_27 : Snd mt G 103 27 (oGetf [1] 0 30) := w_getf (hm := mm103) dX1_modelOf_27 (fok1 (k := 0) (T := TX1) 0 (Nat.le_of_ble_eq_true rfl) vc_0 (Nat.le_of_ble_eq_true rfl) q623)
theorem n103_30 : Snd mt G 103 30 (oGetf [2] 0 33) := w_getfN (hm := mm103) dX1_modelOf_30 (fokn1 (k := 0) (T := TX2) 1 (Nat.le_of_ble_eq_true rfl) vc_1 (Nat.le_of_ble_eq_true rfl) q543)
theorem n103_33 : Snd mt G 103 33 (oIload 1 34) := w_iload_n (hm := mm103) dX1_modelOf_33
theorem n103_34 : Snd mt G 103 34 (oCall 2 (fV [3] 176 2) 0 37 xOut) := s_callV (m' := 176) (n := 1) xsh_out (w_xok0 mm103) (w_cal mm103 mm176 pn_J2 (Nat.le_of_ble_eq_true rfl) (Nat.le_of_ble_eq_true rfl)) (fun h b as hc hn => w_run_V (ci := 2) mm103 mm176 dX1_modelOf_34 (Or.inl (List.mem_singleton.mp hc)) (Nat.le_of_ble_eq_true rfl) vc_2 rfl q713 q714 q715 q133 q716 pa176 hn)
theorem n103_37 : Snd mt G 103 37 (oCast [18] 40) := w_cast (hm := mm103) dX1_modelOf_37 q888 (List.forall_mem_cons.mpr ⟨⟨17, _, Or.inl rfl, (Nat.le_of_ble_eq_true rfl), vc_17, Or.inl rfl⟩, (fun t ht => nomatch ht)⟩)
theorem n103_40 : Snd mt G 103 40 (oRetA) := w_aret (hm := mm103) dX1_modelOf_40 rfl (Or.inl ⟨_, rfl⟩)
theorem sj103 : ∀ pc, Snd mt G 103 pc (j103 pc) := fun pc => (snd_br ((snd_br ((snd_br ((snd_br ((snd_br ((snd_lf n103_40)) ((snd_lf n103_37)))) ((snd_lf n103_34)))) ((snd_br ((snd_lf n103_33)) ((snd_lf n103_30)))))) ((snd_br ((snd_br ((snd_br ((snd_lf n103_27)) ((snd_lf n103_26)))) ((snd_lf n103_25)))) ((snd_br ((snd_lf n103_22)) ((snd_lf n103_21)))))))) ((snd_br ((snd_br ((snd_br ((snd_br ((snd_lf n103_18)) ((snd_lf n103_15)))) ((snd_lf n103_12)))) ((snd_br ((snd_lf n103_9)) ((snd_lf n103_6)))))) ((snd_br ((snd_br ((snd_lf n103_5)) ((snd_lf n103_4)))) ((snd_br ((snd_lf n103_1)) ((snd_lf n103_0)))))))))
end
section
variable {G : AG}
theorem n104_0 : Snd mt G 104 0 (oAload 0 1) := w_aload_n (hm := mm104) dX1_barOf_0
theorem n104_1 : Snd mt G 104 1 (oAload 1 2) := w_aload_n (hm := mm104) dX1_barOf_1
theorem n104_2 : Snd mt G 104 2 (oCall 2 (fV [1] 57 2) 0 5 xOut) := s_callV (m' := 57) (n := 1) xsh_out (w_xok0 mm104) (w_cal mm104 mm57 pn_X1 (Nat.le_of_ble_eq_true rfl) (Nat.le_of_ble_eq_true rfl)) (fun h b as hc hn => w_run_V (ci := 0) mm104 mm57 dX1_barOf_2 (Or.inl (List.mem_singleton.mp hc)) (Nat.le_of_ble_eq_true rfl) vc_0 rfl q732 q734 qs3 q129 q735 pa57 hn)
theorem n104_5 : Snd mt G 104 5 (oConst (.int 0) 6) := w_iconst (hm := mm104) dX1_barOf_5 rfl
theorem n104_6 : Snd mt G 104 6 (oIstore 4 8) := w_istore (hm := mm104) dX1_barOf_6 (Nat.le_of_ble_eq_true rfl)
theorem n104_8 : Snd mt G 104 8 (oIload 4 10) := w_iload (hm := mm104) dX1_barOf_8
theorem n104_10 : Snd mt G 104 10 (oAload 0 11) := w_aload_n (hm := mm104) dX1_barOf_10
theorem n104_11 : Snd mt G 104 11 (oGetf [1] 2 14) := w_getf (hm := mm104) dX1_barOf_11 (fok1 (k := 2) (T := TX1) 0 (Nat.le_of_ble_eq_true rfl) vc_0 (Nat.le_of_ble_eq_true rfl) q625)
theorem n104_14 : Snd mt G 104 14 (oCall 1 (fV [3] 175 1) 0 17 xOut) := s_callV (m' := 175) (n := 0) xsh_out (w_xok0 mm104) (w_cal mm104 mm175 pn_J2 (Nat.le_of_ble_eq_true rfl) (Nat.le_of_ble_eq_true rfl)) (fun h b as hc hn => w_run_V (ci := 2) mm104 mm175 dX1_barOf_14 (Or.inl (List.mem_singleton.mp hc)) (Nat.le_of_ble_eq_true rfl) vc_2 rfl q709 q710 q711 q133 q712 pa175 hn)
theorem n104_17 : Snd mt G 104 17 (oCmpGe 53 20) := w_icmp_ge (hm := mm104) dX1_barOf_17 rfl
theorem n104_20 : Snd mt G 104 20 (oAload 0 21) := w_aload_n (hm := mm104) dX1_barOf_20
theorem n104_21 : Snd mt G 104 21 (oGetf [1] 2 24) := w_getf (hm := mm104) dX1_barOf_21 (fok1 (k := 2) (T := TX1) 0 (Nat.le_of_ble_eq_true rfl) vc_0 (Nat.le_of_ble_eq_true rfl) q625)
theorem n104_24 : Snd mt G 104 24 (oIload 4 26) := w_iload (hm := mm104) dX1_barOf_24
theorem n104_26 : Snd mt G 104 26 (oCall 2 (fV [3] 176 2) 0 29 xOut) := s_callV (m' := 176) (n := 1) xsh_out (w_xok0 mm104) (w_cal mm104 mm176 pn_J2 (Nat.le_of_ble_eq_true rfl) (Nat.le_of_ble_eq_true rfl)) (fun h b as hc hn => w_run_V (ci := 2) mm104 mm176 dX1_barOf_26 (Or.inl (List.mem_singleton.mp hc)) (Nat.le_of_ble_eq_true rfl) vc_2 rfl q713 q714 q715 q133 q716 pa176 hn)
theorem n104_29 : Snd mt G 104 29 (oCast [8, 9, 13, 14] 32) := w_cast (hm := mm104) dX1_barOf_29 q754 (List.forall_mem_cons.mpr ⟨⟨7, _, Or.inl rfl, (Nat.le_of_ble_eq_true rfl), vc_7, Or.inr (List.mem_filter.mpr ⟨q3193, rfl⟩)⟩, (List.forall_mem_cons.mpr ⟨⟨8, _, Or.inl rfl, (Nat.le_of_ble_eq_true rfl), vc_8, Or.inr (List.mem_filter.mpr ⟨q3196, rfl⟩)⟩, (List.forall_mem_cons.mpr ⟨⟨12, _, Or.inl rfl, (Nat.le_of_ble_eq_true rfl), vc_12, Or.inr (List.mem_filter.mpr ⟨q3195, rfl⟩)⟩, (List.forall_mem_cons.mpr ⟨⟨13, _, Or.inl rfl, (Nat.le_of_ble_eq_true rfl), vc_13, Or.inr (List.mem_filter.mpr ⟨q3194, rfl⟩)⟩, (fun t ht => nomatch ht)⟩)⟩)⟩)⟩)
theorem n104_32 : Snd mt G 104 32 (oIload 2 33) := w_iload_n (hm := mm104) dX1_barOf_32
theorem n104_33 : Snd mt G 104 33 (oIload 3 34) := w_iload_n (hm := mm104) dX1_barOf_33
theorem n104_34 : Snd mt G 104 34 (oAload 0 35) := w_aload_n (hm := mm104) dX1_barOf_34
theorem n104_35 : Snd mt G 104 35 (oGetf [1] 9 38) := w_getf (hm := mm104) dX1_barOf_35 (fok1 (k := 9) (T := TX1) 0 (Nat.le_of_ble_eq_true rfl) vc_0 (Nat.le_of_ble_eq_true rfl) q632)
theorem n104_38 : Snd mt G 104 38 (oCall 4 (fP [(8, 452, 4), (9, 450, 4), (13, 450, 4), (14, 450, 4)]) 0 41 xOut) := s_callP (n := 3) (len := 3) xsh_out (w_xok0 mm104) (List.forall_mem_cons.mpr ⟨(w_cal mm104 mm452 pn_X8 (Nat.le_of_ble_eq_true rfl) (Nat.le_of_ble_eq_true rfl)), (List.forall_mem_cons.mpr ⟨(w_cal mm104 mm450 pn_X7 (Nat.le_of_ble_eq_true rfl) (Nat.le_of_ble_eq_true rfl)), (List.forall_mem_cons.mpr ⟨(w_cal mm104 mm450 pn_X7 (Nat.le_of_ble_eq_true rfl) (Nat.le_of_ble_eq_true rfl)), (List.forall_mem_cons.mpr ⟨(w_cal mm104 mm450 pn_X7 (Nat.le_of_ble_eq_true rfl) (Nat.le_of_ble_eq_true rfl)), (fun z hz => nomatch hz)⟩)⟩)⟩)⟩) (List.forall_mem_cons.mpr ⟨(fun h b as hc hn => w_run_U (owner := "LimbBenches$Clause") (ci := 7) mm104 mm452 dX1_barOf_38 (Or.inl hc) (Nat.le_of_ble_eq_true rfl) vc_7 (Or.inr (Or.inl ⟨_, _, _, q1798, q1787⟩)) q1786 q1788 q1790 q1789 q155 q1791 ⟨by decide, by decide, by decide +kernel⟩ hn), (List.forall_mem_cons.mpr ⟨(fun h b as hc hn => w_run_U (owner := "LimbBenches$Clause") (ci := 8) mm104 mm450 dX1_barOf_38 (Or.inl hc) (Nat.le_of_ble_eq_true rfl) vc_8 (Or.inl rfl) q1786 q1788 q1787 q1797 q154 q1798 ⟨by decide, by decide, by decide +kernel⟩ hn), (List.forall_mem_cons.mpr ⟨(fun h b as hc hn => w_run_U (owner := "LimbBenches$Clause") (ci := 12) mm104 mm450 dX1_barOf_38 (Or.inl hc) (Nat.le_of_ble_eq_true rfl) vc_12 (Or.inl rfl) q1786 q1788 q1787 q1796 q154 q1798 ⟨by decide, by decide, by decide +kernel⟩ hn), (List.forall_mem_cons.mpr ⟨(fun h b as hc hn => w_run_U (owner := "LimbBenches$Clause") (ci := 13) mm104 mm450 dX1_barOf_38 (Or.inl hc) (Nat.le_of_ble_eq_true rfl) vc_13 (Or.inl rfl) q1786 q1788 q1787 q1795 q154 q1798 ⟨by decide, by decide, by decide +kernel⟩ hn), (fun z hz => nomatch hz)⟩)⟩)⟩)⟩)
theorem n104_41 : Snd mt G 104 41 (oIfEq 47 44) := w_if_eq (hm := mm104) dX1_barOf_41 rfl
theorem n104_44 : Snd mt G 104 44 (oIload 4 46) := w_iload (hm := mm104) dX1_barOf_44
theorem n104_46 : Snd mt G 104 46 (oRetI .int) := w_iret (hm := mm104) dX1_barOf_46 rfl
theorem n104_47 : Snd mt G 104 47 (oIinc 4 1 50) := w_iinc (hm := mm104) dX1_barOf_47 rfl (Nat.le_of_ble_eq_true rfl)
theorem n104_50 : Snd mt G 104 50 (oGoto 8) := w_goto (hm := mm104) dX1_barOf_50 rfl
theorem n104_53 : Snd mt G 104 53 (oConst (.int (-1)) 54) := w_iconst (hm := mm104) dX1_barOf_53 rfl
theorem n104_54 : Snd mt G 104 54 (oRetI .int) := w_iret (hm := mm104) dX1_barOf_54 rfl
theorem sj104 : ∀ pc, Snd mt G 104 pc (j104 pc) := fun pc => (snd_br ((snd_br ((snd_br ((snd_br ((snd_br ((snd_lf n104_54)) ((snd_lf n104_53)))) ((snd_br ((snd_lf n104_50)) ((snd_lf n104_47)))))) ((snd_br ((snd_br ((snd_lf n104_46)) ((snd_lf n104_44)))) ((snd_lf n104_41)))))) ((snd_br ((snd_br ((snd_br ((snd_lf n104_38)) ((snd_lf n104_35)))) ((snd_br ((snd_lf n104_34)) ((snd_lf n104_33)))))) ((snd_br ((snd_br ((snd_lf n104_32)) ((snd_lf n104_29)))) ((snd_lf n104_26)))))))) ((snd_br ((snd_br ((snd_br ((snd_br ((snd_lf n104_24)) ((snd_lf n104_21)))) ((snd_br ((snd_lf n104_20)) ((snd_lf n104_17)))))) ((snd_br ((snd_br ((snd_lf n104_14)) ((snd_lf n104_11)))) ((snd_lf n104_10)))))) ((snd_br ((snd_br ((snd_br ((snd_lf n104_8)) ((snd_lf n104_6)))) ((snd_lf n104_5)))) ((snd_br ((snd_br ((snd_lf n104_2)) ((snd_lf n104_1)))) ((snd_lf n104_0)))))))))
end
section
variable {G : AG}
theorem n105_0 : Snd mt G 105 0 (oAload 0 1) := w_aload_n (hm := mm105) dX1_fit_0
theorem n105_1 : Snd mt G 105 1 (oIload 1 2) := w_iload_n (hm := mm105) dX1_fit_1
theorem n105_2 : Snd mt G 105 2 (oCall 2 (fV [1] 97 2) 0 5 xOut) := s_callV (m' := 97) (n := 1) xsh_out (w_xok0 mm105) (w_cal mm105 mm97 pn_X1 (Nat.le_of_ble_eq_true rfl) (Nat.le_of_ble_eq_true rfl)) (fun h b as hc hn => w_run_V (ci := 0) mm105 mm97 dX1_fit_2 (Or.inl (List.mem_singleton.mp hc)) (Nat.le_of_ble_eq_true rfl) vc_0 rfl q1688 q1690 qs41 q129 q1691 pa97 hn)
theorem n105_5 : Snd mt G 105 5 (oAstore 4 7) := w_astore (hm := mm105) dX1_fit_5 (Nat.le_of_ble_eq_true rfl)
theorem n105_7 : Snd mt G 105 7 (oAload 0 8) := w_aload_n (hm := mm105) dX1_fit_7
theorem n105_8 : Snd mt G 105 8 (oIload 2 9) := w_iload_n (hm := mm105) dX1_fit_8
theorem n105_9 : Snd mt G 105 9 (oCall 2 (fV [1] 103 2) 0 12 xOut) := s_callV (m' := 103) (n := 1) xsh_out (w_xok0 mm105) (w_cal mm105 mm103 pn_X1 (Nat.le_of_ble_eq_true rfl) (Nat.le_of_ble_eq_true rfl)) (fun h b as hc hn => w_run_V (ci := 0) mm105 mm103 dX1_fit_9 (Or.inl (List.mem_singleton.mp hc)) (Nat.le_of_ble_eq_true rfl) vc_0 rfl q1763 q1765 qs43 q129 q1766 pa103 hn)
theorem n105_12 : Snd mt G 105 12 (oPop 13) := w_pop (hm := mm105) dX1_fit_12
theorem n105_13 : Snd mt G 105 13 (oIload 3 14) := w_iload_n (hm := mm105) dX1_fit_13
theorem n105_14 : Snd mt G 105 14 (oCall 1 (fS 106 1) 0 17 xOut) := s_callS (m' := 106) (n := 1) xsh_out (w_xok0 mm105) (w_cal mm105 mm106 pn_X1 (Nat.le_of_ble_eq_true rfl) (Nat.le_of_ble_eq_true rfl)) (fun h as hn => w_run_S mm105 mm106 dX1_fit_14 q1806 q1807 q129 q1808 pa106 hn)
theorem n105_17 : Snd mt G 105 17 (oCall 1 (fS 89 1) 0 20 xOut) := s_callS (m' := 89) (n := 1) xsh_out (w_xok0 mm105) (w_cal mm105 mm89 pn_X1 (Nat.le_of_ble_eq_true rfl) (Nat.le_of_ble_eq_true rfl)) (fun h as hn => w_run_S mm105 mm89 dX1_fit_17 q1180 q1181 q129 q1182 pa89 hn)
theorem n105_20 : Snd mt G 105 20 (oAload 0 21) := w_aload_n (hm := mm105) dX1_fit_20
theorem n105_21 : Snd mt G 105 21 (oAload 4 23) := w_aload (hm := mm105) dX1_fit_21
theorem n105_23 : Snd mt G 105 23 (oIload 2 24) := w_iload_n (hm := mm105) dX1_fit_23
theorem n105_24 : Snd mt G 105 24 (oIload 3 25) := w_iload_n (hm := mm105) dX1_fit_24
theorem n105_25 : Snd mt G 105 25 (oConst (.int 0) 26) := w_iconst (hm := mm105) dX1_fit_25 rfl
theorem n105_26 : Snd mt G 105 26 (oCall 5 (fV [1] 107 6) 0 29 xOut) := s_callV (m' := 107) (n := 4) xsh_out (w_xok0 mm105) (w_cal mm105 mm107 pn_X1 (Nat.le_of_ble_eq_true rfl) (Nat.le_of_ble_eq_true rfl)) (fun h b as hc hn => w_run_V (ci := 0) mm105 mm107 dX1_fit_26 (Or.inl (List.mem_singleton.mp hc)) (Nat.le_of_ble_eq_true rfl) vc_0 rfl q1809 q1811 qs45 q129 q1812 pa107 hn)
theorem n105_29 : Snd mt G 105 29 (oRetI .int) := w_iret (hm := mm105) dX1_fit_29 rfl
theorem sj105 : ∀ pc, Snd mt G 105 pc (j105 pc) := fun pc => (snd_br ((snd_br ((snd_br ((snd_br ((snd_br ((snd_lf n105_29)) ((snd_lf n105_26)))) ((snd_lf n105_25)))) ((snd_br ((snd_lf n105_24)) ((snd_lf n105_23)))))) ((snd_br ((snd_br ((snd_lf n105_21)) ((snd_lf n105_20)))) ((snd_br ((snd_lf n105_17)) ((snd_lf n105_14)))))))) ((snd_br ((snd_br ((snd_br ((snd_br ((snd_lf n105_13)) ((snd_lf n105_12)))) ((snd_lf n105_9)))) ((snd_br ((snd_lf n105_8)) ((snd_lf n105_7)))))) ((snd_br ((snd_br ((snd_lf n105_5)) ((snd_lf n105_2)))) ((snd_br ((snd_lf n105_1)) ((snd_lf n105_0)))))))))
end
section
variable {G : AG}
theorem n106_0 : Snd mt G 106 0 (oIload 0 1) := w_iload_n (hm := mm106) dX1_isSerial_0
theorem n106_1 : Snd mt G 106 1 (oIfLt 15 4) := w_if_lt (hm := mm106) dX1_isSerial_1 rfl
theorem n106_4 : Snd mt G 106 4 (oIload 0 5) := w_iload_n (hm := mm106) dX1_isSerial_4
theorem n106_5 : Snd mt G 106 5 (oConst (.int 9999) 8) := w_sipush (hm := mm106) dX1_isSerial_5 (by decide)
theorem n106_8 : Snd mt G 106 8 (oCmpGt 15 11) := w_icmp_gt (hm := mm106) dX1_isSerial_8 rfl
theorem n106_11 : Snd mt G 106 11 (oConst (.int 1) 12) := w_iconst (hm := mm106) dX1_isSerial_11 rfl
theorem n106_12 : Snd mt G 106 12 (oGoto 16) := w_goto (hm := mm106) dX1_isSerial_12 rfl
theorem n106_15 : Snd mt G 106 15 (oConst (.int 0) 16) := w_iconst (hm := mm106) dX1_isSerial_15 rfl
theorem n106_16 : Snd mt G 106 16 (oRetI .boolean) := w_zret (hm := mm106) dX1_isSerial_16 rfl
theorem sj106 : ∀ pc, Snd mt G 106 pc (j106 pc) := fun pc => (snd_br ((snd_br ((snd_br ((snd_br ((snd_lf n106_16)) ((snd_lf n106_15)))) ((snd_lf n106_12)))) ((snd_br ((snd_lf n106_11)) ((snd_lf n106_8)))))) ((snd_br ((snd_br ((snd_lf n106_5)) ((snd_lf n106_4)))) ((snd_br ((snd_lf n106_1)) ((snd_lf n106_0)))))))
end
section
variable {G : AG}
theorem n107_0 : Snd mt G 107 0 (oAload 0 1) := w_aload_n (hm := mm107) dX1_fits_0
theorem n107_1 : Snd mt G 107 1 (oGetf [1] 0 4) := w_getf (hm := mm107) dX1_fits_1 (fok1 (k := 0) (T := TX1) 0 (Nat.le_of_ble_eq_true rfl) vc_0 (Nat.le_of_ble_eq_true rfl) q623)
theorem n107_4 : Snd mt G 107 4 (oGetf [2] 0 7) := w_getfN (hm := mm107) dX1_fits_4 (fokn1 (k := 0) (T := TX2) 1 (Nat.le_of_ble_eq_true rfl) vc_1 (Nat.le_of_ble_eq_true rfl) q543)
theorem n107_7 : Snd mt G 107 7 (oIload 2 8) := w_iload_n (hm := mm107) dX1_fits_7
theorem n107_8 : Snd mt G 107 8 (oCall 2 (fV [3] 176 2) 0 11 xOut) := s_callV (m' := 176) (n := 1) xsh_out (w_xok0 mm107) (w_cal mm107 mm176 pn_J2 (Nat.le_of_ble_eq_true rfl) (Nat.le_of_ble_eq_true rfl)) (fun h b as hc hn => w_run_V (ci := 2) mm107 mm176 dX1_fits_8 (Or.inl (List.mem_singleton.mp hc)) (Nat.le_of_ble_eq_true rfl) vc_2 rfl q713 q714 q715 q133 q716 pa176 hn)
theorem n107_11 : Snd mt G 107 11 (oCast [18] 14) := w_cast (hm := mm107) dX1_fits_11 q888 (List.forall_mem_cons.mpr ⟨⟨17, _, Or.inl rfl, (Nat.le_of_ble_eq_true rfl), vc_17, Or.inl rfl⟩, (fun t ht => nomatch ht)⟩)
theorem n107_14 : Snd mt G 107 14 (oAstore 5 16) := w_astore (hm := mm107) dX1_fits_14 (Nat.le_of_ble_eq_true rfl)
theorem n107_16 : Snd mt G 107 16 (oAload 5 18) := w_aload (hm := mm107) dX1_fits_16
theorem n107_18 : Snd mt G 107 18 (oGetf [18] 2 21) := w_getfN (hm := mm107) dX1_fits_18 (fokn1 (k := 2) (T := TX19) 17 (Nat.le_of_ble_eq_true rfl) vc_17 (Nat.le_of_ble_eq_true rfl) q1634)
theorem n107_21 : Snd mt G 107 21 (oAload 1 22) := w_aload_n (hm := mm107) dX1_fits_21
theorem n107_22 : Snd mt G 107 22 (oGetf [19] 0 25) := w_getfN (hm := mm107) dX1_fits_22 (fokn1 (k := 0) (T := TX20) 18 (Nat.le_of_ble_eq_true rfl) vc_18 (Nat.le_of_ble_eq_true rfl) q1067)
theorem n107_25 : Snd mt G 107 25 (oCmpGe 30 28) := w_icmp_ge (hm := mm107) dX1_fits_25 rfl
theorem n107_28 : Snd mt G 107 28 (oConst (.int (-1)) 29) := w_iconst (hm := mm107) dX1_fits_28 rfl
theorem n107_29 : Snd mt G 107 29 (oRetI .int) := w_iret (hm := mm107) dX1_fits_29 rfl
theorem n107_30 : Snd mt G 107 30 (oAload 0 31) := w_aload_n (hm := mm107) dX1_fits_30
theorem n107_31 : Snd mt G 107 31 (oAload 1 32) := w_aload_n (hm := mm107) dX1_fits_31
theorem n107_32 : Snd mt G 107 32 (oIload 2 33) := w_iload_n (hm := mm107) dX1_fits_32
theorem n107_33 : Snd mt G 107 33 (oCall 3 (fV [1] 108 5) 0 36 xOut) := s_callV (m' := 108) (n := 2) xsh_out (w_xok0 mm107) (w_cal mm107 mm108 pn_X1 (Nat.le_of_ble_eq_true rfl) (Nat.le_of_ble_eq_true rfl)) (fun h b as hc hn => w_run_V (ci := 0) mm107 mm108 dX1_fits_33 (Or.inl (List.mem_singleton.mp hc)) (Nat.le_of_ble_eq_true rfl) vc_0 rfl q1813 q1815 qs46 q129 q1816 pa108 hn)
theorem n107_36 : Snd mt G 107 36 (oIfEq 42 39) := w_if_eq (hm := mm107) dX1_fits_36 rfl
theorem n107_39 : Snd mt G 107 39 (oConst (.int (-2)) 41) := w_bipush (hm := mm107) dX1_fits_39 (by decide)
theorem n107_41 : Snd mt G 107 41 (oRetI .int) := w_iret (hm := mm107) dX1_fits_41 rfl
theorem n107_42 : Snd mt G 107 42 (oIload 4 44) := w_iload (hm := mm107) dX1_fits_42
theorem n107_44 : Snd mt G 107 44 (oIfEq 62 47) := w_if_eq (hm := mm107) dX1_fits_44 rfl
theorem n107_47 : Snd mt G 107 47 (oAload 0 48) := w_aload_n (hm := mm107) dX1_fits_47
theorem n107_48 : Snd mt G 107 48 (oGetf [1] 0 51) := w_getf (hm := mm107) dX1_fits_48 (fok1 (k := 0) (T := TX1) 0 (Nat.le_of_ble_eq_true rfl) vc_0 (Nat.le_of_ble_eq_true rfl) q623)
theorem n107_51 : Snd mt G 107 51 (oGetf [2] 11 54) := w_getfN (hm := mm107) dX1_fits_51 (fokn1 (k := 11) (T := TX2) 1 (Nat.le_of_ble_eq_true rfl) vc_1 (Nat.le_of_ble_eq_true rfl) q565)
theorem n107_54 : Snd mt G 107 54 (oIload 2 55) := w_iload_n (hm := mm107) dX1_fits_54
theorem n107_55 : Snd mt G 107 55 (oAld [100] 56) := w_iaload (hm := mm107) (kt := 0) dX1_fits_55 at_0 (Nat.le_of_ble_eq_true rfl) (List.forall_mem_cons.mpr ⟨Or.inl rfl, (fun t ht => nomatch ht)⟩)
theorem n107_56 : Snd mt G 107 56 (oIfEq 59 62) := w_if_ne (hm := mm107) dX1_fits_56 rfl
theorem n107_59 : Snd mt G 107 59 (oConst (.int (-3)) 61) := w_bipush (hm := mm107) dX1_fits_59 (by decide)
theorem n107_61 : Snd mt G 107 61 (oRetI .int) := w_iret (hm := mm107) dX1_fits_61 rfl
theorem n107_62 : Snd mt G 107 62 (oAload 0 63) := w_aload_n (hm := mm107) dX1_fits_62
theorem n107_63 : Snd mt G 107 63 (oGetf [1] 0 66) := w_getf (hm := mm107) dX1_fits_63 (fok1 (k := 0) (T := TX1) 0 (Nat.le_of_ble_eq_true rfl) vc_0 (Nat.le_of_ble_eq_true rfl) q623)
theorem n107_66 : Snd mt G 107 66 (oGetf [2] 5 69) := w_getfN (hm := mm107) dX1_fits_66 (fokn1 (k := 5) (T := TX2) 1 (Nat.le_of_ble_eq_true rfl) vc_1 (Nat.le_of_ble_eq_true rfl) q553)
theorem n107_69 : Snd mt G 107 69 (oCall 1 (fV [3] 175 1) 0 72 xOut) := s_callV (m' := 175) (n := 0) xsh_out (w_xok0 mm107) (w_cal mm107 mm175 pn_J2 (Nat.le_of_ble_eq_true rfl) (Nat.le_of_ble_eq_true rfl)) (fun h b as hc hn => w_run_V (ci := 2) mm107 mm175 dX1_fits_69 (Or.inl (List.mem_singleton.mp hc)) (Nat.le_of_ble_eq_true rfl) vc_2 rfl q709 q710 q711 q133 q712 pa175 hn)
theorem n107_72 : Snd mt G 107 72 (oConst (.int 200) 75) := w_sipush (hm := mm107) dX1_fits_72 (by decide)
theorem n107_75 : Snd mt G 107 75 (oCmpEq 78 81) := w_icmp_ne (hm := mm107) dX1_fits_75 rfl
theorem n107_78 : Snd mt G 107 78 (oConst (.int (-4)) 80) := w_bipush (hm := mm107) dX1_fits_78 (by decide)
theorem n107_80 : Snd mt G 107 80 (oRetI .int) := w_iret (hm := mm107) dX1_fits_80 rfl
theorem n107_81 : Snd mt G 107 81 (oIload 4 83) := w_iload (hm := mm107) dX1_fits_81
theorem n107_83 : Snd mt G 107 83 (oIfEq 99 86) := w_if_eq (hm := mm107) dX1_fits_83 rfl
theorem n107_86 : Snd mt G 107 86 (oAload 0 87) := w_aload_n (hm := mm107) dX1_fits_86
theorem n107_87 : Snd mt G 107 87 (oGetf [1] 0 90) := w_getf (hm := mm107) dX1_fits_87 (fok1 (k := 0) (T := TX1) 0 (Nat.le_of_ble_eq_true rfl) vc_0 (Nat.le_of_ble_eq_true rfl) q623)
theorem n107_90 : Snd mt G 107 90 (oGetf [2] 11 93) := w_getfN (hm := mm107) dX1_fits_90 (fokn1 (k := 11) (T := TX2) 1 (Nat.le_of_ble_eq_true rfl) vc_1 (Nat.le_of_ble_eq_true rfl) q565)
theorem n107_93 : Snd mt G 107 93 (oIload 2 94) := w_iload_n (hm := mm107) dX1_fits_93
theorem n107_94 : Snd mt G 107 94 (oDup2 95) := w_dup2 (hm := mm107) dX1_fits_94
theorem n107_95 : Snd mt G 107 95 (oAld [100] 96) := w_iaload (hm := mm107) (kt := 0) dX1_fits_95 at_0 (Nat.le_of_ble_eq_true rfl) (List.forall_mem_cons.mpr ⟨Or.inl rfl, (fun t ht => nomatch ht)⟩)
theorem n107_96 : Snd mt G 107 96 (oConst (.int 1) 97) := w_iconst (hm := mm107) dX1_fits_96 rfl
theorem n107_97 : Snd mt G 107 97 (oBin (fun x y => x - y) 98) := w_isub (hm := mm107) dX1_fits_97
theorem n107_98 : Snd mt G 107 98 (oIast [100] 99) := w_iastore (hm := mm107) (kt := 0) dX1_fits_98 at_0 (Nat.le_of_ble_eq_true rfl) (List.forall_mem_cons.mpr ⟨rfl, (fun t ht => nomatch ht)⟩)
theorem n107_99 : Snd mt G 107 99 (oAload 0 100) := w_aload_n (hm := mm107) dX1_fits_99
theorem n107_100 : Snd mt G 107 100 (oAload 1 101) := w_aload_n (hm := mm107) dX1_fits_100
theorem n107_101 : Snd mt G 107 101 (oIload 2 102) := w_iload_n (hm := mm107) dX1_fits_101
theorem n107_102 : Snd mt G 107 102 (oIload 3 103) := w_iload_n (hm := mm107) dX1_fits_102
theorem n107_103 : Snd mt G 107 103 (oConst (.int 0) 104) := w_iconst (hm := mm107) dX1_fits_103 rfl
theorem n107_104 : Snd mt G 107 104 (oCall 5 (fV [1] 109 6) 0 107 xOut) := s_callV (m' := 109) (n := 4) xsh_out (w_xok0 mm107) (w_cal mm107 mm109 pn_X1 (Nat.le_of_ble_eq_true rfl) (Nat.le_of_ble_eq_true rfl)) (fun h b as hc hn => w_run_V (ci := 0) mm107 mm109 dX1_fits_104 (Or.inl (List.mem_singleton.mp hc)) (Nat.le_of_ble_eq_true rfl) vc_0 rfl q1817 q1819 qs47 q129 q1820 pa109 hn)
theorem n107_107 : Snd mt G 107 107 (oAload 1 108) := w_aload_n (hm := mm107) dX1_fits_107
theorem n107_108 : Snd mt G 107 108 (oGetf [19] 9 111) := w_getfN (hm := mm107) dX1_fits_108 (fokn1 (k := 9) (T := TX20) 18 (Nat.le_of_ble_eq_true rfl) vc_18 (Nat.le_of_ble_eq_true rfl) q1085)
theorem n107_111 : Snd mt G 107 111 (oAload 0 112) := w_aload_n (hm := mm107) dX1_fits_111
theorem n107_112 : Snd mt G 107 112 (oCall 1 (fV [1] 110 1) 0 115 xOut) := s_callV (m' := 110) (n := 0) xsh_out (w_xok0 mm107) (w_cal mm107 mm110 pn_X1 (Nat.le_of_ble_eq_true rfl) (Nat.le_of_ble_eq_true rfl)) (fun h b as hc hn => w_run_V (ci := 0) mm107 mm110 dX1_fits_112 (Or.inl (List.mem_singleton.mp hc)) (Nat.le_of_ble_eq_true rfl) vc_0 rfl q1855 q1857 qs48 q129 q1858 pa110 hn)
theorem n107_115 : Snd mt G 107 115 (oDup2 116) := w_dup2 (hm := mm107) dX1_fits_115
theorem n107_116 : Snd mt G 107 116 (oAld [100] 117) := w_iaload (hm := mm107) (kt := 0) dX1_fits_116 at_0 (Nat.le_of_ble_eq_true rfl) (List.forall_mem_cons.mpr ⟨Or.inl rfl, (fun t ht => nomatch ht)⟩)
theorem n107_117 : Snd mt G 107 117 (oAload 5 119) := w_aload (hm := mm107) dX1_fits_117
theorem n107_119 : Snd mt G 107 119 (oGetf [18] 1 122) := w_getfN (hm := mm107) dX1_fits_119 (fokn1 (k := 1) (T := TX19) 17 (Nat.le_of_ble_eq_true rfl) vc_17 (Nat.le_of_ble_eq_true rfl) q1632)
theorem n107_122 : Snd mt G 107 122 (oBin (fun x y => x + y) 123) := w_iadd (hm := mm107) dX1_fits_122
theorem n107_123 : Snd mt G 107 123 (oIast [100] 124) := w_iastore (hm := mm107) (kt := 0) dX1_fits_123 at_0 (Nat.le_of_ble_eq_true rfl) (List.forall_mem_cons.mpr ⟨rfl, (fun t ht => nomatch ht)⟩)
theorem n107_124 : Snd mt G 107 124 (oAload 1 125) := w_aload_n (hm := mm107) dX1_fits_124
theorem n107_125 : Snd mt G 107 125 (oGetf [19] 9 128) := w_getfN (hm := mm107) dX1_fits_125 (fokn1 (k := 9) (T := TX20) 18 (Nat.le_of_ble_eq_true rfl) vc_18 (Nat.le_of_ble_eq_true rfl) q1085)
theorem n107_128 : Snd mt G 107 128 (oAload 0 129) := w_aload_n (hm := mm107) dX1_fits_128
theorem n107_129 : Snd mt G 107 129 (oCall 1 (fV [1] 110 1) 0 132 xOut) := s_callV (m' := 110) (n := 0) xsh_out (w_xok0 mm107) (w_cal mm107 mm110 pn_X1 (Nat.le_of_ble_eq_true rfl) (Nat.le_of_ble_eq_true rfl)) (fun h b as hc hn => w_run_V (ci := 0) mm107 mm110 dX1_fits_129 (Or.inl (List.mem_singleton.mp hc)) (Nat.le_of_ble_eq_true rfl) vc_0 rfl q1855 q1857 qs48 q129 q1858 pa110 hn)
theorem n107_132 : Snd mt G 107 132 (oAld [100] 133) := w_iaload (hm := mm107) (kt := 0) dX1_fits_132 at_0 (Nat.le_of_ble_eq_true rfl) (List.forall_mem_cons.mpr ⟨Or.inl rfl, (fun t ht => nomatch ht)⟩)
theorem n107_133 : Snd mt G 107 133 (oRetI .int) := w_iret (hm := mm107) dX1_fits_133 rfl
theorem sj107 : ∀ pc, Snd mt G 107 pc (j107 pc) := fun pc => (snd_br ((snd_br ((snd_br ((snd_br ((snd_br ((snd_br ((snd_br ((snd_lf n107_133)) ((snd_lf n107_132)))) ((snd_lf n107_129)))) ((snd_br ((snd_lf n107_128)) ((snd_lf n107_125)))))) ((snd_br ((snd_br ((snd_lf n107_124)) ((snd_lf n107_123)))) ((snd_br ((snd_lf n107_122)) ((snd_lf n107_119)))))))) ((snd_br ((snd_br ((snd_br ((snd_br ((snd_lf n107_117)) ((snd_lf n107_116)))) ((snd_lf n107_115)))) ((snd_br ((snd_lf n107_112)) ((snd_lf n107_111)))))) ((snd_br ((snd_br ((snd_lf n107_108)) ((snd_lf n107_107)))) ((snd_br ((snd_lf n107_104)) ((snd_lf n107_103)))))))))) ((snd_br ((snd_br ((snd_br ((snd_br ((snd_br ((snd_lf n107_102)) ((snd_lf n107_101)))) ((snd_lf n107_100)))) ((snd_br ((snd_lf n107_99)) ((snd_lf n107_98)))))) ((snd_br ((snd_br ((snd_lf n107_97)) ((snd_lf n107_96)))) ((snd_br ((snd_lf n107_95)) ((snd_lf n107_94)))))))) ((snd_br ((snd_br ((snd_br ((snd_br ((snd_lf n107_93)) ((snd_lf n107_90)))) ((snd_lf n107_87)))) ((snd_br ((snd_lf n107_86)) ((snd_lf n107_83)))))) ((snd_br ((snd_br ((snd_lf n107_81)) ((snd_lf n107_80)))) ((snd_br ((snd_lf n107_78)) ((snd_lf n107_75)))))))))))) ((snd_br ((snd_br ((snd_br ((snd_br ((snd_br ((snd_br ((snd_lf n107_72)) ((snd_lf n107_69)))) ((snd_lf n107_66)))) ((snd_br ((snd_lf n107_63)) ((snd_lf n107_62)))))) ((snd_br ((snd_br ((snd_lf n107_61)) ((snd_lf n107_59)))) ((snd_br ((snd_lf n107_56)) ((snd_lf n107_55)))))))) ((snd_br ((snd_br ((snd_br ((snd_br ((snd_lf n107_54)) ((snd_lf n107_51)))) ((snd_lf n107_48)))) ((snd_br ((snd_lf n107_47)) ((snd_lf n107_44)))))) ((snd_br ((snd_br ((snd_lf n107_42)) ((snd_lf n107_41)))) ((snd_br ((snd_lf n107_39)) ((snd_lf n107_36)))))))))) ((snd_br ((snd_br ((snd_br ((snd_br ((snd_br ((snd_lf n107_33)) ((snd_lf n107_32)))) ((snd_lf n107_31)))) ((snd_br ((snd_lf n107_30)) ((snd_lf n107_29)))))) ((snd_br ((snd_br ((snd_lf n107_28)) ((snd_lf n107_25)))) ((snd_br ((snd_lf n107_22)) ((snd_lf n107_21)))))))) ((snd_br ((snd_br ((snd_br ((snd_br ((snd_lf n107_18)) ((snd_lf n107_16)))) ((snd_lf n107_14)))) ((snd_br ((snd_lf n107_11)) ((snd_lf n107_8)))))) ((snd_br ((snd_br ((snd_lf n107_7)) ((snd_lf n107_4)))) ((snd_br ((snd_lf n107_1)) ((snd_lf n107_0)))))))))))))
end
section
variable {G : AG}
theorem n108_0 : Snd mt G 108 0 (oAload 0 1) := w_aload_n (hm := mm108) dX1_isBarred_0
theorem n108_1 : Snd mt G 108 1 (oGetf [1] 0 4) := w_getf (hm := mm108) dX1_isBarred_1 (fok1 (k := 0) (T := TX1) 0 (Nat.le_of_ble_eq_true rfl) vc_0 (Nat.le_of_ble_eq_true rfl) q623)
theorem n108_4 : Snd mt G 108 4 (oGetf [2] 0 7) := w_getfN (hm := mm108) dX1_isBarred_4 (fokn1 (k := 0) (T := TX2) 1 (Nat.le_of_ble_eq_true rfl) vc_1 (Nat.le_of_ble_eq_true rfl) q543)
theorem n108_7 : Snd mt G 108 7 (oIload 2 8) := w_iload_n (hm := mm108) dX1_isBarred_7
theorem n108_8 : Snd mt G 108 8 (oCall 2 (fV [3] 176 2) 0 11 xOut) := s_callV (m' := 176) (n := 1) xsh_out (w_xok0 mm108) (w_cal mm108 mm176 pn_J2 (Nat.le_of_ble_eq_true rfl) (Nat.le_of_ble_eq_true rfl)) (fun h b as hc hn => w_run_V (ci := 2) mm108 mm176 dX1_isBarred_8 (Or.inl (List.mem_singleton.mp hc)) (Nat.le_of_ble_eq_true rfl) vc_2 rfl q713 q714 q715 q133 q716 pa176 hn)
theorem n108_11 : Snd mt G 108 11 (oCast [18] 14) := w_cast (hm := mm108) dX1_isBarred_11 q888 (List.forall_mem_cons.mpr ⟨⟨17, _, Or.inl rfl, (Nat.le_of_ble_eq_true rfl), vc_17, Or.inl rfl⟩, (fun t ht => nomatch ht)⟩)
theorem n108_14 : Snd mt G 108 14 (oGetf [18] 0 17) := w_getfN (hm := mm108) dX1_isBarred_14 (fokn1 (k := 0) (T := TX19) 17 (Nat.le_of_ble_eq_true rfl) vc_17 (Nat.le_of_ble_eq_true rfl) q1630)
theorem n108_17 : Snd mt G 108 17 (oIstore 3 18) := w_istore_n (hm := mm108) dX1_isBarred_17 (Nat.le_of_ble_eq_true rfl)
theorem n108_18 : Snd mt G 108 18 (oConst (.int 0) 19) := w_iconst (hm := mm108) dX1_isBarred_18 rfl
theorem n108_19 : Snd mt G 108 19 (oIstore 4 21) := w_istore (hm := mm108) dX1_isBarred_19 (Nat.le_of_ble_eq_true rfl)
theorem n108_21 : Snd mt G 108 21 (oIload 4 23) := w_iload (hm := mm108) dX1_isBarred_21
theorem n108_23 : Snd mt G 108 23 (oConst (.int 4) 24) := w_iconst (hm := mm108) dX1_isBarred_23 rfl
theorem n108_24 : Snd mt G 108 24 (oCmpGe 71 27) := w_icmp_ge (hm := mm108) dX1_isBarred_24 rfl
theorem n108_27 : Snd mt G 108 27 (oIload 4 29) := w_iload (hm := mm108) dX1_isBarred_27
theorem n108_29 : Snd mt G 108 29 (oIload 3 30) := w_iload_n (hm := mm108) dX1_isBarred_29
theorem n108_30 : Snd mt G 108 30 (oCmpEq 65 33) := w_icmp_eq (hm := mm108) dX1_isBarred_30 rfl
theorem n108_33 : Snd mt G 108 33 (oAload 1 34) := w_aload_n (hm := mm108) dX1_isBarred_33
theorem n108_34 : Snd mt G 108 34 (oGetf [19] 8 37) := w_getfN (hm := mm108) dX1_isBarred_34 (fokn1 (k := 8) (T := TX20) 18 (Nat.le_of_ble_eq_true rfl) vc_18 (Nat.le_of_ble_eq_true rfl) q1083)
theorem n108_37 : Snd mt G 108 37 (oIload 4 39) := w_iload (hm := mm108) dX1_isBarred_37
theorem n108_39 : Snd mt G 108 39 (oAld [104] 40) := w_aaload (hm := mm108) (kt := 4) dX1_isBarred_39 rfl at_4 (Nat.le_of_ble_eq_true rfl) (List.forall_mem_cons.mpr ⟨Or.inl rfl, (fun t ht => nomatch ht)⟩)
theorem n108_40 : Snd mt G 108 40 (oIfNull 65 43) := w_ifnull (hm := mm108) dX1_isBarred_40 rfl
theorem n108_43 : Snd mt G 108 43 (oAload 0 44) := w_aload_n (hm := mm108) dX1_isBarred_43
theorem n108_44 : Snd mt G 108 44 (oAload 1 45) := w_aload_n (hm := mm108) dX1_isBarred_44
theorem n108_45 : Snd mt G 108 45 (oIload 2 46) := w_iload_n (hm := mm108) dX1_isBarred_45
theorem n108_46 : Snd mt G 108 46 (oAload 1 47) := w_aload_n (hm := mm108) dX1_isBarred_46
theorem n108_47 : Snd mt G 108 47 (oGetf [19] 8 50) := w_getfN (hm := mm108) dX1_isBarred_47 (fokn1 (k := 8) (T := TX20) 18 (Nat.le_of_ble_eq_true rfl) vc_18 (Nat.le_of_ble_eq_true rfl) q1083)
theorem n108_50 : Snd mt G 108 50 (oIload 4 52) := w_iload (hm := mm108) dX1_isBarred_50
theorem n108_52 : Snd mt G 108 52 (oAld [104] 53) := w_aaload (hm := mm108) (kt := 4) dX1_isBarred_52 rfl at_4 (Nat.le_of_ble_eq_true rfl) (List.forall_mem_cons.mpr ⟨Or.inl rfl, (fun t ht => nomatch ht)⟩)
theorem n108_53 : Snd mt G 108 53 (oGetf [20] 0 56) := w_getfN (hm := mm108) dX1_isBarred_53 (fokn1 (k := 0) (T := TX21) 19 (Nat.le_of_ble_eq_true rfl) vc_19 (Nat.le_of_ble_eq_true rfl) q1829)
theorem n108_56 : Snd mt G 108 56 (oCall 4 (fV [1] 104 5) 0 59 xOut) := s_callV (m' := 104) (n := 3) xsh_out (w_xok0 mm108) (w_cal mm108 mm104 pn_X1 (Nat.le_of_ble_eq_true rfl) (Nat.le_of_ble_eq_true rfl)) (fun h b as hc hn => w_run_V (ci := 0) mm108 mm104 dX1_isBarred_56 (Or.inl (List.mem_singleton.mp hc)) (Nat.le_of_ble_eq_true rfl) vc_0 rfl q1782 q1784 qs44 q129 q1785 pa104 hn)
theorem n108_59 : Snd mt G 108 59 (oConst (.int (-1)) 60) := w_iconst (hm := mm108) dX1_isBarred_59 rfl
theorem n108_60 : Snd mt G 108 60 (oCmpEq 65 63) := w_icmp_eq (hm := mm108) dX1_isBarred_60 rfl
theorem n108_63 : Snd mt G 108 63 (oConst (.int 1) 64) := w_iconst (hm := mm108) dX1_isBarred_63 rfl
theorem n108_64 : Snd mt G 108 64 (oRetI .boolean) := w_zret (hm := mm108) dX1_isBarred_64 rfl
theorem n108_65 : Snd mt G 108 65 (oIinc 4 1 68) := w_iinc (hm := mm108) dX1_isBarred_65 rfl (Nat.le_of_ble_eq_true rfl)
theorem n108_68 : Snd mt G 108 68 (oGoto 21) := w_goto (hm := mm108) dX1_isBarred_68 rfl
theorem n108_71 : Snd mt G 108 71 (oConst (.int 0) 72) := w_iconst (hm := mm108) dX1_isBarred_71 rfl
theorem n108_72 : Snd mt G 108 72 (oRetI .boolean) := w_zret (hm := mm108) dX1_isBarred_72 rfl
theorem sj108 : ∀ pc, Snd mt G 108 pc (j108 pc) := fun pc => (snd_br ((snd_br ((snd_br ((snd_br ((snd_br ((snd_br ((snd_lf n108_72)) ((snd_lf n108_71)))) ((snd_lf n108_68)))) ((snd_br ((snd_lf n108_65)) ((snd_lf n108_64)))))) ((snd_br ((snd_br ((snd_br ((snd_lf n108_63)) ((snd_lf n108_60)))) ((snd_lf n108_59)))) ((snd_br ((snd_lf n108_56)) ((snd_lf n108_53)))))))) ((snd_br ((snd_br ((snd_br ((snd_br ((snd_lf n108_52)) ((snd_lf n108_50)))) ((snd_lf n108_47)))) ((snd_br ((snd_lf n108_46)) ((snd_lf n108_45)))))) ((snd_br ((snd_br ((snd_lf n108_44)) ((snd_lf n108_43)))) ((snd_br ((snd_lf n108_40)) ((snd_lf n108_39)))))))))) ((snd_br ((snd_br ((snd_br ((snd_br ((snd_br ((snd_lf n108_37)) ((snd_lf n108_34)))) ((snd_lf n108_33)))) ((snd_br ((snd_lf n108_30)) ((snd_lf n108_29)))))) ((snd_br ((snd_br ((snd_br ((snd_lf n108_27)) ((snd_lf n108_24)))) ((snd_lf n108_23)))) ((snd_br ((snd_lf n108_21)) ((snd_lf n108_19)))))))) ((snd_br ((snd_br ((snd_br ((snd_br ((snd_lf n108_18)) ((snd_lf n108_17)))) ((snd_lf n108_14)))) ((snd_br ((snd_lf n108_11)) ((snd_lf n108_8)))))) ((snd_br ((snd_br ((snd_lf n108_7)) ((snd_lf n108_4)))) ((snd_br ((snd_lf n108_1)) ((snd_lf n108_0)))))))))))
end
section
variable {G : AG}
theorem n109_0 : Snd mt G 109 0 (oAload 0 1) := w_aload_n (hm := mm109) dX1_fits_2_0
theorem n109_1 : Snd mt G 109 1 (oGetf [1] 0 4) := w_getf (hm := mm109) dX1_fits_2_1 (fok1 (k := 0) (T := TX1) 0 (Nat.le_of_ble_eq_true rfl) vc_0 (Nat.le_of_ble_eq_true rfl) q623)
theorem n109_4 : Snd mt G 109 4 (oGetf [2] 0 7) := w_getfN (hm := mm109) dX1_fits_2_4 (fokn1 (k := 0) (T := TX2) 1 (Nat.le_of_ble_eq_true rfl) vc_1 (Nat.le_of_ble_eq_true rfl) q543)
theorem n109_7 : Snd mt G 109 7 (oIload 2 8) := w_iload_n (hm := mm109) dX1_fits_2_7
theorem n109_8 : Snd mt G 109 8 (oCall 2 (fV [3] 176 2) 0 11 xOut) := s_callV (m' := 176) (n := 1) xsh_out (w_xok0 mm109) (w_cal mm109 mm176 pn_J2 (Nat.le_of_ble_eq_true rfl) (Nat.le_of_ble_eq_true rfl)) (fun h b as hc hn => w_run_V (ci := 2) mm109 mm176 dX1_fits_2_8 (Or.inl (List.mem_singleton.mp hc)) (Nat.le_of_ble_eq_true rfl) vc_2 rfl q713 q714 q715 q133 q716 pa176 hn)
theorem n109_11 : Snd mt G 109 11 (oCast [18] 14) := w_cast (hm := mm109) dX1_fits_2_11 q888 (List.forall_mem_cons.mpr ⟨⟨17, _, Or.inl rfl, (Nat.le_of_ble_eq_true rfl), vc_17, Or.inl rfl⟩, (fun t ht => nomatch ht)⟩)
theorem n109_14 : Snd mt G 109 14 (oGetf [18] 0 17) := w_getfN (hm := mm109) dX1_fits_2_14 (fokn1 (k := 0) (T := TX19) 17 (Nat.le_of_ble_eq_true rfl) vc_17 (Nat.le_of_ble_eq_true rfl) q1630)
theorem n109_17 : Snd mt G 109 17 (oIstore 5 19) := w_istore (hm := mm109) dX1_fits_2_17 (Nat.le_of_ble_eq_true rfl)
theorem n109_19 : Snd mt G 109 19 (oAload 1 20) := w_aload_n (hm := mm109) dX1_fits_2_19
theorem n109_20 : Snd mt G 109 20 (oGetf [19] 8 23) := w_getfN (hm := mm109) dX1_fits_2_20 (fokn1 (k := 8) (T := TX20) 18 (Nat.le_of_ble_eq_true rfl) vc_18 (Nat.le_of_ble_eq_true rfl) q1083)
theorem n109_23 : Snd mt G 109 23 (oIload 5 25) := w_iload (hm := mm109) dX1_fits_2_23
theorem n109_25 : Snd mt G 109 25 (oNew 20 6 nfX21 28) := w_new (hm := mm109) (ci := 19) (T9 := TX21) (ty := tyX21) dX1_fits_2_25 (Nat.le_of_ble_eq_true rfl) vc_19 tyX21_ok (fun _ _ => rfl) q1821 q1822 q173
theorem n109_28 : Snd mt G 109 28 (oDup 29) := w_dup (hm := mm109) dX1_fits_2_28
theorem n109_29 : Snd mt G 109 29 (oIload 2 30) := w_iload_n (hm := mm109) dX1_fits_2_29
theorem n109_30 : Snd mt G 109 30 (oIload 3 31) := w_iload_n (hm := mm109) dX1_fits_2_30
theorem n109_31 : Snd mt G 109 31 (oAload 0 32) := w_aload_n (hm := mm109) dX1_fits_2_31
theorem n109_32 : Snd mt G 109 32 (oGetf [1] 0 35) := w_getf (hm := mm109) dX1_fits_2_32 (fok1 (k := 0) (T := TX1) 0 (Nat.le_of_ble_eq_true rfl) vc_0 (Nat.le_of_ble_eq_true rfl) q623)
theorem n109_35 : Snd mt G 109 35 (oGetf [2] 12 38) := w_getfN (hm := mm109) dX1_fits_2_35 (fokn1 (k := 12) (T := TX2) 1 (Nat.le_of_ble_eq_true rfl) vc_1 (Nat.le_of_ble_eq_true rfl) q567)
theorem n109_38 : Snd mt G 109 38 (oIload 4 40) := w_iload (hm := mm109) dX1_fits_2_38
theorem n109_40 : Snd mt G 109 40 (oAload 1 41) := w_aload_n (hm := mm109) dX1_fits_2_40
theorem n109_41 : Snd mt G 109 41 (oAload 0 42) := w_aload_n (hm := mm109) dX1_fits_2_41
theorem n109_42 : Snd mt G 109 42 (oGetf [1] 0 45) := w_getf (hm := mm109) dX1_fits_2_42 (fok1 (k := 0) (T := TX1) 0 (Nat.le_of_ble_eq_true rfl) vc_0 (Nat.le_of_ble_eq_true rfl) q623)
theorem n109_45 : Snd mt G 109 45 (oGetf [2] 12 48) := w_getfN (hm := mm109) dX1_fits_2_45 (fokn1 (k := 12) (T := TX2) 1 (Nat.le_of_ble_eq_true rfl) vc_1 (Nat.le_of_ble_eq_true rfl) q567)
theorem n109_48 : Snd mt G 109 48 (oCall 2 (fV [19] 481 2) 0 51 xOut) := s_callV (m' := 481) (n := 1) xsh_out (w_xok0 mm109) (w_cal mm109 mm481 pn_X20 (Nat.le_of_ble_eq_true rfl) (Nat.le_of_ble_eq_true rfl)) (fun h b as hc hn => w_run_V (ci := 18) mm109 mm481 dX1_fits_2_48 (Or.inl (List.mem_singleton.mp hc)) (Nat.le_of_ble_eq_true rfl) vc_18 rfl q1707 q1708 q1709 q169 q1710 pa481 hn)
theorem n109_51 : Snd mt G 109 51 (oAload 0 52) := w_aload_n (hm := mm109) dX1_fits_2_51
theorem n109_52 : Snd mt G 109 52 (oGetf [1] 0 55) := w_getf (hm := mm109) dX1_fits_2_52 (fok1 (k := 0) (T := TX1) 0 (Nat.le_of_ble_eq_true rfl) vc_0 (Nat.le_of_ble_eq_true rfl) q623)
theorem n109_55 : Snd mt G 109 55 (oGetf [2] 5 58) := w_getfN (hm := mm109) dX1_fits_2_55 (fokn1 (k := 5) (T := TX2) 1 (Nat.le_of_ble_eq_true rfl) vc_1 (Nat.le_of_ble_eq_true rfl) q553)
theorem n109_58 : Snd mt G 109 58 (oCall 1 (fV [3] 175 1) 0 61 xOut) := s_callV (m' := 175) (n := 0) xsh_out (w_xok0 mm109) (w_cal mm109 mm175 pn_J2 (Nat.le_of_ble_eq_true rfl) (Nat.le_of_ble_eq_true rfl)) (fun h b as hc hn => w_run_V (ci := 2) mm109 mm175 dX1_fits_2_58 (Or.inl (List.mem_singleton.mp hc)) (Nat.le_of_ble_eq_true rfl) vc_2 rfl q709 q710 q711 q133 q712 pa175 hn)
theorem n109_61 : Snd mt G 109 61 (oCall 7 (fI 486 7) 0 64 xOut) := s_callI (m' := 486) (n := 6) xsh_out (w_xok0 mm109) (w_cal mm109 mm486 pn_X21 (Nat.le_of_ble_eq_true rfl) (Nat.le_of_ble_eq_true rfl)) (fun h b as hn => w_run_I mm109 mm486 dX1_fits_2_61 rfl rfl q1823 q1824 q173 q1825 pa486 hn)
theorem n109_64 : Snd mt G 109 64 (oAast [104] es4 65) := w_aastore (hm := mm109) (kt := 4) dX1_fits_2_64 at_4 (Nat.le_of_ble_eq_true rfl) (List.forall_mem_cons.mpr ⟨rfl, (fun t ht => nomatch ht)⟩) es4_ok
theorem n109_65 : Snd mt G 109 65 (oAload 1 66) := w_aload_n (hm := mm109) dX1_fits_2_65
theorem n109_66 : Snd mt G 109 66 (oGetf [19] 10 69) := w_getfN (hm := mm109) dX1_fits_2_66 (fokn1 (k := 10) (T := TX20) 18 (Nat.le_of_ble_eq_true rfl) vc_18 (Nat.le_of_ble_eq_true rfl) q1087)
theorem n109_69 : Snd mt G 109 69 (oConst (.int 55) 71) := w_bipush (hm := mm109) dX1_fits_2_69 (by decide)
theorem n109_71 : Snd mt G 109 71 (oIload 5 73) := w_iload (hm := mm109) dX1_fits_2_71
theorem n109_73 : Snd mt G 109 73 (oBin (fun x y => x * y) 74) := w_imul (hm := mm109) dX1_fits_2_73
theorem n109_74 : Snd mt G 109 74 (oAload 0 75) := w_aload_n (hm := mm109) dX1_fits_2_74
theorem n109_75 : Snd mt G 109 75 (oCall 1 (fV [1] 110 1) 0 78 xOut) := s_callV (m' := 110) (n := 0) xsh_out (w_xok0 mm109) (w_cal mm109 mm110 pn_X1 (Nat.le_of_ble_eq_true rfl) (Nat.le_of_ble_eq_true rfl)) (fun h b as hc hn => w_run_V (ci := 0) mm109 mm110 dX1_fits_2_75 (Or.inl (List.mem_singleton.mp hc)) (Nat.le_of_ble_eq_true rfl) vc_0 rfl q1855 q1857 qs48 q129 q1858 pa110 hn)
theorem n109_78 : Snd mt G 109 78 (oBin (fun x y => x + y) 79) := w_iadd (hm := mm109) dX1_fits_2_78
theorem n109_79 : Snd mt G 109 79 (oDup2 80) := w_dup2 (hm := mm109) dX1_fits_2_79
theorem n109_80 : Snd mt G 109 80 (oAld [100] 81) := w_iaload (hm := mm109) (kt := 0) dX1_fits_2_80 at_0 (Nat.le_of_ble_eq_true rfl) (List.forall_mem_cons.mpr ⟨Or.inl rfl, (fun t ht => nomatch ht)⟩)
theorem n109_81 : Snd mt G 109 81 (oConst (.int 1) 82) := w_iconst (hm := mm109) dX1_fits_2_81 rfl
theorem n109_82 : Snd mt G 109 82 (oBin (fun x y => x + y) 83) := w_iadd (hm := mm109) dX1_fits_2_82
theorem n109_83 : Snd mt G 109 83 (oIast [100] 84) := w_iastore (hm := mm109) (kt := 0) dX1_fits_2_83 at_0 (Nat.le_of_ble_eq_true rfl) (List.forall_mem_cons.mpr ⟨rfl, (fun t ht => nomatch ht)⟩)
theorem n109_84 : Snd mt G 109 84 (oAload 0 85) := w_aload_n (hm := mm109) dX1_fits_2_84
theorem n109_85 : Snd mt G 109 85 (oGetf [1] 0 88) := w_getf (hm := mm109) dX1_fits_2_85 (fok1 (k := 0) (T := TX1) 0 (Nat.le_of_ble_eq_true rfl) vc_0 (Nat.le_of_ble_eq_true rfl) q623)
theorem n109_88 : Snd mt G 109 88 (oGetf [2] 5 91) := w_getfN (hm := mm109) dX1_fits_2_88 (fokn1 (k := 5) (T := TX2) 1 (Nat.le_of_ble_eq_true rfl) vc_1 (Nat.le_of_ble_eq_true rfl) q553)
theorem n109_91 : Snd mt G 109 91 (oNew 21 3 nfX22 94) := w_new (hm := mm109) (ci := 20) (T9 := TX22) (ty := tyX22) dX1_fits_2_91 (Nat.le_of_ble_eq_true rfl) vc_20 tyX22_ok (fun _ _ => rfl) q1859 q1860 q174
theorem n109_94 : Snd mt G 109 94 (oDup 95) := w_dup (hm := mm109) dX1_fits_2_94
theorem n109_95 : Snd mt G 109 95 (oAload 0 96) := w_aload_n (hm := mm109) dX1_fits_2_95
theorem n109_96 : Snd mt G 109 96 (oGetf [1] 0 99) := w_getf (hm := mm109) dX1_fits_2_96 (fok1 (k := 0) (T := TX1) 0 (Nat.le_of_ble_eq_true rfl) vc_0 (Nat.le_of_ble_eq_true rfl) q623)
theorem n109_99 : Snd mt G 109 99 (oGetf [2] 16 102) := w_getfN (hm := mm109) dX1_fits_2_99 (fokn1 (k := 16) (T := TX2) 1 (Nat.le_of_ble_eq_true rfl) vc_1 (Nat.le_of_ble_eq_true rfl) q575)
theorem n109_102 : Snd mt G 109 102 (oAload 0 103) := w_aload_n (hm := mm109) dX1_fits_2_102
theorem n109_103 : Snd mt G 109 103 (oGetf [1] 0 106) := w_getf (hm := mm109) dX1_fits_2_103 (fok1 (k := 0) (T := TX1) 0 (Nat.le_of_ble_eq_true rfl) vc_0 (Nat.le_of_ble_eq_true rfl) q623)
theorem n109_106 : Snd mt G 109 106 (oGetf [2] 12 109) := w_getfN (hm := mm109) dX1_fits_2_106 (fokn1 (k := 12) (T := TX2) 1 (Nat.le_of_ble_eq_true rfl) vc_1 (Nat.le_of_ble_eq_true rfl) q567)
theorem n109_109 : Snd mt G 109 109 (oConst (.int (-1)) 110) := w_iconst (hm := mm109) dX1_fits_2_109 rfl
theorem n109_110 : Snd mt G 109 110 (oCall 4 (fI 487 4) 0 113 xOut) := s_callI (m' := 487) (n := 3) xsh_out (w_xok0 mm109) (w_cal mm109 mm487 pn_X22 (Nat.le_of_ble_eq_true rfl) (Nat.le_of_ble_eq_true rfl)) (fun h b as hn => w_run_I mm109 mm487 dX1_fits_2_110 rfl rfl q1861 q1862 q174 q1863 pa487 hn)
theorem n109_113 : Snd mt G 109 113 (oCall 2 (fV [3] 179 2) 0 116 xOut) := s_callV (m' := 179) (n := 1) xsh_out (w_xok0 mm109) (w_cal mm109 mm179 pn_J2 (Nat.le_of_ble_eq_true rfl) (Nat.le_of_ble_eq_true rfl)) (fun h b as hc hn => w_run_V (ci := 2) mm109 mm179 dX1_fits_2_113 (Or.inl (List.mem_singleton.mp hc)) (Nat.le_of_ble_eq_true rfl) vc_2 rfl q1605 q985 q986 q133 q987 pa179 hn)
theorem n109_116 : Snd mt G 109 116 (oPop 117) := w_pop (hm := mm109) dX1_fits_2_116
theorem n109_117 : Snd mt G 109 117 (oRetV) := w_vret (hm := mm109) dX1_fits_2_117 rfl
theorem sj109 : ∀ pc, Snd mt G 109 pc (j109 pc) := fun pc => (snd_br ((snd_br ((snd_br ((snd_br ((snd_br ((snd_br ((snd_lf n109_117)) ((snd_lf n109_116)))) ((snd_br ((snd_lf n109_113)) ((snd_lf n109_110)))))) ((snd_br ((snd_br ((snd_lf n109_109)) ((snd_lf n109_106)))) ((snd_br ((snd_lf n109_103)) ((snd_lf n109_102)))))))) ((snd_br ((snd_br ((snd_br ((snd_lf n109_99)) ((snd_lf n109_96)))) ((snd_br ((snd_lf n109_95)) ((snd_lf n109_94)))))) ((snd_br ((snd_br ((snd_lf n109_91)) ((snd_lf n109_88)))) ((snd_lf n109_85)))))))) ((snd_br ((snd_br ((snd_br ((snd_br ((snd_lf n109_84)) ((snd_lf n109_83)))) ((snd_br ((snd_lf n109_82)) ((snd_lf n109_81)))))) ((snd_br ((snd_br ((snd_lf n109_80)) ((snd_lf n109_79)))) ((snd_br ((snd_lf n109_78)) ((snd_lf n109_75)))))))) ((snd_br ((snd_br ((snd_br ((snd_lf n109_74)) ((snd_lf n109_73)))) ((snd_br ((snd_lf n109_71)) ((snd_lf n109_69)))))) ((snd_br ((snd_br ((snd_lf n109_66)) ((snd_lf n109_65)))) ((snd_lf n109_64)))))))))) ((snd_br ((snd_br ((snd_br ((snd_br ((snd_br ((snd_lf n109_61)) ((snd_lf n109_58)))) ((snd_br ((snd_lf n109_55)) ((snd_lf n109_52)))))) ((snd_br ((snd_br ((snd_lf n109_51)) ((snd_lf n109_48)))) ((snd_br ((snd_lf n109_45)) ((snd_lf n109_42)))))))) ((snd_br ((snd_br ((snd_br ((snd_lf n109_41)) ((snd_lf n109_40)))) ((snd_br ((snd_lf n109_38)) ((snd_lf n109_35)))))) ((snd_br ((snd_br ((snd_lf n109_32)) ((snd_lf n109_31)))) ((snd_lf n109_30)))))))) ((snd_br ((snd_br ((snd_br ((snd_br ((snd_lf n109_29)) ((snd_lf n109_28)))) ((snd_br ((snd_lf n109_25)) ((snd_lf n109_23)))))) ((snd_br ((snd_br ((snd_lf n109_20)) ((snd_lf n109_19)))) ((snd_lf n109_17)))))) ((snd_br ((snd_br ((snd_br ((snd_lf n109_14)) ((snd_lf n109_11)))) ((snd_br ((snd_lf n109_8)) ((snd_lf n109_7)))))) ((snd_br ((snd_br ((snd_lf n109_4)) ((snd_lf n109_1)))) ((snd_lf n109_0)))))))))))
end
