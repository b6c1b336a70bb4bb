/-! every instruction is sound (by gen3.py) -/
set_option maxRecDepth 100000
section
variable {G : AG}
theorem n280_0 : Snd mt G 280 0 (oAload 0 1) := w_aload_n (hm := mm280) dX3_init_0
theorem n280_1 : Snd mt G 280 1 (oObjI 4) := w_objI (hm := mm280) dX3_init_1 (Nat.le_of_ble_eq_true rfl) q2402 q189 q190
theorem n280_4 : Snd mt G 280 4 (oAload 0 5) := w_aload_n (hm := mm280) dX3_init_4
theorem n280_5 : Snd mt G 280 5 (oConst (.int (-1)) 6) := w_iconst (hm := mm280) dX3_init_5 rfl
theorem n280_6 : Snd mt G 280 6 (oPutf [4] 3 .int 9) := w_putf (hm := mm280) dX3_init_6 (pok1 (k := 3) (T := TX3) 3 (Nat.le_of_ble_eq_true rfl) vc_3 (Nat.le_of_ble_eq_true rfl) rfl pd_X3_3 q2408)
theorem n280_9 : Snd mt G 280 9 (oAload 0 10) := w_aload_n (hm := mm280) dX3_init_9
theorem n280_10 : Snd mt G 280 10 (oConst (.int 400) 13) := w_sipush (hm := mm280) dX3_init_10 (by decide)
theorem n280_13 : Snd mt G 280 13 (oNewa 100 (.int 0) 15) := w_newa (hm := mm280) (kt := 0) dX3_init_13 (Nat.le_of_ble_eq_true rfl) at_0 rfl (fun C q => nomatch q) (Nat.le_of_ble_eq_true rfl) q619
theorem n280_15 : Snd mt G 280 15 (oPutf [4] 10 (.array .int) 18) := w_putfF (hm := mm280) dX3_init_15 (pfk1 (k := 10) (T := TX3) 3 (Nat.le_of_ble_eq_true rfl) vc_3 (Nat.le_of_ble_eq_true rfl) rfl rfl pd_X3_10 rfl q2415)
theorem n280_18 : Snd mt G 280 18 (oAload 0 19) := w_aload_n (hm := mm280) dX3_init_18
theorem n280_19 : Snd mt G 280 19 (oConst (.int 5) 20) := w_iconst (hm := mm280) dX3_init_19 rfl
theorem n280_20 : Snd mt G 280 20 (oConst (.int 400) 23) := w_sipush (hm := mm280) dX3_init_20 (by decide)
theorem n280_23 : Snd mt G 280 23 (oMulti 106 100 27) := w_multi (hm := mm280) (ko := 6) (ki := 0) dX3_init_23 (Nat.le_of_ble_eq_true rfl) (Nat.le_of_ble_eq_true rfl) at_6 at_0 q2403 q619
theorem n280_27 : Snd mt G 280 27 (oPutf [4] 11 (.array (.array .int)) 30) := w_putfF (hm := mm280) dX3_init_27 (pfk1 (k := 11) (T := TX3) 3 (Nat.le_of_ble_eq_true rfl) vc_3 (Nat.le_of_ble_eq_true rfl) rfl rfl pd_X3_11 rfl q2416)
theorem n280_30 : Snd mt G 280 30 (oAload 0 31) := w_aload_n (hm := mm280) dX3_init_30
theorem n280_31 : Snd mt G 280 31 (oConst (.int 5) 32) := w_iconst (hm := mm280) dX3_init_31 rfl
theorem n280_32 : Snd mt G 280 32 (oNewa 100 (.int 0) 34) := w_newa (hm := mm280) (kt := 0) dX3_init_32 (Nat.le_of_ble_eq_true rfl) at_0 rfl (fun C q => nomatch q) (Nat.le_of_ble_eq_true rfl) q619
theorem n280_34 : Snd mt G 280 34 (oPutf [4] 12 (.array .int) 37) := w_putfF (hm := mm280) dX3_init_34 (pfk1 (k := 12) (T := TX3) 3 (Nat.le_of_ble_eq_true rfl) vc_3 (Nat.le_of_ble_eq_true rfl) rfl rfl pd_X3_12 rfl q2417)
theorem n280_37 : Snd mt G 280 37 (oAload 0 38) := w_aload_n (hm := mm280) dX3_init_37
theorem n280_38 : Snd mt G 280 38 (oConst (.int 5) 39) := w_iconst (hm := mm280) dX3_init_38 rfl
theorem n280_39 : Snd mt G 280 39 (oNewa 100 (.int 0) 41) := w_newa (hm := mm280) (kt := 0) dX3_init_39 (Nat.le_of_ble_eq_true rfl) at_0 rfl (fun C q => nomatch q) (Nat.le_of_ble_eq_true rfl) q619
theorem n280_41 : Snd mt G 280 41 (oPutf [4] 13 (.array .int) 44) := w_putfF (hm := mm280) dX3_init_41 (pfk1 (k := 13) (T := TX3) 3 (Nat.le_of_ble_eq_true rfl) vc_3 (Nat.le_of_ble_eq_true rfl) rfl rfl pd_X3_13 rfl q2418)
theorem n280_44 : Snd mt G 280 44 (oAload 0 45) := w_aload_n (hm := mm280) dX3_init_44
theorem n280_45 : Snd mt G 280 45 (oConst (.int (-1)) 46) := w_iconst (hm := mm280) dX3_init_45 rfl
theorem n280_46 : Snd mt G 280 46 (oPutf [4] 15 .int 49) := w_putf (hm := mm280) dX3_init_46 (pok1 (k := 15) (T := TX3) 3 (Nat.le_of_ble_eq_true rfl) vc_3 (Nat.le_of_ble_eq_true rfl) rfl pd_X3_15 q2420)
theorem n280_49 : Snd mt G 280 49 (oAload 0 50) := w_aload_n (hm := mm280) dX3_init_49
theorem n280_50 : Snd mt G 280 50 (oConst (.int 6) 52) := w_bipush (hm := mm280) dX3_init_50 (by decide)
theorem n280_52 : Snd mt G 280 52 (oNewa 100 (.int 0) 54) := w_newa (hm := mm280) (kt := 0) dX3_init_52 (Nat.le_of_ble_eq_true rfl) at_0 rfl (fun C q => nomatch q) (Nat.le_of_ble_eq_true rfl) q619
theorem n280_54 : Snd mt G 280 54 (oPutf [4] 16 (.array .int) 57) := w_putfF (hm := mm280) dX3_init_54 (pfk1 (k := 16) (T := TX3) 3 (Nat.le_of_ble_eq_true rfl) vc_3 (Nat.le_of_ble_eq_true rfl) rfl rfl pd_X3_16 rfl q2421)
theorem n280_57 : Snd mt G 280 57 (oAload 0 58) := w_aload_n (hm := mm280) dX3_init_57
theorem n280_58 : Snd mt G 280 58 (oConst (.int 12) 60) := w_bipush (hm := mm280) dX3_init_58 (by decide)
theorem n280_60 : Snd mt G 280 60 (oNewa 100 (.int 0) 62) := w_newa (hm := mm280) (kt := 0) dX3_init_60 (Nat.le_of_ble_eq_true rfl) at_0 rfl (fun C q => nomatch q) (Nat.le_of_ble_eq_true rfl) q619
theorem n280_62 : Snd mt G 280 62 (oPutf [4] 17 (.array .int) 65) := w_putfF (hm := mm280) dX3_init_62 (pfk1 (k := 17) (T := TX3) 3 (Nat.le_of_ble_eq_true rfl) vc_3 (Nat.le_of_ble_eq_true rfl) rfl rfl pd_X3_17 rfl q2422)
theorem n280_65 : Snd mt G 280 65 (oAload 0 66) := w_aload_n (hm := mm280) dX3_init_65
theorem n280_66 : Snd mt G 280 66 (oConst (.int 4) 67) := w_iconst (hm := mm280) dX3_init_66 rfl
theorem n280_67 : Snd mt G 280 67 (oNewa 100 (.int 0) 69) := w_newa (hm := mm280) (kt := 0) dX3_init_67 (Nat.le_of_ble_eq_true rfl) at_0 rfl (fun C q => nomatch q) (Nat.le_of_ble_eq_true rfl) q619
theorem n280_69 : Snd mt G 280 69 (oPutf [4] 18 (.array .int) 72) := w_putfF (hm := mm280) dX3_init_69 (pfk1 (k := 18) (T := TX3) 3 (Nat.le_of_ble_eq_true rfl) vc_3 (Nat.le_of_ble_eq_true rfl) rfl rfl pd_X3_18 rfl q2423)
theorem n280_72 : Snd mt G 280 72 (oAload 0 73) := w_aload_n (hm := mm280) dX3_init_72
theorem n280_73 : Snd mt G 280 73 (oConst (.int 4) 74) := w_iconst (hm := mm280) dX3_init_73 rfl
theorem n280_74 : Snd mt G 280 74 (oNewa 100 (.int 0) 76) := w_newa (hm := mm280) (kt := 0) dX3_init_74 (Nat.le_of_ble_eq_true rfl) at_0 rfl (fun C q => nomatch q) (Nat.le_of_ble_eq_true rfl) q619
theorem n280_76 : Snd mt G 280 76 (oPutf [4] 19 (.array .int) 79) := w_putfF (hm := mm280) dX3_init_76 (pfk1 (k := 19) (T := TX3) 3 (Nat.le_of_ble_eq_true rfl) vc_3 (Nat.le_of_ble_eq_true rfl) rfl rfl pd_X3_19 rfl q2424)
theorem n280_79 : Snd mt G 280 79 (oAload 0 80) := w_aload_n (hm := mm280) dX3_init_79
theorem n280_80 : Snd mt G 280 80 (oConst (.int 20) 82) := w_bipush (hm := mm280) dX3_init_80 (by decide)
theorem n280_82 : Snd mt G 280 82 (oConst (.int 3) 83) := w_iconst (hm := mm280) dX3_init_82 rfl
theorem n280_83 : Snd mt G 280 83 (oMulti 106 100 87) := w_multi (hm := mm280) (ko := 6) (ki := 0) dX3_init_83 (Nat.le_of_ble_eq_true rfl) (Nat.le_of_ble_eq_true rfl) at_6 at_0 q2403 q619
theorem n280_87 : Snd mt G 280 87 (oPutf [4] 26 (.array (.array .int)) 90) := w_putfF (hm := mm280) dX3_init_87 (pfk1 (k := 26) (T := TX3) 3 (Nat.le_of_ble_eq_true rfl) vc_3 (Nat.le_of_ble_eq_true rfl) rfl rfl pd_X3_26 rfl q2431)
theorem n280_90 : Snd mt G 280 90 (oAload 0 91) := w_aload_n (hm := mm280) dX3_init_90
theorem n280_91 : Snd mt G 280 91 (oConst (.int 1) 92) := w_iconst (hm := mm280) dX3_init_91 rfl
theorem n280_92 : Snd mt G 280 92 (oPutf [4] 37 .int 95) := w_putf (hm := mm280) dX3_init_92 (pok1 (k := 37) (T := TX3) 3 (Nat.le_of_ble_eq_true rfl) vc_3 (Nat.le_of_ble_eq_true rfl) rfl pd_X3_37 q2442)
theorem n280_95 : Snd mt G 280 95 (oAload 0 96) := w_aload_n (hm := mm280) dX3_init_95
theorem n280_96 : Snd mt G 280 96 (oConst (.int 12) 98) := w_bipush (hm := mm280) dX3_init_96 (by decide)
theorem n280_98 : Snd mt G 280 98 (oConst (.int 7) 100) := w_bipush (hm := mm280) dX3_init_98 (by decide)
theorem n280_100 : Snd mt G 280 100 (oMulti 106 100 104) := w_multi (hm := mm280) (ko := 6) (ki := 0) dX3_init_100 (Nat.le_of_ble_eq_true rfl) (Nat.le_of_ble_eq_true rfl) at_6 at_0 q2403 q619
theorem n280_104 : Snd mt G 280 104 (oPutf [4] 45 (.array (.array .int)) 107) := w_putfF (hm := mm280) dX3_init_104 (pfk1 (k := 45) (T := TX3) 3 (Nat.le_of_ble_eq_true rfl) vc_3 (Nat.le_of_ble_eq_true rfl) rfl rfl pd_X3_45 rfl q2450)
theorem n280_107 : Snd mt G 280 107 (oAload 0 108) := w_aload_n (hm := mm280) dX3_init_107
theorem n280_108 : Snd mt G 280 108 (oConst (.int 10) 110) := w_bipush (hm := mm280) dX3_init_108 (by decide)
theorem n280_110 : Snd mt G 280 110 (oConst (.int 8) 112) := w_bipush (hm := mm280) dX3_init_110 (by decide)
theorem n280_112 : Snd mt G 280 112 (oMulti 106 100 116) := w_multi (hm := mm280) (ko := 6) (ki := 0) dX3_init_112 (Nat.le_of_ble_eq_true rfl) (Nat.le_of_ble_eq_true rfl) at_6 at_0 q2403 q619
theorem n280_116 : Snd mt G 280 116 (oPutf [4] 46 (.array (.array .int)) 119) := w_putfF (hm := mm280) dX3_init_116 (pfk1 (k := 46) (T := TX3) 3 (Nat.le_of_ble_eq_true rfl) vc_3 (Nat.le_of_ble_eq_true rfl) rfl rfl pd_X3_46 rfl q2451)
theorem n280_119 : Snd mt G 280 119 (oAload 0 120) := w_aload_n (hm := mm280) dX3_init_119
theorem n280_120 : Snd mt G 280 120 (oConst (.int 40) 122) := w_bipush (hm := mm280) dX3_init_120 (by decide)
theorem n280_122 : Snd mt G 280 122 (oNewa 100 (.int 0) 124) := w_newa (hm := mm280) (kt := 0) dX3_init_122 (Nat.le_of_ble_eq_true rfl) at_0 rfl (fun C q => nomatch q) (Nat.le_of_ble_eq_true rfl) q619
theorem n280_124 : Snd mt G 280 124 (oPutf [4] 47 (.array .int) 127) := w_putfF (hm := mm280) dX3_init_124 (pfk1 (k := 47) (T := TX3) 3 (Nat.le_of_ble_eq_true rfl) vc_3 (Nat.le_of_ble_eq_true rfl) rfl rfl pd_X3_47 rfl q2452)
theorem n280_127 : Snd mt G 280 127 (oAload 0 128) := w_aload_n (hm := mm280) dX3_init_127
theorem n280_128 : Snd mt G 280 128 (oConst (.int 40) 130) := w_bipush (hm := mm280) dX3_init_128 (by decide)
theorem n280_130 : Snd mt G 280 130 (oNewa 100 (.int 0) 132) := w_newa (hm := mm280) (kt := 0) dX3_init_130 (Nat.le_of_ble_eq_true rfl) at_0 rfl (fun C q => nomatch q) (Nat.le_of_ble_eq_true rfl) q619
theorem n280_132 : Snd mt G 280 132 (oPutf [4] 48 (.array .int) 135) := w_putfF (hm := mm280) dX3_init_132 (pfk1 (k := 48) (T := TX3) 3 (Nat.le_of_ble_eq_true rfl) vc_3 (Nat.le_of_ble_eq_true rfl) rfl rfl pd_X3_48 rfl q2453)
theorem n280_135 : Snd mt G 280 135 (oAload 0 136) := w_aload_n (hm := mm280) dX3_init_135
theorem n280_136 : Snd mt G 280 136 (oConst (.int 200) 139) := w_sipush (hm := mm280) dX3_init_136 (by decide)
theorem n280_139 : Snd mt G 280 139 (oConst (.int 9) 141) := w_bipush (hm := mm280) dX3_init_139 (by decide)
theorem n280_141 : Snd mt G 280 141 (oMulti 106 100 145) := w_multi (hm := mm280) (ko := 6) (ki := 0) dX3_init_141 (Nat.le_of_ble_eq_true rfl) (Nat.le_of_ble_eq_true rfl) at_6 at_0 q2403 q619
theorem n280_145 : Snd mt G 280 145 (oPutf [4] 49 (.array (.array .int)) 148) := w_putfF (hm := mm280) dX3_init_145 (pfk1 (k := 49) (T := TX3) 3 (Nat.le_of_ble_eq_true rfl) vc_3 (Nat.le_of_ble_eq_true rfl) rfl rfl pd_X3_49 rfl q2454)
theorem n280_148 : Snd mt G 280 148 (oAload 0 149) := w_aload_n (hm := mm280) dX3_init_148
theorem n280_149 : Snd mt G 280 149 (oConst (.int 20) 151) := w_bipush (hm := mm280) dX3_init_149 (by decide)
theorem n280_151 : Snd mt G 280 151 (oConst (.int 5) 152) := w_iconst (hm := mm280) dX3_init_151 rfl
theorem n280_152 : Snd mt G 280 152 (oMulti 106 100 156) := w_multi (hm := mm280) (ko := 6) (ki := 0) dX3_init_152 (Nat.le_of_ble_eq_true rfl) (Nat.le_of_ble_eq_true rfl) at_6 at_0 q2403 q619
theorem n280_156 : Snd mt G 280 156 (oPutf [4] 50 (.array (.array .int)) 159) := w_putfF (hm := mm280) dX3_init_156 (pfk1 (k := 50) (T := TX3) 3 (Nat.le_of_ble_eq_true rfl) vc_3 (Nat.le_of_ble_eq_true rfl) rfl rfl pd_X3_50 rfl q2455)
theorem n280_159 : Snd mt G 280 159 (oAload 0 160) := w_aload_n (hm := mm280) dX3_init_159
theorem n280_160 : Snd mt G 280 160 (oConst (.int 4) 161) := w_iconst (hm := mm280) dX3_init_160 rfl
theorem n280_161 : Snd mt G 280 161 (oNewa 100 (.int 0) 163) := w_newa (hm := mm280) (kt := 0) dX3_init_161 (Nat.le_of_ble_eq_true rfl) at_0 rfl (fun C q => nomatch q) (Nat.le_of_ble_eq_true rfl) q619
theorem n280_163 : Snd mt G 280 163 (oPutf [4] 51 (.array .int) 166) := w_putfF (hm := mm280) dX3_init_163 (pfk1 (k := 51) (T := TX3) 3 (Nat.le_of_ble_eq_true rfl) vc_3 (Nat.le_of_ble_eq_true rfl) rfl rfl pd_X3_51 rfl q2456)
theorem n280_166 : Snd mt G 280 166 (oAload 0 167) := w_aload_n (hm := mm280) dX3_init_166
theorem n280_167 : Snd mt G 280 167 (oConst (.int 12) 169) := w_bipush (hm := mm280) dX3_init_167 (by decide)
theorem n280_169 : Snd mt G 280 169 (oNewa 100 (.int 0) 171) := w_newa (hm := mm280) (kt := 0) dX3_init_169 (Nat.le_of_ble_eq_true rfl) at_0 rfl (fun C q => nomatch q) (Nat.le_of_ble_eq_true rfl) q619
theorem n280_171 : Snd mt G 280 171 (oPutf [4] 52 (.array .int) 174) := w_putfF (hm := mm280) dX3_init_171 (pfk1 (k := 52) (T := TX3) 3 (Nat.le_of_ble_eq_true rfl) vc_3 (Nat.le_of_ble_eq_true rfl) rfl rfl pd_X3_52 rfl q2457)
theorem n280_174 : Snd mt G 280 174 (oAload 0 175) := w_aload_n (hm := mm280) dX3_init_174
theorem n280_175 : Snd mt G 280 175 (oConst (.int 24) 177) := w_bipush (hm := mm280) dX3_init_175 (by decide)
theorem n280_177 : Snd mt G 280 177 (oConst (.int 3) 178) := w_iconst (hm := mm280) dX3_init_177 rfl
theorem n280_178 : Snd mt G 280 178 (oMulti 106 100 182) := w_multi (hm := mm280) (ko := 6) (ki := 0) dX3_init_178 (Nat.le_of_ble_eq_true rfl) (Nat.le_of_ble_eq_true rfl) at_6 at_0 q2403 q619
theorem n280_182 : Snd mt G 280 182 (oPutf [4] 53 (.array (.array .int)) 185) := w_putfF (hm := mm280) dX3_init_182 (pfk1 (k := 53) (T := TX3) 3 (Nat.le_of_ble_eq_true rfl) vc_3 (Nat.le_of_ble_eq_true rfl) rfl rfl pd_X3_53 rfl q2458)
theorem n280_185 : Snd mt G 280 185 (oAload 0 186) := w_aload_n (hm := mm280) dX3_init_185
theorem n280_186 : Snd mt G 280 186 (oConst (.int 12) 188) := w_bipush (hm := mm280) dX3_init_186 (by decide)
theorem n280_188 : Snd mt G 280 188 (oConst (.int 2) 189) := w_iconst (hm := mm280) dX3_init_188 rfl
theorem n280_189 : Snd mt G 280 189 (oMulti 106 100 193) := w_multi (hm := mm280) (ko := 6) (ki := 0) dX3_init_189 (Nat.le_of_ble_eq_true rfl) (Nat.le_of_ble_eq_true rfl) at_6 at_0 q2403 q619
theorem n280_193 : Snd mt G 280 193 (oPutf [4] 54 (.array (.array .int)) 196) := w_putfF (hm := mm280) dX3_init_193 (pfk1 (k := 54) (T := TX3) 3 (Nat.le_of_ble_eq_true rfl) vc_3 (Nat.le_of_ble_eq_true rfl) rfl rfl pd_X3_54 rfl q2459)
theorem n280_196 : Snd mt G 280 196 (oAload 0 197) := w_aload_n (hm := mm280) dX3_init_196
theorem n280_197 : Snd mt G 280 197 (oConst (.int 10) 199) := w_bipush (hm := mm280) dX3_init_197 (by decide)
theorem n280_199 : Snd mt G 280 199 (oConst (.int 55) 201) := w_bipush (hm := mm280) dX3_init_199 (by decide)
theorem n280_201 : Snd mt G 280 201 (oMulti 106 100 205) := w_multi (hm := mm280) (ko := 6) (ki := 0) dX3_init_201 (Nat.le_of_ble_eq_true rfl) (Nat.le_of_ble_eq_true rfl) at_6 at_0 q2403 q619
theorem n280_205 : Snd mt G 280 205 (oPutf [4] 55 (.array (.array .int)) 208) := w_putfF (hm := mm280) dX3_init_205 (pfk1 (k := 55) (T := TX3) 3 (Nat.le_of_ble_eq_true rfl) vc_3 (Nat.le_of_ble_eq_true rfl) rfl rfl pd_X3_55 rfl q2460)
theorem n280_208 : Snd mt G 280 208 (oAload 0 209) := w_aload_n (hm := mm280) dX3_init_208
theorem n280_209 : Snd mt G 280 209 (oConst (.int 7) 211) := w_bipush (hm := mm280) dX3_init_209 (by decide)
theorem n280_211 : Snd mt G 280 211 (oConst (.int 4) 212) := w_iconst (hm := mm280) dX3_init_211 rfl
theorem n280_212 : Snd mt G 280 212 (oMulti 106 100 216) := w_multi (hm := mm280) (ko := 6) (ki := 0) dX3_init_212 (Nat.le_of_ble_eq_true rfl) (Nat.le_of_ble_eq_true rfl) at_6 at_0 q2403 q619
theorem n280_216 : Snd mt G 280 216 (oPutf [4] 56 (.array (.array .int)) 219) := w_putfF (hm := mm280) dX3_init_216 (pfk1 (k := 56) (T := TX3) 3 (Nat.le_of_ble_eq_true rfl) vc_3 (Nat.le_of_ble_eq_true rfl) rfl rfl pd_X3_56 rfl q2461)
theorem n280_219 : Snd mt G 280 219 (oAload 0 220) := w_aload_n (hm := mm280) dX3_init_219
theorem n280_220 : Snd mt G 280 220 (oConst (.int 6) 222) := w_bipush (hm := mm280) dX3_init_220 (by decide)
theorem n280_222 : Snd mt G 280 222 (oConst (.int 2) 223) := w_iconst (hm := mm280) dX3_init_222 rfl
theorem n280_223 : Snd mt G 280 223 (oMulti 106 100 227) := w_multi (hm := mm280) (ko := 6) (ki := 0) dX3_init_223 (Nat.le_of_ble_eq_true rfl) (Nat.le_of_ble_eq_true rfl) at_6 at_0 q2403 q619
theorem n280_227 : Snd mt G 280 227 (oPutf [4] 57 (.array (.array .int)) 230) := w_putfF (hm := mm280) dX3_init_227 (pfk1 (k := 57) (T := TX3) 3 (Nat.le_of_ble_eq_true rfl) vc_3 (Nat.le_of_ble_eq_true rfl) rfl rfl pd_X3_57 rfl q2462)
theorem n280_230 : Snd mt G 280 230 (oAload 0 231) := w_aload_n (hm := mm280) dX3_init_230
theorem n280_231 : Snd mt G 280 231 (oConst (.int 20) 233) := w_bipush (hm := mm280) dX3_init_231 (by decide)
theorem n280_233 : Snd mt G 280 233 (oConst (.int 3) 234) := w_iconst (hm := mm280) dX3_init_233 rfl
theorem n280_234 : Snd mt G 280 234 (oMulti 106 100 238) := w_multi (hm := mm280) (ko := 6) (ki := 0) dX3_init_234 (Nat.le_of_ble_eq_true rfl) (Nat.le_of_ble_eq_true rfl) at_6 at_0 q2403 q619
theorem n280_238 : Snd mt G 280 238 (oPutf [4] 58 (.array (.array .int)) 241) := w_putfF (hm := mm280) dX3_init_238 (pfk1 (k := 58) (T := TX3) 3 (Nat.le_of_ble_eq_true rfl) vc_3 (Nat.le_of_ble_eq_true rfl) rfl rfl pd_X3_58 rfl q2463)
theorem n280_241 : Snd mt G 280 241 (oAload 0 242) := w_aload_n (hm := mm280) dX3_init_241
theorem n280_242 : Snd mt G 280 242 (oConst (.int 6) 244) := w_bipush (hm := mm280) dX3_init_242 (by decide)
theorem n280_244 : Snd mt G 280 244 (oNewa 100 (.int 0) 246) := w_newa (hm := mm280) (kt := 0) dX3_init_244 (Nat.le_of_ble_eq_true rfl) at_0 rfl (fun C q => nomatch q) (Nat.le_of_ble_eq_true rfl) q619
theorem n280_246 : Snd mt G 280 246 (oPutf [4] 59 (.array .int) 249) := w_putfF (hm := mm280) dX3_init_246 (pfk1 (k := 59) (T := TX3) 3 (Nat.le_of_ble_eq_true rfl) vc_3 (Nat.le_of_ble_eq_true rfl) rfl rfl pd_X3_59 rfl q2464)
theorem n280_249 : Snd mt G 280 249 (oAload 0 250) := w_aload_n (hm := mm280) dX3_init_249
theorem n280_250 : Snd mt G 280 250 (oConst (.int 7) 252) := w_bipush (hm := mm280) dX3_init_250 (by decide)
theorem n280_252 : Snd mt G 280 252 (oNewa 100 (.int 0) 254) := w_newa (hm := mm280) (kt := 0) dX3_init_252 (Nat.le_of_ble_eq_true rfl) at_0 rfl (fun C q => nomatch q) (Nat.le_of_ble_eq_true rfl) q619
theorem n280_254 : Snd mt G 280 254 (oPutf [4] 60 (.array .int) 257) := w_putfF (hm := mm280) dX3_init_254 (pfk1 (k := 60) (T := TX3) 3 (Nat.le_of_ble_eq_true rfl) vc_3 (Nat.le_of_ble_eq_true rfl) rfl rfl pd_X3_60 rfl q2465)
theorem n280_257 : Snd mt G 280 257 (oAload 0 258) := w_aload_n (hm := mm280) dX3_init_257
theorem n280_258 : Snd mt G 280 258 (oConst (.int 7) 260) := w_bipush (hm := mm280) dX3_init_258 (by decide)
theorem n280_260 : Snd mt G 280 260 (oNewa 100 (.int 0) 262) := w_newa (hm := mm280) (kt := 0) dX3_init_260 (Nat.le_of_ble_eq_true rfl) at_0 rfl (fun C q => nomatch q) (Nat.le_of_ble_eq_true rfl) q619
theorem n280_262 : Snd mt G 280 262 (oPutf [4] 61 (.array .int) 265) := w_putfF (hm := mm280) dX3_init_262 (pfk1 (k := 61) (T := TX3) 3 (Nat.le_of_ble_eq_true rfl) vc_3 (Nat.le_of_ble_eq_true rfl) rfl rfl pd_X3_61 rfl q2466)
theorem n280_265 : Snd mt G 280 265 (oAload 0 266) := w_aload_n (hm := mm280) dX3_init_265
theorem n280_266 : Snd mt G 280 266 (oConst (.int 4) 267) := w_iconst (hm := mm280) dX3_init_266 rfl
theorem n280_267 : Snd mt G 280 267 (oNewa 100 (.int 0) 269) := w_newa (hm := mm280) (kt := 0) dX3_init_267 (Nat.le_of_ble_eq_true rfl) at_0 rfl (fun C q => nomatch q) (Nat.le_of_ble_eq_true rfl) q619
theorem n280_269 : Snd mt G 280 269 (oPutf [4] 63 (.array .int) 272) := w_putfF (hm := mm280) dX3_init_269 (pfk1 (k := 63) (T := TX3) 3 (Nat.le_of_ble_eq_true rfl) vc_3 (Nat.le_of_ble_eq_true rfl) rfl rfl pd_X3_63 rfl q2468)
theorem n280_272 : Snd mt G 280 272 (oAload 0 273) := w_aload_n (hm := mm280) dX3_init_272
theorem n280_273 : Snd mt G 280 273 (oConst (.int 4) 274) := w_iconst (hm := mm280) dX3_init_273 rfl
theorem n280_274 : Snd mt G 280 274 (oNewa 100 (.int 0) 276) := w_newa (hm := mm280) (kt := 0) dX3_init_274 (Nat.le_of_ble_eq_true rfl) at_0 rfl (fun C q => nomatch q) (Nat.le_of_ble_eq_true rfl) q619
theorem n280_276 : Snd mt G 280 276 (oPutf [4] 64 (.array .int) 279) := w_putfF (hm := mm280) dX3_init_276 (pfk1 (k := 64) (T := TX3) 3 (Nat.le_of_ble_eq_true rfl) vc_3 (Nat.le_of_ble_eq_true rfl) rfl rfl pd_X3_64 rfl q2469)
theorem n280_279 : Snd mt G 280 279 (oAload 0 280) := w_aload_n (hm := mm280) dX3_init_279
theorem n280_280 : Snd mt G 280 280 (oConst (.int 7) 282) := w_bipush (hm := mm280) dX3_init_280 (by decide)
theorem n280_282 : Snd mt G 280 282 (oConst (.int 1024) 285) := w_sipush (hm := mm280) dX3_init_282 (by decide)
theorem n280_285 : Snd mt G 280 285 (oMulti 106 100 289) := w_multi (hm := mm280) (ko := 6) (ki := 0) dX3_init_285 (Nat.le_of_ble_eq_true rfl) (Nat.le_of_ble_eq_true rfl) at_6 at_0 q2403 q619
theorem n280_289 : Snd mt G 280 289 (oPutf [4] 67 (.array (.array .int)) 292) := w_putfF (hm := mm280) dX3_init_289 (pfk1 (k := 67) (T := TX3) 3 (Nat.le_of_ble_eq_true rfl) vc_3 (Nat.le_of_ble_eq_true rfl) rfl rfl pd_X3_67 rfl q2472)
theorem n280_292 : Snd mt G 280 292 (oAload 0 293) := w_aload_n (hm := mm280) dX3_init_292
theorem n280_293 : Snd mt G 280 293 (oConst (.int 3) 294) := w_iconst (hm := mm280) dX3_init_293 rfl
theorem n280_294 : Snd mt G 280 294 (oConst (.int 3000) 297) := w_sipush (hm := mm280) dX3_init_294 (by decide)
theorem n280_297 : Snd mt G 280 297 (oMulti 106 100 301) := w_multi (hm := mm280) (ko := 6) (ki := 0) dX3_init_297 (Nat.le_of_ble_eq_true rfl) (Nat.le_of_ble_eq_true rfl) at_6 at_0 q2403 q619
theorem n280_301 : Snd mt G 280 301 (oPutf [4] 68 (.array (.array .int)) 304) := w_putfF (hm := mm280) dX3_init_301 (pfk1 (k := 68) (T := TX3) 3 (Nat.le_of_ble_eq_true rfl) vc_3 (Nat.le_of_ble_eq_true rfl) rfl rfl pd_X3_68 rfl q2473)
theorem n280_304 : Snd mt G 280 304 (oConst (.int 0) 305) := w_iconst (hm := mm280) dX3_init_304 rfl
theorem n280_305 : Snd mt G 280 305 (oIstore 1 306) := w_istore_n (hm := mm280) dX3_init_305 (Nat.le_of_ble_eq_true rfl)
theorem n280_306 : Snd mt G 280 306 (oIload 1 307) := w_iload_n (hm := mm280) dX3_init_306
theorem n280_307 : Snd mt G 280 307 (oConst (.int 40) 309) := w_bipush (hm := mm280) dX3_init_307 (by decide)
theorem n280_309 : Snd mt G 280 309 (oCmpGe 325 312) := w_icmp_ge (hm := mm280) dX3_init_309 rfl
theorem n280_312 : Snd mt G 280 312 (oAload 0 313) := w_aload_n (hm := mm280) dX3_init_312
theorem n280_313 : Snd mt G 280 313 (oGetf [4] 47 316) := w_getf (hm := mm280) dX3_init_313 (fok1 (k := 47) (T := TX3) 3 (Nat.le_of_ble_eq_true rfl) vc_3 (Nat.le_of_ble_eq_true rfl) q2452)
theorem n280_316 : Snd mt G 280 316 (oIload 1 317) := w_iload_n (hm := mm280) dX3_init_316
theorem n280_317 : Snd mt G 280 317 (oConst (.int (-1)) 318) := w_iconst (hm := mm280) dX3_init_317 rfl
theorem n280_318 : Snd mt G 280 318 (oIast [100] 319) := w_iastore (hm := mm280) (kt := 0) dX3_init_318 at_0 (Nat.le_of_ble_eq_true rfl) (List.forall_mem_cons.mpr ⟨rfl, (fun t ht => nomatch ht)⟩)
theorem n280_319 : Snd mt G 280 319 (oIinc 1 1 322) := w_iinc (hm := mm280) dX3_init_319 rfl (Nat.le_of_ble_eq_true rfl)
theorem n280_322 : Snd mt G 280 322 (oGoto 306) := w_goto (hm := mm280) dX3_init_322 rfl
theorem n280_325 : Snd mt G 280 325 (oRetV) := w_vret (hm := mm280) dX3_init_325 rfl
theorem sj280 : ∀ pc, Snd mt G 280 pc (j280 pc) := fun pc => (snd_br ((snd_br ((snd_br ((snd_br ((snd_br ((snd_br ((snd_br ((snd_br ((snd_lf n280_325)) ((snd_lf n280_322)))) ((snd_lf n280_319)))) ((snd_br ((snd_lf n280_318)) ((snd_lf n280_317)))))) ((snd_br ((snd_br ((snd_br ((snd_lf n280_316)) ((snd_lf n280_313)))) ((snd_lf n280_312)))) ((snd_br ((snd_lf n280_309)) ((snd_lf n280_307)))))))) ((snd_br ((snd_br ((snd_br ((snd_br ((snd_lf n280_306)) ((snd_lf n280_305)))) ((snd_lf n280_304)))) ((snd_br ((snd_lf n280_301)) ((snd_lf n280_297)))))) ((snd_br ((snd_br ((snd_br ((snd_lf n280_294)) ((snd_lf n280_293)))) ((snd_lf n280_292)))) ((snd_br ((snd_lf n280_289)) ((snd_lf n280_285)))))))))) ((snd_br ((snd_br ((snd_br ((snd_br ((snd_br ((snd_lf n280_282)) ((snd_lf n280_280)))) ((snd_lf n280_279)))) ((snd_br ((snd_lf n280_276)) ((snd_lf n280_274)))))) ((snd_br ((snd_br ((snd_br ((snd_lf n280_273)) ((snd_lf n280_272)))) ((snd_lf n280_269)))) ((snd_br ((snd_lf n280_267)) ((snd_lf n280_266)))))))) ((snd_br ((snd_br ((snd_br ((snd_br ((snd_lf n280_265)) ((snd_lf n280_262)))) ((snd_lf n280_260)))) ((snd_br ((snd_lf n280_258)) ((snd_lf n280_257)))))) ((snd_br ((snd_br ((snd_br ((snd_lf n280_254)) ((snd_lf n280_252)))) ((snd_lf n280_250)))) ((snd_br ((snd_lf n280_249)) ((snd_lf n280_246)))))))))))) ((snd_br ((snd_br ((snd_br ((snd_br ((snd_br ((snd_br ((snd_lf n280_244)) ((snd_lf n280_242)))) ((snd_lf n280_241)))) ((snd_br ((snd_lf n280_238)) ((snd_lf n280_234)))))) ((snd_br ((snd_br ((snd_br ((snd_lf n280_233)) ((snd_lf n280_231)))) ((snd_lf n280_230)))) ((snd_br ((snd_lf n280_227)) ((snd_lf n280_223)))))))) ((snd_br ((snd_br ((snd_br ((snd_br ((snd_lf n280_222)) ((snd_lf n280_220)))) ((snd_lf n280_219)))) ((snd_br ((snd_lf n280_216)) ((snd_lf n280_212)))))) ((snd_br ((snd_br ((snd_br ((snd_lf n280_211)) ((snd_lf n280_209)))) ((snd_lf n280_208)))) ((snd_br ((snd_lf n280_205)) ((snd_lf n280_201)))))))))) ((snd_br ((snd_br ((snd_br ((snd_br ((snd_br ((snd_lf n280_199)) ((snd_lf n280_197)))) ((snd_lf n280_196)))) ((snd_br ((snd_lf n280_193)) ((snd_lf n280_189)))))) ((snd_br ((snd_br ((snd_br ((snd_lf n280_188)) ((snd_lf n280_186)))) ((snd_lf n280_185)))) ((snd_br ((snd_lf n280_182)) ((snd_lf n280_178)))))))) ((snd_br ((snd_br ((snd_br ((snd_br ((snd_lf n280_177)) ((snd_lf n280_175)))) ((snd_lf n280_174)))) ((snd_br ((snd_lf n280_171)) ((snd_lf n280_169)))))) ((snd_br ((snd_br ((snd_lf n280_167)) ((snd_lf n280_166)))) ((snd_br ((snd_lf n280_163)) ((snd_lf n280_161)))))))))))))) ((snd_br ((snd_br ((snd_br ((snd_br ((snd_br ((snd_br ((snd_br ((snd_lf n280_160)) ((snd_lf n280_159)))) ((snd_lf n280_156)))) ((snd_br ((snd_lf n280_152)) ((snd_lf n280_151)))))) ((snd_br ((snd_br ((snd_br ((snd_lf n280_149)) ((snd_lf n280_148)))) ((snd_lf n280_145)))) ((snd_br ((snd_lf n280_141)) ((snd_lf n280_139)))))))) ((snd_br ((snd_br ((snd_br ((snd_br ((snd_lf n280_136)) ((snd_lf n280_135)))) ((snd_lf n280_132)))) ((snd_br ((snd_lf n280_130)) ((snd_lf n280_128)))))) ((snd_br ((snd_br ((snd_br ((snd_lf n280_127)) ((snd_lf n280_124)))) ((snd_lf n280_122)))) ((snd_br ((snd_lf n280_120)) ((snd_lf n280_119)))))))))) ((snd_br ((snd_br ((snd_br ((snd_br ((snd_br ((snd_lf n280_116)) ((snd_lf n280_112)))) ((snd_lf n280_110)))) ((snd_br ((snd_lf n280_108)) ((snd_lf n280_107)))))) ((snd_br ((snd_br ((snd_br ((snd_lf n280_104)) ((snd_lf n280_100)))) ((snd_lf n280_98)))) ((snd_br ((snd_lf n280_96)) ((snd_lf n280_95)))))))) ((snd_br ((snd_br ((snd_br ((snd_br ((snd_lf n280_92)) ((snd_lf n280_91)))) ((snd_lf n280_90)))) ((snd_br ((snd_lf n280_87)) ((snd_lf n280_83)))))) ((snd_br ((snd_br ((snd_br ((snd_lf n280_82)) ((snd_lf n280_80)))) ((snd_lf n280_79)))) ((snd_br ((snd_lf n280_76)) ((snd_lf n280_74)))))))))))) ((snd_br ((snd_br ((snd_br ((snd_br ((snd_br ((snd_br ((snd_lf n280_73)) ((snd_lf n280_72)))) ((snd_lf n280_69)))) ((snd_br ((snd_lf n280_67)) ((snd_lf n280_66)))))) ((snd_br ((snd_br ((snd_br ((snd_lf n280_65)) ((snd_lf n280_62)))) ((snd_lf n280_60)))) ((snd_br ((snd_lf n280_58)) ((snd_lf n280_57)))))))) ((snd_br ((snd_br ((snd_br ((snd_br ((snd_lf n280_54)) ((snd_lf n280_52)))) ((snd_lf n280_50)))) ((snd_br ((snd_lf n280_49)) ((snd_lf n280_46)))))) ((snd_br ((snd_br ((snd_br ((snd_lf n280_45)) ((snd_lf n280_44)))) ((snd_lf n280_41)))) ((snd_br ((snd_lf n280_39)) ((snd_lf n280_38)))))))))) ((snd_br ((snd_br ((snd_br ((snd_br ((snd_br ((snd_lf n280_37)) ((snd_lf n280_34)))) ((snd_lf n280_32)))) ((snd_br ((snd_lf n280_31)) ((snd_lf n280_30)))))) ((snd_br ((snd_br ((snd_br ((snd_lf n280_27)) ((snd_lf n280_23)))) ((snd_lf n280_20)))) ((snd_br ((snd_lf n280_19)) ((snd_lf n280_18)))))))) ((snd_br ((snd_br ((snd_br ((snd_br ((snd_lf n280_15)) ((snd_lf n280_13)))) ((snd_lf n280_10)))) ((snd_br ((snd_lf n280_9)) ((snd_lf n280_6)))))) ((snd_br ((snd_br ((snd_lf n280_5)) ((snd_lf n280_4)))) ((snd_br ((snd_lf n280_1)) ((snd_lf n280_0)))))))))))))))
end
section
variable {G : AG}
theorem n281_0 : Snd mt G 281 0 (oAload 0 1) := w_aload_n (hm := mm281) dX3_thrown_0
theorem n281_1 : Snd mt G 281 1 (oGetf [4] 0 4) := w_getf (hm := mm281) dX3_thrown_1 (fok1 (k := 0) (T := TX3) 3 (Nat.le_of_ble_eq_true rfl) vc_3 (Nat.le_of_ble_eq_true rfl) q2405)
theorem n281_4 : Snd mt G 281 4 (oRetI .int) := w_iret (hm := mm281) dX3_thrown_4 rfl
theorem sj281 : ∀ pc, Snd mt G 281 pc (j281 pc) := fun pc => (snd_br ((snd_br ((snd_lf n281_4)) ((snd_lf n281_1)))) ((snd_lf n281_0)))
end
section
variable {G : AG}
theorem n282_0 : Snd mt G 282 0 (oAload 0 1) := w_aload_n (hm := mm282) dX3_feed_0
theorem n282_1 : Snd mt G 282 1 (oConst (.int 0) 2) := w_iconst (hm := mm282) dX3_feed_1 rfl
theorem n282_2 : Snd mt G 282 2 (oPutf [4] 0 .int 5) := w_putf (hm := mm282) dX3_feed_2 (pok1 (k := 0) (T := TX3) 3 (Nat.le_of_ble_eq_true rfl) vc_3 (Nat.le_of_ble_eq_true rfl) rfl pd_X3_0 q2405)
theorem n282_5 : Snd mt G 282 5 (oAload 0 6) := w_aload_n (hm := mm282) dX3_feed_5
theorem n282_6 : Snd mt G 282 6 (oGetf [4] 1 9) := w_getf (hm := mm282) dX3_feed_6 (fok1 (k := 1) (T := TX3) 3 (Nat.le_of_ble_eq_true rfl) vc_3 (Nat.le_of_ble_eq_true rfl) q2406)
theorem n282_9 : Snd mt G 282 9 (oConst (.int 20) 11) := w_bipush (hm := mm282) dX3_feed_9 (by decide)
theorem n282_11 : Snd mt G 282 11 (oBin (fun x y => x + y) 12) := w_iadd (hm := mm282) dX3_feed_11
theorem n282_12 : Snd mt G 282 12 (oConst (.int 400) 15) := w_sipush (hm := mm282) dX3_feed_12 (by decide)
theorem n282_15 : Snd mt G 282 15 (oCmpLe 20 18) := w_icmp_le (hm := mm282) dX3_feed_15 rfl
theorem n282_18 : Snd mt G 282 18 (oConst (.int (-1)) 19) := w_iconst (hm := mm282) dX3_feed_18 rfl
theorem n282_19 : Snd mt G 282 19 (oRetI .int) := w_iret (hm := mm282) dX3_feed_19 rfl
theorem n282_20 : Snd mt G 282 20 (oConst (.int 0) 21) := w_iconst (hm := mm282) dX3_feed_20 rfl
theorem n282_21 : Snd mt G 282 21 (oIstore 6 23) := w_istore (hm := mm282) dX3_feed_21 (Nat.le_of_ble_eq_true rfl)
theorem n282_23 : Snd mt G 282 23 (oIload 6 25) := w_iload (hm := mm282) dX3_feed_23
theorem n282_25 : Snd mt G 282 25 (oConst (.int 20) 27) := w_bipush (hm := mm282) dX3_feed_25 (by decide)
theorem n282_27 : Snd mt G 282 27 (oCmpGe 120 30) := w_icmp_ge (hm := mm282) dX3_feed_27 rfl
theorem n282_30 : Snd mt G 282 30 (oIload 6 32) := w_iload (hm := mm282) dX3_feed_30
theorem n282_32 : Snd mt G 282 32 (oConst (.int 4) 33) := w_iconst (hm := mm282) dX3_feed_32 rfl
theorem n282_33 : Snd mt G 282 33 (oCmpGe 40 36) := w_icmp_ge (hm := mm282) dX3_feed_33 rfl
theorem n282_36 : Snd mt G 282 36 (oIload 1 37) := w_iload_n (hm := mm282) dX3_feed_36
theorem n282_37 : Snd mt G 282 37 (oGoto 76) := w_goto (hm := mm282) dX3_feed_37 rfl
theorem n282_40 : Snd mt G 282 40 (oIload 6 42) := w_iload (hm := mm282) dX3_feed_40
theorem n282_42 : Snd mt G 282 42 (oConst (.int 8) 44) := w_bipush (hm := mm282) dX3_feed_42 (by decide)
theorem n282_44 : Snd mt G 282 44 (oCmpGe 51 47) := w_icmp_ge (hm := mm282) dX3_feed_44 rfl
theorem n282_47 : Snd mt G 282 47 (oIload 2 48) := w_iload_n (hm := mm282) dX3_feed_47
theorem n282_48 : Snd mt G 282 48 (oGoto 76) := w_goto (hm := mm282) dX3_feed_48 rfl
theorem n282_51 : Snd mt G 282 51 (oIload 6 53) := w_iload (hm := mm282) dX3_feed_51
theorem n282_53 : Snd mt G 282 53 (oConst (.int 12) 55) := w_bipush (hm := mm282) dX3_feed_53 (by decide)
theorem n282_55 : Snd mt G 282 55 (oCmpGe 62 58) := w_icmp_ge (hm := mm282) dX3_feed_55 rfl
theorem n282_58 : Snd mt G 282 58 (oIload 3 59) := w_iload_n (hm := mm282) dX3_feed_58
theorem n282_59 : Snd mt G 282 59 (oGoto 76) := w_goto (hm := mm282) dX3_feed_59 rfl
theorem n282_62 : Snd mt G 282 62 (oIload 6 64) := w_iload (hm := mm282) dX3_feed_62
theorem n282_64 : Snd mt G 282 64 (oConst (.int 16) 66) := w_bipush (hm := mm282) dX3_feed_64 (by decide)
theorem n282_66 : Snd mt G 282 66 (oCmpGe 74 69) := w_icmp_ge (hm := mm282) dX3_feed_66 rfl
theorem n282_69 : Snd mt G 282 69 (oIload 4 71) := w_iload (hm := mm282) dX3_feed_69
theorem n282_71 : Snd mt G 282 71 (oGoto 76) := w_goto (hm := mm282) dX3_feed_71 rfl
theorem n282_74 : Snd mt G 282 74 (oIload 5 76) := w_iload (hm := mm282) dX3_feed_74
theorem n282_76 : Snd mt G 282 76 (oIstore 7 78) := w_istore (hm := mm282) dX3_feed_76 (Nat.le_of_ble_eq_true rfl)
theorem n282_78 : Snd mt G 282 78 (oAload 0 79) := w_aload_n (hm := mm282) dX3_feed_78
theorem n282_79 : Snd mt G 282 79 (oGetf [4] 10 82) := w_getf (hm := mm282) dX3_feed_79 (fok1 (k := 10) (T := TX3) 3 (Nat.le_of_ble_eq_true rfl) vc_3 (Nat.le_of_ble_eq_true rfl) q2415)
theorem n282_82 : Snd mt G 282 82 (oAload 0 83) := w_aload_n (hm := mm282) dX3_feed_82
theorem n282_83 : Snd mt G 282 83 (oGetf [4] 1 86) := w_getf (hm := mm282) dX3_feed_83 (fok1 (k := 1) (T := TX3) 3 (Nat.le_of_ble_eq_true rfl) vc_3 (Nat.le_of_ble_eq_true rfl) q2406)
theorem n282_86 : Snd mt G 282 86 (oIload 7 88) := w_iload (hm := mm282) dX3_feed_86
theorem n282_88 : Snd mt G 282 88 (oConst (.int 24) 90) := w_bipush (hm := mm282) dX3_feed_88 (by decide)
theorem n282_90 : Snd mt G 282 90 (oConst (.int 8) 92) := w_bipush (hm := mm282) dX3_feed_90 (by decide)
theorem n282_92 : Snd mt G 282 92 (oIload 6 94) := w_iload (hm := mm282) dX3_feed_92
theorem n282_94 : Snd mt G 282 94 (oConst (.int 4) 95) := w_iconst (hm := mm282) dX3_feed_94 rfl
theorem n282_95 : Snd mt G 282 95 (oDiv (fun x y => x - x / y * y) 96) := w_irem (hm := mm282) dX3_feed_95
theorem n282_96 : Snd mt G 282 96 (oBin (fun x y => x * y) 97) := w_imul (hm := mm282) dX3_feed_96
theorem n282_97 : Snd mt G 282 97 (oBin (fun x y => x - y) 98) := w_isub (hm := mm282) dX3_feed_97
theorem n282_98 : Snd mt G 282 98 (oBin (fun x y => x >>> (y &&& 31)) 99) := w_ishr (hm := mm282) dX3_feed_98
theorem n282_99 : Snd mt G 282 99 (oConst (.int 255) 102) := w_sipush (hm := mm282) dX3_feed_99 (by decide)
theorem n282_102 : Snd mt G 282 102 (oBin (fun x y => x &&& y) 103) := w_iand (hm := mm282) dX3_feed_102
theorem n282_103 : Snd mt G 282 103 (oIast [100] 104) := w_iastore (hm := mm282) (kt := 0) dX3_feed_103 at_0 (Nat.le_of_ble_eq_true rfl) (List.forall_mem_cons.mpr ⟨rfl, (fun t ht => nomatch ht)⟩)
theorem n282_104 : Snd mt G 282 104 (oAload 0 105) := w_aload_n (hm := mm282) dX3_feed_104
theorem n282_105 : Snd mt G 282 105 (oDup 106) := w_dup (hm := mm282) dX3_feed_105
theorem n282_106 : Snd mt G 282 106 (oGetf [4] 1 109) := w_getf (hm := mm282) dX3_feed_106 (fok1 (k := 1) (T := TX3) 3 (Nat.le_of_ble_eq_true rfl) vc_3 (Nat.le_of_ble_eq_true rfl) q2406)
theorem n282_109 : Snd mt G 282 109 (oConst (.int 1) 110) := w_iconst (hm := mm282) dX3_feed_109 rfl
theorem n282_110 : Snd mt G 282 110 (oBin (fun x y => x + y) 111) := w_iadd (hm := mm282) dX3_feed_110
theorem n282_111 : Snd mt G 282 111 (oPutf [4] 1 .int 114) := w_putf (hm := mm282) dX3_feed_111 (pok1 (k := 1) (T := TX3) 3 (Nat.le_of_ble_eq_true rfl) vc_3 (Nat.le_of_ble_eq_true rfl) rfl pd_X3_1 q2406)
theorem n282_114 : Snd mt G 282 114 (oIinc 6 1 117) := w_iinc (hm := mm282) dX3_feed_114 rfl (Nat.le_of_ble_eq_true rfl)
theorem n282_117 : Snd mt G 282 117 (oGoto 23) := w_goto (hm := mm282) dX3_feed_117 rfl
theorem n282_120 : Snd mt G 282 120 (oAload 0 121) := w_aload_n (hm := mm282) dX3_feed_120
theorem n282_121 : Snd mt G 282 121 (oGetf [4] 1 124) := w_getf (hm := mm282) dX3_feed_121 (fok1 (k := 1) (T := TX3) 3 (Nat.le_of_ble_eq_true rfl) vc_3 (Nat.le_of_ble_eq_true rfl) q2406)
theorem n282_124 : Snd mt G 282 124 (oRetI .int) := w_iret (hm := mm282) dX3_feed_124 rfl
theorem sj282 : ∀ pc, Snd mt G 282 pc (j282 pc) := fun pc => (snd_br ((snd_br ((snd_br ((snd_br ((snd_br ((snd_br ((snd_br ((snd_lf n282_124)) ((snd_lf n282_121)))) ((snd_lf n282_120)))) ((snd_br ((snd_lf n282_117)) ((snd_lf n282_114)))))) ((snd_br ((snd_br ((snd_lf n282_111)) ((snd_lf n282_110)))) ((snd_br ((snd_lf n282_109)) ((snd_lf n282_106)))))))) ((snd_br ((snd_br ((snd_br ((snd_lf n282_105)) ((snd_lf n282_104)))) ((snd_br ((snd_lf n282_103)) ((snd_lf n282_102)))))) ((snd_br ((snd_br ((snd_lf n282_99)) ((snd_lf n282_98)))) ((snd_br ((snd_lf n282_97)) ((snd_lf n282_96)))))))))) ((snd_br ((snd_br ((snd_br ((snd_br ((snd_lf n282_95)) ((snd_lf n282_94)))) ((snd_br ((snd_lf n282_92)) ((snd_lf n282_90)))))) ((snd_br ((snd_br ((snd_lf n282_88)) ((snd_lf n282_86)))) ((snd_br ((snd_lf n282_83)) ((snd_lf n282_82)))))))) ((snd_br ((snd_br ((snd_br ((snd_lf n282_79)) ((snd_lf n282_78)))) ((snd_br ((snd_lf n282_76)) ((snd_lf n282_74)))))) ((snd_br ((snd_br ((snd_lf n282_71)) ((snd_lf n282_69)))) ((snd_br ((snd_lf n282_66)) ((snd_lf n282_64)))))))))))) ((snd_br ((snd_br ((snd_br ((snd_br ((snd_br ((snd_lf n282_62)) ((snd_lf n282_59)))) ((snd_br ((snd_lf n282_58)) ((snd_lf n282_55)))))) ((snd_br ((snd_br ((snd_lf n282_53)) ((snd_lf n282_51)))) ((snd_br ((snd_lf n282_48)) ((snd_lf n282_47)))))))) ((snd_br ((snd_br ((snd_br ((snd_lf n282_44)) ((snd_lf n282_42)))) ((snd_br ((snd_lf n282_40)) ((snd_lf n282_37)))))) ((snd_br ((snd_br ((snd_lf n282_36)) ((snd_lf n282_33)))) ((snd_br ((snd_lf n282_32)) ((snd_lf n282_30)))))))))) ((snd_br ((snd_br ((snd_br ((snd_br ((snd_lf n282_27)) ((snd_lf n282_25)))) ((snd_br ((snd_lf n282_23)) ((snd_lf n282_21)))))) ((snd_br ((snd_br ((snd_lf n282_20)) ((snd_lf n282_19)))) ((snd_br ((snd_lf n282_18)) ((snd_lf n282_15)))))))) ((snd_br ((snd_br ((snd_br ((snd_lf n282_12)) ((snd_lf n282_11)))) ((snd_br ((snd_lf n282_9)) ((snd_lf n282_6)))))) ((snd_br ((snd_br ((snd_lf n282_5)) ((snd_lf n282_2)))) ((snd_br ((snd_lf n282_1)) ((snd_lf n282_0)))))))))))))
end
section
variable {G : AG}
theorem n283_0 : Snd mt G 283 0 (oAload 0 1) := w_aload_n (hm := mm283) dX3_rules_0
theorem n283_1 : Snd mt G 283 1 (oConst (.int 0) 2) := w_iconst (hm := mm283) dX3_rules_1 rfl
theorem n283_2 : Snd mt G 283 2 (oPutf [4] 0 .int 5) := w_putf (hm := mm283) dX3_rules_2 (pok1 (k := 0) (T := TX3) 3 (Nat.le_of_ble_eq_true rfl) vc_3 (Nat.le_of_ble_eq_true rfl) rfl pd_X3_0 q2405)
theorem n283_5 : Snd mt G 283 5 (oAload 0 6) := w_aload_n (hm := mm283) dX3_rules_5
theorem n283_6 : Snd mt G 283 6 (oIload 1 7) := w_iload_n (hm := mm283) dX3_rules_6
theorem n283_7 : Snd mt G 283 7 (oConst (.int 0) 8) := w_iconst (hm := mm283) dX3_rules_7 rfl
theorem n283_8 : Snd mt G 283 8 (oConst (.int 20000) 11) := w_sipush (hm := mm283) dX3_rules_8 (by decide)
theorem n283_11 : Snd mt G 283 11 (oCall 3 (fS 284 3) 0 14 xOut) := s_callS (m' := 284) (n := 3) xsh_out (w_xok0 mm283) (w_cal mm283 mm284 pn_X3 (Nat.le_of_ble_eq_true rfl) (Nat.le_of_ble_eq_true rfl)) (fun h as hn => w_run_S mm283 mm284 dX3_rules_11 q2631 q2632 q150 q2633 pa284 hn)
theorem n283_14 : Snd mt G 283 14 (oIfEq 29 17) := w_if_eq (hm := mm283) dX3_rules_14 rfl
theorem n283_17 : Snd mt G 283 17 (oIload 2 18) := w_iload_n (hm := mm283) dX3_rules_17
theorem n283_18 : Snd mt G 283 18 (oConst (.int 0) 19) := w_iconst (hm := mm283) dX3_rules_18 rfl
theorem n283_19 : Snd mt G 283 19 (oAload 0 20) := w_aload_n (hm := mm283) dX3_rules_19
theorem n283_20 : Snd mt G 283 20 (oGetf [4] 1 23) := w_getf (hm := mm283) dX3_rules_20 (fok1 (k := 1) (T := TX3) 3 (Nat.le_of_ble_eq_true rfl) vc_3 (Nat.le_of_ble_eq_true rfl) q2406)
theorem n283_23 : Snd mt G 283 23 (oCall 3 (fS 284 3) 0 26 xOut) := s_callS (m' := 284) (n := 3) xsh_out (w_xok0 mm283) (w_cal mm283 mm284 pn_X3 (Nat.le_of_ble_eq_true rfl) (Nat.le_of_ble_eq_true rfl)) (fun h as hn => w_run_S mm283 mm284 dX3_rules_23 q2631 q2632 q150 q2633 pa284 hn)
theorem n283_26 : Snd mt G 283 26 (oIfEq 29 33) := w_if_ne (hm := mm283) dX3_rules_26 rfl
theorem n283_29 : Snd mt G 283 29 (oConst (.int 1) 30) := w_iconst (hm := mm283) dX3_rules_29 rfl
theorem n283_30 : Snd mt G 283 30 (oGoto 34) := w_goto (hm := mm283) dX3_rules_30 rfl
theorem n283_33 : Snd mt G 283 33 (oConst (.int 0) 34) := w_iconst (hm := mm283) dX3_rules_33 rfl
theorem n283_34 : Snd mt G 283 34 (oConst (.int 1) 35) := w_iconst (hm := mm283) dX3_rules_34 rfl
theorem n283_35 : Snd mt G 283 35 (oCall 3 (fV [4] 285 3) 0 38 xOut) := s_callV (m' := 285) (n := 2) xsh_out (w_xok0 mm283) (w_cal mm283 mm285 pn_X3 (Nat.le_of_ble_eq_true rfl) (Nat.le_of_ble_eq_true rfl)) (fun h b as hc hn => w_run_V (ci := 3) mm283 mm285 dX3_rules_35 (Or.inl (List.mem_singleton.mp hc)) (Nat.le_of_ble_eq_true rfl) vc_3 rfl q2634 q2636 qs62 q150 q2637 pa285 hn)
theorem n283_38 : Snd mt G 283 38 (oIfEq 43 41) := w_if_eq (hm := mm283) dX3_rules_38 rfl
theorem n283_41 : Snd mt G 283 41 (oConst (.int 0) 42) := w_iconst (hm := mm283) dX3_rules_41 rfl
theorem n283_42 : Snd mt G 283 42 (oRetI .int) := w_iret (hm := mm283) dX3_rules_42 rfl
theorem n283_43 : Snd mt G 283 43 (oAload 0 44) := w_aload_n (hm := mm283) dX3_rules_43
theorem n283_44 : Snd mt G 283 44 (oConst (.int 0) 45) := w_iconst (hm := mm283) dX3_rules_44 rfl
theorem n283_45 : Snd mt G 283 45 (oPutf [4] 1 .int 48) := w_putf (hm := mm283) dX3_rules_45 (pok1 (k := 1) (T := TX3) 3 (Nat.le_of_ble_eq_true rfl) vc_3 (Nat.le_of_ble_eq_true rfl) rfl pd_X3_1 q2406)
theorem n283_48 : Snd mt G 283 48 (oAload 0 49) := w_aload_n (hm := mm283) dX3_rules_48
theorem n283_49 : Snd mt G 283 49 (oConst (.int (-1)) 50) := w_iconst (hm := mm283) dX3_rules_49 rfl
theorem n283_50 : Snd mt G 283 50 (oPutf [4] 3 .int 53) := w_putf (hm := mm283) dX3_rules_50 (pok1 (k := 3) (T := TX3) 3 (Nat.le_of_ble_eq_true rfl) vc_3 (Nat.le_of_ble_eq_true rfl) rfl pd_X3_3 q2408)
theorem n283_53 : Snd mt G 283 53 (oAload 0 54) := w_aload_n (hm := mm283) dX3_rules_53
theorem n283_54 : Snd mt G 283 54 (oGetf [4] 14 57) := w_getf (hm := mm283) dX3_rules_54 (fok1 (k := 14) (T := TX3) 3 (Nat.le_of_ble_eq_true rfl) vc_3 (Nat.le_of_ble_eq_true rfl) q2419)
theorem n283_57 : Snd mt G 283 57 (oConst (.int 5) 58) := w_iconst (hm := mm283) dX3_rules_57 rfl
theorem n283_58 : Snd mt G 283 58 (oCmpEq 61 63) := w_icmp_ne (hm := mm283) dX3_rules_58 rfl
theorem n283_61 : Snd mt G 283 61 (oConst (.int (-1)) 62) := w_iconst (hm := mm283) dX3_rules_61 rfl
theorem n283_62 : Snd mt G 283 62 (oRetI .int) := w_iret (hm := mm283) dX3_rules_62 rfl
theorem n283_63 : Snd mt G 283 63 (oAload 0 64) := w_aload_n (hm := mm283) dX3_rules_63
theorem n283_64 : Snd mt G 283 64 (oIload 2 65) := w_iload_n (hm := mm283) dX3_rules_64
theorem n283_65 : Snd mt G 283 65 (oPutf [4] 2 .int 68) := w_putf (hm := mm283) dX3_rules_65 (pok1 (k := 2) (T := TX3) 3 (Nat.le_of_ble_eq_true rfl) vc_3 (Nat.le_of_ble_eq_true rfl) rfl pd_X3_2 q2407)
theorem n283_68 : Snd mt G 283 68 (oAload 0 69) := w_aload_n (hm := mm283) dX3_rules_68
theorem n283_69 : Snd mt G 283 69 (oConst (.int 1) 70) := w_iconst (hm := mm283) dX3_rules_69 rfl
theorem n283_70 : Snd mt G 283 70 (oPutf [4] 9 .boolean 73) := w_putf (hm := mm283) dX3_rules_70 (pok1 (k := 9) (T := TX3) 3 (Nat.le_of_ble_eq_true rfl) vc_3 (Nat.le_of_ble_eq_true rfl) rfl pd_X3_9 q2414)
theorem n283_73 : Snd mt G 283 73 (oAload 0 74) := w_aload_n (hm := mm283) dX3_rules_73
theorem n283_74 : Snd mt G 283 74 (oCall 1 (fV [4] 286 2) 0 77 xOut) := s_callV (m' := 286) (n := 0) xsh_out (w_xok0 mm283) (w_cal mm283 mm286 pn_X3 (Nat.le_of_ble_eq_true rfl) (Nat.le_of_ble_eq_true rfl)) (fun h b as hc hn => w_run_V (ci := 3) mm283 mm286 dX3_rules_74 (Or.inl (List.mem_singleton.mp hc)) (Nat.le_of_ble_eq_true rfl) vc_3 rfl q2638 q2640 qs63 q150 q2641 pa286 hn)
theorem n283_77 : Snd mt G 283 77 (oAload 0 78) := w_aload_n (hm := mm283) dX3_rules_77
theorem n283_78 : Snd mt G 283 78 (oAload 0 79) := w_aload_n (hm := mm283) dX3_rules_78
theorem n283_79 : Snd mt G 283 79 (oGetf [4] 7 82) := w_getf (hm := mm283) dX3_rules_79 (fok1 (k := 7) (T := TX3) 3 (Nat.le_of_ble_eq_true rfl) vc_3 (Nat.le_of_ble_eq_true rfl) q2412)
theorem n283_82 : Snd mt G 283 82 (oPutf [4] 3 .int 85) := w_putf (hm := mm283) dX3_rules_82 (pok1 (k := 3) (T := TX3) 3 (Nat.le_of_ble_eq_true rfl) vc_3 (Nat.le_of_ble_eq_true rfl) rfl pd_X3_3 q2408)
theorem n283_85 : Snd mt G 283 85 (oAload 0 86) := w_aload_n (hm := mm283) dX3_rules_85
theorem n283_86 : Snd mt G 283 86 (oGetf [4] 6 89) := w_getf (hm := mm283) dX3_rules_86 (fok1 (k := 6) (T := TX3) 3 (Nat.le_of_ble_eq_true rfl) vc_3 (Nat.le_of_ble_eq_true rfl) q2411)
theorem n283_89 : Snd mt G 283 89 (oIfEq 100 92) := w_if_eq (hm := mm283) dX3_rules_89 rfl
theorem n283_92 : Snd mt G 283 92 (oAload 0 93) := w_aload_n (hm := mm283) dX3_rules_92
theorem n283_93 : Snd mt G 283 93 (oGetf [4] 6 96) := w_getf (hm := mm283) dX3_rules_93 (fok1 (k := 6) (T := TX3) 3 (Nat.le_of_ble_eq_true rfl) vc_3 (Nat.le_of_ble_eq_true rfl) q2411)
theorem n283_96 : Snd mt G 283 96 (oConst (.int 10) 98) := w_bipush (hm := mm283) dX3_rules_96 (by decide)
theorem n283_98 : Snd mt G 283 98 (oBin (fun x y => x - y) 99) := w_isub (hm := mm283) dX3_rules_98
theorem n283_99 : Snd mt G 283 99 (oRetI .int) := w_iret (hm := mm283) dX3_rules_99 rfl
theorem n283_100 : Snd mt G 283 100 (oConst (.int 0) 101) := w_iconst (hm := mm283) dX3_rules_100 rfl
theorem n283_101 : Snd mt G 283 101 (oIstore 3 102) := w_istore_n (hm := mm283) dX3_rules_101 (Nat.le_of_ble_eq_true rfl)
theorem n283_102 : Snd mt G 283 102 (oIload 3 103) := w_iload_n (hm := mm283) dX3_rules_102
theorem n283_103 : Snd mt G 283 103 (oIload 2 104) := w_iload_n (hm := mm283) dX3_rules_103
theorem n283_104 : Snd mt G 283 104 (oCmpGe 130 107) := w_icmp_ge (hm := mm283) dX3_rules_104 rfl
theorem n283_107 : Snd mt G 283 107 (oAload 0 108) := w_aload_n (hm := mm283) dX3_rules_107
theorem n283_108 : Snd mt G 283 108 (oGetf [4] 11 111) := w_getf (hm := mm283) dX3_rules_108 (fok1 (k := 11) (T := TX3) 3 (Nat.le_of_ble_eq_true rfl) vc_3 (Nat.le_of_ble_eq_true rfl) q2416)
theorem n283_111 : Snd mt G 283 111 (oAload 0 112) := w_aload_n (hm := mm283) dX3_rules_111
theorem n283_112 : Snd mt G 283 112 (oGetf [4] 14 115) := w_getf (hm := mm283) dX3_rules_112 (fok1 (k := 14) (T := TX3) 3 (Nat.le_of_ble_eq_true rfl) vc_3 (Nat.le_of_ble_eq_true rfl) q2419)
theorem n283_115 : Snd mt G 283 115 (oAld [106] 116) := w_aaload (hm := mm283) (kt := 6) dX3_rules_115 rfl at_6 (Nat.le_of_ble_eq_true rfl) (List.forall_mem_cons.mpr ⟨Or.inl rfl, (fun t ht => nomatch ht)⟩)
theorem n283_116 : Snd mt G 283 116 (oIload 3 117) := w_iload_n (hm := mm283) dX3_rules_116
theorem n283_117 : Snd mt G 283 117 (oAload 0 118) := w_aload_n (hm := mm283) dX3_rules_117
theorem n283_118 : Snd mt G 283 118 (oGetf [4] 10 121) := w_getf (hm := mm283) dX3_rules_118 (fok1 (k := 10) (T := TX3) 3 (Nat.le_of_ble_eq_true rfl) vc_3 (Nat.le_of_ble_eq_true rfl) q2415)
theorem n283_121 : Snd mt G 283 121 (oIload 3 122) := w_iload_n (hm := mm283) dX3_rules_121
theorem n283_122 : Snd mt G 283 122 (oAld [100] 123) := w_iaload (hm := mm283) (kt := 0) dX3_rules_122 at_0 (Nat.le_of_ble_eq_true rfl) (List.forall_mem_cons.mpr ⟨Or.inl rfl, (fun t ht => nomatch ht)⟩)
theorem n283_123 : Snd mt G 283 123 (oIast [100] 124) := w_iastore (hm := mm283) (kt := 0) dX3_rules_123 at_0 (Nat.le_of_ble_eq_true rfl) (List.forall_mem_cons.mpr ⟨rfl, (fun t ht => nomatch ht)⟩)
theorem n283_124 : Snd mt G 283 124 (oIinc 3 1 127) := w_iinc (hm := mm283) dX3_rules_124 rfl (Nat.le_of_ble_eq_true rfl)
theorem n283_127 : Snd mt G 283 127 (oGoto 102) := w_goto (hm := mm283) dX3_rules_127 rfl
theorem n283_130 : Snd mt G 283 130 (oAload 0 131) := w_aload_n (hm := mm283) dX3_rules_130
theorem n283_131 : Snd mt G 283 131 (oGetf [4] 12 134) := w_getf (hm := mm283) dX3_rules_131 (fok1 (k := 12) (T := TX3) 3 (Nat.le_of_ble_eq_true rfl) vc_3 (Nat.le_of_ble_eq_true rfl) q2417)
theorem n283_134 : Snd mt G 283 134 (oAload 0 135) := w_aload_n (hm := mm283) dX3_rules_134
theorem n283_135 : Snd mt G 283 135 (oGetf [4] 14 138) := w_getf (hm := mm283) dX3_rules_135 (fok1 (k := 14) (T := TX3) 3 (Nat.le_of_ble_eq_true rfl) vc_3 (Nat.le_of_ble_eq_true rfl) q2419)
theorem n283_138 : Snd mt G 283 138 (oIload 2 139) := w_iload_n (hm := mm283) dX3_rules_138
theorem n283_139 : Snd mt G 283 139 (oIast [100] 140) := w_iastore (hm := mm283) (kt := 0) dX3_rules_139 at_0 (Nat.le_of_ble_eq_true rfl) (List.forall_mem_cons.mpr ⟨rfl, (fun t ht => nomatch ht)⟩)
theorem n283_140 : Snd mt G 283 140 (oAload 0 141) := w_aload_n (hm := mm283) dX3_rules_140
theorem n283_141 : Snd mt G 283 141 (oGetf [4] 13 144) := w_getf (hm := mm283) dX3_rules_141 (fok1 (k := 13) (T := TX3) 3 (Nat.le_of_ble_eq_true rfl) vc_3 (Nat.le_of_ble_eq_true rfl) q2418)
theorem n283_144 : Snd mt G 283 144 (oAload 0 145) := w_aload_n (hm := mm283) dX3_rules_144
theorem n283_145 : Snd mt G 283 145 (oGetf [4] 14 148) := w_getf (hm := mm283) dX3_rules_145 (fok1 (k := 14) (T := TX3) 3 (Nat.le_of_ble_eq_true rfl) vc_3 (Nat.le_of_ble_eq_true rfl) q2419)
theorem n283_148 : Snd mt G 283 148 (oIload 1 149) := w_iload_n (hm := mm283) dX3_rules_148
theorem n283_149 : Snd mt G 283 149 (oIast [100] 150) := w_iastore (hm := mm283) (kt := 0) dX3_rules_149 at_0 (Nat.le_of_ble_eq_true rfl) (List.forall_mem_cons.mpr ⟨rfl, (fun t ht => nomatch ht)⟩)
theorem n283_150 : Snd mt G 283 150 (oAload 0 151) := w_aload_n (hm := mm283) dX3_rules_150
theorem n283_151 : Snd mt G 283 151 (oDup 152) := w_dup (hm := mm283) dX3_rules_151
theorem n283_152 : Snd mt G 283 152 (oGetf [4] 14 155) := w_getf (hm := mm283) dX3_rules_152 (fok1 (k := 14) (T := TX3) 3 (Nat.le_of_ble_eq_true rfl) vc_3 (Nat.le_of_ble_eq_true rfl) q2419)
theorem n283_155 : Snd mt G 283 155 (oConst (.int 1) 156) := w_iconst (hm := mm283) dX3_rules_155 rfl
theorem n283_156 : Snd mt G 283 156 (oBin (fun x y => x + y) 157) := w_iadd (hm := mm283) dX3_rules_156
theorem n283_157 : Snd mt G 283 157 (oPutf [4] 14 .int 160) := w_putf (hm := mm283) dX3_rules_157 (pok1 (k := 14) (T := TX3) 3 (Nat.le_of_ble_eq_true rfl) vc_3 (Nat.le_of_ble_eq_true rfl) rfl pd_X3_14 q2419)
theorem n283_160 : Snd mt G 283 160 (oAload 0 161) := w_aload_n (hm := mm283) dX3_rules_160
theorem n283_161 : Snd mt G 283 161 (oGetf [4] 14 164) := w_getf (hm := mm283) dX3_rules_161 (fok1 (k := 14) (T := TX3) 3 (Nat.le_of_ble_eq_true rfl) vc_3 (Nat.le_of_ble_eq_true rfl) q2419)
theorem n283_164 : Snd mt G 283 164 (oConst (.int 1) 165) := w_iconst (hm := mm283) dX3_rules_164 rfl
theorem n283_165 : Snd mt G 283 165 (oBin (fun x y => x - y) 166) := w_isub (hm := mm283) dX3_rules_165
theorem n283_166 : Snd mt G 283 166 (oRetI .int) := w_iret (hm := mm283) dX3_rules_166 rfl
theorem sj283 : ∀ pc, Snd mt G 283 pc (j283 pc) := fun pc => (snd_br ((snd_br ((snd_br ((snd_br ((snd_br ((snd_br ((snd_br ((snd_lf n283_166)) ((snd_lf n283_165)))) ((snd_lf n283_164)))) ((snd_br ((snd_br ((snd_lf n283_161)) ((snd_lf n283_160)))) ((snd_lf n283_157)))))) ((snd_br ((snd_br ((snd_br ((snd_lf n283_156)) ((snd_lf n283_155)))) ((snd_lf n283_152)))) ((snd_br ((snd_br ((snd_lf n283_151)) ((snd_lf n283_150)))) ((snd_lf n283_149)))))))) ((snd_br ((snd_br ((snd_br ((snd_br ((snd_lf n283_148)) ((snd_lf n283_145)))) ((snd_lf n283_144)))) ((snd_br ((snd_br ((snd_lf n283_141)) ((snd_lf n283_140)))) ((snd_lf n283_139)))))) ((snd_br ((snd_br ((snd_br ((snd_lf n283_138)) ((snd_lf n283_135)))) ((snd_lf n283_134)))) ((snd_br ((snd_br ((snd_lf n283_131)) ((snd_lf n283_130)))) ((snd_lf n283_127)))))))))) ((snd_br ((snd_br ((snd_br ((snd_br ((snd_br ((snd_lf n283_124)) ((snd_lf n283_123)))) ((snd_lf n283_122)))) ((snd_br ((snd_br ((snd_lf n283_121)) ((snd_lf n283_118)))) ((snd_lf n283_117)))))) ((snd_br ((snd_br ((snd_br ((snd_lf n283_116)) ((snd_lf n283_115)))) ((snd_lf n283_112)))) ((snd_br ((snd_br ((snd_lf n283_111)) ((snd_lf n283_108)))) ((snd_lf n283_107)))))))) ((snd_br ((snd_br ((snd_br ((snd_br ((snd_lf n283_104)) ((snd_lf n283_103)))) ((snd_lf n283_102)))) ((snd_br ((snd_br ((snd_lf n283_101)) ((snd_lf n283_100)))) ((snd_lf n283_99)))))) ((snd_br ((snd_br ((snd_br ((snd_lf n283_98)) ((snd_lf n283_96)))) ((snd_lf n283_93)))) ((snd_br ((snd_br ((snd_lf n283_92)) ((snd_lf n283_89)))) ((snd_lf n283_86)))))))))))) ((snd_br ((snd_br ((snd_br ((snd_br ((snd_br ((snd_br ((snd_lf n283_85)) ((snd_lf n283_82)))) ((snd_lf n283_79)))) ((snd_br ((snd_br ((snd_lf n283_78)) ((snd_lf n283_77)))) ((snd_lf n283_74)))))) ((snd_br ((snd_br ((snd_br ((snd_lf n283_73)) ((snd_lf n283_70)))) ((snd_lf n283_69)))) ((snd_br ((snd_br ((snd_lf n283_68)) ((snd_lf n283_65)))) ((snd_lf n283_64)))))))) ((snd_br ((snd_br ((snd_br ((snd_br ((snd_lf n283_63)) ((snd_lf n283_62)))) ((snd_lf n283_61)))) ((snd_br ((snd_br ((snd_lf n283_58)) ((snd_lf n283_57)))) ((snd_lf n283_54)))))) ((snd_br ((snd_br ((snd_br ((snd_lf n283_53)) ((snd_lf n283_50)))) ((snd_lf n283_49)))) ((snd_br ((snd_br ((snd_lf n283_48)) ((snd_lf n283_45)))) ((snd_lf n283_44)))))))))) ((snd_br ((snd_br ((snd_br ((snd_br ((snd_br ((snd_lf n283_43)) ((snd_lf n283_42)))) ((snd_lf n283_41)))) ((snd_br ((snd_br ((snd_lf n283_38)) ((snd_lf n283_35)))) ((snd_lf n283_34)))))) ((snd_br ((snd_br ((snd_br ((snd_lf n283_33)) ((snd_lf n283_30)))) ((snd_lf n283_29)))) ((snd_br ((snd_br ((snd_lf n283_26)) ((snd_lf n283_23)))) ((snd_lf n283_20)))))))) ((snd_br ((snd_br ((snd_br ((snd_br ((snd_lf n283_19)) ((snd_lf n283_18)))) ((snd_lf n283_17)))) ((snd_br ((snd_br ((snd_lf n283_14)) ((snd_lf n283_11)))) ((snd_lf n283_8)))))) ((snd_br ((snd_br ((snd_br ((snd_lf n283_7)) ((snd_lf n283_6)))) ((snd_lf n283_5)))) ((snd_br ((snd_br ((snd_lf n283_2)) ((snd_lf n283_1)))) ((snd_lf n283_0)))))))))))))
end
section
variable {G : AG}
theorem n284_0 : Snd mt G 284 0 (oIload 0 1) := w_iload_n (hm := mm284) dX3_in_0
theorem n284_1 : Snd mt G 284 1 (oIload 1 2) := w_iload_n (hm := mm284) dX3_in_1
theorem n284_2 : Snd mt G 284 2 (oCmpLt 14 5) := w_icmp_lt (hm := mm284) dX3_in_2 rfl
theorem n284_5 : Snd mt G 284 5 (oIload 0 6) := w_iload_n (hm := mm284) dX3_in_5
theorem n284_6 : Snd mt G 284 6 (oIload 2 7) := w_iload_n (hm := mm284) dX3_in_6
theorem n284_7 : Snd mt G 284 7 (oCmpGt 14 10) := w_icmp_gt (hm := mm284) dX3_in_7 rfl
theorem n284_10 : Snd mt G 284 10 (oConst (.int 1) 11) := w_iconst (hm := mm284) dX3_in_10 rfl
theorem n284_11 : Snd mt G 284 11 (oGoto 15) := w_goto (hm := mm284) dX3_in_11 rfl
theorem n284_14 : Snd mt G 284 14 (oConst (.int 0) 15) := w_iconst (hm := mm284) dX3_in_14 rfl
theorem n284_15 : Snd mt G 284 15 (oRetI .boolean) := w_zret (hm := mm284) dX3_in_15 rfl
theorem sj284 : ∀ pc, Snd mt G 284 pc (j284 pc) := fun pc => (snd_br ((snd_br ((snd_br ((snd_br ((snd_lf n284_15)) ((snd_lf n284_14)))) ((snd_lf n284_11)))) ((snd_br ((snd_lf n284_10)) ((snd_lf n284_7)))))) ((snd_br ((snd_br ((snd_br ((snd_lf n284_6)) ((snd_lf n284_5)))) ((snd_lf n284_2)))) ((snd_br ((snd_lf n284_1)) ((snd_lf n284_0)))))))
end
section
variable {G : AG}
theorem n285_0 : Snd mt G 285 0 (oIload 1 1) := w_iload_n (hm := mm285) dX3_bad_0
theorem n285_1 : Snd mt G 285 1 (oIfEq 16 4) := w_if_eq (hm := mm285) dX3_bad_1 rfl
theorem n285_4 : Snd mt G 285 4 (oAload 0 5) := w_aload_n (hm := mm285) dX3_bad_4
theorem n285_5 : Snd mt G 285 5 (oGetf [4] 0 8) := w_getf (hm := mm285) dX3_bad_5 (fok1 (k := 0) (T := TX3) 3 (Nat.le_of_ble_eq_true rfl) vc_3 (Nat.le_of_ble_eq_true rfl) q2405)
theorem n285_8 : Snd mt G 285 8 (oIfEq 11 16) := w_if_ne (hm := mm285) dX3_bad_8 rfl
theorem n285_11 : Snd mt G 285 11 (oAload 0 12) := w_aload_n (hm := mm285) dX3_bad_11
theorem n285_12 : Snd mt G 285 12 (oIload 2 13) := w_iload_n (hm := mm285) dX3_bad_12
theorem n285_13 : Snd mt G 285 13 (oPutf [4] 0 .int 16) := w_putf (hm := mm285) dX3_bad_13 (pok1 (k := 0) (T := TX3) 3 (Nat.le_of_ble_eq_true rfl) vc_3 (Nat.le_of_ble_eq_true rfl) rfl pd_X3_0 q2405)
theorem n285_16 : Snd mt G 285 16 (oAload 0 17) := w_aload_n (hm := mm285) dX3_bad_16
theorem n285_17 : Snd mt G 285 17 (oGetf [4] 0 20) := w_getf (hm := mm285) dX3_bad_17 (fok1 (k := 0) (T := TX3) 3 (Nat.le_of_ble_eq_true rfl) vc_3 (Nat.le_of_ble_eq_true rfl) q2405)
theorem n285_20 : Snd mt G 285 20 (oIfEq 27 23) := w_if_eq (hm := mm285) dX3_bad_20 rfl
theorem n285_23 : Snd mt G 285 23 (oConst (.int 1) 24) := w_iconst (hm := mm285) dX3_bad_23 rfl
theorem n285_24 : Snd mt G 285 24 (oGoto 28) := w_goto (hm := mm285) dX3_bad_24 rfl
theorem n285_27 : Snd mt G 285 27 (oConst (.int 0) 28) := w_iconst (hm := mm285) dX3_bad_27 rfl
theorem n285_28 : Snd mt G 285 28 (oRetI .boolean) := w_zret (hm := mm285) dX3_bad_28 rfl
theorem sj285 : ∀ pc, Snd mt G 285 pc (j285 pc) := fun pc => (snd_br ((snd_br ((snd_br ((snd_br ((snd_lf n285_28)) ((snd_lf n285_27)))) ((snd_br ((snd_lf n285_24)) ((snd_lf n285_23)))))) ((snd_br ((snd_br ((snd_lf n285_20)) ((snd_lf n285_17)))) ((snd_br ((snd_lf n285_16)) ((snd_lf n285_13)))))))) ((snd_br ((snd_br ((snd_br ((snd_lf n285_12)) ((snd_lf n285_11)))) ((snd_br ((snd_lf n285_8)) ((snd_lf n285_5)))))) ((snd_br ((snd_br ((snd_lf n285_4)) ((snd_lf n285_1)))) ((snd_lf n285_0)))))))
end
section
variable {G : AG}
theorem n286_0 : Snd mt G 286 0 (oAload 0 1) := w_aload_n (hm := mm286) dX3_walksText_0
theorem n286_1 : Snd mt G 286 1 (oConst (.int 0) 2) := w_iconst (hm := mm286) dX3_walksText_1 rfl
theorem n286_2 : Snd mt G 286 2 (oPutf [4] 4 .int 5) := w_putf (hm := mm286) dX3_walksText_2 (pok1 (k := 4) (T := TX3) 3 (Nat.le_of_ble_eq_true rfl) vc_3 (Nat.le_of_ble_eq_true rfl) rfl pd_X3_4 q2409)
theorem n286_5 : Snd mt G 286 5 (oAload 0 6) := w_aload_n (hm := mm286) dX3_walksText_5
theorem n286_6 : Snd mt G 286 6 (oConst (.int 0) 7) := w_iconst (hm := mm286) dX3_walksText_6 rfl
theorem n286_7 : Snd mt G 286 7 (oPutf [4] 5 .int 10) := w_putf (hm := mm286) dX3_walksText_7 (pok1 (k := 5) (T := TX3) 3 (Nat.le_of_ble_eq_true rfl) vc_3 (Nat.le_of_ble_eq_true rfl) rfl pd_X3_5 q2410)
theorem n286_10 : Snd mt G 286 10 (oAload 0 11) := w_aload_n (hm := mm286) dX3_walksText_10
theorem n286_11 : Snd mt G 286 11 (oConst (.int 0) 12) := w_iconst (hm := mm286) dX3_walksText_11 rfl
theorem n286_12 : Snd mt G 286 12 (oPutf [4] 6 .int 15) := w_putf (hm := mm286) dX3_walksText_12 (pok1 (k := 6) (T := TX3) 3 (Nat.le_of_ble_eq_true rfl) vc_3 (Nat.le_of_ble_eq_true rfl) rfl pd_X3_6 q2411)
theorem n286_15 : Snd mt G 286 15 (oAload 0 16) := w_aload_n (hm := mm286) dX3_walksText_15
theorem n286_16 : Snd mt G 286 16 (oConst (.int (-1)) 17) := w_iconst (hm := mm286) dX3_walksText_16 rfl
theorem n286_17 : Snd mt G 286 17 (oPutf [4] 7 .int 20) := w_putf (hm := mm286) dX3_walksText_17 (pok1 (k := 7) (T := TX3) 3 (Nat.le_of_ble_eq_true rfl) vc_3 (Nat.le_of_ble_eq_true rfl) rfl pd_X3_7 q2412)
theorem n286_20 : Snd mt G 286 20 (oAload 0 21) := w_aload_n (hm := mm286) dX3_walksText_20
theorem n286_21 : Snd mt G 286 21 (oConst (.int 0) 22) := w_iconst (hm := mm286) dX3_walksText_21 rfl
theorem n286_22 : Snd mt G 286 22 (oPutf [4] 8 .int 25) := w_putf (hm := mm286) dX3_walksText_22 (pok1 (k := 8) (T := TX3) 3 (Nat.le_of_ble_eq_true rfl) vc_3 (Nat.le_of_ble_eq_true rfl) rfl pd_X3_8 q2413)
theorem n286_25 : Snd mt G 286 25 (oAload 0 26) := w_aload_n (hm := mm286) dX3_walksText_25
theorem n286_26 : Snd mt G 286 26 (oConst (.int 0) 27) := w_iconst (hm := mm286) dX3_walksText_26 rfl
theorem n286_27 : Snd mt G 286 27 (oPutf [4] 20 .int 30) := w_putf (hm := mm286) dX3_walksText_27 (pok1 (k := 20) (T := TX3) 3 (Nat.le_of_ble_eq_true rfl) vc_3 (Nat.le_of_ble_eq_true rfl) rfl pd_X3_20 q2425)
theorem n286_30 : Snd mt G 286 30 (oAload 0 31) := w_aload_n (hm := mm286) dX3_walksText_30
theorem n286_31 : Snd mt G 286 31 (oConst (.int 0) 32) := w_iconst (hm := mm286) dX3_walksText_31 rfl
theorem n286_32 : Snd mt G 286 32 (oPutf [4] 21 .int 35) := w_putf (hm := mm286) dX3_walksText_32 (pok1 (k := 21) (T := TX3) 3 (Nat.le_of_ble_eq_true rfl) vc_3 (Nat.le_of_ble_eq_true rfl) rfl pd_X3_21 q2426)
theorem n286_35 : Snd mt G 286 35 (oAload 0 36) := w_aload_n (hm := mm286) dX3_walksText_35
theorem n286_36 : Snd mt G 286 36 (oConst (.int (-1)) 37) := w_iconst (hm := mm286) dX3_walksText_36 rfl
theorem n286_37 : Snd mt G 286 37 (oPutf [4] 24 .int 40) := w_putf (hm := mm286) dX3_walksText_37 (pok1 (k := 24) (T := TX3) 3 (Nat.le_of_ble_eq_true rfl) vc_3 (Nat.le_of_ble_eq_true rfl) rfl pd_X3_24 q2429)
theorem n286_40 : Snd mt G 286 40 (oAload 0 41) := w_aload_n (hm := mm286) dX3_walksText_40
theorem n286_41 : Snd mt G 286 41 (oConst (.int (-1)) 42) := w_iconst (hm := mm286) dX3_walksText_41 rfl
theorem n286_42 : Snd mt G 286 42 (oPutf [4] 22 .int 45) := w_putf (hm := mm286) dX3_walksText_42 (pok1 (k := 22) (T := TX3) 3 (Nat.le_of_ble_eq_true rfl) vc_3 (Nat.le_of_ble_eq_true rfl) rfl pd_X3_22 q2427)
theorem n286_45 : Snd mt G 286 45 (oAload 0 46) := w_aload_n (hm := mm286) dX3_walksText_45
theorem n286_46 : Snd mt G 286 46 (oConst (.int 0) 47) := w_iconst (hm := mm286) dX3_walksText_46 rfl
theorem n286_47 : Snd mt G 286 47 (oPutf [4] 25 .int 50) := w_putf (hm := mm286) dX3_walksText_47 (pok1 (k := 25) (T := TX3) 3 (Nat.le_of_ble_eq_true rfl) vc_3 (Nat.le_of_ble_eq_true rfl) rfl pd_X3_25 q2430)
theorem n286_50 : Snd mt G 286 50 (oConst (.int 0) 51) := w_iconst (hm := mm286) dX3_walksText_50 rfl
theorem n286_51 : Snd mt G 286 51 (oIstore 1 52) := w_istore_n (hm := mm286) dX3_walksText_51 (Nat.le_of_ble_eq_true rfl)
theorem n286_52 : Snd mt G 286 52 (oIload 1 53) := w_iload_n (hm := mm286) dX3_walksText_52
theorem n286_53 : Snd mt G 286 53 (oConst (.int 12) 55) := w_bipush (hm := mm286) dX3_walksText_53 (by decide)
theorem n286_55 : Snd mt G 286 55 (oCmpGe 71 58) := w_icmp_ge (hm := mm286) dX3_walksText_55 rfl
theorem n286_58 : Snd mt G 286 58 (oAload 0 59) := w_aload_n (hm := mm286) dX3_walksText_58
theorem n286_59 : Snd mt G 286 59 (oGetf [4] 17 62) := w_getf (hm := mm286) dX3_walksText_59 (fok1 (k := 17) (T := TX3) 3 (Nat.le_of_ble_eq_true rfl) vc_3 (Nat.le_of_ble_eq_true rfl) q2422)
theorem n286_62 : Snd mt G 286 62 (oIload 1 63) := w_iload_n (hm := mm286) dX3_walksText_62
theorem n286_63 : Snd mt G 286 63 (oConst (.int 0) 64) := w_iconst (hm := mm286) dX3_walksText_63 rfl
theorem n286_64 : Snd mt G 286 64 (oIast [100] 65) := w_iastore (hm := mm286) (kt := 0) dX3_walksText_64 at_0 (Nat.le_of_ble_eq_true rfl) (List.forall_mem_cons.mpr ⟨rfl, (fun t ht => nomatch ht)⟩)
theorem n286_65 : Snd mt G 286 65 (oIinc 1 1 68) := w_iinc (hm := mm286) dX3_walksText_65 rfl (Nat.le_of_ble_eq_true rfl)
theorem n286_68 : Snd mt G 286 68 (oGoto 52) := w_goto (hm := mm286) dX3_walksText_68 rfl
theorem n286_71 : Snd mt G 286 71 (oConst (.int 0) 72) := w_iconst (hm := mm286) dX3_walksText_71 rfl
theorem n286_72 : Snd mt G 286 72 (oIstore 1 73) := w_istore_n (hm := mm286) dX3_walksText_72 (Nat.le_of_ble_eq_true rfl)
theorem n286_73 : Snd mt G 286 73 (oIload 1 74) := w_iload_n (hm := mm286) dX3_walksText_73
theorem n286_74 : Snd mt G 286 74 (oConst (.int 4) 75) := w_iconst (hm := mm286) dX3_walksText_74 rfl
theorem n286_75 : Snd mt G 286 75 (oCmpGe 98 78) := w_icmp_ge (hm := mm286) dX3_walksText_75 rfl
theorem n286_78 : Snd mt G 286 78 (oAload 0 79) := w_aload_n (hm := mm286) dX3_walksText_78
theorem n286_79 : Snd mt G 286 79 (oGetf [4] 18 82) := w_getf (hm := mm286) dX3_walksText_79 (fok1 (k := 18) (T := TX3) 3 (Nat.le_of_ble_eq_true rfl) vc_3 (Nat.le_of_ble_eq_true rfl) q2423)
theorem n286_82 : Snd mt G 286 82 (oIload 1 83) := w_iload_n (hm := mm286) dX3_walksText_82
theorem n286_83 : Snd mt G 286 83 (oConst (.int (-1)) 84) := w_iconst (hm := mm286) dX3_walksText_83 rfl
theorem n286_84 : Snd mt G 286 84 (oIast [100] 85) := w_iastore (hm := mm286) (kt := 0) dX3_walksText_84 at_0 (Nat.le_of_ble_eq_true rfl) (List.forall_mem_cons.mpr ⟨rfl, (fun t ht => nomatch ht)⟩)
theorem n286_85 : Snd mt G 286 85 (oAload 0 86) := w_aload_n (hm := mm286) dX3_walksText_85
theorem n286_86 : Snd mt G 286 86 (oGetf [4] 19 89) := w_getf (hm := mm286) dX3_walksText_86 (fok1 (k := 19) (T := TX3) 3 (Nat.le_of_ble_eq_true rfl) vc_3 (Nat.le_of_ble_eq_true rfl) q2424)
theorem n286_89 : Snd mt G 286 89 (oIload 1 90) := w_iload_n (hm := mm286) dX3_walksText_89
theorem n286_90 : Snd mt G 286 90 (oConst (.int (-1)) 91) := w_iconst (hm := mm286) dX3_walksText_90 rfl
theorem n286_91 : Snd mt G 286 91 (oIast [100] 92) := w_iastore (hm := mm286) (kt := 0) dX3_walksText_91 at_0 (Nat.le_of_ble_eq_true rfl) (List.forall_mem_cons.mpr ⟨rfl, (fun t ht => nomatch ht)⟩)
theorem n286_92 : Snd mt G 286 92 (oIinc 1 1 95) := w_iinc (hm := mm286) dX3_walksText_92 rfl (Nat.le_of_ble_eq_true rfl)
theorem n286_95 : Snd mt G 286 95 (oGoto 73) := w_goto (hm := mm286) dX3_walksText_95 rfl
theorem n286_98 : Snd mt G 286 98 (oAload 0 99) := w_aload_n (hm := mm286) dX3_walksText_98
theorem n286_99 : Snd mt G 286 99 (oCall 1 (fV [4] 287 1) 0 102 xOut) := s_callV (m' := 287) (n := 0) xsh_out (w_xok0 mm286) (w_cal mm286 mm287 pn_X3 (Nat.le_of_ble_eq_true rfl) (Nat.le_of_ble_eq_true rfl)) (fun h b as hc hn => w_run_V (ci := 3) mm286 mm287 dX3_walksText_99 (Or.inl (List.mem_singleton.mp hc)) (Nat.le_of_ble_eq_true rfl) vc_3 rfl q2642 q2644 qs64 q150 q2645 pa287 hn)
theorem n286_102 : Snd mt G 286 102 (oAload 0 103) := w_aload_n (hm := mm286) dX3_walksText_102
theorem n286_103 : Snd mt G 286 103 (oGetf [4] 6 106) := w_getf (hm := mm286) dX3_walksText_103 (fok1 (k := 6) (T := TX3) 3 (Nat.le_of_ble_eq_true rfl) vc_3 (Nat.le_of_ble_eq_true rfl) q2411)
theorem n286_106 : Snd mt G 286 106 (oIfEq 109 131) := w_if_ne (hm := mm286) dX3_walksText_106 rfl
theorem n286_109 : Snd mt G 286 109 (oAload 0 110) := w_aload_n (hm := mm286) dX3_walksText_109
theorem n286_110 : Snd mt G 286 110 (oGetf [4] 4 113) := w_getf (hm := mm286) dX3_walksText_110 (fok1 (k := 4) (T := TX3) 3 (Nat.le_of_ble_eq_true rfl) vc_3 (Nat.le_of_ble_eq_true rfl) q2409)
theorem n286_113 : Snd mt G 286 113 (oAload 0 114) := w_aload_n (hm := mm286) dX3_walksText_113
theorem n286_114 : Snd mt G 286 114 (oGetf [4] 2 117) := w_getf (hm := mm286) dX3_walksText_114 (fok1 (k := 2) (T := TX3) 3 (Nat.le_of_ble_eq_true rfl) vc_3 (Nat.le_of_ble_eq_true rfl) q2407)
theorem n286_117 : Snd mt G 286 117 (oCmpGe 131 120) := w_icmp_ge (hm := mm286) dX3_walksText_117 rfl
theorem n286_120 : Snd mt G 286 120 (oAload 0 121) := w_aload_n (hm := mm286) dX3_walksText_120
theorem n286_121 : Snd mt G 286 121 (oCall 1 (fV [4] 289 6) 0 124 xOut) := s_callV (m' := 289) (n := 0) xsh_out (w_xok0 mm286) (w_cal mm286 mm289 pn_X3 (Nat.le_of_ble_eq_true rfl) (Nat.le_of_ble_eq_true rfl)) (fun h b as hc hn => w_run_V (ci := 3) mm286 mm289 dX3_walksText_121 (Or.inl (List.mem_singleton.mp hc)) (Nat.le_of_ble_eq_true rfl) vc_3 rfl q2650 q2652 qs66 q150 q2653 pa289 hn)
theorem n286_124 : Snd mt G 286 124 (oAload 0 125) := w_aload_n (hm := mm286) dX3_walksText_124
theorem n286_125 : Snd mt G 286 125 (oCall 1 (fV [4] 287 1) 0 128 xOut) := s_callV (m' := 287) (n := 0) xsh_out (w_xok0 mm286) (w_cal mm286 mm287 pn_X3 (Nat.le_of_ble_eq_true rfl) (Nat.le_of_ble_eq_true rfl)) (fun h b as hc hn => w_run_V (ci := 3) mm286 mm287 dX3_walksText_125 (Or.inl (List.mem_singleton.mp hc)) (Nat.le_of_ble_eq_true rfl) vc_3 rfl q2642 q2644 qs64 q150 q2645 pa287 hn)
theorem n286_128 : Snd mt G 286 128 (oGoto 102) := w_goto (hm := mm286) dX3_walksText_128 rfl
theorem n286_131 : Snd mt G 286 131 (oRetV) := w_vret (hm := mm286) dX3_walksText_131 rfl
theorem sj286 : ∀ pc, Snd mt G 286 pc (j286 pc) := fun pc => (snd_br ((snd_br ((snd_br ((snd_br ((snd_br ((snd_br ((snd_br ((snd_lf n286_131)) ((snd_lf n286_128)))) ((snd_lf n286_125)))) ((snd_br ((snd_lf n286_124)) ((snd_lf n286_121)))))) ((snd_br ((snd_br ((snd_br ((snd_lf n286_120)) ((snd_lf n286_117)))) ((snd_lf n286_114)))) ((snd_br ((snd_lf n286_113)) ((snd_lf n286_110)))))))) ((snd_br ((snd_br ((snd_br ((snd_br ((snd_lf n286_109)) ((snd_lf n286_106)))) ((snd_lf n286_103)))) ((snd_br ((snd_lf n286_102)) ((snd_lf n286_99)))))) ((snd_br ((snd_br ((snd_lf n286_98)) ((snd_lf n286_95)))) ((snd_br ((snd_lf n286_92)) ((snd_lf n286_91)))))))))) ((snd_br ((snd_br ((snd_br ((snd_br ((snd_br ((snd_lf n286_90)) ((snd_lf n286_89)))) ((snd_lf n286_86)))) ((snd_br ((snd_lf n286_85)) ((snd_lf n286_84)))))) ((snd_br ((snd_br ((snd_br ((snd_lf n286_83)) ((snd_lf n286_82)))) ((snd_lf n286_79)))) ((snd_br ((snd_lf n286_78)) ((snd_lf n286_75)))))))) ((snd_br ((snd_br ((snd_br ((snd_br ((snd_lf n286_74)) ((snd_lf n286_73)))) ((snd_lf n286_72)))) ((snd_br ((snd_lf n286_71)) ((snd_lf n286_68)))))) ((snd_br ((snd_br ((snd_lf n286_65)) ((snd_lf n286_64)))) ((snd_br ((snd_lf n286_63)) ((snd_lf n286_62)))))))))))) ((snd_br ((snd_br ((snd_br ((snd_br ((snd_br ((snd_br ((snd_lf n286_59)) ((snd_lf n286_58)))) ((snd_lf n286_55)))) ((snd_br ((snd_lf n286_53)) ((snd_lf n286_52)))))) ((snd_br ((snd_br ((snd_br ((snd_lf n286_51)) ((snd_lf n286_50)))) ((snd_lf n286_47)))) ((snd_br ((snd_lf n286_46)) ((snd_lf n286_45)))))))) ((snd_br ((snd_br ((snd_br ((snd_br ((snd_lf n286_42)) ((snd_lf n286_41)))) ((snd_lf n286_40)))) ((snd_br ((snd_lf n286_37)) ((snd_lf n286_36)))))) ((snd_br ((snd_br ((snd_lf n286_35)) ((snd_lf n286_32)))) ((snd_br ((snd_lf n286_31)) ((snd_lf n286_30)))))))))) ((snd_br ((snd_br ((snd_br ((snd_br ((snd_br ((snd_lf n286_27)) ((snd_lf n286_26)))) ((snd_lf n286_25)))) ((snd_br ((snd_lf n286_22)) ((snd_lf n286_21)))))) ((snd_br ((snd_br ((snd_lf n286_20)) ((snd_lf n286_17)))) ((snd_br ((snd_lf n286_16)) ((snd_lf n286_15)))))))) ((snd_br ((snd_br ((snd_br ((snd_br ((snd_lf n286_12)) ((snd_lf n286_11)))) ((snd_lf n286_10)))) ((snd_br ((snd_lf n286_7)) ((snd_lf n286_6)))))) ((snd_br ((snd_br ((snd_lf n286_5)) ((snd_lf n286_2)))) ((snd_br ((snd_lf n286_1)) ((snd_lf n286_0)))))))))))))
end
section
variable {G : AG}
theorem n287_0 : Snd mt G 287 0 (oAload 0 1) := w_aload_n (hm := mm287) dX3_blanks_0
theorem n287_1 : Snd mt G 287 1 (oAload 0 2) := w_aload_n (hm := mm287) dX3_blanks_1
theorem n287_2 : Snd mt G 287 2 (oGetf [4] 4 5) := w_getf (hm := mm287) dX3_blanks_2 (fok1 (k := 4) (T := TX3) 3 (Nat.le_of_ble_eq_true rfl) vc_3 (Nat.le_of_ble_eq_true rfl) q2409)
theorem n287_5 : Snd mt G 287 5 (oCall 2 (fV [4] 288 2) 0 8 xOut) := s_callV (m' := 288) (n := 1) xsh_out (w_xok0 mm287) (w_cal mm287 mm288 pn_X3 (Nat.le_of_ble_eq_true rfl) (Nat.le_of_ble_eq_true rfl)) (fun h b as hc hn => w_run_V (ci := 3) mm287 mm288 dX3_blanks_5 (Or.inl (List.mem_singleton.mp hc)) (Nat.le_of_ble_eq_true rfl) vc_3 rfl q2646 q2648 qs65 q150 q2649 pa288 hn)
theorem n287_8 : Snd mt G 287 8 (oConst (.int 32) 10) := w_bipush (hm := mm287) dX3_blanks_8 (by decide)
theorem n287_10 : Snd mt G 287 10 (oCmpEq 13 26) := w_icmp_ne (hm := mm287) dX3_blanks_10 rfl
theorem n287_13 : Snd mt G 287 13 (oAload 0 14) := w_aload_n (hm := mm287) dX3_blanks_13
theorem n287_14 : Snd mt G 287 14 (oDup 15) := w_dup (hm := mm287) dX3_blanks_14
theorem n287_15 : Snd mt G 287 15 (oGetf [4] 4 18) := w_getf (hm := mm287) dX3_blanks_15 (fok1 (k := 4) (T := TX3) 3 (Nat.le_of_ble_eq_true rfl) vc_3 (Nat.le_of_ble_eq_true rfl) q2409)
theorem n287_18 : Snd mt G 287 18 (oConst (.int 1) 19) := w_iconst (hm := mm287) dX3_blanks_18 rfl
theorem n287_19 : Snd mt G 287 19 (oBin (fun x y => x + y) 20) := w_iadd (hm := mm287) dX3_blanks_19
theorem n287_20 : Snd mt G 287 20 (oPutf [4] 4 .int 23) := w_putf (hm := mm287) dX3_blanks_20 (pok1 (k := 4) (T := TX3) 3 (Nat.le_of_ble_eq_true rfl) vc_3 (Nat.le_of_ble_eq_true rfl) rfl pd_X3_4 q2409)
theorem n287_23 : Snd mt G 287 23 (oGoto 0) := w_goto (hm := mm287) dX3_blanks_23 rfl
theorem n287_26 : Snd mt G 287 26 (oRetV) := w_vret (hm := mm287) dX3_blanks_26 rfl
theorem sj287 : ∀ pc, Snd mt G 287 pc (j287 pc) := fun pc => (snd_br ((snd_br ((snd_br ((snd_br ((snd_lf n287_26)) ((snd_lf n287_23)))) ((snd_br ((snd_lf n287_20)) ((snd_lf n287_19)))))) ((snd_br ((snd_br ((snd_lf n287_18)) ((snd_lf n287_15)))) ((snd_lf n287_14)))))) ((snd_br ((snd_br ((snd_br ((snd_lf n287_13)) ((snd_lf n287_10)))) ((snd_br ((snd_lf n287_8)) ((snd_lf n287_5)))))) ((snd_br ((snd_br ((snd_lf n287_2)) ((snd_lf n287_1)))) ((snd_lf n287_0)))))))
end
section
variable {G : AG}
theorem n288_0 : Snd mt G 288 0 (oIload 1 1) := w_iload_n (hm := mm288) dX3_byteAt_0
theorem n288_1 : Snd mt G 288 1 (oAload 0 2) := w_aload_n (hm := mm288) dX3_byteAt_1
theorem n288_2 : Snd mt G 288 2 (oGetf [4] 2 5) := w_getf (hm := mm288) dX3_byteAt_2 (fok1 (k := 2) (T := TX3) 3 (Nat.le_of_ble_eq_true rfl) vc_3 (Nat.le_of_ble_eq_true rfl) q2407)
theorem n288_5 : Snd mt G 288 5 (oCmpLt 12 8) := w_icmp_lt (hm := mm288) dX3_byteAt_5 rfl
theorem n288_8 : Snd mt G 288 8 (oConst (.int (-1)) 9) := w_iconst (hm := mm288) dX3_byteAt_8 rfl
theorem n288_9 : Snd mt G 288 9 (oGoto 39) := w_goto (hm := mm288) dX3_byteAt_9 rfl
theorem n288_12 : Snd mt G 288 12 (oAload 0 13) := w_aload_n (hm := mm288) dX3_byteAt_12
theorem n288_13 : Snd mt G 288 13 (oGetf [4] 9 16) := w_getf (hm := mm288) dX3_byteAt_13 (fok1 (k := 9) (T := TX3) 3 (Nat.le_of_ble_eq_true rfl) vc_3 (Nat.le_of_ble_eq_true rfl) q2414)
theorem n288_16 : Snd mt G 288 16 (oIfEq 28 19) := w_if_eq (hm := mm288) dX3_byteAt_16 rfl
theorem n288_19 : Snd mt G 288 19 (oAload 0 20) := w_aload_n (hm := mm288) dX3_byteAt_19
theorem n288_20 : Snd mt G 288 20 (oGetf [4] 10 23) := w_getf (hm := mm288) dX3_byteAt_20 (fok1 (k := 10) (T := TX3) 3 (Nat.le_of_ble_eq_true rfl) vc_3 (Nat.le_of_ble_eq_true rfl) q2415)
theorem n288_23 : Snd mt G 288 23 (oIload 1 24) := w_iload_n (hm := mm288) dX3_byteAt_23
theorem n288_24 : Snd mt G 288 24 (oAld [100] 25) := w_iaload (hm := mm288) (kt := 0) dX3_byteAt_24 at_0 (Nat.le_of_ble_eq_true rfl) (List.forall_mem_cons.mpr ⟨Or.inl rfl, (fun t ht => nomatch ht)⟩)
theorem n288_25 : Snd mt G 288 25 (oGoto 39) := w_goto (hm := mm288) dX3_byteAt_25 rfl
theorem n288_28 : Snd mt G 288 28 (oAload 0 29) := w_aload_n (hm := mm288) dX3_byteAt_28
theorem n288_29 : Snd mt G 288 29 (oGetf [4] 11 32) := w_getf (hm := mm288) dX3_byteAt_29 (fok1 (k := 11) (T := TX3) 3 (Nat.le_of_ble_eq_true rfl) vc_3 (Nat.le_of_ble_eq_true rfl) q2416)
theorem n288_32 : Snd mt G 288 32 (oAload 0 33) := w_aload_n (hm := mm288) dX3_byteAt_32
theorem n288_33 : Snd mt G 288 33 (oGetf [4] 15 36) := w_getf (hm := mm288) dX3_byteAt_33 (fok1 (k := 15) (T := TX3) 3 (Nat.le_of_ble_eq_true rfl) vc_3 (Nat.le_of_ble_eq_true rfl) q2420)
theorem n288_36 : Snd mt G 288 36 (oAld [106] 37) := w_aaload (hm := mm288) (kt := 6) dX3_byteAt_36 rfl at_6 (Nat.le_of_ble_eq_true rfl) (List.forall_mem_cons.mpr ⟨Or.inl rfl, (fun t ht => nomatch ht)⟩)
theorem n288_37 : Snd mt G 288 37 (oIload 1 38) := w_iload_n (hm := mm288) dX3_byteAt_37
theorem n288_38 : Snd mt G 288 38 (oAld [100] 39) := w_iaload (hm := mm288) (kt := 0) dX3_byteAt_38 at_0 (Nat.le_of_ble_eq_true rfl) (List.forall_mem_cons.mpr ⟨Or.inl rfl, (fun t ht => nomatch ht)⟩)
theorem n288_39 : Snd mt G 288 39 (oRetI .int) := w_iret (hm := mm288) dX3_byteAt_39 rfl
theorem sj288 : ∀ pc, Snd mt G 288 pc (j288 pc) := fun pc => (snd_br ((snd_br ((snd_br ((snd_br ((snd_br ((snd_lf n288_39)) ((snd_lf n288_38)))) ((snd_lf n288_37)))) ((snd_br ((snd_br ((snd_lf n288_36)) ((snd_lf n288_33)))) ((snd_lf n288_32)))))) ((snd_br ((snd_br ((snd_br ((snd_lf n288_29)) ((snd_lf n288_28)))) ((snd_lf n288_25)))) ((snd_br ((snd_lf n288_24)) ((snd_lf n288_23)))))))) ((snd_br ((snd_br ((snd_br ((snd_br ((snd_lf n288_20)) ((snd_lf n288_19)))) ((snd_lf n288_16)))) ((snd_br ((snd_br ((snd_lf n288_13)) ((snd_lf n288_12)))) ((snd_lf n288_9)))))) ((snd_br ((snd_br ((snd_br ((snd_lf n288_8)) ((snd_lf n288_5)))) ((snd_lf n288_2)))) ((snd_br ((snd_lf n288_1)) ((snd_lf n288_0)))))))))
end
section
variable {G : AG}
theorem n289_0 : Snd mt G 289 0 (oAload 0 1) := w_aload_n (hm := mm289) dX3_clauseHere_0
theorem n289_1 : Snd mt G 289 1 (oCall 1 (fV [4] 290 1) 0 4 xOut) := s_callV (m' := 290) (n := 0) xsh_out (w_xok0 mm289) (w_cal mm289 mm290 pn_X3 (Nat.le_of_ble_eq_true rfl) (Nat.le_of_ble_eq_true rfl)) (fun h b as hc hn => w_run_V (ci := 3) mm289 mm290 dX3_clauseHere_1 (Or.inl (List.mem_singleton.mp hc)) (Nat.le_of_ble_eq_true rfl) vc_3 rfl q2654 q2656 qs67 q150 q2657 pa290 hn)
theorem n289_4 : Snd mt G 289 4 (oIstore 1 5) := w_istore_n (hm := mm289) dX3_clauseHere_4 (Nat.le_of_ble_eq_true rfl)
theorem n289_5 : Snd mt G 289 5 (oIload 1 6) := w_iload_n (hm := mm289) dX3_clauseHere_5
theorem n289_6 : Snd mt G 289 6 (oConst (.int (-1)) 7) := w_iconst (hm := mm289) dX3_clauseHere_6 rfl
theorem n289_7 : Snd mt G 289 7 (oCmpEq 10 22) := w_icmp_ne (hm := mm289) dX3_clauseHere_7 rfl
theorem n289_10 : Snd mt G 289 10 (oAload 0 11) := w_aload_n (hm := mm289) dX3_clauseHere_10
theorem n289_11 : Snd mt G 289 11 (oConst (.int 1) 12) := w_iconst (hm := mm289) dX3_clauseHere_11 rfl
theorem n289_12 : Snd mt G 289 12 (oAload 0 13) := w_aload_n (hm := mm289) dX3_clauseHere_12
theorem n289_13 : Snd mt G 289 13 (oGetf [4] 4 16) := w_getf (hm := mm289) dX3_clauseHere_13 (fok1 (k := 4) (T := TX3) 3 (Nat.le_of_ble_eq_true rfl) vc_3 (Nat.le_of_ble_eq_true rfl) q2409)
theorem n289_16 : Snd mt G 289 16 (oCall 3 (fV [4] 294 3) 0 19 xOut) := s_callV (m' := 294) (n := 2) xsh_out (w_xok0 mm289) (w_cal mm289 mm294 pn_X3 (Nat.le_of_ble_eq_true rfl) (Nat.le_of_ble_eq_true rfl)) (fun h b as hc hn => w_run_V (ci := 3) mm289 mm294 dX3_clauseHere_16 (Or.inl (List.mem_singleton.mp hc)) (Nat.le_of_ble_eq_true rfl) vc_3 rfl q2669 q2671 qs70 q150 q2672 pa294 hn)
theorem n289_19 : Snd mt G 289 19 (oGoto 40) := w_goto (hm := mm289) dX3_clauseHere_19 rfl
theorem n289_22 : Snd mt G 289 22 (oAload 0 23) := w_aload_n (hm := mm289) dX3_clauseHere_22
theorem n289_23 : Snd mt G 289 23 (oGetf [4] 8 26) := w_getf (hm := mm289) dX3_clauseHere_23 (fok1 (k := 8) (T := TX3) 3 (Nat.le_of_ble_eq_true rfl) vc_3 (Nat.le_of_ble_eq_true rfl) q2413)
theorem n289_26 : Snd mt G 289 26 (oConst (.int 20) 28) := w_bipush (hm := mm289) dX3_clauseHere_26 (by decide)
theorem n289_28 : Snd mt G 289 28 (oCmpEq 31 40) := w_icmp_ne (hm := mm289) dX3_clauseHere_28 rfl
theorem n289_31 : Snd mt G 289 31 (oAload 0 32) := w_aload_n (hm := mm289) dX3_clauseHere_31
theorem n289_32 : Snd mt G 289 32 (oConst (.int 3) 33) := w_iconst (hm := mm289) dX3_clauseHere_32 rfl
theorem n289_33 : Snd mt G 289 33 (oAload 0 34) := w_aload_n (hm := mm289) dX3_clauseHere_33
theorem n289_34 : Snd mt G 289 34 (oGetf [4] 4 37) := w_getf (hm := mm289) dX3_clauseHere_34 (fok1 (k := 4) (T := TX3) 3 (Nat.le_of_ble_eq_true rfl) vc_3 (Nat.le_of_ble_eq_true rfl) q2409)
theorem n289_37 : Snd mt G 289 37 (oCall 3 (fV [4] 294 3) 0 40 xOut) := s_callV (m' := 294) (n := 2) xsh_out (w_xok0 mm289) (w_cal mm289 mm294 pn_X3 (Nat.le_of_ble_eq_true rfl) (Nat.le_of_ble_eq_true rfl)) (fun h b as hc hn => w_run_V (ci := 3) mm289 mm294 dX3_clauseHere_37 (Or.inl (List.mem_singleton.mp hc)) (Nat.le_of_ble_eq_true rfl) vc_3 rfl q2669 q2671 qs70 q150 q2672 pa294 hn)
theorem n289_40 : Snd mt G 289 40 (oAload 0 41) := w_aload_n (hm := mm289) dX3_clauseHere_40
theorem n289_41 : Snd mt G 289 41 (oGetf [4] 6 44) := w_getf (hm := mm289) dX3_clauseHere_41 (fok1 (k := 6) (T := TX3) 3 (Nat.le_of_ble_eq_true rfl) vc_3 (Nat.le_of_ble_eq_true rfl) q2411)
theorem n289_44 : Snd mt G 289 44 (oIfEq 48 47) := w_if_eq (hm := mm289) dX3_clauseHere_44 rfl
theorem n289_47 : Snd mt G 289 47 (oRetV) := w_vret (hm := mm289) dX3_clauseHere_47 rfl
theorem n289_48 : Snd mt G 289 48 (oAload 0 49) := w_aload_n (hm := mm289) dX3_clauseHere_48
theorem n289_49 : Snd mt G 289 49 (oCall 1 (fV [4] 295 1) 0 52 xOut) := s_callV (m' := 295) (n := 0) xsh_out (w_xok0 mm289) (w_cal mm289 mm295 pn_X3 (Nat.le_of_ble_eq_true rfl) (Nat.le_of_ble_eq_true rfl)) (fun h b as hc hn => w_run_V (ci := 3) mm289 mm295 dX3_clauseHere_49 (Or.inl (List.mem_singleton.mp hc)) (Nat.le_of_ble_eq_true rfl) vc_3 rfl q2673 q2675 qs71 q150 q2676 pa295 hn)
theorem n289_52 : Snd mt G 289 52 (oIload 1 53) := w_iload_n (hm := mm289) dX3_clauseHere_52
theorem n289_53 : Snd mt G 289 53 (oIfEq 61 56) := w_if_eq (hm := mm289) dX3_clauseHere_53 rfl
theorem n289_56 : Snd mt G 289 56 (oIload 1 57) := w_iload_n (hm := mm289) dX3_clauseHere_56
theorem n289_57 : Snd mt G 289 57 (oConst (.int 5) 58) := w_iconst (hm := mm289) dX3_clauseHere_57 rfl
theorem n289_58 : Snd mt G 289 58 (oCmpEq 61 72) := w_icmp_ne (hm := mm289) dX3_clauseHere_58 rfl
theorem n289_61 : Snd mt G 289 61 (oAload 0 62) := w_aload_n (hm := mm289) dX3_clauseHere_61
theorem n289_62 : Snd mt G 289 62 (oConst (.int 0) 63) := w_iconst (hm := mm289) dX3_clauseHere_62 rfl
theorem n289_63 : Snd mt G 289 63 (oConst (.int 11) 65) := w_bipush (hm := mm289) dX3_clauseHere_63 (by decide)
theorem n289_65 : Snd mt G 289 65 (oConst (.int (-1)) 66) := w_iconst (hm := mm289) dX3_clauseHere_65 rfl
theorem n289_66 : Snd mt G 289 66 (oCall 4 (fV [4] 296 6) 0 69 xOut) := s_callV (m' := 296) (n := 3) xsh_out (w_xok0 mm289) (w_cal mm289 mm296 pn_X3 (Nat.le_of_ble_eq_true rfl) (Nat.le_of_ble_eq_true rfl)) (fun h b as hc hn => w_run_V (ci := 3) mm289 mm296 dX3_clauseHere_66 (Or.inl (List.mem_singleton.mp hc)) (Nat.le_of_ble_eq_true rfl) vc_3 rfl q2677 q2679 qs72 q150 q2680 pa296 hn)
theorem n289_69 : Snd mt G 289 69 (oGoto 94) := w_goto (hm := mm289) dX3_clauseHere_69 rfl
theorem n289_72 : Snd mt G 289 72 (oIload 1 73) := w_iload_n (hm := mm289) dX3_clauseHere_72
theorem n289_73 : Snd mt G 289 73 (oConst (.int 2) 74) := w_iconst (hm := mm289) dX3_clauseHere_73 rfl
theorem n289_74 : Snd mt G 289 74 (oCmpEq 83 77) := w_icmp_eq (hm := mm289) dX3_clauseHere_74 rfl
theorem n289_77 : Snd mt G 289 77 (oIload 1 78) := w_iload_n (hm := mm289) dX3_clauseHere_77
theorem n289_78 : Snd mt G 289 78 (oConst (.int 6) 80) := w_bipush (hm := mm289) dX3_clauseHere_78 (by decide)
theorem n289_80 : Snd mt G 289 80 (oCmpEq 83 87) := w_icmp_ne (hm := mm289) dX3_clauseHere_80 rfl
theorem n289_83 : Snd mt G 289 83 (oConst (.int 0) 84) := w_iconst (hm := mm289) dX3_clauseHere_83 rfl
theorem n289_84 : Snd mt G 289 84 (oGoto 94) := w_goto (hm := mm289) dX3_clauseHere_84 rfl
theorem n289_87 : Snd mt G 289 87 (oAload 0 88) := w_aload_n (hm := mm289) dX3_clauseHere_87
theorem n289_88 : Snd mt G 289 88 (oConst (.int 0) 89) := w_iconst (hm := mm289) dX3_clauseHere_88 rfl
theorem n289_89 : Snd mt G 289 89 (oConst (.int 3) 90) := w_iconst (hm := mm289) dX3_clauseHere_89 rfl
theorem n289_90 : Snd mt G 289 90 (oConst (.int (-1)) 91) := w_iconst (hm := mm289) dX3_clauseHere_90 rfl
theorem n289_91 : Snd mt G 289 91 (oCall 4 (fV [4] 296 6) 0 94 xOut) := s_callV (m' := 296) (n := 3) xsh_out (w_xok0 mm289) (w_cal mm289 mm296 pn_X3 (Nat.le_of_ble_eq_true rfl) (Nat.le_of_ble_eq_true rfl)) (fun h b as hc hn => w_run_V (ci := 3) mm289 mm296 dX3_clauseHere_91 (Or.inl (List.mem_singleton.mp hc)) (Nat.le_of_ble_eq_true rfl) vc_3 rfl q2677 q2679 qs72 q150 q2680 pa296 hn)
theorem n289_94 : Snd mt G 289 94 (oIstore 2 95) := w_istore_n (hm := mm289) dX3_clauseHere_94 (Nat.le_of_ble_eq_true rfl)
theorem n289_95 : Snd mt G 289 95 (oIload 1 96) := w_iload_n (hm := mm289) dX3_clauseHere_95
theorem n289_96 : Snd mt G 289 96 (oIfEq 99 110) := w_if_ne (hm := mm289) dX3_clauseHere_96 rfl
theorem n289_99 : Snd mt G 289 99 (oAload 0 100) := w_aload_n (hm := mm289) dX3_clauseHere_99
theorem n289_100 : Snd mt G 289 100 (oConst (.int 0) 101) := w_iconst (hm := mm289) dX3_clauseHere_100 rfl
theorem n289_101 : Snd mt G 289 101 (oConst (.int 11) 103) := w_bipush (hm := mm289) dX3_clauseHere_101 (by decide)
theorem n289_103 : Snd mt G 289 103 (oIload 2 104) := w_iload_n (hm := mm289) dX3_clauseHere_103
theorem n289_104 : Snd mt G 289 104 (oCall 4 (fV [4] 296 6) 0 107 xOut) := s_callV (m' := 296) (n := 3) xsh_out (w_xok0 mm289) (w_cal mm289 mm296 pn_X3 (Nat.le_of_ble_eq_true rfl) (Nat.le_of_ble_eq_true rfl)) (fun h b as hc hn => w_run_V (ci := 3) mm289 mm296 dX3_clauseHere_104 (Or.inl (List.mem_singleton.mp hc)) (Nat.le_of_ble_eq_true rfl) vc_3 rfl q2677 q2679 qs72 q150 q2680 pa296 hn)
theorem n289_107 : Snd mt G 289 107 (oGoto 140) := w_goto (hm := mm289) dX3_clauseHere_107 rfl
theorem n289_110 : Snd mt G 289 110 (oIload 1 111) := w_iload_n (hm := mm289) dX3_clauseHere_110
theorem n289_111 : Snd mt G 289 111 (oConst (.int 5) 112) := w_iconst (hm := mm289) dX3_clauseHere_111 rfl
theorem n289_112 : Snd mt G 289 112 (oCmpEq 115 127) := w_icmp_ne (hm := mm289) dX3_clauseHere_112 rfl
theorem n289_115 : Snd mt G 289 115 (oAload 0 116) := w_aload_n (hm := mm289) dX3_clauseHere_115
theorem n289_116 : Snd mt G 289 116 (oConst (.int 0) 117) := w_iconst (hm := mm289) dX3_clauseHere_116 rfl
theorem n289_117 : Snd mt G 289 117 (oConst (.int 9999) 120) := w_sipush (hm := mm289) dX3_clauseHere_117 (by decide)
theorem n289_120 : Snd mt G 289 120 (oConst (.int (-1)) 121) := w_iconst (hm := mm289) dX3_clauseHere_120 rfl
theorem n289_121 : Snd mt G 289 121 (oCall 4 (fV [4] 296 6) 0 124 xOut) := s_callV (m' := 296) (n := 3) xsh_out (w_xok0 mm289) (w_cal mm289 mm296 pn_X3 (Nat.le_of_ble_eq_true rfl) (Nat.le_of_ble_eq_true rfl)) (fun h b as hc hn => w_run_V (ci := 3) mm289 mm296 dX3_clauseHere_121 (Or.inl (List.mem_singleton.mp hc)) (Nat.le_of_ble_eq_true rfl) vc_3 rfl q2677 q2679 qs72 q150 q2680 pa296 hn)
theorem n289_124 : Snd mt G 289 124 (oGoto 140) := w_goto (hm := mm289) dX3_clauseHere_124 rfl
theorem n289_127 : Snd mt G 289 127 (oIload 1 128) := w_iload_n (hm := mm289) dX3_clauseHere_127
theorem n289_128 : Snd mt G 289 128 (oConst (.int 3) 129) := w_iconst (hm := mm289) dX3_clauseHere_128 rfl
theorem n289_129 : Snd mt G 289 129 (oCmpEq 132 136) := w_icmp_ne (hm := mm289) dX3_clauseHere_129 rfl
theorem n289_132 : Snd mt G 289 132 (oConst (.int 0) 133) := w_iconst (hm := mm289) dX3_clauseHere_132 rfl
theorem n289_133 : Snd mt G 289 133 (oGoto 140) := w_goto (hm := mm289) dX3_clauseHere_133 rfl
theorem n289_136 : Snd mt G 289 136 (oAload 0 137) := w_aload_n (hm := mm289) dX3_clauseHere_136
theorem n289_137 : Snd mt G 289 137 (oCall 1 (fV [4] 298 4) 0 140 xOut) := s_callV (m' := 298) (n := 0) xsh_out (w_xok0 mm289) (w_cal mm289 mm298 pn_X3 (Nat.le_of_ble_eq_true rfl) (Nat.le_of_ble_eq_true rfl)) (fun h b as hc hn => w_run_V (ci := 3) mm289 mm298 dX3_clauseHere_137 (Or.inl (List.mem_singleton.mp hc)) (Nat.le_of_ble_eq_true rfl) vc_3 rfl q2685 q2687 qs73 q150 q2688 pa298 hn)
theorem n289_140 : Snd mt G 289 140 (oIstore 3 141) := w_istore_n (hm := mm289) dX3_clauseHere_140 (Nat.le_of_ble_eq_true rfl)
theorem n289_141 : Snd mt G 289 141 (oIload 1 142) := w_iload_n (hm := mm289) dX3_clauseHere_141
theorem n289_142 : Snd mt G 289 142 (oConst (.int 5) 143) := w_iconst (hm := mm289) dX3_clauseHere_142 rfl
theorem n289_143 : Snd mt G 289 143 (oCmpEq 146 158) := w_icmp_ne (hm := mm289) dX3_clauseHere_143 rfl
theorem n289_146 : Snd mt G 289 146 (oAload 0 147) := w_aload_n (hm := mm289) dX3_clauseHere_146
theorem n289_147 : Snd mt G 289 147 (oIload 3 148) := w_iload_n (hm := mm289) dX3_clauseHere_147
theorem n289_148 : Snd mt G 289 148 (oConst (.int 9999) 151) := w_sipush (hm := mm289) dX3_clauseHere_148 (by decide)
theorem n289_151 : Snd mt G 289 151 (oConst (.int (-1)) 152) := w_iconst (hm := mm289) dX3_clauseHere_151 rfl
theorem n289_152 : Snd mt G 289 152 (oCall 4 (fV [4] 296 6) 0 155 xOut) := s_callV (m' := 296) (n := 3) xsh_out (w_xok0 mm289) (w_cal mm289 mm296 pn_X3 (Nat.le_of_ble_eq_true rfl) (Nat.le_of_ble_eq_true rfl)) (fun h b as hc hn => w_run_V (ci := 3) mm289 mm296 dX3_clauseHere_152 (Or.inl (List.mem_singleton.mp hc)) (Nat.le_of_ble_eq_true rfl) vc_3 rfl q2677 q2679 qs72 q150 q2680 pa296 hn)
theorem n289_155 : Snd mt G 289 155 (oGoto 159) := w_goto (hm := mm289) dX3_clauseHere_155 rfl
theorem n289_158 : Snd mt G 289 158 (oConst (.int 0) 159) := w_iconst (hm := mm289) dX3_clauseHere_158 rfl
theorem n289_159 : Snd mt G 289 159 (oIstore 4 161) := w_istore (hm := mm289) dX3_clauseHere_159 (Nat.le_of_ble_eq_true rfl)
theorem n289_161 : Snd mt G 289 161 (oConst (.int 1) 162) := w_iconst (hm := mm289) dX3_clauseHere_161 rfl
theorem n289_162 : Snd mt G 289 162 (oIstore 5 164) := w_istore (hm := mm289) dX3_clauseHere_162 (Nat.le_of_ble_eq_true rfl)
theorem n289_164 : Snd mt G 289 164 (oAload 0 165) := w_aload_n (hm := mm289) dX3_clauseHere_164
theorem n289_165 : Snd mt G 289 165 (oConst (.int 9) 167) := w_bipush (hm := mm289) dX3_clauseHere_165 (by decide)
theorem n289_167 : Snd mt G 289 167 (oConst (.int 6) 169) := w_bipush (hm := mm289) dX3_clauseHere_167 (by decide)
theorem n289_169 : Snd mt G 289 169 (oConst (.int 0) 170) := w_iconst (hm := mm289) dX3_clauseHere_169 rfl
theorem n289_170 : Snd mt G 289 170 (oConst (.int 0) 171) := w_iconst (hm := mm289) dX3_clauseHere_170 rfl
theorem n289_171 : Snd mt G 289 171 (oConst (.int 0) 172) := w_iconst (hm := mm289) dX3_clauseHere_171 rfl
theorem n289_172 : Snd mt G 289 172 (oConst (.int 0) 173) := w_iconst (hm := mm289) dX3_clauseHere_172 rfl
theorem n289_173 : Snd mt G 289 173 (oCall 7 (fV [4] 291 7) 0 176 xOut) := s_callV (m' := 291) (n := 6) xsh_out (w_xok0 mm289) (w_cal mm289 mm291 pn_X3 (Nat.le_of_ble_eq_true rfl) (Nat.le_of_ble_eq_true rfl)) (fun h b as hc hn => w_run_V (ci := 3) mm289 mm291 dX3_clauseHere_173 (Or.inl (List.mem_singleton.mp hc)) (Nat.le_of_ble_eq_true rfl) vc_3 rfl q2658 q2660 qs68 q150 q2661 pa291 hn)
theorem n289_176 : Snd mt G 289 176 (oIfEq 189 179) := w_if_eq (hm := mm289) dX3_clauseHere_176 rfl
theorem n289_179 : Snd mt G 289 179 (oAload 0 180) := w_aload_n (hm := mm289) dX3_clauseHere_179
theorem n289_180 : Snd mt G 289 180 (oCall 1 (fV [4] 295 1) 0 183 xOut) := s_callV (m' := 295) (n := 0) xsh_out (w_xok0 mm289) (w_cal mm289 mm295 pn_X3 (Nat.le_of_ble_eq_true rfl) (Nat.le_of_ble_eq_true rfl)) (fun h b as hc hn => w_run_V (ci := 3) mm289 mm295 dX3_clauseHere_180 (Or.inl (List.mem_singleton.mp hc)) (Nat.le_of_ble_eq_true rfl) vc_3 rfl q2673 q2675 qs71 q150 q2676 pa295 hn)
theorem n289_183 : Snd mt G 289 183 (oAload 0 184) := w_aload_n (hm := mm289) dX3_clauseHere_183
theorem n289_184 : Snd mt G 289 184 (oCall 1 (fV [4] 304 3) 0 187 xOut) := s_callV (m' := 304) (n := 0) xsh_out (w_xok0 mm289) (w_cal mm289 mm304 pn_X3 (Nat.le_of_ble_eq_true rfl) (Nat.le_of_ble_eq_true rfl)) (fun h b as hc hn => w_run_V (ci := 3) mm289 mm304 dX3_clauseHere_184 (Or.inl (List.mem_singleton.mp hc)) (Nat.le_of_ble_eq_true rfl) vc_3 rfl q2709 q2711 qs79 q150 q2712 pa304 hn)
theorem n289_187 : Snd mt G 289 187 (oIstore 5 189) := w_istore (hm := mm289) dX3_clauseHere_187 (Nat.le_of_ble_eq_true rfl)
theorem n289_189 : Snd mt G 289 189 (oAload 0 190) := w_aload_n (hm := mm289) dX3_clauseHere_189
theorem n289_190 : Snd mt G 289 190 (oConst (.int 59) 192) := w_bipush (hm := mm289) dX3_clauseHere_190 (by decide)
theorem n289_192 : Snd mt G 289 192 (oCall 2 (fV [4] 303 2) 0 195 xOut) := s_callV (m' := 303) (n := 1) xsh_out (w_xok0 mm289) (w_cal mm289 mm303 pn_X3 (Nat.le_of_ble_eq_true rfl) (Nat.le_of_ble_eq_true rfl)) (fun h b as hc hn => w_run_V (ci := 3) mm289 mm303 dX3_clauseHere_192 (Or.inl (List.mem_singleton.mp hc)) (Nat.le_of_ble_eq_true rfl) vc_3 rfl q2705 q2707 qs78 q150 q2708 pa303 hn)
theorem n289_195 : Snd mt G 289 195 (oAload 0 196) := w_aload_n (hm := mm289) dX3_clauseHere_195
theorem n289_196 : Snd mt G 289 196 (oGetf [4] 6 199) := w_getf (hm := mm289) dX3_clauseHere_196 (fok1 (k := 6) (T := TX3) 3 (Nat.le_of_ble_eq_true rfl) vc_3 (Nat.le_of_ble_eq_true rfl) q2411)
theorem n289_199 : Snd mt G 289 199 (oIfEq 202 216) := w_if_ne (hm := mm289) dX3_clauseHere_199 rfl
theorem n289_202 : Snd mt G 289 202 (oIload 5 204) := w_iload (hm := mm289) dX3_clauseHere_202
theorem n289_204 : Snd mt G 289 204 (oIfEq 216 207) := w_if_eq (hm := mm289) dX3_clauseHere_204 rfl
theorem n289_207 : Snd mt G 289 207 (oAload 0 208) := w_aload_n (hm := mm289) dX3_clauseHere_207
theorem n289_208 : Snd mt G 289 208 (oIload 1 209) := w_iload_n (hm := mm289) dX3_clauseHere_208
theorem n289_209 : Snd mt G 289 209 (oIload 2 210) := w_iload_n (hm := mm289) dX3_clauseHere_209
theorem n289_210 : Snd mt G 289 210 (oIload 3 211) := w_iload_n (hm := mm289) dX3_clauseHere_210
theorem n289_211 : Snd mt G 289 211 (oIload 4 213) := w_iload (hm := mm289) dX3_clauseHere_211
theorem n289_213 : Snd mt G 289 213 (oCall 5 (fV [4] 307 5) 0 216 xOut) := s_callV (m' := 307) (n := 4) xsh_out (w_xok0 mm289) (w_cal mm289 mm307 pn_X3 (Nat.le_of_ble_eq_true rfl) (Nat.le_of_ble_eq_true rfl)) (fun h b as hc hn => w_run_V (ci := 3) mm289 mm307 dX3_clauseHere_213 (Or.inl (List.mem_singleton.mp hc)) (Nat.le_of_ble_eq_true rfl) vc_3 rfl q2721 q2723 qs82 q150 q2724 pa307 hn)
theorem n289_216 : Snd mt G 289 216 (oAload 0 217) := w_aload_n (hm := mm289) dX3_clauseHere_216
theorem n289_217 : Snd mt G 289 217 (oDup 218) := w_dup (hm := mm289) dX3_clauseHere_217
theorem n289_218 : Snd mt G 289 218 (oGetf [4] 8 221) := w_getf (hm := mm289) dX3_clauseHere_218 (fok1 (k := 8) (T := TX3) 3 (Nat.le_of_ble_eq_true rfl) vc_3 (Nat.le_of_ble_eq_true rfl) q2413)
theorem n289_221 : Snd mt G 289 221 (oConst (.int 1) 222) := w_iconst (hm := mm289) dX3_clauseHere_221 rfl
theorem n289_222 : Snd mt G 289 222 (oBin (fun x y => x + y) 223) := w_iadd (hm := mm289) dX3_clauseHere_222
theorem n289_223 : Snd mt G 289 223 (oPutf [4] 8 .int 226) := w_putf (hm := mm289) dX3_clauseHere_223 (pok1 (k := 8) (T := TX3) 3 (Nat.le_of_ble_eq_true rfl) vc_3 (Nat.le_of_ble_eq_true rfl) rfl pd_X3_8 q2413)
theorem n289_226 : Snd mt G 289 226 (oRetV) := w_vret (hm := mm289) dX3_clauseHere_226 rfl
theorem sj289 : ∀ pc, Snd mt G 289 pc (j289 pc) := fun pc => (snd_br ((snd_br ((snd_br ((snd_br ((snd_br ((snd_br ((snd_br ((snd_lf n289_226)) ((snd_lf n289_223)))) ((snd_br ((snd_lf n289_222)) ((snd_lf n289_221)))))) ((snd_br ((snd_br ((snd_lf n289_218)) ((snd_lf n289_217)))) ((snd_br ((snd_lf n289_216)) ((snd_lf n289_213)))))))) ((snd_br ((snd_br ((snd_br ((snd_lf n289_211)) ((snd_lf n289_210)))) ((snd_br ((snd_lf n289_209)) ((snd_lf n289_208)))))) ((snd_br ((snd_br ((snd_lf n289_207)) ((snd_lf n289_204)))) ((snd_br ((snd_lf n289_202)) ((snd_lf n289_199)))))))))) ((snd_br ((snd_br ((snd_br ((snd_br ((snd_lf n289_196)) ((snd_lf n289_195)))) ((snd_br ((snd_lf n289_192)) ((snd_lf n289_190)))))) ((snd_br ((snd_br ((snd_lf n289_189)) ((snd_lf n289_187)))) ((snd_br ((snd_lf n289_184)) ((snd_lf n289_183)))))))) ((snd_br ((snd_br ((snd_br ((snd_lf n289_180)) ((snd_lf n289_179)))) ((snd_br ((snd_lf n289_176)) ((snd_lf n289_173)))))) ((snd_br ((snd_br ((snd_lf n289_172)) ((snd_lf n289_171)))) ((snd_br ((snd_lf n289_170)) ((snd_lf n289_169)))))))))))) ((snd_br ((snd_br ((snd_br ((snd_br ((snd_br ((snd_lf n289_167)) ((snd_lf n289_165)))) ((snd_br ((snd_lf n289_164)) ((snd_lf n289_162)))))) ((snd_br ((snd_br ((snd_lf n289_161)) ((snd_lf n289_159)))) ((snd_br ((snd_lf n289_158)) ((snd_lf n289_155)))))))) ((snd_br ((snd_br ((snd_br ((snd_lf n289_152)) ((snd_lf n289_151)))) ((snd_br ((snd_lf n289_148)) ((snd_lf n289_147)))))) ((snd_br ((snd_br ((snd_lf n289_146)) ((snd_lf n289_143)))) ((snd_br ((snd_lf n289_142)) ((snd_lf n289_141)))))))))) ((snd_br ((snd_br ((snd_br ((snd_br ((snd_lf n289_140)) ((snd_lf n289_137)))) ((snd_br ((snd_lf n289_136)) ((snd_lf n289_133)))))) ((snd_br ((snd_br ((snd_lf n289_132)) ((snd_lf n289_129)))) ((snd_br ((snd_lf n289_128)) ((snd_lf n289_127)))))))) ((snd_br ((snd_br ((snd_br ((snd_lf n289_124)) ((snd_lf n289_121)))) ((snd_br ((snd_lf n289_120)) ((snd_lf n289_117)))))) ((snd_br ((snd_br ((snd_lf n289_116)) ((snd_lf n289_115)))) ((snd_lf n289_112)))))))))))) ((snd_br ((snd_br ((snd_br ((snd_br ((snd_br ((snd_br ((snd_lf n289_111)) ((snd_lf n289_110)))) ((snd_br ((snd_lf n289_107)) ((snd_lf n289_104)))))) ((snd_br ((snd_br ((snd_lf n289_103)) ((snd_lf n289_101)))) ((snd_br ((snd_lf n289_100)) ((snd_lf n289_99)))))))) ((snd_br ((snd_br ((snd_br ((snd_lf n289_96)) ((snd_lf n289_95)))) ((snd_br ((snd_lf n289_94)) ((snd_lf n289_91)))))) ((snd_br ((snd_br ((snd_lf n289_90)) ((snd_lf n289_89)))) ((snd_br ((snd_lf n289_88)) ((snd_lf n289_87)))))))))) ((snd_br ((snd_br ((snd_br ((snd_br ((snd_lf n289_84)) ((snd_lf n289_83)))) ((snd_br ((snd_lf n289_80)) ((snd_lf n289_78)))))) ((snd_br ((snd_br ((snd_lf n289_77)) ((snd_lf n289_74)))) ((snd_br ((snd_lf n289_73)) ((snd_lf n289_72)))))))) ((snd_br ((snd_br ((snd_br ((snd_lf n289_69)) ((snd_lf n289_66)))) ((snd_br ((snd_lf n289_65)) ((snd_lf n289_63)))))) ((snd_br ((snd_br ((snd_lf n289_62)) ((snd_lf n289_61)))) ((snd_lf n289_58)))))))))) ((snd_br ((snd_br ((snd_br ((snd_br ((snd_br ((snd_lf n289_57)) ((snd_lf n289_56)))) ((snd_br ((snd_lf n289_53)) ((snd_lf n289_52)))))) ((snd_br ((snd_br ((snd_lf n289_49)) ((snd_lf n289_48)))) ((snd_br ((snd_lf n289_47)) ((snd_lf n289_44)))))))) ((snd_br ((snd_br ((snd_br ((snd_lf n289_41)) ((snd_lf n289_40)))) ((snd_br ((snd_lf n289_37)) ((snd_lf n289_34)))))) ((snd_br ((snd_br ((snd_lf n289_33)) ((snd_lf n289_32)))) ((snd_br ((snd_lf n289_31)) ((snd_lf n289_28)))))))))) ((snd_br ((snd_br ((snd_br ((snd_br ((snd_lf n289_26)) ((snd_lf n289_23)))) ((snd_br ((snd_lf n289_22)) ((snd_lf n289_19)))))) ((snd_br ((snd_br ((snd_lf n289_16)) ((snd_lf n289_13)))) ((snd_br ((snd_lf n289_12)) ((snd_lf n289_11)))))))) ((snd_br ((snd_br ((snd_br ((snd_lf n289_10)) ((snd_lf n289_7)))) ((snd_br ((snd_lf n289_6)) ((snd_lf n289_5)))))) ((snd_br ((snd_br ((snd_lf n289_4)) ((snd_lf n289_1)))) ((snd_lf n289_0)))))))))))))
end
section
variable {G : AG}
theorem n290_0 : Snd mt G 290 0 (oAload 0 1) := w_aload_n (hm := mm290) dX3_kindHere_0
theorem n290_1 : Snd mt G 290 1 (oConst (.int 2) 2) := w_iconst (hm := mm290) dX3_kindHere_1 rfl
theorem n290_2 : Snd mt G 290 2 (oConst (.int 1) 3) := w_iconst (hm := mm290) dX3_kindHere_2 rfl
theorem n290_3 : Snd mt G 290 3 (oConst (.int 18) 5) := w_bipush (hm := mm290) dX3_kindHere_3 (by decide)
theorem n290_5 : Snd mt G 290 5 (oConst (.int 0) 6) := w_iconst (hm := mm290) dX3_kindHere_5 rfl
theorem n290_6 : Snd mt G 290 6 (oConst (.int 0) 7) := w_iconst (hm := mm290) dX3_kindHere_6 rfl
theorem n290_7 : Snd mt G 290 7 (oConst (.int 0) 8) := w_iconst (hm := mm290) dX3_kindHere_7 rfl
theorem n290_8 : Snd mt G 290 8 (oCall 7 (fV [4] 291 7) 0 11 xOut) := s_callV (m' := 291) (n := 6) xsh_out (w_xok0 mm290) (w_cal mm290 mm291 pn_X3 (Nat.le_of_ble_eq_true rfl) (Nat.le_of_ble_eq_true rfl)) (fun h b as hc hn => w_run_V (ci := 3) mm290 mm291 dX3_kindHere_8 (Or.inl (List.mem_singleton.mp hc)) (Nat.le_of_ble_eq_true rfl) vc_3 rfl q2658 q2660 qs68 q150 q2661 pa291 hn)
theorem n290_11 : Snd mt G 290 11 (oIfEq 16 14) := w_if_eq (hm := mm290) dX3_kindHere_11 rfl
theorem n290_14 : Snd mt G 290 14 (oConst (.int 0) 15) := w_iconst (hm := mm290) dX3_kindHere_14 rfl
theorem n290_15 : Snd mt G 290 15 (oRetI .int) := w_iret (hm := mm290) dX3_kindHere_15 rfl
theorem n290_16 : Snd mt G 290 16 (oAload 0 17) := w_aload_n (hm := mm290) dX3_kindHere_16
theorem n290_17 : Snd mt G 290 17 (oConst (.int 12) 19) := w_bipush (hm := mm290) dX3_kindHere_17 (by decide)
theorem n290_19 : Snd mt G 290 19 (oConst (.int 9) 21) := w_bipush (hm := mm290) dX3_kindHere_19 (by decide)
theorem n290_21 : Snd mt G 290 21 (oConst (.int 6) 23) := w_bipush (hm := mm290) dX3_kindHere_21 (by decide)
theorem n290_23 : Snd mt G 290 23 (oConst (.int 5) 24) := w_iconst (hm := mm290) dX3_kindHere_23 rfl
theorem n290_24 : Snd mt G 290 24 (oConst (.int 0) 25) := w_iconst (hm := mm290) dX3_kindHere_24 rfl
theorem n290_25 : Snd mt G 290 25 (oConst (.int 0) 26) := w_iconst (hm := mm290) dX3_kindHere_25 rfl
theorem n290_26 : Snd mt G 290 26 (oCall 7 (fV [4] 291 7) 0 29 xOut) := s_callV (m' := 291) (n := 6) xsh_out (w_xok0 mm290) (w_cal mm290 mm291 pn_X3 (Nat.le_of_ble_eq_true rfl) (Nat.le_of_ble_eq_true rfl)) (fun h b as hc hn => w_run_V (ci := 3) mm290 mm291 dX3_kindHere_26 (Or.inl (List.mem_singleton.mp hc)) (Nat.le_of_ble_eq_true rfl) vc_3 rfl q2658 q2660 qs68 q150 q2661 pa291 hn)
theorem n290_29 : Snd mt G 290 29 (oIfEq 34 32) := w_if_eq (hm := mm290) dX3_kindHere_29 rfl
theorem n290_32 : Snd mt G 290 32 (oConst (.int 1) 33) := w_iconst (hm := mm290) dX3_kindHere_32 rfl
theorem n290_33 : Snd mt G 290 33 (oRetI .int) := w_iret (hm := mm290) dX3_kindHere_33 rfl
theorem n290_34 : Snd mt G 290 34 (oAload 0 35) := w_aload_n (hm := mm290) dX3_kindHere_34
theorem n290_35 : Snd mt G 290 35 (oConst (.int 18) 37) := w_bipush (hm := mm290) dX3_kindHere_35 (by decide)
theorem n290_37 : Snd mt G 290 37 (oConst (.int 9) 39) := w_bipush (hm := mm290) dX3_kindHere_37 (by decide)
theorem n290_39 : Snd mt G 290 39 (oConst (.int 7) 41) := w_bipush (hm := mm290) dX3_kindHere_39 (by decide)
theorem n290_41 : Snd mt G 290 41 (oConst (.int 8) 43) := w_bipush (hm := mm290) dX3_kindHere_41 (by decide)
theorem n290_43 : Snd mt G 290 43 (oConst (.int 20) 45) := w_bipush (hm := mm290) dX3_kindHere_43 (by decide)
theorem n290_45 : Snd mt G 290 45 (oConst (.int 0) 46) := w_iconst (hm := mm290) dX3_kindHere_45 rfl
theorem n290_46 : Snd mt G 290 46 (oCall 7 (fV [4] 291 7) 0 49 xOut) := s_callV (m' := 291) (n := 6) xsh_out (w_xok0 mm290) (w_cal mm290 mm291 pn_X3 (Nat.le_of_ble_eq_true rfl) (Nat.le_of_ble_eq_true rfl)) (fun h b as hc hn => w_run_V (ci := 3) mm290 mm291 dX3_kindHere_46 (Or.inl (List.mem_singleton.mp hc)) (Nat.le_of_ble_eq_true rfl) vc_3 rfl q2658 q2660 qs68 q150 q2661 pa291 hn)
theorem n290_49 : Snd mt G 290 49 (oIfEq 54 52) := w_if_eq (hm := mm290) dX3_kindHere_49 rfl
theorem n290_52 : Snd mt G 290 52 (oConst (.int 2) 53) := w_iconst (hm := mm290) dX3_kindHere_52 rfl
theorem n290_53 : Snd mt G 290 53 (oRetI .int) := w_iret (hm := mm290) dX3_kindHere_53 rfl
theorem n290_54 : Snd mt G 290 54 (oAload 0 55) := w_aload_n (hm := mm290) dX3_kindHere_54
theorem n290_55 : Snd mt G 290 55 (oConst (.int 14) 57) := w_bipush (hm := mm290) dX3_kindHere_55 (by decide)
theorem n290_57 : Snd mt G 290 57 (oConst (.int 5) 58) := w_iconst (hm := mm290) dX3_kindHere_57 rfl
theorem n290_58 : Snd mt G 290 58 (oConst (.int 5) 59) := w_iconst (hm := mm290) dX3_kindHere_58 rfl
theorem n290_59 : Snd mt G 290 59 (oConst (.int 4) 60) := w_iconst (hm := mm290) dX3_kindHere_59 rfl
theorem n290_60 : Snd mt G 290 60 (oConst (.int 0) 61) := w_iconst (hm := mm290) dX3_kindHere_60 rfl
theorem n290_61 : Snd mt G 290 61 (oConst (.int 0) 62) := w_iconst (hm := mm290) dX3_kindHere_61 rfl
theorem n290_62 : Snd mt G 290 62 (oCall 7 (fV [4] 291 7) 0 65 xOut) := s_callV (m' := 291) (n := 6) xsh_out (w_xok0 mm290) (w_cal mm290 mm291 pn_X3 (Nat.le_of_ble_eq_true rfl) (Nat.le_of_ble_eq_true rfl)) (fun h b as hc hn => w_run_V (ci := 3) mm290 mm291 dX3_kindHere_62 (Or.inl (List.mem_singleton.mp hc)) (Nat.le_of_ble_eq_true rfl) vc_3 rfl q2658 q2660 qs68 q150 q2661 pa291 hn)
theorem n290_65 : Snd mt G 290 65 (oIfEq 70 68) := w_if_eq (hm := mm290) dX3_kindHere_65 rfl
theorem n290_68 : Snd mt G 290 68 (oConst (.int 3) 69) := w_iconst (hm := mm290) dX3_kindHere_68 rfl
theorem n290_69 : Snd mt G 290 69 (oRetI .int) := w_iret (hm := mm290) dX3_kindHere_69 rfl
theorem n290_70 : Snd mt G 290 70 (oAload 0 71) := w_aload_n (hm := mm290) dX3_kindHere_70
theorem n290_71 : Snd mt G 290 71 (oConst (.int 18) 73) := w_bipush (hm := mm290) dX3_kindHere_71 (by decide)
theorem n290_73 : Snd mt G 290 73 (oConst (.int 5) 74) := w_iconst (hm := mm290) dX3_kindHere_73 rfl
theorem n290_74 : Snd mt G 290 74 (oConst (.int 21) 76) := w_bipush (hm := mm290) dX3_kindHere_74 (by decide)
theorem n290_76 : Snd mt G 290 76 (oConst (.int 19) 78) := w_bipush (hm := mm290) dX3_kindHere_76 (by decide)
theorem n290_78 : Snd mt G 290 78 (oConst (.int 5) 79) := w_iconst (hm := mm290) dX3_kindHere_78 rfl
theorem n290_79 : Snd mt G 290 79 (oConst (.int 0) 80) := w_iconst (hm := mm290) dX3_kindHere_79 rfl
theorem n290_80 : Snd mt G 290 80 (oCall 7 (fV [4] 291 7) 0 83 xOut) := s_callV (m' := 291) (n := 6) xsh_out (w_xok0 mm290) (w_cal mm290 mm291 pn_X3 (Nat.le_of_ble_eq_true rfl) (Nat.le_of_ble_eq_true rfl)) (fun h b as hc hn => w_run_V (ci := 3) mm290 mm291 dX3_kindHere_80 (Or.inl (List.mem_singleton.mp hc)) (Nat.le_of_ble_eq_true rfl) vc_3 rfl q2658 q2660 qs68 q150 q2661 pa291 hn)
theorem n290_83 : Snd mt G 290 83 (oIfEq 88 86) := w_if_eq (hm := mm290) dX3_kindHere_83 rfl
theorem n290_86 : Snd mt G 290 86 (oConst (.int 4) 87) := w_iconst (hm := mm290) dX3_kindHere_86 rfl
theorem n290_87 : Snd mt G 290 87 (oRetI .int) := w_iret (hm := mm290) dX3_kindHere_87 rfl
theorem n290_88 : Snd mt G 290 88 (oAload 0 89) := w_aload_n (hm := mm290) dX3_kindHere_88
theorem n290_89 : Snd mt G 290 89 (oConst (.int 18) 91) := w_bipush (hm := mm290) dX3_kindHere_89 (by decide)
theorem n290_91 : Snd mt G 290 91 (oConst (.int 5) 92) := w_iconst (hm := mm290) dX3_kindHere_91 rfl
theorem n290_92 : Snd mt G 290 92 (oConst (.int 3) 93) := w_iconst (hm := mm290) dX3_kindHere_92 rfl
theorem n290_93 : Snd mt G 290 93 (oConst (.int 1) 94) := w_iconst (hm := mm290) dX3_kindHere_93 rfl
theorem n290_94 : Snd mt G 290 94 (oConst (.int 12) 96) := w_bipush (hm := mm290) dX3_kindHere_94 (by decide)
theorem n290_96 : Snd mt G 290 96 (oConst (.int 12) 98) := w_bipush (hm := mm290) dX3_kindHere_96 (by decide)
theorem n290_98 : Snd mt G 290 98 (oCall 7 (fV [4] 291 7) 0 101 xOut) := s_callV (m' := 291) (n := 6) xsh_out (w_xok0 mm290) (w_cal mm290 mm291 pn_X3 (Nat.le_of_ble_eq_true rfl) (Nat.le_of_ble_eq_true rfl)) (fun h b as hc hn => w_run_V (ci := 3) mm290 mm291 dX3_kindHere_98 (Or.inl (List.mem_singleton.mp hc)) (Nat.le_of_ble_eq_true rfl) vc_3 rfl q2658 q2660 qs68 q150 q2661 pa291 hn)
theorem n290_101 : Snd mt G 290 101 (oIfEq 106 104) := w_if_eq (hm := mm290) dX3_kindHere_101 rfl
theorem n290_104 : Snd mt G 290 104 (oConst (.int 5) 105) := w_iconst (hm := mm290) dX3_kindHere_104 rfl
theorem n290_105 : Snd mt G 290 105 (oRetI .int) := w_iret (hm := mm290) dX3_kindHere_105 rfl
theorem n290_106 : Snd mt G 290 106 (oAload 0 107) := w_aload_n (hm := mm290) dX3_kindHere_106
theorem n290_107 : Snd mt G 290 107 (oConst (.int 23) 109) := w_bipush (hm := mm290) dX3_kindHere_107 (by decide)
theorem n290_109 : Snd mt G 290 109 (oConst (.int 1) 110) := w_iconst (hm := mm290) dX3_kindHere_109 rfl
theorem n290_110 : Snd mt G 290 110 (oConst (.int 9) 112) := w_bipush (hm := mm290) dX3_kindHere_110 (by decide)
theorem n290_112 : Snd mt G 290 112 (oConst (.int 20) 114) := w_bipush (hm := mm290) dX3_kindHere_112 (by decide)
theorem n290_114 : Snd mt G 290 114 (oConst (.int 0) 115) := w_iconst (hm := mm290) dX3_kindHere_114 rfl
theorem n290_115 : Snd mt G 290 115 (oConst (.int 0) 116) := w_iconst (hm := mm290) dX3_kindHere_115 rfl
theorem n290_116 : Snd mt G 290 116 (oCall 7 (fV [4] 291 7) 0 119 xOut) := s_callV (m' := 291) (n := 6) xsh_out (w_xok0 mm290) (w_cal mm290 mm291 pn_X3 (Nat.le_of_ble_eq_true rfl) (Nat.le_of_ble_eq_true rfl)) (fun h b as hc hn => w_run_V (ci := 3) mm290 mm291 dX3_kindHere_116 (Or.inl (List.mem_singleton.mp hc)) (Nat.le_of_ble_eq_true rfl) vc_3 rfl q2658 q2660 qs68 q150 q2661 pa291 hn)
theorem n290_119 : Snd mt G 290 119 (oIfEq 127 122) := w_if_eq (hm := mm290) dX3_kindHere_119 rfl
theorem n290_122 : Snd mt G 290 122 (oConst (.int 6) 124) := w_bipush (hm := mm290) dX3_kindHere_122 (by decide)
theorem n290_124 : Snd mt G 290 124 (oGoto 128) := w_goto (hm := mm290) dX3_kindHere_124 rfl
theorem n290_127 : Snd mt G 290 127 (oConst (.int (-1)) 128) := w_iconst (hm := mm290) dX3_kindHere_127 rfl
theorem n290_128 : Snd mt G 290 128 (oRetI .int) := w_iret (hm := mm290) dX3_kindHere_128 rfl
theorem sj290 : ∀ pc, Snd mt G 290 pc (j290 pc) := fun pc => (snd_br ((snd_br ((snd_br ((snd_br ((snd_br ((snd_br ((snd_br ((snd_lf n290_128)) ((snd_lf n290_127)))) ((snd_lf n290_124)))) ((snd_br ((snd_lf n290_122)) ((snd_lf n290_119)))))) ((snd_br ((snd_br ((snd_br ((snd_lf n290_116)) ((snd_lf n290_115)))) ((snd_lf n290_114)))) ((snd_br ((snd_lf n290_112)) ((snd_lf n290_110)))))))) ((snd_br ((snd_br ((snd_br ((snd_br ((snd_lf n290_109)) ((snd_lf n290_107)))) ((snd_lf n290_106)))) ((snd_br ((snd_lf n290_105)) ((snd_lf n290_104)))))) ((snd_br ((snd_br ((snd_br ((snd_lf n290_101)) ((snd_lf n290_98)))) ((snd_lf n290_96)))) ((snd_br ((snd_lf n290_94)) ((snd_lf n290_93)))))))))) ((snd_br ((snd_br ((snd_br ((snd_br ((snd_br ((snd_lf n290_92)) ((snd_lf n290_91)))) ((snd_lf n290_89)))) ((snd_br ((snd_lf n290_88)) ((snd_lf n290_87)))))) ((snd_br ((snd_br ((snd_br ((snd_lf n290_86)) ((snd_lf n290_83)))) ((snd_lf n290_80)))) ((snd_br ((snd_lf n290_79)) ((snd_lf n290_78)))))))) ((snd_br ((snd_br ((snd_br ((snd_br ((snd_lf n290_76)) ((snd_lf n290_74)))) ((snd_lf n290_73)))) ((snd_br ((snd_lf n290_71)) ((snd_lf n290_70)))))) ((snd_br ((snd_br ((snd_br ((snd_lf n290_69)) ((snd_lf n290_68)))) ((snd_lf n290_65)))) ((snd_br ((snd_lf n290_62)) ((snd_lf n290_61)))))))))))) ((snd_br ((snd_br ((snd_br ((snd_br ((snd_br ((snd_br ((snd_lf n290_60)) ((snd_lf n290_59)))) ((snd_lf n290_58)))) ((snd_br ((snd_lf n290_57)) ((snd_lf n290_55)))))) ((snd_br ((snd_br ((snd_br ((snd_lf n290_54)) ((snd_lf n290_53)))) ((snd_lf n290_52)))) ((snd_br ((snd_lf n290_49)) ((snd_lf n290_46)))))))) ((snd_br ((snd_br ((snd_br ((snd_br ((snd_lf n290_45)) ((snd_lf n290_43)))) ((snd_lf n290_41)))) ((snd_br ((snd_lf n290_39)) ((snd_lf n290_37)))))) ((snd_br ((snd_br ((snd_br ((snd_lf n290_35)) ((snd_lf n290_34)))) ((snd_lf n290_33)))) ((snd_br ((snd_lf n290_32)) ((snd_lf n290_29)))))))))) ((snd_br ((snd_br ((snd_br ((snd_br ((snd_br ((snd_lf n290_26)) ((snd_lf n290_25)))) ((snd_lf n290_24)))) ((snd_br ((snd_lf n290_23)) ((snd_lf n290_21)))))) ((snd_br ((snd_br ((snd_br ((snd_lf n290_19)) ((snd_lf n290_17)))) ((snd_lf n290_16)))) ((snd_br ((snd_lf n290_15)) ((snd_lf n290_14)))))))) ((snd_br ((snd_br ((snd_br ((snd_br ((snd_lf n290_11)) ((snd_lf n290_8)))) ((snd_lf n290_7)))) ((snd_br ((snd_lf n290_6)) ((snd_lf n290_5)))))) ((snd_br ((snd_br ((snd_lf n290_3)) ((snd_lf n290_2)))) ((snd_br ((snd_lf n290_1)) ((snd_lf n290_0)))))))))))))
end
section
variable {G : AG}
theorem n291_0 : Snd mt G 291 0 (oAload 0 1) := w_aload_n (hm := mm291) dX3_isWord_0
theorem n291_1 : Snd mt G 291 1 (oGetf [4] 6 4) := w_getf (hm := mm291) dX3_isWord_1 (fok1 (k := 6) (T := TX3) 3 (Nat.le_of_ble_eq_true rfl) vc_3 (Nat.le_of_ble_eq_true rfl) q2411)
theorem n291_4 : Snd mt G 291 4 (oIfEq 7 30) := w_if_ne (hm := mm291) dX3_isWord_4 rfl
theorem n291_7 : Snd mt G 291 7 (oAload 0 8) := w_aload_n (hm := mm291) dX3_isWord_7
theorem n291_8 : Snd mt G 291 8 (oCall 1 (fV [4] 292 3) 0 11 xOut) := s_callV (m' := 292) (n := 0) xsh_out (w_xok0 mm291) (w_cal mm291 mm292 pn_X3 (Nat.le_of_ble_eq_true rfl) (Nat.le_of_ble_eq_true rfl)) (fun h b as hc hn => w_run_V (ci := 3) mm291 mm292 dX3_isWord_8 (Or.inl (List.mem_singleton.mp hc)) (Nat.le_of_ble_eq_true rfl) vc_3 rfl q2662 q2664 qs69 q150 q2665 pa292 hn)
theorem n291_11 : Snd mt G 291 11 (oIload 1 12) := w_iload_n (hm := mm291) dX3_isWord_11
theorem n291_12 : Snd mt G 291 12 (oIload 2 13) := w_iload_n (hm := mm291) dX3_isWord_12
theorem n291_13 : Snd mt G 291 13 (oIload 3 14) := w_iload_n (hm := mm291) dX3_isWord_13
theorem n291_14 : Snd mt G 291 14 (oIload 4 16) := w_iload (hm := mm291) dX3_isWord_14
theorem n291_16 : Snd mt G 291 16 (oIload 5 18) := w_iload (hm := mm291) dX3_isWord_16
theorem n291_18 : Snd mt G 291 18 (oIload 6 20) := w_iload (hm := mm291) dX3_isWord_18
theorem n291_20 : Snd mt G 291 20 (oCall 6 (fS 293 7) 0 23 xOut) := s_callS (m' := 293) (n := 6) xsh_out (w_xok0 mm291) (w_cal mm291 mm293 pn_X3 (Nat.le_of_ble_eq_true rfl) (Nat.le_of_ble_eq_true rfl)) (fun h as hn => w_run_S mm291 mm293 dX3_isWord_20 q2666 q2667 q150 q2668 pa293 hn)
theorem n291_23 : Snd mt G 291 23 (oCmpEq 26 30) := w_icmp_ne (hm := mm291) dX3_isWord_23 rfl
theorem n291_26 : Snd mt G 291 26 (oConst (.int 1) 27) := w_iconst (hm := mm291) dX3_isWord_26 rfl
theorem n291_27 : Snd mt G 291 27 (oGoto 31) := w_goto (hm := mm291) dX3_isWord_27 rfl
theorem n291_30 : Snd mt G 291 30 (oConst (.int 0) 31) := w_iconst (hm := mm291) dX3_isWord_30 rfl
theorem n291_31 : Snd mt G 291 31 (oRetI .boolean) := w_zret (hm := mm291) dX3_isWord_31 rfl
theorem sj291 : ∀ pc, Snd mt G 291 pc (j291 pc) := fun pc => (snd_br ((snd_br ((snd_br ((snd_br ((snd_br ((snd_lf n291_31)) ((snd_lf n291_30)))) ((snd_lf n291_27)))) ((snd_br ((snd_lf n291_26)) ((snd_lf n291_23)))))) ((snd_br ((snd_br ((snd_lf n291_20)) ((snd_lf n291_18)))) ((snd_br ((snd_lf n291_16)) ((snd_lf n291_14)))))))) ((snd_br ((snd_br ((snd_br ((snd_lf n291_13)) ((snd_lf n291_12)))) ((snd_br ((snd_lf n291_11)) ((snd_lf n291_8)))))) ((snd_br ((snd_br ((snd_lf n291_7)) ((snd_lf n291_4)))) ((snd_br ((snd_lf n291_1)) ((snd_lf n291_0)))))))))
end
section
variable {G : AG}
theorem n292_0 : Snd mt G 292 0 (oAload 0 1) := w_aload_n (hm := mm292) dX3_wordHere_0
theorem n292_1 : Snd mt G 292 1 (oCall 1 (fV [4] 287 1) 0 4 xOut) := s_callV (m' := 287) (n := 0) xsh_out (w_xok0 mm292) (w_cal mm292 mm287 pn_X3 (Nat.le_of_ble_eq_true rfl) (Nat.le_of_ble_eq_true rfl)) (fun h b as hc hn => w_run_V (ci := 3) mm292 mm287 dX3_wordHere_1 (Or.inl (List.mem_singleton.mp hc)) (Nat.le_of_ble_eq_true rfl) vc_3 rfl q2642 q2644 qs64 q150 q2645 pa287 hn)
theorem n292_4 : Snd mt G 292 4 (oConst (.int 0) 5) := w_iconst (hm := mm292) dX3_wordHere_4 rfl
theorem n292_5 : Snd mt G 292 5 (oIstore 1 6) := w_istore_n (hm := mm292) dX3_wordHere_5 (Nat.le_of_ble_eq_true rfl)
theorem n292_6 : Snd mt G 292 6 (oConst (.int 0) 7) := w_iconst (hm := mm292) dX3_wordHere_6 rfl
theorem n292_7 : Snd mt G 292 7 (oIstore 2 8) := w_istore_n (hm := mm292) dX3_wordHere_7 (Nat.le_of_ble_eq_true rfl)
theorem n292_8 : Snd mt G 292 8 (oAload 0 9) := w_aload_n (hm := mm292) dX3_wordHere_8
theorem n292_9 : Snd mt G 292 9 (oAload 0 10) := w_aload_n (hm := mm292) dX3_wordHere_9
theorem n292_10 : Snd mt G 292 10 (oGetf [4] 4 13) := w_getf (hm := mm292) dX3_wordHere_10 (fok1 (k := 4) (T := TX3) 3 (Nat.le_of_ble_eq_true rfl) vc_3 (Nat.le_of_ble_eq_true rfl) q2409)
theorem n292_13 : Snd mt G 292 13 (oIload 2 14) := w_iload_n (hm := mm292) dX3_wordHere_13
theorem n292_14 : Snd mt G 292 14 (oBin (fun x y => x + y) 15) := w_iadd (hm := mm292) dX3_wordHere_14
theorem n292_15 : Snd mt G 292 15 (oCall 2 (fV [4] 288 2) 0 18 xOut) := s_callV (m' := 288) (n := 1) xsh_out (w_xok0 mm292) (w_cal mm292 mm288 pn_X3 (Nat.le_of_ble_eq_true rfl) (Nat.le_of_ble_eq_true rfl)) (fun h b as hc hn => w_run_V (ci := 3) mm292 mm288 dX3_wordHere_15 (Or.inl (List.mem_singleton.mp hc)) (Nat.le_of_ble_eq_true rfl) vc_3 rfl q2646 q2648 qs65 q150 q2649 pa288 hn)
theorem n292_18 : Snd mt G 292 18 (oConst (.int 97) 20) := w_bipush (hm := mm292) dX3_wordHere_18 (by decide)
theorem n292_20 : Snd mt G 292 20 (oCmpLt 75 23) := w_icmp_lt (hm := mm292) dX3_wordHere_20 rfl
theorem n292_23 : Snd mt G 292 23 (oAload 0 24) := w_aload_n (hm := mm292) dX3_wordHere_23
theorem n292_24 : Snd mt G 292 24 (oAload 0 25) := w_aload_n (hm := mm292) dX3_wordHere_24
theorem n292_25 : Snd mt G 292 25 (oGetf [4] 4 28) := w_getf (hm := mm292) dX3_wordHere_25 (fok1 (k := 4) (T := TX3) 3 (Nat.le_of_ble_eq_true rfl) vc_3 (Nat.le_of_ble_eq_true rfl) q2409)
theorem n292_28 : Snd mt G 292 28 (oIload 2 29) := w_iload_n (hm := mm292) dX3_wordHere_28
theorem n292_29 : Snd mt G 292 29 (oBin (fun x y => x + y) 30) := w_iadd (hm := mm292) dX3_wordHere_29
theorem n292_30 : Snd mt G 292 30 (oCall 2 (fV [4] 288 2) 0 33 xOut) := s_callV (m' := 288) (n := 1) xsh_out (w_xok0 mm292) (w_cal mm292 mm288 pn_X3 (Nat.le_of_ble_eq_true rfl) (Nat.le_of_ble_eq_true rfl)) (fun h b as hc hn => w_run_V (ci := 3) mm292 mm288 dX3_wordHere_30 (Or.inl (List.mem_singleton.mp hc)) (Nat.le_of_ble_eq_true rfl) vc_3 rfl q2646 q2648 qs65 q150 q2649 pa288 hn)
theorem n292_33 : Snd mt G 292 33 (oConst (.int 122) 35) := w_bipush (hm := mm292) dX3_wordHere_33 (by decide)
theorem n292_35 : Snd mt G 292 35 (oCmpGt 75 38) := w_icmp_gt (hm := mm292) dX3_wordHere_35 rfl
theorem n292_38 : Snd mt G 292 38 (oIload 2 39) := w_iload_n (hm := mm292) dX3_wordHere_38
theorem n292_39 : Snd mt G 292 39 (oConst (.int 6) 41) := w_bipush (hm := mm292) dX3_wordHere_39 (by decide)
theorem n292_41 : Snd mt G 292 41 (oCmpGe 67 44) := w_icmp_ge (hm := mm292) dX3_wordHere_41 rfl
theorem n292_44 : Snd mt G 292 44 (oConst (.int 27) 46) := w_bipush (hm := mm292) dX3_wordHere_44 (by decide)
theorem n292_46 : Snd mt G 292 46 (oIload 1 47) := w_iload_n (hm := mm292) dX3_wordHere_46
theorem n292_47 : Snd mt G 292 47 (oBin (fun x y => x * y) 48) := w_imul (hm := mm292) dX3_wordHere_47
theorem n292_48 : Snd mt G 292 48 (oAload 0 49) := w_aload_n (hm := mm292) dX3_wordHere_48
theorem n292_49 : Snd mt G 292 49 (oAload 0 50) := w_aload_n (hm := mm292) dX3_wordHere_49
theorem n292_50 : Snd mt G 292 50 (oGetf [4] 4 53) := w_getf (hm := mm292) dX3_wordHere_50 (fok1 (k := 4) (T := TX3) 3 (Nat.le_of_ble_eq_true rfl) vc_3 (Nat.le_of_ble_eq_true rfl) q2409)
theorem n292_53 : Snd mt G 292 53 (oIload 2 54) := w_iload_n (hm := mm292) dX3_wordHere_53
theorem n292_54 : Snd mt G 292 54 (oBin (fun x y => x + y) 55) := w_iadd (hm := mm292) dX3_wordHere_54
theorem n292_55 : Snd mt G 292 55 (oCall 2 (fV [4] 288 2) 0 58 xOut) := s_callV (m' := 288) (n := 1) xsh_out (w_xok0 mm292) (w_cal mm292 mm288 pn_X3 (Nat.le_of_ble_eq_true rfl) (Nat.le_of_ble_eq_true rfl)) (fun h b as hc hn => w_run_V (ci := 3) mm292 mm288 dX3_wordHere_55 (Or.inl (List.mem_singleton.mp hc)) (Nat.le_of_ble_eq_true rfl) vc_3 rfl q2646 q2648 qs65 q150 q2649 pa288 hn)
theorem n292_58 : Snd mt G 292 58 (oBin (fun x y => x + y) 59) := w_iadd (hm := mm292) dX3_wordHere_58
theorem n292_59 : Snd mt G 292 59 (oConst (.int 97) 61) := w_bipush (hm := mm292) dX3_wordHere_59 (by decide)
theorem n292_61 : Snd mt G 292 61 (oBin (fun x y => x - y) 62) := w_isub (hm := mm292) dX3_wordHere_61
theorem n292_62 : Snd mt G 292 62 (oConst (.int 1) 63) := w_iconst (hm := mm292) dX3_wordHere_62 rfl
theorem n292_63 : Snd mt G 292 63 (oBin (fun x y => x + y) 64) := w_iadd (hm := mm292) dX3_wordHere_63
theorem n292_64 : Snd mt G 292 64 (oGoto 68) := w_goto (hm := mm292) dX3_wordHere_64 rfl
theorem n292_67 : Snd mt G 292 67 (oIload 1 68) := w_iload_n (hm := mm292) dX3_wordHere_67
theorem n292_68 : Snd mt G 292 68 (oIstore 1 69) := w_istore_n (hm := mm292) dX3_wordHere_68 (Nat.le_of_ble_eq_true rfl)
theorem n292_69 : Snd mt G 292 69 (oIinc 2 1 72) := w_iinc (hm := mm292) dX3_wordHere_69 rfl (Nat.le_of_ble_eq_true rfl)
theorem n292_72 : Snd mt G 292 72 (oGoto 8) := w_goto (hm := mm292) dX3_wordHere_72 rfl
theorem n292_75 : Snd mt G 292 75 (oIload 2 76) := w_iload_n (hm := mm292) dX3_wordHere_75
theorem n292_76 : Snd mt G 292 76 (oConst (.int 6) 78) := w_bipush (hm := mm292) dX3_wordHere_76 (by decide)
theorem n292_78 : Snd mt G 292 78 (oCmpLe 85 81) := w_icmp_le (hm := mm292) dX3_wordHere_78 rfl
theorem n292_81 : Snd mt G 292 81 (oConst (.int (-1)) 82) := w_iconst (hm := mm292) dX3_wordHere_81 rfl
theorem n292_82 : Snd mt G 292 82 (oGoto 86) := w_goto (hm := mm292) dX3_wordHere_82 rfl
theorem n292_85 : Snd mt G 292 85 (oIload 1 86) := w_iload_n (hm := mm292) dX3_wordHere_85
theorem n292_86 : Snd mt G 292 86 (oRetI .int) := w_iret (hm := mm292) dX3_wordHere_86 rfl
theorem sj292 : ∀ pc, Snd mt G 292 pc (j292 pc) := fun pc => (snd_br ((snd_br ((snd_br ((snd_br ((snd_br ((snd_br ((snd_lf n292_86)) ((snd_lf n292_85)))) ((snd_br ((snd_lf n292_82)) ((snd_lf n292_81)))))) ((snd_br ((snd_br ((snd_lf n292_78)) ((snd_lf n292_76)))) ((snd_lf n292_75)))))) ((snd_br ((snd_br ((snd_br ((snd_lf n292_72)) ((snd_lf n292_69)))) ((snd_lf n292_68)))) ((snd_br ((snd_br ((snd_lf n292_67)) ((snd_lf n292_64)))) ((snd_lf n292_63)))))))) ((snd_br ((snd_br ((snd_br ((snd_br ((snd_lf n292_62)) ((snd_lf n292_61)))) ((snd_br ((snd_lf n292_59)) ((snd_lf n292_58)))))) ((snd_br ((snd_br ((snd_lf n292_55)) ((snd_lf n292_54)))) ((snd_lf n292_53)))))) ((snd_br ((snd_br ((snd_br ((snd_lf n292_50)) ((snd_lf n292_49)))) ((snd_lf n292_48)))) ((snd_br ((snd_br ((snd_lf n292_47)) ((snd_lf n292_46)))) ((snd_lf n292_44)))))))))) ((snd_br ((snd_br ((snd_br ((snd_br ((snd_br ((snd_lf n292_41)) ((snd_lf n292_39)))) ((snd_br ((snd_lf n292_38)) ((snd_lf n292_35)))))) ((snd_br ((snd_br ((snd_lf n292_33)) ((snd_lf n292_30)))) ((snd_lf n292_29)))))) ((snd_br ((snd_br ((snd_br ((snd_lf n292_28)) ((snd_lf n292_25)))) ((snd_lf n292_24)))) ((snd_br ((snd_br ((snd_lf n292_23)) ((snd_lf n292_20)))) ((snd_lf n292_18)))))))) ((snd_br ((snd_br ((snd_br ((snd_br ((snd_lf n292_15)) ((snd_lf n292_14)))) ((snd_lf n292_13)))) ((snd_br ((snd_br ((snd_lf n292_10)) ((snd_lf n292_9)))) ((snd_lf n292_8)))))) ((snd_br ((snd_br ((snd_br ((snd_lf n292_7)) ((snd_lf n292_6)))) ((snd_lf n292_5)))) ((snd_br ((snd_br ((snd_lf n292_4)) ((snd_lf n292_1)))) ((snd_lf n292_0)))))))))))
end
section
variable {G : AG}
theorem n293_0 : Snd mt G 293 0 (oConst (.int 27) 2) := w_bipush (hm := mm293) dX3_word_0 (by decide)
theorem n293_2 : Snd mt G 293 2 (oIload 0 3) := w_iload_n (hm := mm293) dX3_word_2
theorem n293_3 : Snd mt G 293 3 (oBin (fun x y => x * y) 4) := w_imul (hm := mm293) dX3_word_3
theorem n293_4 : Snd mt G 293 4 (oIload 1 5) := w_iload_n (hm := mm293) dX3_word_4
theorem n293_5 : Snd mt G 293 5 (oBin (fun x y => x + y) 6) := w_iadd (hm := mm293) dX3_word_5
theorem n293_6 : Snd mt G 293 6 (oIstore 6 8) := w_istore (hm := mm293) dX3_word_6 (Nat.le_of_ble_eq_true rfl)
theorem n293_8 : Snd mt G 293 8 (oIload 2 9) := w_iload_n (hm := mm293) dX3_word_8
theorem n293_9 : Snd mt G 293 9 (oIfEq 12 17) := w_if_ne (hm := mm293) dX3_word_9 rfl
theorem n293_12 : Snd mt G 293 12 (oIload 6 14) := w_iload (hm := mm293) dX3_word_12
theorem n293_14 : Snd mt G 293 14 (oGoto 24) := w_goto (hm := mm293) dX3_word_14 rfl
theorem n293_17 : Snd mt G 293 17 (oConst (.int 27) 19) := w_bipush (hm := mm293) dX3_word_17 (by decide)
theorem n293_19 : Snd mt G 293 19 (oIload 6 21) := w_iload (hm := mm293) dX3_word_19
theorem n293_21 : Snd mt G 293 21 (oBin (fun x y => x * y) 22) := w_imul (hm := mm293) dX3_word_21
theorem n293_22 : Snd mt G 293 22 (oIload 2 23) := w_iload_n (hm := mm293) dX3_word_22
theorem n293_23 : Snd mt G 293 23 (oBin (fun x y => x + y) 24) := w_iadd (hm := mm293) dX3_word_23
theorem n293_24 : Snd mt G 293 24 (oIstore 6 26) := w_istore (hm := mm293) dX3_word_24 (Nat.le_of_ble_eq_true rfl)
theorem n293_26 : Snd mt G 293 26 (oIload 3 27) := w_iload_n (hm := mm293) dX3_word_26
theorem n293_27 : Snd mt G 293 27 (oIfEq 30 35) := w_if_ne (hm := mm293) dX3_word_27 rfl
theorem n293_30 : Snd mt G 293 30 (oIload 6 32) := w_iload (hm := mm293) dX3_word_30
theorem n293_32 : Snd mt G 293 32 (oGoto 42) := w_goto (hm := mm293) dX3_word_32 rfl
theorem n293_35 : Snd mt G 293 35 (oConst (.int 27) 37) := w_bipush (hm := mm293) dX3_word_35 (by decide)
theorem n293_37 : Snd mt G 293 37 (oIload 6 39) := w_iload (hm := mm293) dX3_word_37
theorem n293_39 : Snd mt G 293 39 (oBin (fun x y => x * y) 40) := w_imul (hm := mm293) dX3_word_39
theorem n293_40 : Snd mt G 293 40 (oIload 3 41) := w_iload_n (hm := mm293) dX3_word_40
theorem n293_41 : Snd mt G 293 41 (oBin (fun x y => x + y) 42) := w_iadd (hm := mm293) dX3_word_41
theorem n293_42 : Snd mt G 293 42 (oIstore 6 44) := w_istore (hm := mm293) dX3_word_42 (Nat.le_of_ble_eq_true rfl)
theorem n293_44 : Snd mt G 293 44 (oIload 4 46) := w_iload (hm := mm293) dX3_word_44
theorem n293_46 : Snd mt G 293 46 (oIfEq 49 54) := w_if_ne (hm := mm293) dX3_word_46 rfl
theorem n293_49 : Snd mt G 293 49 (oIload 6 51) := w_iload (hm := mm293) dX3_word_49
theorem n293_51 : Snd mt G 293 51 (oGoto 62) := w_goto (hm := mm293) dX3_word_51 rfl
theorem n293_54 : Snd mt G 293 54 (oConst (.int 27) 56) := w_bipush (hm := mm293) dX3_word_54 (by decide)
theorem n293_56 : Snd mt G 293 56 (oIload 6 58) := w_iload (hm := mm293) dX3_word_56
theorem n293_58 : Snd mt G 293 58 (oBin (fun x y => x * y) 59) := w_imul (hm := mm293) dX3_word_58
theorem n293_59 : Snd mt G 293 59 (oIload 4 61) := w_iload (hm := mm293) dX3_word_59
theorem n293_61 : Snd mt G 293 61 (oBin (fun x y => x + y) 62) := w_iadd (hm := mm293) dX3_word_61
theorem n293_62 : Snd mt G 293 62 (oIstore 6 64) := w_istore (hm := mm293) dX3_word_62 (Nat.le_of_ble_eq_true rfl)
theorem n293_64 : Snd mt G 293 64 (oIload 5 66) := w_iload (hm := mm293) dX3_word_64
theorem n293_66 : Snd mt G 293 66 (oIfEq 69 74) := w_if_ne (hm := mm293) dX3_word_66 rfl
theorem n293_69 : Snd mt G 293 69 (oIload 6 71) := w_iload (hm := mm293) dX3_word_69
theorem n293_71 : Snd mt G 293 71 (oGoto 82) := w_goto (hm := mm293) dX3_word_71 rfl
theorem n293_74 : Snd mt G 293 74 (oConst (.int 27) 76) := w_bipush (hm := mm293) dX3_word_74 (by decide)
theorem n293_76 : Snd mt G 293 76 (oIload 6 78) := w_iload (hm := mm293) dX3_word_76
theorem n293_78 : Snd mt G 293 78 (oBin (fun x y => x * y) 79) := w_imul (hm := mm293) dX3_word_78
theorem n293_79 : Snd mt G 293 79 (oIload 5 81) := w_iload (hm := mm293) dX3_word_79
theorem n293_81 : Snd mt G 293 81 (oBin (fun x y => x + y) 82) := w_iadd (hm := mm293) dX3_word_81
theorem n293_82 : Snd mt G 293 82 (oRetI .int) := w_iret (hm := mm293) dX3_word_82 rfl
theorem sj293 : ∀ pc, Snd mt G 293 pc (j293 pc) := fun pc => (snd_br ((snd_br ((snd_br ((snd_br ((snd_br ((snd_br ((snd_lf n293_82)) ((snd_lf n293_81)))) ((snd_lf n293_79)))) ((snd_br ((snd_br ((snd_lf n293_78)) ((snd_lf n293_76)))) ((snd_lf n293_74)))))) ((snd_br ((snd_br ((snd_br ((snd_lf n293_71)) ((snd_lf n293_69)))) ((snd_lf n293_66)))) ((snd_br ((snd_br ((snd_lf n293_64)) ((snd_lf n293_62)))) ((snd_lf n293_61)))))))) ((snd_br ((snd_br ((snd_br ((snd_br ((snd_lf n293_59)) ((snd_lf n293_58)))) ((snd_lf n293_56)))) ((snd_br ((snd_br ((snd_lf n293_54)) ((snd_lf n293_51)))) ((snd_lf n293_49)))))) ((snd_br ((snd_br ((snd_br ((snd_lf n293_46)) ((snd_lf n293_44)))) ((snd_lf n293_42)))) ((snd_br ((snd_lf n293_41)) ((snd_lf n293_40)))))))))) ((snd_br ((snd_br ((snd_br ((snd_br ((snd_br ((snd_lf n293_39)) ((snd_lf n293_37)))) ((snd_lf n293_35)))) ((snd_br ((snd_br ((snd_lf n293_32)) ((snd_lf n293_30)))) ((snd_lf n293_27)))))) ((snd_br ((snd_br ((snd_br ((snd_lf n293_26)) ((snd_lf n293_24)))) ((snd_lf n293_23)))) ((snd_br ((snd_br ((snd_lf n293_22)) ((snd_lf n293_21)))) ((snd_lf n293_19)))))))) ((snd_br ((snd_br ((snd_br ((snd_br ((snd_lf n293_17)) ((snd_lf n293_14)))) ((snd_lf n293_12)))) ((snd_br ((snd_br ((snd_lf n293_9)) ((snd_lf n293_8)))) ((snd_lf n293_6)))))) ((snd_br ((snd_br ((snd_br ((snd_lf n293_5)) ((snd_lf n293_4)))) ((snd_lf n293_3)))) ((snd_br ((snd_lf n293_2)) ((snd_lf n293_0)))))))))))
end
section
variable {G : AG}
theorem n294_0 : Snd mt G 294 0 (oAload 0 1) := w_aload_n (hm := mm294) dX3_wrong_0
theorem n294_1 : Snd mt G 294 1 (oGetf [4] 6 4) := w_getf (hm := mm294) dX3_wrong_1 (fok1 (k := 6) (T := TX3) 3 (Nat.le_of_ble_eq_true rfl) vc_3 (Nat.le_of_ble_eq_true rfl) q2411)
theorem n294_4 : Snd mt G 294 4 (oIfEq 7 17) := w_if_ne (hm := mm294) dX3_wrong_4 rfl
theorem n294_7 : Snd mt G 294 7 (oAload 0 8) := w_aload_n (hm := mm294) dX3_wrong_7
theorem n294_8 : Snd mt G 294 8 (oIload 1 9) := w_iload_n (hm := mm294) dX3_wrong_8
theorem n294_9 : Snd mt G 294 9 (oPutf [4] 6 .int 12) := w_putf (hm := mm294) dX3_wrong_9 (pok1 (k := 6) (T := TX3) 3 (Nat.le_of_ble_eq_true rfl) vc_3 (Nat.le_of_ble_eq_true rfl) rfl pd_X3_6 q2411)
theorem n294_12 : Snd mt G 294 12 (oAload 0 13) := w_aload_n (hm := mm294) dX3_wrong_12
theorem n294_13 : Snd mt G 294 13 (oIload 2 14) := w_iload_n (hm := mm294) dX3_wrong_13
theorem n294_14 : Snd mt G 294 14 (oPutf [4] 7 .int 17) := w_putf (hm := mm294) dX3_wrong_14 (pok1 (k := 7) (T := TX3) 3 (Nat.le_of_ble_eq_true rfl) vc_3 (Nat.le_of_ble_eq_true rfl) rfl pd_X3_7 q2412)
theorem n294_17 : Snd mt G 294 17 (oRetV) := w_vret (hm := mm294) dX3_wrong_17 rfl
theorem sj294 : ∀ pc, Snd mt G 294 pc (j294 pc) := fun pc => (snd_br ((snd_br ((snd_br ((snd_br ((snd_lf n294_17)) ((snd_lf n294_14)))) ((snd_lf n294_13)))) ((snd_br ((snd_lf n294_12)) ((snd_lf n294_9)))))) ((snd_br ((snd_br ((snd_br ((snd_lf n294_8)) ((snd_lf n294_7)))) ((snd_lf n294_4)))) ((snd_br ((snd_lf n294_1)) ((snd_lf n294_0)))))))
end
section
variable {G : AG}
theorem n295_0 : Snd mt G 295 0 (oAload 0 1) := w_aload_n (hm := mm295) dX3_skipWord_0
theorem n295_1 : Snd mt G 295 1 (oAload 0 2) := w_aload_n (hm := mm295) dX3_skipWord_1
theorem n295_2 : Snd mt G 295 2 (oGetf [4] 4 5) := w_getf (hm := mm295) dX3_skipWord_2 (fok1 (k := 4) (T := TX3) 3 (Nat.le_of_ble_eq_true rfl) vc_3 (Nat.le_of_ble_eq_true rfl) q2409)
theorem n295_5 : Snd mt G 295 5 (oCall 2 (fV [4] 288 2) 0 8 xOut) := s_callV (m' := 288) (n := 1) xsh_out (w_xok0 mm295) (w_cal mm295 mm288 pn_X3 (Nat.le_of_ble_eq_true rfl) (Nat.le_of_ble_eq_true rfl)) (fun h b as hc hn => w_run_V (ci := 3) mm295 mm288 dX3_skipWord_5 (Or.inl (List.mem_singleton.mp hc)) (Nat.le_of_ble_eq_true rfl) vc_3 rfl q2646 q2648 qs65 q150 q2649 pa288 hn)
theorem n295_8 : Snd mt G 295 8 (oConst (.int 97) 10) := w_bipush (hm := mm295) dX3_skipWord_8 (by decide)
theorem n295_10 : Snd mt G 295 10 (oCmpLt 39 13) := w_icmp_lt (hm := mm295) dX3_skipWord_10 rfl
theorem n295_13 : Snd mt G 295 13 (oAload 0 14) := w_aload_n (hm := mm295) dX3_skipWord_13
theorem n295_14 : Snd mt G 295 14 (oAload 0 15) := w_aload_n (hm := mm295) dX3_skipWord_14
theorem n295_15 : Snd mt G 295 15 (oGetf [4] 4 18) := w_getf (hm := mm295) dX3_skipWord_15 (fok1 (k := 4) (T := TX3) 3 (Nat.le_of_ble_eq_true rfl) vc_3 (Nat.le_of_ble_eq_true rfl) q2409)
theorem n295_18 : Snd mt G 295 18 (oCall 2 (fV [4] 288 2) 0 21 xOut) := s_callV (m' := 288) (n := 1) xsh_out (w_xok0 mm295) (w_cal mm295 mm288 pn_X3 (Nat.le_of_ble_eq_true rfl) (Nat.le_of_ble_eq_true rfl)) (fun h b as hc hn => w_run_V (ci := 3) mm295 mm288 dX3_skipWord_18 (Or.inl (List.mem_singleton.mp hc)) (Nat.le_of_ble_eq_true rfl) vc_3 rfl q2646 q2648 qs65 q150 q2649 pa288 hn)
theorem n295_21 : Snd mt G 295 21 (oConst (.int 122) 23) := w_bipush (hm := mm295) dX3_skipWord_21 (by decide)
theorem n295_23 : Snd mt G 295 23 (oCmpGt 39 26) := w_icmp_gt (hm := mm295) dX3_skipWord_23 rfl
theorem n295_26 : Snd mt G 295 26 (oAload 0 27) := w_aload_n (hm := mm295) dX3_skipWord_26
theorem n295_27 : Snd mt G 295 27 (oDup 28) := w_dup (hm := mm295) dX3_skipWord_27
theorem n295_28 : Snd mt G 295 28 (oGetf [4] 4 31) := w_getf (hm := mm295) dX3_skipWord_28 (fok1 (k := 4) (T := TX3) 3 (Nat.le_of_ble_eq_true rfl) vc_3 (Nat.le_of_ble_eq_true rfl) q2409)
theorem n295_31 : Snd mt G 295 31 (oConst (.int 1) 32) := w_iconst (hm := mm295) dX3_skipWord_31 rfl
theorem n295_32 : Snd mt G 295 32 (oBin (fun x y => x + y) 33) := w_iadd (hm := mm295) dX3_skipWord_32
theorem n295_33 : Snd mt G 295 33 (oPutf [4] 4 .int 36) := w_putf (hm := mm295) dX3_skipWord_33 (pok1 (k := 4) (T := TX3) 3 (Nat.le_of_ble_eq_true rfl) vc_3 (Nat.le_of_ble_eq_true rfl) rfl pd_X3_4 q2409)
theorem n295_36 : Snd mt G 295 36 (oGoto 0) := w_goto (hm := mm295) dX3_skipWord_36 rfl
theorem n295_39 : Snd mt G 295 39 (oRetV) := w_vret (hm := mm295) dX3_skipWord_39 rfl
theorem sj295 : ∀ pc, Snd mt G 295 pc (j295 pc) := fun pc => (snd_br ((snd_br ((snd_br ((snd_br ((snd_br ((snd_lf n295_39)) ((snd_lf n295_36)))) ((snd_lf n295_33)))) ((snd_br ((snd_lf n295_32)) ((snd_lf n295_31)))))) ((snd_br ((snd_br ((snd_br ((snd_lf n295_28)) ((snd_lf n295_27)))) ((snd_lf n295_26)))) ((snd_br ((snd_lf n295_23)) ((snd_lf n295_21)))))))) ((snd_br ((snd_br ((snd_br ((snd_br ((snd_lf n295_18)) ((snd_lf n295_15)))) ((snd_lf n295_14)))) ((snd_br ((snd_lf n295_13)) ((snd_lf n295_10)))))) ((snd_br ((snd_br ((snd_br ((snd_lf n295_8)) ((snd_lf n295_5)))) ((snd_lf n295_2)))) ((snd_br ((snd_lf n295_1)) ((snd_lf n295_0)))))))))
end
section
variable {G : AG}
theorem n296_0 : Snd mt G 296 0 (oAload 0 1) := w_aload_n (hm := mm296) dX3_number_0
theorem n296_1 : Snd mt G 296 1 (oGetf [4] 6 4) := w_getf (hm := mm296) dX3_number_1 (fok1 (k := 6) (T := TX3) 3 (Nat.le_of_ble_eq_true rfl) vc_3 (Nat.le_of_ble_eq_true rfl) q2411)
theorem n296_4 : Snd mt G 296 4 (oIfEq 9 7) := w_if_eq (hm := mm296) dX3_number_4 rfl
theorem n296_7 : Snd mt G 296 7 (oConst (.int 0) 8) := w_iconst (hm := mm296) dX3_number_7 rfl
theorem n296_8 : Snd mt G 296 8 (oRetI .int) := w_iret (hm := mm296) dX3_number_8 rfl
theorem n296_9 : Snd mt G 296 9 (oAload 0 10) := w_aload_n (hm := mm296) dX3_number_9
theorem n296_10 : Snd mt G 296 10 (oCall 1 (fV [4] 287 1) 0 13 xOut) := s_callV (m' := 287) (n := 0) xsh_out (w_xok0 mm296) (w_cal mm296 mm287 pn_X3 (Nat.le_of_ble_eq_true rfl) (Nat.le_of_ble_eq_true rfl)) (fun h b as hc hn => w_run_V (ci := 3) mm296 mm287 dX3_number_10 (Or.inl (List.mem_singleton.mp hc)) (Nat.le_of_ble_eq_true rfl) vc_3 rfl q2642 q2644 qs64 q150 q2645 pa287 hn)
theorem n296_13 : Snd mt G 296 13 (oAload 0 14) := w_aload_n (hm := mm296) dX3_number_13
theorem n296_14 : Snd mt G 296 14 (oGetf [4] 4 17) := w_getf (hm := mm296) dX3_number_14 (fok1 (k := 4) (T := TX3) 3 (Nat.le_of_ble_eq_true rfl) vc_3 (Nat.le_of_ble_eq_true rfl) q2409)
theorem n296_17 : Snd mt G 296 17 (oIstore 4 19) := w_istore (hm := mm296) dX3_number_17 (Nat.le_of_ble_eq_true rfl)
theorem n296_19 : Snd mt G 296 19 (oConst (.int 0) 20) := w_iconst (hm := mm296) dX3_number_19 rfl
theorem n296_20 : Snd mt G 296 20 (oIstore 5 22) := w_istore (hm := mm296) dX3_number_20 (Nat.le_of_ble_eq_true rfl)
theorem n296_22 : Snd mt G 296 22 (oAload 0 23) := w_aload_n (hm := mm296) dX3_number_22
theorem n296_23 : Snd mt G 296 23 (oAload 0 24) := w_aload_n (hm := mm296) dX3_number_23
theorem n296_24 : Snd mt G 296 24 (oGetf [4] 4 27) := w_getf (hm := mm296) dX3_number_24 (fok1 (k := 4) (T := TX3) 3 (Nat.le_of_ble_eq_true rfl) vc_3 (Nat.le_of_ble_eq_true rfl) q2409)
theorem n296_27 : Snd mt G 296 27 (oCall 2 (fV [4] 288 2) 0 30 xOut) := s_callV (m' := 288) (n := 1) xsh_out (w_xok0 mm296) (w_cal mm296 mm288 pn_X3 (Nat.le_of_ble_eq_true rfl) (Nat.le_of_ble_eq_true rfl)) (fun h b as hc hn => w_run_V (ci := 3) mm296 mm288 dX3_number_27 (Or.inl (List.mem_singleton.mp hc)) (Nat.le_of_ble_eq_true rfl) vc_3 rfl q2646 q2648 qs65 q150 q2649 pa288 hn)
theorem n296_30 : Snd mt G 296 30 (oCall 1 (fS 297 1) 0 33 xOut) := s_callS (m' := 297) (n := 1) xsh_out (w_xok0 mm296) (w_cal mm296 mm297 pn_X3 (Nat.le_of_ble_eq_true rfl) (Nat.le_of_ble_eq_true rfl)) (fun h as hn => w_run_S mm296 mm297 dX3_number_30 q2681 q2682 q150 q2683 pa297 hn)
theorem n296_33 : Snd mt G 296 33 (oIfEq 36 45) := w_if_ne (hm := mm296) dX3_number_33 rfl
theorem n296_36 : Snd mt G 296 36 (oAload 0 37) := w_aload_n (hm := mm296) dX3_number_36
theorem n296_37 : Snd mt G 296 37 (oConst (.int 1) 38) := w_iconst (hm := mm296) dX3_number_37 rfl
theorem n296_38 : Snd mt G 296 38 (oAload 0 39) := w_aload_n (hm := mm296) dX3_number_38
theorem n296_39 : Snd mt G 296 39 (oGetf [4] 4 42) := w_getf (hm := mm296) dX3_number_39 (fok1 (k := 4) (T := TX3) 3 (Nat.le_of_ble_eq_true rfl) vc_3 (Nat.le_of_ble_eq_true rfl) q2409)
theorem n296_42 : Snd mt G 296 42 (oCall 3 (fV [4] 294 3) 0 45 xOut) := s_callV (m' := 294) (n := 2) xsh_out (w_xok0 mm296) (w_cal mm296 mm294 pn_X3 (Nat.le_of_ble_eq_true rfl) (Nat.le_of_ble_eq_true rfl)) (fun h b as hc hn => w_run_V (ci := 3) mm296 mm294 dX3_number_42 (Or.inl (List.mem_singleton.mp hc)) (Nat.le_of_ble_eq_true rfl) vc_3 rfl q2669 q2671 qs70 q150 q2672 pa294 hn)
theorem n296_45 : Snd mt G 296 45 (oAload 0 46) := w_aload_n (hm := mm296) dX3_number_45
theorem n296_46 : Snd mt G 296 46 (oAload 0 47) := w_aload_n (hm := mm296) dX3_number_46
theorem n296_47 : Snd mt G 296 47 (oGetf [4] 4 50) := w_getf (hm := mm296) dX3_number_47 (fok1 (k := 4) (T := TX3) 3 (Nat.le_of_ble_eq_true rfl) vc_3 (Nat.le_of_ble_eq_true rfl) q2409)
theorem n296_50 : Snd mt G 296 50 (oCall 2 (fV [4] 288 2) 0 53 xOut) := s_callV (m' := 288) (n := 1) xsh_out (w_xok0 mm296) (w_cal mm296 mm288 pn_X3 (Nat.le_of_ble_eq_true rfl) (Nat.le_of_ble_eq_true rfl)) (fun h b as hc hn => w_run_V (ci := 3) mm296 mm288 dX3_number_50 (Or.inl (List.mem_singleton.mp hc)) (Nat.le_of_ble_eq_true rfl) vc_3 rfl q2646 q2648 qs65 q150 q2649 pa288 hn)
theorem n296_53 : Snd mt G 296 53 (oCall 1 (fS 297 1) 0 56 xOut) := s_callS (m' := 297) (n := 1) xsh_out (w_xok0 mm296) (w_cal mm296 mm297 pn_X3 (Nat.le_of_ble_eq_true rfl) (Nat.le_of_ble_eq_true rfl)) (fun h as hn => w_run_S mm296 mm297 dX3_number_53 q2681 q2682 q150 q2683 pa297 hn)
theorem n296_56 : Snd mt G 296 56 (oIfEq 107 59) := w_if_eq (hm := mm296) dX3_number_56 rfl
theorem n296_59 : Snd mt G 296 59 (oConst (.int 10) 61) := w_bipush (hm := mm296) dX3_number_59 (by decide)
theorem n296_61 : Snd mt G 296 61 (oIload 5 63) := w_iload (hm := mm296) dX3_number_61
theorem n296_63 : Snd mt G 296 63 (oBin (fun x y => x * y) 64) := w_imul (hm := mm296) dX3_number_63
theorem n296_64 : Snd mt G 296 64 (oAload 0 65) := w_aload_n (hm := mm296) dX3_number_64
theorem n296_65 : Snd mt G 296 65 (oAload 0 66) := w_aload_n (hm := mm296) dX3_number_65
theorem n296_66 : Snd mt G 296 66 (oGetf [4] 4 69) := w_getf (hm := mm296) dX3_number_66 (fok1 (k := 4) (T := TX3) 3 (Nat.le_of_ble_eq_true rfl) vc_3 (Nat.le_of_ble_eq_true rfl) q2409)
theorem n296_69 : Snd mt G 296 69 (oCall 2 (fV [4] 288 2) 0 72 xOut) := s_callV (m' := 288) (n := 1) xsh_out (w_xok0 mm296) (w_cal mm296 mm288 pn_X3 (Nat.le_of_ble_eq_true rfl) (Nat.le_of_ble_eq_true rfl)) (fun h b as hc hn => w_run_V (ci := 3) mm296 mm288 dX3_number_69 (Or.inl (List.mem_singleton.mp hc)) (Nat.le_of_ble_eq_true rfl) vc_3 rfl q2646 q2648 qs65 q150 q2649 pa288 hn)
theorem n296_72 : Snd mt G 296 72 (oBin (fun x y => x + y) 73) := w_iadd (hm := mm296) dX3_number_72
theorem n296_73 : Snd mt G 296 73 (oConst (.int 48) 75) := w_bipush (hm := mm296) dX3_number_73 (by decide)
theorem n296_75 : Snd mt G 296 75 (oBin (fun x y => x - y) 76) := w_isub (hm := mm296) dX3_number_75
theorem n296_76 : Snd mt G 296 76 (oIstore 5 78) := w_istore (hm := mm296) dX3_number_76 (Nat.le_of_ble_eq_true rfl)
theorem n296_78 : Snd mt G 296 78 (oIload 5 80) := w_iload (hm := mm296) dX3_number_78
theorem n296_80 : Snd mt G 296 80 (oConst (.int 100000) 82) := w_ldc (hm := mm296) dX3_number_80 q2684
theorem n296_82 : Snd mt G 296 82 (oCmpLe 90 85) := w_icmp_le (hm := mm296) dX3_number_82 rfl
theorem n296_85 : Snd mt G 296 85 (oConst (.int 100000) 87) := w_ldc (hm := mm296) dX3_number_85 q2684
theorem n296_87 : Snd mt G 296 87 (oGoto 92) := w_goto (hm := mm296) dX3_number_87 rfl
theorem n296_90 : Snd mt G 296 90 (oIload 5 92) := w_iload (hm := mm296) dX3_number_90
theorem n296_92 : Snd mt G 296 92 (oIstore 5 94) := w_istore (hm := mm296) dX3_number_92 (Nat.le_of_ble_eq_true rfl)
theorem n296_94 : Snd mt G 296 94 (oAload 0 95) := w_aload_n (hm := mm296) dX3_number_94
theorem n296_95 : Snd mt G 296 95 (oDup 96) := w_dup (hm := mm296) dX3_number_95
theorem n296_96 : Snd mt G 296 96 (oGetf [4] 4 99) := w_getf (hm := mm296) dX3_number_96 (fok1 (k := 4) (T := TX3) 3 (Nat.le_of_ble_eq_true rfl) vc_3 (Nat.le_of_ble_eq_true rfl) q2409)
theorem n296_99 : Snd mt G 296 99 (oConst (.int 1) 100) := w_iconst (hm := mm296) dX3_number_99 rfl
theorem n296_100 : Snd mt G 296 100 (oBin (fun x y => x + y) 101) := w_iadd (hm := mm296) dX3_number_100
theorem n296_101 : Snd mt G 296 101 (oPutf [4] 4 .int 104) := w_putf (hm := mm296) dX3_number_101 (pok1 (k := 4) (T := TX3) 3 (Nat.le_of_ble_eq_true rfl) vc_3 (Nat.le_of_ble_eq_true rfl) rfl pd_X3_4 q2409)
theorem n296_104 : Snd mt G 296 104 (oGoto 45) := w_goto (hm := mm296) dX3_number_104 rfl
theorem n296_107 : Snd mt G 296 107 (oIload 5 109) := w_iload (hm := mm296) dX3_number_107
theorem n296_109 : Snd mt G 296 109 (oIload 1 110) := w_iload_n (hm := mm296) dX3_number_109
theorem n296_110 : Snd mt G 296 110 (oIload 2 111) := w_iload_n (hm := mm296) dX3_number_110
theorem n296_111 : Snd mt G 296 111 (oCall 3 (fS 284 3) 0 114 xOut) := s_callS (m' := 284) (n := 3) xsh_out (w_xok0 mm296) (w_cal mm296 mm284 pn_X3 (Nat.le_of_ble_eq_true rfl) (Nat.le_of_ble_eq_true rfl)) (fun h as hn => w_run_S mm296 mm284 dX3_number_111 q2631 q2632 q150 q2633 pa284 hn)
theorem n296_114 : Snd mt G 296 114 (oIfEq 123 117) := w_if_eq (hm := mm296) dX3_number_114 rfl
theorem n296_117 : Snd mt G 296 117 (oIload 5 119) := w_iload (hm := mm296) dX3_number_117
theorem n296_119 : Snd mt G 296 119 (oIload 3 120) := w_iload_n (hm := mm296) dX3_number_119
theorem n296_120 : Snd mt G 296 120 (oCmpEq 123 130) := w_icmp_ne (hm := mm296) dX3_number_120 rfl
theorem n296_123 : Snd mt G 296 123 (oAload 0 124) := w_aload_n (hm := mm296) dX3_number_123
theorem n296_124 : Snd mt G 296 124 (oConst (.int 2) 125) := w_iconst (hm := mm296) dX3_number_124 rfl
theorem n296_125 : Snd mt G 296 125 (oIload 4 127) := w_iload (hm := mm296) dX3_number_125
theorem n296_127 : Snd mt G 296 127 (oCall 3 (fV [4] 294 3) 0 130 xOut) := s_callV (m' := 294) (n := 2) xsh_out (w_xok0 mm296) (w_cal mm296 mm294 pn_X3 (Nat.le_of_ble_eq_true rfl) (Nat.le_of_ble_eq_true rfl)) (fun h b as hc hn => w_run_V (ci := 3) mm296 mm294 dX3_number_127 (Or.inl (List.mem_singleton.mp hc)) (Nat.le_of_ble_eq_true rfl) vc_3 rfl q2669 q2671 qs70 q150 q2672 pa294 hn)
theorem n296_130 : Snd mt G 296 130 (oIload 5 132) := w_iload (hm := mm296) dX3_number_130
theorem n296_132 : Snd mt G 296 132 (oRetI .int) := w_iret (hm := mm296) dX3_number_132 rfl
theorem sj296 : ∀ pc, Snd mt G 296 pc (j296 pc) := fun pc => (snd_br ((snd_br ((snd_br ((snd_br ((snd_br ((snd_br ((snd_br ((snd_lf n296_132)) ((snd_lf n296_130)))) ((snd_lf n296_127)))) ((snd_br ((snd_lf n296_125)) ((snd_lf n296_124)))))) ((snd_br ((snd_br ((snd_lf n296_123)) ((snd_lf n296_120)))) ((snd_br ((snd_lf n296_119)) ((snd_lf n296_117)))))))) ((snd_br ((snd_br ((snd_br ((snd_lf n296_114)) ((snd_lf n296_111)))) ((snd_br ((snd_lf n296_110)) ((snd_lf n296_109)))))) ((snd_br ((snd_br ((snd_lf n296_107)) ((snd_lf n296_104)))) ((snd_br ((snd_lf n296_101)) ((snd_lf n296_100)))))))))) ((snd_br ((snd_br ((snd_br ((snd_br ((snd_br ((snd_lf n296_99)) ((snd_lf n296_96)))) ((snd_lf n296_95)))) ((snd_br ((snd_lf n296_94)) ((snd_lf n296_92)))))) ((snd_br ((snd_br ((snd_lf n296_90)) ((snd_lf n296_87)))) ((snd_br ((snd_lf n296_85)) ((snd_lf n296_82)))))))) ((snd_br ((snd_br ((snd_br ((snd_lf n296_80)) ((snd_lf n296_78)))) ((snd_br ((snd_lf n296_76)) ((snd_lf n296_75)))))) ((snd_br ((snd_br ((snd_lf n296_73)) ((snd_lf n296_72)))) ((snd_br ((snd_lf n296_69)) ((snd_lf n296_66)))))))))))) ((snd_br ((snd_br ((snd_br ((snd_br ((snd_br ((snd_br ((snd_lf n296_65)) ((snd_lf n296_64)))) ((snd_lf n296_63)))) ((snd_br ((snd_lf n296_61)) ((snd_lf n296_59)))))) ((snd_br ((snd_br ((snd_lf n296_56)) ((snd_lf n296_53)))) ((snd_br ((snd_lf n296_50)) ((snd_lf n296_47)))))))) ((snd_br ((snd_br ((snd_br ((snd_lf n296_46)) ((snd_lf n296_45)))) ((snd_br ((snd_lf n296_42)) ((snd_lf n296_39)))))) ((snd_br ((snd_br ((snd_lf n296_38)) ((snd_lf n296_37)))) ((snd_br ((snd_lf n296_36)) ((snd_lf n296_33)))))))))) ((snd_br ((snd_br ((snd_br ((snd_br ((snd_br ((snd_lf n296_30)) ((snd_lf n296_27)))) ((snd_lf n296_24)))) ((snd_br ((snd_lf n296_23)) ((snd_lf n296_22)))))) ((snd_br ((snd_br ((snd_lf n296_20)) ((snd_lf n296_19)))) ((snd_br ((snd_lf n296_17)) ((snd_lf n296_14)))))))) ((snd_br ((snd_br ((snd_br ((snd_lf n296_13)) ((snd_lf n296_10)))) ((snd_br ((snd_lf n296_9)) ((snd_lf n296_8)))))) ((snd_br ((snd_br ((snd_lf n296_7)) ((snd_lf n296_4)))) ((snd_br ((snd_lf n296_1)) ((snd_lf n296_0)))))))))))))
end
section
variable {G : AG}
theorem n297_0 : Snd mt G 297 0 (oIload 0 1) := w_iload_n (hm := mm297) dX3_isDigit_0
theorem n297_1 : Snd mt G 297 1 (oConst (.int 48) 3) := w_bipush (hm := mm297) dX3_isDigit_1 (by decide)
theorem n297_3 : Snd mt G 297 3 (oCmpLt 16 6) := w_icmp_lt (hm := mm297) dX3_isDigit_3 rfl
theorem n297_6 : Snd mt G 297 6 (oIload 0 7) := w_iload_n (hm := mm297) dX3_isDigit_6
theorem n297_7 : Snd mt G 297 7 (oConst (.int 57) 9) := w_bipush (hm := mm297) dX3_isDigit_7 (by decide)
theorem n297_9 : Snd mt G 297 9 (oCmpGt 16 12) := w_icmp_gt (hm := mm297) dX3_isDigit_9 rfl
theorem n297_12 : Snd mt G 297 12 (oConst (.int 1) 13) := w_iconst (hm := mm297) dX3_isDigit_12 rfl
theorem n297_13 : Snd mt G 297 13 (oGoto 17) := w_goto (hm := mm297) dX3_isDigit_13 rfl
theorem n297_16 : Snd mt G 297 16 (oConst (.int 0) 17) := w_iconst (hm := mm297) dX3_isDigit_16 rfl
theorem n297_17 : Snd mt G 297 17 (oRetI .boolean) := w_zret (hm := mm297) dX3_isDigit_17 rfl
theorem sj297 : ∀ pc, Snd mt G 297 pc (j297 pc) := fun pc => (snd_br ((snd_br ((snd_br ((snd_br ((snd_lf n297_17)) ((snd_lf n297_16)))) ((snd_lf n297_13)))) ((snd_br ((snd_lf n297_12)) ((snd_lf n297_9)))))) ((snd_br ((snd_br ((snd_br ((snd_lf n297_7)) ((snd_lf n297_6)))) ((snd_lf n297_3)))) ((snd_br ((snd_lf n297_1)) ((snd_lf n297_0)))))))
end
section
variable {G : AG}
theorem n298_0 : Snd mt G 298 0 (oAload 0 1) := w_aload_n (hm := mm298) dX3_sum_0
theorem n298_1 : Snd mt G 298 1 (oCall 1 (fV [4] 299 4) 1 4 xOut) := s_callV (m' := 299) (n := 0) xsh_out (w_xok0 mm298) (w_cal mm298 mm299 pn_X3 (Nat.le_of_ble_eq_true rfl) (Nat.le_of_ble_eq_true rfl)) (fun h b as hc hn => w_run_V (ci := 3) mm298 mm299 dX3_sum_1 (Or.inl (List.mem_singleton.mp hc)) (Nat.le_of_ble_eq_true rfl) vc_3 rfl q2689 q2691 qs74 q150 q2692 pa299 hn)
theorem n298_4 : Snd mt G 298 4 (oIstore 1 5) := w_istore_n (hm := mm298) dX3_sum_4 (Nat.le_of_ble_eq_true rfl)
theorem n298_5 : Snd mt G 298 5 (oAload 0 6) := w_aload_n (hm := mm298) dX3_sum_5
theorem n298_6 : Snd mt G 298 6 (oCall 1 (fV [4] 287 1) 0 9 xOut) := s_callV (m' := 287) (n := 0) xsh_out (w_xok0 mm298) (w_cal mm298 mm287 pn_X3 (Nat.le_of_ble_eq_true rfl) (Nat.le_of_ble_eq_true rfl)) (fun h b as hc hn => w_run_V (ci := 3) mm298 mm287 dX3_sum_6 (Or.inl (List.mem_singleton.mp hc)) (Nat.le_of_ble_eq_true rfl) vc_3 rfl q2642 q2644 qs64 q150 q2645 pa287 hn)
theorem n298_9 : Snd mt G 298 9 (oAload 0 10) := w_aload_n (hm := mm298) dX3_sum_9
theorem n298_10 : Snd mt G 298 10 (oGetf [4] 6 13) := w_getf (hm := mm298) dX3_sum_10 (fok1 (k := 6) (T := TX3) 3 (Nat.le_of_ble_eq_true rfl) vc_3 (Nat.le_of_ble_eq_true rfl) q2411)
theorem n298_13 : Snd mt G 298 13 (oIfEq 16 89) := w_if_ne (hm := mm298) dX3_sum_13 rfl
theorem n298_16 : Snd mt G 298 16 (oAload 0 17) := w_aload_n (hm := mm298) dX3_sum_16
theorem n298_17 : Snd mt G 298 17 (oAload 0 18) := w_aload_n (hm := mm298) dX3_sum_17
theorem n298_18 : Snd mt G 298 18 (oGetf [4] 4 21) := w_getf (hm := mm298) dX3_sum_18 (fok1 (k := 4) (T := TX3) 3 (Nat.le_of_ble_eq_true rfl) vc_3 (Nat.le_of_ble_eq_true rfl) q2409)
theorem n298_21 : Snd mt G 298 21 (oCall 2 (fV [4] 288 2) 0 24 xOut) := s_callV (m' := 288) (n := 1) xsh_out (w_xok0 mm298) (w_cal mm298 mm288 pn_X3 (Nat.le_of_ble_eq_true rfl) (Nat.le_of_ble_eq_true rfl)) (fun h b as hc hn => w_run_V (ci := 3) mm298 mm288 dX3_sum_21 (Or.inl (List.mem_singleton.mp hc)) (Nat.le_of_ble_eq_true rfl) vc_3 rfl q2646 q2648 qs65 q150 q2649 pa288 hn)
theorem n298_24 : Snd mt G 298 24 (oConst (.int 43) 26) := w_bipush (hm := mm298) dX3_sum_24 (by decide)
theorem n298_26 : Snd mt G 298 26 (oCmpEq 42 29) := w_icmp_eq (hm := mm298) dX3_sum_26 rfl
theorem n298_29 : Snd mt G 298 29 (oAload 0 30) := w_aload_n (hm := mm298) dX3_sum_29
theorem n298_30 : Snd mt G 298 30 (oAload 0 31) := w_aload_n (hm := mm298) dX3_sum_30
theorem n298_31 : Snd mt G 298 31 (oGetf [4] 4 34) := w_getf (hm := mm298) dX3_sum_31 (fok1 (k := 4) (T := TX3) 3 (Nat.le_of_ble_eq_true rfl) vc_3 (Nat.le_of_ble_eq_true rfl) q2409)
theorem n298_34 : Snd mt G 298 34 (oCall 2 (fV [4] 288 2) 0 37 xOut) := s_callV (m' := 288) (n := 1) xsh_out (w_xok0 mm298) (w_cal mm298 mm288 pn_X3 (Nat.le_of_ble_eq_true rfl) (Nat.le_of_ble_eq_true rfl)) (fun h b as hc hn => w_run_V (ci := 3) mm298 mm288 dX3_sum_34 (Or.inl (List.mem_singleton.mp hc)) (Nat.le_of_ble_eq_true rfl) vc_3 rfl q2646 q2648 qs65 q150 q2649 pa288 hn)
theorem n298_37 : Snd mt G 298 37 (oConst (.int 45) 39) := w_bipush (hm := mm298) dX3_sum_37 (by decide)
theorem n298_39 : Snd mt G 298 39 (oCmpEq 42 89) := w_icmp_ne (hm := mm298) dX3_sum_39 rfl
theorem n298_42 : Snd mt G 298 42 (oAload 0 43) := w_aload_n (hm := mm298) dX3_sum_42
theorem n298_43 : Snd mt G 298 43 (oAload 0 44) := w_aload_n (hm := mm298) dX3_sum_43
theorem n298_44 : Snd mt G 298 44 (oGetf [4] 4 47) := w_getf (hm := mm298) dX3_sum_44 (fok1 (k := 4) (T := TX3) 3 (Nat.le_of_ble_eq_true rfl) vc_3 (Nat.le_of_ble_eq_true rfl) q2409)
theorem n298_47 : Snd mt G 298 47 (oCall 2 (fV [4] 288 2) 0 50 xOut) := s_callV (m' := 288) (n := 1) xsh_out (w_xok0 mm298) (w_cal mm298 mm288 pn_X3 (Nat.le_of_ble_eq_true rfl) (Nat.le_of_ble_eq_true rfl)) (fun h b as hc hn => w_run_V (ci := 3) mm298 mm288 dX3_sum_47 (Or.inl (List.mem_singleton.mp hc)) (Nat.le_of_ble_eq_true rfl) vc_3 rfl q2646 q2648 qs65 q150 q2649 pa288 hn)
theorem n298_50 : Snd mt G 298 50 (oIstore 2 51) := w_istore_n (hm := mm298) dX3_sum_50 (Nat.le_of_ble_eq_true rfl)
theorem n298_51 : Snd mt G 298 51 (oAload 0 52) := w_aload_n (hm := mm298) dX3_sum_51
theorem n298_52 : Snd mt G 298 52 (oDup 53) := w_dup (hm := mm298) dX3_sum_52
theorem n298_53 : Snd mt G 298 53 (oGetf [4] 4 56) := w_getf (hm := mm298) dX3_sum_53 (fok1 (k := 4) (T := TX3) 3 (Nat.le_of_ble_eq_true rfl) vc_3 (Nat.le_of_ble_eq_true rfl) q2409)
theorem n298_56 : Snd mt G 298 56 (oConst (.int 1) 57) := w_iconst (hm := mm298) dX3_sum_56 rfl
theorem n298_57 : Snd mt G 298 57 (oBin (fun x y => x + y) 58) := w_iadd (hm := mm298) dX3_sum_57
theorem n298_58 : Snd mt G 298 58 (oPutf [4] 4 .int 61) := w_putf (hm := mm298) dX3_sum_58 (pok1 (k := 4) (T := TX3) 3 (Nat.le_of_ble_eq_true rfl) vc_3 (Nat.le_of_ble_eq_true rfl) rfl pd_X3_4 q2409)
theorem n298_61 : Snd mt G 298 61 (oAload 0 62) := w_aload_n (hm := mm298) dX3_sum_61
theorem n298_62 : Snd mt G 298 62 (oCall 1 (fV [4] 299 4) 1 65 xOut) := s_callV (m' := 299) (n := 0) xsh_out (w_xok0 mm298) (w_cal mm298 mm299 pn_X3 (Nat.le_of_ble_eq_true rfl) (Nat.le_of_ble_eq_true rfl)) (fun h b as hc hn => w_run_V (ci := 3) mm298 mm299 dX3_sum_62 (Or.inl (List.mem_singleton.mp hc)) (Nat.le_of_ble_eq_true rfl) vc_3 rfl q2689 q2691 qs74 q150 q2692 pa299 hn)
theorem n298_65 : Snd mt G 298 65 (oIstore 3 66) := w_istore_n (hm := mm298) dX3_sum_65 (Nat.le_of_ble_eq_true rfl)
theorem n298_66 : Snd mt G 298 66 (oIload 2 67) := w_iload_n (hm := mm298) dX3_sum_66
theorem n298_67 : Snd mt G 298 67 (oConst (.int 43) 69) := w_bipush (hm := mm298) dX3_sum_67 (by decide)
theorem n298_69 : Snd mt G 298 69 (oCmpEq 72 78) := w_icmp_ne (hm := mm298) dX3_sum_69 rfl
theorem n298_72 : Snd mt G 298 72 (oIload 1 73) := w_iload_n (hm := mm298) dX3_sum_72
theorem n298_73 : Snd mt G 298 73 (oIload 3 74) := w_iload_n (hm := mm298) dX3_sum_73
theorem n298_74 : Snd mt G 298 74 (oBin (fun x y => x + y) 75) := w_iadd (hm := mm298) dX3_sum_74
theorem n298_75 : Snd mt G 298 75 (oGoto 81) := w_goto (hm := mm298) dX3_sum_75 rfl
theorem n298_78 : Snd mt G 298 78 (oIload 1 79) := w_iload_n (hm := mm298) dX3_sum_78
theorem n298_79 : Snd mt G 298 79 (oIload 3 80) := w_iload_n (hm := mm298) dX3_sum_79
theorem n298_80 : Snd mt G 298 80 (oBin (fun x y => x - y) 81) := w_isub (hm := mm298) dX3_sum_80
theorem n298_81 : Snd mt G 298 81 (oIstore 1 82) := w_istore_n (hm := mm298) dX3_sum_81 (Nat.le_of_ble_eq_true rfl)
theorem n298_82 : Snd mt G 298 82 (oAload 0 83) := w_aload_n (hm := mm298) dX3_sum_82
theorem n298_83 : Snd mt G 298 83 (oCall 1 (fV [4] 287 1) 0 86 xOut) := s_callV (m' := 287) (n := 0) xsh_out (w_xok0 mm298) (w_cal mm298 mm287 pn_X3 (Nat.le_of_ble_eq_true rfl) (Nat.le_of_ble_eq_true rfl)) (fun h b as hc hn => w_run_V (ci := 3) mm298 mm287 dX3_sum_83 (Or.inl (List.mem_singleton.mp hc)) (Nat.le_of_ble_eq_true rfl) vc_3 rfl q2642 q2644 qs64 q150 q2645 pa287 hn)
theorem n298_86 : Snd mt G 298 86 (oGoto 9) := w_goto (hm := mm298) dX3_sum_86 rfl
theorem n298_89 : Snd mt G 298 89 (oIload 1 90) := w_iload_n (hm := mm298) dX3_sum_89
theorem n298_90 : Snd mt G 298 90 (oRetI .int) := w_iret (hm := mm298) dX3_sum_90 rfl
theorem sj298 : ∀ pc, Snd mt G 298 pc (j298 pc) := fun pc => (snd_br ((snd_br ((snd_br ((snd_br ((snd_br ((snd_br ((snd_lf n298_90)) ((snd_lf n298_89)))) ((snd_br ((snd_lf n298_86)) ((snd_lf n298_83)))))) ((snd_br ((snd_br ((snd_lf n298_82)) ((snd_lf n298_81)))) ((snd_lf n298_80)))))) ((snd_br ((snd_br ((snd_br ((snd_lf n298_79)) ((snd_lf n298_78)))) ((snd_lf n298_75)))) ((snd_br ((snd_br ((snd_lf n298_74)) ((snd_lf n298_73)))) ((snd_lf n298_72)))))))) ((snd_br ((snd_br ((snd_br ((snd_br ((snd_lf n298_69)) ((snd_lf n298_67)))) ((snd_lf n298_66)))) ((snd_br ((snd_br ((snd_lf n298_65)) ((snd_lf n298_62)))) ((snd_lf n298_61)))))) ((snd_br ((snd_br ((snd_br ((snd_lf n298_58)) ((snd_lf n298_57)))) ((snd_lf n298_56)))) ((snd_br ((snd_br ((snd_lf n298_53)) ((snd_lf n298_52)))) ((snd_lf n298_51)))))))))) ((snd_br ((snd_br ((snd_br ((snd_br ((snd_br ((snd_lf n298_50)) ((snd_lf n298_47)))) ((snd_br ((snd_lf n298_44)) ((snd_lf n298_43)))))) ((snd_br ((snd_br ((snd_lf n298_42)) ((snd_lf n298_39)))) ((snd_lf n298_37)))))) ((snd_br ((snd_br ((snd_br ((snd_lf n298_34)) ((snd_lf n298_31)))) ((snd_lf n298_30)))) ((snd_br ((snd_br ((snd_lf n298_29)) ((snd_lf n298_26)))) ((snd_lf n298_24)))))))) ((snd_br ((snd_br ((snd_br ((snd_br ((snd_lf n298_21)) ((snd_lf n298_18)))) ((snd_lf n298_17)))) ((snd_br ((snd_br ((snd_lf n298_16)) ((snd_lf n298_13)))) ((snd_lf n298_10)))))) ((snd_br ((snd_br ((snd_br ((snd_lf n298_9)) ((snd_lf n298_6)))) ((snd_lf n298_5)))) ((snd_br ((snd_br ((snd_lf n298_4)) ((snd_lf n298_1)))) ((snd_lf n298_0)))))))))))
end
section
variable {G : AG}
theorem n299_0 : Snd mt G 299 0 (oAload 0 1) := w_aload_n (hm := mm299) dX3_product_0
theorem n299_1 : Snd mt G 299 1 (oCall 1 (fV [4] 300 6) 1 4 xOut) := s_callV (m' := 300) (n := 0) xsh_out (w_xok0 mm299) (w_cal mm299 mm300 pn_X3 (Nat.le_of_ble_eq_true rfl) (Nat.le_of_ble_eq_true rfl)) (fun h b as hc hn => w_run_V (ci := 3) mm299 mm300 dX3_product_1 (Or.inl (List.mem_singleton.mp hc)) (Nat.le_of_ble_eq_true rfl) vc_3 rfl q2693 q2695 qs75 q150 q2696 pa300 hn)
theorem n299_4 : Snd mt G 299 4 (oIstore 1 5) := w_istore_n (hm := mm299) dX3_product_4 (Nat.le_of_ble_eq_true rfl)
theorem n299_5 : Snd mt G 299 5 (oAload 0 6) := w_aload_n (hm := mm299) dX3_product_5
theorem n299_6 : Snd mt G 299 6 (oCall 1 (fV [4] 287 1) 0 9 xOut) := s_callV (m' := 287) (n := 0) xsh_out (w_xok0 mm299) (w_cal mm299 mm287 pn_X3 (Nat.le_of_ble_eq_true rfl) (Nat.le_of_ble_eq_true rfl)) (fun h b as hc hn => w_run_V (ci := 3) mm299 mm287 dX3_product_6 (Or.inl (List.mem_singleton.mp hc)) (Nat.le_of_ble_eq_true rfl) vc_3 rfl q2642 q2644 qs64 q150 q2645 pa287 hn)
theorem n299_9 : Snd mt G 299 9 (oAload 0 10) := w_aload_n (hm := mm299) dX3_product_9
theorem n299_10 : Snd mt G 299 10 (oGetf [4] 6 13) := w_getf (hm := mm299) dX3_product_10 (fok1 (k := 6) (T := TX3) 3 (Nat.le_of_ble_eq_true rfl) vc_3 (Nat.le_of_ble_eq_true rfl) q2411)
theorem n299_13 : Snd mt G 299 13 (oIfEq 16 97) := w_if_ne (hm := mm299) dX3_product_13 rfl
theorem n299_16 : Snd mt G 299 16 (oAload 0 17) := w_aload_n (hm := mm299) dX3_product_16
theorem n299_17 : Snd mt G 299 17 (oAload 0 18) := w_aload_n (hm := mm299) dX3_product_17
theorem n299_18 : Snd mt G 299 18 (oGetf [4] 4 21) := w_getf (hm := mm299) dX3_product_18 (fok1 (k := 4) (T := TX3) 3 (Nat.le_of_ble_eq_true rfl) vc_3 (Nat.le_of_ble_eq_true rfl) q2409)
theorem n299_21 : Snd mt G 299 21 (oCall 2 (fV [4] 288 2) 0 24 xOut) := s_callV (m' := 288) (n := 1) xsh_out (w_xok0 mm299) (w_cal mm299 mm288 pn_X3 (Nat.le_of_ble_eq_true rfl) (Nat.le_of_ble_eq_true rfl)) (fun h b as hc hn => w_run_V (ci := 3) mm299 mm288 dX3_product_21 (Or.inl (List.mem_singleton.mp hc)) (Nat.le_of_ble_eq_true rfl) vc_3 rfl q2646 q2648 qs65 q150 q2649 pa288 hn)
theorem n299_24 : Snd mt G 299 24 (oConst (.int 42) 26) := w_bipush (hm := mm299) dX3_product_24 (by decide)
theorem n299_26 : Snd mt G 299 26 (oCmpEq 42 29) := w_icmp_eq (hm := mm299) dX3_product_26 rfl
theorem n299_29 : Snd mt G 299 29 (oAload 0 30) := w_aload_n (hm := mm299) dX3_product_29
theorem n299_30 : Snd mt G 299 30 (oAload 0 31) := w_aload_n (hm := mm299) dX3_product_30
theorem n299_31 : Snd mt G 299 31 (oGetf [4] 4 34) := w_getf (hm := mm299) dX3_product_31 (fok1 (k := 4) (T := TX3) 3 (Nat.le_of_ble_eq_true rfl) vc_3 (Nat.le_of_ble_eq_true rfl) q2409)
theorem n299_34 : Snd mt G 299 34 (oCall 2 (fV [4] 288 2) 0 37 xOut) := s_callV (m' := 288) (n := 1) xsh_out (w_xok0 mm299) (w_cal mm299 mm288 pn_X3 (Nat.le_of_ble_eq_true rfl) (Nat.le_of_ble_eq_true rfl)) (fun h b as hc hn => w_run_V (ci := 3) mm299 mm288 dX3_product_34 (Or.inl (List.mem_singleton.mp hc)) (Nat.le_of_ble_eq_true rfl) vc_3 rfl q2646 q2648 qs65 q150 q2649 pa288 hn)
theorem n299_37 : Snd mt G 299 37 (oConst (.int 47) 39) := w_bipush (hm := mm299) dX3_product_37 (by decide)
theorem n299_39 : Snd mt G 299 39 (oCmpEq 42 97) := w_icmp_ne (hm := mm299) dX3_product_39 rfl
theorem n299_42 : Snd mt G 299 42 (oAload 0 43) := w_aload_n (hm := mm299) dX3_product_42
theorem n299_43 : Snd mt G 299 43 (oAload 0 44) := w_aload_n (hm := mm299) dX3_product_43
theorem n299_44 : Snd mt G 299 44 (oGetf [4] 4 47) := w_getf (hm := mm299) dX3_product_44 (fok1 (k := 4) (T := TX3) 3 (Nat.le_of_ble_eq_true rfl) vc_3 (Nat.le_of_ble_eq_true rfl) q2409)
theorem n299_47 : Snd mt G 299 47 (oCall 2 (fV [4] 288 2) 0 50 xOut) := s_callV (m' := 288) (n := 1) xsh_out (w_xok0 mm299) (w_cal mm299 mm288 pn_X3 (Nat.le_of_ble_eq_true rfl) (Nat.le_of_ble_eq_true rfl)) (fun h b as hc hn => w_run_V (ci := 3) mm299 mm288 dX3_product_47 (Or.inl (List.mem_singleton.mp hc)) (Nat.le_of_ble_eq_true rfl) vc_3 rfl q2646 q2648 qs65 q150 q2649 pa288 hn)
theorem n299_50 : Snd mt G 299 50 (oIstore 2 51) := w_istore_n (hm := mm299) dX3_product_50 (Nat.le_of_ble_eq_true rfl)
theorem n299_51 : Snd mt G 299 51 (oAload 0 52) := w_aload_n (hm := mm299) dX3_product_51
theorem n299_52 : Snd mt G 299 52 (oDup 53) := w_dup (hm := mm299) dX3_product_52
theorem n299_53 : Snd mt G 299 53 (oGetf [4] 4 56) := w_getf (hm := mm299) dX3_product_53 (fok1 (k := 4) (T := TX3) 3 (Nat.le_of_ble_eq_true rfl) vc_3 (Nat.le_of_ble_eq_true rfl) q2409)
theorem n299_56 : Snd mt G 299 56 (oConst (.int 1) 57) := w_iconst (hm := mm299) dX3_product_56 rfl
theorem n299_57 : Snd mt G 299 57 (oBin (fun x y => x + y) 58) := w_iadd (hm := mm299) dX3_product_57
theorem n299_58 : Snd mt G 299 58 (oPutf [4] 4 .int 61) := w_putf (hm := mm299) dX3_product_58 (pok1 (k := 4) (T := TX3) 3 (Nat.le_of_ble_eq_true rfl) vc_3 (Nat.le_of_ble_eq_true rfl) rfl pd_X3_4 q2409)
theorem n299_61 : Snd mt G 299 61 (oAload 0 62) := w_aload_n (hm := mm299) dX3_product_61
theorem n299_62 : Snd mt G 299 62 (oCall 1 (fV [4] 300 6) 1 65 xOut) := s_callV (m' := 300) (n := 0) xsh_out (w_xok0 mm299) (w_cal mm299 mm300 pn_X3 (Nat.le_of_ble_eq_true rfl) (Nat.le_of_ble_eq_true rfl)) (fun h b as hc hn => w_run_V (ci := 3) mm299 mm300 dX3_product_62 (Or.inl (List.mem_singleton.mp hc)) (Nat.le_of_ble_eq_true rfl) vc_3 rfl q2693 q2695 qs75 q150 q2696 pa300 hn)
theorem n299_65 : Snd mt G 299 65 (oIstore 3 66) := w_istore_n (hm := mm299) dX3_product_65 (Nat.le_of_ble_eq_true rfl)
theorem n299_66 : Snd mt G 299 66 (oIload 2 67) := w_iload_n (hm := mm299) dX3_product_66
theorem n299_67 : Snd mt G 299 67 (oConst (.int 42) 69) := w_bipush (hm := mm299) dX3_product_67 (by decide)
theorem n299_69 : Snd mt G 299 69 (oCmpEq 72 78) := w_icmp_ne (hm := mm299) dX3_product_69 rfl
theorem n299_72 : Snd mt G 299 72 (oIload 1 73) := w_iload_n (hm := mm299) dX3_product_72
theorem n299_73 : Snd mt G 299 73 (oIload 3 74) := w_iload_n (hm := mm299) dX3_product_73
theorem n299_74 : Snd mt G 299 74 (oBin (fun x y => x * y) 75) := w_imul (hm := mm299) dX3_product_74
theorem n299_75 : Snd mt G 299 75 (oGoto 89) := w_goto (hm := mm299) dX3_product_75 rfl
theorem n299_78 : Snd mt G 299 78 (oIload 3 79) := w_iload_n (hm := mm299) dX3_product_78
theorem n299_79 : Snd mt G 299 79 (oIfEq 82 86) := w_if_ne (hm := mm299) dX3_product_79 rfl
theorem n299_82 : Snd mt G 299 82 (oConst (.int 0) 83) := w_iconst (hm := mm299) dX3_product_82 rfl
theorem n299_83 : Snd mt G 299 83 (oGoto 89) := w_goto (hm := mm299) dX3_product_83 rfl
theorem n299_86 : Snd mt G 299 86 (oIload 1 87) := w_iload_n (hm := mm299) dX3_product_86
theorem n299_87 : Snd mt G 299 87 (oIload 3 88) := w_iload_n (hm := mm299) dX3_product_87
theorem n299_88 : Snd mt G 299 88 (oDiv (fun x y => x / y) 89) := w_idiv (hm := mm299) dX3_product_88
theorem n299_89 : Snd mt G 299 89 (oIstore 1 90) := w_istore_n (hm := mm299) dX3_product_89 (Nat.le_of_ble_eq_true rfl)
theorem n299_90 : Snd mt G 299 90 (oAload 0 91) := w_aload_n (hm := mm299) dX3_product_90
theorem n299_91 : Snd mt G 299 91 (oCall 1 (fV [4] 287 1) 0 94 xOut) := s_callV (m' := 287) (n := 0) xsh_out (w_xok0 mm299) (w_cal mm299 mm287 pn_X3 (Nat.le_of_ble_eq_true rfl) (Nat.le_of_ble_eq_true rfl)) (fun h b as hc hn => w_run_V (ci := 3) mm299 mm287 dX3_product_91 (Or.inl (List.mem_singleton.mp hc)) (Nat.le_of_ble_eq_true rfl) vc_3 rfl q2642 q2644 qs64 q150 q2645 pa287 hn)
theorem n299_94 : Snd mt G 299 94 (oGoto 9) := w_goto (hm := mm299) dX3_product_94 rfl
theorem n299_97 : Snd mt G 299 97 (oIload 1 98) := w_iload_n (hm := mm299) dX3_product_97
theorem n299_98 : Snd mt G 299 98 (oRetI .int) := w_iret (hm := mm299) dX3_product_98 rfl
theorem sj299 : ∀ pc, Snd mt G 299 pc (j299 pc) := fun pc => (snd_br ((snd_br ((snd_br ((snd_br ((snd_br ((snd_br ((snd_lf n299_98)) ((snd_lf n299_97)))) ((snd_br ((snd_lf n299_94)) ((snd_lf n299_91)))))) ((snd_br ((snd_br ((snd_lf n299_90)) ((snd_lf n299_89)))) ((snd_lf n299_88)))))) ((snd_br ((snd_br ((snd_br ((snd_lf n299_87)) ((snd_lf n299_86)))) ((snd_br ((snd_lf n299_83)) ((snd_lf n299_82)))))) ((snd_br ((snd_br ((snd_lf n299_79)) ((snd_lf n299_78)))) ((snd_lf n299_75)))))))) ((snd_br ((snd_br ((snd_br ((snd_br ((snd_lf n299_74)) ((snd_lf n299_73)))) ((snd_br ((snd_lf n299_72)) ((snd_lf n299_69)))))) ((snd_br ((snd_br ((snd_lf n299_67)) ((snd_lf n299_66)))) ((snd_lf n299_65)))))) ((snd_br ((snd_br ((snd_br ((snd_lf n299_62)) ((snd_lf n299_61)))) ((snd_lf n299_58)))) ((snd_br ((snd_br ((snd_lf n299_57)) ((snd_lf n299_56)))) ((snd_lf n299_53)))))))))) ((snd_br ((snd_br ((snd_br ((snd_br ((snd_br ((snd_lf n299_52)) ((snd_lf n299_51)))) ((snd_br ((snd_lf n299_50)) ((snd_lf n299_47)))))) ((snd_br ((snd_br ((snd_lf n299_44)) ((snd_lf n299_43)))) ((snd_lf n299_42)))))) ((snd_br ((snd_br ((snd_br ((snd_lf n299_39)) ((snd_lf n299_37)))) ((snd_br ((snd_lf n299_34)) ((snd_lf n299_31)))))) ((snd_br ((snd_br ((snd_lf n299_30)) ((snd_lf n299_29)))) ((snd_lf n299_26)))))))) ((snd_br ((snd_br ((snd_br ((snd_br ((snd_lf n299_24)) ((snd_lf n299_21)))) ((snd_br ((snd_lf n299_18)) ((snd_lf n299_17)))))) ((snd_br ((snd_br ((snd_lf n299_16)) ((snd_lf n299_13)))) ((snd_lf n299_10)))))) ((snd_br ((snd_br ((snd_br ((snd_lf n299_9)) ((snd_lf n299_6)))) ((snd_lf n299_5)))) ((snd_br ((snd_br ((snd_lf n299_4)) ((snd_lf n299_1)))) ((snd_lf n299_0)))))))))))
end
section
variable {G : AG}
theorem n300_0 : Snd mt G 300 0 (oAload 0 1) := w_aload_n (hm := mm300) dX3_unit_0
theorem n300_1 : Snd mt G 300 1 (oGetf [4] 6 4) := w_getf (hm := mm300) dX3_unit_1 (fok1 (k := 6) (T := TX3) 3 (Nat.le_of_ble_eq_true rfl) vc_3 (Nat.le_of_ble_eq_true rfl) q2411)
theorem n300_4 : Snd mt G 300 4 (oIfEq 9 7) := w_if_eq (hm := mm300) dX3_unit_4 rfl
theorem n300_7 : Snd mt G 300 7 (oConst (.int 0) 8) := w_iconst (hm := mm300) dX3_unit_7 rfl
theorem n300_8 : Snd mt G 300 8 (oRetI .int) := w_iret (hm := mm300) dX3_unit_8 rfl
theorem n300_9 : Snd mt G 300 9 (oAload 0 10) := w_aload_n (hm := mm300) dX3_unit_9
theorem n300_10 : Snd mt G 300 10 (oCall 1 (fV [4] 287 1) 0 13 xOut) := s_callV (m' := 287) (n := 0) xsh_out (w_xok0 mm300) (w_cal mm300 mm287 pn_X3 (Nat.le_of_ble_eq_true rfl) (Nat.le_of_ble_eq_true rfl)) (fun h b as hc hn => w_run_V (ci := 3) mm300 mm287 dX3_unit_10 (Or.inl (List.mem_singleton.mp hc)) (Nat.le_of_ble_eq_true rfl) vc_3 rfl q2642 q2644 qs64 q150 q2645 pa287 hn)
theorem n300_13 : Snd mt G 300 13 (oAload 0 14) := w_aload_n (hm := mm300) dX3_unit_13
theorem n300_14 : Snd mt G 300 14 (oAload 0 15) := w_aload_n (hm := mm300) dX3_unit_14
theorem n300_15 : Snd mt G 300 15 (oGetf [4] 4 18) := w_getf (hm := mm300) dX3_unit_15 (fok1 (k := 4) (T := TX3) 3 (Nat.le_of_ble_eq_true rfl) vc_3 (Nat.le_of_ble_eq_true rfl) q2409)
theorem n300_18 : Snd mt G 300 18 (oCall 2 (fV [4] 288 2) 0 21 xOut) := s_callV (m' := 288) (n := 1) xsh_out (w_xok0 mm300) (w_cal mm300 mm288 pn_X3 (Nat.le_of_ble_eq_true rfl) (Nat.le_of_ble_eq_true rfl)) (fun h b as hc hn => w_run_V (ci := 3) mm300 mm288 dX3_unit_18 (Or.inl (List.mem_singleton.mp hc)) (Nat.le_of_ble_eq_true rfl) vc_3 rfl q2646 q2648 qs65 q150 q2649 pa288 hn)
theorem n300_21 : Snd mt G 300 21 (oCall 1 (fS 297 1) 0 24 xOut) := s_callS (m' := 297) (n := 1) xsh_out (w_xok0 mm300) (w_cal mm300 mm297 pn_X3 (Nat.le_of_ble_eq_true rfl) (Nat.le_of_ble_eq_true rfl)) (fun h as hn => w_run_S mm300 mm297 dX3_unit_21 q2681 q2682 q150 q2683 pa297 hn)
theorem n300_24 : Snd mt G 300 24 (oIfEq 37 27) := w_if_eq (hm := mm300) dX3_unit_24 rfl
theorem n300_27 : Snd mt G 300 27 (oAload 0 28) := w_aload_n (hm := mm300) dX3_unit_27
theorem n300_28 : Snd mt G 300 28 (oConst (.int 0) 29) := w_iconst (hm := mm300) dX3_unit_28 rfl
theorem n300_29 : Snd mt G 300 29 (oConst (.int 9999) 32) := w_sipush (hm := mm300) dX3_unit_29 (by decide)
theorem n300_32 : Snd mt G 300 32 (oConst (.int (-1)) 33) := w_iconst (hm := mm300) dX3_unit_32 rfl
theorem n300_33 : Snd mt G 300 33 (oCall 4 (fV [4] 296 6) 0 36 xOut) := s_callV (m' := 296) (n := 3) xsh_out (w_xok0 mm300) (w_cal mm300 mm296 pn_X3 (Nat.le_of_ble_eq_true rfl) (Nat.le_of_ble_eq_true rfl)) (fun h b as hc hn => w_run_V (ci := 3) mm300 mm296 dX3_unit_33 (Or.inl (List.mem_singleton.mp hc)) (Nat.le_of_ble_eq_true rfl) vc_3 rfl q2677 q2679 qs72 q150 q2680 pa296 hn)
theorem n300_36 : Snd mt G 300 36 (oRetI .int) := w_iret (hm := mm300) dX3_unit_36 rfl
theorem n300_37 : Snd mt G 300 37 (oAload 0 38) := w_aload_n (hm := mm300) dX3_unit_37
theorem n300_38 : Snd mt G 300 38 (oCall 1 (fV [4] 301 1) 0 41 xOut) := s_callV (m' := 301) (n := 0) xsh_out (w_xok0 mm300) (w_cal mm300 mm301 pn_X3 (Nat.le_of_ble_eq_true rfl) (Nat.le_of_ble_eq_true rfl)) (fun h b as hc hn => w_run_V (ci := 3) mm300 mm301 dX3_unit_38 (Or.inl (List.mem_singleton.mp hc)) (Nat.le_of_ble_eq_true rfl) vc_3 rfl q2697 q2699 qs76 q150 q2700 pa301 hn)
theorem n300_41 : Snd mt G 300 41 (oIstore 1 42) := w_istore_n (hm := mm300) dX3_unit_41 (Nat.le_of_ble_eq_true rfl)
theorem n300_42 : Snd mt G 300 42 (oIload 1 43) := w_iload_n (hm := mm300) dX3_unit_42
theorem n300_43 : Snd mt G 300 43 (oConst (.int (-1)) 44) := w_iconst (hm := mm300) dX3_unit_43 rfl
theorem n300_44 : Snd mt G 300 44 (oCmpEq 58 47) := w_icmp_eq (hm := mm300) dX3_unit_44 rfl
theorem n300_47 : Snd mt G 300 47 (oAload 0 48) := w_aload_n (hm := mm300) dX3_unit_47
theorem n300_48 : Snd mt G 300 48 (oCall 1 (fV [4] 295 1) 0 51 xOut) := s_callV (m' := 295) (n := 0) xsh_out (w_xok0 mm300) (w_cal mm300 mm295 pn_X3 (Nat.le_of_ble_eq_true rfl) (Nat.le_of_ble_eq_true rfl)) (fun h b as hc hn => w_run_V (ci := 3) mm300 mm295 dX3_unit_48 (Or.inl (List.mem_singleton.mp hc)) (Nat.le_of_ble_eq_true rfl) vc_3 rfl q2673 q2675 qs71 q150 q2676 pa295 hn)
theorem n300_51 : Snd mt G 300 51 (oAload 0 52) := w_aload_n (hm := mm300) dX3_unit_51
theorem n300_52 : Snd mt G 300 52 (oGetf [4] 16 55) := w_getf (hm := mm300) dX3_unit_52 (fok1 (k := 16) (T := TX3) 3 (Nat.le_of_ble_eq_true rfl) vc_3 (Nat.le_of_ble_eq_true rfl) q2421)
theorem n300_55 : Snd mt G 300 55 (oIload 1 56) := w_iload_n (hm := mm300) dX3_unit_55
theorem n300_56 : Snd mt G 300 56 (oAld [100] 57) := w_iaload (hm := mm300) (kt := 0) dX3_unit_56 at_0 (Nat.le_of_ble_eq_true rfl) (List.forall_mem_cons.mpr ⟨Or.inl rfl, (fun t ht => nomatch ht)⟩)
theorem n300_57 : Snd mt G 300 57 (oRetI .int) := w_iret (hm := mm300) dX3_unit_57 rfl
theorem n300_58 : Snd mt G 300 58 (oAload 0 59) := w_aload_n (hm := mm300) dX3_unit_58
theorem n300_59 : Snd mt G 300 59 (oConst (.int 12) 61) := w_bipush (hm := mm300) dX3_unit_59 (by decide)
theorem n300_61 : Snd mt G 300 61 (oConst (.int 5) 62) := w_iconst (hm := mm300) dX3_unit_61 rfl
theorem n300_62 : Snd mt G 300 62 (oConst (.int 1) 63) := w_iconst (hm := mm300) dX3_unit_62 rfl
theorem n300_63 : Snd mt G 300 63 (oConst (.int 19) 65) := w_bipush (hm := mm300) dX3_unit_63 (by decide)
theorem n300_65 : Snd mt G 300 65 (oConst (.int 20) 67) := w_bipush (hm := mm300) dX3_unit_65 (by decide)
theorem n300_67 : Snd mt G 300 67 (oConst (.int 0) 68) := w_iconst (hm := mm300) dX3_unit_67 rfl
theorem n300_68 : Snd mt G 300 68 (oCall 7 (fV [4] 291 7) 0 71 xOut) := s_callV (m' := 291) (n := 6) xsh_out (w_xok0 mm300) (w_cal mm300 mm291 pn_X3 (Nat.le_of_ble_eq_true rfl) (Nat.le_of_ble_eq_true rfl)) (fun h b as hc hn => w_run_V (ci := 3) mm300 mm291 dX3_unit_68 (Or.inl (List.mem_singleton.mp hc)) (Nat.le_of_ble_eq_true rfl) vc_3 rfl q2658 q2660 qs68 q150 q2661 pa291 hn)
theorem n300_71 : Snd mt G 300 71 (oIstore 2 72) := w_istore_n (hm := mm300) dX3_unit_71 (Nat.le_of_ble_eq_true rfl)
theorem n300_72 : Snd mt G 300 72 (oAload 0 73) := w_aload_n (hm := mm300) dX3_unit_72
theorem n300_73 : Snd mt G 300 73 (oConst (.int 13) 75) := w_bipush (hm := mm300) dX3_unit_73 (by decide)
theorem n300_75 : Snd mt G 300 75 (oConst (.int 15) 77) := w_bipush (hm := mm300) dX3_unit_75 (by decide)
theorem n300_77 : Snd mt G 300 77 (oConst (.int 19) 79) := w_bipush (hm := mm300) dX3_unit_77 (by decide)
theorem n300_79 : Snd mt G 300 79 (oConst (.int 20) 81) := w_bipush (hm := mm300) dX3_unit_79 (by decide)
theorem n300_81 : Snd mt G 300 81 (oConst (.int 0) 82) := w_iconst (hm := mm300) dX3_unit_81 rfl
theorem n300_82 : Snd mt G 300 82 (oConst (.int 0) 83) := w_iconst (hm := mm300) dX3_unit_82 rfl
theorem n300_83 : Snd mt G 300 83 (oCall 7 (fV [4] 291 7) 0 86 xOut) := s_callV (m' := 291) (n := 6) xsh_out (w_xok0 mm300) (w_cal mm300 mm291 pn_X3 (Nat.le_of_ble_eq_true rfl) (Nat.le_of_ble_eq_true rfl)) (fun h b as hc hn => w_run_V (ci := 3) mm300 mm291 dX3_unit_83 (Or.inl (List.mem_singleton.mp hc)) (Nat.le_of_ble_eq_true rfl) vc_3 rfl q2658 q2660 qs68 q150 q2661 pa291 hn)
theorem n300_86 : Snd mt G 300 86 (oIstore 3 87) := w_istore_n (hm := mm300) dX3_unit_86 (Nat.le_of_ble_eq_true rfl)
theorem n300_87 : Snd mt G 300 87 (oIload 2 88) := w_iload_n (hm := mm300) dX3_unit_87
theorem n300_88 : Snd mt G 300 88 (oIfEq 91 95) := w_if_ne (hm := mm300) dX3_unit_88 rfl
theorem n300_91 : Snd mt G 300 91 (oIload 3 92) := w_iload_n (hm := mm300) dX3_unit_91
theorem n300_92 : Snd mt G 300 92 (oIfEq 99 95) := w_if_eq (hm := mm300) dX3_unit_92 rfl
theorem n300_95 : Snd mt G 300 95 (oAload 0 96) := w_aload_n (hm := mm300) dX3_unit_95
theorem n300_96 : Snd mt G 300 96 (oCall 1 (fV [4] 295 1) 0 99 xOut) := s_callV (m' := 295) (n := 0) xsh_out (w_xok0 mm300) (w_cal mm300 mm295 pn_X3 (Nat.le_of_ble_eq_true rfl) (Nat.le_of_ble_eq_true rfl)) (fun h b as hc hn => w_run_V (ci := 3) mm300 mm295 dX3_unit_96 (Or.inl (List.mem_singleton.mp hc)) (Nat.le_of_ble_eq_true rfl) vc_3 rfl q2673 q2675 qs71 q150 q2676 pa295 hn)
theorem n300_99 : Snd mt G 300 99 (oAload 0 100) := w_aload_n (hm := mm300) dX3_unit_99
theorem n300_100 : Snd mt G 300 100 (oCall 1 (fV [4] 287 1) 0 103 xOut) := s_callV (m' := 287) (n := 0) xsh_out (w_xok0 mm300) (w_cal mm300 mm287 pn_X3 (Nat.le_of_ble_eq_true rfl) (Nat.le_of_ble_eq_true rfl)) (fun h b as hc hn => w_run_V (ci := 3) mm300 mm287 dX3_unit_100 (Or.inl (List.mem_singleton.mp hc)) (Nat.le_of_ble_eq_true rfl) vc_3 rfl q2642 q2644 qs64 q150 q2645 pa287 hn)
theorem n300_103 : Snd mt G 300 103 (oAload 0 104) := w_aload_n (hm := mm300) dX3_unit_103
theorem n300_104 : Snd mt G 300 104 (oAload 0 105) := w_aload_n (hm := mm300) dX3_unit_104
theorem n300_105 : Snd mt G 300 105 (oGetf [4] 4 108) := w_getf (hm := mm300) dX3_unit_105 (fok1 (k := 4) (T := TX3) 3 (Nat.le_of_ble_eq_true rfl) vc_3 (Nat.le_of_ble_eq_true rfl) q2409)
theorem n300_108 : Snd mt G 300 108 (oCall 2 (fV [4] 288 2) 0 111 xOut) := s_callV (m' := 288) (n := 1) xsh_out (w_xok0 mm300) (w_cal mm300 mm288 pn_X3 (Nat.le_of_ble_eq_true rfl) (Nat.le_of_ble_eq_true rfl)) (fun h b as hc hn => w_run_V (ci := 3) mm300 mm288 dX3_unit_108 (Or.inl (List.mem_singleton.mp hc)) (Nat.le_of_ble_eq_true rfl) vc_3 rfl q2646 q2648 qs65 q150 q2649 pa288 hn)
theorem n300_111 : Snd mt G 300 111 (oConst (.int 40) 113) := w_bipush (hm := mm300) dX3_unit_111 (by decide)
theorem n300_113 : Snd mt G 300 113 (oCmpEq 127 116) := w_icmp_eq (hm := mm300) dX3_unit_113 rfl
theorem n300_116 : Snd mt G 300 116 (oAload 0 117) := w_aload_n (hm := mm300) dX3_unit_116
theorem n300_117 : Snd mt G 300 117 (oConst (.int 1) 118) := w_iconst (hm := mm300) dX3_unit_117 rfl
theorem n300_118 : Snd mt G 300 118 (oAload 0 119) := w_aload_n (hm := mm300) dX3_unit_118
theorem n300_119 : Snd mt G 300 119 (oGetf [4] 4 122) := w_getf (hm := mm300) dX3_unit_119 (fok1 (k := 4) (T := TX3) 3 (Nat.le_of_ble_eq_true rfl) vc_3 (Nat.le_of_ble_eq_true rfl) q2409)
theorem n300_122 : Snd mt G 300 122 (oCall 3 (fV [4] 294 3) 0 125 xOut) := s_callV (m' := 294) (n := 2) xsh_out (w_xok0 mm300) (w_cal mm300 mm294 pn_X3 (Nat.le_of_ble_eq_true rfl) (Nat.le_of_ble_eq_true rfl)) (fun h b as hc hn => w_run_V (ci := 3) mm300 mm294 dX3_unit_122 (Or.inl (List.mem_singleton.mp hc)) (Nat.le_of_ble_eq_true rfl) vc_3 rfl q2669 q2671 qs70 q150 q2672 pa294 hn)
theorem n300_125 : Snd mt G 300 125 (oConst (.int 0) 126) := w_iconst (hm := mm300) dX3_unit_125 rfl
theorem n300_126 : Snd mt G 300 126 (oRetI .int) := w_iret (hm := mm300) dX3_unit_126 rfl
theorem n300_127 : Snd mt G 300 127 (oAload 0 128) := w_aload_n (hm := mm300) dX3_unit_127
theorem n300_128 : Snd mt G 300 128 (oConst (.int 1) 129) := w_iconst (hm := mm300) dX3_unit_128 rfl
theorem n300_129 : Snd mt G 300 129 (oCall 2 (fV [4] 302 2) 0 132 xOut) := s_callV (m' := 302) (n := 1) xsh_out (w_xok0 mm300) (w_cal mm300 mm302 pn_X3 (Nat.le_of_ble_eq_true rfl) (Nat.le_of_ble_eq_true rfl)) (fun h b as hc hn => w_run_V (ci := 3) mm300 mm302 dX3_unit_129 (Or.inl (List.mem_singleton.mp hc)) (Nat.le_of_ble_eq_true rfl) vc_3 rfl q2701 q2703 qs77 q150 q2704 pa302 hn)
theorem n300_132 : Snd mt G 300 132 (oAload 0 133) := w_aload_n (hm := mm300) dX3_unit_132
theorem n300_133 : Snd mt G 300 133 (oCall 1 (fV [4] 298 4) 1 136 xOut) := s_callV (m' := 298) (n := 0) xsh_out (w_xok0 mm300) (w_cal mm300 mm298 pn_X3 (Nat.le_of_ble_eq_true rfl) (Nat.le_of_ble_eq_true rfl)) (fun h b as hc hn => w_run_V (ci := 3) mm300 mm298 dX3_unit_133 (Or.inl (List.mem_singleton.mp hc)) (Nat.le_of_ble_eq_true rfl) vc_3 rfl q2685 q2687 qs73 q150 q2688 pa298 hn)
theorem n300_136 : Snd mt G 300 136 (oIstore 4 138) := w_istore (hm := mm300) dX3_unit_136 (Nat.le_of_ble_eq_true rfl)
theorem n300_138 : Snd mt G 300 138 (oIload 2 139) := w_iload_n (hm := mm300) dX3_unit_138
theorem n300_139 : Snd mt G 300 139 (oIfEq 142 146) := w_if_ne (hm := mm300) dX3_unit_139 rfl
theorem n300_142 : Snd mt G 300 142 (oIload 3 143) := w_iload_n (hm := mm300) dX3_unit_142
theorem n300_143 : Snd mt G 300 143 (oIfEq 183 146) := w_if_eq (hm := mm300) dX3_unit_143 rfl
theorem n300_146 : Snd mt G 300 146 (oAload 0 147) := w_aload_n (hm := mm300) dX3_unit_146
theorem n300_147 : Snd mt G 300 147 (oConst (.int 44) 149) := w_bipush (hm := mm300) dX3_unit_147 (by decide)
theorem n300_149 : Snd mt G 300 149 (oCall 2 (fV [4] 303 2) 0 152 xOut) := s_callV (m' := 303) (n := 1) xsh_out (w_xok0 mm300) (w_cal mm300 mm303 pn_X3 (Nat.le_of_ble_eq_true rfl) (Nat.le_of_ble_eq_true rfl)) (fun h b as hc hn => w_run_V (ci := 3) mm300 mm303 dX3_unit_149 (Or.inl (List.mem_singleton.mp hc)) (Nat.le_of_ble_eq_true rfl) vc_3 rfl q2705 q2707 qs78 q150 q2708 pa303 hn)
theorem n300_152 : Snd mt G 300 152 (oAload 0 153) := w_aload_n (hm := mm300) dX3_unit_152
theorem n300_153 : Snd mt G 300 153 (oCall 1 (fV [4] 298 4) 1 156 xOut) := s_callV (m' := 298) (n := 0) xsh_out (w_xok0 mm300) (w_cal mm300 mm298 pn_X3 (Nat.le_of_ble_eq_true rfl) (Nat.le_of_ble_eq_true rfl)) (fun h b as hc hn => w_run_V (ci := 3) mm300 mm298 dX3_unit_153 (Or.inl (List.mem_singleton.mp hc)) (Nat.le_of_ble_eq_true rfl) vc_3 rfl q2685 q2687 qs73 q150 q2688 pa298 hn)
theorem n300_156 : Snd mt G 300 156 (oIstore 5 158) := w_istore (hm := mm300) dX3_unit_156 (Nat.le_of_ble_eq_true rfl)
theorem n300_158 : Snd mt G 300 158 (oIload 2 159) := w_iload_n (hm := mm300) dX3_unit_158
theorem n300_159 : Snd mt G 300 159 (oIload 5 161) := w_iload (hm := mm300) dX3_unit_159
theorem n300_161 : Snd mt G 300 161 (oIload 4 163) := w_iload (hm := mm300) dX3_unit_161
theorem n300_163 : Snd mt G 300 163 (oCmpGe 170 166) := w_icmp_ge (hm := mm300) dX3_unit_163 rfl
theorem n300_166 : Snd mt G 300 166 (oConst (.int 1) 167) := w_iconst (hm := mm300) dX3_unit_166 rfl
theorem n300_167 : Snd mt G 300 167 (oGoto 171) := w_goto (hm := mm300) dX3_unit_167 rfl
theorem n300_170 : Snd mt G 300 170 (oConst (.int 0) 171) := w_iconst (hm := mm300) dX3_unit_170 rfl
theorem n300_171 : Snd mt G 300 171 (oCmpEq 174 179) := w_icmp_ne (hm := mm300) dX3_unit_171 rfl
theorem n300_174 : Snd mt G 300 174 (oIload 5 176) := w_iload (hm := mm300) dX3_unit_174
theorem n300_176 : Snd mt G 300 176 (oGoto 181) := w_goto (hm := mm300) dX3_unit_176 rfl
theorem n300_179 : Snd mt G 300 179 (oIload 4 181) := w_iload (hm := mm300) dX3_unit_179
theorem n300_181 : Snd mt G 300 181 (oIstore 4 183) := w_istore (hm := mm300) dX3_unit_181 (Nat.le_of_ble_eq_true rfl)
theorem n300_183 : Snd mt G 300 183 (oAload 0 184) := w_aload_n (hm := mm300) dX3_unit_183
theorem n300_184 : Snd mt G 300 184 (oConst (.int 41) 186) := w_bipush (hm := mm300) dX3_unit_184 (by decide)
theorem n300_186 : Snd mt G 300 186 (oCall 2 (fV [4] 303 2) 0 189 xOut) := s_callV (m' := 303) (n := 1) xsh_out (w_xok0 mm300) (w_cal mm300 mm303 pn_X3 (Nat.le_of_ble_eq_true rfl) (Nat.le_of_ble_eq_true rfl)) (fun h b as hc hn => w_run_V (ci := 3) mm300 mm303 dX3_unit_186 (Or.inl (List.mem_singleton.mp hc)) (Nat.le_of_ble_eq_true rfl) vc_3 rfl q2705 q2707 qs78 q150 q2708 pa303 hn)
theorem n300_189 : Snd mt G 300 189 (oAload 0 190) := w_aload_n (hm := mm300) dX3_unit_189
theorem n300_190 : Snd mt G 300 190 (oDup 191) := w_dup (hm := mm300) dX3_unit_190
theorem n300_191 : Snd mt G 300 191 (oGetf [4] 5 194) := w_getf (hm := mm300) dX3_unit_191 (fok1 (k := 5) (T := TX3) 3 (Nat.le_of_ble_eq_true rfl) vc_3 (Nat.le_of_ble_eq_true rfl) q2410)
theorem n300_194 : Snd mt G 300 194 (oConst (.int 1) 195) := w_iconst (hm := mm300) dX3_unit_194 rfl
theorem n300_195 : Snd mt G 300 195 (oBin (fun x y => x - y) 196) := w_isub (hm := mm300) dX3_unit_195
theorem n300_196 : Snd mt G 300 196 (oPutf [4] 5 .int 199) := w_putf (hm := mm300) dX3_unit_196 (pok1 (k := 5) (T := TX3) 3 (Nat.le_of_ble_eq_true rfl) vc_3 (Nat.le_of_ble_eq_true rfl) rfl pd_X3_5 q2410)
theorem n300_199 : Snd mt G 300 199 (oIload 4 201) := w_iload (hm := mm300) dX3_unit_199
theorem n300_201 : Snd mt G 300 201 (oRetI .int) := w_iret (hm := mm300) dX3_unit_201 rfl
theorem sj300 : ∀ pc, Snd mt G 300 pc (j300 pc) := fun pc => (snd_br ((snd_br ((snd_br ((snd_br ((snd_br ((snd_br ((snd_br ((snd_lf n300_201)) ((snd_lf n300_199)))) ((snd_br ((snd_lf n300_196)) ((snd_lf n300_195)))))) ((snd_br ((snd_br ((snd_lf n300_194)) ((snd_lf n300_191)))) ((snd_lf n300_190)))))) ((snd_br ((snd_br ((snd_br ((snd_lf n300_189)) ((snd_lf n300_186)))) ((snd_br ((snd_lf n300_184)) ((snd_lf n300_183)))))) ((snd_br ((snd_br ((snd_lf n300_181)) ((snd_lf n300_179)))) ((snd_lf n300_176)))))))) ((snd_br ((snd_br ((snd_br ((snd_br ((snd_lf n300_174)) ((snd_lf n300_171)))) ((snd_br ((snd_lf n300_170)) ((snd_lf n300_167)))))) ((snd_br ((snd_br ((snd_lf n300_166)) ((snd_lf n300_163)))) ((snd_lf n300_161)))))) ((snd_br ((snd_br ((snd_br ((snd_lf n300_159)) ((snd_lf n300_158)))) ((snd_br ((snd_lf n300_156)) ((snd_lf n300_153)))))) ((snd_br ((snd_br ((snd_lf n300_152)) ((snd_lf n300_149)))) ((snd_lf n300_147)))))))))) ((snd_br ((snd_br ((snd_br ((snd_br ((snd_br ((snd_lf n300_146)) ((snd_lf n300_143)))) ((snd_br ((snd_lf n300_142)) ((snd_lf n300_139)))))) ((snd_br ((snd_br ((snd_lf n300_138)) ((snd_lf n300_136)))) ((snd_lf n300_133)))))) ((snd_br ((snd_br ((snd_br ((snd_lf n300_132)) ((snd_lf n300_129)))) ((snd_br ((snd_lf n300_128)) ((snd_lf n300_127)))))) ((snd_br ((snd_br ((snd_lf n300_126)) ((snd_lf n300_125)))) ((snd_lf n300_122)))))))) ((snd_br ((snd_br ((snd_br ((snd_br ((snd_lf n300_119)) ((snd_lf n300_118)))) ((snd_br ((snd_lf n300_117)) ((snd_lf n300_116)))))) ((snd_br ((snd_br ((snd_lf n300_113)) ((snd_lf n300_111)))) ((snd_lf n300_108)))))) ((snd_br ((snd_br ((snd_br ((snd_lf n300_105)) ((snd_lf n300_104)))) ((snd_lf n300_103)))) ((snd_br ((snd_br ((snd_lf n300_100)) ((snd_lf n300_99)))) ((snd_lf n300_96)))))))))))) ((snd_br ((snd_br ((snd_br ((snd_br ((snd_br ((snd_br ((snd_lf n300_95)) ((snd_lf n300_92)))) ((snd_br ((snd_lf n300_91)) ((snd_lf n300_88)))))) ((snd_br ((snd_br ((snd_lf n300_87)) ((snd_lf n300_86)))) ((snd_lf n300_83)))))) ((snd_br ((snd_br ((snd_br ((snd_lf n300_82)) ((snd_lf n300_81)))) ((snd_br ((snd_lf n300_79)) ((snd_lf n300_77)))))) ((snd_br ((snd_br ((snd_lf n300_75)) ((snd_lf n300_73)))) ((snd_lf n300_72)))))))) ((snd_br ((snd_br ((snd_br ((snd_br ((snd_lf n300_71)) ((snd_lf n300_68)))) ((snd_br ((snd_lf n300_67)) ((snd_lf n300_65)))))) ((snd_br ((snd_br ((snd_lf n300_63)) ((snd_lf n300_62)))) ((snd_lf n300_61)))))) ((snd_br ((snd_br ((snd_br ((snd_lf n300_59)) ((snd_lf n300_58)))) ((snd_br ((snd_lf n300_57)) ((snd_lf n300_56)))))) ((snd_br ((snd_br ((snd_lf n300_55)) ((snd_lf n300_52)))) ((snd_lf n300_51)))))))))) ((snd_br ((snd_br ((snd_br ((snd_br ((snd_br ((snd_lf n300_48)) ((snd_lf n300_47)))) ((snd_br ((snd_lf n300_44)) ((snd_lf n300_43)))))) ((snd_br ((snd_br ((snd_lf n300_42)) ((snd_lf n300_41)))) ((snd_lf n300_38)))))) ((snd_br ((snd_br ((snd_br ((snd_lf n300_37)) ((snd_lf n300_36)))) ((snd_br ((snd_lf n300_33)) ((snd_lf n300_32)))))) ((snd_br ((snd_br ((snd_lf n300_29)) ((snd_lf n300_28)))) ((snd_lf n300_27)))))))) ((snd_br ((snd_br ((snd_br ((snd_br ((snd_lf n300_24)) ((snd_lf n300_21)))) ((snd_br ((snd_lf n300_18)) ((snd_lf n300_15)))))) ((snd_br ((snd_br ((snd_lf n300_14)) ((snd_lf n300_13)))) ((snd_lf n300_10)))))) ((snd_br ((snd_br ((snd_br ((snd_lf n300_9)) ((snd_lf n300_8)))) ((snd_lf n300_7)))) ((snd_br ((snd_br ((snd_lf n300_4)) ((snd_lf n300_1)))) ((snd_lf n300_0)))))))))))))
end
section
variable {G : AG}
theorem n301_0 : Snd mt G 301 0 (oAload 0 1) := w_aload_n (hm := mm301) dX3_nameHere_0
theorem n301_1 : Snd mt G 301 1 (oConst (.int 23) 3) := w_bipush (hm := mm301) dX3_nameHere_1 (by decide)
theorem n301_3 : Snd mt G 301 3 (oConst (.int 5) 4) := w_iconst (hm := mm301) dX3_nameHere_3 rfl
theorem n301_4 : Snd mt G 301 4 (oConst (.int 9) 6) := w_bipush (hm := mm301) dX3_nameHere_4 (by decide)
theorem n301_6 : Snd mt G 301 6 (oConst (.int 7) 8) := w_bipush (hm := mm301) dX3_nameHere_6 (by decide)
theorem n301_8 : Snd mt G 301 8 (oConst (.int 8) 10) := w_bipush (hm := mm301) dX3_nameHere_8 (by decide)
theorem n301_10 : Snd mt G 301 10 (oConst (.int 20) 12) := w_bipush (hm := mm301) dX3_nameHere_10 (by decide)
theorem n301_12 : Snd mt G 301 12 (oCall 7 (fV [4] 291 7) 0 15 xOut) := s_callV (m' := 291) (n := 6) xsh_out (w_xok0 mm301) (w_cal mm301 mm291 pn_X3 (Nat.le_of_ble_eq_true rfl) (Nat.le_of_ble_eq_true rfl)) (fun h b as hc hn => w_run_V (ci := 3) mm301 mm291 dX3_nameHere_12 (Or.inl (List.mem_singleton.mp hc)) (Nat.le_of_ble_eq_true rfl) vc_3 rfl q2658 q2660 qs68 q150 q2661 pa291 hn)
theorem n301_15 : Snd mt G 301 15 (oIfEq 20 18) := w_if_eq (hm := mm301) dX3_nameHere_15 rfl
theorem n301_18 : Snd mt G 301 18 (oConst (.int 0) 19) := w_iconst (hm := mm301) dX3_nameHere_18 rfl
theorem n301_19 : Snd mt G 301 19 (oRetI .int) := w_iret (hm := mm301) dX3_nameHere_19 rfl
theorem n301_20 : Snd mt G 301 20 (oAload 0 21) := w_aload_n (hm := mm301) dX3_nameHere_20
theorem n301_21 : Snd mt G 301 21 (oConst (.int 20) 23) := w_bipush (hm := mm301) dX3_nameHere_21 (by decide)
theorem n301_23 : Snd mt G 301 23 (oConst (.int 18) 25) := w_bipush (hm := mm301) dX3_nameHere_23 (by decide)
theorem n301_25 : Snd mt G 301 25 (oConst (.int 1) 26) := w_iconst (hm := mm301) dX3_nameHere_25 rfl
theorem n301_26 : Snd mt G 301 26 (oConst (.int 4) 27) := w_iconst (hm := mm301) dX3_nameHere_26 rfl
theorem n301_27 : Snd mt G 301 27 (oConst (.int 5) 28) := w_iconst (hm := mm301) dX3_nameHere_27 rfl
theorem n301_28 : Snd mt G 301 28 (oConst (.int 0) 29) := w_iconst (hm := mm301) dX3_nameHere_28 rfl
theorem n301_29 : Snd mt G 301 29 (oCall 7 (fV [4] 291 7) 0 32 xOut) := s_callV (m' := 291) (n := 6) xsh_out (w_xok0 mm301) (w_cal mm301 mm291 pn_X3 (Nat.le_of_ble_eq_true rfl) (Nat.le_of_ble_eq_true rfl)) (fun h b as hc hn => w_run_V (ci := 3) mm301 mm291 dX3_nameHere_29 (Or.inl (List.mem_singleton.mp hc)) (Nat.le_of_ble_eq_true rfl) vc_3 rfl q2658 q2660 qs68 q150 q2661 pa291 hn)
theorem n301_32 : Snd mt G 301 32 (oIfEq 37 35) := w_if_eq (hm := mm301) dX3_nameHere_32 rfl
theorem n301_35 : Snd mt G 301 35 (oConst (.int 1) 36) := w_iconst (hm := mm301) dX3_nameHere_35 rfl
theorem n301_36 : Snd mt G 301 36 (oRetI .int) := w_iret (hm := mm301) dX3_nameHere_36 rfl
theorem n301_37 : Snd mt G 301 37 (oAload 0 38) := w_aload_n (hm := mm301) dX3_nameHere_37
theorem n301_38 : Snd mt G 301 38 (oConst (.int 1) 39) := w_iconst (hm := mm301) dX3_nameHere_38 rfl
theorem n301_39 : Snd mt G 301 39 (oConst (.int 7) 41) := w_bipush (hm := mm301) dX3_nameHere_39 (by decide)
theorem n301_41 : Snd mt G 301 41 (oConst (.int 5) 42) := w_iconst (hm := mm301) dX3_nameHere_41 rfl
theorem n301_42 : Snd mt G 301 42 (oConst (.int 0) 43) := w_iconst (hm := mm301) dX3_nameHere_42 rfl
theorem n301_43 : Snd mt G 301 43 (oConst (.int 0) 44) := w_iconst (hm := mm301) dX3_nameHere_43 rfl
theorem n301_44 : Snd mt G 301 44 (oConst (.int 0) 45) := w_iconst (hm := mm301) dX3_nameHere_44 rfl
theorem n301_45 : Snd mt G 301 45 (oCall 7 (fV [4] 291 7) 0 48 xOut) := s_callV (m' := 291) (n := 6) xsh_out (w_xok0 mm301) (w_cal mm301 mm291 pn_X3 (Nat.le_of_ble_eq_true rfl) (Nat.le_of_ble_eq_true rfl)) (fun h b as hc hn => w_run_V (ci := 3) mm301 mm291 dX3_nameHere_45 (Or.inl (List.mem_singleton.mp hc)) (Nat.le_of_ble_eq_true rfl) vc_3 rfl q2658 q2660 qs68 q150 q2661 pa291 hn)
theorem n301_48 : Snd mt G 301 48 (oIfEq 53 51) := w_if_eq (hm := mm301) dX3_nameHere_48 rfl
theorem n301_51 : Snd mt G 301 51 (oConst (.int 2) 52) := w_iconst (hm := mm301) dX3_nameHere_51 rfl
theorem n301_52 : Snd mt G 301 52 (oRetI .int) := w_iret (hm := mm301) dX3_nameHere_52 rfl
theorem n301_53 : Snd mt G 301 53 (oAload 0 54) := w_aload_n (hm := mm301) dX3_nameHere_53
theorem n301_54 : Snd mt G 301 54 (oConst (.int 8) 56) := w_bipush (hm := mm301) dX3_nameHere_54 (by decide)
theorem n301_56 : Snd mt G 301 56 (oConst (.int 9) 58) := w_bipush (hm := mm301) dX3_nameHere_56 (by decide)
theorem n301_58 : Snd mt G 301 58 (oConst (.int 12) 60) := w_bipush (hm := mm301) dX3_nameHere_58 (by decide)
theorem n301_60 : Snd mt G 301 60 (oConst (.int 12) 62) := w_bipush (hm := mm301) dX3_nameHere_60 (by decide)
theorem n301_62 : Snd mt G 301 62 (oConst (.int 0) 63) := w_iconst (hm := mm301) dX3_nameHere_62 rfl
theorem n301_63 : Snd mt G 301 63 (oConst (.int 0) 64) := w_iconst (hm := mm301) dX3_nameHere_63 rfl
theorem n301_64 : Snd mt G 301 64 (oCall 7 (fV [4] 291 7) 0 67 xOut) := s_callV (m' := 291) (n := 6) xsh_out (w_xok0 mm301) (w_cal mm301 mm291 pn_X3 (Nat.le_of_ble_eq_true rfl) (Nat.le_of_ble_eq_true rfl)) (fun h b as hc hn => w_run_V (ci := 3) mm301 mm291 dX3_nameHere_64 (Or.inl (List.mem_singleton.mp hc)) (Nat.le_of_ble_eq_true rfl) vc_3 rfl q2658 q2660 qs68 q150 q2661 pa291 hn)
theorem n301_67 : Snd mt G 301 67 (oIfEq 72 70) := w_if_eq (hm := mm301) dX3_nameHere_67 rfl
theorem n301_70 : Snd mt G 301 70 (oConst (.int 3) 71) := w_iconst (hm := mm301) dX3_nameHere_70 rfl
theorem n301_71 : Snd mt G 301 71 (oRetI .int) := w_iret (hm := mm301) dX3_nameHere_71 rfl
theorem n301_72 : Snd mt G 301 72 (oAload 0 73) := w_aload_n (hm := mm301) dX3_nameHere_72
theorem n301_73 : Snd mt G 301 73 (oConst (.int 19) 75) := w_bipush (hm := mm301) dX3_nameHere_73 (by decide)
theorem n301_75 : Snd mt G 301 75 (oConst (.int 20) 77) := w_bipush (hm := mm301) dX3_nameHere_75 (by decide)
theorem n301_77 : Snd mt G 301 77 (oConst (.int 5) 78) := w_iconst (hm := mm301) dX3_nameHere_77 rfl
theorem n301_78 : Snd mt G 301 78 (oConst (.int 16) 80) := w_bipush (hm := mm301) dX3_nameHere_78 (by decide)
theorem n301_80 : Snd mt G 301 80 (oConst (.int 19) 82) := w_bipush (hm := mm301) dX3_nameHere_80 (by decide)
theorem n301_82 : Snd mt G 301 82 (oConst (.int 0) 83) := w_iconst (hm := mm301) dX3_nameHere_82 rfl
theorem n301_83 : Snd mt G 301 83 (oCall 7 (fV [4] 291 7) 0 86 xOut) := s_callV (m' := 291) (n := 6) xsh_out (w_xok0 mm301) (w_cal mm301 mm291 pn_X3 (Nat.le_of_ble_eq_true rfl) (Nat.le_of_ble_eq_true rfl)) (fun h b as hc hn => w_run_V (ci := 3) mm301 mm291 dX3_nameHere_83 (Or.inl (List.mem_singleton.mp hc)) (Nat.le_of_ble_eq_true rfl) vc_3 rfl q2658 q2660 qs68 q150 q2661 pa291 hn)
theorem n301_86 : Snd mt G 301 86 (oIfEq 91 89) := w_if_eq (hm := mm301) dX3_nameHere_86 rfl
theorem n301_89 : Snd mt G 301 89 (oConst (.int 4) 90) := w_iconst (hm := mm301) dX3_nameHere_89 rfl
theorem n301_90 : Snd mt G 301 90 (oRetI .int) := w_iret (hm := mm301) dX3_nameHere_90 rfl
theorem n301_91 : Snd mt G 301 91 (oAload 0 92) := w_aload_n (hm := mm301) dX3_nameHere_91
theorem n301_92 : Snd mt G 301 92 (oConst (.int 19) 94) := w_bipush (hm := mm301) dX3_nameHere_92 (by decide)
theorem n301_94 : Snd mt G 301 94 (oConst (.int 16) 96) := w_bipush (hm := mm301) dX3_nameHere_94 (by decide)
theorem n301_96 : Snd mt G 301 96 (oConst (.int 5) 97) := w_iconst (hm := mm301) dX3_nameHere_96 rfl
theorem n301_97 : Snd mt G 301 97 (oConst (.int 14) 99) := w_bipush (hm := mm301) dX3_nameHere_97 (by decide)
theorem n301_99 : Snd mt G 301 99 (oConst (.int 20) 101) := w_bipush (hm := mm301) dX3_nameHere_99 (by decide)
theorem n301_101 : Snd mt G 301 101 (oConst (.int 0) 102) := w_iconst (hm := mm301) dX3_nameHere_101 rfl
theorem n301_102 : Snd mt G 301 102 (oCall 7 (fV [4] 291 7) 0 105 xOut) := s_callV (m' := 291) (n := 6) xsh_out (w_xok0 mm301) (w_cal mm301 mm291 pn_X3 (Nat.le_of_ble_eq_true rfl) (Nat.le_of_ble_eq_true rfl)) (fun h b as hc hn => w_run_V (ci := 3) mm301 mm291 dX3_nameHere_102 (Or.inl (List.mem_singleton.mp hc)) (Nat.le_of_ble_eq_true rfl) vc_3 rfl q2658 q2660 qs68 q150 q2661 pa291 hn)
theorem n301_105 : Snd mt G 301 105 (oIfEq 112 108) := w_if_eq (hm := mm301) dX3_nameHere_105 rfl
theorem n301_108 : Snd mt G 301 108 (oConst (.int 5) 109) := w_iconst (hm := mm301) dX3_nameHere_108 rfl
theorem n301_109 : Snd mt G 301 109 (oGoto 113) := w_goto (hm := mm301) dX3_nameHere_109 rfl
theorem n301_112 : Snd mt G 301 112 (oConst (.int (-1)) 113) := w_iconst (hm := mm301) dX3_nameHere_112 rfl
theorem n301_113 : Snd mt G 301 113 (oRetI .int) := w_iret (hm := mm301) dX3_nameHere_113 rfl
theorem sj301 : ∀ pc, Snd mt G 301 pc (j301 pc) := fun pc => (snd_br ((snd_br ((snd_br ((snd_br ((snd_br ((snd_br ((snd_br ((snd_lf n301_113)) ((snd_lf n301_112)))) ((snd_lf n301_109)))) ((snd_br ((snd_lf n301_108)) ((snd_lf n301_105)))))) ((snd_br ((snd_br ((snd_lf n301_102)) ((snd_lf n301_101)))) ((snd_br ((snd_lf n301_99)) ((snd_lf n301_97)))))))) ((snd_br ((snd_br ((snd_br ((snd_lf n301_96)) ((snd_lf n301_94)))) ((snd_br ((snd_lf n301_92)) ((snd_lf n301_91)))))) ((snd_br ((snd_br ((snd_lf n301_90)) ((snd_lf n301_89)))) ((snd_br ((snd_lf n301_86)) ((snd_lf n301_83)))))))))) ((snd_br ((snd_br ((snd_br ((snd_br ((snd_br ((snd_lf n301_82)) ((snd_lf n301_80)))) ((snd_lf n301_78)))) ((snd_br ((snd_lf n301_77)) ((snd_lf n301_75)))))) ((snd_br ((snd_br ((snd_lf n301_73)) ((snd_lf n301_72)))) ((snd_br ((snd_lf n301_71)) ((snd_lf n301_70)))))))) ((snd_br ((snd_br ((snd_br ((snd_lf n301_67)) ((snd_lf n301_64)))) ((snd_br ((snd_lf n301_63)) ((snd_lf n301_62)))))) ((snd_br ((snd_br ((snd_lf n301_60)) ((snd_lf n301_58)))) ((snd_br ((snd_lf n301_56)) ((snd_lf n301_54)))))))))))) ((snd_br ((snd_br ((snd_br ((snd_br ((snd_br ((snd_br ((snd_lf n301_53)) ((snd_lf n301_52)))) ((snd_lf n301_51)))) ((snd_br ((snd_lf n301_48)) ((snd_lf n301_45)))))) ((snd_br ((snd_br ((snd_lf n301_44)) ((snd_lf n301_43)))) ((snd_br ((snd_lf n301_42)) ((snd_lf n301_41)))))))) ((snd_br ((snd_br ((snd_br ((snd_lf n301_39)) ((snd_lf n301_38)))) ((snd_br ((snd_lf n301_37)) ((snd_lf n301_36)))))) ((snd_br ((snd_br ((snd_lf n301_35)) ((snd_lf n301_32)))) ((snd_br ((snd_lf n301_29)) ((snd_lf n301_28)))))))))) ((snd_br ((snd_br ((snd_br ((snd_br ((snd_br ((snd_lf n301_27)) ((snd_lf n301_26)))) ((snd_lf n301_25)))) ((snd_br ((snd_lf n301_23)) ((snd_lf n301_21)))))) ((snd_br ((snd_br ((snd_lf n301_20)) ((snd_lf n301_19)))) ((snd_br ((snd_lf n301_18)) ((snd_lf n301_15)))))))) ((snd_br ((snd_br ((snd_br ((snd_lf n301_12)) ((snd_lf n301_10)))) ((snd_br ((snd_lf n301_8)) ((snd_lf n301_6)))))) ((snd_br ((snd_br ((snd_lf n301_4)) ((snd_lf n301_3)))) ((snd_br ((snd_lf n301_1)) ((snd_lf n301_0)))))))))))))
end
section
variable {G : AG}
theorem n302_0 : Snd mt G 302 0 (oAload 0 1) := w_aload_n (hm := mm302) dX3_opensText_0
theorem n302_1 : Snd mt G 302 1 (oGetf [4] 5 4) := w_getf (hm := mm302) dX3_opensText_1 (fok1 (k := 5) (T := TX3) 3 (Nat.le_of_ble_eq_true rfl) vc_3 (Nat.le_of_ble_eq_true rfl) q2410)
theorem n302_4 : Snd mt G 302 4 (oConst (.int 6) 6) := w_bipush (hm := mm302) dX3_opensText_4 (by decide)
theorem n302_6 : Snd mt G 302 6 (oCmpEq 9 18) := w_icmp_ne (hm := mm302) dX3_opensText_6 rfl
theorem n302_9 : Snd mt G 302 9 (oAload 0 10) := w_aload_n (hm := mm302) dX3_opensText_9
theorem n302_10 : Snd mt G 302 10 (oConst (.int 3) 11) := w_iconst (hm := mm302) dX3_opensText_10 rfl
theorem n302_11 : Snd mt G 302 11 (oAload 0 12) := w_aload_n (hm := mm302) dX3_opensText_11
theorem n302_12 : Snd mt G 302 12 (oGetf [4] 4 15) := w_getf (hm := mm302) dX3_opensText_12 (fok1 (k := 4) (T := TX3) 3 (Nat.le_of_ble_eq_true rfl) vc_3 (Nat.le_of_ble_eq_true rfl) q2409)
theorem n302_15 : Snd mt G 302 15 (oCall 3 (fV [4] 294 3) 0 18 xOut) := s_callV (m' := 294) (n := 2) xsh_out (w_xok0 mm302) (w_cal mm302 mm294 pn_X3 (Nat.le_of_ble_eq_true rfl) (Nat.le_of_ble_eq_true rfl)) (fun h b as hc hn => w_run_V (ci := 3) mm302 mm294 dX3_opensText_15 (Or.inl (List.mem_singleton.mp hc)) (Nat.le_of_ble_eq_true rfl) vc_3 rfl q2669 q2671 qs70 q150 q2672 pa294 hn)
theorem n302_18 : Snd mt G 302 18 (oAload 0 19) := w_aload_n (hm := mm302) dX3_opensText_18
theorem n302_19 : Snd mt G 302 19 (oDup 20) := w_dup (hm := mm302) dX3_opensText_19
theorem n302_20 : Snd mt G 302 20 (oGetf [4] 5 23) := w_getf (hm := mm302) dX3_opensText_20 (fok1 (k := 5) (T := TX3) 3 (Nat.le_of_ble_eq_true rfl) vc_3 (Nat.le_of_ble_eq_true rfl) q2410)
theorem n302_23 : Snd mt G 302 23 (oConst (.int 1) 24) := w_iconst (hm := mm302) dX3_opensText_23 rfl
theorem n302_24 : Snd mt G 302 24 (oBin (fun x y => x + y) 25) := w_iadd (hm := mm302) dX3_opensText_24
theorem n302_25 : Snd mt G 302 25 (oPutf [4] 5 .int 28) := w_putf (hm := mm302) dX3_opensText_25 (pok1 (k := 5) (T := TX3) 3 (Nat.le_of_ble_eq_true rfl) vc_3 (Nat.le_of_ble_eq_true rfl) rfl pd_X3_5 q2410)
theorem n302_28 : Snd mt G 302 28 (oAload 0 29) := w_aload_n (hm := mm302) dX3_opensText_28
theorem n302_29 : Snd mt G 302 29 (oDup 30) := w_dup (hm := mm302) dX3_opensText_29
theorem n302_30 : Snd mt G 302 30 (oGetf [4] 4 33) := w_getf (hm := mm302) dX3_opensText_30 (fok1 (k := 4) (T := TX3) 3 (Nat.le_of_ble_eq_true rfl) vc_3 (Nat.le_of_ble_eq_true rfl) q2409)
theorem n302_33 : Snd mt G 302 33 (oIload 1 34) := w_iload_n (hm := mm302) dX3_opensText_33
theorem n302_34 : Snd mt G 302 34 (oBin (fun x y => x + y) 35) := w_iadd (hm := mm302) dX3_opensText_34
theorem n302_35 : Snd mt G 302 35 (oPutf [4] 4 .int 38) := w_putf (hm := mm302) dX3_opensText_35 (pok1 (k := 4) (T := TX3) 3 (Nat.le_of_ble_eq_true rfl) vc_3 (Nat.le_of_ble_eq_true rfl) rfl pd_X3_4 q2409)
theorem n302_38 : Snd mt G 302 38 (oRetV) := w_vret (hm := mm302) dX3_opensText_38 rfl
theorem sj302 : ∀ pc, Snd mt G 302 pc (j302 pc) := fun pc => (snd_br ((snd_br ((snd_br ((snd_br ((snd_br ((snd_lf n302_38)) ((snd_lf n302_35)))) ((snd_lf n302_34)))) ((snd_br ((snd_br ((snd_lf n302_33)) ((snd_lf n302_30)))) ((snd_lf n302_29)))))) ((snd_br ((snd_br ((snd_br ((snd_lf n302_28)) ((snd_lf n302_25)))) ((snd_lf n302_24)))) ((snd_br ((snd_lf n302_23)) ((snd_lf n302_20)))))))) ((snd_br ((snd_br ((snd_br ((snd_br ((snd_lf n302_19)) ((snd_lf n302_18)))) ((snd_lf n302_15)))) ((snd_br ((snd_br ((snd_lf n302_12)) ((snd_lf n302_11)))) ((snd_lf n302_10)))))) ((snd_br ((snd_br ((snd_br ((snd_lf n302_9)) ((snd_lf n302_6)))) ((snd_lf n302_4)))) ((snd_br ((snd_lf n302_1)) ((snd_lf n302_0)))))))))
end
section
variable {G : AG}
theorem n303_0 : Snd mt G 303 0 (oAload 0 1) := w_aload_n (hm := mm303) dX3_sign_0
theorem n303_1 : Snd mt G 303 1 (oGetf [4] 6 4) := w_getf (hm := mm303) dX3_sign_1 (fok1 (k := 6) (T := TX3) 3 (Nat.le_of_ble_eq_true rfl) vc_3 (Nat.le_of_ble_eq_true rfl) q2411)
theorem n303_4 : Snd mt G 303 4 (oIfEq 8 7) := w_if_eq (hm := mm303) dX3_sign_4 rfl
theorem n303_7 : Snd mt G 303 7 (oRetV) := w_vret (hm := mm303) dX3_sign_7 rfl
theorem n303_8 : Snd mt G 303 8 (oAload 0 9) := w_aload_n (hm := mm303) dX3_sign_8
theorem n303_9 : Snd mt G 303 9 (oCall 1 (fV [4] 287 1) 0 12 xOut) := s_callV (m' := 287) (n := 0) xsh_out (w_xok0 mm303) (w_cal mm303 mm287 pn_X3 (Nat.le_of_ble_eq_true rfl) (Nat.le_of_ble_eq_true rfl)) (fun h b as hc hn => w_run_V (ci := 3) mm303 mm287 dX3_sign_9 (Or.inl (List.mem_singleton.mp hc)) (Nat.le_of_ble_eq_true rfl) vc_3 rfl q2642 q2644 qs64 q150 q2645 pa287 hn)
theorem n303_12 : Snd mt G 303 12 (oAload 0 13) := w_aload_n (hm := mm303) dX3_sign_12
theorem n303_13 : Snd mt G 303 13 (oAload 0 14) := w_aload_n (hm := mm303) dX3_sign_13
theorem n303_14 : Snd mt G 303 14 (oGetf [4] 4 17) := w_getf (hm := mm303) dX3_sign_14 (fok1 (k := 4) (T := TX3) 3 (Nat.le_of_ble_eq_true rfl) vc_3 (Nat.le_of_ble_eq_true rfl) q2409)
theorem n303_17 : Snd mt G 303 17 (oCall 2 (fV [4] 288 2) 0 20 xOut) := s_callV (m' := 288) (n := 1) xsh_out (w_xok0 mm303) (w_cal mm303 mm288 pn_X3 (Nat.le_of_ble_eq_true rfl) (Nat.le_of_ble_eq_true rfl)) (fun h b as hc hn => w_run_V (ci := 3) mm303 mm288 dX3_sign_17 (Or.inl (List.mem_singleton.mp hc)) (Nat.le_of_ble_eq_true rfl) vc_3 rfl q2646 q2648 qs65 q150 q2649 pa288 hn)
theorem n303_20 : Snd mt G 303 20 (oIload 1 21) := w_iload_n (hm := mm303) dX3_sign_20
theorem n303_21 : Snd mt G 303 21 (oCmpEq 24 37) := w_icmp_ne (hm := mm303) dX3_sign_21 rfl
theorem n303_24 : Snd mt G 303 24 (oAload 0 25) := w_aload_n (hm := mm303) dX3_sign_24
theorem n303_25 : Snd mt G 303 25 (oDup 26) := w_dup (hm := mm303) dX3_sign_25
theorem n303_26 : Snd mt G 303 26 (oGetf [4] 4 29) := w_getf (hm := mm303) dX3_sign_26 (fok1 (k := 4) (T := TX3) 3 (Nat.le_of_ble_eq_true rfl) vc_3 (Nat.le_of_ble_eq_true rfl) q2409)
theorem n303_29 : Snd mt G 303 29 (oConst (.int 1) 30) := w_iconst (hm := mm303) dX3_sign_29 rfl
theorem n303_30 : Snd mt G 303 30 (oBin (fun x y => x + y) 31) := w_iadd (hm := mm303) dX3_sign_30
theorem n303_31 : Snd mt G 303 31 (oPutf [4] 4 .int 34) := w_putf (hm := mm303) dX3_sign_31 (pok1 (k := 4) (T := TX3) 3 (Nat.le_of_ble_eq_true rfl) vc_3 (Nat.le_of_ble_eq_true rfl) rfl pd_X3_4 q2409)
theorem n303_34 : Snd mt G 303 34 (oGoto 46) := w_goto (hm := mm303) dX3_sign_34 rfl
theorem n303_37 : Snd mt G 303 37 (oAload 0 38) := w_aload_n (hm := mm303) dX3_sign_37
theorem n303_38 : Snd mt G 303 38 (oConst (.int 1) 39) := w_iconst (hm := mm303) dX3_sign_38 rfl
theorem n303_39 : Snd mt G 303 39 (oAload 0 40) := w_aload_n (hm := mm303) dX3_sign_39
theorem n303_40 : Snd mt G 303 40 (oGetf [4] 4 43) := w_getf (hm := mm303) dX3_sign_40 (fok1 (k := 4) (T := TX3) 3 (Nat.le_of_ble_eq_true rfl) vc_3 (Nat.le_of_ble_eq_true rfl) q2409)
theorem n303_43 : Snd mt G 303 43 (oCall 3 (fV [4] 294 3) 0 46 xOut) := s_callV (m' := 294) (n := 2) xsh_out (w_xok0 mm303) (w_cal mm303 mm294 pn_X3 (Nat.le_of_ble_eq_true rfl) (Nat.le_of_ble_eq_true rfl)) (fun h b as hc hn => w_run_V (ci := 3) mm303 mm294 dX3_sign_43 (Or.inl (List.mem_singleton.mp hc)) (Nat.le_of_ble_eq_true rfl) vc_3 rfl q2669 q2671 qs70 q150 q2672 pa294 hn)
theorem n303_46 : Snd mt G 303 46 (oRetV) := w_vret (hm := mm303) dX3_sign_46 rfl
theorem sj303 : ∀ pc, Snd mt G 303 pc (j303 pc) := fun pc => (snd_br ((snd_br ((snd_br ((snd_br ((snd_br ((snd_lf n303_46)) ((snd_lf n303_43)))) ((snd_br ((snd_lf n303_40)) ((snd_lf n303_39)))))) ((snd_br ((snd_br ((snd_lf n303_38)) ((snd_lf n303_37)))) ((snd_lf n303_34)))))) ((snd_br ((snd_br ((snd_br ((snd_lf n303_31)) ((snd_lf n303_30)))) ((snd_lf n303_29)))) ((snd_br ((snd_br ((snd_lf n303_26)) ((snd_lf n303_25)))) ((snd_lf n303_24)))))))) ((snd_br ((snd_br ((snd_br ((snd_br ((snd_lf n303_21)) ((snd_lf n303_20)))) ((snd_lf n303_17)))) ((snd_br ((snd_br ((snd_lf n303_14)) ((snd_lf n303_13)))) ((snd_lf n303_12)))))) ((snd_br ((snd_br ((snd_br ((snd_lf n303_9)) ((snd_lf n303_8)))) ((snd_lf n303_7)))) ((snd_br ((snd_br ((snd_lf n303_4)) ((snd_lf n303_1)))) ((snd_lf n303_0)))))))))
end
section
variable {G : AG}
theorem n304_0 : Snd mt G 304 0 (oAload 0 1) := w_aload_n (hm := mm304) dX3_ors_0
theorem n304_1 : Snd mt G 304 1 (oCall 1 (fV [4] 305 3) 1 4 xOut) := s_callV (m' := 305) (n := 0) xsh_out (w_xok0 mm304) (w_cal mm304 mm305 pn_X3 (Nat.le_of_ble_eq_true rfl) (Nat.le_of_ble_eq_true rfl)) (fun h b as hc hn => w_run_V (ci := 3) mm304 mm305 dX3_ors_1 (Or.inl (List.mem_singleton.mp hc)) (Nat.le_of_ble_eq_true rfl) vc_3 rfl q2713 q2715 qs80 q150 q2716 pa305 hn)
theorem n304_4 : Snd mt G 304 4 (oIstore 1 5) := w_istore_n (hm := mm304) dX3_ors_4 (Nat.le_of_ble_eq_true rfl)
theorem n304_5 : Snd mt G 304 5 (oAload 0 6) := w_aload_n (hm := mm304) dX3_ors_5
theorem n304_6 : Snd mt G 304 6 (oConst (.int 15) 8) := w_bipush (hm := mm304) dX3_ors_6 (by decide)
theorem n304_8 : Snd mt G 304 8 (oConst (.int 18) 10) := w_bipush (hm := mm304) dX3_ors_8 (by decide)
theorem n304_10 : Snd mt G 304 10 (oConst (.int 0) 11) := w_iconst (hm := mm304) dX3_ors_10 rfl
theorem n304_11 : Snd mt G 304 11 (oConst (.int 0) 12) := w_iconst (hm := mm304) dX3_ors_11 rfl
theorem n304_12 : Snd mt G 304 12 (oConst (.int 0) 13) := w_iconst (hm := mm304) dX3_ors_12 rfl
theorem n304_13 : Snd mt G 304 13 (oConst (.int 0) 14) := w_iconst (hm := mm304) dX3_ors_13 rfl
theorem n304_14 : Snd mt G 304 14 (oCall 7 (fV [4] 291 7) 0 17 xOut) := s_callV (m' := 291) (n := 6) xsh_out (w_xok0 mm304) (w_cal mm304 mm291 pn_X3 (Nat.le_of_ble_eq_true rfl) (Nat.le_of_ble_eq_true rfl)) (fun h b as hc hn => w_run_V (ci := 3) mm304 mm291 dX3_ors_14 (Or.inl (List.mem_singleton.mp hc)) (Nat.le_of_ble_eq_true rfl) vc_3 rfl q2658 q2660 qs68 q150 q2661 pa291 hn)
theorem n304_17 : Snd mt G 304 17 (oIfEq 46 20) := w_if_eq (hm := mm304) dX3_ors_17 rfl
theorem n304_20 : Snd mt G 304 20 (oAload 0 21) := w_aload_n (hm := mm304) dX3_ors_20
theorem n304_21 : Snd mt G 304 21 (oCall 1 (fV [4] 295 1) 0 24 xOut) := s_callV (m' := 295) (n := 0) xsh_out (w_xok0 mm304) (w_cal mm304 mm295 pn_X3 (Nat.le_of_ble_eq_true rfl) (Nat.le_of_ble_eq_true rfl)) (fun h b as hc hn => w_run_V (ci := 3) mm304 mm295 dX3_ors_21 (Or.inl (List.mem_singleton.mp hc)) (Nat.le_of_ble_eq_true rfl) vc_3 rfl q2673 q2675 qs71 q150 q2676 pa295 hn)
theorem n304_24 : Snd mt G 304 24 (oAload 0 25) := w_aload_n (hm := mm304) dX3_ors_24
theorem n304_25 : Snd mt G 304 25 (oCall 1 (fV [4] 305 3) 1 28 xOut) := s_callV (m' := 305) (n := 0) xsh_out (w_xok0 mm304) (w_cal mm304 mm305 pn_X3 (Nat.le_of_ble_eq_true rfl) (Nat.le_of_ble_eq_true rfl)) (fun h b as hc hn => w_run_V (ci := 3) mm304 mm305 dX3_ors_25 (Or.inl (List.mem_singleton.mp hc)) (Nat.le_of_ble_eq_true rfl) vc_3 rfl q2713 q2715 qs80 q150 q2716 pa305 hn)
theorem n304_28 : Snd mt G 304 28 (oIstore 2 29) := w_istore_n (hm := mm304) dX3_ors_28 (Nat.le_of_ble_eq_true rfl)
theorem n304_29 : Snd mt G 304 29 (oIload 1 30) := w_iload_n (hm := mm304) dX3_ors_29
theorem n304_30 : Snd mt G 304 30 (oIfEq 33 37) := w_if_ne (hm := mm304) dX3_ors_30 rfl
theorem n304_33 : Snd mt G 304 33 (oIload 2 34) := w_iload_n (hm := mm304) dX3_ors_33
theorem n304_34 : Snd mt G 304 34 (oIfEq 41 37) := w_if_eq (hm := mm304) dX3_ors_34 rfl
theorem n304_37 : Snd mt G 304 37 (oConst (.int 1) 38) := w_iconst (hm := mm304) dX3_ors_37 rfl
theorem n304_38 : Snd mt G 304 38 (oGoto 42) := w_goto (hm := mm304) dX3_ors_38 rfl
theorem n304_41 : Snd mt G 304 41 (oConst (.int 0) 42) := w_iconst (hm := mm304) dX3_ors_41 rfl
theorem n304_42 : Snd mt G 304 42 (oIstore 1 43) := w_istore_n (hm := mm304) dX3_ors_42 (Nat.le_of_ble_eq_true rfl)
theorem n304_43 : Snd mt G 304 43 (oGoto 5) := w_goto (hm := mm304) dX3_ors_43 rfl
theorem n304_46 : Snd mt G 304 46 (oIload 1 47) := w_iload_n (hm := mm304) dX3_ors_46
theorem n304_47 : Snd mt G 304 47 (oRetI .boolean) := w_zret (hm := mm304) dX3_ors_47 rfl
theorem sj304 : ∀ pc, Snd mt G 304 pc (j304 pc) := fun pc => (snd_br ((snd_br ((snd_br ((snd_br ((snd_br ((snd_lf n304_47)) ((snd_lf n304_46)))) ((snd_br ((snd_lf n304_43)) ((snd_lf n304_42)))))) ((snd_br ((snd_br ((snd_lf n304_41)) ((snd_lf n304_38)))) ((snd_lf n304_37)))))) ((snd_br ((snd_br ((snd_br ((snd_lf n304_34)) ((snd_lf n304_33)))) ((snd_br ((snd_lf n304_30)) ((snd_lf n304_29)))))) ((snd_br ((snd_br ((snd_lf n304_28)) ((snd_lf n304_25)))) ((snd_lf n304_24)))))))) ((snd_br ((snd_br ((snd_br ((snd_br ((snd_lf n304_21)) ((snd_lf n304_20)))) ((snd_br ((snd_lf n304_17)) ((snd_lf n304_14)))))) ((snd_br ((snd_br ((snd_lf n304_13)) ((snd_lf n304_12)))) ((snd_lf n304_11)))))) ((snd_br ((snd_br ((snd_br ((snd_lf n304_10)) ((snd_lf n304_8)))) ((snd_br ((snd_lf n304_6)) ((snd_lf n304_5)))))) ((snd_br ((snd_br ((snd_lf n304_4)) ((snd_lf n304_1)))) ((snd_lf n304_0)))))))))
end
section
variable {G : AG}
theorem n305_0 : Snd mt G 305 0 (oAload 0 1) := w_aload_n (hm := mm305) dX3_ands_0
theorem n305_1 : Snd mt G 305 1 (oCall 1 (fV [4] 306 4) 1 4 xOut) := s_callV (m' := 306) (n := 0) xsh_out (w_xok0 mm305) (w_cal mm305 mm306 pn_X3 (Nat.le_of_ble_eq_true rfl) (Nat.le_of_ble_eq_true rfl)) (fun h b as hc hn => w_run_V (ci := 3) mm305 mm306 dX3_ands_1 (Or.inl (List.mem_singleton.mp hc)) (Nat.le_of_ble_eq_true rfl) vc_3 rfl q2717 q2719 qs81 q150 q2720 pa306 hn)
theorem n305_4 : Snd mt G 305 4 (oIstore 1 5) := w_istore_n (hm := mm305) dX3_ands_4 (Nat.le_of_ble_eq_true rfl)
theorem n305_5 : Snd mt G 305 5 (oAload 0 6) := w_aload_n (hm := mm305) dX3_ands_5
theorem n305_6 : Snd mt G 305 6 (oConst (.int 1) 7) := w_iconst (hm := mm305) dX3_ands_6 rfl
theorem n305_7 : Snd mt G 305 7 (oConst (.int 14) 9) := w_bipush (hm := mm305) dX3_ands_7 (by decide)
theorem n305_9 : Snd mt G 305 9 (oConst (.int 4) 10) := w_iconst (hm := mm305) dX3_ands_9 rfl
theorem n305_10 : Snd mt G 305 10 (oConst (.int 0) 11) := w_iconst (hm := mm305) dX3_ands_10 rfl
theorem n305_11 : Snd mt G 305 11 (oConst (.int 0) 12) := w_iconst (hm := mm305) dX3_ands_11 rfl
theorem n305_12 : Snd mt G 305 12 (oConst (.int 0) 13) := w_iconst (hm := mm305) dX3_ands_12 rfl
theorem n305_13 : Snd mt G 305 13 (oCall 7 (fV [4] 291 7) 0 16 xOut) := s_callV (m' := 291) (n := 6) xsh_out (w_xok0 mm305) (w_cal mm305 mm291 pn_X3 (Nat.le_of_ble_eq_true rfl) (Nat.le_of_ble_eq_true rfl)) (fun h b as hc hn => w_run_V (ci := 3) mm305 mm291 dX3_ands_13 (Or.inl (List.mem_singleton.mp hc)) (Nat.le_of_ble_eq_true rfl) vc_3 rfl q2658 q2660 qs68 q150 q2661 pa291 hn)
theorem n305_16 : Snd mt G 305 16 (oIfEq 45 19) := w_if_eq (hm := mm305) dX3_ands_16 rfl
theorem n305_19 : Snd mt G 305 19 (oAload 0 20) := w_aload_n (hm := mm305) dX3_ands_19
theorem n305_20 : Snd mt G 305 20 (oCall 1 (fV [4] 295 1) 0 23 xOut) := s_callV (m' := 295) (n := 0) xsh_out (w_xok0 mm305) (w_cal mm305 mm295 pn_X3 (Nat.le_of_ble_eq_true rfl) (Nat.le_of_ble_eq_true rfl)) (fun h b as hc hn => w_run_V (ci := 3) mm305 mm295 dX3_ands_20 (Or.inl (List.mem_singleton.mp hc)) (Nat.le_of_ble_eq_true rfl) vc_3 rfl q2673 q2675 qs71 q150 q2676 pa295 hn)
theorem n305_23 : Snd mt G 305 23 (oAload 0 24) := w_aload_n (hm := mm305) dX3_ands_23
theorem n305_24 : Snd mt G 305 24 (oCall 1 (fV [4] 306 4) 1 27 xOut) := s_callV (m' := 306) (n := 0) xsh_out (w_xok0 mm305) (w_cal mm305 mm306 pn_X3 (Nat.le_of_ble_eq_true rfl) (Nat.le_of_ble_eq_true rfl)) (fun h b as hc hn => w_run_V (ci := 3) mm305 mm306 dX3_ands_24 (Or.inl (List.mem_singleton.mp hc)) (Nat.le_of_ble_eq_true rfl) vc_3 rfl q2717 q2719 qs81 q150 q2720 pa306 hn)
theorem n305_27 : Snd mt G 305 27 (oIstore 2 28) := w_istore_n (hm := mm305) dX3_ands_27 (Nat.le_of_ble_eq_true rfl)
theorem n305_28 : Snd mt G 305 28 (oIload 1 29) := w_iload_n (hm := mm305) dX3_ands_28
theorem n305_29 : Snd mt G 305 29 (oIfEq 40 32) := w_if_eq (hm := mm305) dX3_ands_29 rfl
theorem n305_32 : Snd mt G 305 32 (oIload 2 33) := w_iload_n (hm := mm305) dX3_ands_32
theorem n305_33 : Snd mt G 305 33 (oIfEq 40 36) := w_if_eq (hm := mm305) dX3_ands_33 rfl
theorem n305_36 : Snd mt G 305 36 (oConst (.int 1) 37) := w_iconst (hm := mm305) dX3_ands_36 rfl
theorem n305_37 : Snd mt G 305 37 (oGoto 41) := w_goto (hm := mm305) dX3_ands_37 rfl
theorem n305_40 : Snd mt G 305 40 (oConst (.int 0) 41) := w_iconst (hm := mm305) dX3_ands_40 rfl
theorem n305_41 : Snd mt G 305 41 (oIstore 1 42) := w_istore_n (hm := mm305) dX3_ands_41 (Nat.le_of_ble_eq_true rfl)
theorem n305_42 : Snd mt G 305 42 (oGoto 5) := w_goto (hm := mm305) dX3_ands_42 rfl
theorem n305_45 : Snd mt G 305 45 (oIload 1 46) := w_iload_n (hm := mm305) dX3_ands_45
theorem n305_46 : Snd mt G 305 46 (oRetI .boolean) := w_zret (hm := mm305) dX3_ands_46 rfl
theorem sj305 : ∀ pc, Snd mt G 305 pc (j305 pc) := fun pc => (snd_br ((snd_br ((snd_br ((snd_br ((snd_br ((snd_lf n305_46)) ((snd_lf n305_45)))) ((snd_br ((snd_lf n305_42)) ((snd_lf n305_41)))))) ((snd_br ((snd_br ((snd_lf n305_40)) ((snd_lf n305_37)))) ((snd_lf n305_36)))))) ((snd_br ((snd_br ((snd_br ((snd_lf n305_33)) ((snd_lf n305_32)))) ((snd_br ((snd_lf n305_29)) ((snd_lf n305_28)))))) ((snd_br ((snd_br ((snd_lf n305_27)) ((snd_lf n305_24)))) ((snd_lf n305_23)))))))) ((snd_br ((snd_br ((snd_br ((snd_br ((snd_lf n305_20)) ((snd_lf n305_19)))) ((snd_br ((snd_lf n305_16)) ((snd_lf n305_13)))))) ((snd_br ((snd_br ((snd_lf n305_12)) ((snd_lf n305_11)))) ((snd_lf n305_10)))))) ((snd_br ((snd_br ((snd_br ((snd_lf n305_9)) ((snd_lf n305_7)))) ((snd_br ((snd_lf n305_6)) ((snd_lf n305_5)))))) ((snd_br ((snd_br ((snd_lf n305_4)) ((snd_lf n305_1)))) ((snd_lf n305_0)))))))))
end
section
variable {G : AG}
theorem n306_0 : Snd mt G 306 0 (oAload 0 1) := w_aload_n (hm := mm306) dX3_test_0
theorem n306_1 : Snd mt G 306 1 (oGetf [4] 6 4) := w_getf (hm := mm306) dX3_test_1 (fok1 (k := 6) (T := TX3) 3 (Nat.le_of_ble_eq_true rfl) vc_3 (Nat.le_of_ble_eq_true rfl) q2411)
theorem n306_4 : Snd mt G 306 4 (oIfEq 9 7) := w_if_eq (hm := mm306) dX3_test_4 rfl
theorem n306_7 : Snd mt G 306 7 (oConst (.int 0) 8) := w_iconst (hm := mm306) dX3_test_7 rfl
theorem n306_8 : Snd mt G 306 8 (oRetI .boolean) := w_zret (hm := mm306) dX3_test_8 rfl
theorem n306_9 : Snd mt G 306 9 (oAload 0 10) := w_aload_n (hm := mm306) dX3_test_9
theorem n306_10 : Snd mt G 306 10 (oConst (.int 14) 12) := w_bipush (hm := mm306) dX3_test_10 (by decide)
theorem n306_12 : Snd mt G 306 12 (oConst (.int 15) 14) := w_bipush (hm := mm306) dX3_test_12 (by decide)
theorem n306_14 : Snd mt G 306 14 (oConst (.int 20) 16) := w_bipush (hm := mm306) dX3_test_14 (by decide)
theorem n306_16 : Snd mt G 306 16 (oConst (.int 0) 17) := w_iconst (hm := mm306) dX3_test_16 rfl
theorem n306_17 : Snd mt G 306 17 (oConst (.int 0) 18) := w_iconst (hm := mm306) dX3_test_17 rfl
theorem n306_18 : Snd mt G 306 18 (oConst (.int 0) 19) := w_iconst (hm := mm306) dX3_test_18 rfl
theorem n306_19 : Snd mt G 306 19 (oCall 7 (fV [4] 291 7) 0 22 xOut) := s_callV (m' := 291) (n := 6) xsh_out (w_xok0 mm306) (w_cal mm306 mm291 pn_X3 (Nat.le_of_ble_eq_true rfl) (Nat.le_of_ble_eq_true rfl)) (fun h b as hc hn => w_run_V (ci := 3) mm306 mm291 dX3_test_19 (Or.inl (List.mem_singleton.mp hc)) (Nat.le_of_ble_eq_true rfl) vc_3 rfl q2658 q2660 qs68 q150 q2661 pa291 hn)
theorem n306_22 : Snd mt G 306 22 (oIfEq 55 25) := w_if_eq (hm := mm306) dX3_test_22 rfl
theorem n306_25 : Snd mt G 306 25 (oAload 0 26) := w_aload_n (hm := mm306) dX3_test_25
theorem n306_26 : Snd mt G 306 26 (oConst (.int 3) 27) := w_iconst (hm := mm306) dX3_test_26 rfl
theorem n306_27 : Snd mt G 306 27 (oCall 2 (fV [4] 302 2) 0 30 xOut) := s_callV (m' := 302) (n := 1) xsh_out (w_xok0 mm306) (w_cal mm306 mm302 pn_X3 (Nat.le_of_ble_eq_true rfl) (Nat.le_of_ble_eq_true rfl)) (fun h b as hc hn => w_run_V (ci := 3) mm306 mm302 dX3_test_27 (Or.inl (List.mem_singleton.mp hc)) (Nat.le_of_ble_eq_true rfl) vc_3 rfl q2701 q2703 qs77 q150 q2704 pa302 hn)
theorem n306_30 : Snd mt G 306 30 (oAload 0 31) := w_aload_n (hm := mm306) dX3_test_30
theorem n306_31 : Snd mt G 306 31 (oCall 1 (fV [4] 306 4) 1 34 xOut) := s_callV (m' := 306) (n := 0) xsh_out (w_xok0 mm306) (w_cal mm306 mm306 pn_X3 (Nat.le_of_ble_eq_true rfl) (Nat.le_of_ble_eq_true rfl)) (fun h b as hc hn => w_run_V (ci := 3) mm306 mm306 dX3_test_31 (Or.inl (List.mem_singleton.mp hc)) (Nat.le_of_ble_eq_true rfl) vc_3 rfl q2717 q2719 qs81 q150 q2720 pa306 hn)
theorem n306_34 : Snd mt G 306 34 (oIfEq 37 41) := w_if_ne (hm := mm306) dX3_test_34 rfl
theorem n306_37 : Snd mt G 306 37 (oConst (.int 1) 38) := w_iconst (hm := mm306) dX3_test_37 rfl
theorem n306_38 : Snd mt G 306 38 (oGoto 42) := w_goto (hm := mm306) dX3_test_38 rfl
theorem n306_41 : Snd mt G 306 41 (oConst (.int 0) 42) := w_iconst (hm := mm306) dX3_test_41 rfl
theorem n306_42 : Snd mt G 306 42 (oIstore 1 43) := w_istore_n (hm := mm306) dX3_test_42 (Nat.le_of_ble_eq_true rfl)
theorem n306_43 : Snd mt G 306 43 (oAload 0 44) := w_aload_n (hm := mm306) dX3_test_43
theorem n306_44 : Snd mt G 306 44 (oDup 45) := w_dup (hm := mm306) dX3_test_44
theorem n306_45 : Snd mt G 306 45 (oGetf [4] 5 48) := w_getf (hm := mm306) dX3_test_45 (fok1 (k := 5) (T := TX3) 3 (Nat.le_of_ble_eq_true rfl) vc_3 (Nat.le_of_ble_eq_true rfl) q2410)
theorem n306_48 : Snd mt G 306 48 (oConst (.int 1) 49) := w_iconst (hm := mm306) dX3_test_48 rfl
theorem n306_49 : Snd mt G 306 49 (oBin (fun x y => x - y) 50) := w_isub (hm := mm306) dX3_test_49
theorem n306_50 : Snd mt G 306 50 (oPutf [4] 5 .int 53) := w_putf (hm := mm306) dX3_test_50 (pok1 (k := 5) (T := TX3) 3 (Nat.le_of_ble_eq_true rfl) vc_3 (Nat.le_of_ble_eq_true rfl) rfl pd_X3_5 q2410)
theorem n306_53 : Snd mt G 306 53 (oIload 1 54) := w_iload_n (hm := mm306) dX3_test_53
theorem n306_54 : Snd mt G 306 54 (oRetI .boolean) := w_zret (hm := mm306) dX3_test_54 rfl
theorem n306_55 : Snd mt G 306 55 (oAload 0 56) := w_aload_n (hm := mm306) dX3_test_55
theorem n306_56 : Snd mt G 306 56 (oAload 0 57) := w_aload_n (hm := mm306) dX3_test_56
theorem n306_57 : Snd mt G 306 57 (oGetf [4] 4 60) := w_getf (hm := mm306) dX3_test_57 (fok1 (k := 4) (T := TX3) 3 (Nat.le_of_ble_eq_true rfl) vc_3 (Nat.le_of_ble_eq_true rfl) q2409)
theorem n306_60 : Snd mt G 306 60 (oCall 2 (fV [4] 288 2) 0 63 xOut) := s_callV (m' := 288) (n := 1) xsh_out (w_xok0 mm306) (w_cal mm306 mm288 pn_X3 (Nat.le_of_ble_eq_true rfl) (Nat.le_of_ble_eq_true rfl)) (fun h b as hc hn => w_run_V (ci := 3) mm306 mm288 dX3_test_60 (Or.inl (List.mem_singleton.mp hc)) (Nat.le_of_ble_eq_true rfl) vc_3 rfl q2646 q2648 qs65 q150 q2649 pa288 hn)
theorem n306_63 : Snd mt G 306 63 (oConst (.int 91) 65) := w_bipush (hm := mm306) dX3_test_63 (by decide)
theorem n306_65 : Snd mt G 306 65 (oCmpEq 68 96) := w_icmp_ne (hm := mm306) dX3_test_65 rfl
theorem n306_68 : Snd mt G 306 68 (oAload 0 69) := w_aload_n (hm := mm306) dX3_test_68
theorem n306_69 : Snd mt G 306 69 (oConst (.int 1) 70) := w_iconst (hm := mm306) dX3_test_69 rfl
theorem n306_70 : Snd mt G 306 70 (oCall 2 (fV [4] 302 2) 0 73 xOut) := s_callV (m' := 302) (n := 1) xsh_out (w_xok0 mm306) (w_cal mm306 mm302 pn_X3 (Nat.le_of_ble_eq_true rfl) (Nat.le_of_ble_eq_true rfl)) (fun h b as hc hn => w_run_V (ci := 3) mm306 mm302 dX3_test_70 (Or.inl (List.mem_singleton.mp hc)) (Nat.le_of_ble_eq_true rfl) vc_3 rfl q2701 q2703 qs77 q150 q2704 pa302 hn)
theorem n306_73 : Snd mt G 306 73 (oAload 0 74) := w_aload_n (hm := mm306) dX3_test_73
theorem n306_74 : Snd mt G 306 74 (oCall 1 (fV [4] 304 3) 1 77 xOut) := s_callV (m' := 304) (n := 0) xsh_out (w_xok0 mm306) (w_cal mm306 mm304 pn_X3 (Nat.le_of_ble_eq_true rfl) (Nat.le_of_ble_eq_true rfl)) (fun h b as hc hn => w_run_V (ci := 3) mm306 mm304 dX3_test_74 (Or.inl (List.mem_singleton.mp hc)) (Nat.le_of_ble_eq_true rfl) vc_3 rfl q2709 q2711 qs79 q150 q2712 pa304 hn)
theorem n306_77 : Snd mt G 306 77 (oIstore 1 78) := w_istore_n (hm := mm306) dX3_test_77 (Nat.le_of_ble_eq_true rfl)
theorem n306_78 : Snd mt G 306 78 (oAload 0 79) := w_aload_n (hm := mm306) dX3_test_78
theorem n306_79 : Snd mt G 306 79 (oConst (.int 93) 81) := w_bipush (hm := mm306) dX3_test_79 (by decide)
theorem n306_81 : Snd mt G 306 81 (oCall 2 (fV [4] 303 2) 0 84 xOut) := s_callV (m' := 303) (n := 1) xsh_out (w_xok0 mm306) (w_cal mm306 mm303 pn_X3 (Nat.le_of_ble_eq_true rfl) (Nat.le_of_ble_eq_true rfl)) (fun h b as hc hn => w_run_V (ci := 3) mm306 mm303 dX3_test_81 (Or.inl (List.mem_singleton.mp hc)) (Nat.le_of_ble_eq_true rfl) vc_3 rfl q2705 q2707 qs78 q150 q2708 pa303 hn)
theorem n306_84 : Snd mt G 306 84 (oAload 0 85) := w_aload_n (hm := mm306) dX3_test_84
theorem n306_85 : Snd mt G 306 85 (oDup 86) := w_dup (hm := mm306) dX3_test_85
theorem n306_86 : Snd mt G 306 86 (oGetf [4] 5 89) := w_getf (hm := mm306) dX3_test_86 (fok1 (k := 5) (T := TX3) 3 (Nat.le_of_ble_eq_true rfl) vc_3 (Nat.le_of_ble_eq_true rfl) q2410)
theorem n306_89 : Snd mt G 306 89 (oConst (.int 1) 90) := w_iconst (hm := mm306) dX3_test_89 rfl
theorem n306_90 : Snd mt G 306 90 (oBin (fun x y => x - y) 91) := w_isub (hm := mm306) dX3_test_90
theorem n306_91 : Snd mt G 306 91 (oPutf [4] 5 .int 94) := w_putf (hm := mm306) dX3_test_91 (pok1 (k := 5) (T := TX3) 3 (Nat.le_of_ble_eq_true rfl) vc_3 (Nat.le_of_ble_eq_true rfl) rfl pd_X3_5 q2410)
theorem n306_94 : Snd mt G 306 94 (oIload 1 95) := w_iload_n (hm := mm306) dX3_test_94
theorem n306_95 : Snd mt G 306 95 (oRetI .boolean) := w_zret (hm := mm306) dX3_test_95 rfl
theorem n306_96 : Snd mt G 306 96 (oAload 0 97) := w_aload_n (hm := mm306) dX3_test_96
theorem n306_97 : Snd mt G 306 97 (oCall 1 (fV [4] 298 4) 0 100 xOut) := s_callV (m' := 298) (n := 0) xsh_out (w_xok0 mm306) (w_cal mm306 mm298 pn_X3 (Nat.le_of_ble_eq_true rfl) (Nat.le_of_ble_eq_true rfl)) (fun h b as hc hn => w_run_V (ci := 3) mm306 mm298 dX3_test_97 (Or.inl (List.mem_singleton.mp hc)) (Nat.le_of_ble_eq_true rfl) vc_3 rfl q2685 q2687 qs73 q150 q2688 pa298 hn)
theorem n306_100 : Snd mt G 306 100 (oIstore 1 101) := w_istore_n (hm := mm306) dX3_test_100 (Nat.le_of_ble_eq_true rfl)
theorem n306_101 : Snd mt G 306 101 (oAload 0 102) := w_aload_n (hm := mm306) dX3_test_101
theorem n306_102 : Snd mt G 306 102 (oGetf [4] 6 105) := w_getf (hm := mm306) dX3_test_102 (fok1 (k := 6) (T := TX3) 3 (Nat.le_of_ble_eq_true rfl) vc_3 (Nat.le_of_ble_eq_true rfl) q2411)
theorem n306_105 : Snd mt G 306 105 (oIfEq 110 108) := w_if_eq (hm := mm306) dX3_test_105 rfl
theorem n306_108 : Snd mt G 306 108 (oConst (.int 0) 109) := w_iconst (hm := mm306) dX3_test_108 rfl
theorem n306_109 : Snd mt G 306 109 (oRetI .boolean) := w_zret (hm := mm306) dX3_test_109 rfl
theorem n306_110 : Snd mt G 306 110 (oAload 0 111) := w_aload_n (hm := mm306) dX3_test_110
theorem n306_111 : Snd mt G 306 111 (oCall 1 (fV [4] 287 1) 0 114 xOut) := s_callV (m' := 287) (n := 0) xsh_out (w_xok0 mm306) (w_cal mm306 mm287 pn_X3 (Nat.le_of_ble_eq_true rfl) (Nat.le_of_ble_eq_true rfl)) (fun h b as hc hn => w_run_V (ci := 3) mm306 mm287 dX3_test_111 (Or.inl (List.mem_singleton.mp hc)) (Nat.le_of_ble_eq_true rfl) vc_3 rfl q2642 q2644 qs64 q150 q2645 pa287 hn)
theorem n306_114 : Snd mt G 306 114 (oAload 0 115) := w_aload_n (hm := mm306) dX3_test_114
theorem n306_115 : Snd mt G 306 115 (oAload 0 116) := w_aload_n (hm := mm306) dX3_test_115
theorem n306_116 : Snd mt G 306 116 (oGetf [4] 4 119) := w_getf (hm := mm306) dX3_test_116 (fok1 (k := 4) (T := TX3) 3 (Nat.le_of_ble_eq_true rfl) vc_3 (Nat.le_of_ble_eq_true rfl) q2409)
theorem n306_119 : Snd mt G 306 119 (oCall 2 (fV [4] 288 2) 0 122 xOut) := s_callV (m' := 288) (n := 1) xsh_out (w_xok0 mm306) (w_cal mm306 mm288 pn_X3 (Nat.le_of_ble_eq_true rfl) (Nat.le_of_ble_eq_true rfl)) (fun h b as hc hn => w_run_V (ci := 3) mm306 mm288 dX3_test_119 (Or.inl (List.mem_singleton.mp hc)) (Nat.le_of_ble_eq_true rfl) vc_3 rfl q2646 q2648 qs65 q150 q2649 pa288 hn)
theorem n306_122 : Snd mt G 306 122 (oIstore 2 123) := w_istore_n (hm := mm306) dX3_test_122 (Nat.le_of_ble_eq_true rfl)
theorem n306_123 : Snd mt G 306 123 (oIload 2 124) := w_iload_n (hm := mm306) dX3_test_123
theorem n306_124 : Snd mt G 306 124 (oConst (.int 60) 126) := w_bipush (hm := mm306) dX3_test_124 (by decide)
theorem n306_126 : Snd mt G 306 126 (oCmpEq 150 129) := w_icmp_eq (hm := mm306) dX3_test_126 rfl
theorem n306_129 : Snd mt G 306 129 (oIload 2 130) := w_iload_n (hm := mm306) dX3_test_129
theorem n306_130 : Snd mt G 306 130 (oConst (.int 62) 132) := w_bipush (hm := mm306) dX3_test_130 (by decide)
theorem n306_132 : Snd mt G 306 132 (oCmpEq 150 135) := w_icmp_eq (hm := mm306) dX3_test_132 rfl
theorem n306_135 : Snd mt G 306 135 (oIload 2 136) := w_iload_n (hm := mm306) dX3_test_135
theorem n306_136 : Snd mt G 306 136 (oConst (.int 61) 138) := w_bipush (hm := mm306) dX3_test_136 (by decide)
theorem n306_138 : Snd mt G 306 138 (oCmpEq 150 141) := w_icmp_eq (hm := mm306) dX3_test_138 rfl
theorem n306_141 : Snd mt G 306 141 (oAload 0 142) := w_aload_n (hm := mm306) dX3_test_141
theorem n306_142 : Snd mt G 306 142 (oConst (.int 1) 143) := w_iconst (hm := mm306) dX3_test_142 rfl
theorem n306_143 : Snd mt G 306 143 (oAload 0 144) := w_aload_n (hm := mm306) dX3_test_143
theorem n306_144 : Snd mt G 306 144 (oGetf [4] 4 147) := w_getf (hm := mm306) dX3_test_144 (fok1 (k := 4) (T := TX3) 3 (Nat.le_of_ble_eq_true rfl) vc_3 (Nat.le_of_ble_eq_true rfl) q2409)
theorem n306_147 : Snd mt G 306 147 (oCall 3 (fV [4] 294 3) 0 150 xOut) := s_callV (m' := 294) (n := 2) xsh_out (w_xok0 mm306) (w_cal mm306 mm294 pn_X3 (Nat.le_of_ble_eq_true rfl) (Nat.le_of_ble_eq_true rfl)) (fun h b as hc hn => w_run_V (ci := 3) mm306 mm294 dX3_test_147 (Or.inl (List.mem_singleton.mp hc)) (Nat.le_of_ble_eq_true rfl) vc_3 rfl q2669 q2671 qs70 q150 q2672 pa294 hn)
theorem n306_150 : Snd mt G 306 150 (oAload 0 151) := w_aload_n (hm := mm306) dX3_test_150
theorem n306_151 : Snd mt G 306 151 (oDup 152) := w_dup (hm := mm306) dX3_test_151
theorem n306_152 : Snd mt G 306 152 (oGetf [4] 4 155) := w_getf (hm := mm306) dX3_test_152 (fok1 (k := 4) (T := TX3) 3 (Nat.le_of_ble_eq_true rfl) vc_3 (Nat.le_of_ble_eq_true rfl) q2409)
theorem n306_155 : Snd mt G 306 155 (oConst (.int 1) 156) := w_iconst (hm := mm306) dX3_test_155 rfl
theorem n306_156 : Snd mt G 306 156 (oBin (fun x y => x + y) 157) := w_iadd (hm := mm306) dX3_test_156
theorem n306_157 : Snd mt G 306 157 (oPutf [4] 4 .int 160) := w_putf (hm := mm306) dX3_test_157 (pok1 (k := 4) (T := TX3) 3 (Nat.le_of_ble_eq_true rfl) vc_3 (Nat.le_of_ble_eq_true rfl) rfl pd_X3_4 q2409)
theorem n306_160 : Snd mt G 306 160 (oAload 0 161) := w_aload_n (hm := mm306) dX3_test_160
theorem n306_161 : Snd mt G 306 161 (oCall 1 (fV [4] 298 4) 0 164 xOut) := s_callV (m' := 298) (n := 0) xsh_out (w_xok0 mm306) (w_cal mm306 mm298 pn_X3 (Nat.le_of_ble_eq_true rfl) (Nat.le_of_ble_eq_true rfl)) (fun h b as hc hn => w_run_V (ci := 3) mm306 mm298 dX3_test_161 (Or.inl (List.mem_singleton.mp hc)) (Nat.le_of_ble_eq_true rfl) vc_3 rfl q2685 q2687 qs73 q150 q2688 pa298 hn)
theorem n306_164 : Snd mt G 306 164 (oIstore 3 165) := w_istore_n (hm := mm306) dX3_test_164 (Nat.le_of_ble_eq_true rfl)
theorem n306_165 : Snd mt G 306 165 (oIload 2 166) := w_iload_n (hm := mm306) dX3_test_165
theorem n306_166 : Snd mt G 306 166 (oConst (.int 60) 168) := w_bipush (hm := mm306) dX3_test_166 (by decide)
theorem n306_168 : Snd mt G 306 168 (oCmpEq 171 184) := w_icmp_ne (hm := mm306) dX3_test_168 rfl
theorem n306_171 : Snd mt G 306 171 (oIload 1 172) := w_iload_n (hm := mm306) dX3_test_171
theorem n306_172 : Snd mt G 306 172 (oIload 3 173) := w_iload_n (hm := mm306) dX3_test_172
theorem n306_173 : Snd mt G 306 173 (oCmpGe 180 176) := w_icmp_ge (hm := mm306) dX3_test_173 rfl
theorem n306_176 : Snd mt G 306 176 (oConst (.int 1) 177) := w_iconst (hm := mm306) dX3_test_176 rfl
theorem n306_177 : Snd mt G 306 177 (oGoto 213) := w_goto (hm := mm306) dX3_test_177 rfl
theorem n306_180 : Snd mt G 306 180 (oConst (.int 0) 181) := w_iconst (hm := mm306) dX3_test_180 rfl
theorem n306_181 : Snd mt G 306 181 (oGoto 213) := w_goto (hm := mm306) dX3_test_181 rfl
theorem n306_184 : Snd mt G 306 184 (oIload 2 185) := w_iload_n (hm := mm306) dX3_test_184
theorem n306_185 : Snd mt G 306 185 (oConst (.int 62) 187) := w_bipush (hm := mm306) dX3_test_185 (by decide)
theorem n306_187 : Snd mt G 306 187 (oCmpEq 190 203) := w_icmp_ne (hm := mm306) dX3_test_187 rfl
theorem n306_190 : Snd mt G 306 190 (oIload 1 191) := w_iload_n (hm := mm306) dX3_test_190
theorem n306_191 : Snd mt G 306 191 (oIload 3 192) := w_iload_n (hm := mm306) dX3_test_191
theorem n306_192 : Snd mt G 306 192 (oCmpLe 199 195) := w_icmp_le (hm := mm306) dX3_test_192 rfl
theorem n306_195 : Snd mt G 306 195 (oConst (.int 1) 196) := w_iconst (hm := mm306) dX3_test_195 rfl
theorem n306_196 : Snd mt G 306 196 (oGoto 213) := w_goto (hm := mm306) dX3_test_196 rfl
theorem n306_199 : Snd mt G 306 199 (oConst (.int 0) 200) := w_iconst (hm := mm306) dX3_test_199 rfl
theorem n306_200 : Snd mt G 306 200 (oGoto 213) := w_goto (hm := mm306) dX3_test_200 rfl
theorem n306_203 : Snd mt G 306 203 (oIload 1 204) := w_iload_n (hm := mm306) dX3_test_203
theorem n306_204 : Snd mt G 306 204 (oIload 3 205) := w_iload_n (hm := mm306) dX3_test_204
theorem n306_205 : Snd mt G 306 205 (oCmpEq 208 212) := w_icmp_ne (hm := mm306) dX3_test_205 rfl
theorem n306_208 : Snd mt G 306 208 (oConst (.int 1) 209) := w_iconst (hm := mm306) dX3_test_208 rfl
theorem n306_209 : Snd mt G 306 209 (oGoto 213) := w_goto (hm := mm306) dX3_test_209 rfl
theorem n306_212 : Snd mt G 306 212 (oConst (.int 0) 213) := w_iconst (hm := mm306) dX3_test_212 rfl
theorem n306_213 : Snd mt G 306 213 (oRetI .boolean) := w_zret (hm := mm306) dX3_test_213 rfl
theorem sj306 : ∀ pc, Snd mt G 306 pc (j306 pc) := fun pc => (snd_br ((snd_br ((snd_br ((snd_br ((snd_br ((snd_br ((snd_br ((snd_lf n306_213)) ((snd_lf n306_212)))) ((snd_br ((snd_lf n306_209)) ((snd_lf n306_208)))))) ((snd_br ((snd_br ((snd_lf n306_205)) ((snd_lf n306_204)))) ((snd_br ((snd_lf n306_203)) ((snd_lf n306_200)))))))) ((snd_br ((snd_br ((snd_br ((snd_lf n306_199)) ((snd_lf n306_196)))) ((snd_br ((snd_lf n306_195)) ((snd_lf n306_192)))))) ((snd_br ((snd_br ((snd_lf n306_191)) ((snd_lf n306_190)))) ((snd_lf n306_187)))))))) ((snd_br ((snd_br ((snd_br ((snd_br ((snd_lf n306_185)) ((snd_lf n306_184)))) ((snd_br ((snd_lf n306_181)) ((snd_lf n306_180)))))) ((snd_br ((snd_br ((snd_lf n306_177)) ((snd_lf n306_176)))) ((snd_br ((snd_lf n306_173)) ((snd_lf n306_172)))))))) ((snd_br ((snd_br ((snd_br ((snd_lf n306_171)) ((snd_lf n306_168)))) ((snd_br ((snd_lf n306_166)) ((snd_lf n306_165)))))) ((snd_br ((snd_br ((snd_lf n306_164)) ((snd_lf n306_161)))) ((snd_lf n306_160)))))))))) ((snd_br ((snd_br ((snd_br ((snd_br ((snd_br ((snd_lf n306_157)) ((snd_lf n306_156)))) ((snd_br ((snd_lf n306_155)) ((snd_lf n306_152)))))) ((snd_br ((snd_br ((snd_lf n306_151)) ((snd_lf n306_150)))) ((snd_br ((snd_lf n306_147)) ((snd_lf n306_144)))))))) ((snd_br ((snd_br ((snd_br ((snd_lf n306_143)) ((snd_lf n306_142)))) ((snd_br ((snd_lf n306_141)) ((snd_lf n306_138)))))) ((snd_br ((snd_br ((snd_lf n306_136)) ((snd_lf n306_135)))) ((snd_lf n306_132)))))))) ((snd_br ((snd_br ((snd_br ((snd_br ((snd_lf n306_130)) ((snd_lf n306_129)))) ((snd_br ((snd_lf n306_126)) ((snd_lf n306_124)))))) ((snd_br ((snd_br ((snd_lf n306_123)) ((snd_lf n306_122)))) ((snd_br ((snd_lf n306_119)) ((snd_lf n306_116)))))))) ((snd_br ((snd_br ((snd_br ((snd_lf n306_115)) ((snd_lf n306_114)))) ((snd_br ((snd_lf n306_111)) ((snd_lf n306_110)))))) ((snd_br ((snd_br ((snd_lf n306_109)) ((snd_lf n306_108)))) ((snd_lf n306_105)))))))))))) ((snd_br ((snd_br ((snd_br ((snd_br ((snd_br ((snd_br ((snd_lf n306_102)) ((snd_lf n306_101)))) ((snd_br ((snd_lf n306_100)) ((snd_lf n306_97)))))) ((snd_br ((snd_br ((snd_lf n306_96)) ((snd_lf n306_95)))) ((snd_br ((snd_lf n306_94)) ((snd_lf n306_91)))))))) ((snd_br ((snd_br ((snd_br ((snd_lf n306_90)) ((snd_lf n306_89)))) ((snd_br ((snd_lf n306_86)) ((snd_lf n306_85)))))) ((snd_br ((snd_br ((snd_lf n306_84)) ((snd_lf n306_81)))) ((snd_lf n306_79)))))))) ((snd_br ((snd_br ((snd_br ((snd_br ((snd_lf n306_78)) ((snd_lf n306_77)))) ((snd_br ((snd_lf n306_74)) ((snd_lf n306_73)))))) ((snd_br ((snd_br ((snd_lf n306_70)) ((snd_lf n306_69)))) ((snd_br ((snd_lf n306_68)) ((snd_lf n306_65)))))))) ((snd_br ((snd_br ((snd_br ((snd_lf n306_63)) ((snd_lf n306_60)))) ((snd_br ((snd_lf n306_57)) ((snd_lf n306_56)))))) ((snd_br ((snd_br ((snd_lf n306_55)) ((snd_lf n306_54)))) ((snd_lf n306_53)))))))))) ((snd_br ((snd_br ((snd_br ((snd_br ((snd_br ((snd_lf n306_50)) ((snd_lf n306_49)))) ((snd_br ((snd_lf n306_48)) ((snd_lf n306_45)))))) ((snd_br ((snd_br ((snd_lf n306_44)) ((snd_lf n306_43)))) ((snd_br ((snd_lf n306_42)) ((snd_lf n306_41)))))))) ((snd_br ((snd_br ((snd_br ((snd_lf n306_38)) ((snd_lf n306_37)))) ((snd_br ((snd_lf n306_34)) ((snd_lf n306_31)))))) ((snd_br ((snd_br ((snd_lf n306_30)) ((snd_lf n306_27)))) ((snd_lf n306_26)))))))) ((snd_br ((snd_br ((snd_br ((snd_br ((snd_lf n306_25)) ((snd_lf n306_22)))) ((snd_br ((snd_lf n306_19)) ((snd_lf n306_18)))))) ((snd_br ((snd_br ((snd_lf n306_17)) ((snd_lf n306_16)))) ((snd_br ((snd_lf n306_14)) ((snd_lf n306_12)))))))) ((snd_br ((snd_br ((snd_br ((snd_lf n306_10)) ((snd_lf n306_9)))) ((snd_br ((snd_lf n306_8)) ((snd_lf n306_7)))))) ((snd_br ((snd_br ((snd_lf n306_4)) ((snd_lf n306_1)))) ((snd_lf n306_0)))))))))))))
end
section
variable {G : AG}
theorem n307_0 : Snd mt G 307 0 (oIload 1 1) := w_iload_n (hm := mm307) dX3_tells_0
theorem n307_1 : Snd mt G 307 1 (oIfEq 4 63) := w_if_ne (hm := mm307) dX3_tells_1 rfl
theorem n307_4 : Snd mt G 307 4 (oAload 0 5) := w_aload_n (hm := mm307) dX3_tells_4
theorem n307_5 : Snd mt G 307 5 (oGetf [4] 17 8) := w_getf (hm := mm307) dX3_tells_5 (fok1 (k := 17) (T := TX3) 3 (Nat.le_of_ble_eq_true rfl) vc_3 (Nat.le_of_ble_eq_true rfl) q2422)
theorem n307_8 : Snd mt G 307 8 (oIload 2 9) := w_iload_n (hm := mm307) dX3_tells_8
theorem n307_9 : Snd mt G 307 9 (oDup2 10) := w_dup2 (hm := mm307) dX3_tells_9
theorem n307_10 : Snd mt G 307 10 (oAld [100] 11) := w_iaload (hm := mm307) (kt := 0) dX3_tells_10 at_0 (Nat.le_of_ble_eq_true rfl) (List.forall_mem_cons.mpr ⟨Or.inl rfl, (fun t ht => nomatch ht)⟩)
theorem n307_11 : Snd mt G 307 11 (oConst (.int 1) 12) := w_iconst (hm := mm307) dX3_tells_11 rfl
theorem n307_12 : Snd mt G 307 12 (oIload 3 13) := w_iload_n (hm := mm307) dX3_tells_12
theorem n307_13 : Snd mt G 307 13 (oBin (fun x y => x <<< (y &&& 31)) 14) := w_ishl (hm := mm307) dX3_tells_13
theorem n307_14 : Snd mt G 307 14 (oBin (fun x y => x ||| y) 15) := w_ior (hm := mm307) dX3_tells_14
theorem n307_15 : Snd mt G 307 15 (oIast [100] 16) := w_iastore (hm := mm307) (kt := 0) dX3_tells_15 at_0 (Nat.le_of_ble_eq_true rfl) (List.forall_mem_cons.mpr ⟨rfl, (fun t ht => nomatch ht)⟩)
theorem n307_16 : Snd mt G 307 16 (oAload 0 17) := w_aload_n (hm := mm307) dX3_tells_16
theorem n307_17 : Snd mt G 307 17 (oGetf [4] 17 20) := w_getf (hm := mm307) dX3_tells_17 (fok1 (k := 17) (T := TX3) 3 (Nat.le_of_ble_eq_true rfl) vc_3 (Nat.le_of_ble_eq_true rfl) q2422)
theorem n307_20 : Snd mt G 307 20 (oIload 3 21) := w_iload_n (hm := mm307) dX3_tells_20
theorem n307_21 : Snd mt G 307 21 (oDup2 22) := w_dup2 (hm := mm307) dX3_tells_21
theorem n307_22 : Snd mt G 307 22 (oAld [100] 23) := w_iaload (hm := mm307) (kt := 0) dX3_tells_22 at_0 (Nat.le_of_ble_eq_true rfl) (List.forall_mem_cons.mpr ⟨Or.inl rfl, (fun t ht => nomatch ht)⟩)
theorem n307_23 : Snd mt G 307 23 (oConst (.int 1) 24) := w_iconst (hm := mm307) dX3_tells_23 rfl
theorem n307_24 : Snd mt G 307 24 (oIload 2 25) := w_iload_n (hm := mm307) dX3_tells_24
theorem n307_25 : Snd mt G 307 25 (oBin (fun x y => x <<< (y &&& 31)) 26) := w_ishl (hm := mm307) dX3_tells_25
theorem n307_26 : Snd mt G 307 26 (oBin (fun x y => x ||| y) 27) := w_ior (hm := mm307) dX3_tells_26
theorem n307_27 : Snd mt G 307 27 (oIast [100] 28) := w_iastore (hm := mm307) (kt := 0) dX3_tells_27 at_0 (Nat.le_of_ble_eq_true rfl) (List.forall_mem_cons.mpr ⟨rfl, (fun t ht => nomatch ht)⟩)
theorem n307_28 : Snd mt G 307 28 (oAload 0 29) := w_aload_n (hm := mm307) dX3_tells_28
theorem n307_29 : Snd mt G 307 29 (oGetf [4] 24 32) := w_getf (hm := mm307) dX3_tells_29 (fok1 (k := 24) (T := TX3) 3 (Nat.le_of_ble_eq_true rfl) vc_3 (Nat.le_of_ble_eq_true rfl) q2429)
theorem n307_32 : Snd mt G 307 32 (oConst (.int (-1)) 33) := w_iconst (hm := mm307) dX3_tells_32 rfl
theorem n307_33 : Snd mt G 307 33 (oCmpEq 36 63) := w_icmp_ne (hm := mm307) dX3_tells_33 rfl
theorem n307_36 : Snd mt G 307 36 (oAload 0 37) := w_aload_n (hm := mm307) dX3_tells_36
theorem n307_37 : Snd mt G 307 37 (oGetf [4] 23 40) := w_getf (hm := mm307) dX3_tells_37 (fok1 (k := 23) (T := TX3) 3 (Nat.le_of_ble_eq_true rfl) vc_3 (Nat.le_of_ble_eq_true rfl) q2428)
theorem n307_40 : Snd mt G 307 40 (oIload 2 41) := w_iload_n (hm := mm307) dX3_tells_40
theorem n307_41 : Snd mt G 307 41 (oBin (fun x y => x >>> (y &&& 31)) 42) := w_ishr (hm := mm307) dX3_tells_41
theorem n307_42 : Snd mt G 307 42 (oAload 0 43) := w_aload_n (hm := mm307) dX3_tells_42
theorem n307_43 : Snd mt G 307 43 (oGetf [4] 23 46) := w_getf (hm := mm307) dX3_tells_43 (fok1 (k := 23) (T := TX3) 3 (Nat.le_of_ble_eq_true rfl) vc_3 (Nat.le_of_ble_eq_true rfl) q2428)
theorem n307_46 : Snd mt G 307 46 (oIload 3 47) := w_iload_n (hm := mm307) dX3_tells_46
theorem n307_47 : Snd mt G 307 47 (oBin (fun x y => x >>> (y &&& 31)) 48) := w_ishr (hm := mm307) dX3_tells_47
theorem n307_48 : Snd mt G 307 48 (oBin (fun x y => x &&& y) 49) := w_iand (hm := mm307) dX3_tells_48
theorem n307_49 : Snd mt G 307 49 (oConst (.int 1) 50) := w_iconst (hm := mm307) dX3_tells_49 rfl
theorem n307_50 : Snd mt G 307 50 (oBin (fun x y => x &&& y) 51) := w_iand (hm := mm307) dX3_tells_50
theorem n307_51 : Snd mt G 307 51 (oConst (.int 1) 52) := w_iconst (hm := mm307) dX3_tells_51 rfl
theorem n307_52 : Snd mt G 307 52 (oCmpEq 55 63) := w_icmp_ne (hm := mm307) dX3_tells_52 rfl
theorem n307_55 : Snd mt G 307 55 (oAload 0 56) := w_aload_n (hm := mm307) dX3_tells_55
theorem n307_56 : Snd mt G 307 56 (oAload 0 57) := w_aload_n (hm := mm307) dX3_tells_56
theorem n307_57 : Snd mt G 307 57 (oGetf [4] 8 60) := w_getf (hm := mm307) dX3_tells_57 (fok1 (k := 8) (T := TX3) 3 (Nat.le_of_ble_eq_true rfl) vc_3 (Nat.le_of_ble_eq_true rfl) q2413)
theorem n307_60 : Snd mt G 307 60 (oPutf [4] 24 .int 63) := w_putf (hm := mm307) dX3_tells_60 (pok1 (k := 24) (T := TX3) 3 (Nat.le_of_ble_eq_true rfl) vc_3 (Nat.le_of_ble_eq_true rfl) rfl pd_X3_24 q2429)
theorem n307_63 : Snd mt G 307 63 (oIload 1 64) := w_iload_n (hm := mm307) dX3_tells_63
theorem n307_64 : Snd mt G 307 64 (oConst (.int 1) 65) := w_iconst (hm := mm307) dX3_tells_64 rfl
theorem n307_65 : Snd mt G 307 65 (oCmpEq 68 81) := w_icmp_ne (hm := mm307) dX3_tells_65 rfl
theorem n307_68 : Snd mt G 307 68 (oAload 0 69) := w_aload_n (hm := mm307) dX3_tells_68
theorem n307_69 : Snd mt G 307 69 (oGetf [4] 18 72) := w_getf (hm := mm307) dX3_tells_69 (fok1 (k := 18) (T := TX3) 3 (Nat.le_of_ble_eq_true rfl) vc_3 (Nat.le_of_ble_eq_true rfl) q2423)
theorem n307_72 : Snd mt G 307 72 (oIload 2 73) := w_iload_n (hm := mm307) dX3_tells_72
theorem n307_73 : Snd mt G 307 73 (oIload 3 74) := w_iload_n (hm := mm307) dX3_tells_73
theorem n307_74 : Snd mt G 307 74 (oConst (.int 0) 75) := w_iconst (hm := mm307) dX3_tells_74 rfl
theorem n307_75 : Snd mt G 307 75 (oConst (.int 100000) 77) := w_ldc (hm := mm307) dX3_tells_75 q2684
theorem n307_77 : Snd mt G 307 77 (oCall 3 (fS 308 3) 0 80 xOut) := s_callS (m' := 308) (n := 3) xsh_out (w_xok0 mm307) (w_cal mm307 mm308 pn_X3 (Nat.le_of_ble_eq_true rfl) (Nat.le_of_ble_eq_true rfl)) (fun h as hn => w_run_S mm307 mm308 dX3_tells_77 q2725 q2726 q150 q2727 pa308 hn)
theorem n307_80 : Snd mt G 307 80 (oIast [100] 81) := w_iastore (hm := mm307) (kt := 0) dX3_tells_80 at_0 (Nat.le_of_ble_eq_true rfl) (List.forall_mem_cons.mpr ⟨rfl, (fun t ht => nomatch ht)⟩)
theorem n307_81 : Snd mt G 307 81 (oIload 1 82) := w_iload_n (hm := mm307) dX3_tells_81
theorem n307_82 : Snd mt G 307 82 (oConst (.int 2) 83) := w_iconst (hm := mm307) dX3_tells_82 rfl
theorem n307_83 : Snd mt G 307 83 (oCmpEq 86 97) := w_icmp_ne (hm := mm307) dX3_tells_83 rfl
theorem n307_86 : Snd mt G 307 86 (oAload 0 87) := w_aload_n (hm := mm307) dX3_tells_86
theorem n307_87 : Snd mt G 307 87 (oIload 3 88) := w_iload_n (hm := mm307) dX3_tells_87
theorem n307_88 : Snd mt G 307 88 (oConst (.int 0) 89) := w_iconst (hm := mm307) dX3_tells_88 rfl
theorem n307_89 : Snd mt G 307 89 (oConst (.int 1000000) 91) := w_ldc (hm := mm307) dX3_tells_89 q2728
theorem n307_91 : Snd mt G 307 91 (oCall 3 (fS 308 3) 0 94 xOut) := s_callS (m' := 308) (n := 3) xsh_out (w_xok0 mm307) (w_cal mm307 mm308 pn_X3 (Nat.le_of_ble_eq_true rfl) (Nat.le_of_ble_eq_true rfl)) (fun h as hn => w_run_S mm307 mm308 dX3_tells_91 q2725 q2726 q150 q2727 pa308 hn)
theorem n307_94 : Snd mt G 307 94 (oPutf [4] 20 .int 97) := w_putf (hm := mm307) dX3_tells_94 (pok1 (k := 20) (T := TX3) 3 (Nat.le_of_ble_eq_true rfl) vc_3 (Nat.le_of_ble_eq_true rfl) rfl pd_X3_20 q2425)
theorem n307_97 : Snd mt G 307 97 (oIload 1 98) := w_iload_n (hm := mm307) dX3_tells_97
theorem n307_98 : Snd mt G 307 98 (oConst (.int 3) 99) := w_iconst (hm := mm307) dX3_tells_98 rfl
theorem n307_99 : Snd mt G 307 99 (oCmpEq 102 114) := w_icmp_ne (hm := mm307) dX3_tells_99 rfl
theorem n307_102 : Snd mt G 307 102 (oAload 0 103) := w_aload_n (hm := mm307) dX3_tells_102
theorem n307_103 : Snd mt G 307 103 (oDup 104) := w_dup (hm := mm307) dX3_tells_103
theorem n307_104 : Snd mt G 307 104 (oGetf [4] 21 107) := w_getf (hm := mm307) dX3_tells_104 (fok1 (k := 21) (T := TX3) 3 (Nat.le_of_ble_eq_true rfl) vc_3 (Nat.le_of_ble_eq_true rfl) q2426)
theorem n307_107 : Snd mt G 307 107 (oConst (.int 1) 108) := w_iconst (hm := mm307) dX3_tells_107 rfl
theorem n307_108 : Snd mt G 307 108 (oIload 2 109) := w_iload_n (hm := mm307) dX3_tells_108
theorem n307_109 : Snd mt G 307 109 (oBin (fun x y => x <<< (y &&& 31)) 110) := w_ishl (hm := mm307) dX3_tells_109
theorem n307_110 : Snd mt G 307 110 (oBin (fun x y => x ||| y) 111) := w_ior (hm := mm307) dX3_tells_110
theorem n307_111 : Snd mt G 307 111 (oPutf [4] 21 .int 114) := w_putf (hm := mm307) dX3_tells_111 (pok1 (k := 21) (T := TX3) 3 (Nat.le_of_ble_eq_true rfl) vc_3 (Nat.le_of_ble_eq_true rfl) rfl pd_X3_21 q2426)
theorem n307_114 : Snd mt G 307 114 (oIload 1 115) := w_iload_n (hm := mm307) dX3_tells_114
theorem n307_115 : Snd mt G 307 115 (oConst (.int 4) 116) := w_iconst (hm := mm307) dX3_tells_115 rfl
theorem n307_116 : Snd mt G 307 116 (oCmpEq 119 132) := w_icmp_ne (hm := mm307) dX3_tells_116 rfl
theorem n307_119 : Snd mt G 307 119 (oAload 0 120) := w_aload_n (hm := mm307) dX3_tells_119
theorem n307_120 : Snd mt G 307 120 (oGetf [4] 19 123) := w_getf (hm := mm307) dX3_tells_120 (fok1 (k := 19) (T := TX3) 3 (Nat.le_of_ble_eq_true rfl) vc_3 (Nat.le_of_ble_eq_true rfl) q2424)
theorem n307_123 : Snd mt G 307 123 (oIload 2 124) := w_iload_n (hm := mm307) dX3_tells_123
theorem n307_124 : Snd mt G 307 124 (oIload 3 125) := w_iload_n (hm := mm307) dX3_tells_124
theorem n307_125 : Snd mt G 307 125 (oConst (.int 0) 126) := w_iconst (hm := mm307) dX3_tells_125 rfl
theorem n307_126 : Snd mt G 307 126 (oConst (.int 100000) 128) := w_ldc (hm := mm307) dX3_tells_126 q2684
theorem n307_128 : Snd mt G 307 128 (oCall 3 (fS 308 3) 0 131 xOut) := s_callS (m' := 308) (n := 3) xsh_out (w_xok0 mm307) (w_cal mm307 mm308 pn_X3 (Nat.le_of_ble_eq_true rfl) (Nat.le_of_ble_eq_true rfl)) (fun h as hn => w_run_S mm307 mm308 dX3_tells_128 q2725 q2726 q150 q2727 pa308 hn)
theorem n307_131 : Snd mt G 307 131 (oIast [100] 132) := w_iastore (hm := mm307) (kt := 0) dX3_tells_131 at_0 (Nat.le_of_ble_eq_true rfl) (List.forall_mem_cons.mpr ⟨rfl, (fun t ht => nomatch ht)⟩)
theorem n307_132 : Snd mt G 307 132 (oIload 1 133) := w_iload_n (hm := mm307) dX3_tells_132
theorem n307_133 : Snd mt G 307 133 (oConst (.int 5) 134) := w_iconst (hm := mm307) dX3_tells_133 rfl
theorem n307_134 : Snd mt G 307 134 (oCmpEq 137 184) := w_icmp_ne (hm := mm307) dX3_tells_134 rfl
theorem n307_137 : Snd mt G 307 137 (oAload 0 138) := w_aload_n (hm := mm307) dX3_tells_137
theorem n307_138 : Snd mt G 307 138 (oGetf [4] 26 141) := w_getf (hm := mm307) dX3_tells_138 (fok1 (k := 26) (T := TX3) 3 (Nat.le_of_ble_eq_true rfl) vc_3 (Nat.le_of_ble_eq_true rfl) q2431)
theorem n307_141 : Snd mt G 307 141 (oAload 0 142) := w_aload_n (hm := mm307) dX3_tells_141
theorem n307_142 : Snd mt G 307 142 (oGetf [4] 25 145) := w_getf (hm := mm307) dX3_tells_142 (fok1 (k := 25) (T := TX3) 3 (Nat.le_of_ble_eq_true rfl) vc_3 (Nat.le_of_ble_eq_true rfl) q2430)
theorem n307_145 : Snd mt G 307 145 (oAld [106] 146) := w_aaload (hm := mm307) (kt := 6) dX3_tells_145 rfl at_6 (Nat.le_of_ble_eq_true rfl) (List.forall_mem_cons.mpr ⟨Or.inl rfl, (fun t ht => nomatch ht)⟩)
theorem n307_146 : Snd mt G 307 146 (oConst (.int 0) 147) := w_iconst (hm := mm307) dX3_tells_146 rfl
theorem n307_147 : Snd mt G 307 147 (oIload 2 148) := w_iload_n (hm := mm307) dX3_tells_147
theorem n307_148 : Snd mt G 307 148 (oIast [100] 149) := w_iastore (hm := mm307) (kt := 0) dX3_tells_148 at_0 (Nat.le_of_ble_eq_true rfl) (List.forall_mem_cons.mpr ⟨rfl, (fun t ht => nomatch ht)⟩)
theorem n307_149 : Snd mt G 307 149 (oAload 0 150) := w_aload_n (hm := mm307) dX3_tells_149
theorem n307_150 : Snd mt G 307 150 (oGetf [4] 26 153) := w_getf (hm := mm307) dX3_tells_150 (fok1 (k := 26) (T := TX3) 3 (Nat.le_of_ble_eq_true rfl) vc_3 (Nat.le_of_ble_eq_true rfl) q2431)
theorem n307_153 : Snd mt G 307 153 (oAload 0 154) := w_aload_n (hm := mm307) dX3_tells_153
theorem n307_154 : Snd mt G 307 154 (oGetf [4] 25 157) := w_getf (hm := mm307) dX3_tells_154 (fok1 (k := 25) (T := TX3) 3 (Nat.le_of_ble_eq_true rfl) vc_3 (Nat.le_of_ble_eq_true rfl) q2430)
theorem n307_157 : Snd mt G 307 157 (oAld [106] 158) := w_aaload (hm := mm307) (kt := 6) dX3_tells_157 rfl at_6 (Nat.le_of_ble_eq_true rfl) (List.forall_mem_cons.mpr ⟨Or.inl rfl, (fun t ht => nomatch ht)⟩)
theorem n307_158 : Snd mt G 307 158 (oConst (.int 1) 159) := w_iconst (hm := mm307) dX3_tells_158 rfl
theorem n307_159 : Snd mt G 307 159 (oIload 3 160) := w_iload_n (hm := mm307) dX3_tells_159
theorem n307_160 : Snd mt G 307 160 (oIast [100] 161) := w_iastore (hm := mm307) (kt := 0) dX3_tells_160 at_0 (Nat.le_of_ble_eq_true rfl) (List.forall_mem_cons.mpr ⟨rfl, (fun t ht => nomatch ht)⟩)
theorem n307_161 : Snd mt G 307 161 (oAload 0 162) := w_aload_n (hm := mm307) dX3_tells_161
theorem n307_162 : Snd mt G 307 162 (oGetf [4] 26 165) := w_getf (hm := mm307) dX3_tells_162 (fok1 (k := 26) (T := TX3) 3 (Nat.le_of_ble_eq_true rfl) vc_3 (Nat.le_of_ble_eq_true rfl) q2431)
theorem n307_165 : Snd mt G 307 165 (oAload 0 166) := w_aload_n (hm := mm307) dX3_tells_165
theorem n307_166 : Snd mt G 307 166 (oGetf [4] 25 169) := w_getf (hm := mm307) dX3_tells_166 (fok1 (k := 25) (T := TX3) 3 (Nat.le_of_ble_eq_true rfl) vc_3 (Nat.le_of_ble_eq_true rfl) q2430)
theorem n307_169 : Snd mt G 307 169 (oAld [106] 170) := w_aaload (hm := mm307) (kt := 6) dX3_tells_169 rfl at_6 (Nat.le_of_ble_eq_true rfl) (List.forall_mem_cons.mpr ⟨Or.inl rfl, (fun t ht => nomatch ht)⟩)
theorem n307_170 : Snd mt G 307 170 (oConst (.int 2) 171) := w_iconst (hm := mm307) dX3_tells_170 rfl
theorem n307_171 : Snd mt G 307 171 (oIload 4 173) := w_iload (hm := mm307) dX3_tells_171
theorem n307_173 : Snd mt G 307 173 (oIast [100] 174) := w_iastore (hm := mm307) (kt := 0) dX3_tells_173 at_0 (Nat.le_of_ble_eq_true rfl) (List.forall_mem_cons.mpr ⟨rfl, (fun t ht => nomatch ht)⟩)
theorem n307_174 : Snd mt G 307 174 (oAload 0 175) := w_aload_n (hm := mm307) dX3_tells_174
theorem n307_175 : Snd mt G 307 175 (oDup 176) := w_dup (hm := mm307) dX3_tells_175
theorem n307_176 : Snd mt G 307 176 (oGetf [4] 25 179) := w_getf (hm := mm307) dX3_tells_176 (fok1 (k := 25) (T := TX3) 3 (Nat.le_of_ble_eq_true rfl) vc_3 (Nat.le_of_ble_eq_true rfl) q2430)
theorem n307_179 : Snd mt G 307 179 (oConst (.int 1) 180) := w_iconst (hm := mm307) dX3_tells_179 rfl
theorem n307_180 : Snd mt G 307 180 (oBin (fun x y => x + y) 181) := w_iadd (hm := mm307) dX3_tells_180
theorem n307_181 : Snd mt G 307 181 (oPutf [4] 25 .int 184) := w_putf (hm := mm307) dX3_tells_181 (pok1 (k := 25) (T := TX3) 3 (Nat.le_of_ble_eq_true rfl) vc_3 (Nat.le_of_ble_eq_true rfl) rfl pd_X3_25 q2430)
theorem n307_184 : Snd mt G 307 184 (oIload 1 185) := w_iload_n (hm := mm307) dX3_tells_184
theorem n307_185 : Snd mt G 307 185 (oConst (.int 6) 187) := w_bipush (hm := mm307) dX3_tells_185 (by decide)
theorem n307_187 : Snd mt G 307 187 (oCmpEq 190 201) := w_icmp_ne (hm := mm307) dX3_tells_187 rfl
theorem n307_190 : Snd mt G 307 190 (oAload 0 191) := w_aload_n (hm := mm307) dX3_tells_190
theorem n307_191 : Snd mt G 307 191 (oIload 3 192) := w_iload_n (hm := mm307) dX3_tells_191
theorem n307_192 : Snd mt G 307 192 (oConst (.int 0) 193) := w_iconst (hm := mm307) dX3_tells_192 rfl
theorem n307_193 : Snd mt G 307 193 (oConst (.int 100000) 195) := w_ldc (hm := mm307) dX3_tells_193 q2684
theorem n307_195 : Snd mt G 307 195 (oCall 3 (fS 308 3) 0 198 xOut) := s_callS (m' := 308) (n := 3) xsh_out (w_xok0 mm307) (w_cal mm307 mm308 pn_X3 (Nat.le_of_ble_eq_true rfl) (Nat.le_of_ble_eq_true rfl)) (fun h as hn => w_run_S mm307 mm308 dX3_tells_195 q2725 q2726 q150 q2727 pa308 hn)
theorem n307_198 : Snd mt G 307 198 (oPutf [4] 22 .int 201) := w_putf (hm := mm307) dX3_tells_198 (pok1 (k := 22) (T := TX3) 3 (Nat.le_of_ble_eq_true rfl) vc_3 (Nat.le_of_ble_eq_true rfl) rfl pd_X3_22 q2427)
theorem n307_201 : Snd mt G 307 201 (oRetV) := w_vret (hm := mm307) dX3_tells_201 rfl
theorem sj307 : ∀ pc, Snd mt G 307 pc (j307 pc) := fun pc => (snd_br ((snd_br ((snd_br ((snd_br ((snd_br ((snd_br ((snd_br ((snd_lf n307_201)) ((snd_lf n307_198)))) ((snd_br ((snd_lf n307_195)) ((snd_lf n307_193)))))) ((snd_br ((snd_br ((snd_lf n307_192)) ((snd_lf n307_191)))) ((snd_br ((snd_lf n307_190)) ((snd_lf n307_187)))))))) ((snd_br ((snd_br ((snd_br ((snd_lf n307_185)) ((snd_lf n307_184)))) ((snd_br ((snd_lf n307_181)) ((snd_lf n307_180)))))) ((snd_br ((snd_br ((snd_lf n307_179)) ((snd_lf n307_176)))) ((snd_br ((snd_lf n307_175)) ((snd_lf n307_174)))))))))) ((snd_br ((snd_br ((snd_br ((snd_br ((snd_lf n307_173)) ((snd_lf n307_171)))) ((snd_br ((snd_lf n307_170)) ((snd_lf n307_169)))))) ((snd_br ((snd_br ((snd_lf n307_166)) ((snd_lf n307_165)))) ((snd_br ((snd_lf n307_162)) ((snd_lf n307_161)))))))) ((snd_br ((snd_br ((snd_br ((snd_lf n307_160)) ((snd_lf n307_159)))) ((snd_br ((snd_lf n307_158)) ((snd_lf n307_157)))))) ((snd_br ((snd_br ((snd_lf n307_154)) ((snd_lf n307_153)))) ((snd_br ((snd_lf n307_150)) ((snd_lf n307_149)))))))))))) ((snd_br ((snd_br ((snd_br ((snd_br ((snd_br ((snd_lf n307_148)) ((snd_lf n307_147)))) ((snd_br ((snd_lf n307_146)) ((snd_lf n307_145)))))) ((snd_br ((snd_br ((snd_lf n307_142)) ((snd_lf n307_141)))) ((snd_br ((snd_lf n307_138)) ((snd_lf n307_137)))))))) ((snd_br ((snd_br ((snd_br ((snd_lf n307_134)) ((snd_lf n307_133)))) ((snd_br ((snd_lf n307_132)) ((snd_lf n307_131)))))) ((snd_br ((snd_br ((snd_lf n307_128)) ((snd_lf n307_126)))) ((snd_br ((snd_lf n307_125)) ((snd_lf n307_124)))))))))) ((snd_br ((snd_br ((snd_br ((snd_br ((snd_lf n307_123)) ((snd_lf n307_120)))) ((snd_br ((snd_lf n307_119)) ((snd_lf n307_116)))))) ((snd_br ((snd_br ((snd_lf n307_115)) ((snd_lf n307_114)))) ((snd_br ((snd_lf n307_111)) ((snd_lf n307_110)))))))) ((snd_br ((snd_br ((snd_br ((snd_lf n307_109)) ((snd_lf n307_108)))) ((snd_br ((snd_lf n307_107)) ((snd_lf n307_104)))))) ((snd_br ((snd_br ((snd_lf n307_103)) ((snd_lf n307_102)))) ((snd_br ((snd_lf n307_99)) ((snd_lf n307_98)))))))))))))) ((snd_br ((snd_br ((snd_br ((snd_br ((snd_br ((snd_br ((snd_lf n307_97)) ((snd_lf n307_94)))) ((snd_br ((snd_lf n307_91)) ((snd_lf n307_89)))))) ((snd_br ((snd_br ((snd_lf n307_88)) ((snd_lf n307_87)))) ((snd_br ((snd_lf n307_86)) ((snd_lf n307_83)))))))) ((snd_br ((snd_br ((snd_br ((snd_lf n307_82)) ((snd_lf n307_81)))) ((snd_br ((snd_lf n307_80)) ((snd_lf n307_77)))))) ((snd_br ((snd_br ((snd_lf n307_75)) ((snd_lf n307_74)))) ((snd_br ((snd_lf n307_73)) ((snd_lf n307_72)))))))))) ((snd_br ((snd_br ((snd_br ((snd_br ((snd_lf n307_69)) ((snd_lf n307_68)))) ((snd_br ((snd_lf n307_65)) ((snd_lf n307_64)))))) ((snd_br ((snd_br ((snd_lf n307_63)) ((snd_lf n307_60)))) ((snd_br ((snd_lf n307_57)) ((snd_lf n307_56)))))))) ((snd_br ((snd_br ((snd_br ((snd_lf n307_55)) ((snd_lf n307_52)))) ((snd_br ((snd_lf n307_51)) ((snd_lf n307_50)))))) ((snd_br ((snd_br ((snd_lf n307_49)) ((snd_lf n307_48)))) ((snd_br ((snd_lf n307_47)) ((snd_lf n307_46)))))))))))) ((snd_br ((snd_br ((snd_br ((snd_br ((snd_br ((snd_lf n307_43)) ((snd_lf n307_42)))) ((snd_br ((snd_lf n307_41)) ((snd_lf n307_40)))))) ((snd_br ((snd_br ((snd_lf n307_37)) ((snd_lf n307_36)))) ((snd_br ((snd_lf n307_33)) ((snd_lf n307_32)))))))) ((snd_br ((snd_br ((snd_br ((snd_lf n307_29)) ((snd_lf n307_28)))) ((snd_br ((snd_lf n307_27)) ((snd_lf n307_26)))))) ((snd_br ((snd_br ((snd_lf n307_25)) ((snd_lf n307_24)))) ((snd_br ((snd_lf n307_23)) ((snd_lf n307_22)))))))))) ((snd_br ((snd_br ((snd_br ((snd_br ((snd_lf n307_21)) ((snd_lf n307_20)))) ((snd_br ((snd_lf n307_17)) ((snd_lf n307_16)))))) ((snd_br ((snd_br ((snd_lf n307_15)) ((snd_lf n307_14)))) ((snd_br ((snd_lf n307_13)) ((snd_lf n307_12)))))))) ((snd_br ((snd_br ((snd_br ((snd_lf n307_11)) ((snd_lf n307_10)))) ((snd_br ((snd_lf n307_9)) ((snd_lf n307_8)))))) ((snd_br ((snd_br ((snd_lf n307_5)) ((snd_lf n307_4)))) ((snd_br ((snd_lf n307_1)) ((snd_lf n307_0)))))))))))))))
end
section
variable {G : AG}
theorem n308_0 : Snd mt G 308 0 (oIload 0 1) := w_iload_n (hm := mm308) dX3_within_0
theorem n308_1 : Snd mt G 308 1 (oIload 1 2) := w_iload_n (hm := mm308) dX3_within_1
theorem n308_2 : Snd mt G 308 2 (oCmpGe 9 5) := w_icmp_ge (hm := mm308) dX3_within_2 rfl
theorem n308_5 : Snd mt G 308 5 (oIload 1 6) := w_iload_n (hm := mm308) dX3_within_5
theorem n308_6 : Snd mt G 308 6 (oGoto 19) := w_goto (hm := mm308) dX3_within_6 rfl
theorem n308_9 : Snd mt G 308 9 (oIload 0 10) := w_iload_n (hm := mm308) dX3_within_9
theorem n308_10 : Snd mt G 308 10 (oIload 2 11) := w_iload_n (hm := mm308) dX3_within_10
theorem n308_11 : Snd mt G 308 11 (oCmpLe 18 14) := w_icmp_le (hm := mm308) dX3_within_11 rfl
theorem n308_14 : Snd mt G 308 14 (oIload 2 15) := w_iload_n (hm := mm308) dX3_within_14
theorem n308_15 : Snd mt G 308 15 (oGoto 19) := w_goto (hm := mm308) dX3_within_15 rfl
theorem n308_18 : Snd mt G 308 18 (oIload 0 19) := w_iload_n (hm := mm308) dX3_within_18
theorem n308_19 : Snd mt G 308 19 (oRetI .int) := w_iret (hm := mm308) dX3_within_19 rfl
theorem sj308 : ∀ pc, Snd mt G 308 pc (j308 pc) := fun pc => (snd_br ((snd_br ((snd_br ((snd_br ((snd_lf n308_19)) ((snd_lf n308_18)))) ((snd_lf n308_15)))) ((snd_br ((snd_br ((snd_lf n308_14)) ((snd_lf n308_11)))) ((snd_lf n308_10)))))) ((snd_br ((snd_br ((snd_br ((snd_lf n308_9)) ((snd_lf n308_6)))) ((snd_lf n308_5)))) ((snd_br ((snd_br ((snd_lf n308_2)) ((snd_lf n308_1)))) ((snd_lf n308_0)))))))
end
section
variable {G : AG}
theorem n309_0 : Snd mt G 309 0 (oAload 0 1) := w_aload_n (hm := mm309) dX3_counts_0
theorem n309_1 : Snd mt G 309 1 (oConst (.int 0) 2) := w_iconst (hm := mm309) dX3_counts_1 rfl
theorem n309_2 : Snd mt G 309 2 (oPutf [4] 0 .int 5) := w_putf (hm := mm309) dX3_counts_2 (pok1 (k := 0) (T := TX3) 3 (Nat.le_of_ble_eq_true rfl) vc_3 (Nat.le_of_ble_eq_true rfl) rfl pd_X3_0 q2405)
theorem n309_5 : Snd mt G 309 5 (oAload 0 6) := w_aload_n (hm := mm309) dX3_counts_5
theorem n309_6 : Snd mt G 309 6 (oIload 1 7) := w_iload_n (hm := mm309) dX3_counts_6
theorem n309_7 : Snd mt G 309 7 (oConst (.int 0) 8) := w_iconst (hm := mm309) dX3_counts_7 rfl
theorem n309_8 : Snd mt G 309 8 (oConst (.int 20000) 11) := w_sipush (hm := mm309) dX3_counts_8 (by decide)
theorem n309_11 : Snd mt G 309 11 (oCall 3 (fS 284 3) 0 14 xOut) := s_callS (m' := 284) (n := 3) xsh_out (w_xok0 mm309) (w_cal mm309 mm284 pn_X3 (Nat.le_of_ble_eq_true rfl) (Nat.le_of_ble_eq_true rfl)) (fun h as hn => w_run_S mm309 mm284 dX3_counts_11 q2631 q2632 q150 q2633 pa284 hn)
theorem n309_14 : Snd mt G 309 14 (oIfEq 17 21) := w_if_ne (hm := mm309) dX3_counts_14 rfl
theorem n309_17 : Snd mt G 309 17 (oConst (.int 1) 18) := w_iconst (hm := mm309) dX3_counts_17 rfl
theorem n309_18 : Snd mt G 309 18 (oGoto 22) := w_goto (hm := mm309) dX3_counts_18 rfl
theorem n309_21 : Snd mt G 309 21 (oConst (.int 0) 22) := w_iconst (hm := mm309) dX3_counts_21 rfl
theorem n309_22 : Snd mt G 309 22 (oConst (.int 1) 23) := w_iconst (hm := mm309) dX3_counts_22 rfl
theorem n309_23 : Snd mt G 309 23 (oCall 3 (fV [4] 285 3) 0 26 xOut) := s_callV (m' := 285) (n := 2) xsh_out (w_xok0 mm309) (w_cal mm309 mm285 pn_X3 (Nat.le_of_ble_eq_true rfl) (Nat.le_of_ble_eq_true rfl)) (fun h b as hc hn => w_run_V (ci := 3) mm309 mm285 dX3_counts_23 (Or.inl (List.mem_singleton.mp hc)) (Nat.le_of_ble_eq_true rfl) vc_3 rfl q2634 q2636 qs62 q150 q2637 pa285 hn)
theorem n309_26 : Snd mt G 309 26 (oIfEq 31 29) := w_if_eq (hm := mm309) dX3_counts_26 rfl
theorem n309_29 : Snd mt G 309 29 (oConst (.int 0) 30) := w_iconst (hm := mm309) dX3_counts_29 rfl
theorem n309_30 : Snd mt G 309 30 (oRetI .int) := w_iret (hm := mm309) dX3_counts_30 rfl
theorem n309_31 : Snd mt G 309 31 (oAload 0 32) := w_aload_n (hm := mm309) dX3_counts_31
theorem n309_32 : Snd mt G 309 32 (oIload 1 33) := w_iload_n (hm := mm309) dX3_counts_32
theorem n309_33 : Snd mt G 309 33 (oCall 2 (fV [4] 310 4) 0 36 xOut) := s_callV (m' := 310) (n := 1) xsh_out (w_xok0 mm309) (w_cal mm309 mm310 pn_X3 (Nat.le_of_ble_eq_true rfl) (Nat.le_of_ble_eq_true rfl)) (fun h b as hc hn => w_run_V (ci := 3) mm309 mm310 dX3_counts_33 (Or.inl (List.mem_singleton.mp hc)) (Nat.le_of_ble_eq_true rfl) vc_3 rfl q2733 q2735 qs83 q150 q2736 pa310 hn)
theorem n309_36 : Snd mt G 309 36 (oRetI .int) := w_iret (hm := mm309) dX3_counts_36 rfl
theorem sj309 : ∀ pc, Snd mt G 309 pc (j309 pc) := fun pc => (snd_br ((snd_br ((snd_br ((snd_br ((snd_br ((snd_lf n309_36)) ((snd_lf n309_33)))) ((snd_lf n309_32)))) ((snd_br ((snd_br ((snd_lf n309_31)) ((snd_lf n309_30)))) ((snd_lf n309_29)))))) ((snd_br ((snd_br ((snd_br ((snd_lf n309_26)) ((snd_lf n309_23)))) ((snd_lf n309_22)))) ((snd_br ((snd_lf n309_21)) ((snd_lf n309_18)))))))) ((snd_br ((snd_br ((snd_br ((snd_br ((snd_lf n309_17)) ((snd_lf n309_14)))) ((snd_lf n309_11)))) ((snd_br ((snd_lf n309_8)) ((snd_lf n309_7)))))) ((snd_br ((snd_br ((snd_br ((snd_lf n309_6)) ((snd_lf n309_5)))) ((snd_lf n309_2)))) ((snd_br ((snd_lf n309_1)) ((snd_lf n309_0)))))))))
end
section
variable {G : AG}
theorem n310_0 : Snd mt G 310 0 (oConst (.int (-1)) 1) := w_iconst (hm := mm310) dX3_countsOn_0 rfl
theorem n310_1 : Snd mt G 310 1 (oIstore 2 2) := w_istore_n (hm := mm310) dX3_countsOn_1 (Nat.le_of_ble_eq_true rfl)
theorem n310_2 : Snd mt G 310 2 (oConst (.int 0) 3) := w_iconst (hm := mm310) dX3_countsOn_2 rfl
theorem n310_3 : Snd mt G 310 3 (oIstore 3 4) := w_istore_n (hm := mm310) dX3_countsOn_3 (Nat.le_of_ble_eq_true rfl)
theorem n310_4 : Snd mt G 310 4 (oIload 3 5) := w_iload_n (hm := mm310) dX3_countsOn_4
theorem n310_5 : Snd mt G 310 5 (oAload 0 6) := w_aload_n (hm := mm310) dX3_countsOn_5
theorem n310_6 : Snd mt G 310 6 (oGetf [4] 14 9) := w_getf (hm := mm310) dX3_countsOn_6 (fok1 (k := 14) (T := TX3) 3 (Nat.le_of_ble_eq_true rfl) vc_3 (Nat.le_of_ble_eq_true rfl) q2419)
theorem n310_9 : Snd mt G 310 9 (oCmpGe 50 12) := w_icmp_ge (hm := mm310) dX3_countsOn_9 rfl
theorem n310_12 : Snd mt G 310 12 (oAload 0 13) := w_aload_n (hm := mm310) dX3_countsOn_12
theorem n310_13 : Snd mt G 310 13 (oGetf [4] 13 16) := w_getf (hm := mm310) dX3_countsOn_13 (fok1 (k := 13) (T := TX3) 3 (Nat.le_of_ble_eq_true rfl) vc_3 (Nat.le_of_ble_eq_true rfl) q2418)
theorem n310_16 : Snd mt G 310 16 (oIload 3 17) := w_iload_n (hm := mm310) dX3_countsOn_16
theorem n310_17 : Snd mt G 310 17 (oAld [100] 18) := w_iaload (hm := mm310) (kt := 0) dX3_countsOn_17 at_0 (Nat.le_of_ble_eq_true rfl) (List.forall_mem_cons.mpr ⟨Or.inl rfl, (fun t ht => nomatch ht)⟩)
theorem n310_18 : Snd mt G 310 18 (oIload 1 19) := w_iload_n (hm := mm310) dX3_countsOn_18
theorem n310_19 : Snd mt G 310 19 (oCmpGt 44 22) := w_icmp_gt (hm := mm310) dX3_countsOn_19 rfl
theorem n310_22 : Snd mt G 310 22 (oIload 2 23) := w_iload_n (hm := mm310) dX3_countsOn_22
theorem n310_23 : Snd mt G 310 23 (oConst (.int (-1)) 24) := w_iconst (hm := mm310) dX3_countsOn_23 rfl
theorem n310_24 : Snd mt G 310 24 (oCmpEq 42 27) := w_icmp_eq (hm := mm310) dX3_countsOn_24 rfl
theorem n310_27 : Snd mt G 310 27 (oAload 0 28) := w_aload_n (hm := mm310) dX3_countsOn_27
theorem n310_28 : Snd mt G 310 28 (oGetf [4] 13 31) := w_getf (hm := mm310) dX3_countsOn_28 (fok1 (k := 13) (T := TX3) 3 (Nat.le_of_ble_eq_true rfl) vc_3 (Nat.le_of_ble_eq_true rfl) q2418)
theorem n310_31 : Snd mt G 310 31 (oIload 3 32) := w_iload_n (hm := mm310) dX3_countsOn_31
theorem n310_32 : Snd mt G 310 32 (oAld [100] 33) := w_iaload (hm := mm310) (kt := 0) dX3_countsOn_32 at_0 (Nat.le_of_ble_eq_true rfl) (List.forall_mem_cons.mpr ⟨Or.inl rfl, (fun t ht => nomatch ht)⟩)
theorem n310_33 : Snd mt G 310 33 (oAload 0 34) := w_aload_n (hm := mm310) dX3_countsOn_33
theorem n310_34 : Snd mt G 310 34 (oGetf [4] 13 37) := w_getf (hm := mm310) dX3_countsOn_34 (fok1 (k := 13) (T := TX3) 3 (Nat.le_of_ble_eq_true rfl) vc_3 (Nat.le_of_ble_eq_true rfl) q2418)
theorem n310_37 : Snd mt G 310 37 (oIload 2 38) := w_iload_n (hm := mm310) dX3_countsOn_37
theorem n310_38 : Snd mt G 310 38 (oAld [100] 39) := w_iaload (hm := mm310) (kt := 0) dX3_countsOn_38 at_0 (Nat.le_of_ble_eq_true rfl) (List.forall_mem_cons.mpr ⟨Or.inl rfl, (fun t ht => nomatch ht)⟩)
theorem n310_39 : Snd mt G 310 39 (oCmpLt 44 42) := w_icmp_lt (hm := mm310) dX3_countsOn_39 rfl
theorem n310_42 : Snd mt G 310 42 (oIload 3 43) := w_iload_n (hm := mm310) dX3_countsOn_42
theorem n310_43 : Snd mt G 310 43 (oIstore 2 44) := w_istore_n (hm := mm310) dX3_countsOn_43 (Nat.le_of_ble_eq_true rfl)
theorem n310_44 : Snd mt G 310 44 (oIinc 3 1 47) := w_iinc (hm := mm310) dX3_countsOn_44 rfl (Nat.le_of_ble_eq_true rfl)
theorem n310_47 : Snd mt G 310 47 (oGoto 4) := w_goto (hm := mm310) dX3_countsOn_47 rfl
theorem n310_50 : Snd mt G 310 50 (oIload 2 51) := w_iload_n (hm := mm310) dX3_countsOn_50
theorem n310_51 : Snd mt G 310 51 (oRetI .int) := w_iret (hm := mm310) dX3_countsOn_51 rfl
theorem sj310 : ∀ pc, Snd mt G 310 pc (j310 pc) := fun pc => (snd_br ((snd_br ((snd_br ((snd_br ((snd_br ((snd_lf n310_51)) ((snd_lf n310_50)))) ((snd_br ((snd_lf n310_47)) ((snd_lf n310_44)))))) ((snd_br ((snd_br ((snd_lf n310_43)) ((snd_lf n310_42)))) ((snd_br ((snd_lf n310_39)) ((snd_lf n310_38)))))))) ((snd_br ((snd_br ((snd_br ((snd_lf n310_37)) ((snd_lf n310_34)))) ((snd_br ((snd_lf n310_33)) ((snd_lf n310_32)))))) ((snd_br ((snd_br ((snd_lf n310_31)) ((snd_lf n310_28)))) ((snd_br ((snd_lf n310_27)) ((snd_lf n310_24)))))))))) ((snd_br ((snd_br ((snd_br ((snd_br ((snd_lf n310_23)) ((snd_lf n310_22)))) ((snd_br ((snd_lf n310_19)) ((snd_lf n310_18)))))) ((snd_br ((snd_br ((snd_lf n310_17)) ((snd_lf n310_16)))) ((snd_br ((snd_lf n310_13)) ((snd_lf n310_12)))))))) ((snd_br ((snd_br ((snd_br ((snd_lf n310_9)) ((snd_lf n310_6)))) ((snd_br ((snd_lf n310_5)) ((snd_lf n310_4)))))) ((snd_br ((snd_br ((snd_lf n310_3)) ((snd_lf n310_2)))) ((snd_br ((snd_lf n310_1)) ((snd_lf n310_0)))))))))))
end
section
variable {G : AG}
theorem n311_0 : Snd mt G 311 0 (oAload 0 1) := w_aload_n (hm := mm311) dX3_fault_0
theorem n311_1 : Snd mt G 311 1 (oConst (.int 0) 2) := w_iconst (hm := mm311) dX3_fault_1 rfl
theorem n311_2 : Snd mt G 311 2 (oPutf [4] 0 .int 5) := w_putf (hm := mm311) dX3_fault_2 (pok1 (k := 0) (T := TX3) 3 (Nat.le_of_ble_eq_true rfl) vc_3 (Nat.le_of_ble_eq_true rfl) rfl pd_X3_0 q2405)
theorem n311_5 : Snd mt G 311 5 (oAload 0 6) := w_aload_n (hm := mm311) dX3_fault_5
theorem n311_6 : Snd mt G 311 6 (oGetf [4] 3 9) := w_getf (hm := mm311) dX3_fault_6 (fok1 (k := 3) (T := TX3) 3 (Nat.le_of_ble_eq_true rfl) vc_3 (Nat.le_of_ble_eq_true rfl) q2408)
theorem n311_9 : Snd mt G 311 9 (oRetI .int) := w_iret (hm := mm311) dX3_fault_9 rfl
theorem sj311 : ∀ pc, Snd mt G 311 pc (j311 pc) := fun pc => (snd_br ((snd_br ((snd_br ((snd_lf n311_9)) ((snd_lf n311_6)))) ((snd_lf n311_5)))) ((snd_br ((snd_br ((snd_lf n311_2)) ((snd_lf n311_1)))) ((snd_lf n311_0)))))
end
section
variable {G : AG}
theorem n312_0 : Snd mt G 312 0 (oAload 0 1) := w_aload_n (hm := mm312) dX3_model_0
theorem n312_1 : Snd mt G 312 1 (oConst (.int 0) 2) := w_iconst (hm := mm312) dX3_model_1 rfl
theorem n312_2 : Snd mt G 312 2 (oPutf [4] 0 .int 5) := w_putf (hm := mm312) dX3_model_2 (pok1 (k := 0) (T := TX3) 3 (Nat.le_of_ble_eq_true rfl) vc_3 (Nat.le_of_ble_eq_true rfl) rfl pd_X3_0 q2405)
theorem n312_5 : Snd mt G 312 5 (oAload 0 6) := w_aload_n (hm := mm312) dX3_model_5
theorem n312_6 : Snd mt G 312 6 (oIload 1 7) := w_iload_n (hm := mm312) dX3_model_6
theorem n312_7 : Snd mt G 312 7 (oConst (.int 0) 8) := w_iconst (hm := mm312) dX3_model_7 rfl
theorem n312_8 : Snd mt G 312 8 (oConst (.int 3) 9) := w_iconst (hm := mm312) dX3_model_8 rfl
theorem n312_9 : Snd mt G 312 9 (oCall 3 (fS 284 3) 0 12 xOut) := s_callS (m' := 284) (n := 3) xsh_out (w_xok0 mm312) (w_cal mm312 mm284 pn_X3 (Nat.le_of_ble_eq_true rfl) (Nat.le_of_ble_eq_true rfl)) (fun h as hn => w_run_S mm312 mm284 dX3_model_9 q2631 q2632 q150 q2633 pa284 hn)
theorem n312_12 : Snd mt G 312 12 (oIfEq 49 15) := w_if_eq (hm := mm312) dX3_model_12 rfl
theorem n312_15 : Snd mt G 312 15 (oIload 2 16) := w_iload_n (hm := mm312) dX3_model_15
theorem n312_16 : Snd mt G 312 16 (oConst (.int 0) 17) := w_iconst (hm := mm312) dX3_model_16 rfl
theorem n312_17 : Snd mt G 312 17 (oConst (.int 9999) 20) := w_sipush (hm := mm312) dX3_model_17 (by decide)
theorem n312_20 : Snd mt G 312 20 (oCall 3 (fS 284 3) 0 23 xOut) := s_callS (m' := 284) (n := 3) xsh_out (w_xok0 mm312) (w_cal mm312 mm284 pn_X3 (Nat.le_of_ble_eq_true rfl) (Nat.le_of_ble_eq_true rfl)) (fun h as hn => w_run_S mm312 mm284 dX3_model_20 q2631 q2632 q150 q2633 pa284 hn)
theorem n312_23 : Snd mt G 312 23 (oIfEq 49 26) := w_if_eq (hm := mm312) dX3_model_23 rfl
theorem n312_26 : Snd mt G 312 26 (oIload 3 27) := w_iload_n (hm := mm312) dX3_model_26
theorem n312_27 : Snd mt G 312 27 (oConst (.int 1) 28) := w_iconst (hm := mm312) dX3_model_27 rfl
theorem n312_28 : Snd mt G 312 28 (oConst (.int 200) 31) := w_sipush (hm := mm312) dX3_model_28 (by decide)
theorem n312_31 : Snd mt G 312 31 (oCall 3 (fS 284 3) 0 34 xOut) := s_callS (m' := 284) (n := 3) xsh_out (w_xok0 mm312) (w_cal mm312 mm284 pn_X3 (Nat.le_of_ble_eq_true rfl) (Nat.le_of_ble_eq_true rfl)) (fun h as hn => w_run_S mm312 mm284 dX3_model_31 q2631 q2632 q150 q2633 pa284 hn)
theorem n312_34 : Snd mt G 312 34 (oIfEq 49 37) := w_if_eq (hm := mm312) dX3_model_34 rfl
theorem n312_37 : Snd mt G 312 37 (oIload 4 39) := w_iload (hm := mm312) dX3_model_37
theorem n312_39 : Snd mt G 312 39 (oConst (.int 0) 40) := w_iconst (hm := mm312) dX3_model_39 rfl
theorem n312_40 : Snd mt G 312 40 (oConst (.int 99999999) 43) := w_ldcw (hm := mm312) dX3_model_40 q2745
theorem n312_43 : Snd mt G 312 43 (oCall 3 (fS 284 3) 0 46 xOut) := s_callS (m' := 284) (n := 3) xsh_out (w_xok0 mm312) (w_cal mm312 mm284 pn_X3 (Nat.le_of_ble_eq_true rfl) (Nat.le_of_ble_eq_true rfl)) (fun h as hn => w_run_S mm312 mm284 dX3_model_43 q2631 q2632 q150 q2633 pa284 hn)
theorem n312_46 : Snd mt G 312 46 (oIfEq 49 53) := w_if_ne (hm := mm312) dX3_model_46 rfl
theorem n312_49 : Snd mt G 312 49 (oConst (.int 1) 50) := w_iconst (hm := mm312) dX3_model_49 rfl
theorem n312_50 : Snd mt G 312 50 (oGoto 54) := w_goto (hm := mm312) dX3_model_50 rfl
theorem n312_53 : Snd mt G 312 53 (oConst (.int 0) 54) := w_iconst (hm := mm312) dX3_model_53 rfl
theorem n312_54 : Snd mt G 312 54 (oConst (.int 1) 55) := w_iconst (hm := mm312) dX3_model_54 rfl
theorem n312_55 : Snd mt G 312 55 (oCall 3 (fV [4] 285 3) 0 58 xOut) := s_callV (m' := 285) (n := 2) xsh_out (w_xok0 mm312) (w_cal mm312 mm285 pn_X3 (Nat.le_of_ble_eq_true rfl) (Nat.le_of_ble_eq_true rfl)) (fun h b as hc hn => w_run_V (ci := 3) mm312 mm285 dX3_model_55 (Or.inl (List.mem_singleton.mp hc)) (Nat.le_of_ble_eq_true rfl) vc_3 rfl q2634 q2636 qs62 q150 q2637 pa285 hn)
theorem n312_58 : Snd mt G 312 58 (oIfEq 63 61) := w_if_eq (hm := mm312) dX3_model_58 rfl
theorem n312_61 : Snd mt G 312 61 (oConst (.int 0) 62) := w_iconst (hm := mm312) dX3_model_61 rfl
theorem n312_62 : Snd mt G 312 62 (oRetI .int) := w_iret (hm := mm312) dX3_model_62 rfl
theorem n312_63 : Snd mt G 312 63 (oAload 0 64) := w_aload_n (hm := mm312) dX3_model_63
theorem n312_64 : Snd mt G 312 64 (oGetf [4] 28 67) := w_getf (hm := mm312) dX3_model_64 (fok1 (k := 28) (T := TX3) 3 (Nat.le_of_ble_eq_true rfl) vc_3 (Nat.le_of_ble_eq_true rfl) q2433)
theorem n312_67 : Snd mt G 312 67 (oConst (.int 12) 69) := w_bipush (hm := mm312) dX3_model_67 (by decide)
theorem n312_69 : Snd mt G 312 69 (oCmpEq 72 74) := w_icmp_ne (hm := mm312) dX3_model_69 rfl
theorem n312_72 : Snd mt G 312 72 (oConst (.int (-1)) 73) := w_iconst (hm := mm312) dX3_model_72 rfl
theorem n312_73 : Snd mt G 312 73 (oRetI .int) := w_iret (hm := mm312) dX3_model_73 rfl
theorem n312_74 : Snd mt G 312 74 (oAload 0 75) := w_aload_n (hm := mm312) dX3_model_74
theorem n312_75 : Snd mt G 312 75 (oGetf [4] 45 78) := w_getf (hm := mm312) dX3_model_75 (fok1 (k := 45) (T := TX3) 3 (Nat.le_of_ble_eq_true rfl) vc_3 (Nat.le_of_ble_eq_true rfl) q2450)
theorem n312_78 : Snd mt G 312 78 (oAload 0 79) := w_aload_n (hm := mm312) dX3_model_78
theorem n312_79 : Snd mt G 312 79 (oGetf [4] 28 82) := w_getf (hm := mm312) dX3_model_79 (fok1 (k := 28) (T := TX3) 3 (Nat.le_of_ble_eq_true rfl) vc_3 (Nat.le_of_ble_eq_true rfl) q2433)
theorem n312_82 : Snd mt G 312 82 (oAld [106] 83) := w_aaload (hm := mm312) (kt := 6) dX3_model_82 rfl at_6 (Nat.le_of_ble_eq_true rfl) (List.forall_mem_cons.mpr ⟨Or.inl rfl, (fun t ht => nomatch ht)⟩)
theorem n312_83 : Snd mt G 312 83 (oAstore 5 85) := w_astore (hm := mm312) dX3_model_83 (Nat.le_of_ble_eq_true rfl)
theorem n312_85 : Snd mt G 312 85 (oAload 5 87) := w_aload (hm := mm312) dX3_model_85
theorem n312_87 : Snd mt G 312 87 (oConst (.int 0) 88) := w_iconst (hm := mm312) dX3_model_87 rfl
theorem n312_88 : Snd mt G 312 88 (oIload 1 89) := w_iload_n (hm := mm312) dX3_model_88
theorem n312_89 : Snd mt G 312 89 (oIast [100] 90) := w_iastore (hm := mm312) (kt := 0) dX3_model_89 at_0 (Nat.le_of_ble_eq_true rfl) (List.forall_mem_cons.mpr ⟨rfl, (fun t ht => nomatch ht)⟩)
theorem n312_90 : Snd mt G 312 90 (oAload 5 92) := w_aload (hm := mm312) dX3_model_90
theorem n312_92 : Snd mt G 312 92 (oConst (.int 1) 93) := w_iconst (hm := mm312) dX3_model_92 rfl
theorem n312_93 : Snd mt G 312 93 (oIload 2 94) := w_iload_n (hm := mm312) dX3_model_93
theorem n312_94 : Snd mt G 312 94 (oIast [100] 95) := w_iastore (hm := mm312) (kt := 0) dX3_model_94 at_0 (Nat.le_of_ble_eq_true rfl) (List.forall_mem_cons.mpr ⟨rfl, (fun t ht => nomatch ht)⟩)
theorem n312_95 : Snd mt G 312 95 (oAload 5 97) := w_aload (hm := mm312) dX3_model_95
theorem n312_97 : Snd mt G 312 97 (oConst (.int 2) 98) := w_iconst (hm := mm312) dX3_model_97 rfl
theorem n312_98 : Snd mt G 312 98 (oIload 3 99) := w_iload_n (hm := mm312) dX3_model_98
theorem n312_99 : Snd mt G 312 99 (oIast [100] 100) := w_iastore (hm := mm312) (kt := 0) dX3_model_99 at_0 (Nat.le_of_ble_eq_true rfl) (List.forall_mem_cons.mpr ⟨rfl, (fun t ht => nomatch ht)⟩)
theorem n312_100 : Snd mt G 312 100 (oIload 4 102) := w_iload (hm := mm312) dX3_model_100
theorem n312_102 : Snd mt G 312 102 (oIstore 6 104) := w_istore (hm := mm312) dX3_model_102 (Nat.le_of_ble_eq_true rfl)
theorem n312_104 : Snd mt G 312 104 (oConst (.int 3) 105) := w_iconst (hm := mm312) dX3_model_104 rfl
theorem n312_105 : Snd mt G 312 105 (oIstore 7 107) := w_istore (hm := mm312) dX3_model_105 (Nat.le_of_ble_eq_true rfl)
theorem n312_107 : Snd mt G 312 107 (oIload 7 109) := w_iload (hm := mm312) dX3_model_107
theorem n312_109 : Snd mt G 312 109 (oIfLt 137 112) := w_if_lt (hm := mm312) dX3_model_109 rfl
theorem n312_112 : Snd mt G 312 112 (oAload 5 114) := w_aload (hm := mm312) dX3_model_112
theorem n312_114 : Snd mt G 312 114 (oConst (.int 3) 115) := w_iconst (hm := mm312) dX3_model_114 rfl
theorem n312_115 : Snd mt G 312 115 (oIload 7 117) := w_iload (hm := mm312) dX3_model_115
theorem n312_117 : Snd mt G 312 117 (oBin (fun x y => x + y) 118) := w_iadd (hm := mm312) dX3_model_117
theorem n312_118 : Snd mt G 312 118 (oIload 6 120) := w_iload (hm := mm312) dX3_model_118
theorem n312_120 : Snd mt G 312 120 (oConst (.int 100) 122) := w_bipush (hm := mm312) dX3_model_120 (by decide)
theorem n312_122 : Snd mt G 312 122 (oDiv (fun x y => x - x / y * y) 123) := w_irem (hm := mm312) dX3_model_122
theorem n312_123 : Snd mt G 312 123 (oIast [100] 124) := w_iastore (hm := mm312) (kt := 0) dX3_model_123 at_0 (Nat.le_of_ble_eq_true rfl) (List.forall_mem_cons.mpr ⟨rfl, (fun t ht => nomatch ht)⟩)
theorem n312_124 : Snd mt G 312 124 (oIload 6 126) := w_iload (hm := mm312) dX3_model_124
theorem n312_126 : Snd mt G 312 126 (oConst (.int 100) 128) := w_bipush (hm := mm312) dX3_model_126 (by decide)
theorem n312_128 : Snd mt G 312 128 (oDiv (fun x y => x / y) 129) := w_idiv (hm := mm312) dX3_model_128
theorem n312_129 : Snd mt G 312 129 (oIstore 6 131) := w_istore (hm := mm312) dX3_model_129 (Nat.le_of_ble_eq_true rfl)
theorem n312_131 : Snd mt G 312 131 (oIinc 7 (-1) 134) := w_iinc (hm := mm312) dX3_model_131 rfl (Nat.le_of_ble_eq_true rfl)
theorem n312_134 : Snd mt G 312 134 (oGoto 107) := w_goto (hm := mm312) dX3_model_134 rfl
theorem n312_137 : Snd mt G 312 137 (oAload 0 138) := w_aload_n (hm := mm312) dX3_model_137
theorem n312_138 : Snd mt G 312 138 (oDup 139) := w_dup (hm := mm312) dX3_model_138
theorem n312_139 : Snd mt G 312 139 (oGetf [4] 28 142) := w_getf (hm := mm312) dX3_model_139 (fok1 (k := 28) (T := TX3) 3 (Nat.le_of_ble_eq_true rfl) vc_3 (Nat.le_of_ble_eq_true rfl) q2433)
theorem n312_142 : Snd mt G 312 142 (oConst (.int 1) 143) := w_iconst (hm := mm312) dX3_model_142 rfl
theorem n312_143 : Snd mt G 312 143 (oBin (fun x y => x + y) 144) := w_iadd (hm := mm312) dX3_model_143
theorem n312_144 : Snd mt G 312 144 (oPutf [4] 28 .int 147) := w_putf (hm := mm312) dX3_model_144 (pok1 (k := 28) (T := TX3) 3 (Nat.le_of_ble_eq_true rfl) vc_3 (Nat.le_of_ble_eq_true rfl) rfl pd_X3_28 q2433)
theorem n312_147 : Snd mt G 312 147 (oAload 0 148) := w_aload_n (hm := mm312) dX3_model_147
theorem n312_148 : Snd mt G 312 148 (oGetf [4] 28 151) := w_getf (hm := mm312) dX3_model_148 (fok1 (k := 28) (T := TX3) 3 (Nat.le_of_ble_eq_true rfl) vc_3 (Nat.le_of_ble_eq_true rfl) q2433)
theorem n312_151 : Snd mt G 312 151 (oConst (.int 1) 152) := w_iconst (hm := mm312) dX3_model_151 rfl
theorem n312_152 : Snd mt G 312 152 (oBin (fun x y => x - y) 153) := w_isub (hm := mm312) dX3_model_152
theorem n312_153 : Snd mt G 312 153 (oRetI .int) := w_iret (hm := mm312) dX3_model_153 rfl
theorem sj312 : ∀ pc, Snd mt G 312 pc (j312 pc) := fun pc => (snd_br ((snd_br ((snd_br ((snd_br ((snd_br ((snd_br ((snd_br ((snd_lf n312_153)) ((snd_lf n312_152)))) ((snd_lf n312_151)))) ((snd_br ((snd_br ((snd_lf n312_148)) ((snd_lf n312_147)))) ((snd_lf n312_144)))))) ((snd_br ((snd_br ((snd_br ((snd_lf n312_143)) ((snd_lf n312_142)))) ((snd_lf n312_139)))) ((snd_br ((snd_lf n312_138)) ((snd_lf n312_137)))))))) ((snd_br ((snd_br ((snd_br ((snd_br ((snd_lf n312_134)) ((snd_lf n312_131)))) ((snd_lf n312_129)))) ((snd_br ((snd_br ((snd_lf n312_128)) ((snd_lf n312_126)))) ((snd_lf n312_124)))))) ((snd_br ((snd_br ((snd_br ((snd_lf n312_123)) ((snd_lf n312_122)))) ((snd_lf n312_120)))) ((snd_br ((snd_lf n312_118)) ((snd_lf n312_117)))))))))) ((snd_br ((snd_br ((snd_br ((snd_br ((snd_br ((snd_lf n312_115)) ((snd_lf n312_114)))) ((snd_lf n312_112)))) ((snd_br ((snd_br ((snd_lf n312_109)) ((snd_lf n312_107)))) ((snd_lf n312_105)))))) ((snd_br ((snd_br ((snd_br ((snd_lf n312_104)) ((snd_lf n312_102)))) ((snd_lf n312_100)))) ((snd_br ((snd_lf n312_99)) ((snd_lf n312_98)))))))) ((snd_br ((snd_br ((snd_br ((snd_br ((snd_lf n312_97)) ((snd_lf n312_95)))) ((snd_lf n312_94)))) ((snd_br ((snd_br ((snd_lf n312_93)) ((snd_lf n312_92)))) ((snd_lf n312_90)))))) ((snd_br ((snd_br ((snd_br ((snd_lf n312_89)) ((snd_lf n312_88)))) ((snd_lf n312_87)))) ((snd_br ((snd_lf n312_85)) ((snd_lf n312_83)))))))))))) ((snd_br ((snd_br ((snd_br ((snd_br ((snd_br ((snd_br ((snd_lf n312_82)) ((snd_lf n312_79)))) ((snd_lf n312_78)))) ((snd_br ((snd_br ((snd_lf n312_75)) ((snd_lf n312_74)))) ((snd_lf n312_73)))))) ((snd_br ((snd_br ((snd_br ((snd_lf n312_72)) ((snd_lf n312_69)))) ((snd_lf n312_67)))) ((snd_br ((snd_lf n312_64)) ((snd_lf n312_63)))))))) ((snd_br ((snd_br ((snd_br ((snd_br ((snd_lf n312_62)) ((snd_lf n312_61)))) ((snd_lf n312_58)))) ((snd_br ((snd_br ((snd_lf n312_55)) ((snd_lf n312_54)))) ((snd_lf n312_53)))))) ((snd_br ((snd_br ((snd_br ((snd_lf n312_50)) ((snd_lf n312_49)))) ((snd_lf n312_46)))) ((snd_br ((snd_lf n312_43)) ((snd_lf n312_40)))))))))) ((snd_br ((snd_br ((snd_br ((snd_br ((snd_br ((snd_lf n312_39)) ((snd_lf n312_37)))) ((snd_lf n312_34)))) ((snd_br ((snd_br ((snd_lf n312_31)) ((snd_lf n312_28)))) ((snd_lf n312_27)))))) ((snd_br ((snd_br ((snd_br ((snd_lf n312_26)) ((snd_lf n312_23)))) ((snd_lf n312_20)))) ((snd_br ((snd_lf n312_17)) ((snd_lf n312_16)))))))) ((snd_br ((snd_br ((snd_br ((snd_br ((snd_lf n312_15)) ((snd_lf n312_12)))) ((snd_lf n312_9)))) ((snd_br ((snd_lf n312_8)) ((snd_lf n312_7)))))) ((snd_br ((snd_br ((snd_br ((snd_lf n312_6)) ((snd_lf n312_5)))) ((snd_lf n312_2)))) ((snd_br ((snd_lf n312_1)) ((snd_lf n312_0)))))))))))))
end
section
variable {G : AG}
theorem n313_0 : Snd mt G 313 0 (oAload 0 1) := w_aload_n (hm := mm313) dX3_days_0
theorem n313_1 : Snd mt G 313 1 (oConst (.int 0) 2) := w_iconst (hm := mm313) dX3_days_1 rfl
theorem n313_2 : Snd mt G 313 2 (oPutf [4] 0 .int 5) := w_putf (hm := mm313) dX3_days_2 (pok1 (k := 0) (T := TX3) 3 (Nat.le_of_ble_eq_true rfl) vc_3 (Nat.le_of_ble_eq_true rfl) rfl pd_X3_0 q2405)
theorem n313_5 : Snd mt G 313 5 (oAload 0 6) := w_aload_n (hm := mm313) dX3_days_5
theorem n313_6 : Snd mt G 313 6 (oIload 1 7) := w_iload_n (hm := mm313) dX3_days_6
theorem n313_7 : Snd mt G 313 7 (oConst (.int 0) 8) := w_iconst (hm := mm313) dX3_days_7 rfl
theorem n313_8 : Snd mt G 313 8 (oConst (.int 999) 11) := w_sipush (hm := mm313) dX3_days_8 (by decide)
theorem n313_11 : Snd mt G 313 11 (oCall 3 (fS 284 3) 0 14 xOut) := s_callS (m' := 284) (n := 3) xsh_out (w_xok0 mm313) (w_cal mm313 mm284 pn_X3 (Nat.le_of_ble_eq_true rfl) (Nat.le_of_ble_eq_true rfl)) (fun h as hn => w_run_S mm313 mm284 dX3_days_11 q2631 q2632 q150 q2633 pa284 hn)
theorem n313_14 : Snd mt G 313 14 (oIfEq 17 21) := w_if_ne (hm := mm313) dX3_days_14 rfl
theorem n313_17 : Snd mt G 313 17 (oConst (.int 1) 18) := w_iconst (hm := mm313) dX3_days_17 rfl
theorem n313_18 : Snd mt G 313 18 (oGoto 22) := w_goto (hm := mm313) dX3_days_18 rfl
theorem n313_21 : Snd mt G 313 21 (oConst (.int 0) 22) := w_iconst (hm := mm313) dX3_days_21 rfl
theorem n313_22 : Snd mt G 313 22 (oConst (.int 1) 23) := w_iconst (hm := mm313) dX3_days_22 rfl
theorem n313_23 : Snd mt G 313 23 (oCall 3 (fV [4] 285 3) 0 26 xOut) := s_callV (m' := 285) (n := 2) xsh_out (w_xok0 mm313) (w_cal mm313 mm285 pn_X3 (Nat.le_of_ble_eq_true rfl) (Nat.le_of_ble_eq_true rfl)) (fun h b as hc hn => w_run_V (ci := 3) mm313 mm285 dX3_days_23 (Or.inl (List.mem_singleton.mp hc)) (Nat.le_of_ble_eq_true rfl) vc_3 rfl q2634 q2636 qs62 q150 q2637 pa285 hn)
theorem n313_26 : Snd mt G 313 26 (oIfEq 29 54) := w_if_ne (hm := mm313) dX3_days_26 rfl
theorem n313_29 : Snd mt G 313 29 (oAload 0 30) := w_aload_n (hm := mm313) dX3_days_29
theorem n313_30 : Snd mt G 313 30 (oAload 0 31) := w_aload_n (hm := mm313) dX3_days_30
theorem n313_31 : Snd mt G 313 31 (oGetf [4] 27 34) := w_getf (hm := mm313) dX3_days_31 (fok1 (k := 27) (T := TX3) 3 (Nat.le_of_ble_eq_true rfl) vc_3 (Nat.le_of_ble_eq_true rfl) q2432)
theorem n313_34 : Snd mt G 313 34 (oIload 1 35) := w_iload_n (hm := mm313) dX3_days_34
theorem n313_35 : Snd mt G 313 35 (oBin (fun x y => x + y) 36) := w_iadd (hm := mm313) dX3_days_35
theorem n313_36 : Snd mt G 313 36 (oConst (.int 20000) 39) := w_sipush (hm := mm313) dX3_days_36 (by decide)
theorem n313_39 : Snd mt G 313 39 (oCmpLe 46 42) := w_icmp_le (hm := mm313) dX3_days_39 rfl
theorem n313_42 : Snd mt G 313 42 (oConst (.int 1) 43) := w_iconst (hm := mm313) dX3_days_42 rfl
theorem n313_43 : Snd mt G 313 43 (oGoto 47) := w_goto (hm := mm313) dX3_days_43 rfl
theorem n313_46 : Snd mt G 313 46 (oConst (.int 0) 47) := w_iconst (hm := mm313) dX3_days_46 rfl
theorem n313_47 : Snd mt G 313 47 (oConst (.int 2) 48) := w_iconst (hm := mm313) dX3_days_47 rfl
theorem n313_48 : Snd mt G 313 48 (oCall 3 (fV [4] 285 3) 0 51 xOut) := s_callV (m' := 285) (n := 2) xsh_out (w_xok0 mm313) (w_cal mm313 mm285 pn_X3 (Nat.le_of_ble_eq_true rfl) (Nat.le_of_ble_eq_true rfl)) (fun h b as hc hn => w_run_V (ci := 3) mm313 mm285 dX3_days_48 (Or.inl (List.mem_singleton.mp hc)) (Nat.le_of_ble_eq_true rfl) vc_3 rfl q2634 q2636 qs62 q150 q2637 pa285 hn)
theorem n313_51 : Snd mt G 313 51 (oIfEq 56 54) := w_if_eq (hm := mm313) dX3_days_51 rfl
theorem n313_54 : Snd mt G 313 54 (oConst (.int 0) 55) := w_iconst (hm := mm313) dX3_days_54 rfl
theorem n313_55 : Snd mt G 313 55 (oRetI .int) := w_iret (hm := mm313) dX3_days_55 rfl
theorem n313_56 : Snd mt G 313 56 (oAload 0 57) := w_aload_n (hm := mm313) dX3_days_56
theorem n313_57 : Snd mt G 313 57 (oDup 58) := w_dup (hm := mm313) dX3_days_57
theorem n313_58 : Snd mt G 313 58 (oGetf [4] 27 61) := w_getf (hm := mm313) dX3_days_58 (fok1 (k := 27) (T := TX3) 3 (Nat.le_of_ble_eq_true rfl) vc_3 (Nat.le_of_ble_eq_true rfl) q2432)
theorem n313_61 : Snd mt G 313 61 (oIload 1 62) := w_iload_n (hm := mm313) dX3_days_61
theorem n313_62 : Snd mt G 313 62 (oBin (fun x y => x + y) 63) := w_iadd (hm := mm313) dX3_days_62
theorem n313_63 : Snd mt G 313 63 (oPutf [4] 27 .int 66) := w_putf (hm := mm313) dX3_days_63 (pok1 (k := 27) (T := TX3) 3 (Nat.le_of_ble_eq_true rfl) vc_3 (Nat.le_of_ble_eq_true rfl) rfl pd_X3_27 q2432)
theorem n313_66 : Snd mt G 313 66 (oAload 0 67) := w_aload_n (hm := mm313) dX3_days_66
theorem n313_67 : Snd mt G 313 67 (oGetf [4] 27 70) := w_getf (hm := mm313) dX3_days_67 (fok1 (k := 27) (T := TX3) 3 (Nat.le_of_ble_eq_true rfl) vc_3 (Nat.le_of_ble_eq_true rfl) q2432)
theorem n313_70 : Snd mt G 313 70 (oRetI .int) := w_iret (hm := mm313) dX3_days_70 rfl
theorem sj313 : ∀ pc, Snd mt G 313 pc (j313 pc) := fun pc => (snd_br ((snd_br ((snd_br ((snd_br ((snd_br ((snd_br ((snd_lf n313_70)) ((snd_lf n313_67)))) ((snd_lf n313_66)))) ((snd_br ((snd_lf n313_63)) ((snd_lf n313_62)))))) ((snd_br ((snd_br ((snd_br ((snd_lf n313_61)) ((snd_lf n313_58)))) ((snd_lf n313_57)))) ((snd_br ((snd_lf n313_56)) ((snd_lf n313_55)))))))) ((snd_br ((snd_br ((snd_br ((snd_br ((snd_lf n313_54)) ((snd_lf n313_51)))) ((snd_lf n313_48)))) ((snd_br ((snd_lf n313_47)) ((snd_lf n313_46)))))) ((snd_br ((snd_br ((snd_br ((snd_lf n313_43)) ((snd_lf n313_42)))) ((snd_lf n313_39)))) ((snd_br ((snd_lf n313_36)) ((snd_lf n313_35)))))))))) ((snd_br ((snd_br ((snd_br ((snd_br ((snd_br ((snd_lf n313_34)) ((snd_lf n313_31)))) ((snd_lf n313_30)))) ((snd_br ((snd_lf n313_29)) ((snd_lf n313_26)))))) ((snd_br ((snd_br ((snd_br ((snd_lf n313_23)) ((snd_lf n313_22)))) ((snd_lf n313_21)))) ((snd_br ((snd_lf n313_18)) ((snd_lf n313_17)))))))) ((snd_br ((snd_br ((snd_br ((snd_br ((snd_lf n313_14)) ((snd_lf n313_11)))) ((snd_lf n313_8)))) ((snd_br ((snd_lf n313_7)) ((snd_lf n313_6)))))) ((snd_br ((snd_br ((snd_lf n313_5)) ((snd_lf n313_2)))) ((snd_br ((snd_lf n313_1)) ((snd_lf n313_0)))))))))))
end
section
variable {G : AG}
theorem n314_0 : Snd mt G 314 0 (oAload 0 1) := w_aload_n (hm := mm314) dX3_person_0
theorem n314_1 : Snd mt G 314 1 (oConst (.int 0) 2) := w_iconst (hm := mm314) dX3_person_1 rfl
theorem n314_2 : Snd mt G 314 2 (oPutf [4] 0 .int 5) := w_putf (hm := mm314) dX3_person_2 (pok1 (k := 0) (T := TX3) 3 (Nat.le_of_ble_eq_true rfl) vc_3 (Nat.le_of_ble_eq_true rfl) rfl pd_X3_0 q2405)
theorem n314_5 : Snd mt G 314 5 (oAload 0 6) := w_aload_n (hm := mm314) dX3_person_5
theorem n314_6 : Snd mt G 314 6 (oIload 1 7) := w_iload_n (hm := mm314) dX3_person_6
theorem n314_7 : Snd mt G 314 7 (oConst (.int 1) 8) := w_iconst (hm := mm314) dX3_person_7 rfl
theorem n314_8 : Snd mt G 314 8 (oConst (.int 200) 11) := w_sipush (hm := mm314) dX3_person_8 (by decide)
theorem n314_11 : Snd mt G 314 11 (oCall 3 (fS 284 3) 0 14 xOut) := s_callS (m' := 284) (n := 3) xsh_out (w_xok0 mm314) (w_cal mm314 mm284 pn_X3 (Nat.le_of_ble_eq_true rfl) (Nat.le_of_ble_eq_true rfl)) (fun h as hn => w_run_S mm314 mm284 dX3_person_11 q2631 q2632 q150 q2633 pa284 hn)
theorem n314_14 : Snd mt G 314 14 (oIfEq 51 17) := w_if_eq (hm := mm314) dX3_person_14 rfl
theorem n314_17 : Snd mt G 314 17 (oIload 2 18) := w_iload_n (hm := mm314) dX3_person_17
theorem n314_18 : Snd mt G 314 18 (oConst (.int 0) 19) := w_iconst (hm := mm314) dX3_person_18 rfl
theorem n314_19 : Snd mt G 314 19 (oConst (.int 3) 20) := w_iconst (hm := mm314) dX3_person_19 rfl
theorem n314_20 : Snd mt G 314 20 (oCall 3 (fS 284 3) 0 23 xOut) := s_callS (m' := 284) (n := 3) xsh_out (w_xok0 mm314) (w_cal mm314 mm284 pn_X3 (Nat.le_of_ble_eq_true rfl) (Nat.le_of_ble_eq_true rfl)) (fun h as hn => w_run_S mm314 mm284 dX3_person_20 q2631 q2632 q150 q2633 pa284 hn)
theorem n314_23 : Snd mt G 314 23 (oIfEq 51 26) := w_if_eq (hm := mm314) dX3_person_23 rfl
theorem n314_26 : Snd mt G 314 26 (oIload 3 27) := w_iload_n (hm := mm314) dX3_person_26
theorem n314_27 : Snd mt G 314 27 (oConst (.int (-30000)) 30) := w_sipush (hm := mm314) dX3_person_27 (by decide)
theorem n314_30 : Snd mt G 314 30 (oAload 0 31) := w_aload_n (hm := mm314) dX3_person_30
theorem n314_31 : Snd mt G 314 31 (oGetf [4] 27 34) := w_getf (hm := mm314) dX3_person_31 (fok1 (k := 27) (T := TX3) 3 (Nat.le_of_ble_eq_true rfl) vc_3 (Nat.le_of_ble_eq_true rfl) q2432)
theorem n314_34 : Snd mt G 314 34 (oCall 3 (fS 284 3) 0 37 xOut) := s_callS (m' := 284) (n := 3) xsh_out (w_xok0 mm314) (w_cal mm314 mm284 pn_X3 (Nat.le_of_ble_eq_true rfl) (Nat.le_of_ble_eq_true rfl)) (fun h as hn => w_run_S mm314 mm284 dX3_person_34 q2631 q2632 q150 q2633 pa284 hn)
theorem n314_37 : Snd mt G 314 37 (oIfEq 51 40) := w_if_eq (hm := mm314) dX3_person_37 rfl
theorem n314_40 : Snd mt G 314 40 (oIload 4 42) := w_iload (hm := mm314) dX3_person_40
theorem n314_42 : Snd mt G 314 42 (oConst (.int 0) 43) := w_iconst (hm := mm314) dX3_person_42 rfl
theorem n314_43 : Snd mt G 314 43 (oConst (.int 99) 45) := w_bipush (hm := mm314) dX3_person_43 (by decide)
theorem n314_45 : Snd mt G 314 45 (oCall 3 (fS 284 3) 0 48 xOut) := s_callS (m' := 284) (n := 3) xsh_out (w_xok0 mm314) (w_cal mm314 mm284 pn_X3 (Nat.le_of_ble_eq_true rfl) (Nat.le_of_ble_eq_true rfl)) (fun h as hn => w_run_S mm314 mm284 dX3_person_45 q2631 q2632 q150 q2633 pa284 hn)
theorem n314_48 : Snd mt G 314 48 (oIfEq 51 55) := w_if_ne (hm := mm314) dX3_person_48 rfl
theorem n314_51 : Snd mt G 314 51 (oConst (.int 1) 52) := w_iconst (hm := mm314) dX3_person_51 rfl
theorem n314_52 : Snd mt G 314 52 (oGoto 56) := w_goto (hm := mm314) dX3_person_52 rfl
theorem n314_55 : Snd mt G 314 55 (oConst (.int 0) 56) := w_iconst (hm := mm314) dX3_person_55 rfl
theorem n314_56 : Snd mt G 314 56 (oConst (.int 1) 57) := w_iconst (hm := mm314) dX3_person_56 rfl
theorem n314_57 : Snd mt G 314 57 (oCall 3 (fV [4] 285 3) 0 60 xOut) := s_callV (m' := 285) (n := 2) xsh_out (w_xok0 mm314) (w_cal mm314 mm285 pn_X3 (Nat.le_of_ble_eq_true rfl) (Nat.le_of_ble_eq_true rfl)) (fun h b as hc hn => w_run_V (ci := 3) mm314 mm285 dX3_person_57 (Or.inl (List.mem_singleton.mp hc)) (Nat.le_of_ble_eq_true rfl) vc_3 rfl q2634 q2636 qs62 q150 q2637 pa285 hn)
theorem n314_60 : Snd mt G 314 60 (oIfEq 65 63) := w_if_eq (hm := mm314) dX3_person_60 rfl
theorem n314_63 : Snd mt G 314 63 (oConst (.int 0) 64) := w_iconst (hm := mm314) dX3_person_63 rfl
theorem n314_64 : Snd mt G 314 64 (oRetI .int) := w_iret (hm := mm314) dX3_person_64 rfl
theorem n314_65 : Snd mt G 314 65 (oAload 0 66) := w_aload_n (hm := mm314) dX3_person_65
theorem n314_66 : Snd mt G 314 66 (oGetf [4] 29 69) := w_getf (hm := mm314) dX3_person_66 (fok1 (k := 29) (T := TX3) 3 (Nat.le_of_ble_eq_true rfl) vc_3 (Nat.le_of_ble_eq_true rfl) q2434)
theorem n314_69 : Snd mt G 314 69 (oConst (.int 10) 71) := w_bipush (hm := mm314) dX3_person_69 (by decide)
theorem n314_71 : Snd mt G 314 71 (oCmpEq 74 76) := w_icmp_ne (hm := mm314) dX3_person_71 rfl
theorem n314_74 : Snd mt G 314 74 (oConst (.int (-1)) 75) := w_iconst (hm := mm314) dX3_person_74 rfl
theorem n314_75 : Snd mt G 314 75 (oRetI .int) := w_iret (hm := mm314) dX3_person_75 rfl
theorem n314_76 : Snd mt G 314 76 (oAload 0 77) := w_aload_n (hm := mm314) dX3_person_76
theorem n314_77 : Snd mt G 314 77 (oGetf [4] 46 80) := w_getf (hm := mm314) dX3_person_77 (fok1 (k := 46) (T := TX3) 3 (Nat.le_of_ble_eq_true rfl) vc_3 (Nat.le_of_ble_eq_true rfl) q2451)
theorem n314_80 : Snd mt G 314 80 (oAload 0 81) := w_aload_n (hm := mm314) dX3_person_80
theorem n314_81 : Snd mt G 314 81 (oGetf [4] 29 84) := w_getf (hm := mm314) dX3_person_81 (fok1 (k := 29) (T := TX3) 3 (Nat.le_of_ble_eq_true rfl) vc_3 (Nat.le_of_ble_eq_true rfl) q2434)
theorem n314_84 : Snd mt G 314 84 (oAld [106] 85) := w_aaload (hm := mm314) (kt := 6) dX3_person_84 rfl at_6 (Nat.le_of_ble_eq_true rfl) (List.forall_mem_cons.mpr ⟨Or.inl rfl, (fun t ht => nomatch ht)⟩)
theorem n314_85 : Snd mt G 314 85 (oAstore 6 87) := w_astore (hm := mm314) dX3_person_85 (Nat.le_of_ble_eq_true rfl)
theorem n314_87 : Snd mt G 314 87 (oAload 6 89) := w_aload (hm := mm314) dX3_person_87
theorem n314_89 : Snd mt G 314 89 (oConst (.int 0) 90) := w_iconst (hm := mm314) dX3_person_89 rfl
theorem n314_90 : Snd mt G 314 90 (oIload 1 91) := w_iload_n (hm := mm314) dX3_person_90
theorem n314_91 : Snd mt G 314 91 (oIast [100] 92) := w_iastore (hm := mm314) (kt := 0) dX3_person_91 at_0 (Nat.le_of_ble_eq_true rfl) (List.forall_mem_cons.mpr ⟨rfl, (fun t ht => nomatch ht)⟩)
theorem n314_92 : Snd mt G 314 92 (oAload 6 94) := w_aload (hm := mm314) dX3_person_92
theorem n314_94 : Snd mt G 314 94 (oConst (.int 1) 95) := w_iconst (hm := mm314) dX3_person_94 rfl
theorem n314_95 : Snd mt G 314 95 (oIload 2 96) := w_iload_n (hm := mm314) dX3_person_95
theorem n314_96 : Snd mt G 314 96 (oIast [100] 97) := w_iastore (hm := mm314) (kt := 0) dX3_person_96 at_0 (Nat.le_of_ble_eq_true rfl) (List.forall_mem_cons.mpr ⟨rfl, (fun t ht => nomatch ht)⟩)
theorem n314_97 : Snd mt G 314 97 (oAload 6 99) := w_aload (hm := mm314) dX3_person_97
theorem n314_99 : Snd mt G 314 99 (oConst (.int 2) 100) := w_iconst (hm := mm314) dX3_person_99 rfl
theorem n314_100 : Snd mt G 314 100 (oIload 3 101) := w_iload_n (hm := mm314) dX3_person_100
theorem n314_101 : Snd mt G 314 101 (oIast [100] 102) := w_iastore (hm := mm314) (kt := 0) dX3_person_101 at_0 (Nat.le_of_ble_eq_true rfl) (List.forall_mem_cons.mpr ⟨rfl, (fun t ht => nomatch ht)⟩)
theorem n314_102 : Snd mt G 314 102 (oAload 6 104) := w_aload (hm := mm314) dX3_person_102
theorem n314_104 : Snd mt G 314 104 (oConst (.int 3) 105) := w_iconst (hm := mm314) dX3_person_104 rfl
theorem n314_105 : Snd mt G 314 105 (oIload 4 107) := w_iload (hm := mm314) dX3_person_105
theorem n314_107 : Snd mt G 314 107 (oIast [100] 108) := w_iastore (hm := mm314) (kt := 0) dX3_person_107 at_0 (Nat.le_of_ble_eq_true rfl) (List.forall_mem_cons.mpr ⟨rfl, (fun t ht => nomatch ht)⟩)
theorem n314_108 : Snd mt G 314 108 (oAload 6 110) := w_aload (hm := mm314) dX3_person_108
theorem n314_110 : Snd mt G 314 110 (oConst (.int 4) 111) := w_iconst (hm := mm314) dX3_person_110 rfl
theorem n314_111 : Snd mt G 314 111 (oIload 5 113) := w_iload (hm := mm314) dX3_person_111
theorem n314_113 : Snd mt G 314 113 (oIfEq 120 116) := w_if_eq (hm := mm314) dX3_person_113 rfl
theorem n314_116 : Snd mt G 314 116 (oConst (.int 1) 117) := w_iconst (hm := mm314) dX3_person_116 rfl
theorem n314_117 : Snd mt G 314 117 (oGoto 121) := w_goto (hm := mm314) dX3_person_117 rfl
theorem n314_120 : Snd mt G 314 120 (oConst (.int 0) 121) := w_iconst (hm := mm314) dX3_person_120 rfl
theorem n314_121 : Snd mt G 314 121 (oIast [100] 122) := w_iastore (hm := mm314) (kt := 0) dX3_person_121 at_0 (Nat.le_of_ble_eq_true rfl) (List.forall_mem_cons.mpr ⟨rfl, (fun t ht => nomatch ht)⟩)
theorem n314_122 : Snd mt G 314 122 (oAload 6 124) := w_aload (hm := mm314) dX3_person_122
theorem n314_124 : Snd mt G 314 124 (oConst (.int 5) 125) := w_iconst (hm := mm314) dX3_person_124 rfl
theorem n314_125 : Snd mt G 314 125 (oConst (.int 0) 126) := w_iconst (hm := mm314) dX3_person_125 rfl
theorem n314_126 : Snd mt G 314 126 (oIast [100] 127) := w_iastore (hm := mm314) (kt := 0) dX3_person_126 at_0 (Nat.le_of_ble_eq_true rfl) (List.forall_mem_cons.mpr ⟨rfl, (fun t ht => nomatch ht)⟩)
theorem n314_127 : Snd mt G 314 127 (oAload 6 129) := w_aload (hm := mm314) dX3_person_127
theorem n314_129 : Snd mt G 314 129 (oConst (.int 6) 131) := w_bipush (hm := mm314) dX3_person_129 (by decide)
theorem n314_131 : Snd mt G 314 131 (oAload 0 132) := w_aload_n (hm := mm314) dX3_person_131
theorem n314_132 : Snd mt G 314 132 (oGetf [4] 27 135) := w_getf (hm := mm314) dX3_person_132 (fok1 (k := 27) (T := TX3) 3 (Nat.le_of_ble_eq_true rfl) vc_3 (Nat.le_of_ble_eq_true rfl) q2432)
theorem n314_135 : Snd mt G 314 135 (oIast [100] 136) := w_iastore (hm := mm314) (kt := 0) dX3_person_135 at_0 (Nat.le_of_ble_eq_true rfl) (List.forall_mem_cons.mpr ⟨rfl, (fun t ht => nomatch ht)⟩)
theorem n314_136 : Snd mt G 314 136 (oAload 6 138) := w_aload (hm := mm314) dX3_person_136
theorem n314_138 : Snd mt G 314 138 (oConst (.int 7) 140) := w_bipush (hm := mm314) dX3_person_138 (by decide)
theorem n314_140 : Snd mt G 314 140 (oConst (.int 0) 141) := w_iconst (hm := mm314) dX3_person_140 rfl
theorem n314_141 : Snd mt G 314 141 (oIast [100] 142) := w_iastore (hm := mm314) (kt := 0) dX3_person_141 at_0 (Nat.le_of_ble_eq_true rfl) (List.forall_mem_cons.mpr ⟨rfl, (fun t ht => nomatch ht)⟩)
theorem n314_142 : Snd mt G 314 142 (oConst (.int 0) 143) := w_iconst (hm := mm314) dX3_person_142 rfl
theorem n314_143 : Snd mt G 314 143 (oIstore 7 145) := w_istore (hm := mm314) dX3_person_143 (Nat.le_of_ble_eq_true rfl)
theorem n314_145 : Snd mt G 314 145 (oIload 7 147) := w_iload (hm := mm314) dX3_person_145
theorem n314_147 : Snd mt G 314 147 (oConst (.int 4) 148) := w_iconst (hm := mm314) dX3_person_147 rfl
theorem n314_148 : Snd mt G 314 148 (oCmpGe 190 151) := w_icmp_ge (hm := mm314) dX3_person_148 rfl
theorem n314_151 : Snd mt G 314 151 (oAload 0 152) := w_aload_n (hm := mm314) dX3_person_151
theorem n314_152 : Snd mt G 314 152 (oGetf [4] 47 155) := w_getf (hm := mm314) dX3_person_152 (fok1 (k := 47) (T := TX3) 3 (Nat.le_of_ble_eq_true rfl) vc_3 (Nat.le_of_ble_eq_true rfl) q2452)
theorem n314_155 : Snd mt G 314 155 (oConst (.int 4) 156) := w_iconst (hm := mm314) dX3_person_155 rfl
theorem n314_156 : Snd mt G 314 156 (oAload 0 157) := w_aload_n (hm := mm314) dX3_person_156
theorem n314_157 : Snd mt G 314 157 (oGetf [4] 29 160) := w_getf (hm := mm314) dX3_person_157 (fok1 (k := 29) (T := TX3) 3 (Nat.le_of_ble_eq_true rfl) vc_3 (Nat.le_of_ble_eq_true rfl) q2434)
theorem n314_160 : Snd mt G 314 160 (oBin (fun x y => x * y) 161) := w_imul (hm := mm314) dX3_person_160
theorem n314_161 : Snd mt G 314 161 (oIload 7 163) := w_iload (hm := mm314) dX3_person_161
theorem n314_163 : Snd mt G 314 163 (oBin (fun x y => x + y) 164) := w_iadd (hm := mm314) dX3_person_163
theorem n314_164 : Snd mt G 314 164 (oConst (.int (-1)) 165) := w_iconst (hm := mm314) dX3_person_164 rfl
theorem n314_165 : Snd mt G 314 165 (oIast [100] 166) := w_iastore (hm := mm314) (kt := 0) dX3_person_165 at_0 (Nat.le_of_ble_eq_true rfl) (List.forall_mem_cons.mpr ⟨rfl, (fun t ht => nomatch ht)⟩)
theorem n314_166 : Snd mt G 314 166 (oAload 0 167) := w_aload_n (hm := mm314) dX3_person_166
theorem n314_167 : Snd mt G 314 167 (oGetf [4] 48 170) := w_getf (hm := mm314) dX3_person_167 (fok1 (k := 48) (T := TX3) 3 (Nat.le_of_ble_eq_true rfl) vc_3 (Nat.le_of_ble_eq_true rfl) q2453)
theorem n314_170 : Snd mt G 314 170 (oConst (.int 4) 171) := w_iconst (hm := mm314) dX3_person_170 rfl
theorem n314_171 : Snd mt G 314 171 (oAload 0 172) := w_aload_n (hm := mm314) dX3_person_171
theorem n314_172 : Snd mt G 314 172 (oGetf [4] 29 175) := w_getf (hm := mm314) dX3_person_172 (fok1 (k := 29) (T := TX3) 3 (Nat.le_of_ble_eq_true rfl) vc_3 (Nat.le_of_ble_eq_true rfl) q2434)
theorem n314_175 : Snd mt G 314 175 (oBin (fun x y => x * y) 176) := w_imul (hm := mm314) dX3_person_175
theorem n314_176 : Snd mt G 314 176 (oIload 7 178) := w_iload (hm := mm314) dX3_person_176
theorem n314_178 : Snd mt G 314 178 (oBin (fun x y => x + y) 179) := w_iadd (hm := mm314) dX3_person_178
theorem n314_179 : Snd mt G 314 179 (oAload 0 180) := w_aload_n (hm := mm314) dX3_person_179
theorem n314_180 : Snd mt G 314 180 (oGetf [4] 27 183) := w_getf (hm := mm314) dX3_person_180 (fok1 (k := 27) (T := TX3) 3 (Nat.le_of_ble_eq_true rfl) vc_3 (Nat.le_of_ble_eq_true rfl) q2432)
theorem n314_183 : Snd mt G 314 183 (oIast [100] 184) := w_iastore (hm := mm314) (kt := 0) dX3_person_183 at_0 (Nat.le_of_ble_eq_true rfl) (List.forall_mem_cons.mpr ⟨rfl, (fun t ht => nomatch ht)⟩)
theorem n314_184 : Snd mt G 314 184 (oIinc 7 1 187) := w_iinc (hm := mm314) dX3_person_184 rfl (Nat.le_of_ble_eq_true rfl)
theorem n314_187 : Snd mt G 314 187 (oGoto 145) := w_goto (hm := mm314) dX3_person_187 rfl
theorem n314_190 : Snd mt G 314 190 (oConst (.int 0) 191) := w_iconst (hm := mm314) dX3_person_190 rfl
theorem n314_191 : Snd mt G 314 191 (oIstore 7 193) := w_istore (hm := mm314) dX3_person_191 (Nat.le_of_ble_eq_true rfl)
theorem n314_193 : Snd mt G 314 193 (oIload 7 195) := w_iload (hm := mm314) dX3_person_193
theorem n314_195 : Snd mt G 314 195 (oConst (.int 55) 197) := w_bipush (hm := mm314) dX3_person_195 (by decide)
theorem n314_197 : Snd mt G 314 197 (oCmpGe 219 200) := w_icmp_ge (hm := mm314) dX3_person_197 rfl
theorem n314_200 : Snd mt G 314 200 (oAload 0 201) := w_aload_n (hm := mm314) dX3_person_200
theorem n314_201 : Snd mt G 314 201 (oGetf [4] 55 204) := w_getf (hm := mm314) dX3_person_201 (fok1 (k := 55) (T := TX3) 3 (Nat.le_of_ble_eq_true rfl) vc_3 (Nat.le_of_ble_eq_true rfl) q2460)
theorem n314_204 : Snd mt G 314 204 (oAload 0 205) := w_aload_n (hm := mm314) dX3_person_204
theorem n314_205 : Snd mt G 314 205 (oGetf [4] 29 208) := w_getf (hm := mm314) dX3_person_205 (fok1 (k := 29) (T := TX3) 3 (Nat.le_of_ble_eq_true rfl) vc_3 (Nat.le_of_ble_eq_true rfl) q2434)
theorem n314_208 : Snd mt G 314 208 (oAld [106] 209) := w_aaload (hm := mm314) (kt := 6) dX3_person_208 rfl at_6 (Nat.le_of_ble_eq_true rfl) (List.forall_mem_cons.mpr ⟨Or.inl rfl, (fun t ht => nomatch ht)⟩)
theorem n314_209 : Snd mt G 314 209 (oIload 7 211) := w_iload (hm := mm314) dX3_person_209
theorem n314_211 : Snd mt G 314 211 (oConst (.int 0) 212) := w_iconst (hm := mm314) dX3_person_211 rfl
theorem n314_212 : Snd mt G 314 212 (oIast [100] 213) := w_iastore (hm := mm314) (kt := 0) dX3_person_212 at_0 (Nat.le_of_ble_eq_true rfl) (List.forall_mem_cons.mpr ⟨rfl, (fun t ht => nomatch ht)⟩)
theorem n314_213 : Snd mt G 314 213 (oIinc 7 1 216) := w_iinc (hm := mm314) dX3_person_213 rfl (Nat.le_of_ble_eq_true rfl)
theorem n314_216 : Snd mt G 314 216 (oGoto 193) := w_goto (hm := mm314) dX3_person_216 rfl
theorem n314_219 : Snd mt G 314 219 (oAload 0 220) := w_aload_n (hm := mm314) dX3_person_219
theorem n314_220 : Snd mt G 314 220 (oDup 221) := w_dup (hm := mm314) dX3_person_220
theorem n314_221 : Snd mt G 314 221 (oGetf [4] 29 224) := w_getf (hm := mm314) dX3_person_221 (fok1 (k := 29) (T := TX3) 3 (Nat.le_of_ble_eq_true rfl) vc_3 (Nat.le_of_ble_eq_true rfl) q2434)
theorem n314_224 : Snd mt G 314 224 (oConst (.int 1) 225) := w_iconst (hm := mm314) dX3_person_224 rfl
theorem n314_225 : Snd mt G 314 225 (oBin (fun x y => x + y) 226) := w_iadd (hm := mm314) dX3_person_225
theorem n314_226 : Snd mt G 314 226 (oPutf [4] 29 .int 229) := w_putf (hm := mm314) dX3_person_226 (pok1 (k := 29) (T := TX3) 3 (Nat.le_of_ble_eq_true rfl) vc_3 (Nat.le_of_ble_eq_true rfl) rfl pd_X3_29 q2434)
theorem n314_229 : Snd mt G 314 229 (oAload 0 230) := w_aload_n (hm := mm314) dX3_person_229
theorem n314_230 : Snd mt G 314 230 (oGetf [4] 29 233) := w_getf (hm := mm314) dX3_person_230 (fok1 (k := 29) (T := TX3) 3 (Nat.le_of_ble_eq_true rfl) vc_3 (Nat.le_of_ble_eq_true rfl) q2434)
theorem n314_233 : Snd mt G 314 233 (oConst (.int 1) 234) := w_iconst (hm := mm314) dX3_person_233 rfl
theorem n314_234 : Snd mt G 314 234 (oBin (fun x y => x - y) 235) := w_isub (hm := mm314) dX3_person_234
theorem n314_235 : Snd mt G 314 235 (oRetI .int) := w_iret (hm := mm314) dX3_person_235 rfl
theorem sj314 : ∀ pc, Snd mt G 314 pc (j314 pc) := fun pc => (snd_br ((snd_br ((snd_br ((snd_br ((snd_br ((snd_br ((snd_br ((snd_br ((snd_lf n314_235)) ((snd_lf n314_234)))) ((snd_lf n314_233)))) ((snd_br ((snd_lf n314_230)) ((snd_lf n314_229)))))) ((snd_br ((snd_br ((snd_lf n314_226)) ((snd_lf n314_225)))) ((snd_br ((snd_lf n314_224)) ((snd_lf n314_221)))))))) ((snd_br ((snd_br ((snd_br ((snd_lf n314_220)) ((snd_lf n314_219)))) ((snd_br ((snd_lf n314_216)) ((snd_lf n314_213)))))) ((snd_br ((snd_br ((snd_lf n314_212)) ((snd_lf n314_211)))) ((snd_br ((snd_lf n314_209)) ((snd_lf n314_208)))))))))) ((snd_br ((snd_br ((snd_br ((snd_br ((snd_br ((snd_lf n314_205)) ((snd_lf n314_204)))) ((snd_lf n314_201)))) ((snd_br ((snd_lf n314_200)) ((snd_lf n314_197)))))) ((snd_br ((snd_br ((snd_lf n314_195)) ((snd_lf n314_193)))) ((snd_br ((snd_lf n314_191)) ((snd_lf n314_190)))))))) ((snd_br ((snd_br ((snd_br ((snd_lf n314_187)) ((snd_lf n314_184)))) ((snd_br ((snd_lf n314_183)) ((snd_lf n314_180)))))) ((snd_br ((snd_br ((snd_lf n314_179)) ((snd_lf n314_178)))) ((snd_br ((snd_lf n314_176)) ((snd_lf n314_175)))))))))))) ((snd_br ((snd_br ((snd_br ((snd_br ((snd_br ((snd_br ((snd_lf n314_172)) ((snd_lf n314_171)))) ((snd_lf n314_170)))) ((snd_br ((snd_lf n314_167)) ((snd_lf n314_166)))))) ((snd_br ((snd_br ((snd_lf n314_165)) ((snd_lf n314_164)))) ((snd_br ((snd_lf n314_163)) ((snd_lf n314_161)))))))) ((snd_br ((snd_br ((snd_br ((snd_lf n314_160)) ((snd_lf n314_157)))) ((snd_br ((snd_lf n314_156)) ((snd_lf n314_155)))))) ((snd_br ((snd_br ((snd_lf n314_152)) ((snd_lf n314_151)))) ((snd_br ((snd_lf n314_148)) ((snd_lf n314_147)))))))))) ((snd_br ((snd_br ((snd_br ((snd_br ((snd_br ((snd_lf n314_145)) ((snd_lf n314_143)))) ((snd_lf n314_142)))) ((snd_br ((snd_lf n314_141)) ((snd_lf n314_140)))))) ((snd_br ((snd_br ((snd_lf n314_138)) ((snd_lf n314_136)))) ((snd_br ((snd_lf n314_135)) ((snd_lf n314_132)))))))) ((snd_br ((snd_br ((snd_br ((snd_lf n314_131)) ((snd_lf n314_129)))) ((snd_br ((snd_lf n314_127)) ((snd_lf n314_126)))))) ((snd_br ((snd_br ((snd_lf n314_125)) ((snd_lf n314_124)))) ((snd_br ((snd_lf n314_122)) ((snd_lf n314_121)))))))))))))) ((snd_br ((snd_br ((snd_br ((snd_br ((snd_br ((snd_br ((snd_br ((snd_lf n314_120)) ((snd_lf n314_117)))) ((snd_lf n314_116)))) ((snd_br ((snd_lf n314_113)) ((snd_lf n314_111)))))) ((snd_br ((snd_br ((snd_lf n314_110)) ((snd_lf n314_108)))) ((snd_br ((snd_lf n314_107)) ((snd_lf n314_105)))))))) ((snd_br ((snd_br ((snd_br ((snd_lf n314_104)) ((snd_lf n314_102)))) ((snd_br ((snd_lf n314_101)) ((snd_lf n314_100)))))) ((snd_br ((snd_br ((snd_lf n314_99)) ((snd_lf n314_97)))) ((snd_br ((snd_lf n314_96)) ((snd_lf n314_95)))))))))) ((snd_br ((snd_br ((snd_br ((snd_br ((snd_br ((snd_lf n314_94)) ((snd_lf n314_92)))) ((snd_lf n314_91)))) ((snd_br ((snd_lf n314_90)) ((snd_lf n314_89)))))) ((snd_br ((snd_br ((snd_lf n314_87)) ((snd_lf n314_85)))) ((snd_br ((snd_lf n314_84)) ((snd_lf n314_81)))))))) ((snd_br ((snd_br ((snd_br ((snd_lf n314_80)) ((snd_lf n314_77)))) ((snd_br ((snd_lf n314_76)) ((snd_lf n314_75)))))) ((snd_br ((snd_br ((snd_lf n314_74)) ((snd_lf n314_71)))) ((snd_br ((snd_lf n314_69)) ((snd_lf n314_66)))))))))))) ((snd_br ((snd_br ((snd_br ((snd_br ((snd_br ((snd_br ((snd_lf n314_65)) ((snd_lf n314_64)))) ((snd_lf n314_63)))) ((snd_br ((snd_lf n314_60)) ((snd_lf n314_57)))))) ((snd_br ((snd_br ((snd_lf n314_56)) ((snd_lf n314_55)))) ((snd_br ((snd_lf n314_52)) ((snd_lf n314_51)))))))) ((snd_br ((snd_br ((snd_br ((snd_lf n314_48)) ((snd_lf n314_45)))) ((snd_br ((snd_lf n314_43)) ((snd_lf n314_42)))))) ((snd_br ((snd_br ((snd_lf n314_40)) ((snd_lf n314_37)))) ((snd_br ((snd_lf n314_34)) ((snd_lf n314_31)))))))))) ((snd_br ((snd_br ((snd_br ((snd_br ((snd_br ((snd_lf n314_30)) ((snd_lf n314_27)))) ((snd_lf n314_26)))) ((snd_br ((snd_lf n314_23)) ((snd_lf n314_20)))))) ((snd_br ((snd_br ((snd_lf n314_19)) ((snd_lf n314_18)))) ((snd_br ((snd_lf n314_17)) ((snd_lf n314_14)))))))) ((snd_br ((snd_br ((snd_br ((snd_lf n314_11)) ((snd_lf n314_8)))) ((snd_br ((snd_lf n314_7)) ((snd_lf n314_6)))))) ((snd_br ((snd_br ((snd_lf n314_5)) ((snd_lf n314_2)))) ((snd_br ((snd_lf n314_1)) ((snd_lf n314_0)))))))))))))))
end
section
variable {G : AG}
theorem n315_0 : Snd mt G 315 0 (oAload 0 1) := w_aload_n (hm := mm315) dX3_stump_0
theorem n315_1 : Snd mt G 315 1 (oConst (.int 0) 2) := w_iconst (hm := mm315) dX3_stump_1 rfl
theorem n315_2 : Snd mt G 315 2 (oPutf [4] 0 .int 5) := w_putf (hm := mm315) dX3_stump_2 (pok1 (k := 0) (T := TX3) 3 (Nat.le_of_ble_eq_true rfl) vc_3 (Nat.le_of_ble_eq_true rfl) rfl pd_X3_0 q2405)
theorem n315_5 : Snd mt G 315 5 (oAload 0 6) := w_aload_n (hm := mm315) dX3_stump_5
theorem n315_6 : Snd mt G 315 6 (oAload 0 7) := w_aload_n (hm := mm315) dX3_stump_6
theorem n315_7 : Snd mt G 315 7 (oIload 1 8) := w_iload_n (hm := mm315) dX3_stump_7
theorem n315_8 : Snd mt G 315 8 (oCall 2 (fV [4] 316 2) 0 11 xOut) := s_callV (m' := 316) (n := 1) xsh_out (w_xok0 mm315) (w_cal mm315 mm316 pn_X3 (Nat.le_of_ble_eq_true rfl) (Nat.le_of_ble_eq_true rfl)) (fun h b as hc hn => w_run_V (ci := 3) mm315 mm316 dX3_stump_8 (Or.inl (List.mem_singleton.mp hc)) (Nat.le_of_ble_eq_true rfl) vc_3 rfl q2758 q2760 qs84 q150 q2761 pa316 hn)
theorem n315_11 : Snd mt G 315 11 (oIfEq 14 18) := w_if_ne (hm := mm315) dX3_stump_11 rfl
theorem n315_14 : Snd mt G 315 14 (oConst (.int 1) 15) := w_iconst (hm := mm315) dX3_stump_14 rfl
theorem n315_15 : Snd mt G 315 15 (oGoto 19) := w_goto (hm := mm315) dX3_stump_15 rfl
theorem n315_18 : Snd mt G 315 18 (oConst (.int 0) 19) := w_iconst (hm := mm315) dX3_stump_18 rfl
theorem n315_19 : Snd mt G 315 19 (oConst (.int 1) 20) := w_iconst (hm := mm315) dX3_stump_19 rfl
theorem n315_20 : Snd mt G 315 20 (oCall 3 (fV [4] 285 3) 0 23 xOut) := s_callV (m' := 285) (n := 2) xsh_out (w_xok0 mm315) (w_cal mm315 mm285 pn_X3 (Nat.le_of_ble_eq_true rfl) (Nat.le_of_ble_eq_true rfl)) (fun h b as hc hn => w_run_V (ci := 3) mm315 mm285 dX3_stump_20 (Or.inl (List.mem_singleton.mp hc)) (Nat.le_of_ble_eq_true rfl) vc_3 rfl q2634 q2636 qs62 q150 q2637 pa285 hn)
theorem n315_23 : Snd mt G 315 23 (oIfEq 26 61) := w_if_ne (hm := mm315) dX3_stump_23 rfl
theorem n315_26 : Snd mt G 315 26 (oAload 0 27) := w_aload_n (hm := mm315) dX3_stump_26
theorem n315_27 : Snd mt G 315 27 (oIload 2 28) := w_iload_n (hm := mm315) dX3_stump_27
theorem n315_28 : Snd mt G 315 28 (oConst (.int 0) 29) := w_iconst (hm := mm315) dX3_stump_28 rfl
theorem n315_29 : Snd mt G 315 29 (oConst (.int 999) 32) := w_sipush (hm := mm315) dX3_stump_29 (by decide)
theorem n315_32 : Snd mt G 315 32 (oCall 3 (fS 284 3) 0 35 xOut) := s_callS (m' := 284) (n := 3) xsh_out (w_xok0 mm315) (w_cal mm315 mm284 pn_X3 (Nat.le_of_ble_eq_true rfl) (Nat.le_of_ble_eq_true rfl)) (fun h as hn => w_run_S mm315 mm284 dX3_stump_32 q2631 q2632 q150 q2633 pa284 hn)
theorem n315_35 : Snd mt G 315 35 (oIfEq 49 38) := w_if_eq (hm := mm315) dX3_stump_35 rfl
theorem n315_38 : Snd mt G 315 38 (oIload 3 39) := w_iload_n (hm := mm315) dX3_stump_38
theorem n315_39 : Snd mt G 315 39 (oConst (.int (-99)) 41) := w_bipush (hm := mm315) dX3_stump_39 (by decide)
theorem n315_41 : Snd mt G 315 41 (oConst (.int 99) 43) := w_bipush (hm := mm315) dX3_stump_41 (by decide)
theorem n315_43 : Snd mt G 315 43 (oCall 3 (fS 284 3) 0 46 xOut) := s_callS (m' := 284) (n := 3) xsh_out (w_xok0 mm315) (w_cal mm315 mm284 pn_X3 (Nat.le_of_ble_eq_true rfl) (Nat.le_of_ble_eq_true rfl)) (fun h as hn => w_run_S mm315 mm284 dX3_stump_43 q2631 q2632 q150 q2633 pa284 hn)
theorem n315_46 : Snd mt G 315 46 (oIfEq 49 53) := w_if_ne (hm := mm315) dX3_stump_46 rfl
theorem n315_49 : Snd mt G 315 49 (oConst (.int 1) 50) := w_iconst (hm := mm315) dX3_stump_49 rfl
theorem n315_50 : Snd mt G 315 50 (oGoto 54) := w_goto (hm := mm315) dX3_stump_50 rfl
theorem n315_53 : Snd mt G 315 53 (oConst (.int 0) 54) := w_iconst (hm := mm315) dX3_stump_53 rfl
theorem n315_54 : Snd mt G 315 54 (oConst (.int 2) 55) := w_iconst (hm := mm315) dX3_stump_54 rfl
theorem n315_55 : Snd mt G 315 55 (oCall 3 (fV [4] 285 3) 0 58 xOut) := s_callV (m' := 285) (n := 2) xsh_out (w_xok0 mm315) (w_cal mm315 mm285 pn_X3 (Nat.le_of_ble_eq_true rfl) (Nat.le_of_ble_eq_true rfl)) (fun h b as hc hn => w_run_V (ci := 3) mm315 mm285 dX3_stump_55 (Or.inl (List.mem_singleton.mp hc)) (Nat.le_of_ble_eq_true rfl) vc_3 rfl q2634 q2636 qs62 q150 q2637 pa285 hn)
theorem n315_58 : Snd mt G 315 58 (oIfEq 63 61) := w_if_eq (hm := mm315) dX3_stump_58 rfl
theorem n315_61 : Snd mt G 315 61 (oConst (.int 0) 62) := w_iconst (hm := mm315) dX3_stump_61 rfl
theorem n315_62 : Snd mt G 315 62 (oRetI .int) := w_iret (hm := mm315) dX3_stump_62 rfl
theorem n315_63 : Snd mt G 315 63 (oAload 0 64) := w_aload_n (hm := mm315) dX3_stump_63
theorem n315_64 : Snd mt G 315 64 (oIload 1 65) := w_iload_n (hm := mm315) dX3_stump_64
theorem n315_65 : Snd mt G 315 65 (oAload 0 66) := w_aload_n (hm := mm315) dX3_stump_65
theorem n315_66 : Snd mt G 315 66 (oGetf [4] 27 69) := w_getf (hm := mm315) dX3_stump_66 (fok1 (k := 27) (T := TX3) 3 (Nat.le_of_ble_eq_true rfl) vc_3 (Nat.le_of_ble_eq_true rfl) q2432)
theorem n315_69 : Snd mt G 315 69 (oCall 3 (fV [4] 317 3) 0 72 xOut) := s_callV (m' := 317) (n := 2) xsh_out (w_xok0 mm315) (w_cal mm315 mm317 pn_X3 (Nat.le_of_ble_eq_true rfl) (Nat.le_of_ble_eq_true rfl)) (fun h b as hc hn => w_run_V (ci := 3) mm315 mm317 dX3_stump_69 (Or.inl (List.mem_singleton.mp hc)) (Nat.le_of_ble_eq_true rfl) vc_3 rfl q2762 q2764 qs85 q150 q2765 pa317 hn)
theorem n315_72 : Snd mt G 315 72 (oIstore 4 74) := w_istore (hm := mm315) dX3_stump_72 (Nat.le_of_ble_eq_true rfl)
theorem n315_74 : Snd mt G 315 74 (oAload 0 75) := w_aload_n (hm := mm315) dX3_stump_74
theorem n315_75 : Snd mt G 315 75 (oGetf [4] 46 78) := w_getf (hm := mm315) dX3_stump_75 (fok1 (k := 46) (T := TX3) 3 (Nat.le_of_ble_eq_true rfl) vc_3 (Nat.le_of_ble_eq_true rfl) q2451)
theorem n315_78 : Snd mt G 315 78 (oIload 1 79) := w_iload_n (hm := mm315) dX3_stump_78
theorem n315_79 : Snd mt G 315 79 (oAld [106] 80) := w_aaload (hm := mm315) (kt := 6) dX3_stump_79 rfl at_6 (Nat.le_of_ble_eq_true rfl) (List.forall_mem_cons.mpr ⟨Or.inl rfl, (fun t ht => nomatch ht)⟩)
theorem n315_80 : Snd mt G 315 80 (oConst (.int 5) 81) := w_iconst (hm := mm315) dX3_stump_80 rfl
theorem n315_81 : Snd mt G 315 81 (oIload 2 82) := w_iload_n (hm := mm315) dX3_stump_81
theorem n315_82 : Snd mt G 315 82 (oIast [100] 83) := w_iastore (hm := mm315) (kt := 0) dX3_stump_82 at_0 (Nat.le_of_ble_eq_true rfl) (List.forall_mem_cons.mpr ⟨rfl, (fun t ht => nomatch ht)⟩)
theorem n315_83 : Snd mt G 315 83 (oAload 0 84) := w_aload_n (hm := mm315) dX3_stump_83
theorem n315_84 : Snd mt G 315 84 (oGetf [4] 46 87) := w_getf (hm := mm315) dX3_stump_84 (fok1 (k := 46) (T := TX3) 3 (Nat.le_of_ble_eq_true rfl) vc_3 (Nat.le_of_ble_eq_true rfl) q2451)
theorem n315_87 : Snd mt G 315 87 (oIload 1 88) := w_iload_n (hm := mm315) dX3_stump_87
theorem n315_88 : Snd mt G 315 88 (oAld [106] 89) := w_aaload (hm := mm315) (kt := 6) dX3_stump_88 rfl at_6 (Nat.le_of_ble_eq_true rfl) (List.forall_mem_cons.mpr ⟨Or.inl rfl, (fun t ht => nomatch ht)⟩)
theorem n315_89 : Snd mt G 315 89 (oConst (.int 6) 91) := w_bipush (hm := mm315) dX3_stump_89 (by decide)
theorem n315_91 : Snd mt G 315 91 (oAload 0 92) := w_aload_n (hm := mm315) dX3_stump_91
theorem n315_92 : Snd mt G 315 92 (oGetf [4] 27 95) := w_getf (hm := mm315) dX3_stump_92 (fok1 (k := 27) (T := TX3) 3 (Nat.le_of_ble_eq_true rfl) vc_3 (Nat.le_of_ble_eq_true rfl) q2432)
theorem n315_95 : Snd mt G 315 95 (oIast [100] 96) := w_iastore (hm := mm315) (kt := 0) dX3_stump_95 at_0 (Nat.le_of_ble_eq_true rfl) (List.forall_mem_cons.mpr ⟨rfl, (fun t ht => nomatch ht)⟩)
theorem n315_96 : Snd mt G 315 96 (oAload 0 97) := w_aload_n (hm := mm315) dX3_stump_96
theorem n315_97 : Snd mt G 315 97 (oGetf [4] 46 100) := w_getf (hm := mm315) dX3_stump_97 (fok1 (k := 46) (T := TX3) 3 (Nat.le_of_ble_eq_true rfl) vc_3 (Nat.le_of_ble_eq_true rfl) q2451)
theorem n315_100 : Snd mt G 315 100 (oIload 1 101) := w_iload_n (hm := mm315) dX3_stump_100
theorem n315_101 : Snd mt G 315 101 (oAld [106] 102) := w_aaload (hm := mm315) (kt := 6) dX3_stump_101 rfl at_6 (Nat.le_of_ble_eq_true rfl) (List.forall_mem_cons.mpr ⟨Or.inl rfl, (fun t ht => nomatch ht)⟩)
theorem n315_102 : Snd mt G 315 102 (oConst (.int 7) 104) := w_bipush (hm := mm315) dX3_stump_102 (by decide)
theorem n315_104 : Snd mt G 315 104 (oIload 3 105) := w_iload_n (hm := mm315) dX3_stump_104
theorem n315_105 : Snd mt G 315 105 (oIast [100] 106) := w_iastore (hm := mm315) (kt := 0) dX3_stump_105 at_0 (Nat.le_of_ble_eq_true rfl) (List.forall_mem_cons.mpr ⟨rfl, (fun t ht => nomatch ht)⟩)
theorem n315_106 : Snd mt G 315 106 (oIload 4 108) := w_iload (hm := mm315) dX3_stump_106
theorem n315_108 : Snd mt G 315 108 (oRetI .int) := w_iret (hm := mm315) dX3_stump_108 rfl
theorem sj315 : ∀ pc, Snd mt G 315 pc (j315 pc) := fun pc => (snd_br ((snd_br ((snd_br ((snd_br ((snd_br ((snd_br ((snd_lf n315_108)) ((snd_lf n315_106)))) ((snd_br ((snd_lf n315_105)) ((snd_lf n315_104)))))) ((snd_br ((snd_br ((snd_lf n315_102)) ((snd_lf n315_101)))) ((snd_br ((snd_lf n315_100)) ((snd_lf n315_97)))))))) ((snd_br ((snd_br ((snd_br ((snd_lf n315_96)) ((snd_lf n315_95)))) ((snd_br ((snd_lf n315_92)) ((snd_lf n315_91)))))) ((snd_br ((snd_br ((snd_lf n315_89)) ((snd_lf n315_88)))) ((snd_br ((snd_lf n315_87)) ((snd_lf n315_84)))))))))) ((snd_br ((snd_br ((snd_br ((snd_br ((snd_lf n315_83)) ((snd_lf n315_82)))) ((snd_br ((snd_lf n315_81)) ((snd_lf n315_80)))))) ((snd_br ((snd_br ((snd_lf n315_79)) ((snd_lf n315_78)))) ((snd_br ((snd_lf n315_75)) ((snd_lf n315_74)))))))) ((snd_br ((snd_br ((snd_br ((snd_lf n315_72)) ((snd_lf n315_69)))) ((snd_br ((snd_lf n315_66)) ((snd_lf n315_65)))))) ((snd_br ((snd_br ((snd_lf n315_64)) ((snd_lf n315_63)))) ((snd_br ((snd_lf n315_62)) ((snd_lf n315_61)))))))))))) ((snd_br ((snd_br ((snd_br ((snd_br ((snd_br ((snd_lf n315_58)) ((snd_lf n315_55)))) ((snd_br ((snd_lf n315_54)) ((snd_lf n315_53)))))) ((snd_br ((snd_br ((snd_lf n315_50)) ((snd_lf n315_49)))) ((snd_br ((snd_lf n315_46)) ((snd_lf n315_43)))))))) ((snd_br ((snd_br ((snd_br ((snd_lf n315_41)) ((snd_lf n315_39)))) ((snd_br ((snd_lf n315_38)) ((snd_lf n315_35)))))) ((snd_br ((snd_br ((snd_lf n315_32)) ((snd_lf n315_29)))) ((snd_br ((snd_lf n315_28)) ((snd_lf n315_27)))))))))) ((snd_br ((snd_br ((snd_br ((snd_br ((snd_lf n315_26)) ((snd_lf n315_23)))) ((snd_br ((snd_lf n315_20)) ((snd_lf n315_19)))))) ((snd_br ((snd_br ((snd_lf n315_18)) ((snd_lf n315_15)))) ((snd_br ((snd_lf n315_14)) ((snd_lf n315_11)))))))) ((snd_br ((snd_br ((snd_br ((snd_lf n315_8)) ((snd_lf n315_7)))) ((snd_br ((snd_lf n315_6)) ((snd_lf n315_5)))))) ((snd_br ((snd_br ((snd_lf n315_2)) ((snd_lf n315_1)))) ((snd_lf n315_0)))))))))))
end
section
variable {G : AG}
theorem n316_0 : Snd mt G 316 0 (oIload 1 1) := w_iload_n (hm := mm316) dX3_isPerson_0
theorem n316_1 : Snd mt G 316 1 (oConst (.int 0) 2) := w_iconst (hm := mm316) dX3_isPerson_1 rfl
theorem n316_2 : Snd mt G 316 2 (oAload 0 3) := w_aload_n (hm := mm316) dX3_isPerson_2
theorem n316_3 : Snd mt G 316 3 (oGetf [4] 29 6) := w_getf (hm := mm316) dX3_isPerson_3 (fok1 (k := 29) (T := TX3) 3 (Nat.le_of_ble_eq_true rfl) vc_3 (Nat.le_of_ble_eq_true rfl) q2434)
theorem n316_6 : Snd mt G 316 6 (oConst (.int 1) 7) := w_iconst (hm := mm316) dX3_isPerson_6 rfl
theorem n316_7 : Snd mt G 316 7 (oBin (fun x y => x - y) 8) := w_isub (hm := mm316) dX3_isPerson_7
theorem n316_8 : Snd mt G 316 8 (oCall 3 (fS 284 3) 0 11 xOut) := s_callS (m' := 284) (n := 3) xsh_out (w_xok0 mm316) (w_cal mm316 mm284 pn_X3 (Nat.le_of_ble_eq_true rfl) (Nat.le_of_ble_eq_true rfl)) (fun h as hn => w_run_S mm316 mm284 dX3_isPerson_8 q2631 q2632 q150 q2633 pa284 hn)
theorem n316_11 : Snd mt G 316 11 (oRetI .boolean) := w_zret (hm := mm316) dX3_isPerson_11 rfl
theorem sj316 : ∀ pc, Snd mt G 316 pc (j316 pc) := fun pc => (snd_br ((snd_br ((snd_br ((snd_lf n316_11)) ((snd_lf n316_8)))) ((snd_br ((snd_lf n316_7)) ((snd_lf n316_6)))))) ((snd_br ((snd_br ((snd_lf n316_3)) ((snd_lf n316_2)))) ((snd_br ((snd_lf n316_1)) ((snd_lf n316_0)))))))
end
section
variable {G : AG}
theorem n317_0 : Snd mt G 317 0 (oAload 0 1) := w_aload_n (hm := mm317) dX3_sizeOf_0
theorem n317_1 : Snd mt G 317 1 (oGetf [4] 46 4) := w_getf (hm := mm317) dX3_sizeOf_1 (fok1 (k := 46) (T := TX3) 3 (Nat.le_of_ble_eq_true rfl) vc_3 (Nat.le_of_ble_eq_true rfl) q2451)
theorem n317_4 : Snd mt G 317 4 (oIload 1 5) := w_iload_n (hm := mm317) dX3_sizeOf_4
theorem n317_5 : Snd mt G 317 5 (oAld [106] 6) := w_aaload (hm := mm317) (kt := 6) dX3_sizeOf_5 rfl at_6 (Nat.le_of_ble_eq_true rfl) (List.forall_mem_cons.mpr ⟨Or.inl rfl, (fun t ht => nomatch ht)⟩)
theorem n317_6 : Snd mt G 317 6 (oConst (.int 5) 7) := w_iconst (hm := mm317) dX3_sizeOf_6 rfl
theorem n317_7 : Snd mt G 317 7 (oAld [100] 8) := w_iaload (hm := mm317) (kt := 0) dX3_sizeOf_7 at_0 (Nat.le_of_ble_eq_true rfl) (List.forall_mem_cons.mpr ⟨Or.inl rfl, (fun t ht => nomatch ht)⟩)
theorem n317_8 : Snd mt G 317 8 (oAload 0 9) := w_aload_n (hm := mm317) dX3_sizeOf_8
theorem n317_9 : Snd mt G 317 9 (oGetf [4] 46 12) := w_getf (hm := mm317) dX3_sizeOf_9 (fok1 (k := 46) (T := TX3) 3 (Nat.le_of_ble_eq_true rfl) vc_3 (Nat.le_of_ble_eq_true rfl) q2451)
theorem n317_12 : Snd mt G 317 12 (oIload 1 13) := w_iload_n (hm := mm317) dX3_sizeOf_12
theorem n317_13 : Snd mt G 317 13 (oAld [106] 14) := w_aaload (hm := mm317) (kt := 6) dX3_sizeOf_13 rfl at_6 (Nat.le_of_ble_eq_true rfl) (List.forall_mem_cons.mpr ⟨Or.inl rfl, (fun t ht => nomatch ht)⟩)
theorem n317_14 : Snd mt G 317 14 (oConst (.int 7) 16) := w_bipush (hm := mm317) dX3_sizeOf_14 (by decide)
theorem n317_16 : Snd mt G 317 16 (oAld [100] 17) := w_iaload (hm := mm317) (kt := 0) dX3_sizeOf_16 at_0 (Nat.le_of_ble_eq_true rfl) (List.forall_mem_cons.mpr ⟨Or.inl rfl, (fun t ht => nomatch ht)⟩)
theorem n317_17 : Snd mt G 317 17 (oIload 2 18) := w_iload_n (hm := mm317) dX3_sizeOf_17
theorem n317_18 : Snd mt G 317 18 (oAload 0 19) := w_aload_n (hm := mm317) dX3_sizeOf_18
theorem n317_19 : Snd mt G 317 19 (oGetf [4] 46 22) := w_getf (hm := mm317) dX3_sizeOf_19 (fok1 (k := 46) (T := TX3) 3 (Nat.le_of_ble_eq_true rfl) vc_3 (Nat.le_of_ble_eq_true rfl) q2451)
theorem n317_22 : Snd mt G 317 22 (oIload 1 23) := w_iload_n (hm := mm317) dX3_sizeOf_22
theorem n317_23 : Snd mt G 317 23 (oAld [106] 24) := w_aaload (hm := mm317) (kt := 6) dX3_sizeOf_23 rfl at_6 (Nat.le_of_ble_eq_true rfl) (List.forall_mem_cons.mpr ⟨Or.inl rfl, (fun t ht => nomatch ht)⟩)
theorem n317_24 : Snd mt G 317 24 (oConst (.int 6) 26) := w_bipush (hm := mm317) dX3_sizeOf_24 (by decide)
theorem n317_26 : Snd mt G 317 26 (oAld [100] 27) := w_iaload (hm := mm317) (kt := 0) dX3_sizeOf_26 at_0 (Nat.le_of_ble_eq_true rfl) (List.forall_mem_cons.mpr ⟨Or.inl rfl, (fun t ht => nomatch ht)⟩)
theorem n317_27 : Snd mt G 317 27 (oBin (fun x y => x - y) 28) := w_isub (hm := mm317) dX3_sizeOf_27
theorem n317_28 : Snd mt G 317 28 (oBin (fun x y => x * y) 29) := w_imul (hm := mm317) dX3_sizeOf_28
theorem n317_29 : Snd mt G 317 29 (oConst (.int 365) 32) := w_sipush (hm := mm317) dX3_sizeOf_29 (by decide)
theorem n317_32 : Snd mt G 317 32 (oDiv (fun x y => x / y) 33) := w_idiv (hm := mm317) dX3_sizeOf_32
theorem n317_33 : Snd mt G 317 33 (oBin (fun x y => x + y) 34) := w_iadd (hm := mm317) dX3_sizeOf_33
theorem n317_34 : Snd mt G 317 34 (oRetI .int) := w_iret (hm := mm317) dX3_sizeOf_34 rfl
theorem sj317 : ∀ pc, Snd mt G 317 pc (j317 pc) := fun pc => (snd_br ((snd_br ((snd_br ((snd_br ((snd_br ((snd_lf n317_34)) ((snd_lf n317_33)))) ((snd_br ((snd_lf n317_32)) ((snd_lf n317_29)))))) ((snd_br ((snd_br ((snd_lf n317_28)) ((snd_lf n317_27)))) ((snd_lf n317_26)))))) ((snd_br ((snd_br ((snd_br ((snd_lf n317_24)) ((snd_lf n317_23)))) ((snd_lf n317_22)))) ((snd_br ((snd_br ((snd_lf n317_19)) ((snd_lf n317_18)))) ((snd_lf n317_17)))))))) ((snd_br ((snd_br ((snd_br ((snd_br ((snd_lf n317_16)) ((snd_lf n317_14)))) ((snd_lf n317_13)))) ((snd_br ((snd_br ((snd_lf n317_12)) ((snd_lf n317_9)))) ((snd_lf n317_8)))))) ((snd_br ((snd_br ((snd_br ((snd_lf n317_7)) ((snd_lf n317_6)))) ((snd_lf n317_5)))) ((snd_br ((snd_br ((snd_lf n317_4)) ((snd_lf n317_1)))) ((snd_lf n317_0)))))))))
end
section
variable {G : AG}
theorem n318_0 : Snd mt G 318 0 (oAload 0 1) := w_aload_n (hm := mm318) dX3_change_0
theorem n318_1 : Snd mt G 318 1 (oConst (.int 0) 2) := w_iconst (hm := mm318) dX3_change_1 rfl
theorem n318_2 : Snd mt G 318 2 (oPutf [4] 0 .int 5) := w_putf (hm := mm318) dX3_change_2 (pok1 (k := 0) (T := TX3) 3 (Nat.le_of_ble_eq_true rfl) vc_3 (Nat.le_of_ble_eq_true rfl) rfl pd_X3_0 q2405)
theorem n318_5 : Snd mt G 318 5 (oAload 0 6) := w_aload_n (hm := mm318) dX3_change_5
theorem n318_6 : Snd mt G 318 6 (oAload 0 7) := w_aload_n (hm := mm318) dX3_change_6
theorem n318_7 : Snd mt G 318 7 (oIload 1 8) := w_iload_n (hm := mm318) dX3_change_7
theorem n318_8 : Snd mt G 318 8 (oCall 2 (fV [4] 316 2) 0 11 xOut) := s_callV (m' := 316) (n := 1) xsh_out (w_xok0 mm318) (w_cal mm318 mm316 pn_X3 (Nat.le_of_ble_eq_true rfl) (Nat.le_of_ble_eq_true rfl)) (fun h b as hc hn => w_run_V (ci := 3) mm318 mm316 dX3_change_8 (Or.inl (List.mem_singleton.mp hc)) (Nat.le_of_ble_eq_true rfl) vc_3 rfl q2758 q2760 qs84 q150 q2761 pa316 hn)
theorem n318_11 : Snd mt G 318 11 (oIfEq 14 18) := w_if_ne (hm := mm318) dX3_change_11 rfl
theorem n318_14 : Snd mt G 318 14 (oConst (.int 1) 15) := w_iconst (hm := mm318) dX3_change_14 rfl
theorem n318_15 : Snd mt G 318 15 (oGoto 19) := w_goto (hm := mm318) dX3_change_15 rfl
theorem n318_18 : Snd mt G 318 18 (oConst (.int 0) 19) := w_iconst (hm := mm318) dX3_change_18 rfl
theorem n318_19 : Snd mt G 318 19 (oConst (.int 1) 20) := w_iconst (hm := mm318) dX3_change_19 rfl
theorem n318_20 : Snd mt G 318 20 (oCall 3 (fV [4] 285 3) 0 23 xOut) := s_callV (m' := 285) (n := 2) xsh_out (w_xok0 mm318) (w_cal mm318 mm285 pn_X3 (Nat.le_of_ble_eq_true rfl) (Nat.le_of_ble_eq_true rfl)) (fun h b as hc hn => w_run_V (ci := 3) mm318 mm285 dX3_change_20 (Or.inl (List.mem_singleton.mp hc)) (Nat.le_of_ble_eq_true rfl) vc_3 rfl q2634 q2636 qs62 q150 q2637 pa285 hn)
theorem n318_23 : Snd mt G 318 23 (oIfEq 26 107) := w_if_ne (hm := mm318) dX3_change_23 rfl
theorem n318_26 : Snd mt G 318 26 (oAload 0 27) := w_aload_n (hm := mm318) dX3_change_26
theorem n318_27 : Snd mt G 318 27 (oIload 2 28) := w_iload_n (hm := mm318) dX3_change_27
theorem n318_28 : Snd mt G 318 28 (oConst (.int 0) 29) := w_iconst (hm := mm318) dX3_change_28 rfl
theorem n318_29 : Snd mt G 318 29 (oConst (.int 3) 30) := w_iconst (hm := mm318) dX3_change_29 rfl
theorem n318_30 : Snd mt G 318 30 (oCall 3 (fS 284 3) 0 33 xOut) := s_callS (m' := 284) (n := 3) xsh_out (w_xok0 mm318) (w_cal mm318 mm284 pn_X3 (Nat.le_of_ble_eq_true rfl) (Nat.le_of_ble_eq_true rfl)) (fun h as hn => w_run_S mm318 mm284 dX3_change_30 q2631 q2632 q150 q2633 pa284 hn)
theorem n318_33 : Snd mt G 318 33 (oIfEq 36 40) := w_if_ne (hm := mm318) dX3_change_33 rfl
theorem n318_36 : Snd mt G 318 36 (oConst (.int 1) 37) := w_iconst (hm := mm318) dX3_change_36 rfl
theorem n318_37 : Snd mt G 318 37 (oGoto 41) := w_goto (hm := mm318) dX3_change_37 rfl
theorem n318_40 : Snd mt G 318 40 (oConst (.int 0) 41) := w_iconst (hm := mm318) dX3_change_40 rfl
theorem n318_41 : Snd mt G 318 41 (oConst (.int 2) 42) := w_iconst (hm := mm318) dX3_change_41 rfl
theorem n318_42 : Snd mt G 318 42 (oCall 3 (fV [4] 285 3) 0 45 xOut) := s_callV (m' := 285) (n := 2) xsh_out (w_xok0 mm318) (w_cal mm318 mm285 pn_X3 (Nat.le_of_ble_eq_true rfl) (Nat.le_of_ble_eq_true rfl)) (fun h b as hc hn => w_run_V (ci := 3) mm318 mm285 dX3_change_42 (Or.inl (List.mem_singleton.mp hc)) (Nat.le_of_ble_eq_true rfl) vc_3 rfl q2634 q2636 qs62 q150 q2637 pa285 hn)
theorem n318_45 : Snd mt G 318 45 (oIfEq 48 107) := w_if_ne (hm := mm318) dX3_change_45 rfl
theorem n318_48 : Snd mt G 318 48 (oAload 0 49) := w_aload_n (hm := mm318) dX3_change_48
theorem n318_49 : Snd mt G 318 49 (oIload 3 50) := w_iload_n (hm := mm318) dX3_change_49
theorem n318_50 : Snd mt G 318 50 (oIload 2 51) := w_iload_n (hm := mm318) dX3_change_50
theorem n318_51 : Snd mt G 318 51 (oIfEq 54 58) := w_if_ne (hm := mm318) dX3_change_51 rfl
theorem n318_54 : Snd mt G 318 54 (oConst (.int 1) 55) := w_iconst (hm := mm318) dX3_change_54 rfl
theorem n318_55 : Snd mt G 318 55 (oGoto 59) := w_goto (hm := mm318) dX3_change_55 rfl
theorem n318_58 : Snd mt G 318 58 (oConst (.int 0) 59) := w_iconst (hm := mm318) dX3_change_58 rfl
theorem n318_59 : Snd mt G 318 59 (oIload 2 60) := w_iload_n (hm := mm318) dX3_change_59
theorem n318_60 : Snd mt G 318 60 (oIfEq 63 69) := w_if_ne (hm := mm318) dX3_change_60 rfl
theorem n318_63 : Snd mt G 318 63 (oConst (.int 200) 66) := w_sipush (hm := mm318) dX3_change_63 (by decide)
theorem n318_66 : Snd mt G 318 66 (oGoto 89) := w_goto (hm := mm318) dX3_change_66 rfl
theorem n318_69 : Snd mt G 318 69 (oIload 2 70) := w_iload_n (hm := mm318) dX3_change_69
theorem n318_70 : Snd mt G 318 70 (oConst (.int 1) 71) := w_iconst (hm := mm318) dX3_change_70 rfl
theorem n318_71 : Snd mt G 318 71 (oCmpEq 74 78) := w_icmp_ne (hm := mm318) dX3_change_71 rfl
theorem n318_74 : Snd mt G 318 74 (oConst (.int 3) 75) := w_iconst (hm := mm318) dX3_change_74 rfl
theorem n318_75 : Snd mt G 318 75 (oGoto 89) := w_goto (hm := mm318) dX3_change_75 rfl
theorem n318_78 : Snd mt G 318 78 (oIload 2 79) := w_iload_n (hm := mm318) dX3_change_78
theorem n318_79 : Snd mt G 318 79 (oConst (.int 2) 80) := w_iconst (hm := mm318) dX3_change_79 rfl
theorem n318_80 : Snd mt G 318 80 (oCmpEq 83 88) := w_icmp_ne (hm := mm318) dX3_change_80 rfl
theorem n318_83 : Snd mt G 318 83 (oConst (.int 99) 85) := w_bipush (hm := mm318) dX3_change_83 (by decide)
theorem n318_85 : Snd mt G 318 85 (oGoto 89) := w_goto (hm := mm318) dX3_change_85 rfl
theorem n318_88 : Snd mt G 318 88 (oConst (.int 1) 89) := w_iconst (hm := mm318) dX3_change_88 rfl
theorem n318_89 : Snd mt G 318 89 (oCall 3 (fS 284 3) 0 92 xOut) := s_callS (m' := 284) (n := 3) xsh_out (w_xok0 mm318) (w_cal mm318 mm284 pn_X3 (Nat.le_of_ble_eq_true rfl) (Nat.le_of_ble_eq_true rfl)) (fun h as hn => w_run_S mm318 mm284 dX3_change_89 q2631 q2632 q150 q2633 pa284 hn)
theorem n318_92 : Snd mt G 318 92 (oIfEq 95 99) := w_if_ne (hm := mm318) dX3_change_92 rfl
theorem n318_95 : Snd mt G 318 95 (oConst (.int 1) 96) := w_iconst (hm := mm318) dX3_change_95 rfl
theorem n318_96 : Snd mt G 318 96 (oGoto 100) := w_goto (hm := mm318) dX3_change_96 rfl
theorem n318_99 : Snd mt G 318 99 (oConst (.int 0) 100) := w_iconst (hm := mm318) dX3_change_99 rfl
theorem n318_100 : Snd mt G 318 100 (oConst (.int 2) 101) := w_iconst (hm := mm318) dX3_change_100 rfl
theorem n318_101 : Snd mt G 318 101 (oCall 3 (fV [4] 285 3) 0 104 xOut) := s_callV (m' := 285) (n := 2) xsh_out (w_xok0 mm318) (w_cal mm318 mm285 pn_X3 (Nat.le_of_ble_eq_true rfl) (Nat.le_of_ble_eq_true rfl)) (fun h b as hc hn => w_run_V (ci := 3) mm318 mm285 dX3_change_101 (Or.inl (List.mem_singleton.mp hc)) (Nat.le_of_ble_eq_true rfl) vc_3 rfl q2634 q2636 qs62 q150 q2637 pa285 hn)
theorem n318_104 : Snd mt G 318 104 (oIfEq 109 107) := w_if_eq (hm := mm318) dX3_change_104 rfl
theorem n318_107 : Snd mt G 318 107 (oConst (.int 0) 108) := w_iconst (hm := mm318) dX3_change_107 rfl
theorem n318_108 : Snd mt G 318 108 (oRetI .int) := w_iret (hm := mm318) dX3_change_108 rfl
theorem n318_109 : Snd mt G 318 109 (oIload 2 110) := w_iload_n (hm := mm318) dX3_change_109
theorem n318_110 : Snd mt G 318 110 (oConst (.int 2) 111) := w_iconst (hm := mm318) dX3_change_110 rfl
theorem n318_111 : Snd mt G 318 111 (oCmpGe 118 114) := w_icmp_ge (hm := mm318) dX3_change_111 rfl
theorem n318_114 : Snd mt G 318 114 (oIload 2 115) := w_iload_n (hm := mm318) dX3_change_114
theorem n318_115 : Snd mt G 318 115 (oGoto 121) := w_goto (hm := mm318) dX3_change_115 rfl
theorem n318_118 : Snd mt G 318 118 (oIload 2 119) := w_iload_n (hm := mm318) dX3_change_118
theorem n318_119 : Snd mt G 318 119 (oConst (.int 1) 120) := w_iconst (hm := mm318) dX3_change_119 rfl
theorem n318_120 : Snd mt G 318 120 (oBin (fun x y => x + y) 121) := w_iadd (hm := mm318) dX3_change_120
theorem n318_121 : Snd mt G 318 121 (oIstore 4 123) := w_istore (hm := mm318) dX3_change_121 (Nat.le_of_ble_eq_true rfl)
theorem n318_123 : Snd mt G 318 123 (oAload 0 124) := w_aload_n (hm := mm318) dX3_change_123
theorem n318_124 : Snd mt G 318 124 (oGetf [4] 46 127) := w_getf (hm := mm318) dX3_change_124 (fok1 (k := 46) (T := TX3) 3 (Nat.le_of_ble_eq_true rfl) vc_3 (Nat.le_of_ble_eq_true rfl) q2451)
theorem n318_127 : Snd mt G 318 127 (oIload 1 128) := w_iload_n (hm := mm318) dX3_change_127
theorem n318_128 : Snd mt G 318 128 (oAld [106] 129) := w_aaload (hm := mm318) (kt := 6) dX3_change_128 rfl at_6 (Nat.le_of_ble_eq_true rfl) (List.forall_mem_cons.mpr ⟨Or.inl rfl, (fun t ht => nomatch ht)⟩)
theorem n318_129 : Snd mt G 318 129 (oIload 4 131) := w_iload (hm := mm318) dX3_change_129
theorem n318_131 : Snd mt G 318 131 (oAld [100] 132) := w_iaload (hm := mm318) (kt := 0) dX3_change_131 at_0 (Nat.le_of_ble_eq_true rfl) (List.forall_mem_cons.mpr ⟨Or.inl rfl, (fun t ht => nomatch ht)⟩)
theorem n318_132 : Snd mt G 318 132 (oIstore 5 134) := w_istore (hm := mm318) dX3_change_132 (Nat.le_of_ble_eq_true rfl)
theorem n318_134 : Snd mt G 318 134 (oAload 0 135) := w_aload_n (hm := mm318) dX3_change_134
theorem n318_135 : Snd mt G 318 135 (oGetf [4] 46 138) := w_getf (hm := mm318) dX3_change_135 (fok1 (k := 46) (T := TX3) 3 (Nat.le_of_ble_eq_true rfl) vc_3 (Nat.le_of_ble_eq_true rfl) q2451)
theorem n318_138 : Snd mt G 318 138 (oIload 1 139) := w_iload_n (hm := mm318) dX3_change_138
theorem n318_139 : Snd mt G 318 139 (oAld [106] 140) := w_aaload (hm := mm318) (kt := 6) dX3_change_139 rfl at_6 (Nat.le_of_ble_eq_true rfl) (List.forall_mem_cons.mpr ⟨Or.inl rfl, (fun t ht => nomatch ht)⟩)
theorem n318_140 : Snd mt G 318 140 (oIload 4 142) := w_iload (hm := mm318) dX3_change_140
theorem n318_142 : Snd mt G 318 142 (oIload 3 143) := w_iload_n (hm := mm318) dX3_change_142
theorem n318_143 : Snd mt G 318 143 (oIast [100] 144) := w_iastore (hm := mm318) (kt := 0) dX3_change_143 at_0 (Nat.le_of_ble_eq_true rfl) (List.forall_mem_cons.mpr ⟨rfl, (fun t ht => nomatch ht)⟩)
theorem n318_144 : Snd mt G 318 144 (oIload 5 146) := w_iload (hm := mm318) dX3_change_144
theorem n318_146 : Snd mt G 318 146 (oRetI .int) := w_iret (hm := mm318) dX3_change_146 rfl
theorem sj318 : ∀ pc, Snd mt G 318 pc (j318 pc) := fun pc => (snd_br ((snd_br ((snd_br ((snd_br ((snd_br ((snd_br ((snd_br ((snd_lf n318_146)) ((snd_lf n318_144)))) ((snd_lf n318_143)))) ((snd_br ((snd_br ((snd_lf n318_142)) ((snd_lf n318_140)))) ((snd_lf n318_139)))))) ((snd_br ((snd_br ((snd_br ((snd_lf n318_138)) ((snd_lf n318_135)))) ((snd_lf n318_134)))) ((snd_br ((snd_lf n318_132)) ((snd_lf n318_131)))))))) ((snd_br ((snd_br ((snd_br ((snd_br ((snd_lf n318_129)) ((snd_lf n318_128)))) ((snd_lf n318_127)))) ((snd_br ((snd_lf n318_124)) ((snd_lf n318_123)))))) ((snd_br ((snd_br ((snd_br ((snd_lf n318_121)) ((snd_lf n318_120)))) ((snd_lf n318_119)))) ((snd_br ((snd_lf n318_118)) ((snd_lf n318_115)))))))))) ((snd_br ((snd_br ((snd_br ((snd_br ((snd_br ((snd_lf n318_114)) ((snd_lf n318_111)))) ((snd_lf n318_110)))) ((snd_br ((snd_br ((snd_lf n318_109)) ((snd_lf n318_108)))) ((snd_lf n318_107)))))) ((snd_br ((snd_br ((snd_br ((snd_lf n318_104)) ((snd_lf n318_101)))) ((snd_lf n318_100)))) ((snd_br ((snd_lf n318_99)) ((snd_lf n318_96)))))))) ((snd_br ((snd_br ((snd_br ((snd_br ((snd_lf n318_95)) ((snd_lf n318_92)))) ((snd_lf n318_89)))) ((snd_br ((snd_lf n318_88)) ((snd_lf n318_85)))))) ((snd_br ((snd_br ((snd_br ((snd_lf n318_83)) ((snd_lf n318_80)))) ((snd_lf n318_79)))) ((snd_br ((snd_lf n318_78)) ((snd_lf n318_75)))))))))))) ((snd_br ((snd_br ((snd_br ((snd_br ((snd_br ((snd_br ((snd_lf n318_74)) ((snd_lf n318_71)))) ((snd_lf n318_70)))) ((snd_br ((snd_br ((snd_lf n318_69)) ((snd_lf n318_66)))) ((snd_lf n318_63)))))) ((snd_br ((snd_br ((snd_br ((snd_lf n318_60)) ((snd_lf n318_59)))) ((snd_lf n318_58)))) ((snd_br ((snd_lf n318_55)) ((snd_lf n318_54)))))))) ((snd_br ((snd_br ((snd_br ((snd_br ((snd_lf n318_51)) ((snd_lf n318_50)))) ((snd_lf n318_49)))) ((snd_br ((snd_lf n318_48)) ((snd_lf n318_45)))))) ((snd_br ((snd_br ((snd_br ((snd_lf n318_42)) ((snd_lf n318_41)))) ((snd_lf n318_40)))) ((snd_br ((snd_lf n318_37)) ((snd_lf n318_36)))))))))) ((snd_br ((snd_br ((snd_br ((snd_br ((snd_br ((snd_lf n318_33)) ((snd_lf n318_30)))) ((snd_lf n318_29)))) ((snd_br ((snd_lf n318_28)) ((snd_lf n318_27)))))) ((snd_br ((snd_br ((snd_br ((snd_lf n318_26)) ((snd_lf n318_23)))) ((snd_lf n318_20)))) ((snd_br ((snd_lf n318_19)) ((snd_lf n318_18)))))))) ((snd_br ((snd_br ((snd_br ((snd_br ((snd_lf n318_15)) ((snd_lf n318_14)))) ((snd_lf n318_11)))) ((snd_br ((snd_lf n318_8)) ((snd_lf n318_7)))))) ((snd_br ((snd_br ((snd_br ((snd_lf n318_6)) ((snd_lf n318_5)))) ((snd_lf n318_2)))) ((snd_br ((snd_lf n318_1)) ((snd_lf n318_0)))))))))))))
end
section
variable {G : AG}
theorem n319_0 : Snd mt G 319 0 (oAload 0 1) := w_aload_n (hm := mm319) dX3_size_0
theorem n319_1 : Snd mt G 319 1 (oConst (.int 0) 2) := w_iconst (hm := mm319) dX3_size_1 rfl
theorem n319_2 : Snd mt G 319 2 (oPutf [4] 0 .int 5) := w_putf (hm := mm319) dX3_size_2 (pok1 (k := 0) (T := TX3) 3 (Nat.le_of_ble_eq_true rfl) vc_3 (Nat.le_of_ble_eq_true rfl) rfl pd_X3_0 q2405)
theorem n319_5 : Snd mt G 319 5 (oAload 0 6) := w_aload_n (hm := mm319) dX3_size_5
theorem n319_6 : Snd mt G 319 6 (oAload 0 7) := w_aload_n (hm := mm319) dX3_size_6
theorem n319_7 : Snd mt G 319 7 (oIload 1 8) := w_iload_n (hm := mm319) dX3_size_7
theorem n319_8 : Snd mt G 319 8 (oCall 2 (fV [4] 316 2) 0 11 xOut) := s_callV (m' := 316) (n := 1) xsh_out (w_xok0 mm319) (w_cal mm319 mm316 pn_X3 (Nat.le_of_ble_eq_true rfl) (Nat.le_of_ble_eq_true rfl)) (fun h b as hc hn => w_run_V (ci := 3) mm319 mm316 dX3_size_8 (Or.inl (List.mem_singleton.mp hc)) (Nat.le_of_ble_eq_true rfl) vc_3 rfl q2758 q2760 qs84 q150 q2761 pa316 hn)
theorem n319_11 : Snd mt G 319 11 (oIfEq 14 18) := w_if_ne (hm := mm319) dX3_size_11 rfl
theorem n319_14 : Snd mt G 319 14 (oConst (.int 1) 15) := w_iconst (hm := mm319) dX3_size_14 rfl
theorem n319_15 : Snd mt G 319 15 (oGoto 19) := w_goto (hm := mm319) dX3_size_15 rfl
theorem n319_18 : Snd mt G 319 18 (oConst (.int 0) 19) := w_iconst (hm := mm319) dX3_size_18 rfl
theorem n319_19 : Snd mt G 319 19 (oConst (.int 1) 20) := w_iconst (hm := mm319) dX3_size_19 rfl
theorem n319_20 : Snd mt G 319 20 (oCall 3 (fV [4] 285 3) 0 23 xOut) := s_callV (m' := 285) (n := 2) xsh_out (w_xok0 mm319) (w_cal mm319 mm285 pn_X3 (Nat.le_of_ble_eq_true rfl) (Nat.le_of_ble_eq_true rfl)) (fun h b as hc hn => w_run_V (ci := 3) mm319 mm285 dX3_size_20 (Or.inl (List.mem_singleton.mp hc)) (Nat.le_of_ble_eq_true rfl) vc_3 rfl q2634 q2636 qs62 q150 q2637 pa285 hn)
theorem n319_23 : Snd mt G 319 23 (oIfEq 26 50) := w_if_ne (hm := mm319) dX3_size_23 rfl
theorem n319_26 : Snd mt G 319 26 (oAload 0 27) := w_aload_n (hm := mm319) dX3_size_26
theorem n319_27 : Snd mt G 319 27 (oIload 2 28) := w_iload_n (hm := mm319) dX3_size_27
theorem n319_28 : Snd mt G 319 28 (oConst (.int 0) 29) := w_iconst (hm := mm319) dX3_size_28 rfl
theorem n319_29 : Snd mt G 319 29 (oConst (.int 20000) 32) := w_sipush (hm := mm319) dX3_size_29 (by decide)
theorem n319_32 : Snd mt G 319 32 (oCall 3 (fS 284 3) 0 35 xOut) := s_callS (m' := 284) (n := 3) xsh_out (w_xok0 mm319) (w_cal mm319 mm284 pn_X3 (Nat.le_of_ble_eq_true rfl) (Nat.le_of_ble_eq_true rfl)) (fun h as hn => w_run_S mm319 mm284 dX3_size_32 q2631 q2632 q150 q2633 pa284 hn)
theorem n319_35 : Snd mt G 319 35 (oIfEq 38 42) := w_if_ne (hm := mm319) dX3_size_35 rfl
theorem n319_38 : Snd mt G 319 38 (oConst (.int 1) 39) := w_iconst (hm := mm319) dX3_size_38 rfl
theorem n319_39 : Snd mt G 319 39 (oGoto 43) := w_goto (hm := mm319) dX3_size_39 rfl
theorem n319_42 : Snd mt G 319 42 (oConst (.int 0) 43) := w_iconst (hm := mm319) dX3_size_42 rfl
theorem n319_43 : Snd mt G 319 43 (oConst (.int 2) 44) := w_iconst (hm := mm319) dX3_size_43 rfl
theorem n319_44 : Snd mt G 319 44 (oCall 3 (fV [4] 285 3) 0 47 xOut) := s_callV (m' := 285) (n := 2) xsh_out (w_xok0 mm319) (w_cal mm319 mm285 pn_X3 (Nat.le_of_ble_eq_true rfl) (Nat.le_of_ble_eq_true rfl)) (fun h b as hc hn => w_run_V (ci := 3) mm319 mm285 dX3_size_44 (Or.inl (List.mem_singleton.mp hc)) (Nat.le_of_ble_eq_true rfl) vc_3 rfl q2634 q2636 qs62 q150 q2637 pa285 hn)
theorem n319_47 : Snd mt G 319 47 (oIfEq 52 50) := w_if_eq (hm := mm319) dX3_size_47 rfl
theorem n319_50 : Snd mt G 319 50 (oConst (.int 0) 51) := w_iconst (hm := mm319) dX3_size_50 rfl
theorem n319_51 : Snd mt G 319 51 (oRetI .int) := w_iret (hm := mm319) dX3_size_51 rfl
theorem n319_52 : Snd mt G 319 52 (oAload 0 53) := w_aload_n (hm := mm319) dX3_size_52
theorem n319_53 : Snd mt G 319 53 (oIload 1 54) := w_iload_n (hm := mm319) dX3_size_53
theorem n319_54 : Snd mt G 319 54 (oIload 2 55) := w_iload_n (hm := mm319) dX3_size_54
theorem n319_55 : Snd mt G 319 55 (oCall 3 (fV [4] 317 3) 0 58 xOut) := s_callV (m' := 317) (n := 2) xsh_out (w_xok0 mm319) (w_cal mm319 mm317 pn_X3 (Nat.le_of_ble_eq_true rfl) (Nat.le_of_ble_eq_true rfl)) (fun h b as hc hn => w_run_V (ci := 3) mm319 mm317 dX3_size_55 (Or.inl (List.mem_singleton.mp hc)) (Nat.le_of_ble_eq_true rfl) vc_3 rfl q2762 q2764 qs85 q150 q2765 pa317 hn)
theorem n319_58 : Snd mt G 319 58 (oRetI .int) := w_iret (hm := mm319) dX3_size_58 rfl
theorem sj319 : ∀ pc, Snd mt G 319 pc (j319 pc) := fun pc => (snd_br ((snd_br ((snd_br ((snd_br ((snd_br ((snd_br ((snd_lf n319_58)) ((snd_lf n319_55)))) ((snd_lf n319_54)))) ((snd_br ((snd_lf n319_53)) ((snd_lf n319_52)))))) ((snd_br ((snd_br ((snd_lf n319_51)) ((snd_lf n319_50)))) ((snd_br ((snd_lf n319_47)) ((snd_lf n319_44)))))))) ((snd_br ((snd_br ((snd_br ((snd_lf n319_43)) ((snd_lf n319_42)))) ((snd_br ((snd_lf n319_39)) ((snd_lf n319_38)))))) ((snd_br ((snd_br ((snd_lf n319_35)) ((snd_lf n319_32)))) ((snd_br ((snd_lf n319_29)) ((snd_lf n319_28)))))))))) ((snd_br ((snd_br ((snd_br ((snd_br ((snd_lf n319_27)) ((snd_lf n319_26)))) ((snd_br ((snd_lf n319_23)) ((snd_lf n319_20)))))) ((snd_br ((snd_br ((snd_lf n319_19)) ((snd_lf n319_18)))) ((snd_br ((snd_lf n319_15)) ((snd_lf n319_14)))))))) ((snd_br ((snd_br ((snd_br ((snd_lf n319_11)) ((snd_lf n319_8)))) ((snd_br ((snd_lf n319_7)) ((snd_lf n319_6)))))) ((snd_br ((snd_br ((snd_lf n319_5)) ((snd_lf n319_2)))) ((snd_br ((snd_lf n319_1)) ((snd_lf n319_0)))))))))))
end
section
variable {G : AG}
theorem n320_0 : Snd mt G 320 0 (oAload 0 1) := w_aload_n (hm := mm320) dX3_told_0
theorem n320_1 : Snd mt G 320 1 (oConst (.int 0) 2) := w_iconst (hm := mm320) dX3_told_1 rfl
theorem n320_2 : Snd mt G 320 2 (oPutf [4] 0 .int 5) := w_putf (hm := mm320) dX3_told_2 (pok1 (k := 0) (T := TX3) 3 (Nat.le_of_ble_eq_true rfl) vc_3 (Nat.le_of_ble_eq_true rfl) rfl pd_X3_0 q2405)
theorem n320_5 : Snd mt G 320 5 (oAload 0 6) := w_aload_n (hm := mm320) dX3_told_5
theorem n320_6 : Snd mt G 320 6 (oAload 0 7) := w_aload_n (hm := mm320) dX3_told_6
theorem n320_7 : Snd mt G 320 7 (oIload 1 8) := w_iload_n (hm := mm320) dX3_told_7
theorem n320_8 : Snd mt G 320 8 (oCall 2 (fV [4] 316 2) 0 11 xOut) := s_callV (m' := 316) (n := 1) xsh_out (w_xok0 mm320) (w_cal mm320 mm316 pn_X3 (Nat.le_of_ble_eq_true rfl) (Nat.le_of_ble_eq_true rfl)) (fun h b as hc hn => w_run_V (ci := 3) mm320 mm316 dX3_told_8 (Or.inl (List.mem_singleton.mp hc)) (Nat.le_of_ble_eq_true rfl) vc_3 rfl q2758 q2760 qs84 q150 q2761 pa316 hn)
theorem n320_11 : Snd mt G 320 11 (oIfEq 14 18) := w_if_ne (hm := mm320) dX3_told_11 rfl
theorem n320_14 : Snd mt G 320 14 (oConst (.int 1) 15) := w_iconst (hm := mm320) dX3_told_14 rfl
theorem n320_15 : Snd mt G 320 15 (oGoto 19) := w_goto (hm := mm320) dX3_told_15 rfl
theorem n320_18 : Snd mt G 320 18 (oConst (.int 0) 19) := w_iconst (hm := mm320) dX3_told_18 rfl
theorem n320_19 : Snd mt G 320 19 (oConst (.int 1) 20) := w_iconst (hm := mm320) dX3_told_19 rfl
theorem n320_20 : Snd mt G 320 20 (oCall 3 (fV [4] 285 3) 0 23 xOut) := s_callV (m' := 285) (n := 2) xsh_out (w_xok0 mm320) (w_cal mm320 mm285 pn_X3 (Nat.le_of_ble_eq_true rfl) (Nat.le_of_ble_eq_true rfl)) (fun h b as hc hn => w_run_V (ci := 3) mm320 mm285 dX3_told_20 (Or.inl (List.mem_singleton.mp hc)) (Nat.le_of_ble_eq_true rfl) vc_3 rfl q2634 q2636 qs62 q150 q2637 pa285 hn)
theorem n320_23 : Snd mt G 320 23 (oIfEq 26 60) := w_if_ne (hm := mm320) dX3_told_23 rfl
theorem n320_26 : Snd mt G 320 26 (oAload 0 27) := w_aload_n (hm := mm320) dX3_told_26
theorem n320_27 : Snd mt G 320 27 (oIload 2 28) := w_iload_n (hm := mm320) dX3_told_27
theorem n320_28 : Snd mt G 320 28 (oConst (.int 0) 29) := w_iconst (hm := mm320) dX3_told_28 rfl
theorem n320_29 : Snd mt G 320 29 (oConst (.int 12) 31) := w_bipush (hm := mm320) dX3_told_29 (by decide)
theorem n320_31 : Snd mt G 320 31 (oCall 3 (fS 284 3) 0 34 xOut) := s_callS (m' := 284) (n := 3) xsh_out (w_xok0 mm320) (w_cal mm320 mm284 pn_X3 (Nat.le_of_ble_eq_true rfl) (Nat.le_of_ble_eq_true rfl)) (fun h as hn => w_run_S mm320 mm284 dX3_told_31 q2631 q2632 q150 q2633 pa284 hn)
theorem n320_34 : Snd mt G 320 34 (oIfEq 48 37) := w_if_eq (hm := mm320) dX3_told_34 rfl
theorem n320_37 : Snd mt G 320 37 (oIload 3 38) := w_iload_n (hm := mm320) dX3_told_37
theorem n320_38 : Snd mt G 320 38 (oConst (.int 0) 39) := w_iconst (hm := mm320) dX3_told_38 rfl
theorem n320_39 : Snd mt G 320 39 (oConst (.int 20000) 42) := w_sipush (hm := mm320) dX3_told_39 (by decide)
theorem n320_42 : Snd mt G 320 42 (oCall 3 (fS 284 3) 0 45 xOut) := s_callS (m' := 284) (n := 3) xsh_out (w_xok0 mm320) (w_cal mm320 mm284 pn_X3 (Nat.le_of_ble_eq_true rfl) (Nat.le_of_ble_eq_true rfl)) (fun h as hn => w_run_S mm320 mm284 dX3_told_42 q2631 q2632 q150 q2633 pa284 hn)
theorem n320_45 : Snd mt G 320 45 (oIfEq 48 52) := w_if_ne (hm := mm320) dX3_told_45 rfl
theorem n320_48 : Snd mt G 320 48 (oConst (.int 1) 49) := w_iconst (hm := mm320) dX3_told_48 rfl
theorem n320_49 : Snd mt G 320 49 (oGoto 53) := w_goto (hm := mm320) dX3_told_49 rfl
theorem n320_52 : Snd mt G 320 52 (oConst (.int 0) 53) := w_iconst (hm := mm320) dX3_told_52 rfl
theorem n320_53 : Snd mt G 320 53 (oConst (.int 2) 54) := w_iconst (hm := mm320) dX3_told_53 rfl
theorem n320_54 : Snd mt G 320 54 (oCall 3 (fV [4] 285 3) 0 57 xOut) := s_callV (m' := 285) (n := 2) xsh_out (w_xok0 mm320) (w_cal mm320 mm285 pn_X3 (Nat.le_of_ble_eq_true rfl) (Nat.le_of_ble_eq_true rfl)) (fun h b as hc hn => w_run_V (ci := 3) mm320 mm285 dX3_told_54 (Or.inl (List.mem_singleton.mp hc)) (Nat.le_of_ble_eq_true rfl) vc_3 rfl q2634 q2636 qs62 q150 q2637 pa285 hn)
theorem n320_57 : Snd mt G 320 57 (oIfEq 62 60) := w_if_eq (hm := mm320) dX3_told_57 rfl
theorem n320_60 : Snd mt G 320 60 (oConst (.int 0) 61) := w_iconst (hm := mm320) dX3_told_60 rfl
theorem n320_61 : Snd mt G 320 61 (oRetI .int) := w_iret (hm := mm320) dX3_told_61 rfl
theorem n320_62 : Snd mt G 320 62 (oAload 0 63) := w_aload_n (hm := mm320) dX3_told_62
theorem n320_63 : Snd mt G 320 63 (oIload 1 64) := w_iload_n (hm := mm320) dX3_told_63
theorem n320_64 : Snd mt G 320 64 (oIload 3 65) := w_iload_n (hm := mm320) dX3_told_64
theorem n320_65 : Snd mt G 320 65 (oCall 3 (fV [4] 321 4) 0 68 xOut) := s_callV (m' := 321) (n := 2) xsh_out (w_xok0 mm320) (w_cal mm320 mm321 pn_X3 (Nat.le_of_ble_eq_true rfl) (Nat.le_of_ble_eq_true rfl)) (fun h b as hc hn => w_run_V (ci := 3) mm320 mm321 dX3_told_65 (Or.inl (List.mem_singleton.mp hc)) (Nat.le_of_ble_eq_true rfl) vc_3 rfl q2778 q2780 qs86 q150 q2781 pa321 hn)
theorem n320_68 : Snd mt G 320 68 (oIload 2 69) := w_iload_n (hm := mm320) dX3_told_68
theorem n320_69 : Snd mt G 320 69 (oIfEq 72 79) := w_if_ne (hm := mm320) dX3_told_69 rfl
theorem n320_72 : Snd mt G 320 72 (oAload 0 73) := w_aload_n (hm := mm320) dX3_told_72
theorem n320_73 : Snd mt G 320 73 (oGetf [4] 20 76) := w_getf (hm := mm320) dX3_told_73 (fok1 (k := 20) (T := TX3) 3 (Nat.le_of_ble_eq_true rfl) vc_3 (Nat.le_of_ble_eq_true rfl) q2425)
theorem n320_76 : Snd mt G 320 76 (oGoto 155) := w_goto (hm := mm320) dX3_told_76 rfl
theorem n320_79 : Snd mt G 320 79 (oIload 2 80) := w_iload_n (hm := mm320) dX3_told_79
theorem n320_80 : Snd mt G 320 80 (oConst (.int 1) 81) := w_iconst (hm := mm320) dX3_told_80 rfl
theorem n320_81 : Snd mt G 320 81 (oCmpEq 84 91) := w_icmp_ne (hm := mm320) dX3_told_81 rfl
theorem n320_84 : Snd mt G 320 84 (oAload 0 85) := w_aload_n (hm := mm320) dX3_told_84
theorem n320_85 : Snd mt G 320 85 (oGetf [4] 21 88) := w_getf (hm := mm320) dX3_told_85 (fok1 (k := 21) (T := TX3) 3 (Nat.le_of_ble_eq_true rfl) vc_3 (Nat.le_of_ble_eq_true rfl) q2426)
theorem n320_88 : Snd mt G 320 88 (oGoto 155) := w_goto (hm := mm320) dX3_told_88 rfl
theorem n320_91 : Snd mt G 320 91 (oIload 2 92) := w_iload_n (hm := mm320) dX3_told_91
theorem n320_92 : Snd mt G 320 92 (oConst (.int 6) 94) := w_bipush (hm := mm320) dX3_told_92 (by decide)
theorem n320_94 : Snd mt G 320 94 (oCmpGe 108 97) := w_icmp_ge (hm := mm320) dX3_told_94 rfl
theorem n320_97 : Snd mt G 320 97 (oAload 0 98) := w_aload_n (hm := mm320) dX3_told_97
theorem n320_98 : Snd mt G 320 98 (oGetf [4] 18 101) := w_getf (hm := mm320) dX3_told_98 (fok1 (k := 18) (T := TX3) 3 (Nat.le_of_ble_eq_true rfl) vc_3 (Nat.le_of_ble_eq_true rfl) q2423)
theorem n320_101 : Snd mt G 320 101 (oIload 2 102) := w_iload_n (hm := mm320) dX3_told_101
theorem n320_102 : Snd mt G 320 102 (oConst (.int 2) 103) := w_iconst (hm := mm320) dX3_told_102 rfl
theorem n320_103 : Snd mt G 320 103 (oBin (fun x y => x - y) 104) := w_isub (hm := mm320) dX3_told_103
theorem n320_104 : Snd mt G 320 104 (oAld [100] 105) := w_iaload (hm := mm320) (kt := 0) dX3_told_104 at_0 (Nat.le_of_ble_eq_true rfl) (List.forall_mem_cons.mpr ⟨Or.inl rfl, (fun t ht => nomatch ht)⟩)
theorem n320_105 : Snd mt G 320 105 (oGoto 155) := w_goto (hm := mm320) dX3_told_105 rfl
theorem n320_108 : Snd mt G 320 108 (oIload 2 109) := w_iload_n (hm := mm320) dX3_told_108
theorem n320_109 : Snd mt G 320 109 (oConst (.int 8) 111) := w_bipush (hm := mm320) dX3_told_109 (by decide)
theorem n320_111 : Snd mt G 320 111 (oCmpGe 133 114) := w_icmp_ge (hm := mm320) dX3_told_111 rfl
theorem n320_114 : Snd mt G 320 114 (oAload 0 115) := w_aload_n (hm := mm320) dX3_told_114
theorem n320_115 : Snd mt G 320 115 (oGetf [4] 16 118) := w_getf (hm := mm320) dX3_told_115 (fok1 (k := 16) (T := TX3) 3 (Nat.le_of_ble_eq_true rfl) vc_3 (Nat.le_of_ble_eq_true rfl) q2421)
theorem n320_118 : Snd mt G 320 118 (oIload 2 119) := w_iload_n (hm := mm320) dX3_told_118
theorem n320_119 : Snd mt G 320 119 (oConst (.int 6) 121) := w_bipush (hm := mm320) dX3_told_119 (by decide)
theorem n320_121 : Snd mt G 320 121 (oCmpEq 124 128) := w_icmp_ne (hm := mm320) dX3_told_121 rfl
theorem n320_124 : Snd mt G 320 124 (oConst (.int 2) 125) := w_iconst (hm := mm320) dX3_told_124 rfl
theorem n320_125 : Snd mt G 320 125 (oGoto 129) := w_goto (hm := mm320) dX3_told_125 rfl
theorem n320_128 : Snd mt G 320 128 (oConst (.int 5) 129) := w_iconst (hm := mm320) dX3_told_128 rfl
theorem n320_129 : Snd mt G 320 129 (oAld [100] 130) := w_iaload (hm := mm320) (kt := 0) dX3_told_129 at_0 (Nat.le_of_ble_eq_true rfl) (List.forall_mem_cons.mpr ⟨Or.inl rfl, (fun t ht => nomatch ht)⟩)
theorem n320_130 : Snd mt G 320 130 (oGoto 155) := w_goto (hm := mm320) dX3_told_130 rfl
theorem n320_133 : Snd mt G 320 133 (oIload 2 134) := w_iload_n (hm := mm320) dX3_told_133
theorem n320_134 : Snd mt G 320 134 (oConst (.int 8) 136) := w_bipush (hm := mm320) dX3_told_134 (by decide)
theorem n320_136 : Snd mt G 320 136 (oCmpEq 139 146) := w_icmp_ne (hm := mm320) dX3_told_136 rfl
theorem n320_139 : Snd mt G 320 139 (oAload 0 140) := w_aload_n (hm := mm320) dX3_told_139
theorem n320_140 : Snd mt G 320 140 (oGetf [4] 22 143) := w_getf (hm := mm320) dX3_told_140 (fok1 (k := 22) (T := TX3) 3 (Nat.le_of_ble_eq_true rfl) vc_3 (Nat.le_of_ble_eq_true rfl) q2427)
theorem n320_143 : Snd mt G 320 143 (oGoto 155) := w_goto (hm := mm320) dX3_told_143 rfl
theorem n320_146 : Snd mt G 320 146 (oAload 0 147) := w_aload_n (hm := mm320) dX3_told_146
theorem n320_147 : Snd mt G 320 147 (oGetf [4] 19 150) := w_getf (hm := mm320) dX3_told_147 (fok1 (k := 19) (T := TX3) 3 (Nat.le_of_ble_eq_true rfl) vc_3 (Nat.le_of_ble_eq_true rfl) q2424)
theorem n320_150 : Snd mt G 320 150 (oIload 2 151) := w_iload_n (hm := mm320) dX3_told_150
theorem n320_151 : Snd mt G 320 151 (oConst (.int 9) 153) := w_bipush (hm := mm320) dX3_told_151 (by decide)
theorem n320_153 : Snd mt G 320 153 (oBin (fun x y => x - y) 154) := w_isub (hm := mm320) dX3_told_153
theorem n320_154 : Snd mt G 320 154 (oAld [100] 155) := w_iaload (hm := mm320) (kt := 0) dX3_told_154 at_0 (Nat.le_of_ble_eq_true rfl) (List.forall_mem_cons.mpr ⟨Or.inl rfl, (fun t ht => nomatch ht)⟩)
theorem n320_155 : Snd mt G 320 155 (oRetI .int) := w_iret (hm := mm320) dX3_told_155 rfl
theorem sj320 : ∀ pc, Snd mt G 320 pc (j320 pc) := fun pc => (snd_br ((snd_br ((snd_br ((snd_br ((snd_br ((snd_br ((snd_br ((snd_lf n320_155)) ((snd_lf n320_154)))) ((snd_lf n320_153)))) ((snd_br ((snd_br ((snd_lf n320_151)) ((snd_lf n320_150)))) ((snd_lf n320_147)))))) ((snd_br ((snd_br ((snd_br ((snd_lf n320_146)) ((snd_lf n320_143)))) ((snd_lf n320_140)))) ((snd_br ((snd_lf n320_139)) ((snd_lf n320_136)))))))) ((snd_br ((snd_br ((snd_br ((snd_br ((snd_lf n320_134)) ((snd_lf n320_133)))) ((snd_lf n320_130)))) ((snd_br ((snd_lf n320_129)) ((snd_lf n320_128)))))) ((snd_br ((snd_br ((snd_br ((snd_lf n320_125)) ((snd_lf n320_124)))) ((snd_lf n320_121)))) ((snd_br ((snd_lf n320_119)) ((snd_lf n320_118)))))))))) ((snd_br ((snd_br ((snd_br ((snd_br ((snd_br ((snd_lf n320_115)) ((snd_lf n320_114)))) ((snd_lf n320_111)))) ((snd_br ((snd_br ((snd_lf n320_109)) ((snd_lf n320_108)))) ((snd_lf n320_105)))))) ((snd_br ((snd_br ((snd_br ((snd_lf n320_104)) ((snd_lf n320_103)))) ((snd_lf n320_102)))) ((snd_br ((snd_lf n320_101)) ((snd_lf n320_98)))))))) ((snd_br ((snd_br ((snd_br ((snd_br ((snd_lf n320_97)) ((snd_lf n320_94)))) ((snd_lf n320_92)))) ((snd_br ((snd_lf n320_91)) ((snd_lf n320_88)))))) ((snd_br ((snd_br ((snd_br ((snd_lf n320_85)) ((snd_lf n320_84)))) ((snd_lf n320_81)))) ((snd_br ((snd_lf n320_80)) ((snd_lf n320_79)))))))))))) ((snd_br ((snd_br ((snd_br ((snd_br ((snd_br ((snd_br ((snd_lf n320_76)) ((snd_lf n320_73)))) ((snd_lf n320_72)))) ((snd_br ((snd_br ((snd_lf n320_69)) ((snd_lf n320_68)))) ((snd_lf n320_65)))))) ((snd_br ((snd_br ((snd_br ((snd_lf n320_64)) ((snd_lf n320_63)))) ((snd_lf n320_62)))) ((snd_br ((snd_lf n320_61)) ((snd_lf n320_60)))))))) ((snd_br ((snd_br ((snd_br ((snd_br ((snd_lf n320_57)) ((snd_lf n320_54)))) ((snd_lf n320_53)))) ((snd_br ((snd_lf n320_52)) ((snd_lf n320_49)))))) ((snd_br ((snd_br ((snd_br ((snd_lf n320_48)) ((snd_lf n320_45)))) ((snd_lf n320_42)))) ((snd_br ((snd_lf n320_39)) ((snd_lf n320_38)))))))))) ((snd_br ((snd_br ((snd_br ((snd_br ((snd_br ((snd_lf n320_37)) ((snd_lf n320_34)))) ((snd_lf n320_31)))) ((snd_br ((snd_br ((snd_lf n320_29)) ((snd_lf n320_28)))) ((snd_lf n320_27)))))) ((snd_br ((snd_br ((snd_br ((snd_lf n320_26)) ((snd_lf n320_23)))) ((snd_lf n320_20)))) ((snd_br ((snd_lf n320_19)) ((snd_lf n320_18)))))))) ((snd_br ((snd_br ((snd_br ((snd_br ((snd_lf n320_15)) ((snd_lf n320_14)))) ((snd_lf n320_11)))) ((snd_br ((snd_lf n320_8)) ((snd_lf n320_7)))))) ((snd_br ((snd_br ((snd_br ((snd_lf n320_6)) ((snd_lf n320_5)))) ((snd_lf n320_2)))) ((snd_br ((snd_lf n320_1)) ((snd_lf n320_0)))))))))))))
end
section
variable {G : AG}
theorem n321_0 : Snd mt G 321 0 (oAload 0 1) := w_aload_n (hm := mm321) dX3_asksOn_0
theorem n321_1 : Snd mt G 321 1 (oGetf [4] 46 4) := w_getf (hm := mm321) dX3_asksOn_1 (fok1 (k := 46) (T := TX3) 3 (Nat.le_of_ble_eq_true rfl) vc_3 (Nat.le_of_ble_eq_true rfl) q2451)
theorem n321_4 : Snd mt G 321 4 (oIload 1 5) := w_iload_n (hm := mm321) dX3_asksOn_4
theorem n321_5 : Snd mt G 321 5 (oAld [106] 6) := w_aaload (hm := mm321) (kt := 6) dX3_asksOn_5 rfl at_6 (Nat.le_of_ble_eq_true rfl) (List.forall_mem_cons.mpr ⟨Or.inl rfl, (fun t ht => nomatch ht)⟩)
theorem n321_6 : Snd mt G 321 6 (oAstore 3 7) := w_astore_n (hm := mm321) dX3_asksOn_6 (Nat.le_of_ble_eq_true rfl)
theorem n321_7 : Snd mt G 321 7 (oAload 0 8) := w_aload_n (hm := mm321) dX3_asksOn_7
theorem n321_8 : Snd mt G 321 8 (oGetf [4] 16 11) := w_getf (hm := mm321) dX3_asksOn_8 (fok1 (k := 16) (T := TX3) 3 (Nat.le_of_ble_eq_true rfl) vc_3 (Nat.le_of_ble_eq_true rfl) q2421)
theorem n321_11 : Snd mt G 321 11 (oConst (.int 0) 12) := w_iconst (hm := mm321) dX3_asksOn_11 rfl
theorem n321_12 : Snd mt G 321 12 (oAload 3 13) := w_aload_n (hm := mm321) dX3_asksOn_12
theorem n321_13 : Snd mt G 321 13 (oConst (.int 0) 14) := w_iconst (hm := mm321) dX3_asksOn_13 rfl
theorem n321_14 : Snd mt G 321 14 (oAld [100] 15) := w_iaload (hm := mm321) (kt := 0) dX3_asksOn_14 at_0 (Nat.le_of_ble_eq_true rfl) (List.forall_mem_cons.mpr ⟨Or.inl rfl, (fun t ht => nomatch ht)⟩)
theorem n321_15 : Snd mt G 321 15 (oIast [100] 16) := w_iastore (hm := mm321) (kt := 0) dX3_asksOn_15 at_0 (Nat.le_of_ble_eq_true rfl) (List.forall_mem_cons.mpr ⟨rfl, (fun t ht => nomatch ht)⟩)
theorem n321_16 : Snd mt G 321 16 (oAload 0 17) := w_aload_n (hm := mm321) dX3_asksOn_16
theorem n321_17 : Snd mt G 321 17 (oGetf [4] 16 20) := w_getf (hm := mm321) dX3_asksOn_17 (fok1 (k := 16) (T := TX3) 3 (Nat.le_of_ble_eq_true rfl) vc_3 (Nat.le_of_ble_eq_true rfl) q2421)
theorem n321_20 : Snd mt G 321 20 (oConst (.int 1) 21) := w_iconst (hm := mm321) dX3_asksOn_20 rfl
theorem n321_21 : Snd mt G 321 21 (oAload 3 22) := w_aload_n (hm := mm321) dX3_asksOn_21
theorem n321_22 : Snd mt G 321 22 (oConst (.int 1) 23) := w_iconst (hm := mm321) dX3_asksOn_22 rfl
theorem n321_23 : Snd mt G 321 23 (oAld [100] 24) := w_iaload (hm := mm321) (kt := 0) dX3_asksOn_23 at_0 (Nat.le_of_ble_eq_true rfl) (List.forall_mem_cons.mpr ⟨Or.inl rfl, (fun t ht => nomatch ht)⟩)
theorem n321_24 : Snd mt G 321 24 (oIast [100] 25) := w_iastore (hm := mm321) (kt := 0) dX3_asksOn_24 at_0 (Nat.le_of_ble_eq_true rfl) (List.forall_mem_cons.mpr ⟨rfl, (fun t ht => nomatch ht)⟩)
theorem n321_25 : Snd mt G 321 25 (oAload 0 26) := w_aload_n (hm := mm321) dX3_asksOn_25
theorem n321_26 : Snd mt G 321 26 (oGetf [4] 16 29) := w_getf (hm := mm321) dX3_asksOn_26 (fok1 (k := 16) (T := TX3) 3 (Nat.le_of_ble_eq_true rfl) vc_3 (Nat.le_of_ble_eq_true rfl) q2421)
theorem n321_29 : Snd mt G 321 29 (oConst (.int 2) 30) := w_iconst (hm := mm321) dX3_asksOn_29 rfl
theorem n321_30 : Snd mt G 321 30 (oIload 2 31) := w_iload_n (hm := mm321) dX3_asksOn_30
theorem n321_31 : Snd mt G 321 31 (oAload 3 32) := w_aload_n (hm := mm321) dX3_asksOn_31
theorem n321_32 : Snd mt G 321 32 (oConst (.int 2) 33) := w_iconst (hm := mm321) dX3_asksOn_32 rfl
theorem n321_33 : Snd mt G 321 33 (oAld [100] 34) := w_iaload (hm := mm321) (kt := 0) dX3_asksOn_33 at_0 (Nat.le_of_ble_eq_true rfl) (List.forall_mem_cons.mpr ⟨Or.inl rfl, (fun t ht => nomatch ht)⟩)
theorem n321_34 : Snd mt G 321 34 (oBin (fun x y => x - y) 35) := w_isub (hm := mm321) dX3_asksOn_34
theorem n321_35 : Snd mt G 321 35 (oConst (.int 365) 38) := w_sipush (hm := mm321) dX3_asksOn_35 (by decide)
theorem n321_38 : Snd mt G 321 38 (oDiv (fun x y => x / y) 39) := w_idiv (hm := mm321) dX3_asksOn_38
theorem n321_39 : Snd mt G 321 39 (oIast [100] 40) := w_iastore (hm := mm321) (kt := 0) dX3_asksOn_39 at_0 (Nat.le_of_ble_eq_true rfl) (List.forall_mem_cons.mpr ⟨rfl, (fun t ht => nomatch ht)⟩)
theorem n321_40 : Snd mt G 321 40 (oAload 0 41) := w_aload_n (hm := mm321) dX3_asksOn_40
theorem n321_41 : Snd mt G 321 41 (oGetf [4] 16 44) := w_getf (hm := mm321) dX3_asksOn_41 (fok1 (k := 16) (T := TX3) 3 (Nat.le_of_ble_eq_true rfl) vc_3 (Nat.le_of_ble_eq_true rfl) q2421)
theorem n321_44 : Snd mt G 321 44 (oConst (.int 3) 45) := w_iconst (hm := mm321) dX3_asksOn_44 rfl
theorem n321_45 : Snd mt G 321 45 (oAload 3 46) := w_aload_n (hm := mm321) dX3_asksOn_45
theorem n321_46 : Snd mt G 321 46 (oConst (.int 4) 47) := w_iconst (hm := mm321) dX3_asksOn_46 rfl
theorem n321_47 : Snd mt G 321 47 (oAld [100] 48) := w_iaload (hm := mm321) (kt := 0) dX3_asksOn_47 at_0 (Nat.le_of_ble_eq_true rfl) (List.forall_mem_cons.mpr ⟨Or.inl rfl, (fun t ht => nomatch ht)⟩)
theorem n321_48 : Snd mt G 321 48 (oIast [100] 49) := w_iastore (hm := mm321) (kt := 0) dX3_asksOn_48 at_0 (Nat.le_of_ble_eq_true rfl) (List.forall_mem_cons.mpr ⟨rfl, (fun t ht => nomatch ht)⟩)
theorem n321_49 : Snd mt G 321 49 (oAload 0 50) := w_aload_n (hm := mm321) dX3_asksOn_49
theorem n321_50 : Snd mt G 321 50 (oGetf [4] 16 53) := w_getf (hm := mm321) dX3_asksOn_50 (fok1 (k := 16) (T := TX3) 3 (Nat.le_of_ble_eq_true rfl) vc_3 (Nat.le_of_ble_eq_true rfl) q2421)
theorem n321_53 : Snd mt G 321 53 (oConst (.int 4) 54) := w_iconst (hm := mm321) dX3_asksOn_53 rfl
theorem n321_54 : Snd mt G 321 54 (oAload 3 55) := w_aload_n (hm := mm321) dX3_asksOn_54
theorem n321_55 : Snd mt G 321 55 (oConst (.int 3) 56) := w_iconst (hm := mm321) dX3_asksOn_55 rfl
theorem n321_56 : Snd mt G 321 56 (oAld [100] 57) := w_iaload (hm := mm321) (kt := 0) dX3_asksOn_56 at_0 (Nat.le_of_ble_eq_true rfl) (List.forall_mem_cons.mpr ⟨Or.inl rfl, (fun t ht => nomatch ht)⟩)
theorem n321_57 : Snd mt G 321 57 (oIast [100] 58) := w_iastore (hm := mm321) (kt := 0) dX3_asksOn_57 at_0 (Nat.le_of_ble_eq_true rfl) (List.forall_mem_cons.mpr ⟨rfl, (fun t ht => nomatch ht)⟩)
theorem n321_58 : Snd mt G 321 58 (oAload 0 59) := w_aload_n (hm := mm321) dX3_asksOn_58
theorem n321_59 : Snd mt G 321 59 (oGetf [4] 16 62) := w_getf (hm := mm321) dX3_asksOn_59 (fok1 (k := 16) (T := TX3) 3 (Nat.le_of_ble_eq_true rfl) vc_3 (Nat.le_of_ble_eq_true rfl) q2421)
theorem n321_62 : Snd mt G 321 62 (oConst (.int 5) 63) := w_iconst (hm := mm321) dX3_asksOn_62 rfl
theorem n321_63 : Snd mt G 321 63 (oAload 0 64) := w_aload_n (hm := mm321) dX3_asksOn_63
theorem n321_64 : Snd mt G 321 64 (oGetf [4] 55 67) := w_getf (hm := mm321) dX3_asksOn_64 (fok1 (k := 55) (T := TX3) 3 (Nat.le_of_ble_eq_true rfl) vc_3 (Nat.le_of_ble_eq_true rfl) q2460)
theorem n321_67 : Snd mt G 321 67 (oIload 1 68) := w_iload_n (hm := mm321) dX3_asksOn_67
theorem n321_68 : Snd mt G 321 68 (oAld [106] 69) := w_aaload (hm := mm321) (kt := 6) dX3_asksOn_68 rfl at_6 (Nat.le_of_ble_eq_true rfl) (List.forall_mem_cons.mpr ⟨Or.inl rfl, (fun t ht => nomatch ht)⟩)
theorem n321_69 : Snd mt G 321 69 (oIload 2 70) := w_iload_n (hm := mm321) dX3_asksOn_69
theorem n321_70 : Snd mt G 321 70 (oConst (.int 365) 73) := w_sipush (hm := mm321) dX3_asksOn_70 (by decide)
theorem n321_73 : Snd mt G 321 73 (oDiv (fun x y => x / y) 74) := w_idiv (hm := mm321) dX3_asksOn_73
theorem n321_74 : Snd mt G 321 74 (oAld [100] 75) := w_iaload (hm := mm321) (kt := 0) dX3_asksOn_74 at_0 (Nat.le_of_ble_eq_true rfl) (List.forall_mem_cons.mpr ⟨Or.inl rfl, (fun t ht => nomatch ht)⟩)
theorem n321_75 : Snd mt G 321 75 (oIast [100] 76) := w_iastore (hm := mm321) (kt := 0) dX3_asksOn_75 at_0 (Nat.le_of_ble_eq_true rfl) (List.forall_mem_cons.mpr ⟨rfl, (fun t ht => nomatch ht)⟩)
theorem n321_76 : Snd mt G 321 76 (oAload 0 77) := w_aload_n (hm := mm321) dX3_asksOn_76
theorem n321_77 : Snd mt G 321 77 (oAload 0 78) := w_aload_n (hm := mm321) dX3_asksOn_77
theorem n321_78 : Snd mt G 321 78 (oIload 2 79) := w_iload_n (hm := mm321) dX3_asksOn_78
theorem n321_79 : Snd mt G 321 79 (oCall 2 (fV [4] 310 4) 0 82 xOut) := s_callV (m' := 310) (n := 1) xsh_out (w_xok0 mm321) (w_cal mm321 mm310 pn_X3 (Nat.le_of_ble_eq_true rfl) (Nat.le_of_ble_eq_true rfl)) (fun h b as hc hn => w_run_V (ci := 3) mm321 mm310 dX3_asksOn_79 (Or.inl (List.mem_singleton.mp hc)) (Nat.le_of_ble_eq_true rfl) vc_3 rfl q2733 q2735 qs83 q150 q2736 pa310 hn)
theorem n321_82 : Snd mt G 321 82 (oPutf [4] 15 .int 85) := w_putf (hm := mm321) dX3_asksOn_82 (pok1 (k := 15) (T := TX3) 3 (Nat.le_of_ble_eq_true rfl) vc_3 (Nat.le_of_ble_eq_true rfl) rfl pd_X3_15 q2420)
theorem n321_85 : Snd mt G 321 85 (oAload 0 86) := w_aload_n (hm := mm321) dX3_asksOn_85
theorem n321_86 : Snd mt G 321 86 (oAload 0 87) := w_aload_n (hm := mm321) dX3_asksOn_86
theorem n321_87 : Snd mt G 321 87 (oGetf [4] 15 90) := w_getf (hm := mm321) dX3_asksOn_87 (fok1 (k := 15) (T := TX3) 3 (Nat.le_of_ble_eq_true rfl) vc_3 (Nat.le_of_ble_eq_true rfl) q2420)
theorem n321_90 : Snd mt G 321 90 (oConst (.int (-1)) 91) := w_iconst (hm := mm321) dX3_asksOn_90 rfl
theorem n321_91 : Snd mt G 321 91 (oCmpEq 94 98) := w_icmp_ne (hm := mm321) dX3_asksOn_91 rfl
theorem n321_94 : Snd mt G 321 94 (oConst (.int 0) 95) := w_iconst (hm := mm321) dX3_asksOn_94 rfl
theorem n321_95 : Snd mt G 321 95 (oGoto 107) := w_goto (hm := mm321) dX3_asksOn_95 rfl
theorem n321_98 : Snd mt G 321 98 (oAload 0 99) := w_aload_n (hm := mm321) dX3_asksOn_98
theorem n321_99 : Snd mt G 321 99 (oGetf [4] 12 102) := w_getf (hm := mm321) dX3_asksOn_99 (fok1 (k := 12) (T := TX3) 3 (Nat.le_of_ble_eq_true rfl) vc_3 (Nat.le_of_ble_eq_true rfl) q2417)
theorem n321_102 : Snd mt G 321 102 (oAload 0 103) := w_aload_n (hm := mm321) dX3_asksOn_102
theorem n321_103 : Snd mt G 321 103 (oGetf [4] 15 106) := w_getf (hm := mm321) dX3_asksOn_103 (fok1 (k := 15) (T := TX3) 3 (Nat.le_of_ble_eq_true rfl) vc_3 (Nat.le_of_ble_eq_true rfl) q2420)
theorem n321_106 : Snd mt G 321 106 (oAld [100] 107) := w_iaload (hm := mm321) (kt := 0) dX3_asksOn_106 at_0 (Nat.le_of_ble_eq_true rfl) (List.forall_mem_cons.mpr ⟨Or.inl rfl, (fun t ht => nomatch ht)⟩)
theorem n321_107 : Snd mt G 321 107 (oPutf [4] 2 .int 110) := w_putf (hm := mm321) dX3_asksOn_107 (pok1 (k := 2) (T := TX3) 3 (Nat.le_of_ble_eq_true rfl) vc_3 (Nat.le_of_ble_eq_true rfl) rfl pd_X3_2 q2407)
theorem n321_110 : Snd mt G 321 110 (oAload 0 111) := w_aload_n (hm := mm321) dX3_asksOn_110
theorem n321_111 : Snd mt G 321 111 (oConst (.int 0) 112) := w_iconst (hm := mm321) dX3_asksOn_111 rfl
theorem n321_112 : Snd mt G 321 112 (oPutf [4] 9 .boolean 115) := w_putf (hm := mm321) dX3_asksOn_112 (pok1 (k := 9) (T := TX3) 3 (Nat.le_of_ble_eq_true rfl) vc_3 (Nat.le_of_ble_eq_true rfl) rfl pd_X3_9 q2414)
theorem n321_115 : Snd mt G 321 115 (oAload 0 116) := w_aload_n (hm := mm321) dX3_asksOn_115
theorem n321_116 : Snd mt G 321 116 (oCall 1 (fV [4] 286 2) 0 119 xOut) := s_callV (m' := 286) (n := 0) xsh_out (w_xok0 mm321) (w_cal mm321 mm286 pn_X3 (Nat.le_of_ble_eq_true rfl) (Nat.le_of_ble_eq_true rfl)) (fun h b as hc hn => w_run_V (ci := 3) mm321 mm286 dX3_asksOn_116 (Or.inl (List.mem_singleton.mp hc)) (Nat.le_of_ble_eq_true rfl) vc_3 rfl q2638 q2640 qs63 q150 q2641 pa286 hn)
theorem n321_119 : Snd mt G 321 119 (oRetV) := w_vret (hm := mm321) dX3_asksOn_119 rfl
theorem sj321 : ∀ pc, Snd mt G 321 pc (j321 pc) := fun pc => (snd_br ((snd_br ((snd_br ((snd_br ((snd_br ((snd_br ((snd_br ((snd_lf n321_119)) ((snd_lf n321_116)))) ((snd_lf n321_115)))) ((snd_br ((snd_lf n321_112)) ((snd_lf n321_111)))))) ((snd_br ((snd_br ((snd_br ((snd_lf n321_110)) ((snd_lf n321_107)))) ((snd_lf n321_106)))) ((snd_br ((snd_lf n321_103)) ((snd_lf n321_102)))))))) ((snd_br ((snd_br ((snd_br ((snd_br ((snd_lf n321_99)) ((snd_lf n321_98)))) ((snd_lf n321_95)))) ((snd_br ((snd_lf n321_94)) ((snd_lf n321_91)))))) ((snd_br ((snd_br ((snd_br ((snd_lf n321_90)) ((snd_lf n321_87)))) ((snd_lf n321_86)))) ((snd_br ((snd_lf n321_85)) ((snd_lf n321_82)))))))))) ((snd_br ((snd_br ((snd_br ((snd_br ((snd_br ((snd_lf n321_79)) ((snd_lf n321_78)))) ((snd_lf n321_77)))) ((snd_br ((snd_lf n321_76)) ((snd_lf n321_75)))))) ((snd_br ((snd_br ((snd_br ((snd_lf n321_74)) ((snd_lf n321_73)))) ((snd_lf n321_70)))) ((snd_br ((snd_lf n321_69)) ((snd_lf n321_68)))))))) ((snd_br ((snd_br ((snd_br ((snd_br ((snd_lf n321_67)) ((snd_lf n321_64)))) ((snd_lf n321_63)))) ((snd_br ((snd_lf n321_62)) ((snd_lf n321_59)))))) ((snd_br ((snd_br ((snd_br ((snd_lf n321_58)) ((snd_lf n321_57)))) ((snd_lf n321_56)))) ((snd_br ((snd_lf n321_55)) ((snd_lf n321_54)))))))))))) ((snd_br ((snd_br ((snd_br ((snd_br ((snd_br ((snd_br ((snd_lf n321_53)) ((snd_lf n321_50)))) ((snd_lf n321_49)))) ((snd_br ((snd_lf n321_48)) ((snd_lf n321_47)))))) ((snd_br ((snd_br ((snd_br ((snd_lf n321_46)) ((snd_lf n321_45)))) ((snd_lf n321_44)))) ((snd_br ((snd_lf n321_41)) ((snd_lf n321_40)))))))) ((snd_br ((snd_br ((snd_br ((snd_br ((snd_lf n321_39)) ((snd_lf n321_38)))) ((snd_lf n321_35)))) ((snd_br ((snd_lf n321_34)) ((snd_lf n321_33)))))) ((snd_br ((snd_br ((snd_br ((snd_lf n321_32)) ((snd_lf n321_31)))) ((snd_lf n321_30)))) ((snd_br ((snd_lf n321_29)) ((snd_lf n321_26)))))))))) ((snd_br ((snd_br ((snd_br ((snd_br ((snd_br ((snd_lf n321_25)) ((snd_lf n321_24)))) ((snd_lf n321_23)))) ((snd_br ((snd_lf n321_22)) ((snd_lf n321_21)))))) ((snd_br ((snd_br ((snd_br ((snd_lf n321_20)) ((snd_lf n321_17)))) ((snd_lf n321_16)))) ((snd_br ((snd_lf n321_15)) ((snd_lf n321_14)))))))) ((snd_br ((snd_br ((snd_br ((snd_br ((snd_lf n321_13)) ((snd_lf n321_12)))) ((snd_lf n321_11)))) ((snd_br ((snd_lf n321_8)) ((snd_lf n321_7)))))) ((snd_br ((snd_br ((snd_br ((snd_lf n321_6)) ((snd_lf n321_5)))) ((snd_lf n321_4)))) ((snd_br ((snd_lf n321_1)) ((snd_lf n321_0)))))))))))))
end
section
variable {G : AG}
theorem n322_0 : Snd mt G 322 0 (oAload 0 1) := w_aload_n (hm := mm322) dX3_barred_0
theorem n322_1 : Snd mt G 322 1 (oConst (.int 0) 2) := w_iconst (hm := mm322) dX3_barred_1 rfl
theorem n322_2 : Snd mt G 322 2 (oPutf [4] 0 .int 5) := w_putf (hm := mm322) dX3_barred_2 (pok1 (k := 0) (T := TX3) 3 (Nat.le_of_ble_eq_true rfl) vc_3 (Nat.le_of_ble_eq_true rfl) rfl pd_X3_0 q2405)
theorem n322_5 : Snd mt G 322 5 (oAload 0 6) := w_aload_n (hm := mm322) dX3_barred_5
theorem n322_6 : Snd mt G 322 6 (oAload 0 7) := w_aload_n (hm := mm322) dX3_barred_6
theorem n322_7 : Snd mt G 322 7 (oIload 1 8) := w_iload_n (hm := mm322) dX3_barred_7
theorem n322_8 : Snd mt G 322 8 (oCall 2 (fV [4] 316 2) 0 11 xOut) := s_callV (m' := 316) (n := 1) xsh_out (w_xok0 mm322) (w_cal mm322 mm316 pn_X3 (Nat.le_of_ble_eq_true rfl) (Nat.le_of_ble_eq_true rfl)) (fun h b as hc hn => w_run_V (ci := 3) mm322 mm316 dX3_barred_8 (Or.inl (List.mem_singleton.mp hc)) (Nat.le_of_ble_eq_true rfl) vc_3 rfl q2758 q2760 qs84 q150 q2761 pa316 hn)
theorem n322_11 : Snd mt G 322 11 (oIfEq 14 18) := w_if_ne (hm := mm322) dX3_barred_11 rfl
theorem n322_14 : Snd mt G 322 14 (oConst (.int 1) 15) := w_iconst (hm := mm322) dX3_barred_14 rfl
theorem n322_15 : Snd mt G 322 15 (oGoto 19) := w_goto (hm := mm322) dX3_barred_15 rfl
theorem n322_18 : Snd mt G 322 18 (oConst (.int 0) 19) := w_iconst (hm := mm322) dX3_barred_18 rfl
theorem n322_19 : Snd mt G 322 19 (oConst (.int 1) 20) := w_iconst (hm := mm322) dX3_barred_19 rfl
theorem n322_20 : Snd mt G 322 20 (oCall 3 (fV [4] 285 3) 0 23 xOut) := s_callV (m' := 285) (n := 2) xsh_out (w_xok0 mm322) (w_cal mm322 mm285 pn_X3 (Nat.le_of_ble_eq_true rfl) (Nat.le_of_ble_eq_true rfl)) (fun h b as hc hn => w_run_V (ci := 3) mm322 mm285 dX3_barred_20 (Or.inl (List.mem_singleton.mp hc)) (Nat.le_of_ble_eq_true rfl) vc_3 rfl q2634 q2636 qs62 q150 q2637 pa285 hn)
theorem n322_23 : Snd mt G 322 23 (oIfEq 26 55) := w_if_ne (hm := mm322) dX3_barred_23 rfl
theorem n322_26 : Snd mt G 322 26 (oAload 0 27) := w_aload_n (hm := mm322) dX3_barred_26
theorem n322_27 : Snd mt G 322 27 (oAload 0 28) := w_aload_n (hm := mm322) dX3_barred_27
theorem n322_28 : Snd mt G 322 28 (oIload 2 29) := w_iload_n (hm := mm322) dX3_barred_28
theorem n322_29 : Snd mt G 322 29 (oCall 2 (fV [4] 323 2) 0 32 xOut) := s_callV (m' := 323) (n := 1) xsh_out (w_xok0 mm322) (w_cal mm322 mm323 pn_X3 (Nat.le_of_ble_eq_true rfl) (Nat.le_of_ble_eq_true rfl)) (fun h b as hc hn => w_run_V (ci := 3) mm322 mm323 dX3_barred_29 (Or.inl (List.mem_singleton.mp hc)) (Nat.le_of_ble_eq_true rfl) vc_3 rfl q2786 q2788 qs87 q150 q2789 pa323 hn)
theorem n322_32 : Snd mt G 322 32 (oIfEq 43 35) := w_if_eq (hm := mm322) dX3_barred_32 rfl
theorem n322_35 : Snd mt G 322 35 (oAload 0 36) := w_aload_n (hm := mm322) dX3_barred_35
theorem n322_36 : Snd mt G 322 36 (oIload 3 37) := w_iload_n (hm := mm322) dX3_barred_36
theorem n322_37 : Snd mt G 322 37 (oCall 2 (fV [4] 323 2) 0 40 xOut) := s_callV (m' := 323) (n := 1) xsh_out (w_xok0 mm322) (w_cal mm322 mm323 pn_X3 (Nat.le_of_ble_eq_true rfl) (Nat.le_of_ble_eq_true rfl)) (fun h b as hc hn => w_run_V (ci := 3) mm322 mm323 dX3_barred_37 (Or.inl (List.mem_singleton.mp hc)) (Nat.le_of_ble_eq_true rfl) vc_3 rfl q2786 q2788 qs87 q150 q2789 pa323 hn)
theorem n322_40 : Snd mt G 322 40 (oIfEq 43 47) := w_if_ne (hm := mm322) dX3_barred_40 rfl
theorem n322_43 : Snd mt G 322 43 (oConst (.int 1) 44) := w_iconst (hm := mm322) dX3_barred_43 rfl
theorem n322_44 : Snd mt G 322 44 (oGoto 48) := w_goto (hm := mm322) dX3_barred_44 rfl
theorem n322_47 : Snd mt G 322 47 (oConst (.int 0) 48) := w_iconst (hm := mm322) dX3_barred_47 rfl
theorem n322_48 : Snd mt G 322 48 (oConst (.int 2) 49) := w_iconst (hm := mm322) dX3_barred_48 rfl
theorem n322_49 : Snd mt G 322 49 (oCall 3 (fV [4] 285 3) 0 52 xOut) := s_callV (m' := 285) (n := 2) xsh_out (w_xok0 mm322) (w_cal mm322 mm285 pn_X3 (Nat.le_of_ble_eq_true rfl) (Nat.le_of_ble_eq_true rfl)) (fun h b as hc hn => w_run_V (ci := 3) mm322 mm285 dX3_barred_49 (Or.inl (List.mem_singleton.mp hc)) (Nat.le_of_ble_eq_true rfl) vc_3 rfl q2634 q2636 qs62 q150 q2637 pa285 hn)
theorem n322_52 : Snd mt G 322 52 (oIfEq 57 55) := w_if_eq (hm := mm322) dX3_barred_52 rfl
theorem n322_55 : Snd mt G 322 55 (oConst (.int 0) 56) := w_iconst (hm := mm322) dX3_barred_55 rfl
theorem n322_56 : Snd mt G 322 56 (oRetI .boolean) := w_zret (hm := mm322) dX3_barred_56 rfl
theorem n322_57 : Snd mt G 322 57 (oAload 0 58) := w_aload_n (hm := mm322) dX3_barred_57
theorem n322_58 : Snd mt G 322 58 (oIload 1 59) := w_iload_n (hm := mm322) dX3_barred_58
theorem n322_59 : Snd mt G 322 59 (oCall 2 (fV [4] 324 2) 0 62 xOut) := s_callV (m' := 324) (n := 1) xsh_out (w_xok0 mm322) (w_cal mm322 mm324 pn_X3 (Nat.le_of_ble_eq_true rfl) (Nat.le_of_ble_eq_true rfl)) (fun h b as hc hn => w_run_V (ci := 3) mm322 mm324 dX3_barred_59 (Or.inl (List.mem_singleton.mp hc)) (Nat.le_of_ble_eq_true rfl) vc_3 rfl q2790 q2792 qs88 q150 q2793 pa324 hn)
theorem n322_62 : Snd mt G 322 62 (oAload 0 63) := w_aload_n (hm := mm322) dX3_barred_62
theorem n322_63 : Snd mt G 322 63 (oGetf [4] 17 66) := w_getf (hm := mm322) dX3_barred_63 (fok1 (k := 17) (T := TX3) 3 (Nat.le_of_ble_eq_true rfl) vc_3 (Nat.le_of_ble_eq_true rfl) q2422)
theorem n322_66 : Snd mt G 322 66 (oIload 2 67) := w_iload_n (hm := mm322) dX3_barred_66
theorem n322_67 : Snd mt G 322 67 (oAld [100] 68) := w_iaload (hm := mm322) (kt := 0) dX3_barred_67 at_0 (Nat.le_of_ble_eq_true rfl) (List.forall_mem_cons.mpr ⟨Or.inl rfl, (fun t ht => nomatch ht)⟩)
theorem n322_68 : Snd mt G 322 68 (oIload 3 69) := w_iload_n (hm := mm322) dX3_barred_68
theorem n322_69 : Snd mt G 322 69 (oBin (fun x y => x >>> (y &&& 31)) 70) := w_ishr (hm := mm322) dX3_barred_69
theorem n322_70 : Snd mt G 322 70 (oConst (.int 1) 71) := w_iconst (hm := mm322) dX3_barred_70 rfl
theorem n322_71 : Snd mt G 322 71 (oBin (fun x y => x &&& y) 72) := w_iand (hm := mm322) dX3_barred_71
theorem n322_72 : Snd mt G 322 72 (oConst (.int 1) 73) := w_iconst (hm := mm322) dX3_barred_72 rfl
theorem n322_73 : Snd mt G 322 73 (oCmpEq 76 80) := w_icmp_ne (hm := mm322) dX3_barred_73 rfl
theorem n322_76 : Snd mt G 322 76 (oConst (.int 1) 77) := w_iconst (hm := mm322) dX3_barred_76 rfl
theorem n322_77 : Snd mt G 322 77 (oGoto 81) := w_goto (hm := mm322) dX3_barred_77 rfl
theorem n322_80 : Snd mt G 322 80 (oConst (.int 0) 81) := w_iconst (hm := mm322) dX3_barred_80 rfl
theorem n322_81 : Snd mt G 322 81 (oRetI .boolean) := w_zret (hm := mm322) dX3_barred_81 rfl
theorem sj322 : ∀ pc, Snd mt G 322 pc (j322 pc) := fun pc => (snd_br ((snd_br ((snd_br ((snd_br ((snd_br ((snd_br ((snd_lf n322_81)) ((snd_lf n322_80)))) ((snd_lf n322_77)))) ((snd_br ((snd_br ((snd_lf n322_76)) ((snd_lf n322_73)))) ((snd_lf n322_72)))))) ((snd_br ((snd_br ((snd_br ((snd_lf n322_71)) ((snd_lf n322_70)))) ((snd_lf n322_69)))) ((snd_br ((snd_br ((snd_lf n322_68)) ((snd_lf n322_67)))) ((snd_lf n322_66)))))))) ((snd_br ((snd_br ((snd_br ((snd_br ((snd_lf n322_63)) ((snd_lf n322_62)))) ((snd_lf n322_59)))) ((snd_br ((snd_br ((snd_lf n322_58)) ((snd_lf n322_57)))) ((snd_lf n322_56)))))) ((snd_br ((snd_br ((snd_br ((snd_lf n322_55)) ((snd_lf n322_52)))) ((snd_lf n322_49)))) ((snd_br ((snd_br ((snd_lf n322_48)) ((snd_lf n322_47)))) ((snd_lf n322_44)))))))))) ((snd_br ((snd_br ((snd_br ((snd_br ((snd_br ((snd_lf n322_43)) ((snd_lf n322_40)))) ((snd_lf n322_37)))) ((snd_br ((snd_br ((snd_lf n322_36)) ((snd_lf n322_35)))) ((snd_lf n322_32)))))) ((snd_br ((snd_br ((snd_br ((snd_lf n322_29)) ((snd_lf n322_28)))) ((snd_lf n322_27)))) ((snd_br ((snd_br ((snd_lf n322_26)) ((snd_lf n322_23)))) ((snd_lf n322_20)))))))) ((snd_br ((snd_br ((snd_br ((snd_br ((snd_lf n322_19)) ((snd_lf n322_18)))) ((snd_lf n322_15)))) ((snd_br ((snd_br ((snd_lf n322_14)) ((snd_lf n322_11)))) ((snd_lf n322_8)))))) ((snd_br ((snd_br ((snd_br ((snd_lf n322_7)) ((snd_lf n322_6)))) ((snd_lf n322_5)))) ((snd_br ((snd_br ((snd_lf n322_2)) ((snd_lf n322_1)))) ((snd_lf n322_0)))))))))))
end
section
variable {G : AG}
theorem n323_0 : Snd mt G 323 0 (oIload 1 1) := w_iload_n (hm := mm323) dX3_isModel_0
theorem n323_1 : Snd mt G 323 1 (oConst (.int 0) 2) := w_iconst (hm := mm323) dX3_isModel_1 rfl
theorem n323_2 : Snd mt G 323 2 (oAload 0 3) := w_aload_n (hm := mm323) dX3_isModel_2
theorem n323_3 : Snd mt G 323 3 (oGetf [4] 28 6) := w_getf (hm := mm323) dX3_isModel_3 (fok1 (k := 28) (T := TX3) 3 (Nat.le_of_ble_eq_true rfl) vc_3 (Nat.le_of_ble_eq_true rfl) q2433)
theorem n323_6 : Snd mt G 323 6 (oConst (.int 1) 7) := w_iconst (hm := mm323) dX3_isModel_6 rfl
theorem n323_7 : Snd mt G 323 7 (oBin (fun x y => x - y) 8) := w_isub (hm := mm323) dX3_isModel_7
theorem n323_8 : Snd mt G 323 8 (oCall 3 (fS 284 3) 0 11 xOut) := s_callS (m' := 284) (n := 3) xsh_out (w_xok0 mm323) (w_cal mm323 mm284 pn_X3 (Nat.le_of_ble_eq_true rfl) (Nat.le_of_ble_eq_true rfl)) (fun h as hn => w_run_S mm323 mm284 dX3_isModel_8 q2631 q2632 q150 q2633 pa284 hn)
theorem n323_11 : Snd mt G 323 11 (oRetI .boolean) := w_zret (hm := mm323) dX3_isModel_11 rfl
theorem sj323 : ∀ pc, Snd mt G 323 pc (j323 pc) := fun pc => (snd_br ((snd_br ((snd_br ((snd_lf n323_11)) ((snd_lf n323_8)))) ((snd_br ((snd_lf n323_7)) ((snd_lf n323_6)))))) ((snd_br ((snd_br ((snd_lf n323_3)) ((snd_lf n323_2)))) ((snd_br ((snd_lf n323_1)) ((snd_lf n323_0)))))))
end
section
variable {G : AG}
theorem n324_0 : Snd mt G 324 0 (oAload 0 1) := w_aload_n (hm := mm324) dX3_asks_0
theorem n324_1 : Snd mt G 324 1 (oIload 1 2) := w_iload_n (hm := mm324) dX3_asks_1
theorem n324_2 : Snd mt G 324 2 (oAload 0 3) := w_aload_n (hm := mm324) dX3_asks_2
theorem n324_3 : Snd mt G 324 3 (oGetf [4] 27 6) := w_getf (hm := mm324) dX3_asks_3 (fok1 (k := 27) (T := TX3) 3 (Nat.le_of_ble_eq_true rfl) vc_3 (Nat.le_of_ble_eq_true rfl) q2432)
theorem n324_6 : Snd mt G 324 6 (oCall 3 (fV [4] 321 4) 0 9 xOut) := s_callV (m' := 321) (n := 2) xsh_out (w_xok0 mm324) (w_cal mm324 mm321 pn_X3 (Nat.le_of_ble_eq_true rfl) (Nat.le_of_ble_eq_true rfl)) (fun h b as hc hn => w_run_V (ci := 3) mm324 mm321 dX3_asks_6 (Or.inl (List.mem_singleton.mp hc)) (Nat.le_of_ble_eq_true rfl) vc_3 rfl q2778 q2780 qs86 q150 q2781 pa321 hn)
theorem n324_9 : Snd mt G 324 9 (oRetV) := w_vret (hm := mm324) dX3_asks_9 rfl
theorem sj324 : ∀ pc, Snd mt G 324 pc (j324 pc) := fun pc => (snd_br ((snd_br ((snd_br ((snd_lf n324_9)) ((snd_lf n324_6)))) ((snd_lf n324_3)))) ((snd_br ((snd_br ((snd_lf n324_2)) ((snd_lf n324_1)))) ((snd_lf n324_0)))))
end
section
variable {G : AG}
theorem n325_0 : Snd mt G 325 0 (oAload 0 1) := w_aload_n (hm := mm325) dX3_fit_0
theorem n325_1 : Snd mt G 325 1 (oConst (.int 0) 2) := w_iconst (hm := mm325) dX3_fit_1 rfl
theorem n325_2 : Snd mt G 325 2 (oPutf [4] 0 .int 5) := w_putf (hm := mm325) dX3_fit_2 (pok1 (k := 0) (T := TX3) 3 (Nat.le_of_ble_eq_true rfl) vc_3 (Nat.le_of_ble_eq_true rfl) rfl pd_X3_0 q2405)
theorem n325_5 : Snd mt G 325 5 (oAload 0 6) := w_aload_n (hm := mm325) dX3_fit_5
theorem n325_6 : Snd mt G 325 6 (oIload 1 7) := w_iload_n (hm := mm325) dX3_fit_6
theorem n325_7 : Snd mt G 325 7 (oIload 2 8) := w_iload_n (hm := mm325) dX3_fit_7
theorem n325_8 : Snd mt G 325 8 (oIload 3 9) := w_iload_n (hm := mm325) dX3_fit_8
theorem n325_9 : Snd mt G 325 9 (oCall 4 (fV [4] 326 4) 0 12 xOut) := s_callV (m' := 326) (n := 3) xsh_out (w_xok0 mm325) (w_cal mm325 mm326 pn_X3 (Nat.le_of_ble_eq_true rfl) (Nat.le_of_ble_eq_true rfl)) (fun h b as hc hn => w_run_V (ci := 3) mm325 mm326 dX3_fit_9 (Or.inl (List.mem_singleton.mp hc)) (Nat.le_of_ble_eq_true rfl) vc_3 rfl q2798 q2800 qs89 q150 q2801 pa326 hn)
theorem n325_12 : Snd mt G 325 12 (oIfEq 17 15) := w_if_eq (hm := mm325) dX3_fit_12 rfl
theorem n325_15 : Snd mt G 325 15 (oConst (.int 0) 16) := w_iconst (hm := mm325) dX3_fit_15 rfl
theorem n325_16 : Snd mt G 325 16 (oRetI .int) := w_iret (hm := mm325) dX3_fit_16 rfl
theorem n325_17 : Snd mt G 325 17 (oAload 0 18) := w_aload_n (hm := mm325) dX3_fit_17
theorem n325_18 : Snd mt G 325 18 (oIload 1 19) := w_iload_n (hm := mm325) dX3_fit_18
theorem n325_19 : Snd mt G 325 19 (oIload 2 20) := w_iload_n (hm := mm325) dX3_fit_19
theorem n325_20 : Snd mt G 325 20 (oCall 3 (fV [4] 327 3) 0 23 xOut) := s_callV (m' := 327) (n := 2) xsh_out (w_xok0 mm325) (w_cal mm325 mm327 pn_X3 (Nat.le_of_ble_eq_true rfl) (Nat.le_of_ble_eq_true rfl)) (fun h b as hc hn => w_run_V (ci := 3) mm325 mm327 dX3_fit_20 (Or.inl (List.mem_singleton.mp hc)) (Nat.le_of_ble_eq_true rfl) vc_3 rfl q2802 q2804 qs90 q150 q2805 pa327 hn)
theorem n325_23 : Snd mt G 325 23 (oIstore 4 25) := w_istore (hm := mm325) dX3_fit_23 (Nat.le_of_ble_eq_true rfl)
theorem n325_25 : Snd mt G 325 25 (oIload 4 27) := w_iload (hm := mm325) dX3_fit_25
theorem n325_27 : Snd mt G 325 27 (oIfGe 35 30) := w_if_ge (hm := mm325) dX3_fit_27 rfl
theorem n325_30 : Snd mt G 325 30 (oIload 4 32) := w_iload (hm := mm325) dX3_fit_30
theorem n325_32 : Snd mt G 325 32 (oGoto 57) := w_goto (hm := mm325) dX3_fit_32 rfl
theorem n325_35 : Snd mt G 325 35 (oAload 0 36) := w_aload_n (hm := mm325) dX3_fit_35
theorem n325_36 : Snd mt G 325 36 (oGetf [4] 40 39) := w_getf (hm := mm325) dX3_fit_36 (fok1 (k := 40) (T := TX3) 3 (Nat.le_of_ble_eq_true rfl) vc_3 (Nat.le_of_ble_eq_true rfl) q2445)
theorem n325_39 : Snd mt G 325 39 (oConst (.int 200) 42) := w_sipush (hm := mm325) dX3_fit_39 (by decide)
theorem n325_42 : Snd mt G 325 42 (oCmpEq 45 50) := w_icmp_ne (hm := mm325) dX3_fit_42 rfl
theorem n325_45 : Snd mt G 325 45 (oConst (.int (-4)) 47) := w_bipush (hm := mm325) dX3_fit_45 (by decide)
theorem n325_47 : Snd mt G 325 47 (oGoto 57) := w_goto (hm := mm325) dX3_fit_47 rfl
theorem n325_50 : Snd mt G 325 50 (oAload 0 51) := w_aload_n (hm := mm325) dX3_fit_50
theorem n325_51 : Snd mt G 325 51 (oIload 1 52) := w_iload_n (hm := mm325) dX3_fit_51
theorem n325_52 : Snd mt G 325 52 (oIload 2 53) := w_iload_n (hm := mm325) dX3_fit_52
theorem n325_53 : Snd mt G 325 53 (oIload 3 54) := w_iload_n (hm := mm325) dX3_fit_53
theorem n325_54 : Snd mt G 325 54 (oCall 4 (fV [4] 331 4) 0 57 xOut) := s_callV (m' := 331) (n := 3) xsh_out (w_xok0 mm325) (w_cal mm325 mm331 pn_X3 (Nat.le_of_ble_eq_true rfl) (Nat.le_of_ble_eq_true rfl)) (fun h b as hc hn => w_run_V (ci := 3) mm325 mm331 dX3_fit_54 (Or.inl (List.mem_singleton.mp hc)) (Nat.le_of_ble_eq_true rfl) vc_3 rfl q2818 q2820 qs94 q150 q2821 pa331 hn)
theorem n325_57 : Snd mt G 325 57 (oRetI .int) := w_iret (hm := mm325) dX3_fit_57 rfl
theorem sj325 : ∀ pc, Snd mt G 325 pc (j325 pc) := fun pc => (snd_br ((snd_br ((snd_br ((snd_br ((snd_br ((snd_lf n325_57)) ((snd_lf n325_54)))) ((snd_br ((snd_lf n325_53)) ((snd_lf n325_52)))))) ((snd_br ((snd_br ((snd_lf n325_51)) ((snd_lf n325_50)))) ((snd_br ((snd_lf n325_47)) ((snd_lf n325_45)))))))) ((snd_br ((snd_br ((snd_br ((snd_lf n325_42)) ((snd_lf n325_39)))) ((snd_br ((snd_lf n325_36)) ((snd_lf n325_35)))))) ((snd_br ((snd_br ((snd_lf n325_32)) ((snd_lf n325_30)))) ((snd_br ((snd_lf n325_27)) ((snd_lf n325_25)))))))))) ((snd_br ((snd_br ((snd_br ((snd_br ((snd_lf n325_23)) ((snd_lf n325_20)))) ((snd_br ((snd_lf n325_19)) ((snd_lf n325_18)))))) ((snd_br ((snd_br ((snd_lf n325_17)) ((snd_lf n325_16)))) ((snd_br ((snd_lf n325_15)) ((snd_lf n325_12)))))))) ((snd_br ((snd_br ((snd_br ((snd_lf n325_9)) ((snd_lf n325_8)))) ((snd_br ((snd_lf n325_7)) ((snd_lf n325_6)))))) ((snd_br ((snd_br ((snd_lf n325_5)) ((snd_lf n325_2)))) ((snd_br ((snd_lf n325_1)) ((snd_lf n325_0)))))))))))
end
