/-! every instruction is sound (by gen3.py) -/
set_option maxRecDepth 100000
section
variable {G : AG}
theorem n172_0 : Snd mt G 172 0 (oAload 0 1) := w_aload_n (hm := mm172) dJ0_init_0
theorem n172_1 : Snd mt G 172 1 (oObjI 4) := w_objI (hm := mm172) dJ0_init_1 (Nat.le_of_ble_eq_true rfl) q208 q189 q190
theorem n172_4 : Snd mt G 172 4 (oRetV) := w_vret (hm := mm172) dJ0_init_4 rfl
theorem sj172 : ∀ pc, Snd mt G 172 pc (j172 pc) := fun pc => (snd_br ((snd_br ((snd_lf n172_4)) ((snd_lf n172_1)))) ((snd_lf n172_0)))
end
section
variable {G : AG}
theorem n173_0 : Snd mt G 173 0 (oAload 0 1) := w_aload_n (hm := mm173) dJ1_init_0
theorem n173_1 : Snd mt G 173 1 (oCall 1 (fI 172 1) 0 4 xOut) := s_callI (m' := 172) (n := 0) xsh_out (w_xok0 mm173) (w_cal mm173 mm172 pn_J0 (Nat.le_of_ble_eq_true rfl) (Nat.le_of_ble_eq_true rfl)) (fun h b as hn => w_run_I mm173 mm172 dJ1_init_1 rfl rfl q205 q206 q131 q207 pa172 hn)
theorem n173_4 : Snd mt G 173 4 (oAload 0 5) := w_aload_n (hm := mm173) dJ1_init_4
theorem n173_5 : Snd mt G 173 5 (oConst (.int 0) 6) := w_iconst (hm := mm173) dJ1_init_5 rfl
theorem n173_6 : Snd mt G 173 6 (oPutf [3] 0 .int 9) := w_putf (hm := mm173) dJ1_init_6 (pok1 (k := 0) (T := TJ2) 2 (Nat.le_of_ble_eq_true rfl) vc_2 (Nat.le_of_ble_eq_true rfl) rfl pd_J2_0 q532)
theorem n173_9 : Snd mt G 173 9 (oRetV) := w_vret (hm := mm173) dJ1_init_9 rfl
theorem sj173 : ∀ pc, Snd mt G 173 pc (j173 pc) := fun pc => (snd_br ((snd_br ((snd_br ((snd_lf n173_9)) ((snd_lf n173_6)))) ((snd_lf n173_5)))) ((snd_br ((snd_br ((snd_lf n173_4)) ((snd_lf n173_1)))) ((snd_lf n173_0)))))
end
section
variable {G : AG}
theorem n174_0 : Snd mt G 174 0 (oAload 0 1) := w_aload_n (hm := mm174) dJ2_init_0
theorem n174_1 : Snd mt G 174 1 (oCall 1 (fI 173 1) 0 4 xOut) := s_callI (m' := 173) (n := 0) xsh_out (w_xok0 mm174) (w_cal mm174 mm173 pn_J1 (Nat.le_of_ble_eq_true rfl) (Nat.le_of_ble_eq_true rfl)) (fun h b as hn => w_run_I mm174 mm173 dJ2_init_1 rfl rfl q202 q203 q132 q204 pa173 hn)
theorem n174_4 : Snd mt G 174 4 (oIload 1 5) := w_iload_n (hm := mm174) dJ2_init_4
theorem n174_5 : Snd mt G 174 5 (oIfLe 19 8) := w_if_le (hm := mm174) dJ2_init_5 rfl
theorem n174_8 : Snd mt G 174 8 (oAload 0 9) := w_aload_n (hm := mm174) dJ2_init_8
theorem n174_9 : Snd mt G 174 9 (oIload 1 10) := w_iload_n (hm := mm174) dJ2_init_9
theorem n174_10 : Snd mt G 174 10 (oNewa 103 .null 13) := w_anew (hm := mm174) (kt := 3) dJ2_init_10 (Nat.le_of_ble_eq_true rfl) at_3 q209 (by decide)
theorem n174_13 : Snd mt G 174 13 (oPutf [3] 1 (.array (.object "java/lang/Object")) 16) := w_putf (hm := mm174) dJ2_init_13 (pok1 (k := 1) (T := TJ2) 2 (Nat.le_of_ble_eq_true rfl) vc_2 (Nat.le_of_ble_eq_true rfl) rfl pd_J2_1 q530)
theorem n174_16 : Snd mt G 174 16 (oGoto 60) := w_goto (hm := mm174) dJ2_init_16 rfl
theorem n174_19 : Snd mt G 174 19 (oIload 1 20) := w_iload_n (hm := mm174) dJ2_init_19
theorem n174_20 : Snd mt G 174 20 (oIfEq 23 33) := w_if_ne (hm := mm174) dJ2_init_20 rfl
theorem n174_23 : Snd mt G 174 23 (oAload 0 24) := w_aload_n (hm := mm174) dJ2_init_23
theorem n174_24 : Snd mt G 174 24 (oGets 1 27) := w_gets (hm := mm174) (j := 1) dJ2_init_24 sl_1 q211
theorem n174_27 : Snd mt G 174 27 (oPutf [3] 1 (.array (.object "java/lang/Object")) 30) := w_putf (hm := mm174) dJ2_init_27 (pok1 (k := 1) (T := TJ2) 2 (Nat.le_of_ble_eq_true rfl) vc_2 (Nat.le_of_ble_eq_true rfl) rfl pd_J2_1 q530)
theorem n174_30 : Snd mt G 174 30 (oGoto 60) := w_goto (hm := mm174) dJ2_init_30 rfl
theorem n174_33 : Snd mt G 174 33 (fun _ _ _ _ => stuck) := snd_stuck
theorem n174_36 : Snd mt G 174 36 (oDup 37) := w_dup (hm := mm174) dJ2_init_36
theorem n174_37 : Snd mt G 174 37 (oNew 29 4 nfJ8 40) := w_new (hm := mm174) (ci := 28) (T9 := TJ8) (ty := tyJ8) dJ2_init_37 (Nat.le_of_ble_eq_true rfl) vc_28 tyJ8_ok (fun _ _ => rfl) q257 q258 q139
theorem n174_40 : Snd mt G 174 40 (oDup 41) := w_dup (hm := mm174) dJ2_init_40
theorem n174_41 : Snd mt G 174 41 (oCall 1 (fI 208 1) 0 44 xOut) := s_callI (m' := 208) (n := 0) xsh_out (w_xok0 mm174) (w_cal mm174 mm208 pn_J8 (Nat.le_of_ble_eq_true rfl) (Nat.le_of_ble_eq_true rfl)) (fun h b as hn => w_run_I mm174 mm208 dJ2_init_41 rfl rfl q259 q260 q139 q261 pa208 hn)
theorem n174_44 : Snd mt G 174 44 (fun _ _ _ _ => stuck) := snd_stuck
theorem n174_46 : Snd mt G 174 46 (oCall 2 (fV [29] 209 2) 0 49 xOut) := s_callV (m' := 209) (n := 1) xsh_out (w_xok0 mm174) (w_cal mm174 mm209 pn_J8 (Nat.le_of_ble_eq_true rfl) (Nat.le_of_ble_eq_true rfl)) (fun h b as hc hn => w_run_V (ci := 28) mm174 mm209 dJ2_init_46 (Or.inl (List.mem_singleton.mp hc)) (Nat.le_of_ble_eq_true rfl) vc_28 rfl q290 q291 q292 q139 q293 pa209 hn)
theorem n174_49 : Snd mt G 174 49 (oIload 1 50) := w_iload_n (hm := mm174) dJ2_init_49
theorem n174_50 : Snd mt G 174 50 (oCall 2 (fV [29] 210 2) 0 53 xOut) := s_callV (m' := 210) (n := 1) xsh_out (w_xok0 mm174) (w_cal mm174 mm210 pn_J8 (Nat.le_of_ble_eq_true rfl) (Nat.le_of_ble_eq_true rfl)) (fun h b as hc hn => w_run_V (ci := 28) mm174 mm210 dJ2_init_50 (Or.inl (List.mem_singleton.mp hc)) (Nat.le_of_ble_eq_true rfl) vc_28 rfl q410 q411 q412 q139 q413 pa210 hn)
theorem n174_53 : Snd mt G 174 53 (oCall 1 (fV [29] 211 1) 0 56 xOut) := s_callV (m' := 211) (n := 0) xsh_out (w_xok0 mm174) (w_cal mm174 mm211 pn_J8 (Nat.le_of_ble_eq_true rfl) (Nat.le_of_ble_eq_true rfl)) (fun h b as hc hn => w_run_V (ci := 28) mm174 mm211 dJ2_init_53 (Or.inl (List.mem_singleton.mp hc)) (Nat.le_of_ble_eq_true rfl) vc_28 rfl q435 q436 q437 q139 q438 pa211 hn)
theorem n174_56 : Snd mt G 174 56 (oCall 2 (fI 193 2) 0 59 xOut) := s_callI (m' := 193) (n := 1) xsh_out (w_xok0 mm174) (w_cal mm174 mm193 pn_J6 (Nat.le_of_ble_eq_true rfl) (Nat.le_of_ble_eq_true rfl)) (fun h b as hn => w_run_I mm174 mm193 dJ2_init_56 rfl rfl q529 q479 q137 q480 pa193 hn)
theorem n174_59 : Snd mt G 174 59 (oThrow [7]) := w_throw (hm := mm174) dJ2_init_59 (List.forall_mem_cons.mpr ⟨⟨6, _, rfl, (Nat.le_of_ble_eq_true rfl), vc_6⟩, (fun t ht => nomatch ht)⟩) rfl
theorem n174_60 : Snd mt G 174 60 (oRetV) := w_vret (hm := mm174) dJ2_init_60 rfl
theorem sj174 : ∀ pc, Snd mt G 174 pc (j174 pc) := fun pc => (snd_br ((snd_br ((snd_br ((snd_br ((snd_br ((snd_lf n174_60)) ((snd_lf n174_59)))) ((snd_br ((snd_lf n174_56)) ((snd_lf n174_53)))))) ((snd_br ((snd_br ((snd_lf n174_50)) ((snd_lf n174_49)))) ((snd_lf n174_46)))))) ((snd_br ((snd_br ((snd_br ((snd_lf n174_44)) ((snd_lf n174_41)))) ((snd_br ((snd_lf n174_40)) ((snd_lf n174_37)))))) ((snd_br ((snd_br ((snd_lf n174_36)) ((snd_lf n174_33)))) ((snd_lf n174_30)))))))) ((snd_br ((snd_br ((snd_br ((snd_br ((snd_lf n174_27)) ((snd_lf n174_24)))) ((snd_br ((snd_lf n174_23)) ((snd_lf n174_20)))))) ((snd_br ((snd_br ((snd_lf n174_19)) ((snd_lf n174_16)))) ((snd_lf n174_13)))))) ((snd_br ((snd_br ((snd_br ((snd_lf n174_10)) ((snd_lf n174_9)))) ((snd_br ((snd_lf n174_8)) ((snd_lf n174_5)))))) ((snd_br ((snd_br ((snd_lf n174_4)) ((snd_lf n174_1)))) ((snd_lf n174_0)))))))))
end
section
variable {G : AG}
theorem n175_0 : Snd mt G 175 0 (oAload 0 1) := w_aload_n (hm := mm175) dJ2_size_0
theorem n175_1 : Snd mt G 175 1 (oGetf [3] 2 4) := w_getf (hm := mm175) dJ2_size_1 (fok1 (k := 2) (T := TJ2) 2 (Nat.le_of_ble_eq_true rfl) vc_2 (Nat.le_of_ble_eq_true rfl) q531)
theorem n175_4 : Snd mt G 175 4 (oRetI .int) := w_iret (hm := mm175) dJ2_size_4 rfl
theorem sj175 : ∀ pc, Snd mt G 175 pc (j175 pc) := fun pc => (snd_br ((snd_br ((snd_lf n175_4)) ((snd_lf n175_1)))) ((snd_lf n175_0)))
end
section
variable {G : AG}
theorem n176_0 : Snd mt G 176 0 (oIload 1 1) := w_iload_n (hm := mm176) dJ2_get_0
theorem n176_1 : Snd mt G 176 1 (oAload 0 2) := w_aload_n (hm := mm176) dJ2_get_1
theorem n176_2 : Snd mt G 176 2 (oGetf [3] 2 5) := w_getf (hm := mm176) dJ2_get_2 (fok1 (k := 2) (T := TJ2) 2 (Nat.le_of_ble_eq_true rfl) vc_2 (Nat.le_of_ble_eq_true rfl) q531)
theorem n176_5 : Snd mt G 176 5 (oCall 2 (fS 473 2) 0 8 xOut) := s_callS (m' := 473) (n := 2) xsh_out (w_xok0 mm176) (w_cal mm176 mm473 pn_J18 (Nat.le_of_ble_eq_true rfl) (Nat.le_of_ble_eq_true rfl)) (fun h as hn => w_run_S mm176 mm473 dJ2_get_5 q717 q718 q166 q719 pa473 hn)
theorem n176_8 : Snd mt G 176 8 (oPop 9) := w_pop (hm := mm176) dJ2_get_8
theorem n176_9 : Snd mt G 176 9 (oAload 0 10) := w_aload_n (hm := mm176) dJ2_get_9
theorem n176_10 : Snd mt G 176 10 (oIload 1 11) := w_iload_n (hm := mm176) dJ2_get_10
theorem n176_11 : Snd mt G 176 11 (oCall 2 (fV [3] 177 2) 0 14 xOut) := s_callV (m' := 177) (n := 1) xsh_out (w_xok0 mm176) (w_cal mm176 mm177 pn_J2 (Nat.le_of_ble_eq_true rfl) (Nat.le_of_ble_eq_true rfl)) (fun h b as hc hn => w_run_V (ci := 2) mm176 mm177 dJ2_get_11 (Or.inl (List.mem_singleton.mp hc)) (Nat.le_of_ble_eq_true rfl) vc_2 rfl q723 q724 q725 q133 q726 pa177 hn)
theorem n176_14 : Snd mt G 176 14 (oRetA) := w_aret (hm := mm176) dJ2_get_14 rfl (Or.inl ⟨_, rfl⟩)
theorem sj176 : ∀ pc, Snd mt G 176 pc (j176 pc) := fun pc => (snd_br ((snd_br ((snd_br ((snd_br ((snd_lf n176_14)) ((snd_lf n176_11)))) ((snd_lf n176_10)))) ((snd_br ((snd_lf n176_9)) ((snd_lf n176_8)))))) ((snd_br ((snd_br ((snd_lf n176_5)) ((snd_lf n176_2)))) ((snd_br ((snd_lf n176_1)) ((snd_lf n176_0)))))))
end
section
variable {G : AG}
theorem n177_0 : Snd mt G 177 0 (oAload 0 1) := w_aload_n (hm := mm177) dJ2_elementData_0
theorem n177_1 : Snd mt G 177 1 (oGetf [3] 1 4) := w_getf (hm := mm177) dJ2_elementData_1 (fok1 (k := 1) (T := TJ2) 2 (Nat.le_of_ble_eq_true rfl) vc_2 (Nat.le_of_ble_eq_true rfl) q530)
theorem n177_4 : Snd mt G 177 4 (oIload 1 5) := w_iload_n (hm := mm177) dJ2_elementData_4
theorem n177_5 : Snd mt G 177 5 (oAld [103] 6) := w_aaload (hm := mm177) (kt := 3) dJ2_elementData_5 rfl at_3 (Nat.le_of_ble_eq_true rfl) (List.forall_mem_cons.mpr ⟨Or.inl rfl, (fun t ht => nomatch ht)⟩)
theorem n177_6 : Snd mt G 177 6 (oRetA) := w_aret (hm := mm177) dJ2_elementData_6 rfl (Or.inl ⟨_, rfl⟩)
theorem sj177 : ∀ pc, Snd mt G 177 pc (j177 pc) := fun pc => (snd_br ((snd_br ((snd_br ((snd_lf n177_6)) ((snd_lf n177_5)))) ((snd_lf n177_4)))) ((snd_br ((snd_lf n177_1)) ((snd_lf n177_0)))))
end
section
variable {G : AG}
theorem n178_0 : Snd mt G 178 0 (oAload 0 1) := w_aload_n (hm := mm178) dJ2_clear_0
theorem n178_1 : Snd mt G 178 1 (oDup 2) := w_dup (hm := mm178) dJ2_clear_1
theorem n178_2 : Snd mt G 178 2 (oGetf [3] 0 5) := w_getf (hm := mm178) (k := 0) dJ2_clear_2 ⟨_, _, _, q533, (List.forall_mem_cons.mpr ⟨⟨2, RJ2, TJ2, 3, Or.inl rfl, (Nat.le_of_ble_eq_true rfl), vc_2, (Nat.le_of_ble_eq_true rfl), rfl, rfl, Or.inr q534⟩, (fun t ht => nomatch ht)⟩)⟩
theorem n178_5 : Snd mt G 178 5 (oConst (.int 1) 6) := w_iconst (hm := mm178) dJ2_clear_5 rfl
theorem n178_6 : Snd mt G 178 6 (oBin (fun x y => x + y) 7) := w_iadd (hm := mm178) dJ2_clear_6
theorem n178_7 : Snd mt G 178 7 (oPutf [3] 0 .int 10) := w_putf (hm := mm178) (k := 0) dJ2_clear_7 ⟨_, _, _, q533, by decide +kernel, (List.forall_mem_cons.mpr ⟨⟨2, RJ2, TJ2, 3, rfl, (Nat.le_of_ble_eq_true rfl), vc_2, (Nat.le_of_ble_eq_true rfl), rfl, rfl, Or.inr q534, rfl⟩, (fun t ht => nomatch ht)⟩)⟩
theorem n178_10 : Snd mt G 178 10 (oAload 0 11) := w_aload_n (hm := mm178) dJ2_clear_10
theorem n178_11 : Snd mt G 178 11 (oGetf [3] 1 14) := w_getf (hm := mm178) dJ2_clear_11 (fok1 (k := 1) (T := TJ2) 2 (Nat.le_of_ble_eq_true rfl) vc_2 (Nat.le_of_ble_eq_true rfl) q530)
theorem n178_14 : Snd mt G 178 14 (oAstore 1 15) := w_astore_n (hm := mm178) dJ2_clear_14 (Nat.le_of_ble_eq_true rfl)
theorem n178_15 : Snd mt G 178 15 (oAload 0 16) := w_aload_n (hm := mm178) dJ2_clear_15
theorem n178_16 : Snd mt G 178 16 (oGetf [3] 2 19) := w_getf (hm := mm178) dJ2_clear_16 (fok1 (k := 2) (T := TJ2) 2 (Nat.le_of_ble_eq_true rfl) vc_2 (Nat.le_of_ble_eq_true rfl) q531)
theorem n178_19 : Snd mt G 178 19 (oIstore 2 20) := w_istore_n (hm := mm178) dJ2_clear_19 (Nat.le_of_ble_eq_true rfl)
theorem n178_20 : Snd mt G 178 20 (oAload 0 21) := w_aload_n (hm := mm178) dJ2_clear_20
theorem n178_21 : Snd mt G 178 21 (oConst (.int 0) 22) := w_iconst (hm := mm178) dJ2_clear_21 rfl
theorem n178_22 : Snd mt G 178 22 (oDupx1 23) := w_dup_x1 (hm := mm178) dJ2_clear_22
theorem n178_23 : Snd mt G 178 23 (oPutf [3] 2 .int 26) := w_putf (hm := mm178) dJ2_clear_23 (pok1 (k := 2) (T := TJ2) 2 (Nat.le_of_ble_eq_true rfl) vc_2 (Nat.le_of_ble_eq_true rfl) rfl pd_J2_2 q531)
theorem n178_26 : Snd mt G 178 26 (oIstore 3 27) := w_istore_n (hm := mm178) dJ2_clear_26 (Nat.le_of_ble_eq_true rfl)
theorem n178_27 : Snd mt G 178 27 (oIload 3 28) := w_iload_n (hm := mm178) dJ2_clear_27
theorem n178_28 : Snd mt G 178 28 (oIload 2 29) := w_iload_n (hm := mm178) dJ2_clear_28
theorem n178_29 : Snd mt G 178 29 (oCmpGe 42 32) := w_icmp_ge (hm := mm178) dJ2_clear_29 rfl
theorem n178_32 : Snd mt G 178 32 (oAload 1 33) := w_aload_n (hm := mm178) dJ2_clear_32
theorem n178_33 : Snd mt G 178 33 (oIload 3 34) := w_iload_n (hm := mm178) dJ2_clear_33
theorem n178_34 : Snd mt G 178 34 (oConst .null 35) := w_null (hm := mm178) dJ2_clear_34
theorem n178_35 : Snd mt G 178 35 (oAast [103] es3 36) := w_aastore (hm := mm178) (kt := 3) dJ2_clear_35 at_3 (Nat.le_of_ble_eq_true rfl) (List.forall_mem_cons.mpr ⟨rfl, (fun t ht => nomatch ht)⟩) es3_ok
theorem n178_36 : Snd mt G 178 36 (oIinc 3 1 39) := w_iinc (hm := mm178) dJ2_clear_36 rfl (Nat.le_of_ble_eq_true rfl)
theorem n178_39 : Snd mt G 178 39 (oGoto 27) := w_goto (hm := mm178) dJ2_clear_39 rfl
theorem n178_42 : Snd mt G 178 42 (oRetV) := w_vret (hm := mm178) dJ2_clear_42 rfl
theorem sj178 : ∀ pc, Snd mt G 178 pc (j178 pc) := fun pc => (snd_br ((snd_br ((snd_br ((snd_br ((snd_br ((snd_lf n178_42)) ((snd_lf n178_39)))) ((snd_br ((snd_lf n178_36)) ((snd_lf n178_35)))))) ((snd_br ((snd_br ((snd_lf n178_34)) ((snd_lf n178_33)))) ((snd_lf n178_32)))))) ((snd_br ((snd_br ((snd_br ((snd_lf n178_29)) ((snd_lf n178_28)))) ((snd_br ((snd_lf n178_27)) ((snd_lf n178_26)))))) ((snd_br ((snd_br ((snd_lf n178_23)) ((snd_lf n178_22)))) ((snd_lf n178_21)))))))) ((snd_br ((snd_br ((snd_br ((snd_br ((snd_lf n178_20)) ((snd_lf n178_19)))) ((snd_br ((snd_lf n178_16)) ((snd_lf n178_15)))))) ((snd_br ((snd_br ((snd_lf n178_14)) ((snd_lf n178_11)))) ((snd_lf n178_10)))))) ((snd_br ((snd_br ((snd_br ((snd_lf n178_7)) ((snd_lf n178_6)))) ((snd_lf n178_5)))) ((snd_br ((snd_br ((snd_lf n178_2)) ((snd_lf n178_1)))) ((snd_lf n178_0)))))))))
end
section
variable {G : AG}
theorem n179_0 : Snd mt G 179 0 (oAload 0 1) := w_aload_n (hm := mm179) dJ2_add_0
theorem n179_1 : Snd mt G 179 1 (oDup 2) := w_dup (hm := mm179) dJ2_add_1
theorem n179_2 : Snd mt G 179 2 (oGetf [3] 0 5) := w_getf (hm := mm179) (k := 0) dJ2_add_2 ⟨_, _, _, q533, (List.forall_mem_cons.mpr ⟨⟨2, RJ2, TJ2, 3, Or.inl rfl, (Nat.le_of_ble_eq_true rfl), vc_2, (Nat.le_of_ble_eq_true rfl), rfl, rfl, Or.inr q534⟩, (fun t ht => nomatch ht)⟩)⟩
theorem n179_5 : Snd mt G 179 5 (oConst (.int 1) 6) := w_iconst (hm := mm179) dJ2_add_5 rfl
theorem n179_6 : Snd mt G 179 6 (oBin (fun x y => x + y) 7) := w_iadd (hm := mm179) dJ2_add_6
theorem n179_7 : Snd mt G 179 7 (oPutf [3] 0 .int 10) := w_putf (hm := mm179) (k := 0) dJ2_add_7 ⟨_, _, _, q533, by decide +kernel, (List.forall_mem_cons.mpr ⟨⟨2, RJ2, TJ2, 3, rfl, (Nat.le_of_ble_eq_true rfl), vc_2, (Nat.le_of_ble_eq_true rfl), rfl, rfl, Or.inr q534, rfl⟩, (fun t ht => nomatch ht)⟩)⟩
theorem n179_10 : Snd mt G 179 10 (oAload 0 11) := w_aload_n (hm := mm179) dJ2_add_10
theorem n179_11 : Snd mt G 179 11 (oAload 1 12) := w_aload_n (hm := mm179) dJ2_add_11
theorem n179_12 : Snd mt G 179 12 (oAload 0 13) := w_aload_n (hm := mm179) dJ2_add_12
theorem n179_13 : Snd mt G 179 13 (oGetf [3] 1 16) := w_getf (hm := mm179) dJ2_add_13 (fok1 (k := 1) (T := TJ2) 2 (Nat.le_of_ble_eq_true rfl) vc_2 (Nat.le_of_ble_eq_true rfl) q530)
theorem n179_16 : Snd mt G 179 16 (oAload 0 17) := w_aload_n (hm := mm179) dJ2_add_16
theorem n179_17 : Snd mt G 179 17 (oGetf [3] 2 20) := w_getf (hm := mm179) dJ2_add_17 (fok1 (k := 2) (T := TJ2) 2 (Nat.le_of_ble_eq_true rfl) vc_2 (Nat.le_of_ble_eq_true rfl) q531)
theorem n179_20 : Snd mt G 179 20 (oCall 4 (fV [3] 180 4) 0 23 xOut) := s_callV (m' := 180) (n := 3) xsh_out (w_xok0 mm179) (w_cal mm179 mm180 pn_J2 (Nat.le_of_ble_eq_true rfl) (Nat.le_of_ble_eq_true rfl)) (fun h b as hc hn => w_run_V (ci := 2) mm179 mm180 dJ2_add_20 (Or.inl (List.mem_singleton.mp hc)) (Nat.le_of_ble_eq_true rfl) vc_2 rfl q988 q990 qs21 q133 q991 pa180 hn)
theorem n179_23 : Snd mt G 179 23 (oConst (.int 1) 24) := w_iconst (hm := mm179) dJ2_add_23 rfl
theorem n179_24 : Snd mt G 179 24 (oRetI .boolean) := w_zret (hm := mm179) dJ2_add_24 rfl
theorem sj179 : ∀ pc, Snd mt G 179 pc (j179 pc) := fun pc => (snd_br ((snd_br ((snd_br ((snd_br ((snd_lf n179_24)) ((snd_lf n179_23)))) ((snd_br ((snd_lf n179_20)) ((snd_lf n179_17)))))) ((snd_br ((snd_br ((snd_lf n179_16)) ((snd_lf n179_13)))) ((snd_br ((snd_lf n179_12)) ((snd_lf n179_11)))))))) ((snd_br ((snd_br ((snd_br ((snd_lf n179_10)) ((snd_lf n179_7)))) ((snd_br ((snd_lf n179_6)) ((snd_lf n179_5)))))) ((snd_br ((snd_br ((snd_lf n179_2)) ((snd_lf n179_1)))) ((snd_lf n179_0)))))))
end
section
variable {G : AG}
theorem n180_0 : Snd mt G 180 0 (oIload 3 1) := w_iload_n (hm := mm180) dJ2_add_2_0
theorem n180_1 : Snd mt G 180 1 (oAload 2 2) := w_aload_n (hm := mm180) dJ2_add_2_1
theorem n180_2 : Snd mt G 180 2 (oAlen 3) := w_alen (hm := mm180) dJ2_add_2_2
theorem n180_3 : Snd mt G 180 3 (oCmpEq 6 11) := w_icmp_ne (hm := mm180) dJ2_add_2_3 rfl
theorem n180_6 : Snd mt G 180 6 (oAload 0 7) := w_aload_n (hm := mm180) dJ2_add_2_6
theorem n180_7 : Snd mt G 180 7 (oCall 1 (fV [3] 181 1) 0 10 xOut) := s_callV (m' := 181) (n := 0) xsh_out (w_xok0 mm180) (w_cal mm180 mm181 pn_J2 (Nat.le_of_ble_eq_true rfl) (Nat.le_of_ble_eq_true rfl)) (fun h b as hc hn => w_run_V (ci := 2) mm180 mm181 dJ2_add_2_7 (Or.inl (List.mem_singleton.mp hc)) (Nat.le_of_ble_eq_true rfl) vc_2 rfl q992 q994 qs22 q133 q995 pa181 hn)
theorem n180_10 : Snd mt G 180 10 (oAstore 2 11) := w_astore_n (hm := mm180) dJ2_add_2_10 (Nat.le_of_ble_eq_true rfl)
theorem n180_11 : Snd mt G 180 11 (oAload 2 12) := w_aload_n (hm := mm180) dJ2_add_2_11
theorem n180_12 : Snd mt G 180 12 (oIload 3 13) := w_iload_n (hm := mm180) dJ2_add_2_12
theorem n180_13 : Snd mt G 180 13 (oAload 1 14) := w_aload_n (hm := mm180) dJ2_add_2_13
theorem n180_14 : Snd mt G 180 14 (oAast [103] es3 15) := w_aastore (hm := mm180) (kt := 3) dJ2_add_2_14 at_3 (Nat.le_of_ble_eq_true rfl) (List.forall_mem_cons.mpr ⟨rfl, (fun t ht => nomatch ht)⟩) es3_ok
theorem n180_15 : Snd mt G 180 15 (oAload 0 16) := w_aload_n (hm := mm180) dJ2_add_2_15
theorem n180_16 : Snd mt G 180 16 (oIload 3 17) := w_iload_n (hm := mm180) dJ2_add_2_16
theorem n180_17 : Snd mt G 180 17 (oConst (.int 1) 18) := w_iconst (hm := mm180) dJ2_add_2_17 rfl
theorem n180_18 : Snd mt G 180 18 (oBin (fun x y => x + y) 19) := w_iadd (hm := mm180) dJ2_add_2_18
theorem n180_19 : Snd mt G 180 19 (oPutf [3] 2 .int 22) := w_putf (hm := mm180) dJ2_add_2_19 (pok1 (k := 2) (T := TJ2) 2 (Nat.le_of_ble_eq_true rfl) vc_2 (Nat.le_of_ble_eq_true rfl) rfl pd_J2_2 q531)
theorem n180_22 : Snd mt G 180 22 (oRetV) := w_vret (hm := mm180) dJ2_add_2_22 rfl
theorem sj180 : ∀ pc, Snd mt G 180 pc (j180 pc) := fun pc => (snd_br ((snd_br ((snd_br ((snd_br ((snd_br ((snd_lf n180_22)) ((snd_lf n180_19)))) ((snd_lf n180_18)))) ((snd_br ((snd_lf n180_17)) ((snd_lf n180_16)))))) ((snd_br ((snd_br ((snd_lf n180_15)) ((snd_lf n180_14)))) ((snd_br ((snd_lf n180_13)) ((snd_lf n180_12)))))))) ((snd_br ((snd_br ((snd_br ((snd_lf n180_11)) ((snd_lf n180_10)))) ((snd_br ((snd_lf n180_7)) ((snd_lf n180_6)))))) ((snd_br ((snd_br ((snd_lf n180_3)) ((snd_lf n180_2)))) ((snd_br ((snd_lf n180_1)) ((snd_lf n180_0)))))))))
end
section
variable {G : AG}
theorem n181_0 : Snd mt G 181 0 (oAload 0 1) := w_aload_n (hm := mm181) dJ2_grow_0
theorem n181_1 : Snd mt G 181 1 (oAload 0 2) := w_aload_n (hm := mm181) dJ2_grow_1
theorem n181_2 : Snd mt G 181 2 (oGetf [3] 2 5) := w_getf (hm := mm181) dJ2_grow_2 (fok1 (k := 2) (T := TJ2) 2 (Nat.le_of_ble_eq_true rfl) vc_2 (Nat.le_of_ble_eq_true rfl) q531)
theorem n181_5 : Snd mt G 181 5 (oConst (.int 1) 6) := w_iconst (hm := mm181) dJ2_grow_5 rfl
theorem n181_6 : Snd mt G 181 6 (oBin (fun x y => x + y) 7) := w_iadd (hm := mm181) dJ2_grow_6
theorem n181_7 : Snd mt G 181 7 (oCall 2 (fV [3] 182 4) 0 10 xOut) := s_callV (m' := 182) (n := 1) xsh_out (w_xok0 mm181) (w_cal mm181 mm182 pn_J2 (Nat.le_of_ble_eq_true rfl) (Nat.le_of_ble_eq_true rfl)) (fun h b as hc hn => w_run_V (ci := 2) mm181 mm182 dJ2_grow_7 (Or.inl (List.mem_singleton.mp hc)) (Nat.le_of_ble_eq_true rfl) vc_2 rfl q996 q998 qs23 q133 q999 pa182 hn)
theorem n181_10 : Snd mt G 181 10 (oRetA) := w_aret (hm := mm181) dJ2_grow_10 rfl (Or.inr ⟨_, rfl⟩)
theorem sj181 : ∀ pc, Snd mt G 181 pc (j181 pc) := fun pc => (snd_br ((snd_br ((snd_br ((snd_lf n181_10)) ((snd_lf n181_7)))) ((snd_br ((snd_lf n181_6)) ((snd_lf n181_5)))))) ((snd_br ((snd_br ((snd_lf n181_2)) ((snd_lf n181_1)))) ((snd_lf n181_0)))))
end
section
variable {G : AG}
theorem n182_0 : Snd mt G 182 0 (oAload 0 1) := w_aload_n (hm := mm182) dJ2_grow_2_0
theorem n182_1 : Snd mt G 182 1 (oGetf [3] 1 4) := w_getf (hm := mm182) dJ2_grow_2_1 (fok1 (k := 1) (T := TJ2) 2 (Nat.le_of_ble_eq_true rfl) vc_2 (Nat.le_of_ble_eq_true rfl) q530)
theorem n182_4 : Snd mt G 182 4 (oAlen 5) := w_alen (hm := mm182) dJ2_grow_2_4
theorem n182_5 : Snd mt G 182 5 (oIstore 2 6) := w_istore_n (hm := mm182) dJ2_grow_2_5 (Nat.le_of_ble_eq_true rfl)
theorem n182_6 : Snd mt G 182 6 (oIload 2 7) := w_iload_n (hm := mm182) dJ2_grow_2_6
theorem n182_7 : Snd mt G 182 7 (oIfGt 20 10) := w_if_gt (hm := mm182) dJ2_grow_2_7 rfl
theorem n182_10 : Snd mt G 182 10 (oAload 0 11) := w_aload_n (hm := mm182) dJ2_grow_2_10
theorem n182_11 : Snd mt G 182 11 (oGetf [3] 1 14) := w_getf (hm := mm182) dJ2_grow_2_11 (fok1 (k := 1) (T := TJ2) 2 (Nat.le_of_ble_eq_true rfl) vc_2 (Nat.le_of_ble_eq_true rfl) q530)
theorem n182_14 : Snd mt G 182 14 (oGets 2 17) := w_gets (hm := mm182) (j := 2) dJ2_grow_2_14 sl_2 q1000
theorem n182_17 : Snd mt G 182 17 (oAcmp 45 20) := w_acmp_eq (hm := mm182) dJ2_grow_2_17 rfl
theorem n182_20 : Snd mt G 182 20 (oIload 2 21) := w_iload_n (hm := mm182) dJ2_grow_2_20
theorem n182_21 : Snd mt G 182 21 (oIload 1 22) := w_iload_n (hm := mm182) dJ2_grow_2_21
theorem n182_22 : Snd mt G 182 22 (oIload 2 23) := w_iload_n (hm := mm182) dJ2_grow_2_22
theorem n182_23 : Snd mt G 182 23 (oBin (fun x y => x - y) 24) := w_isub (hm := mm182) dJ2_grow_2_23
theorem n182_24 : Snd mt G 182 24 (oIload 2 25) := w_iload_n (hm := mm182) dJ2_grow_2_24
theorem n182_25 : Snd mt G 182 25 (oConst (.int 1) 26) := w_iconst (hm := mm182) dJ2_grow_2_25 rfl
theorem n182_26 : Snd mt G 182 26 (oBin (fun x y => x >>> (y &&& 31)) 27) := w_ishr (hm := mm182) dJ2_grow_2_26
theorem n182_27 : Snd mt G 182 27 (oCall 3 (fS 244 4) 0 30 xOut) := s_callS (m' := 244) (n := 3) xsh_out (w_xok0 mm182) (w_cal mm182 mm244 pn_J11 (Nat.le_of_ble_eq_true rfl) (Nat.le_of_ble_eq_true rfl)) (fun h as hn => w_run_S mm182 mm244 dJ2_grow_2_27 q1002 q310 q142 q311 pa244 hn)
theorem n182_30 : Snd mt G 182 30 (oIstore 3 31) := w_istore_n (hm := mm182) dJ2_grow_2_30 (Nat.le_of_ble_eq_true rfl)
theorem n182_31 : Snd mt G 182 31 (oAload 0 32) := w_aload_n (hm := mm182) dJ2_grow_2_31
theorem n182_32 : Snd mt G 182 32 (oAload 0 33) := w_aload_n (hm := mm182) dJ2_grow_2_32
theorem n182_33 : Snd mt G 182 33 (oGetf [3] 1 36) := w_getf (hm := mm182) dJ2_grow_2_33 (fok1 (k := 1) (T := TJ2) 2 (Nat.le_of_ble_eq_true rfl) vc_2 (Nat.le_of_ble_eq_true rfl) q530)
theorem n182_36 : Snd mt G 182 36 (oIload 3 37) := w_iload_n (hm := mm182) dJ2_grow_2_36
theorem n182_37 : Snd mt G 182 37 (oCall 2 (fS 261 2) 0 40 xOut) := s_callS (m' := 261) (n := 2) xsh_out (w_xok0 mm182) (w_cal mm182 mm261 pn_J13 (Nat.le_of_ble_eq_true rfl) (Nat.le_of_ble_eq_true rfl)) (fun h as hn => w_run_S mm182 mm261 dJ2_grow_2_37 q1003 q1004 q144 q1005 pa261 hn)
theorem n182_40 : Snd mt G 182 40 (oDupx1 41) := w_dup_x1 (hm := mm182) dJ2_grow_2_40
theorem n182_41 : Snd mt G 182 41 (oPutf [3] 1 (.array (.object "java/lang/Object")) 44) := w_putf (hm := mm182) dJ2_grow_2_41 (pok1 (k := 1) (T := TJ2) 2 (Nat.le_of_ble_eq_true rfl) vc_2 (Nat.le_of_ble_eq_true rfl) rfl pd_J2_1 q530)
theorem n182_44 : Snd mt G 182 44 (oRetA) := w_aret (hm := mm182) dJ2_grow_2_44 rfl (Or.inr ⟨_, rfl⟩)
theorem n182_45 : Snd mt G 182 45 (oAload 0 46) := w_aload_n (hm := mm182) dJ2_grow_2_45
theorem n182_46 : Snd mt G 182 46 (oConst (.int 10) 48) := w_bipush (hm := mm182) dJ2_grow_2_46 (by decide)
theorem n182_48 : Snd mt G 182 48 (oIload 1 49) := w_iload_n (hm := mm182) dJ2_grow_2_48
theorem n182_49 : Snd mt G 182 49 (oMath2 (fun x y => if x < y then y else x) 52) := w_mmax (hm := mm182) dJ2_grow_2_49 (Nat.le_of_ble_eq_true rfl) q1052 q313 q143 q314
theorem n182_52 : Snd mt G 182 52 (oNewa 103 .null 55) := w_anew (hm := mm182) (kt := 3) dJ2_grow_2_52 (Nat.le_of_ble_eq_true rfl) at_3 q209 (by decide)
theorem n182_55 : Snd mt G 182 55 (oDupx1 56) := w_dup_x1 (hm := mm182) dJ2_grow_2_55
theorem n182_56 : Snd mt G 182 56 (oPutf [3] 1 (.array (.object "java/lang/Object")) 59) := w_putf (hm := mm182) dJ2_grow_2_56 (pok1 (k := 1) (T := TJ2) 2 (Nat.le_of_ble_eq_true rfl) vc_2 (Nat.le_of_ble_eq_true rfl) rfl pd_J2_1 q530)
theorem n182_59 : Snd mt G 182 59 (oRetA) := w_aret (hm := mm182) dJ2_grow_2_59 rfl (Or.inr ⟨_, rfl⟩)
theorem sj182 : ∀ pc, Snd mt G 182 pc (j182 pc) := fun pc => (snd_br ((snd_br ((snd_br ((snd_br ((snd_br ((snd_br ((snd_lf n182_59)) ((snd_lf n182_56)))) ((snd_lf n182_55)))) ((snd_br ((snd_lf n182_52)) ((snd_lf n182_49)))))) ((snd_br ((snd_br ((snd_lf n182_48)) ((snd_lf n182_46)))) ((snd_br ((snd_lf n182_45)) ((snd_lf n182_44)))))))) ((snd_br ((snd_br ((snd_br ((snd_br ((snd_lf n182_41)) ((snd_lf n182_40)))) ((snd_lf n182_37)))) ((snd_br ((snd_lf n182_36)) ((snd_lf n182_33)))))) ((snd_br ((snd_br ((snd_lf n182_32)) ((snd_lf n182_31)))) ((snd_br ((snd_lf n182_30)) ((snd_lf n182_27)))))))))) ((snd_br ((snd_br ((snd_br ((snd_br ((snd_br ((snd_lf n182_26)) ((snd_lf n182_25)))) ((snd_lf n182_24)))) ((snd_br ((snd_lf n182_23)) ((snd_lf n182_22)))))) ((snd_br ((snd_br ((snd_lf n182_21)) ((snd_lf n182_20)))) ((snd_br ((snd_lf n182_17)) ((snd_lf n182_14)))))))) ((snd_br ((snd_br ((snd_br ((snd_lf n182_11)) ((snd_lf n182_10)))) ((snd_br ((snd_lf n182_7)) ((snd_lf n182_6)))))) ((snd_br ((snd_br ((snd_lf n182_5)) ((snd_lf n182_4)))) ((snd_br ((snd_lf n182_1)) ((snd_lf n182_0)))))))))))
end
section
variable {G : AG}
theorem n183_0 : Snd mt G 183 0 (oIload 1 1) := w_iload_n (hm := mm183) dJ2_set_0
theorem n183_1 : Snd mt G 183 1 (oAload 0 2) := w_aload_n (hm := mm183) dJ2_set_1
theorem n183_2 : Snd mt G 183 2 (oGetf [3] 2 5) := w_getf (hm := mm183) dJ2_set_2 (fok1 (k := 2) (T := TJ2) 2 (Nat.le_of_ble_eq_true rfl) vc_2 (Nat.le_of_ble_eq_true rfl) q531)
theorem n183_5 : Snd mt G 183 5 (oCall 2 (fS 473 2) 0 8 xOut) := s_callS (m' := 473) (n := 2) xsh_out (w_xok0 mm183) (w_cal mm183 mm473 pn_J18 (Nat.le_of_ble_eq_true rfl) (Nat.le_of_ble_eq_true rfl)) (fun h as hn => w_run_S mm183 mm473 dJ2_set_5 q717 q718 q166 q719 pa473 hn)
theorem n183_8 : Snd mt G 183 8 (oPop 9) := w_pop (hm := mm183) dJ2_set_8
theorem n183_9 : Snd mt G 183 9 (oAload 0 10) := w_aload_n (hm := mm183) dJ2_set_9
theorem n183_10 : Snd mt G 183 10 (oIload 1 11) := w_iload_n (hm := mm183) dJ2_set_10
theorem n183_11 : Snd mt G 183 11 (oCall 2 (fV [3] 177 2) 0 14 xOut) := s_callV (m' := 177) (n := 1) xsh_out (w_xok0 mm183) (w_cal mm183 mm177 pn_J2 (Nat.le_of_ble_eq_true rfl) (Nat.le_of_ble_eq_true rfl)) (fun h b as hc hn => w_run_V (ci := 2) mm183 mm177 dJ2_set_11 (Or.inl (List.mem_singleton.mp hc)) (Nat.le_of_ble_eq_true rfl) vc_2 rfl q723 q724 q725 q133 q726 pa177 hn)
theorem n183_14 : Snd mt G 183 14 (oAstore 3 15) := w_astore_n (hm := mm183) dJ2_set_14 (Nat.le_of_ble_eq_true rfl)
theorem n183_15 : Snd mt G 183 15 (oAload 0 16) := w_aload_n (hm := mm183) dJ2_set_15
theorem n183_16 : Snd mt G 183 16 (oGetf [3] 1 19) := w_getf (hm := mm183) dJ2_set_16 (fok1 (k := 1) (T := TJ2) 2 (Nat.le_of_ble_eq_true rfl) vc_2 (Nat.le_of_ble_eq_true rfl) q530)
theorem n183_19 : Snd mt G 183 19 (oIload 1 20) := w_iload_n (hm := mm183) dJ2_set_19
theorem n183_20 : Snd mt G 183 20 (oAload 2 21) := w_aload_n (hm := mm183) dJ2_set_20
theorem n183_21 : Snd mt G 183 21 (oAast [103] es3 22) := w_aastore (hm := mm183) (kt := 3) dJ2_set_21 at_3 (Nat.le_of_ble_eq_true rfl) (List.forall_mem_cons.mpr ⟨rfl, (fun t ht => nomatch ht)⟩) es3_ok
theorem n183_22 : Snd mt G 183 22 (oAload 3 23) := w_aload_n (hm := mm183) dJ2_set_22
theorem n183_23 : Snd mt G 183 23 (oRetA) := w_aret (hm := mm183) dJ2_set_23 rfl (Or.inl ⟨_, rfl⟩)
theorem sj183 : ∀ pc, Snd mt G 183 pc (j183 pc) := fun pc => (snd_br ((snd_br ((snd_br ((snd_br ((snd_lf n183_23)) ((snd_lf n183_22)))) ((snd_br ((snd_lf n183_21)) ((snd_lf n183_20)))))) ((snd_br ((snd_br ((snd_lf n183_19)) ((snd_lf n183_16)))) ((snd_br ((snd_lf n183_15)) ((snd_lf n183_14)))))))) ((snd_br ((snd_br ((snd_br ((snd_lf n183_11)) ((snd_lf n183_10)))) ((snd_br ((snd_lf n183_9)) ((snd_lf n183_8)))))) ((snd_br ((snd_br ((snd_lf n183_5)) ((snd_lf n183_2)))) ((snd_br ((snd_lf n183_1)) ((snd_lf n183_0)))))))))
end
section
variable {G : AG}
theorem n184_0 : Snd mt G 184 0 (oAload 0 1) := w_aload_n (hm := mm184) dJ2_isEmpty_0
theorem n184_1 : Snd mt G 184 1 (oGetf [3] 2 4) := w_getf (hm := mm184) dJ2_isEmpty_1 (fok1 (k := 2) (T := TJ2) 2 (Nat.le_of_ble_eq_true rfl) vc_2 (Nat.le_of_ble_eq_true rfl) q531)
theorem n184_4 : Snd mt G 184 4 (oIfEq 7 11) := w_if_ne (hm := mm184) dJ2_isEmpty_4 rfl
theorem n184_7 : Snd mt G 184 7 (oConst (.int 1) 8) := w_iconst (hm := mm184) dJ2_isEmpty_7 rfl
theorem n184_8 : Snd mt G 184 8 (oGoto 12) := w_goto (hm := mm184) dJ2_isEmpty_8 rfl
theorem n184_11 : Snd mt G 184 11 (oConst (.int 0) 12) := w_iconst (hm := mm184) dJ2_isEmpty_11 rfl
theorem n184_12 : Snd mt G 184 12 (oRetI .boolean) := w_zret (hm := mm184) dJ2_isEmpty_12 rfl
theorem sj184 : ∀ pc, Snd mt G 184 pc (j184 pc) := fun pc => (snd_br ((snd_br ((snd_br ((snd_lf n184_12)) ((snd_lf n184_11)))) ((snd_br ((snd_lf n184_8)) ((snd_lf n184_7)))))) ((snd_br ((snd_br ((snd_lf n184_4)) ((snd_lf n184_1)))) ((snd_lf n184_0)))))
end
section
variable {G : AG}
theorem n185_0 : Snd mt G 185 0 (oAload 0 1) := w_aload_n (hm := mm185) dJ3_init_0
theorem n185_1 : Snd mt G 185 1 (oObjI 4) := w_objI (hm := mm185) dJ3_init_1 (Nat.le_of_ble_eq_true rfl) q238 q189 q190
theorem n185_4 : Snd mt G 185 4 (oAload 0 5) := w_aload_n (hm := mm185) dJ3_init_4
theorem n185_5 : Snd mt G 185 5 (oAload 0 6) := w_aload_n (hm := mm185) dJ3_init_5
theorem n185_6 : Snd mt G 185 6 (oPutf [7] 0 (.object "java/lang/Throwable") 9) := w_putf (hm := mm185) dJ3_init_6 (pok1 (k := 0) (T := TX6) 6 (Nat.le_of_ble_eq_true rfl) vc_6 (Nat.le_of_ble_eq_true rfl) rfl pd_X6_0 q492)
theorem n185_9 : Snd mt G 185 9 (oAload 0 10) := w_aload_n (hm := mm185) dJ3_init_9
theorem n185_10 : Snd mt G 185 10 (oGets 5 13) := w_gets (hm := mm185) (j := 5) dJ3_init_10 sl_5 q239
theorem n185_13 : Snd mt G 185 13 (oPutf [7] 1 (.array (.object "java/lang/StackTraceElement")) 16) := w_putf (hm := mm185) dJ3_init_13 (pok1 (k := 1) (T := TX6) 6 (Nat.le_of_ble_eq_true rfl) vc_6 (Nat.le_of_ble_eq_true rfl) rfl pd_X6_1 q493)
theorem n185_16 : Snd mt G 185 16 (oAload 0 17) := w_aload_n (hm := mm185) dJ3_init_16
theorem n185_17 : Snd mt G 185 17 (oGets 6 20) := w_gets (hm := mm185) (j := 6) dJ3_init_17 sl_6 q241
theorem n185_20 : Snd mt G 185 20 (oPutf [7] 2 (.object "java/util/List") 23) := w_putf (hm := mm185) dJ3_init_20 (pok1 (k := 2) (T := TX6) 6 (Nat.le_of_ble_eq_true rfl) vc_6 (Nat.le_of_ble_eq_true rfl) rfl pd_X6_2 q494)
theorem n185_23 : Snd mt G 185 23 (oAload 0 24) := w_aload_n (hm := mm185) dJ3_init_23
theorem n185_24 : Snd mt G 185 24 (fun _ _ _ _ => stuck) := snd_stuck
theorem n185_27 : Snd mt G 185 27 (oPop 28) := w_pop (hm := mm185) dJ3_init_27
theorem n185_28 : Snd mt G 185 28 (oRetV) := w_vret (hm := mm185) dJ3_init_28 rfl
theorem sj185 : ∀ pc, Snd mt G 185 pc (j185 pc) := fun pc => (snd_br ((snd_br ((snd_br ((snd_br ((snd_lf n185_28)) ((snd_lf n185_27)))) ((snd_br ((snd_lf n185_24)) ((snd_lf n185_23)))))) ((snd_br ((snd_br ((snd_lf n185_20)) ((snd_lf n185_17)))) ((snd_br ((snd_lf n185_16)) ((snd_lf n185_13)))))))) ((snd_br ((snd_br ((snd_br ((snd_lf n185_10)) ((snd_lf n185_9)))) ((snd_br ((snd_lf n185_6)) ((snd_lf n185_5)))))) ((snd_br ((snd_br ((snd_lf n185_4)) ((snd_lf n185_1)))) ((snd_lf n185_0)))))))
end
section
variable {G : AG}
theorem n186_0 : Snd mt G 186 0 (oAload 0 1) := w_aload_n (hm := mm186) dJ3_init_2_0
theorem n186_1 : Snd mt G 186 1 (oObjI 4) := w_objI (hm := mm186) dJ3_init_2_1 (Nat.le_of_ble_eq_true rfl) q238 q189 q190
theorem n186_4 : Snd mt G 186 4 (oAload 0 5) := w_aload_n (hm := mm186) dJ3_init_2_4
theorem n186_5 : Snd mt G 186 5 (oAload 0 6) := w_aload_n (hm := mm186) dJ3_init_2_5
theorem n186_6 : Snd mt G 186 6 (oPutf [7] 0 (.object "java/lang/Throwable") 9) := w_putf (hm := mm186) dJ3_init_2_6 (pok1 (k := 0) (T := TX6) 6 (Nat.le_of_ble_eq_true rfl) vc_6 (Nat.le_of_ble_eq_true rfl) rfl pd_X6_0 q492)
theorem n186_9 : Snd mt G 186 9 (oAload 0 10) := w_aload_n (hm := mm186) dJ3_init_2_9
theorem n186_10 : Snd mt G 186 10 (oGets 5 13) := w_gets (hm := mm186) (j := 5) dJ3_init_2_10 sl_5 q239
theorem n186_13 : Snd mt G 186 13 (oPutf [7] 1 (.array (.object "java/lang/StackTraceElement")) 16) := w_putf (hm := mm186) dJ3_init_2_13 (pok1 (k := 1) (T := TX6) 6 (Nat.le_of_ble_eq_true rfl) vc_6 (Nat.le_of_ble_eq_true rfl) rfl pd_X6_1 q493)
theorem n186_16 : Snd mt G 186 16 (oAload 0 17) := w_aload_n (hm := mm186) dJ3_init_2_16
theorem n186_17 : Snd mt G 186 17 (oGets 6 20) := w_gets (hm := mm186) (j := 6) dJ3_init_2_17 sl_6 q241
theorem n186_20 : Snd mt G 186 20 (oPutf [7] 2 (.object "java/util/List") 23) := w_putf (hm := mm186) dJ3_init_2_20 (pok1 (k := 2) (T := TX6) 6 (Nat.le_of_ble_eq_true rfl) vc_6 (Nat.le_of_ble_eq_true rfl) rfl pd_X6_2 q494)
theorem n186_23 : Snd mt G 186 23 (oAload 0 24) := w_aload_n (hm := mm186) dJ3_init_2_23
theorem n186_24 : Snd mt G 186 24 (fun _ _ _ _ => stuck) := snd_stuck
theorem n186_27 : Snd mt G 186 27 (oPop 28) := w_pop (hm := mm186) dJ3_init_2_27
theorem n186_28 : Snd mt G 186 28 (oAload 0 29) := w_aload_n (hm := mm186) dJ3_init_2_28
theorem n186_29 : Snd mt G 186 29 (oAload 1 30) := w_aload_n (hm := mm186) dJ3_init_2_29
theorem n186_30 : Snd mt G 186 30 (oPutf [7] 3 (.object "java/lang/String") 33) := w_putf (hm := mm186) dJ3_init_2_30 (pok1 (k := 3) (T := TX6) 6 (Nat.le_of_ble_eq_true rfl) vc_6 (Nat.le_of_ble_eq_true rfl) rfl pd_X6_3 q491)
theorem n186_33 : Snd mt G 186 33 (oRetV) := w_vret (hm := mm186) dJ3_init_2_33 rfl
theorem sj186 : ∀ pc, Snd mt G 186 pc (j186 pc) := fun pc => (snd_br ((snd_br ((snd_br ((snd_br ((snd_br ((snd_lf n186_33)) ((snd_lf n186_30)))) ((snd_lf n186_29)))) ((snd_br ((snd_lf n186_28)) ((snd_lf n186_27)))))) ((snd_br ((snd_br ((snd_lf n186_24)) ((snd_lf n186_23)))) ((snd_br ((snd_lf n186_20)) ((snd_lf n186_17)))))))) ((snd_br ((snd_br ((snd_br ((snd_br ((snd_lf n186_16)) ((snd_lf n186_13)))) ((snd_lf n186_10)))) ((snd_br ((snd_lf n186_9)) ((snd_lf n186_6)))))) ((snd_br ((snd_br ((snd_lf n186_5)) ((snd_lf n186_4)))) ((snd_br ((snd_lf n186_1)) ((snd_lf n186_0)))))))))
end
section
variable {G : AG}
theorem n187_0 : Snd mt G 187 0 (oAload 0 1) := w_aload_n (hm := mm187) dJ3_init_3_0
theorem n187_1 : Snd mt G 187 1 (oObjI 4) := w_objI (hm := mm187) dJ3_init_3_1 (Nat.le_of_ble_eq_true rfl) q238 q189 q190
theorem n187_4 : Snd mt G 187 4 (oAload 0 5) := w_aload_n (hm := mm187) dJ3_init_3_4
theorem n187_5 : Snd mt G 187 5 (oAload 0 6) := w_aload_n (hm := mm187) dJ3_init_3_5
theorem n187_6 : Snd mt G 187 6 (oPutf [7] 0 (.object "java/lang/Throwable") 9) := w_putf (hm := mm187) dJ3_init_3_6 (pok1 (k := 0) (T := TX6) 6 (Nat.le_of_ble_eq_true rfl) vc_6 (Nat.le_of_ble_eq_true rfl) rfl pd_X6_0 q492)
theorem n187_9 : Snd mt G 187 9 (oAload 0 10) := w_aload_n (hm := mm187) dJ3_init_3_9
theorem n187_10 : Snd mt G 187 10 (oGets 5 13) := w_gets (hm := mm187) (j := 5) dJ3_init_3_10 sl_5 q239
theorem n187_13 : Snd mt G 187 13 (oPutf [7] 1 (.array (.object "java/lang/StackTraceElement")) 16) := w_putf (hm := mm187) dJ3_init_3_13 (pok1 (k := 1) (T := TX6) 6 (Nat.le_of_ble_eq_true rfl) vc_6 (Nat.le_of_ble_eq_true rfl) rfl pd_X6_1 q493)
theorem n187_16 : Snd mt G 187 16 (oAload 0 17) := w_aload_n (hm := mm187) dJ3_init_3_16
theorem n187_17 : Snd mt G 187 17 (oGets 6 20) := w_gets (hm := mm187) (j := 6) dJ3_init_3_17 sl_6 q241
theorem n187_20 : Snd mt G 187 20 (oPutf [7] 2 (.object "java/util/List") 23) := w_putf (hm := mm187) dJ3_init_3_20 (pok1 (k := 2) (T := TX6) 6 (Nat.le_of_ble_eq_true rfl) vc_6 (Nat.le_of_ble_eq_true rfl) rfl pd_X6_2 q494)
theorem n187_23 : Snd mt G 187 23 (oIload 4 25) := w_iload (hm := mm187) dJ3_init_3_23
theorem n187_25 : Snd mt G 187 25 (oIfEq 36 28) := w_if_eq (hm := mm187) dJ3_init_3_25 rfl
theorem n187_28 : Snd mt G 187 28 (oAload 0 29) := w_aload_n (hm := mm187) dJ3_init_3_28
theorem n187_29 : Snd mt G 187 29 (fun _ _ _ _ => stuck) := snd_stuck
theorem n187_32 : Snd mt G 187 32 (oPop 33) := w_pop (hm := mm187) dJ3_init_3_32
theorem n187_33 : Snd mt G 187 33 (oGoto 41) := w_goto (hm := mm187) dJ3_init_3_33 rfl
theorem n187_36 : Snd mt G 187 36 (oAload 0 37) := w_aload_n (hm := mm187) dJ3_init_3_36
theorem n187_37 : Snd mt G 187 37 (oConst .null 38) := w_null (hm := mm187) dJ3_init_3_37
theorem n187_38 : Snd mt G 187 38 (oPutf [7] 1 (.array (.object "java/lang/StackTraceElement")) 41) := w_putf (hm := mm187) dJ3_init_3_38 (pok1 (k := 1) (T := TX6) 6 (Nat.le_of_ble_eq_true rfl) vc_6 (Nat.le_of_ble_eq_true rfl) rfl pd_X6_1 q493)
theorem n187_41 : Snd mt G 187 41 (oAload 0 42) := w_aload_n (hm := mm187) dJ3_init_3_41
theorem n187_42 : Snd mt G 187 42 (oAload 1 43) := w_aload_n (hm := mm187) dJ3_init_3_42
theorem n187_43 : Snd mt G 187 43 (oPutf [7] 3 (.object "java/lang/String") 46) := w_putf (hm := mm187) dJ3_init_3_43 (pok1 (k := 3) (T := TX6) 6 (Nat.le_of_ble_eq_true rfl) vc_6 (Nat.le_of_ble_eq_true rfl) rfl pd_X6_3 q491)
theorem n187_46 : Snd mt G 187 46 (oAload 0 47) := w_aload_n (hm := mm187) dJ3_init_3_46
theorem n187_47 : Snd mt G 187 47 (oAload 2 48) := w_aload_n (hm := mm187) dJ3_init_3_47
theorem n187_48 : Snd mt G 187 48 (oPutf [7] 0 (.object "java/lang/Throwable") 51) := w_putf (hm := mm187) dJ3_init_3_48 (pok1 (k := 0) (T := TX6) 6 (Nat.le_of_ble_eq_true rfl) vc_6 (Nat.le_of_ble_eq_true rfl) rfl pd_X6_0 q492)
theorem n187_51 : Snd mt G 187 51 (oIload 3 52) := w_iload_n (hm := mm187) dJ3_init_3_51
theorem n187_52 : Snd mt G 187 52 (oIfEq 55 60) := w_if_ne (hm := mm187) dJ3_init_3_52 rfl
theorem n187_55 : Snd mt G 187 55 (oAload 0 56) := w_aload_n (hm := mm187) dJ3_init_3_55
theorem n187_56 : Snd mt G 187 56 (oConst .null 57) := w_null (hm := mm187) dJ3_init_3_56
theorem n187_57 : Snd mt G 187 57 (oPutf [7] 2 (.object "java/util/List") 60) := w_putf (hm := mm187) dJ3_init_3_57 (pok1 (k := 2) (T := TX6) 6 (Nat.le_of_ble_eq_true rfl) vc_6 (Nat.le_of_ble_eq_true rfl) rfl pd_X6_2 q494)
theorem n187_60 : Snd mt G 187 60 (oRetV) := w_vret (hm := mm187) dJ3_init_3_60 rfl
theorem sj187 : ∀ pc, Snd mt G 187 pc (j187 pc) := fun pc => (snd_br ((snd_br ((snd_br ((snd_br ((snd_br ((snd_lf n187_60)) ((snd_lf n187_57)))) ((snd_br ((snd_lf n187_56)) ((snd_lf n187_55)))))) ((snd_br ((snd_br ((snd_lf n187_52)) ((snd_lf n187_51)))) ((snd_br ((snd_lf n187_48)) ((snd_lf n187_47)))))))) ((snd_br ((snd_br ((snd_br ((snd_lf n187_46)) ((snd_lf n187_43)))) ((snd_br ((snd_lf n187_42)) ((snd_lf n187_41)))))) ((snd_br ((snd_br ((snd_lf n187_38)) ((snd_lf n187_37)))) ((snd_br ((snd_lf n187_36)) ((snd_lf n187_33)))))))))) ((snd_br ((snd_br ((snd_br ((snd_br ((snd_lf n187_32)) ((snd_lf n187_29)))) ((snd_br ((snd_lf n187_28)) ((snd_lf n187_25)))))) ((snd_br ((snd_br ((snd_lf n187_23)) ((snd_lf n187_20)))) ((snd_br ((snd_lf n187_17)) ((snd_lf n187_16)))))))) ((snd_br ((snd_br ((snd_br ((snd_lf n187_13)) ((snd_lf n187_10)))) ((snd_br ((snd_lf n187_9)) ((snd_lf n187_6)))))) ((snd_br ((snd_br ((snd_lf n187_5)) ((snd_lf n187_4)))) ((snd_br ((snd_lf n187_1)) ((snd_lf n187_0)))))))))))
end
section
variable {G : AG}
theorem n188_0 : Snd mt G 188 0 (oAload 0 1) := w_aload_n (hm := mm188) dJ4_init_0
theorem n188_1 : Snd mt G 188 1 (oAload 1 2) := w_aload_n (hm := mm188) dJ4_init_1
theorem n188_2 : Snd mt G 188 2 (oCall 2 (fI 186 2) 0 5 xOut) := s_callI (m' := 186) (n := 1) xsh_out (w_xok0 mm188) (w_cal mm188 mm186 pn_J3 (Nat.le_of_ble_eq_true rfl) (Nat.le_of_ble_eq_true rfl)) (fun h b as hn => w_run_I mm188 mm186 dJ4_init_2 rfl rfl q487 q488 q134 q489 pa186 hn)
theorem n188_5 : Snd mt G 188 5 (oRetV) := w_vret (hm := mm188) dJ4_init_5 rfl
theorem sj188 : ∀ pc, Snd mt G 188 pc (j188 pc) := fun pc => (snd_br ((snd_br ((snd_lf n188_5)) ((snd_lf n188_2)))) ((snd_br ((snd_lf n188_1)) ((snd_lf n188_0)))))
end
section
variable {G : AG}
theorem n189_0 : Snd mt G 189 0 (oAload 0 1) := w_aload_n (hm := mm189) dJ4_init_2_0
theorem n189_1 : Snd mt G 189 1 (oCall 1 (fI 185 1) 0 4 xOut) := s_callI (m' := 185) (n := 0) xsh_out (w_xok0 mm189) (w_cal mm189 mm185 pn_J3 (Nat.le_of_ble_eq_true rfl) (Nat.le_of_ble_eq_true rfl)) (fun h b as hn => w_run_I mm189 mm185 dJ4_init_2_1 rfl rfl q1193 q236 q134 q237 pa185 hn)
theorem n189_4 : Snd mt G 189 4 (oRetV) := w_vret (hm := mm189) dJ4_init_2_4 rfl
theorem sj189 : ∀ pc, Snd mt G 189 pc (j189 pc) := fun pc => (snd_br ((snd_br ((snd_lf n189_4)) ((snd_lf n189_1)))) ((snd_lf n189_0)))
end
section
variable {G : AG}
theorem n190_0 : Snd mt G 190 0 (oAload 0 1) := w_aload_n (hm := mm190) dJ4_init_3_0
theorem n190_1 : Snd mt G 190 1 (oAload 1 2) := w_aload_n (hm := mm190) dJ4_init_3_1
theorem n190_2 : Snd mt G 190 2 (oAload 2 3) := w_aload_n (hm := mm190) dJ4_init_3_2
theorem n190_3 : Snd mt G 190 3 (oIload 3 4) := w_iload_n (hm := mm190) dJ4_init_3_3
theorem n190_4 : Snd mt G 190 4 (oIload 4 6) := w_iload (hm := mm190) dJ4_init_3_4
theorem n190_6 : Snd mt G 190 6 (oCall 5 (fI 187 5) 0 9 xOut) := s_callI (m' := 187) (n := 4) xsh_out (w_xok0 mm190) (w_cal mm190 mm187 pn_J3 (Nat.le_of_ble_eq_true rfl) (Nat.le_of_ble_eq_true rfl)) (fun h b as hn => w_run_I mm190 mm187 dJ4_init_3_6 rfl rfl q1352 q1353 q134 q1354 pa187 hn)
theorem n190_9 : Snd mt G 190 9 (oRetV) := w_vret (hm := mm190) dJ4_init_3_9 rfl
theorem sj190 : ∀ pc, Snd mt G 190 pc (j190 pc) := fun pc => (snd_br ((snd_br ((snd_br ((snd_lf n190_9)) ((snd_lf n190_6)))) ((snd_br ((snd_lf n190_4)) ((snd_lf n190_3)))))) ((snd_br ((snd_br ((snd_lf n190_2)) ((snd_lf n190_1)))) ((snd_lf n190_0)))))
end
section
variable {G : AG}
theorem n191_0 : Snd mt G 191 0 (oAload 0 1) := w_aload_n (hm := mm191) dJ5_init_0
theorem n191_1 : Snd mt G 191 1 (oAload 1 2) := w_aload_n (hm := mm191) dJ5_init_1
theorem n191_2 : Snd mt G 191 2 (oCall 2 (fI 188 2) 0 5 xOut) := s_callI (m' := 188) (n := 1) xsh_out (w_xok0 mm191) (w_cal mm191 mm188 pn_J4 (Nat.le_of_ble_eq_true rfl) (Nat.le_of_ble_eq_true rfl)) (fun h b as hn => w_run_I mm191 mm188 dJ5_init_2 rfl rfl q484 q485 q135 q486 pa188 hn)
theorem n191_5 : Snd mt G 191 5 (oRetV) := w_vret (hm := mm191) dJ5_init_5 rfl
theorem sj191 : ∀ pc, Snd mt G 191 pc (j191 pc) := fun pc => (snd_br ((snd_br ((snd_lf n191_5)) ((snd_lf n191_2)))) ((snd_br ((snd_lf n191_1)) ((snd_lf n191_0)))))
end
section
variable {G : AG}
theorem n192_0 : Snd mt G 192 0 (oAload 0 1) := w_aload_n (hm := mm192) dJ5_init_2_0
theorem n192_1 : Snd mt G 192 1 (oCall 1 (fI 189 1) 0 4 xOut) := s_callI (m' := 189) (n := 0) xsh_out (w_xok0 mm192) (w_cal mm192 mm189 pn_J4 (Nat.le_of_ble_eq_true rfl) (Nat.le_of_ble_eq_true rfl)) (fun h b as hn => w_run_I mm192 mm189 dJ5_init_2_1 rfl rfl q1190 q1191 q135 q1192 pa189 hn)
theorem n192_4 : Snd mt G 192 4 (oRetV) := w_vret (hm := mm192) dJ5_init_2_4 rfl
theorem sj192 : ∀ pc, Snd mt G 192 pc (j192 pc) := fun pc => (snd_br ((snd_br ((snd_lf n192_4)) ((snd_lf n192_1)))) ((snd_lf n192_0)))
end
section
variable {G : AG}
theorem n193_0 : Snd mt G 193 0 (oAload 0 1) := w_aload_n (hm := mm193) dJ6_init_0
theorem n193_1 : Snd mt G 193 1 (oAload 1 2) := w_aload_n (hm := mm193) dJ6_init_1
theorem n193_2 : Snd mt G 193 2 (oCall 2 (fI 191 2) 0 5 xOut) := s_callI (m' := 191) (n := 1) xsh_out (w_xok0 mm193) (w_cal mm193 mm191 pn_J5 (Nat.le_of_ble_eq_true rfl) (Nat.le_of_ble_eq_true rfl)) (fun h b as hn => w_run_I mm193 mm191 dJ6_init_2 rfl rfl q481 q482 q136 q483 pa191 hn)
theorem n193_5 : Snd mt G 193 5 (oRetV) := w_vret (hm := mm193) dJ6_init_5 rfl
theorem sj193 : ∀ pc, Snd mt G 193 pc (j193 pc) := fun pc => (snd_br ((snd_br ((snd_lf n193_5)) ((snd_lf n193_2)))) ((snd_br ((snd_lf n193_1)) ((snd_lf n193_0)))))
end
section
variable {G : AG}
theorem n194_0 : Snd mt G 194 0 (oAload 0 1) := w_aload_n (hm := mm194) dJ6_init_2_0
theorem n194_1 : Snd mt G 194 1 (oCall 1 (fI 192 1) 0 4 xOut) := s_callI (m' := 192) (n := 0) xsh_out (w_xok0 mm194) (w_cal mm194 mm192 pn_J5 (Nat.le_of_ble_eq_true rfl) (Nat.le_of_ble_eq_true rfl)) (fun h b as hn => w_run_I mm194 mm192 dJ6_init_2_1 rfl rfl q1187 q1188 q136 q1189 pa192 hn)
theorem n194_4 : Snd mt G 194 4 (oRetV) := w_vret (hm := mm194) dJ6_init_2_4 rfl
theorem sj194 : ∀ pc, Snd mt G 194 pc (j194 pc) := fun pc => (snd_br ((snd_br ((snd_lf n194_4)) ((snd_lf n194_1)))) ((snd_lf n194_0)))
end
section
variable {G : AG}
theorem n195_0 : Snd mt G 195 0 (oAload 0 1) := w_aload_n (hm := mm195) dJ7_init_0
theorem n195_1 : Snd mt G 195 1 (oObjI 4) := w_objI (hm := mm195) dJ7_init_1 (Nat.le_of_ble_eq_true rfl) q265 q189 q190
theorem n195_4 : Snd mt G 195 4 (oGets 0 7) := w_gets (hm := mm195) (j := 0) dJ7_init_4 sl_0 q266
theorem n195_7 : Snd mt G 195 7 (oIfEq 25 10) := w_if_eq (hm := mm195) dJ7_init_7 rfl
theorem n195_10 : Snd mt G 195 10 (oAload 0 11) := w_aload_n (hm := mm195) dJ7_init_10
theorem n195_11 : Snd mt G 195 11 (oIload 1 12) := w_iload_n (hm := mm195) dJ7_init_11
theorem n195_12 : Snd mt G 195 12 (oNewa 101 (.int 0) 14) := w_newa (hm := mm195) (kt := 1) dJ7_init_12 (Nat.le_of_ble_eq_true rfl) at_1 rfl (fun C q => nomatch q) (Nat.le_of_ble_eq_true rfl) q288
theorem n195_14 : Snd mt G 195 14 (oPutf [29] 0 (.array .byte) 17) := w_putf (hm := mm195) dJ7_init_14 (pok1 (k := 0) (T := TJ8) 28 (Nat.le_of_ble_eq_true rfl) vc_28 (Nat.le_of_ble_eq_true rfl) rfl pd_J8_0 q275)
theorem n195_17 : Snd mt G 195 17 (oAload 0 18) := w_aload_n (hm := mm195) dJ7_init_17
theorem n195_18 : Snd mt G 195 18 (oConst (.int 0) 19) := w_iconst (hm := mm195) dJ7_init_18 rfl
theorem n195_19 : Snd mt G 195 19 (oPutf [29] 1 .byte 22) := w_putf (hm := mm195) dJ7_init_19 (pok1 (k := 1) (T := TJ8) 28 (Nat.le_of_ble_eq_true rfl) vc_28 (Nat.le_of_ble_eq_true rfl) rfl pd_J8_1 q276)
theorem n195_22 : Snd mt G 195 22 (oGoto 38) := w_goto (hm := mm195) dJ7_init_22 rfl
theorem n195_25 : Snd mt G 195 25 (oAload 0 26) := w_aload_n (hm := mm195) dJ7_init_25
theorem n195_26 : Snd mt G 195 26 (oIload 1 27) := w_iload_n (hm := mm195) dJ7_init_26
theorem n195_27 : Snd mt G 195 27 (oCall 1 (fS 226 1) 0 30 xOut) := s_callS (m' := 226) (n := 1) xsh_out (w_xok0 mm195) (w_cal mm195 mm226 pn_J10 (Nat.le_of_ble_eq_true rfl) (Nat.le_of_ble_eq_true rfl)) (fun h as hn => w_run_S mm195 mm226 dJ7_init_27 q268 q269 q141 q270 pa226 hn)
theorem n195_30 : Snd mt G 195 30 (oPutf [29] 0 (.array .byte) 33) := w_putf (hm := mm195) dJ7_init_30 (pok1 (k := 0) (T := TJ8) 28 (Nat.le_of_ble_eq_true rfl) vc_28 (Nat.le_of_ble_eq_true rfl) rfl pd_J8_0 q275)
theorem n195_33 : Snd mt G 195 33 (oAload 0 34) := w_aload_n (hm := mm195) dJ7_init_33
theorem n195_34 : Snd mt G 195 34 (oConst (.int 1) 35) := w_iconst (hm := mm195) dJ7_init_34 rfl
theorem n195_35 : Snd mt G 195 35 (oPutf [29] 1 .byte 38) := w_putf (hm := mm195) dJ7_init_35 (pok1 (k := 1) (T := TJ8) 28 (Nat.le_of_ble_eq_true rfl) vc_28 (Nat.le_of_ble_eq_true rfl) rfl pd_J8_1 q276)
theorem n195_38 : Snd mt G 195 38 (oRetV) := w_vret (hm := mm195) dJ7_init_38 rfl
theorem sj195 : ∀ pc, Snd mt G 195 pc (j195 pc) := fun pc => (snd_br ((snd_br ((snd_br ((snd_br ((snd_br ((snd_lf n195_38)) ((snd_lf n195_35)))) ((snd_lf n195_34)))) ((snd_br ((snd_lf n195_33)) ((snd_lf n195_30)))))) ((snd_br ((snd_br ((snd_br ((snd_lf n195_27)) ((snd_lf n195_26)))) ((snd_lf n195_25)))) ((snd_br ((snd_lf n195_22)) ((snd_lf n195_19)))))))) ((snd_br ((snd_br ((snd_br ((snd_br ((snd_lf n195_18)) ((snd_lf n195_17)))) ((snd_lf n195_14)))) ((snd_br ((snd_lf n195_12)) ((snd_lf n195_11)))))) ((snd_br ((snd_br ((snd_br ((snd_lf n195_10)) ((snd_lf n195_7)))) ((snd_lf n195_4)))) ((snd_br ((snd_lf n195_1)) ((snd_lf n195_0)))))))))
end
section
variable {G : AG}
theorem n196_0 : Snd mt G 196 0 (oAload 1 1) := w_aload_n (hm := mm196) dJ7_append_0
theorem n196_1 : Snd mt G 196 1 (oIfNull 4 9) := w_ifnonnull (hm := mm196) dJ7_append_1 rfl
theorem n196_4 : Snd mt G 196 4 (oAload 0 5) := w_aload_n (hm := mm196) dJ7_append_4
theorem n196_5 : Snd mt G 196 5 (oCall 1 (fV [29] 197 3) 1 8 xOut) := s_callV (m' := 197) (n := 0) xsh_out (w_xok0 mm196) (w_cal mm196 mm197 pn_J7 (Nat.le_of_ble_eq_true rfl) (Nat.le_of_ble_eq_true rfl)) (fun h b as hc hn => w_run_UP (ci := 28) mm196 mm197 dJ7_append_5 (Or.inl (List.mem_singleton.mp hc)) (Nat.le_of_ble_eq_true rfl) vc_28 q339 rfl (List.mem_filter.mpr ⟨q298, rfl⟩) q297 q3182 q299 q138 q300 pa197 hn)
theorem n196_8 : Snd mt G 196 8 (oRetA) := w_aret (hm := mm196) dJ7_append_8 rfl (Or.inl ⟨_, rfl⟩)
theorem n196_9 : Snd mt G 196 9 (oAload 1 10) := w_aload_n (hm := mm196) dJ7_append_9
theorem n196_10 : Snd mt G 196 10 (oCall 1 (fV [30, 1030] 215 1) 0 13 xOut) := s_callV (m' := 215) (n := 0) xsh_out (w_xok0 mm196) (w_cal mm196 mm215 pn_J9 (Nat.le_of_ble_eq_true rfl) (Nat.le_of_ble_eq_true rfl)) (fun h b as hc hn => w_run_V (ci := 29) mm196 mm215 dJ7_append_10 ((List.mem_cons.mp hc).imp id (fun z => List.mem_singleton.mp z)) (Nat.le_of_ble_eq_true rfl) vc_29 rfl q367 q368 q369 q140 q370 pa215 hn)
theorem n196_13 : Snd mt G 196 13 (oIstore 2 14) := w_istore_n (hm := mm196) dJ7_append_13 (Nat.le_of_ble_eq_true rfl)
theorem n196_14 : Snd mt G 196 14 (oAload 0 15) := w_aload_n (hm := mm196) dJ7_append_14
theorem n196_15 : Snd mt G 196 15 (oAload 0 16) := w_aload_n (hm := mm196) dJ7_append_15
theorem n196_16 : Snd mt G 196 16 (oGetf [29] 3 19) := w_getf (hm := mm196) dJ7_append_16 (fok1 (k := 3) (T := TJ8) 28 (Nat.le_of_ble_eq_true rfl) vc_28 (Nat.le_of_ble_eq_true rfl) q278)
theorem n196_19 : Snd mt G 196 19 (oIload 2 20) := w_iload_n (hm := mm196) dJ7_append_19
theorem n196_20 : Snd mt G 196 20 (oBin (fun x y => x + y) 21) := w_iadd (hm := mm196) dJ7_append_20
theorem n196_21 : Snd mt G 196 21 (oCall 2 (fV [29] 198 3) 1 24 xOut) := s_callV (m' := 198) (n := 1) xsh_out (w_xok0 mm196) (w_cal mm196 mm198 pn_J7 (Nat.le_of_ble_eq_true rfl) (Nat.le_of_ble_eq_true rfl)) (fun h b as hc hn => w_run_UP (ci := 28) mm196 mm198 dJ7_append_21 (Or.inl (List.mem_singleton.mp hc)) (Nat.le_of_ble_eq_true rfl) vc_28 q339 rfl (List.mem_filter.mpr ⟨q302, rfl⟩) q301 q3183 q303 q138 q304 pa198 hn)
theorem n196_24 : Snd mt G 196 24 (oAload 0 25) := w_aload_n (hm := mm196) dJ7_append_24
theorem n196_25 : Snd mt G 196 25 (oAload 0 26) := w_aload_n (hm := mm196) dJ7_append_25
theorem n196_26 : Snd mt G 196 26 (oGetf [29] 3 29) := w_getf (hm := mm196) dJ7_append_26 (fok1 (k := 3) (T := TJ8) 28 (Nat.le_of_ble_eq_true rfl) vc_28 (Nat.le_of_ble_eq_true rfl) q278)
theorem n196_29 : Snd mt G 196 29 (oAload 1 30) := w_aload_n (hm := mm196) dJ7_append_29
theorem n196_30 : Snd mt G 196 30 (oCall 3 (fV [29] 201 3) 0 33 xOut) := s_callV (m' := 201) (n := 2) xsh_out (w_xok0 mm196) (w_cal mm196 mm201 pn_J7 (Nat.le_of_ble_eq_true rfl) (Nat.le_of_ble_eq_true rfl)) (fun h b as hc hn => w_run_UP (ci := 28) mm196 mm201 dJ7_append_30 (Or.inl (List.mem_singleton.mp hc)) (Nat.le_of_ble_eq_true rfl) vc_28 q339 rfl (List.mem_filter.mpr ⟨q377, rfl⟩) q376 q3185 q378 q138 q379 pa201 hn)
theorem n196_33 : Snd mt G 196 33 (oAload 0 34) := w_aload_n (hm := mm196) dJ7_append_33
theorem n196_34 : Snd mt G 196 34 (oDup 35) := w_dup (hm := mm196) dJ7_append_34
theorem n196_35 : Snd mt G 196 35 (oGetf [29] 3 38) := w_getf (hm := mm196) dJ7_append_35 (fok1 (k := 3) (T := TJ8) 28 (Nat.le_of_ble_eq_true rfl) vc_28 (Nat.le_of_ble_eq_true rfl) q278)
theorem n196_38 : Snd mt G 196 38 (oIload 2 39) := w_iload_n (hm := mm196) dJ7_append_38
theorem n196_39 : Snd mt G 196 39 (oBin (fun x y => x + y) 40) := w_iadd (hm := mm196) dJ7_append_39
theorem n196_40 : Snd mt G 196 40 (oPutf [29] 3 .int 43) := w_putf (hm := mm196) dJ7_append_40 (pok1 (k := 3) (T := TJ8) 28 (Nat.le_of_ble_eq_true rfl) vc_28 (Nat.le_of_ble_eq_true rfl) rfl pd_J8_3 q278)
theorem n196_43 : Snd mt G 196 43 (oAload 0 44) := w_aload_n (hm := mm196) dJ7_append_43
theorem n196_44 : Snd mt G 196 44 (oRetA) := w_aret (hm := mm196) dJ7_append_44 rfl (Or.inl ⟨_, rfl⟩)
theorem sj196 : ∀ pc, Snd mt G 196 pc (j196 pc) := fun pc => (snd_br ((snd_br ((snd_br ((snd_br ((snd_br ((snd_lf n196_44)) ((snd_lf n196_43)))) ((snd_br ((snd_lf n196_40)) ((snd_lf n196_39)))))) ((snd_br ((snd_br ((snd_lf n196_38)) ((snd_lf n196_35)))) ((snd_lf n196_34)))))) ((snd_br ((snd_br ((snd_br ((snd_lf n196_33)) ((snd_lf n196_30)))) ((snd_br ((snd_lf n196_29)) ((snd_lf n196_26)))))) ((snd_br ((snd_br ((snd_lf n196_25)) ((snd_lf n196_24)))) ((snd_lf n196_21)))))))) ((snd_br ((snd_br ((snd_br ((snd_br ((snd_lf n196_20)) ((snd_lf n196_19)))) ((snd_br ((snd_lf n196_16)) ((snd_lf n196_15)))))) ((snd_br ((snd_br ((snd_lf n196_14)) ((snd_lf n196_13)))) ((snd_lf n196_10)))))) ((snd_br ((snd_br ((snd_br ((snd_lf n196_9)) ((snd_lf n196_8)))) ((snd_lf n196_5)))) ((snd_br ((snd_br ((snd_lf n196_4)) ((snd_lf n196_1)))) ((snd_lf n196_0)))))))))
end
section
variable {G : AG}
theorem n197_0 : Snd mt G 197 0 (oAload 0 1) := w_aload_n (hm := mm197) dJ7_appendNull_0
theorem n197_1 : Snd mt G 197 1 (oAload 0 2) := w_aload_n (hm := mm197) dJ7_appendNull_1
theorem n197_2 : Snd mt G 197 2 (oGetf [29] 3 5) := w_getf (hm := mm197) dJ7_appendNull_2 (fok1 (k := 3) (T := TJ8) 28 (Nat.le_of_ble_eq_true rfl) vc_28 (Nat.le_of_ble_eq_true rfl) q278)
theorem n197_5 : Snd mt G 197 5 (oConst (.int 4) 6) := w_iconst (hm := mm197) dJ7_appendNull_5 rfl
theorem n197_6 : Snd mt G 197 6 (oBin (fun x y => x + y) 7) := w_iadd (hm := mm197) dJ7_appendNull_6
theorem n197_7 : Snd mt G 197 7 (oCall 2 (fV [29] 198 3) 1 10 xOut) := s_callV (m' := 198) (n := 1) xsh_out (w_xok0 mm197) (w_cal mm197 mm198 pn_J7 (Nat.le_of_ble_eq_true rfl) (Nat.le_of_ble_eq_true rfl)) (fun h b as hc hn => w_run_UP (ci := 28) mm197 mm198 dJ7_appendNull_7 (Or.inl (List.mem_singleton.mp hc)) (Nat.le_of_ble_eq_true rfl) vc_28 q339 rfl (List.mem_filter.mpr ⟨q302, rfl⟩) q301 q3183 q303 q138 q304 pa198 hn)
theorem n197_10 : Snd mt G 197 10 (oAload 0 11) := w_aload_n (hm := mm197) dJ7_appendNull_10
theorem n197_11 : Snd mt G 197 11 (oGetf [29] 3 14) := w_getf (hm := mm197) dJ7_appendNull_11 (fok1 (k := 3) (T := TJ8) 28 (Nat.le_of_ble_eq_true rfl) vc_28 (Nat.le_of_ble_eq_true rfl) q278)
theorem n197_14 : Snd mt G 197 14 (oIstore 1 15) := w_istore_n (hm := mm197) dJ7_appendNull_14 (Nat.le_of_ble_eq_true rfl)
theorem n197_15 : Snd mt G 197 15 (oAload 0 16) := w_aload_n (hm := mm197) dJ7_appendNull_15
theorem n197_16 : Snd mt G 197 16 (oGetf [29] 0 19) := w_getf (hm := mm197) dJ7_appendNull_16 (fok1 (k := 0) (T := TJ8) 28 (Nat.le_of_ble_eq_true rfl) vc_28 (Nat.le_of_ble_eq_true rfl) q275)
theorem n197_19 : Snd mt G 197 19 (oAstore 2 20) := w_astore_n (hm := mm197) dJ7_appendNull_19 (Nat.le_of_ble_eq_true rfl)
theorem n197_20 : Snd mt G 197 20 (oAload 0 21) := w_aload_n (hm := mm197) dJ7_appendNull_20
theorem n197_21 : Snd mt G 197 21 (oCall 1 (fP [(29, 200, 1)]) 0 24 xOut) := s_callP (n := 0) (len := 3) xsh_out (w_xok0 mm197) (List.forall_mem_cons.mpr ⟨(w_cal mm197 mm200 pn_J7 (Nat.le_of_ble_eq_true rfl) (Nat.le_of_ble_eq_true rfl)), (fun z hz => nomatch hz)⟩) (List.forall_mem_cons.mpr ⟨(fun h b as hc hn => w_run_U (owner := "java/lang/AbstractStringBuilder") (ci := 28) mm197 mm200 dJ7_appendNull_21 (Or.inl hc) (Nat.le_of_ble_eq_true rfl) vc_28 (Or.inl rfl) q336 q338 q337 q339 q138 q340 ⟨by decide, by decide, by decide +kernel⟩ hn), (fun z hz => nomatch hz)⟩)
theorem n197_24 : Snd mt G 197 24 (oIfEq 62 27) := w_if_eq (hm := mm197) dJ7_appendNull_24 rfl
theorem n197_27 : Snd mt G 197 27 (oAload 2 28) := w_aload_n (hm := mm197) dJ7_appendNull_27
theorem n197_28 : Snd mt G 197 28 (oIload 1 29) := w_iload_n (hm := mm197) dJ7_appendNull_28
theorem n197_29 : Snd mt G 197 29 (oIinc 1 1 32) := w_iinc (hm := mm197) dJ7_appendNull_29 rfl (Nat.le_of_ble_eq_true rfl)
theorem n197_32 : Snd mt G 197 32 (oConst (.int 110) 34) := w_bipush (hm := mm197) dJ7_appendNull_32 (by decide)
theorem n197_34 : Snd mt G 197 34 (oBast [101] 35) := w_bastore (hm := mm197) (kt := 1) dJ7_appendNull_34 at_1 (Nat.le_of_ble_eq_true rfl) (List.forall_mem_cons.mpr ⟨rfl, (fun t ht => nomatch ht)⟩)
theorem n197_35 : Snd mt G 197 35 (oAload 2 36) := w_aload_n (hm := mm197) dJ7_appendNull_35
theorem n197_36 : Snd mt G 197 36 (oIload 1 37) := w_iload_n (hm := mm197) dJ7_appendNull_36
theorem n197_37 : Snd mt G 197 37 (oIinc 1 1 40) := w_iinc (hm := mm197) dJ7_appendNull_37 rfl (Nat.le_of_ble_eq_true rfl)
theorem n197_40 : Snd mt G 197 40 (oConst (.int 117) 42) := w_bipush (hm := mm197) dJ7_appendNull_40 (by decide)
theorem n197_42 : Snd mt G 197 42 (oBast [101] 43) := w_bastore (hm := mm197) (kt := 1) dJ7_appendNull_42 at_1 (Nat.le_of_ble_eq_true rfl) (List.forall_mem_cons.mpr ⟨rfl, (fun t ht => nomatch ht)⟩)
theorem n197_43 : Snd mt G 197 43 (oAload 2 44) := w_aload_n (hm := mm197) dJ7_appendNull_43
theorem n197_44 : Snd mt G 197 44 (oIload 1 45) := w_iload_n (hm := mm197) dJ7_appendNull_44
theorem n197_45 : Snd mt G 197 45 (oIinc 1 1 48) := w_iinc (hm := mm197) dJ7_appendNull_45 rfl (Nat.le_of_ble_eq_true rfl)
theorem n197_48 : Snd mt G 197 48 (oConst (.int 108) 50) := w_bipush (hm := mm197) dJ7_appendNull_48 (by decide)
theorem n197_50 : Snd mt G 197 50 (oBast [101] 51) := w_bastore (hm := mm197) (kt := 1) dJ7_appendNull_50 at_1 (Nat.le_of_ble_eq_true rfl) (List.forall_mem_cons.mpr ⟨rfl, (fun t ht => nomatch ht)⟩)
theorem n197_51 : Snd mt G 197 51 (oAload 2 52) := w_aload_n (hm := mm197) dJ7_appendNull_51
theorem n197_52 : Snd mt G 197 52 (oIload 1 53) := w_iload_n (hm := mm197) dJ7_appendNull_52
theorem n197_53 : Snd mt G 197 53 (oIinc 1 1 56) := w_iinc (hm := mm197) dJ7_appendNull_53 rfl (Nat.le_of_ble_eq_true rfl)
theorem n197_56 : Snd mt G 197 56 (oConst (.int 108) 58) := w_bipush (hm := mm197) dJ7_appendNull_56 (by decide)
theorem n197_58 : Snd mt G 197 58 (oBast [101] 59) := w_bastore (hm := mm197) (kt := 1) dJ7_appendNull_58 at_1 (Nat.le_of_ble_eq_true rfl) (List.forall_mem_cons.mpr ⟨rfl, (fun t ht => nomatch ht)⟩)
theorem n197_59 : Snd mt G 197 59 (oGoto 76) := w_goto (hm := mm197) dJ7_appendNull_59 rfl
theorem n197_62 : Snd mt G 197 62 (oAload 2 63) := w_aload_n (hm := mm197) dJ7_appendNull_62
theorem n197_63 : Snd mt G 197 63 (oIload 1 64) := w_iload_n (hm := mm197) dJ7_appendNull_63
theorem n197_64 : Snd mt G 197 64 (oConst (.int 110) 66) := w_bipush (hm := mm197) dJ7_appendNull_64 (by decide)
theorem n197_66 : Snd mt G 197 66 (oConst (.int 117) 68) := w_bipush (hm := mm197) dJ7_appendNull_66 (by decide)
theorem n197_68 : Snd mt G 197 68 (oConst (.int 108) 70) := w_bipush (hm := mm197) dJ7_appendNull_68 (by decide)
theorem n197_70 : Snd mt G 197 70 (oConst (.int 108) 72) := w_bipush (hm := mm197) dJ7_appendNull_70 (by decide)
theorem n197_72 : Snd mt G 197 72 (oCall 6 (fS 228 7) 0 75 xOut) := s_callS (m' := 228) (n := 6) xsh_out (w_xok0 mm197) (w_cal mm197 mm228 pn_J10 (Nat.le_of_ble_eq_true rfl) (Nat.le_of_ble_eq_true rfl)) (fun h as hn => w_run_S mm197 mm228 dJ7_appendNull_72 q341 q342 q141 q343 pa228 hn)
theorem n197_75 : Snd mt G 197 75 (oIstore 1 76) := w_istore_n (hm := mm197) dJ7_appendNull_75 (Nat.le_of_ble_eq_true rfl)
theorem n197_76 : Snd mt G 197 76 (oAload 0 77) := w_aload_n (hm := mm197) dJ7_appendNull_76
theorem n197_77 : Snd mt G 197 77 (oIload 1 78) := w_iload_n (hm := mm197) dJ7_appendNull_77
theorem n197_78 : Snd mt G 197 78 (oPutf [29] 3 .int 81) := w_putf (hm := mm197) dJ7_appendNull_78 (pok1 (k := 3) (T := TJ8) 28 (Nat.le_of_ble_eq_true rfl) vc_28 (Nat.le_of_ble_eq_true rfl) rfl pd_J8_3 q278)
theorem n197_81 : Snd mt G 197 81 (oAload 0 82) := w_aload_n (hm := mm197) dJ7_appendNull_81
theorem n197_82 : Snd mt G 197 82 (oRetA) := w_aret (hm := mm197) dJ7_appendNull_82 rfl (Or.inl ⟨_, rfl⟩)
theorem sj197 : ∀ pc, Snd mt G 197 pc (j197 pc) := fun pc => (snd_br ((snd_br ((snd_br ((snd_br ((snd_br ((snd_br ((snd_lf n197_82)) ((snd_lf n197_81)))) ((snd_br ((snd_lf n197_78)) ((snd_lf n197_77)))))) ((snd_br ((snd_br ((snd_lf n197_76)) ((snd_lf n197_75)))) ((snd_lf n197_72)))))) ((snd_br ((snd_br ((snd_br ((snd_lf n197_70)) ((snd_lf n197_68)))) ((snd_lf n197_66)))) ((snd_br ((snd_br ((snd_lf n197_64)) ((snd_lf n197_63)))) ((snd_lf n197_62)))))))) ((snd_br ((snd_br ((snd_br ((snd_br ((snd_lf n197_59)) ((snd_lf n197_58)))) ((snd_lf n197_56)))) ((snd_br ((snd_br ((snd_lf n197_53)) ((snd_lf n197_52)))) ((snd_lf n197_51)))))) ((snd_br ((snd_br ((snd_br ((snd_lf n197_50)) ((snd_lf n197_48)))) ((snd_lf n197_45)))) ((snd_br ((snd_br ((snd_lf n197_44)) ((snd_lf n197_43)))) ((snd_lf n197_42)))))))))) ((snd_br ((snd_br ((snd_br ((snd_br ((snd_br ((snd_lf n197_40)) ((snd_lf n197_37)))) ((snd_lf n197_36)))) ((snd_br ((snd_br ((snd_lf n197_35)) ((snd_lf n197_34)))) ((snd_lf n197_32)))))) ((snd_br ((snd_br ((snd_br ((snd_lf n197_29)) ((snd_lf n197_28)))) ((snd_lf n197_27)))) ((snd_br ((snd_br ((snd_lf n197_24)) ((snd_lf n197_21)))) ((snd_lf n197_20)))))))) ((snd_br ((snd_br ((snd_br ((snd_br ((snd_lf n197_19)) ((snd_lf n197_16)))) ((snd_lf n197_15)))) ((snd_br ((snd_br ((snd_lf n197_14)) ((snd_lf n197_11)))) ((snd_lf n197_10)))))) ((snd_br ((snd_br ((snd_br ((snd_lf n197_7)) ((snd_lf n197_6)))) ((snd_lf n197_5)))) ((snd_br ((snd_br ((snd_lf n197_2)) ((snd_lf n197_1)))) ((snd_lf n197_0)))))))))))
end
section
variable {G : AG}
theorem n198_0 : Snd mt G 198 0 (oAload 0 1) := w_aload_n (hm := mm198) dJ7_ensureCapacityInternal_0
theorem n198_1 : Snd mt G 198 1 (oGetf [29] 0 4) := w_getf (hm := mm198) dJ7_ensureCapacityInternal_1 (fok1 (k := 0) (T := TJ8) 28 (Nat.le_of_ble_eq_true rfl) vc_28 (Nat.le_of_ble_eq_true rfl) q275)
theorem n198_4 : Snd mt G 198 4 (oAlen 5) := w_alen (hm := mm198) dJ7_ensureCapacityInternal_4
theorem n198_5 : Snd mt G 198 5 (oAload 0 6) := w_aload_n (hm := mm198) dJ7_ensureCapacityInternal_5
theorem n198_6 : Snd mt G 198 6 (oGetf [29] 1 9) := w_getf (hm := mm198) dJ7_ensureCapacityInternal_6 (fok1 (k := 1) (T := TJ8) 28 (Nat.le_of_ble_eq_true rfl) vc_28 (Nat.le_of_ble_eq_true rfl) q276)
theorem n198_9 : Snd mt G 198 9 (oBin (fun x y => x >>> (y &&& 31)) 10) := w_ishr (hm := mm198) dJ7_ensureCapacityInternal_9
theorem n198_10 : Snd mt G 198 10 (oIstore 2 11) := w_istore_n (hm := mm198) dJ7_ensureCapacityInternal_10 (Nat.le_of_ble_eq_true rfl)
theorem n198_11 : Snd mt G 198 11 (oIload 1 12) := w_iload_n (hm := mm198) dJ7_ensureCapacityInternal_11
theorem n198_12 : Snd mt G 198 12 (oIload 2 13) := w_iload_n (hm := mm198) dJ7_ensureCapacityInternal_12
theorem n198_13 : Snd mt G 198 13 (oBin (fun x y => x - y) 14) := w_isub (hm := mm198) dJ7_ensureCapacityInternal_13
theorem n198_14 : Snd mt G 198 14 (oIfLe 38 17) := w_if_le (hm := mm198) dJ7_ensureCapacityInternal_14 rfl
theorem n198_17 : Snd mt G 198 17 (oAload 0 18) := w_aload_n (hm := mm198) dJ7_ensureCapacityInternal_17
theorem n198_18 : Snd mt G 198 18 (oAload 0 19) := w_aload_n (hm := mm198) dJ7_ensureCapacityInternal_18
theorem n198_19 : Snd mt G 198 19 (oGetf [29] 0 22) := w_getf (hm := mm198) dJ7_ensureCapacityInternal_19 (fok1 (k := 0) (T := TJ8) 28 (Nat.le_of_ble_eq_true rfl) vc_28 (Nat.le_of_ble_eq_true rfl) q275)
theorem n198_22 : Snd mt G 198 22 (oAload 0 23) := w_aload_n (hm := mm198) dJ7_ensureCapacityInternal_22
theorem n198_23 : Snd mt G 198 23 (oIload 1 24) := w_iload_n (hm := mm198) dJ7_ensureCapacityInternal_23
theorem n198_24 : Snd mt G 198 24 (oCall 2 (fV [29] 199 6) 1 27 xOut) := s_callV (m' := 199) (n := 1) xsh_out (w_xok0 mm198) (w_cal mm198 mm199 pn_J7 (Nat.le_of_ble_eq_true rfl) (Nat.le_of_ble_eq_true rfl)) (fun h b as hc hn => w_run_UP (ci := 28) mm198 mm199 dJ7_ensureCapacityInternal_24 (Or.inl (List.mem_singleton.mp hc)) (Nat.le_of_ble_eq_true rfl) vc_28 q339 rfl (List.mem_filter.mpr ⟨q306, rfl⟩) q305 q3184 q307 q138 q308 pa199 hn)
theorem n198_27 : Snd mt G 198 27 (oAload 0 28) := w_aload_n (hm := mm198) dJ7_ensureCapacityInternal_27
theorem n198_28 : Snd mt G 198 28 (oGetf [29] 1 31) := w_getf (hm := mm198) dJ7_ensureCapacityInternal_28 (fok1 (k := 1) (T := TJ8) 28 (Nat.le_of_ble_eq_true rfl) vc_28 (Nat.le_of_ble_eq_true rfl) q276)
theorem n198_31 : Snd mt G 198 31 (oBin (fun x y => x <<< (y &&& 31)) 32) := w_ishl (hm := mm198) dJ7_ensureCapacityInternal_31
theorem n198_32 : Snd mt G 198 32 (oCall 2 (fS 257 3) 0 35 xOut) := s_callS (m' := 257) (n := 2) xsh_out (w_xok0 mm198) (w_cal mm198 mm257 pn_J13 (Nat.le_of_ble_eq_true rfl) (Nat.le_of_ble_eq_true rfl)) (fun h as hn => w_run_S mm198 mm257 dJ7_ensureCapacityInternal_32 q320 q321 q144 q322 pa257 hn)
theorem n198_35 : Snd mt G 198 35 (oPutf [29] 0 (.array .byte) 38) := w_putf (hm := mm198) dJ7_ensureCapacityInternal_35 (pok1 (k := 0) (T := TJ8) 28 (Nat.le_of_ble_eq_true rfl) vc_28 (Nat.le_of_ble_eq_true rfl) rfl pd_J8_0 q275)
theorem n198_38 : Snd mt G 198 38 (oRetV) := w_vret (hm := mm198) dJ7_ensureCapacityInternal_38 rfl
theorem sj198 : ∀ pc, Snd mt G 198 pc (j198 pc) := fun pc => (snd_br ((snd_br ((snd_br ((snd_br ((snd_br ((snd_lf n198_38)) ((snd_lf n198_35)))) ((snd_lf n198_32)))) ((snd_br ((snd_br ((snd_lf n198_31)) ((snd_lf n198_28)))) ((snd_lf n198_27)))))) ((snd_br ((snd_br ((snd_br ((snd_lf n198_24)) ((snd_lf n198_23)))) ((snd_lf n198_22)))) ((snd_br ((snd_br ((snd_lf n198_19)) ((snd_lf n198_18)))) ((snd_lf n198_17)))))))) ((snd_br ((snd_br ((snd_br ((snd_br ((snd_lf n198_14)) ((snd_lf n198_13)))) ((snd_lf n198_12)))) ((snd_br ((snd_br ((snd_lf n198_11)) ((snd_lf n198_10)))) ((snd_lf n198_9)))))) ((snd_br ((snd_br ((snd_br ((snd_lf n198_6)) ((snd_lf n198_5)))) ((snd_lf n198_4)))) ((snd_br ((snd_lf n198_1)) ((snd_lf n198_0)))))))))
end
section
variable {G : AG}
theorem n199_0 : Snd mt G 199 0 (oAload 0 1) := w_aload_n (hm := mm199) dJ7_newCapacity_0
theorem n199_1 : Snd mt G 199 1 (oGetf [29] 0 4) := w_getf (hm := mm199) dJ7_newCapacity_1 (fok1 (k := 0) (T := TJ8) 28 (Nat.le_of_ble_eq_true rfl) vc_28 (Nat.le_of_ble_eq_true rfl) q275)
theorem n199_4 : Snd mt G 199 4 (oAlen 5) := w_alen (hm := mm199) dJ7_newCapacity_4
theorem n199_5 : Snd mt G 199 5 (oIstore 2 6) := w_istore_n (hm := mm199) dJ7_newCapacity_5 (Nat.le_of_ble_eq_true rfl)
theorem n199_6 : Snd mt G 199 6 (oIload 1 7) := w_iload_n (hm := mm199) dJ7_newCapacity_6
theorem n199_7 : Snd mt G 199 7 (oAload 0 8) := w_aload_n (hm := mm199) dJ7_newCapacity_7
theorem n199_8 : Snd mt G 199 8 (oGetf [29] 1 11) := w_getf (hm := mm199) dJ7_newCapacity_8 (fok1 (k := 1) (T := TJ8) 28 (Nat.le_of_ble_eq_true rfl) vc_28 (Nat.le_of_ble_eq_true rfl) q276)
theorem n199_11 : Snd mt G 199 11 (oBin (fun x y => x <<< (y &&& 31)) 12) := w_ishl (hm := mm199) dJ7_newCapacity_11
theorem n199_12 : Snd mt G 199 12 (oIstore 3 13) := w_istore_n (hm := mm199) dJ7_newCapacity_12 (Nat.le_of_ble_eq_true rfl)
theorem n199_13 : Snd mt G 199 13 (oIload 3 14) := w_iload_n (hm := mm199) dJ7_newCapacity_13
theorem n199_14 : Snd mt G 199 14 (oIload 2 15) := w_iload_n (hm := mm199) dJ7_newCapacity_14
theorem n199_15 : Snd mt G 199 15 (oBin (fun x y => x - y) 16) := w_isub (hm := mm199) dJ7_newCapacity_15
theorem n199_16 : Snd mt G 199 16 (oIstore 4 18) := w_istore (hm := mm199) dJ7_newCapacity_16 (Nat.le_of_ble_eq_true rfl)
theorem n199_18 : Snd mt G 199 18 (oIload 2 19) := w_iload_n (hm := mm199) dJ7_newCapacity_18
theorem n199_19 : Snd mt G 199 19 (oIload 4 21) := w_iload (hm := mm199) dJ7_newCapacity_19
theorem n199_21 : Snd mt G 199 21 (oIload 2 22) := w_iload_n (hm := mm199) dJ7_newCapacity_21
theorem n199_22 : Snd mt G 199 22 (oConst (.int 2) 23) := w_iconst (hm := mm199) dJ7_newCapacity_22 rfl
theorem n199_23 : Snd mt G 199 23 (oAload 0 24) := w_aload_n (hm := mm199) dJ7_newCapacity_23
theorem n199_24 : Snd mt G 199 24 (oGetf [29] 1 27) := w_getf (hm := mm199) dJ7_newCapacity_24 (fok1 (k := 1) (T := TJ8) 28 (Nat.le_of_ble_eq_true rfl) vc_28 (Nat.le_of_ble_eq_true rfl) q276)
theorem n199_27 : Snd mt G 199 27 (oBin (fun x y => x <<< (y &&& 31)) 28) := w_ishl (hm := mm199) dJ7_newCapacity_27
theorem n199_28 : Snd mt G 199 28 (oBin (fun x y => x + y) 29) := w_iadd (hm := mm199) dJ7_newCapacity_28
theorem n199_29 : Snd mt G 199 29 (oCall 3 (fS 244 4) 1 32 xOut) := s_callS (m' := 244) (n := 3) xsh_out (w_xok0 mm199) (w_cal mm199 mm244 pn_J11 (Nat.le_of_ble_eq_true rfl) (Nat.le_of_ble_eq_true rfl)) (fun h as hn => w_run_S mm199 mm244 dJ7_newCapacity_29 q309 q310 q142 q311 pa244 hn)
theorem n199_32 : Snd mt G 199 32 (oIstore 5 34) := w_istore (hm := mm199) dJ7_newCapacity_32 (Nat.le_of_ble_eq_true rfl)
theorem n199_34 : Snd mt G 199 34 (oIload 5 36) := w_iload (hm := mm199) dJ7_newCapacity_34
theorem n199_36 : Snd mt G 199 36 (oConst (.int 2147483647) 38) := w_ldc (hm := mm199) dJ7_newCapacity_36 q319
theorem n199_38 : Snd mt G 199 38 (oCmpEq 41 51) := w_icmp_ne (hm := mm199) dJ7_newCapacity_38 rfl
theorem n199_41 : Snd mt G 199 41 (fun _ _ _ _ => stuck) := snd_stuck
theorem n199_44 : Snd mt G 199 44 (oDup 45) := w_dup (hm := mm199) dJ7_newCapacity_44
theorem n199_45 : Snd mt G 199 45 (fun _ _ _ _ => stuck) := snd_stuck
theorem n199_47 : Snd mt G 199 47 (fun _ _ _ _ => stuck) := snd_stuck
theorem n199_50 : Snd mt G 199 50 (oThrow [7]) := w_throw (hm := mm199) dJ7_newCapacity_50 (List.forall_mem_cons.mpr ⟨⟨6, _, rfl, (Nat.le_of_ble_eq_true rfl), vc_6⟩, (fun t ht => nomatch ht)⟩) rfl
theorem n199_51 : Snd mt G 199 51 (oIload 5 53) := w_iload (hm := mm199) dJ7_newCapacity_51
theorem n199_53 : Snd mt G 199 53 (oAload 0 54) := w_aload_n (hm := mm199) dJ7_newCapacity_53
theorem n199_54 : Snd mt G 199 54 (oGetf [29] 1 57) := w_getf (hm := mm199) dJ7_newCapacity_54 (fok1 (k := 1) (T := TJ8) 28 (Nat.le_of_ble_eq_true rfl) vc_28 (Nat.le_of_ble_eq_true rfl) q276)
theorem n199_57 : Snd mt G 199 57 (oBin (fun x y => x >>> (y &&& 31)) 58) := w_ishr (hm := mm199) dJ7_newCapacity_57
theorem n199_58 : Snd mt G 199 58 (oRetI .int) := w_iret (hm := mm199) dJ7_newCapacity_58 rfl
theorem sj199 : ∀ pc, Snd mt G 199 pc (j199 pc) := fun pc => (snd_br ((snd_br ((snd_br ((snd_br ((snd_br ((snd_br ((snd_lf n199_58)) ((snd_lf n199_57)))) ((snd_lf n199_54)))) ((snd_br ((snd_lf n199_53)) ((snd_lf n199_51)))))) ((snd_br ((snd_br ((snd_lf n199_50)) ((snd_lf n199_47)))) ((snd_br ((snd_lf n199_45)) ((snd_lf n199_44)))))))) ((snd_br ((snd_br ((snd_br ((snd_br ((snd_lf n199_41)) ((snd_lf n199_38)))) ((snd_lf n199_36)))) ((snd_br ((snd_lf n199_34)) ((snd_lf n199_32)))))) ((snd_br ((snd_br ((snd_lf n199_29)) ((snd_lf n199_28)))) ((snd_br ((snd_lf n199_27)) ((snd_lf n199_24)))))))))) ((snd_br ((snd_br ((snd_br ((snd_br ((snd_br ((snd_lf n199_23)) ((snd_lf n199_22)))) ((snd_lf n199_21)))) ((snd_br ((snd_lf n199_19)) ((snd_lf n199_18)))))) ((snd_br ((snd_br ((snd_lf n199_16)) ((snd_lf n199_15)))) ((snd_br ((snd_lf n199_14)) ((snd_lf n199_13)))))))) ((snd_br ((snd_br ((snd_br ((snd_br ((snd_lf n199_12)) ((snd_lf n199_11)))) ((snd_lf n199_8)))) ((snd_br ((snd_lf n199_7)) ((snd_lf n199_6)))))) ((snd_br ((snd_br ((snd_lf n199_5)) ((snd_lf n199_4)))) ((snd_br ((snd_lf n199_1)) ((snd_lf n199_0)))))))))))
end
section
variable {G : AG}
theorem n200_0 : Snd mt G 200 0 (oGets 0 3) := w_gets (hm := mm200) (j := 0) dJ7_isLatin1_0 sl_0 q266
theorem n200_3 : Snd mt G 200 3 (oIfEq 17 6) := w_if_eq (hm := mm200) dJ7_isLatin1_3 rfl
theorem n200_6 : Snd mt G 200 6 (oAload 0 7) := w_aload_n (hm := mm200) dJ7_isLatin1_6
theorem n200_7 : Snd mt G 200 7 (oGetf [29] 1 10) := w_getf (hm := mm200) dJ7_isLatin1_7 (fok1 (k := 1) (T := TJ8) 28 (Nat.le_of_ble_eq_true rfl) vc_28 (Nat.le_of_ble_eq_true rfl) q276)
theorem n200_10 : Snd mt G 200 10 (oIfEq 13 17) := w_if_ne (hm := mm200) dJ7_isLatin1_10 rfl
theorem n200_13 : Snd mt G 200 13 (oConst (.int 1) 14) := w_iconst (hm := mm200) dJ7_isLatin1_13 rfl
theorem n200_14 : Snd mt G 200 14 (oGoto 18) := w_goto (hm := mm200) dJ7_isLatin1_14 rfl
theorem n200_17 : Snd mt G 200 17 (oConst (.int 0) 18) := w_iconst (hm := mm200) dJ7_isLatin1_17 rfl
theorem n200_18 : Snd mt G 200 18 (oRetI .boolean) := w_zret (hm := mm200) dJ7_isLatin1_18 rfl
theorem sj200 : ∀ pc, Snd mt G 200 pc (j200 pc) := fun pc => (snd_br ((snd_br ((snd_br ((snd_br ((snd_lf n200_18)) ((snd_lf n200_17)))) ((snd_lf n200_14)))) ((snd_br ((snd_lf n200_13)) ((snd_lf n200_10)))))) ((snd_br ((snd_br ((snd_lf n200_7)) ((snd_lf n200_6)))) ((snd_br ((snd_lf n200_3)) ((snd_lf n200_0)))))))
end
section
variable {G : AG}
theorem n201_0 : Snd mt G 201 0 (oAload 0 1) := w_aload_n (hm := mm201) dJ7_putStringAt_0
theorem n201_1 : Snd mt G 201 1 (oAload 2 2) := w_aload_n (hm := mm201) dJ7_putStringAt_1
theorem n201_2 : Snd mt G 201 2 (oCall 2 (fV [29] 202 2) 0 5 xOut) := s_callV (m' := 202) (n := 1) xsh_out (w_xok0 mm201) (w_cal mm201 mm202 pn_J7 (Nat.le_of_ble_eq_true rfl) (Nat.le_of_ble_eq_true rfl)) (fun h b as hc hn => w_run_UP (ci := 28) mm201 mm202 dJ7_putStringAt_2 (Or.inl (List.mem_singleton.mp hc)) (Nat.le_of_ble_eq_true rfl) vc_28 q339 rfl (List.mem_filter.mpr ⟨q381, rfl⟩) q380 q3186 q382 q138 q383 pa202 hn)
theorem n201_5 : Snd mt G 201 5 (oAload 2 6) := w_aload_n (hm := mm201) dJ7_putStringAt_5
theorem n201_6 : Snd mt G 201 6 (oAload 0 7) := w_aload_n (hm := mm201) dJ7_putStringAt_6
theorem n201_7 : Snd mt G 201 7 (oGetf [29] 0 10) := w_getf (hm := mm201) dJ7_putStringAt_7 (fok1 (k := 0) (T := TJ8) 28 (Nat.le_of_ble_eq_true rfl) vc_28 (Nat.le_of_ble_eq_true rfl) q275)
theorem n201_10 : Snd mt G 201 10 (oIload 1 11) := w_iload_n (hm := mm201) dJ7_putStringAt_10
theorem n201_11 : Snd mt G 201 11 (oAload 0 12) := w_aload_n (hm := mm201) dJ7_putStringAt_11
theorem n201_12 : Snd mt G 201 12 (oGetf [29] 1 15) := w_getf (hm := mm201) dJ7_putStringAt_12 (fok1 (k := 1) (T := TJ8) 28 (Nat.le_of_ble_eq_true rfl) vc_28 (Nat.le_of_ble_eq_true rfl) q276)
theorem n201_15 : Snd mt G 201 15 (oCall 4 (fV [30, 1030] 218 4) 0 18 xOut) := s_callV (m' := 218) (n := 3) xsh_out (w_xok0 mm201) (w_cal mm201 mm218 pn_J9 (Nat.le_of_ble_eq_true rfl) (Nat.le_of_ble_eq_true rfl)) (fun h b as hc hn => w_run_V (ci := 29) mm201 mm218 dJ7_putStringAt_15 ((List.mem_cons.mp hc).imp id (fun z => List.mem_singleton.mp z)) (Nat.le_of_ble_eq_true rfl) vc_29 rfl q404 q405 q406 q140 q407 pa218 hn)
theorem n201_18 : Snd mt G 201 18 (oRetV) := w_vret (hm := mm201) dJ7_putStringAt_18 rfl
theorem sj201 : ∀ pc, Snd mt G 201 pc (j201 pc) := fun pc => (snd_br ((snd_br ((snd_br ((snd_br ((snd_lf n201_18)) ((snd_lf n201_15)))) ((snd_lf n201_12)))) ((snd_br ((snd_br ((snd_lf n201_11)) ((snd_lf n201_10)))) ((snd_lf n201_7)))))) ((snd_br ((snd_br ((snd_br ((snd_lf n201_6)) ((snd_lf n201_5)))) ((snd_lf n201_2)))) ((snd_br ((snd_lf n201_1)) ((snd_lf n201_0)))))))
end
section
variable {G : AG}
theorem n202_0 : Snd mt G 202 0 (oGets 0 3) := w_gets (hm := mm202) (j := 0) dJ7_inflateIfNeededFor_0 sl_0 q266
theorem n202_3 : Snd mt G 202 3 (oIfEq 21 6) := w_if_eq (hm := mm202) dJ7_inflateIfNeededFor_3 rfl
theorem n202_6 : Snd mt G 202 6 (oAload 0 7) := w_aload_n (hm := mm202) dJ7_inflateIfNeededFor_6
theorem n202_7 : Snd mt G 202 7 (oGetf [29] 1 10) := w_getf (hm := mm202) dJ7_inflateIfNeededFor_7 (fok1 (k := 1) (T := TJ8) 28 (Nat.le_of_ble_eq_true rfl) vc_28 (Nat.le_of_ble_eq_true rfl) q276)
theorem n202_10 : Snd mt G 202 10 (oAload 1 11) := w_aload_n (hm := mm202) dJ7_inflateIfNeededFor_10
theorem n202_11 : Snd mt G 202 11 (oCall 1 (fV [30, 1030] 216 1) 0 14 xOut) := s_callV (m' := 216) (n := 0) xsh_out (w_xok0 mm202) (w_cal mm202 mm216 pn_J9 (Nat.le_of_ble_eq_true rfl) (Nat.le_of_ble_eq_true rfl)) (fun h b as hc hn => w_run_V (ci := 29) mm202 mm216 dJ7_inflateIfNeededFor_11 ((List.mem_cons.mp hc).imp id (fun z => List.mem_singleton.mp z)) (Nat.le_of_ble_eq_true rfl) vc_29 rfl q384 q372 q373 q140 q374 pa216 hn)
theorem n202_14 : Snd mt G 202 14 (oCmpEq 21 17) := w_icmp_eq (hm := mm202) dJ7_inflateIfNeededFor_14 rfl
theorem n202_17 : Snd mt G 202 17 (oAload 0 18) := w_aload_n (hm := mm202) dJ7_inflateIfNeededFor_17
theorem n202_18 : Snd mt G 202 18 (oCall 1 (fV [29] 203 2) 0 21 xOut) := s_callV (m' := 203) (n := 0) xsh_out (w_xok0 mm202) (w_cal mm202 mm203 pn_J7 (Nat.le_of_ble_eq_true rfl) (Nat.le_of_ble_eq_true rfl)) (fun h b as hc hn => w_run_UP (ci := 28) mm202 mm203 dJ7_inflateIfNeededFor_18 (Or.inl (List.mem_singleton.mp hc)) (Nat.le_of_ble_eq_true rfl) vc_28 q339 rfl (List.mem_filter.mpr ⟨q386, rfl⟩) q385 q3187 q387 q138 q388 pa203 hn)
theorem n202_21 : Snd mt G 202 21 (oRetV) := w_vret (hm := mm202) dJ7_inflateIfNeededFor_21 rfl
theorem sj202 : ∀ pc, Snd mt G 202 pc (j202 pc) := fun pc => (snd_br ((snd_br ((snd_br ((snd_br ((snd_lf n202_21)) ((snd_lf n202_18)))) ((snd_lf n202_17)))) ((snd_br ((snd_lf n202_14)) ((snd_lf n202_11)))))) ((snd_br ((snd_br ((snd_br ((snd_lf n202_10)) ((snd_lf n202_7)))) ((snd_lf n202_6)))) ((snd_br ((snd_lf n202_3)) ((snd_lf n202_0)))))))
end
section
variable {G : AG}
theorem n203_0 : Snd mt G 203 0 (oAload 0 1) := w_aload_n (hm := mm203) dJ7_inflate_0
theorem n203_1 : Snd mt G 203 1 (oCall 1 (fP [(29, 200, 1)]) 0 4 xOut) := s_callP (n := 0) (len := 3) xsh_out (w_xok0 mm203) (List.forall_mem_cons.mpr ⟨(w_cal mm203 mm200 pn_J7 (Nat.le_of_ble_eq_true rfl) (Nat.le_of_ble_eq_true rfl)), (fun z hz => nomatch hz)⟩) (List.forall_mem_cons.mpr ⟨(fun h b as hc hn => w_run_U (owner := "java/lang/AbstractStringBuilder") (ci := 28) mm203 mm200 dJ7_inflate_1 (Or.inl hc) (Nat.le_of_ble_eq_true rfl) vc_28 (Or.inl rfl) q336 q338 q337 q339 q138 q340 ⟨by decide, by decide, by decide +kernel⟩ hn), (fun z hz => nomatch hz)⟩)
theorem n203_4 : Snd mt G 203 4 (oIfEq 7 8) := w_if_ne (hm := mm203) dJ7_inflate_4 rfl
theorem n203_7 : Snd mt G 203 7 (oRetV) := w_vret (hm := mm203) dJ7_inflate_7 rfl
theorem n203_8 : Snd mt G 203 8 (oAload 0 9) := w_aload_n (hm := mm203) dJ7_inflate_8
theorem n203_9 : Snd mt G 203 9 (oGetf [29] 0 12) := w_getf (hm := mm203) dJ7_inflate_9 (fok1 (k := 0) (T := TJ8) 28 (Nat.le_of_ble_eq_true rfl) vc_28 (Nat.le_of_ble_eq_true rfl) q275)
theorem n203_12 : Snd mt G 203 12 (oAlen 13) := w_alen (hm := mm203) dJ7_inflate_12
theorem n203_13 : Snd mt G 203 13 (oCall 1 (fS 226 1) 0 16 xOut) := s_callS (m' := 226) (n := 1) xsh_out (w_xok0 mm203) (w_cal mm203 mm226 pn_J10 (Nat.le_of_ble_eq_true rfl) (Nat.le_of_ble_eq_true rfl)) (fun h as hn => w_run_S mm203 mm226 dJ7_inflate_13 q268 q269 q141 q270 pa226 hn)
theorem n203_16 : Snd mt G 203 16 (oAstore 1 17) := w_astore_n (hm := mm203) dJ7_inflate_16 (Nat.le_of_ble_eq_true rfl)
theorem n203_17 : Snd mt G 203 17 (oAload 0 18) := w_aload_n (hm := mm203) dJ7_inflate_17
theorem n203_18 : Snd mt G 203 18 (oGetf [29] 0 21) := w_getf (hm := mm203) dJ7_inflate_18 (fok1 (k := 0) (T := TJ8) 28 (Nat.le_of_ble_eq_true rfl) vc_28 (Nat.le_of_ble_eq_true rfl) q275)
theorem n203_21 : Snd mt G 203 21 (oConst (.int 0) 22) := w_iconst (hm := mm203) dJ7_inflate_21 rfl
theorem n203_22 : Snd mt G 203 22 (oAload 1 23) := w_aload_n (hm := mm203) dJ7_inflate_22
theorem n203_23 : Snd mt G 203 23 (oConst (.int 0) 24) := w_iconst (hm := mm203) dJ7_inflate_23 rfl
theorem n203_24 : Snd mt G 203 24 (oAload 0 25) := w_aload_n (hm := mm203) dJ7_inflate_24
theorem n203_25 : Snd mt G 203 25 (oGetf [29] 3 28) := w_getf (hm := mm203) dJ7_inflate_25 (fok1 (k := 3) (T := TJ8) 28 (Nat.le_of_ble_eq_true rfl) vc_28 (Nat.le_of_ble_eq_true rfl) q278)
theorem n203_28 : Snd mt G 203 28 (oCall 5 (fS 266 5) 0 31 xOut) := s_callS (m' := 266) (n := 5) xsh_out (w_xok0 mm203) (w_cal mm203 mm266 pn_J15 (Nat.le_of_ble_eq_true rfl) (Nat.le_of_ble_eq_true rfl)) (fun h as hn => w_run_S mm203 mm266 dJ7_inflate_28 q389 q390 q147 q391 pa266 hn)
theorem n203_31 : Snd mt G 203 31 (oAload 0 32) := w_aload_n (hm := mm203) dJ7_inflate_31
theorem n203_32 : Snd mt G 203 32 (oAload 1 33) := w_aload_n (hm := mm203) dJ7_inflate_32
theorem n203_33 : Snd mt G 203 33 (oPutf [29] 0 (.array .byte) 36) := w_putf (hm := mm203) dJ7_inflate_33 (pok1 (k := 0) (T := TJ8) 28 (Nat.le_of_ble_eq_true rfl) vc_28 (Nat.le_of_ble_eq_true rfl) rfl pd_J8_0 q275)
theorem n203_36 : Snd mt G 203 36 (oAload 0 37) := w_aload_n (hm := mm203) dJ7_inflate_36
theorem n203_37 : Snd mt G 203 37 (oConst (.int 1) 38) := w_iconst (hm := mm203) dJ7_inflate_37 rfl
theorem n203_38 : Snd mt G 203 38 (oPutf [29] 1 .byte 41) := w_putf (hm := mm203) dJ7_inflate_38 (pok1 (k := 1) (T := TJ8) 28 (Nat.le_of_ble_eq_true rfl) vc_28 (Nat.le_of_ble_eq_true rfl) rfl pd_J8_1 q276)
theorem n203_41 : Snd mt G 203 41 (oRetV) := w_vret (hm := mm203) dJ7_inflate_41 rfl
theorem sj203 : ∀ pc, Snd mt G 203 pc (j203 pc) := fun pc => (snd_br ((snd_br ((snd_br ((snd_br ((snd_br ((snd_lf n203_41)) ((snd_lf n203_38)))) ((snd_lf n203_37)))) ((snd_br ((snd_br ((snd_lf n203_36)) ((snd_lf n203_33)))) ((snd_lf n203_32)))))) ((snd_br ((snd_br ((snd_br ((snd_lf n203_31)) ((snd_lf n203_28)))) ((snd_lf n203_25)))) ((snd_br ((snd_br ((snd_lf n203_24)) ((snd_lf n203_23)))) ((snd_lf n203_22)))))))) ((snd_br ((snd_br ((snd_br ((snd_br ((snd_lf n203_21)) ((snd_lf n203_18)))) ((snd_lf n203_17)))) ((snd_br ((snd_br ((snd_lf n203_16)) ((snd_lf n203_13)))) ((snd_lf n203_12)))))) ((snd_br ((snd_br ((snd_br ((snd_lf n203_9)) ((snd_lf n203_8)))) ((snd_lf n203_7)))) ((snd_br ((snd_br ((snd_lf n203_4)) ((snd_lf n203_1)))) ((snd_lf n203_0)))))))))
end
section
variable {G : AG}
theorem n204_0 : Snd mt G 204 0 (oAload 0 1) := w_aload_n (hm := mm204) dJ7_append_2_0
theorem n204_1 : Snd mt G 204 1 (oGetf [29] 3 4) := w_getf (hm := mm204) dJ7_append_2_1 (fok1 (k := 3) (T := TJ8) 28 (Nat.le_of_ble_eq_true rfl) vc_28 (Nat.le_of_ble_eq_true rfl) q278)
theorem n204_4 : Snd mt G 204 4 (oIstore 2 5) := w_istore_n (hm := mm204) dJ7_append_2_4 (Nat.le_of_ble_eq_true rfl)
theorem n204_5 : Snd mt G 204 5 (oIload 2 6) := w_iload_n (hm := mm204) dJ7_append_2_5
theorem n204_6 : Snd mt G 204 6 (oIload 1 7) := w_iload_n (hm := mm204) dJ7_append_2_6
theorem n204_7 : Snd mt G 204 7 (oCall 1 (fS 272 4) 0 10 xOut) := s_callS (m' := 272) (n := 1) xsh_out (w_xok0 mm204) (w_cal mm204 mm272 pn_J17 (Nat.le_of_ble_eq_true rfl) (Nat.le_of_ble_eq_true rfl)) (fun h as hn => w_run_S mm204 mm272 dJ7_append_2_7 q417 q418 q149 q419 pa272 hn)
theorem n204_10 : Snd mt G 204 10 (oBin (fun x y => x + y) 11) := w_iadd (hm := mm204) dJ7_append_2_10
theorem n204_11 : Snd mt G 204 11 (oIstore 3 12) := w_istore_n (hm := mm204) dJ7_append_2_11 (Nat.le_of_ble_eq_true rfl)
theorem n204_12 : Snd mt G 204 12 (oAload 0 13) := w_aload_n (hm := mm204) dJ7_append_2_12
theorem n204_13 : Snd mt G 204 13 (oIload 3 14) := w_iload_n (hm := mm204) dJ7_append_2_13
theorem n204_14 : Snd mt G 204 14 (oCall 2 (fV [29] 198 3) 1 17 xOut) := s_callV (m' := 198) (n := 1) xsh_out (w_xok0 mm204) (w_cal mm204 mm198 pn_J7 (Nat.le_of_ble_eq_true rfl) (Nat.le_of_ble_eq_true rfl)) (fun h b as hc hn => w_run_UP (ci := 28) mm204 mm198 dJ7_append_2_14 (Or.inl (List.mem_singleton.mp hc)) (Nat.le_of_ble_eq_true rfl) vc_28 q339 rfl (List.mem_filter.mpr ⟨q302, rfl⟩) q301 q3183 q303 q138 q304 pa198 hn)
theorem n204_17 : Snd mt G 204 17 (oAload 0 18) := w_aload_n (hm := mm204) dJ7_append_2_17
theorem n204_18 : Snd mt G 204 18 (oCall 1 (fP [(29, 200, 1)]) 0 21 xOut) := s_callP (n := 0) (len := 3) xsh_out (w_xok0 mm204) (List.forall_mem_cons.mpr ⟨(w_cal mm204 mm200 pn_J7 (Nat.le_of_ble_eq_true rfl) (Nat.le_of_ble_eq_true rfl)), (fun z hz => nomatch hz)⟩) (List.forall_mem_cons.mpr ⟨(fun h b as hc hn => w_run_U (owner := "java/lang/AbstractStringBuilder") (ci := 28) mm204 mm200 dJ7_append_2_18 (Or.inl hc) (Nat.le_of_ble_eq_true rfl) vc_28 (Or.inl rfl) q336 q338 q337 q339 q138 q340 ⟨by decide, by decide, by decide +kernel⟩ hn), (fun z hz => nomatch hz)⟩)
theorem n204_21 : Snd mt G 204 21 (oIfEq 37 24) := w_if_eq (hm := mm204) dJ7_append_2_21 rfl
theorem n204_24 : Snd mt G 204 24 (oIload 1 25) := w_iload_n (hm := mm204) dJ7_append_2_24
theorem n204_25 : Snd mt G 204 25 (oIload 3 26) := w_iload_n (hm := mm204) dJ7_append_2_25
theorem n204_26 : Snd mt G 204 26 (oAload 0 27) := w_aload_n (hm := mm204) dJ7_append_2_26
theorem n204_27 : Snd mt G 204 27 (oGetf [29] 0 30) := w_getf (hm := mm204) dJ7_append_2_27 (fok1 (k := 0) (T := TJ8) 28 (Nat.le_of_ble_eq_true rfl) vc_28 (Nat.le_of_ble_eq_true rfl) q275)
theorem n204_30 : Snd mt G 204 30 (oCall 3 (fS 273 7) 0 33 xOut) := s_callS (m' := 273) (n := 3) xsh_out (w_xok0 mm204) (w_cal mm204 mm273 pn_J17 (Nat.le_of_ble_eq_true rfl) (Nat.le_of_ble_eq_true rfl)) (fun h as hn => w_run_S mm204 mm273 dJ7_append_2_30 q420 q421 q149 q422 pa273 hn)
theorem n204_33 : Snd mt G 204 33 (oPop 34) := w_pop (hm := mm204) dJ7_append_2_33
theorem n204_34 : Snd mt G 204 34 (oGoto 48) := w_goto (hm := mm204) dJ7_append_2_34 rfl
theorem n204_37 : Snd mt G 204 37 (oIload 1 38) := w_iload_n (hm := mm204) dJ7_append_2_37
theorem n204_38 : Snd mt G 204 38 (oIload 2 39) := w_iload_n (hm := mm204) dJ7_append_2_38
theorem n204_39 : Snd mt G 204 39 (oIload 3 40) := w_iload_n (hm := mm204) dJ7_append_2_39
theorem n204_40 : Snd mt G 204 40 (oAload 0 41) := w_aload_n (hm := mm204) dJ7_append_2_40
theorem n204_41 : Snd mt G 204 41 (oGetf [29] 0 44) := w_getf (hm := mm204) dJ7_append_2_41 (fok1 (k := 0) (T := TJ8) 28 (Nat.le_of_ble_eq_true rfl) vc_28 (Nat.le_of_ble_eq_true rfl) q275)
theorem n204_44 : Snd mt G 204 44 (oCall 4 (fS 234 5) 0 47 xOut) := s_callS (m' := 234) (n := 4) xsh_out (w_xok0 mm204) (w_cal mm204 mm234 pn_J10 (Nat.le_of_ble_eq_true rfl) (Nat.le_of_ble_eq_true rfl)) (fun h as hn => w_run_S mm204 mm234 dJ7_append_2_44 q427 q428 q141 q429 pa234 hn)
theorem n204_47 : Snd mt G 204 47 (oPop 48) := w_pop (hm := mm204) dJ7_append_2_47
theorem n204_48 : Snd mt G 204 48 (oAload 0 49) := w_aload_n (hm := mm204) dJ7_append_2_48
theorem n204_49 : Snd mt G 204 49 (oIload 3 50) := w_iload_n (hm := mm204) dJ7_append_2_49
theorem n204_50 : Snd mt G 204 50 (oPutf [29] 3 .int 53) := w_putf (hm := mm204) dJ7_append_2_50 (pok1 (k := 3) (T := TJ8) 28 (Nat.le_of_ble_eq_true rfl) vc_28 (Nat.le_of_ble_eq_true rfl) rfl pd_J8_3 q278)
theorem n204_53 : Snd mt G 204 53 (oAload 0 54) := w_aload_n (hm := mm204) dJ7_append_2_53
theorem n204_54 : Snd mt G 204 54 (oRetA) := w_aret (hm := mm204) dJ7_append_2_54 rfl (Or.inl ⟨_, rfl⟩)
theorem sj204 : ∀ pc, Snd mt G 204 pc (j204 pc) := fun pc => (snd_br ((snd_br ((snd_br ((snd_br ((snd_br ((snd_br ((snd_lf n204_54)) ((snd_lf n204_53)))) ((snd_lf n204_50)))) ((snd_br ((snd_lf n204_49)) ((snd_lf n204_48)))))) ((snd_br ((snd_br ((snd_lf n204_47)) ((snd_lf n204_44)))) ((snd_br ((snd_lf n204_41)) ((snd_lf n204_40)))))))) ((snd_br ((snd_br ((snd_br ((snd_lf n204_39)) ((snd_lf n204_38)))) ((snd_br ((snd_lf n204_37)) ((snd_lf n204_34)))))) ((snd_br ((snd_br ((snd_lf n204_33)) ((snd_lf n204_30)))) ((snd_br ((snd_lf n204_27)) ((snd_lf n204_26)))))))))) ((snd_br ((snd_br ((snd_br ((snd_br ((snd_lf n204_25)) ((snd_lf n204_24)))) ((snd_br ((snd_lf n204_21)) ((snd_lf n204_18)))))) ((snd_br ((snd_br ((snd_lf n204_17)) ((snd_lf n204_14)))) ((snd_br ((snd_lf n204_13)) ((snd_lf n204_12)))))))) ((snd_br ((snd_br ((snd_br ((snd_lf n204_11)) ((snd_lf n204_10)))) ((snd_br ((snd_lf n204_7)) ((snd_lf n204_6)))))) ((snd_br ((snd_br ((snd_lf n204_5)) ((snd_lf n204_4)))) ((snd_br ((snd_lf n204_1)) ((snd_lf n204_0)))))))))))
end
section
variable {G : AG}
theorem n205_0 : Snd mt G 205 0 (oAload 0 1) := w_aload_n (hm := mm205) dJ7_getValue_0
theorem n205_1 : Snd mt G 205 1 (oGetf [29] 0 4) := w_getf (hm := mm205) dJ7_getValue_1 (fok1 (k := 0) (T := TJ8) 28 (Nat.le_of_ble_eq_true rfl) vc_28 (Nat.le_of_ble_eq_true rfl) q275)
theorem n205_4 : Snd mt G 205 4 (oRetA) := w_aret (hm := mm205) dJ7_getValue_4 rfl (Or.inr ⟨_, rfl⟩)
theorem sj205 : ∀ pc, Snd mt G 205 pc (j205 pc) := fun pc => (snd_br ((snd_br ((snd_lf n205_4)) ((snd_lf n205_1)))) ((snd_lf n205_0)))
end
section
variable {G : AG}
theorem n206_0 : Snd mt G 206 0 (oAload 0 1) := w_aload_n (hm := mm206) dJ7_length_0
theorem n206_1 : Snd mt G 206 1 (oGetf [29] 3 4) := w_getf (hm := mm206) dJ7_length_1 (fok1 (k := 3) (T := TJ8) 28 (Nat.le_of_ble_eq_true rfl) vc_28 (Nat.le_of_ble_eq_true rfl) q278)
theorem n206_4 : Snd mt G 206 4 (oRetI .int) := w_iret (hm := mm206) dJ7_length_4 rfl
theorem sj206 : ∀ pc, Snd mt G 206 pc (j206 pc) := fun pc => (snd_br ((snd_br ((snd_lf n206_4)) ((snd_lf n206_1)))) ((snd_lf n206_0)))
end
section
variable {G : AG}
theorem n207_0 : Snd mt G 207 0 (oAload 0 1) := w_aload_n (hm := mm207) dJ7_append_3_0
theorem n207_1 : Snd mt G 207 1 (oAload 0 2) := w_aload_n (hm := mm207) dJ7_append_3_1
theorem n207_2 : Snd mt G 207 2 (oGetf [29] 3 5) := w_getf (hm := mm207) dJ7_append_3_2 (fok1 (k := 3) (T := TJ8) 28 (Nat.le_of_ble_eq_true rfl) vc_28 (Nat.le_of_ble_eq_true rfl) q278)
theorem n207_5 : Snd mt G 207 5 (oConst (.int 1) 6) := w_iconst (hm := mm207) dJ7_append_3_5 rfl
theorem n207_6 : Snd mt G 207 6 (oBin (fun x y => x + y) 7) := w_iadd (hm := mm207) dJ7_append_3_6
theorem n207_7 : Snd mt G 207 7 (oCall 2 (fV [29] 198 3) 0 10 xOut) := s_callV (m' := 198) (n := 1) xsh_out (w_xok0 mm207) (w_cal mm207 mm198 pn_J7 (Nat.le_of_ble_eq_true rfl) (Nat.le_of_ble_eq_true rfl)) (fun h b as hc hn => w_run_UP (ci := 28) mm207 mm198 dJ7_append_3_7 (Or.inl (List.mem_singleton.mp hc)) (Nat.le_of_ble_eq_true rfl) vc_28 q339 rfl (List.mem_filter.mpr ⟨q302, rfl⟩) q301 q3183 q303 q138 q304 pa198 hn)
theorem n207_10 : Snd mt G 207 10 (oAload 0 11) := w_aload_n (hm := mm207) dJ7_append_3_10
theorem n207_11 : Snd mt G 207 11 (oCall 1 (fP [(29, 200, 1)]) 0 14 xOut) := s_callP (n := 0) (len := 3) xsh_out (w_xok0 mm207) (List.forall_mem_cons.mpr ⟨(w_cal mm207 mm200 pn_J7 (Nat.le_of_ble_eq_true rfl) (Nat.le_of_ble_eq_true rfl)), (fun z hz => nomatch hz)⟩) (List.forall_mem_cons.mpr ⟨(fun h b as hc hn => w_run_U (owner := "java/lang/AbstractStringBuilder") (ci := 28) mm207 mm200 dJ7_append_3_11 (Or.inl hc) (Nat.le_of_ble_eq_true rfl) vc_28 (Or.inl rfl) q336 q338 q337 q339 q138 q340 ⟨by decide, by decide, by decide +kernel⟩ hn), (fun z hz => nomatch hz)⟩)
theorem n207_14 : Snd mt G 207 14 (oIfEq 45 17) := w_if_eq (hm := mm207) dJ7_append_3_14 rfl
theorem n207_17 : Snd mt G 207 17 (oIload 1 18) := w_iload_n (hm := mm207) dJ7_append_3_17
theorem n207_18 : Snd mt G 207 18 (oCall 1 (fS 267 1) 0 21 xOut) := s_callS (m' := 267) (n := 1) xsh_out (w_xok0 mm207) (w_cal mm207 mm267 pn_J15 (Nat.le_of_ble_eq_true rfl) (Nat.le_of_ble_eq_true rfl)) (fun h as hn => w_run_S mm207 mm267 dJ7_append_3_18 q1243 q1244 q147 q1245 pa267 hn)
theorem n207_21 : Snd mt G 207 21 (oIfEq 45 24) := w_if_eq (hm := mm207) dJ7_append_3_21 rfl
theorem n207_24 : Snd mt G 207 24 (oAload 0 25) := w_aload_n (hm := mm207) dJ7_append_3_24
theorem n207_25 : Snd mt G 207 25 (oGetf [29] 0 28) := w_getf (hm := mm207) dJ7_append_3_25 (fok1 (k := 0) (T := TJ8) 28 (Nat.le_of_ble_eq_true rfl) vc_28 (Nat.le_of_ble_eq_true rfl) q275)
theorem n207_28 : Snd mt G 207 28 (oAload 0 29) := w_aload_n (hm := mm207) dJ7_append_3_28
theorem n207_29 : Snd mt G 207 29 (oDup 30) := w_dup (hm := mm207) dJ7_append_3_29
theorem n207_30 : Snd mt G 207 30 (oGetf [29] 3 33) := w_getf (hm := mm207) dJ7_append_3_30 (fok1 (k := 3) (T := TJ8) 28 (Nat.le_of_ble_eq_true rfl) vc_28 (Nat.le_of_ble_eq_true rfl) q278)
theorem n207_33 : Snd mt G 207 33 (oDupx1 34) := w_dup_x1 (hm := mm207) dJ7_append_3_33
theorem n207_34 : Snd mt G 207 34 (oConst (.int 1) 35) := w_iconst (hm := mm207) dJ7_append_3_34 rfl
theorem n207_35 : Snd mt G 207 35 (oBin (fun x y => x + y) 36) := w_iadd (hm := mm207) dJ7_append_3_35
theorem n207_36 : Snd mt G 207 36 (oPutf [29] 3 .int 39) := w_putf (hm := mm207) dJ7_append_3_36 (pok1 (k := 3) (T := TJ8) 28 (Nat.le_of_ble_eq_true rfl) vc_28 (Nat.le_of_ble_eq_true rfl) rfl pd_J8_3 q278)
theorem n207_39 : Snd mt G 207 39 (oIload 1 40) := w_iload_n (hm := mm207) dJ7_append_3_39
theorem n207_40 : Snd mt G 207 40 (oUn (fun x => .int x.toInt8.toInt32) 41) := w_i2b (hm := mm207) dJ7_append_3_40
theorem n207_41 : Snd mt G 207 41 (oBast [101] 42) := w_bastore (hm := mm207) (kt := 1) dJ7_append_3_41 at_1 (Nat.le_of_ble_eq_true rfl) (List.forall_mem_cons.mpr ⟨rfl, (fun t ht => nomatch ht)⟩)
theorem n207_42 : Snd mt G 207 42 (oGoto 75) := w_goto (hm := mm207) dJ7_append_3_42 rfl
theorem n207_45 : Snd mt G 207 45 (oAload 0 46) := w_aload_n (hm := mm207) dJ7_append_3_45
theorem n207_46 : Snd mt G 207 46 (oCall 1 (fP [(29, 200, 1)]) 0 49 xOut) := s_callP (n := 0) (len := 3) xsh_out (w_xok0 mm207) (List.forall_mem_cons.mpr ⟨(w_cal mm207 mm200 pn_J7 (Nat.le_of_ble_eq_true rfl) (Nat.le_of_ble_eq_true rfl)), (fun z hz => nomatch hz)⟩) (List.forall_mem_cons.mpr ⟨(fun h b as hc hn => w_run_U (owner := "java/lang/AbstractStringBuilder") (ci := 28) mm207 mm200 dJ7_append_3_46 (Or.inl hc) (Nat.le_of_ble_eq_true rfl) vc_28 (Or.inl rfl) q336 q338 q337 q339 q138 q340 ⟨by decide, by decide, by decide +kernel⟩ hn), (fun z hz => nomatch hz)⟩)
theorem n207_49 : Snd mt G 207 49 (oIfEq 56 52) := w_if_eq (hm := mm207) dJ7_append_3_49 rfl
theorem n207_52 : Snd mt G 207 52 (oAload 0 53) := w_aload_n (hm := mm207) dJ7_append_3_52
theorem n207_53 : Snd mt G 207 53 (oCall 1 (fV [29] 203 2) 0 56 xOut) := s_callV (m' := 203) (n := 0) xsh_out (w_xok0 mm207) (w_cal mm207 mm203 pn_J7 (Nat.le_of_ble_eq_true rfl) (Nat.le_of_ble_eq_true rfl)) (fun h b as hc hn => w_run_UP (ci := 28) mm207 mm203 dJ7_append_3_53 (Or.inl (List.mem_singleton.mp hc)) (Nat.le_of_ble_eq_true rfl) vc_28 q339 rfl (List.mem_filter.mpr ⟨q386, rfl⟩) q385 q3187 q387 q138 q388 pa203 hn)
theorem n207_56 : Snd mt G 207 56 (oAload 0 57) := w_aload_n (hm := mm207) dJ7_append_3_56
theorem n207_57 : Snd mt G 207 57 (oGetf [29] 0 60) := w_getf (hm := mm207) dJ7_append_3_57 (fok1 (k := 0) (T := TJ8) 28 (Nat.le_of_ble_eq_true rfl) vc_28 (Nat.le_of_ble_eq_true rfl) q275)
theorem n207_60 : Snd mt G 207 60 (oAload 0 61) := w_aload_n (hm := mm207) dJ7_append_3_60
theorem n207_61 : Snd mt G 207 61 (oDup 62) := w_dup (hm := mm207) dJ7_append_3_61
theorem n207_62 : Snd mt G 207 62 (oGetf [29] 3 65) := w_getf (hm := mm207) dJ7_append_3_62 (fok1 (k := 3) (T := TJ8) 28 (Nat.le_of_ble_eq_true rfl) vc_28 (Nat.le_of_ble_eq_true rfl) q278)
theorem n207_65 : Snd mt G 207 65 (oDupx1 66) := w_dup_x1 (hm := mm207) dJ7_append_3_65
theorem n207_66 : Snd mt G 207 66 (oConst (.int 1) 67) := w_iconst (hm := mm207) dJ7_append_3_66 rfl
theorem n207_67 : Snd mt G 207 67 (oBin (fun x y => x + y) 68) := w_iadd (hm := mm207) dJ7_append_3_67
theorem n207_68 : Snd mt G 207 68 (oPutf [29] 3 .int 71) := w_putf (hm := mm207) dJ7_append_3_68 (pok1 (k := 3) (T := TJ8) 28 (Nat.le_of_ble_eq_true rfl) vc_28 (Nat.le_of_ble_eq_true rfl) rfl pd_J8_3 q278)
theorem n207_71 : Snd mt G 207 71 (oIload 1 72) := w_iload_n (hm := mm207) dJ7_append_3_71
theorem n207_72 : Snd mt G 207 72 (oCall 3 (fS 240 3) 0 75 xOut) := s_callS (m' := 240) (n := 3) xsh_out (w_xok0 mm207) (w_cal mm207 mm240 pn_J10 (Nat.le_of_ble_eq_true rfl) (Nat.le_of_ble_eq_true rfl)) (fun h as hn => w_run_S mm207 mm240 dJ7_append_3_72 q1246 q1247 q141 q1248 pa240 hn)
theorem n207_75 : Snd mt G 207 75 (oAload 0 76) := w_aload_n (hm := mm207) dJ7_append_3_75
theorem n207_76 : Snd mt G 207 76 (oRetA) := w_aret (hm := mm207) dJ7_append_3_76 rfl (Or.inl ⟨_, rfl⟩)
theorem sj207 : ∀ pc, Snd mt G 207 pc (j207 pc) := fun pc => (snd_br ((snd_br ((snd_br ((snd_br ((snd_br ((snd_br ((snd_lf n207_76)) ((snd_lf n207_75)))) ((snd_lf n207_72)))) ((snd_br ((snd_br ((snd_lf n207_71)) ((snd_lf n207_68)))) ((snd_lf n207_67)))))) ((snd_br ((snd_br ((snd_br ((snd_lf n207_66)) ((snd_lf n207_65)))) ((snd_lf n207_62)))) ((snd_br ((snd_lf n207_61)) ((snd_lf n207_60)))))))) ((snd_br ((snd_br ((snd_br ((snd_br ((snd_lf n207_57)) ((snd_lf n207_56)))) ((snd_lf n207_53)))) ((snd_br ((snd_br ((snd_lf n207_52)) ((snd_lf n207_49)))) ((snd_lf n207_46)))))) ((snd_br ((snd_br ((snd_br ((snd_lf n207_45)) ((snd_lf n207_42)))) ((snd_lf n207_41)))) ((snd_br ((snd_lf n207_40)) ((snd_lf n207_39)))))))))) ((snd_br ((snd_br ((snd_br ((snd_br ((snd_br ((snd_lf n207_36)) ((snd_lf n207_35)))) ((snd_lf n207_34)))) ((snd_br ((snd_br ((snd_lf n207_33)) ((snd_lf n207_30)))) ((snd_lf n207_29)))))) ((snd_br ((snd_br ((snd_br ((snd_lf n207_28)) ((snd_lf n207_25)))) ((snd_lf n207_24)))) ((snd_br ((snd_lf n207_21)) ((snd_lf n207_18)))))))) ((snd_br ((snd_br ((snd_br ((snd_br ((snd_lf n207_17)) ((snd_lf n207_14)))) ((snd_lf n207_11)))) ((snd_br ((snd_lf n207_10)) ((snd_lf n207_7)))))) ((snd_br ((snd_br ((snd_br ((snd_lf n207_6)) ((snd_lf n207_5)))) ((snd_lf n207_2)))) ((snd_br ((snd_lf n207_1)) ((snd_lf n207_0)))))))))))
end
section
variable {G : AG}
theorem n208_0 : Snd mt G 208 0 (oAload 0 1) := w_aload_n (hm := mm208) dJ8_init_0
theorem n208_1 : Snd mt G 208 1 (oConst (.int 16) 3) := w_bipush (hm := mm208) dJ8_init_1 (by decide)
theorem n208_3 : Snd mt G 208 3 (oCall 2 (fI 195 2) 0 6 xOut) := s_callI (m' := 195) (n := 1) xsh_out (w_xok0 mm208) (w_cal mm208 mm195 pn_J7 (Nat.le_of_ble_eq_true rfl) (Nat.le_of_ble_eq_true rfl)) (fun h b as hn => w_run_I mm208 mm195 dJ8_init_3 rfl rfl q262 q263 q138 q264 pa195 hn)
theorem n208_6 : Snd mt G 208 6 (oRetV) := w_vret (hm := mm208) dJ8_init_6 rfl
theorem sj208 : ∀ pc, Snd mt G 208 pc (j208 pc) := fun pc => (snd_br ((snd_br ((snd_lf n208_6)) ((snd_lf n208_3)))) ((snd_br ((snd_lf n208_1)) ((snd_lf n208_0)))))
end
section
variable {G : AG}
theorem n209_0 : Snd mt G 209 0 (oAload 0 1) := w_aload_n (hm := mm209) dJ8_append_0
theorem n209_1 : Snd mt G 209 1 (oAload 1 2) := w_aload_n (hm := mm209) dJ8_append_1
theorem n209_2 : Snd mt G 209 2 (oCall 2 (fV [29] 196 3) 1 5 xOut) := s_callV (m' := 196) (n := 1) xsh_out (w_xok0 mm209) (w_cal mm209 mm196 pn_J7 (Nat.le_of_ble_eq_true rfl) (Nat.le_of_ble_eq_true rfl)) (fun h b as hc hn => w_run_SU (ci := 28) mm209 mm196 dJ8_append_2 (Or.inl (List.mem_singleton.mp hc)) (Nat.le_of_ble_eq_true rfl) vc_28 q294 q3181 q287 q295 q138 q296 ⟨by decide, by decide +kernel⟩ hn)
theorem n209_5 : Snd mt G 209 5 (oPop 6) := w_pop (hm := mm209) dJ8_append_5
theorem n209_6 : Snd mt G 209 6 (oAload 0 7) := w_aload_n (hm := mm209) dJ8_append_6
theorem n209_7 : Snd mt G 209 7 (oRetA) := w_aret (hm := mm209) dJ8_append_7 rfl (Or.inl ⟨_, rfl⟩)
theorem sj209 : ∀ pc, Snd mt G 209 pc (j209 pc) := fun pc => (snd_br ((snd_br ((snd_br ((snd_lf n209_7)) ((snd_lf n209_6)))) ((snd_lf n209_5)))) ((snd_br ((snd_br ((snd_lf n209_2)) ((snd_lf n209_1)))) ((snd_lf n209_0)))))
end
section
variable {G : AG}
theorem n210_0 : Snd mt G 210 0 (oAload 0 1) := w_aload_n (hm := mm210) dJ8_append_2_0
theorem n210_1 : Snd mt G 210 1 (oIload 1 2) := w_iload_n (hm := mm210) dJ8_append_2_1
theorem n210_2 : Snd mt G 210 2 (oCall 2 (fV [29] 204 4) 1 5 xOut) := s_callV (m' := 204) (n := 1) xsh_out (w_xok0 mm210) (w_cal mm210 mm204 pn_J7 (Nat.le_of_ble_eq_true rfl) (Nat.le_of_ble_eq_true rfl)) (fun h b as hc hn => w_run_SU (ci := 28) mm210 mm204 dJ8_append_2_2 (Or.inl (List.mem_singleton.mp hc)) (Nat.le_of_ble_eq_true rfl) vc_28 q414 q3188 q287 q415 q138 q416 ⟨by decide, by decide +kernel⟩ hn)
theorem n210_5 : Snd mt G 210 5 (oPop 6) := w_pop (hm := mm210) dJ8_append_2_5
theorem n210_6 : Snd mt G 210 6 (oAload 0 7) := w_aload_n (hm := mm210) dJ8_append_2_6
theorem n210_7 : Snd mt G 210 7 (oRetA) := w_aret (hm := mm210) dJ8_append_2_7 rfl (Or.inl ⟨_, rfl⟩)
theorem sj210 : ∀ pc, Snd mt G 210 pc (j210 pc) := fun pc => (snd_br ((snd_br ((snd_br ((snd_lf n210_7)) ((snd_lf n210_6)))) ((snd_lf n210_5)))) ((snd_br ((snd_br ((snd_lf n210_2)) ((snd_lf n210_1)))) ((snd_lf n210_0)))))
end
section
variable {G : AG}
theorem n211_0 : Snd mt G 211 0 (oNew 30 4 nfJ9 3) := w_new (hm := mm211) (ci := 29) (T9 := TJ9) (ty := tyJ9) dJ8_toString_0 (Nat.le_of_ble_eq_true rfl) vc_29 tyJ9_ok (fun _ _ => rfl) q439 q440 q140
theorem n211_3 : Snd mt G 211 3 (oDup 4) := w_dup (hm := mm211) dJ8_toString_3
theorem n211_4 : Snd mt G 211 4 (oAload 0 5) := w_aload_n (hm := mm211) dJ8_toString_4
theorem n211_5 : Snd mt G 211 5 (oCall 2 (fI 219 2) 1 8 xOut) := s_callI (m' := 219) (n := 1) xsh_out (w_xok0 mm211) (w_cal mm211 mm219 pn_J9 (Nat.le_of_ble_eq_true rfl) (Nat.le_of_ble_eq_true rfl)) (fun h b as hn => w_run_I mm211 mm219 dJ8_toString_5 rfl rfl q441 q442 q140 q443 pa219 hn)
theorem n211_8 : Snd mt G 211 8 (oRetA) := w_aret (hm := mm211) dJ8_toString_8 rfl (Or.inl ⟨_, rfl⟩)
theorem sj211 : ∀ pc, Snd mt G 211 pc (j211 pc) := fun pc => (snd_br ((snd_br ((snd_br ((snd_lf n211_8)) ((snd_lf n211_5)))) ((snd_lf n211_4)))) ((snd_br ((snd_lf n211_3)) ((snd_lf n211_0)))))
end
section
variable {G : AG}
theorem n212_0 : Snd mt G 212 0 (oAload 0 1) := w_aload_n (hm := mm212) dJ8_length_0
theorem n212_1 : Snd mt G 212 1 (oCall 1 (fV [29] 206 1) 0 4 xOut) := s_callV (m' := 206) (n := 0) xsh_out (w_xok0 mm212) (w_cal mm212 mm206 pn_J7 (Nat.le_of_ble_eq_true rfl) (Nat.le_of_ble_eq_true rfl)) (fun h b as hc hn => w_run_SU (ci := 28) mm212 mm206 dJ8_length_1 (Or.inl (List.mem_singleton.mp hc)) (Nat.le_of_ble_eq_true rfl) vc_28 q459 q455 q287 q454 q138 q460 ⟨by decide, by decide +kernel⟩ hn)
theorem n212_4 : Snd mt G 212 4 (oRetI .int) := w_iret (hm := mm212) dJ8_length_4 rfl
theorem sj212 : ∀ pc, Snd mt G 212 pc (j212 pc) := fun pc => (snd_br ((snd_br ((snd_lf n212_4)) ((snd_lf n212_1)))) ((snd_lf n212_0)))
end
section
variable {G : AG}
theorem n213_0 : Snd mt G 213 0 (oAload 0 1) := w_aload_n (hm := mm213) dJ8_append_3_0
theorem n213_1 : Snd mt G 213 1 (oIload 1 2) := w_iload_n (hm := mm213) dJ8_append_3_1
theorem n213_2 : Snd mt G 213 2 (oCall 2 (fV [29] 207 2) 0 5 xOut) := s_callV (m' := 207) (n := 1) xsh_out (w_xok0 mm213) (w_cal mm213 mm207 pn_J7 (Nat.le_of_ble_eq_true rfl) (Nat.le_of_ble_eq_true rfl)) (fun h b as hc hn => w_run_SU (ci := 28) mm213 mm207 dJ8_append_3_2 (Or.inl (List.mem_singleton.mp hc)) (Nat.le_of_ble_eq_true rfl) vc_28 q1240 q3190 q287 q1241 q138 q1242 ⟨by decide, by decide +kernel⟩ hn)
theorem n213_5 : Snd mt G 213 5 (oPop 6) := w_pop (hm := mm213) dJ8_append_3_5
theorem n213_6 : Snd mt G 213 6 (oAload 0 7) := w_aload_n (hm := mm213) dJ8_append_3_6
theorem n213_7 : Snd mt G 213 7 (oRetA) := w_aret (hm := mm213) dJ8_append_3_7 rfl (Or.inl ⟨_, rfl⟩)
theorem sj213 : ∀ pc, Snd mt G 213 pc (j213 pc) := fun pc => (snd_br ((snd_br ((snd_br ((snd_lf n213_7)) ((snd_lf n213_6)))) ((snd_lf n213_5)))) ((snd_br ((snd_br ((snd_lf n213_2)) ((snd_lf n213_1)))) ((snd_lf n213_0)))))
end
section
variable {G : AG}
theorem n214_0 : Snd mt G 214 0 (oIload 0 1) := w_iload_n (hm := mm214) dJ9_checkBoundsBeginEnd_0
theorem n214_1 : Snd mt G 214 1 (oIload 1 2) := w_iload_n (hm := mm214) dJ9_checkBoundsBeginEnd_1
theorem n214_2 : Snd mt G 214 2 (oIload 2 3) := w_iload_n (hm := mm214) dJ9_checkBoundsBeginEnd_2
theorem n214_3 : Snd mt G 214 3 (oGets 7 6) := w_gets (hm := mm214) (j := 7) dJ9_checkBoundsBeginEnd_3 sl_7 q353
theorem n214_6 : Snd mt G 214 6 (oCall 4 (fS 263 4) 0 9 xOut) := s_callS (m' := 263) (n := 4) xsh_out (w_xok0 mm214) (w_cal mm214 mm263 pn_J14 (Nat.le_of_ble_eq_true rfl) (Nat.le_of_ble_eq_true rfl)) (fun h as hn => w_run_S mm214 mm263 dJ9_checkBoundsBeginEnd_6 q355 q356 q146 q357 pa263 hn)
theorem n214_9 : Snd mt G 214 9 (oPop 10) := w_pop (hm := mm214) dJ9_checkBoundsBeginEnd_9
theorem n214_10 : Snd mt G 214 10 (oRetV) := w_vret (hm := mm214) dJ9_checkBoundsBeginEnd_10 rfl
theorem sj214 : ∀ pc, Snd mt G 214 pc (j214 pc) := fun pc => (snd_br ((snd_br ((snd_br ((snd_lf n214_10)) ((snd_lf n214_9)))) ((snd_br ((snd_lf n214_6)) ((snd_lf n214_3)))))) ((snd_br ((snd_br ((snd_lf n214_2)) ((snd_lf n214_1)))) ((snd_lf n214_0)))))
end
section
variable {G : AG}
theorem n215_0 : Snd mt G 215 0 (oAload 0 1) := w_aload_n (hm := mm215) dJ9_length_0
theorem n215_1 : Snd mt G 215 1 (oGetf [30, 1030] 0 4) := w_getf (hm := mm215) dJ9_length_1 (fok2 (k := 0) (T := TJ9) 29 (Nat.le_of_ble_eq_true rfl) vc_29 (Nat.le_of_ble_eq_true rfl) q516)
theorem n215_4 : Snd mt G 215 4 (oAlen 5) := w_alen (hm := mm215) dJ9_length_4
theorem n215_5 : Snd mt G 215 5 (oAload 0 6) := w_aload_n (hm := mm215) dJ9_length_5
theorem n215_6 : Snd mt G 215 6 (oCall 1 (fV [30, 1030] 216 1) 0 9 xOut) := s_callV (m' := 216) (n := 0) xsh_out (w_xok0 mm215) (w_cal mm215 mm216 pn_J9 (Nat.le_of_ble_eq_true rfl) (Nat.le_of_ble_eq_true rfl)) (fun h b as hc hn => w_run_V (ci := 29) mm215 mm216 dJ9_length_6 ((List.mem_cons.mp hc).imp id (fun z => List.mem_singleton.mp z)) (Nat.le_of_ble_eq_true rfl) vc_29 rfl q371 q372 q373 q140 q374 pa216 hn)
theorem n215_9 : Snd mt G 215 9 (oBin (fun x y => x >>> (y &&& 31)) 10) := w_ishr (hm := mm215) dJ9_length_9
theorem n215_10 : Snd mt G 215 10 (oRetI .int) := w_iret (hm := mm215) dJ9_length_10 rfl
theorem sj215 : ∀ pc, Snd mt G 215 pc (j215 pc) := fun pc => (snd_br ((snd_br ((snd_br ((snd_lf n215_10)) ((snd_lf n215_9)))) ((snd_br ((snd_lf n215_6)) ((snd_lf n215_5)))))) ((snd_br ((snd_br ((snd_lf n215_4)) ((snd_lf n215_1)))) ((snd_lf n215_0)))))
end
section
variable {G : AG}
theorem n216_0 : Snd mt G 216 0 (oGets 0 3) := w_gets (hm := mm216) (j := 0) dJ9_coder_0 sl_0 q375
theorem n216_3 : Snd mt G 216 3 (oIfEq 13 6) := w_if_eq (hm := mm216) dJ9_coder_3 rfl
theorem n216_6 : Snd mt G 216 6 (oAload 0 7) := w_aload_n (hm := mm216) dJ9_coder_6
theorem n216_7 : Snd mt G 216 7 (oGetf [30, 1030] 1 10) := w_getf (hm := mm216) dJ9_coder_7 (fok2 (k := 1) (T := TJ9) 29 (Nat.le_of_ble_eq_true rfl) vc_29 (Nat.le_of_ble_eq_true rfl) q517)
theorem n216_10 : Snd mt G 216 10 (oGoto 14) := w_goto (hm := mm216) dJ9_coder_10 rfl
theorem n216_13 : Snd mt G 216 13 (oConst (.int 1) 14) := w_iconst (hm := mm216) dJ9_coder_13 rfl
theorem n216_14 : Snd mt G 216 14 (oRetI .byte) := w_zret (hm := mm216) dJ9_coder_14 rfl
theorem sj216 : ∀ pc, Snd mt G 216 pc (j216 pc) := fun pc => (snd_br ((snd_br ((snd_br ((snd_lf n216_14)) ((snd_lf n216_13)))) ((snd_br ((snd_lf n216_10)) ((snd_lf n216_7)))))) ((snd_br ((snd_br ((snd_lf n216_6)) ((snd_lf n216_3)))) ((snd_lf n216_0)))))
end
section
variable {G : AG}
theorem n217_0 : Snd mt G 217 0 (oIload 0 1) := w_iload_n (hm := mm217) dJ9_checkBoundsOffCount_0
theorem n217_1 : Snd mt G 217 1 (oIload 1 2) := w_iload_n (hm := mm217) dJ9_checkBoundsOffCount_1
theorem n217_2 : Snd mt G 217 2 (oIload 2 3) := w_iload_n (hm := mm217) dJ9_checkBoundsOffCount_2
theorem n217_3 : Snd mt G 217 3 (oGets 7 6) := w_gets (hm := mm217) (j := 7) dJ9_checkBoundsOffCount_3 sl_7 q353
theorem n217_6 : Snd mt G 217 6 (oCall 4 (fS 264 4) 0 9 xOut) := s_callS (m' := 264) (n := 4) xsh_out (w_xok0 mm217) (w_cal mm217 mm264 pn_J14 (Nat.le_of_ble_eq_true rfl) (Nat.le_of_ble_eq_true rfl)) (fun h as hn => w_run_S mm217 mm264 dJ9_checkBoundsOffCount_6 q401 q402 q146 q403 pa264 hn)
theorem n217_9 : Snd mt G 217 9 (oRetI .int) := w_iret (hm := mm217) dJ9_checkBoundsOffCount_9 rfl
theorem sj217 : ∀ pc, Snd mt G 217 pc (j217 pc) := fun pc => (snd_br ((snd_br ((snd_br ((snd_lf n217_9)) ((snd_lf n217_6)))) ((snd_lf n217_3)))) ((snd_br ((snd_br ((snd_lf n217_2)) ((snd_lf n217_1)))) ((snd_lf n217_0)))))
end
section
variable {G : AG}
theorem n218_0 : Snd mt G 218 0 (oAload 0 1) := w_aload_n (hm := mm218) dJ9_getBytes_0
theorem n218_1 : Snd mt G 218 1 (oCall 1 (fV [30, 1030] 216 1) 0 4 xOut) := s_callV (m' := 216) (n := 0) xsh_out (w_xok0 mm218) (w_cal mm218 mm216 pn_J9 (Nat.le_of_ble_eq_true rfl) (Nat.le_of_ble_eq_true rfl)) (fun h b as hc hn => w_run_V (ci := 29) mm218 mm216 dJ9_getBytes_1 ((List.mem_cons.mp hc).imp id (fun z => List.mem_singleton.mp z)) (Nat.le_of_ble_eq_true rfl) vc_29 rfl q371 q372 q373 q140 q374 pa216 hn)
theorem n218_4 : Snd mt G 218 4 (oIload 3 5) := w_iload_n (hm := mm218) dJ9_getBytes_4
theorem n218_5 : Snd mt G 218 5 (oCmpEq 8 28) := w_icmp_ne (hm := mm218) dJ9_getBytes_5 rfl
theorem n218_8 : Snd mt G 218 8 (oAload 0 9) := w_aload_n (hm := mm218) dJ9_getBytes_8
theorem n218_9 : Snd mt G 218 9 (oGetf [30, 1030] 0 12) := w_getf (hm := mm218) dJ9_getBytes_9 (fok2 (k := 0) (T := TJ9) 29 (Nat.le_of_ble_eq_true rfl) vc_29 (Nat.le_of_ble_eq_true rfl) q516)
theorem n218_12 : Snd mt G 218 12 (oConst (.int 0) 13) := w_iconst (hm := mm218) dJ9_getBytes_12 rfl
theorem n218_13 : Snd mt G 218 13 (oAload 1 14) := w_aload_n (hm := mm218) dJ9_getBytes_13
theorem n218_14 : Snd mt G 218 14 (oIload 2 15) := w_iload_n (hm := mm218) dJ9_getBytes_14
theorem n218_15 : Snd mt G 218 15 (oIload 3 16) := w_iload_n (hm := mm218) dJ9_getBytes_15
theorem n218_16 : Snd mt G 218 16 (oBin (fun x y => x <<< (y &&& 31)) 17) := w_ishl (hm := mm218) dJ9_getBytes_16
theorem n218_17 : Snd mt G 218 17 (oAload 0 18) := w_aload_n (hm := mm218) dJ9_getBytes_17
theorem n218_18 : Snd mt G 218 18 (oGetf [30, 1030] 0 21) := w_getf (hm := mm218) dJ9_getBytes_18 (fok2 (k := 0) (T := TJ9) 29 (Nat.le_of_ble_eq_true rfl) vc_29 (Nat.le_of_ble_eq_true rfl) q516)
theorem n218_21 : Snd mt G 218 21 (oAlen 22) := w_alen (hm := mm218) dJ9_getBytes_21
theorem n218_22 : Snd mt G 218 22 (oCopy [101, 1101] [101] (ckTy .byte) 25) := w_copy (hm := mm218) (kt := 1) dJ9_getBytes_22 (Nat.le_of_ble_eq_true rfl) at_1 (List.forall_mem_cons.mpr ⟨Or.inl rfl, (List.forall_mem_cons.mpr ⟨Or.inr rfl, (fun t ht => nomatch ht)⟩)⟩) (List.forall_mem_cons.mpr ⟨rfl, (fun t ht => nomatch ht)⟩) (fun s h H v _ _ e => ck_int s h H .byte v e) (Nat.le_of_ble_eq_true rfl) q408 q335 q334 q145
theorem n218_25 : Snd mt G 218 25 (oGoto 43) := w_goto (hm := mm218) dJ9_getBytes_25 rfl
theorem n218_28 : Snd mt G 218 28 (oAload 0 29) := w_aload_n (hm := mm218) dJ9_getBytes_28
theorem n218_29 : Snd mt G 218 29 (oGetf [30, 1030] 0 32) := w_getf (hm := mm218) dJ9_getBytes_29 (fok2 (k := 0) (T := TJ9) 29 (Nat.le_of_ble_eq_true rfl) vc_29 (Nat.le_of_ble_eq_true rfl) q516)
theorem n218_32 : Snd mt G 218 32 (oConst (.int 0) 33) := w_iconst (hm := mm218) dJ9_getBytes_32 rfl
theorem n218_33 : Snd mt G 218 33 (oAload 1 34) := w_aload_n (hm := mm218) dJ9_getBytes_33
theorem n218_34 : Snd mt G 218 34 (oIload 2 35) := w_iload_n (hm := mm218) dJ9_getBytes_34
theorem n218_35 : Snd mt G 218 35 (oAload 0 36) := w_aload_n (hm := mm218) dJ9_getBytes_35
theorem n218_36 : Snd mt G 218 36 (oGetf [30, 1030] 0 39) := w_getf (hm := mm218) dJ9_getBytes_36 (fok2 (k := 0) (T := TJ9) 29 (Nat.le_of_ble_eq_true rfl) vc_29 (Nat.le_of_ble_eq_true rfl) q516)
theorem n218_39 : Snd mt G 218 39 (oAlen 40) := w_alen (hm := mm218) dJ9_getBytes_39
theorem n218_40 : Snd mt G 218 40 (oCall 5 (fS 266 5) 0 43 xOut) := s_callS (m' := 266) (n := 5) xsh_out (w_xok0 mm218) (w_cal mm218 mm266 pn_J15 (Nat.le_of_ble_eq_true rfl) (Nat.le_of_ble_eq_true rfl)) (fun h as hn => w_run_S mm218 mm266 dJ9_getBytes_40 q409 q390 q147 q391 pa266 hn)
theorem n218_43 : Snd mt G 218 43 (oRetV) := w_vret (hm := mm218) dJ9_getBytes_43 rfl
theorem sj218 : ∀ pc, Snd mt G 218 pc (j218 pc) := fun pc => (snd_br ((snd_br ((snd_br ((snd_br ((snd_br ((snd_lf n218_43)) ((snd_lf n218_40)))) ((snd_br ((snd_lf n218_39)) ((snd_lf n218_36)))))) ((snd_br ((snd_br ((snd_lf n218_35)) ((snd_lf n218_34)))) ((snd_lf n218_33)))))) ((snd_br ((snd_br ((snd_br ((snd_lf n218_32)) ((snd_lf n218_29)))) ((snd_lf n218_28)))) ((snd_br ((snd_br ((snd_lf n218_25)) ((snd_lf n218_22)))) ((snd_lf n218_21)))))))) ((snd_br ((snd_br ((snd_br ((snd_br ((snd_lf n218_18)) ((snd_lf n218_17)))) ((snd_br ((snd_lf n218_16)) ((snd_lf n218_15)))))) ((snd_br ((snd_br ((snd_lf n218_14)) ((snd_lf n218_13)))) ((snd_lf n218_12)))))) ((snd_br ((snd_br ((snd_br ((snd_lf n218_9)) ((snd_lf n218_8)))) ((snd_lf n218_5)))) ((snd_br ((snd_br ((snd_lf n218_4)) ((snd_lf n218_1)))) ((snd_lf n218_0)))))))))
end
section
variable {G : AG}
theorem n219_0 : Snd mt G 219 0 (oAload 0 1) := w_aload_n (hm := mm219) dJ9_init_0
theorem n219_1 : Snd mt G 219 1 (oAload 1 2) := w_aload_n (hm := mm219) dJ9_init_1
theorem n219_2 : Snd mt G 219 2 (oConst .null 3) := w_null (hm := mm219) dJ9_init_2
theorem n219_3 : Snd mt G 219 3 (oCall 3 (fI 220 5) 1 6 xOut) := s_callI (m' := 220) (n := 2) xsh_out (w_xok0 mm219) (w_cal mm219 mm220 pn_J9 (Nat.le_of_ble_eq_true rfl) (Nat.le_of_ble_eq_true rfl)) (fun h b as hn => w_run_I mm219 mm220 dJ9_init_3 rfl rfl q444 q445 q140 q446 pa220 hn)
theorem n219_6 : Snd mt G 219 6 (oRetV) := w_vret (hm := mm219) dJ9_init_6 rfl
theorem sj219 : ∀ pc, Snd mt G 219 pc (j219 pc) := fun pc => (snd_br ((snd_br ((snd_br ((snd_lf n219_6)) ((snd_lf n219_3)))) ((snd_lf n219_2)))) ((snd_br ((snd_lf n219_1)) ((snd_lf n219_0)))))
end
section
variable {G : AG}
theorem n220_0 : Snd mt G 220 0 (oAload 0 1) := w_aload_n (hm := mm220) dJ9_init_2_0
theorem n220_1 : Snd mt G 220 1 (oObjI 4) := w_objI (hm := mm220) dJ9_init_2_1 (Nat.le_of_ble_eq_true rfl) q447 q189 q190
theorem n220_4 : Snd mt G 220 4 (oAload 1 5) := w_aload_n (hm := mm220) dJ9_init_2_4
theorem n220_5 : Snd mt G 220 5 (oCall 1 (fP [(29, 205, 1)]) 0 8 xOut) := s_callP (n := 0) (len := 3) xsh_out (w_xok0 mm220) (List.forall_mem_cons.mpr ⟨(w_cal mm220 mm205 pn_J7 (Nat.le_of_ble_eq_true rfl) (Nat.le_of_ble_eq_true rfl)), (fun z hz => nomatch hz)⟩) (List.forall_mem_cons.mpr ⟨(fun h b as hc hn => w_run_U (owner := "java/lang/AbstractStringBuilder") (ci := 28) mm220 mm205 dJ9_init_2_5 (Or.inl hc) (Nat.le_of_ble_eq_true rfl) vc_28 (Or.inl rfl) q448 q450 q449 q451 q138 q452 ⟨by decide, by decide, by decide +kernel⟩ hn), (fun z hz => nomatch hz)⟩)
theorem n220_8 : Snd mt G 220 8 (oAstore 3 9) := w_astore_n (hm := mm220) dJ9_init_2_8 (Nat.le_of_ble_eq_true rfl)
theorem n220_9 : Snd mt G 220 9 (oAload 1 10) := w_aload_n (hm := mm220) dJ9_init_2_9
theorem n220_10 : Snd mt G 220 10 (oCall 1 (fP [(29, 212, 1)]) 0 13 xOut) := s_callP (n := 0) (len := 3) xsh_out (w_xok0 mm220) (List.forall_mem_cons.mpr ⟨(w_cal mm220 mm212 pn_J8 (Nat.le_of_ble_eq_true rfl) (Nat.le_of_ble_eq_true rfl)), (fun z hz => nomatch hz)⟩) (List.forall_mem_cons.mpr ⟨(fun h b as hc hn => w_run_U (owner := "java/lang/AbstractStringBuilder") (ci := 28) mm220 mm212 dJ9_init_2_10 (Or.inl hc) (Nat.le_of_ble_eq_true rfl) vc_28 (Or.inr (Or.inl ⟨_, _, _, q460, q454⟩)) q453 q455 q457 q456 q139 q458 ⟨by decide, by decide, by decide +kernel⟩ hn), (fun z hz => nomatch hz)⟩)
theorem n220_13 : Snd mt G 220 13 (oIstore 4 15) := w_istore (hm := mm220) dJ9_init_2_13 (Nat.le_of_ble_eq_true rfl)
theorem n220_15 : Snd mt G 220 15 (oAload 1 16) := w_aload_n (hm := mm220) dJ9_init_2_15
theorem n220_16 : Snd mt G 220 16 (oCall 1 (fP [(29, 200, 1)]) 0 19 xOut) := s_callP (n := 0) (len := 3) xsh_out (w_xok0 mm220) (List.forall_mem_cons.mpr ⟨(w_cal mm220 mm200 pn_J7 (Nat.le_of_ble_eq_true rfl) (Nat.le_of_ble_eq_true rfl)), (fun z hz => nomatch hz)⟩) (List.forall_mem_cons.mpr ⟨(fun h b as hc hn => w_run_U (owner := "java/lang/AbstractStringBuilder") (ci := 28) mm220 mm200 dJ9_init_2_16 (Or.inl hc) (Nat.le_of_ble_eq_true rfl) vc_28 (Or.inl rfl) q461 q338 q337 q339 q138 q340 ⟨by decide, by decide, by decide +kernel⟩ hn), (fun z hz => nomatch hz)⟩)
theorem n220_19 : Snd mt G 220 19 (oIfEq 41 22) := w_if_eq (hm := mm220) dJ9_init_2_19 rfl
theorem n220_22 : Snd mt G 220 22 (oAload 0 23) := w_aload_n (hm := mm220) dJ9_init_2_22
theorem n220_23 : Snd mt G 220 23 (oConst (.int 0) 24) := w_iconst (hm := mm220) dJ9_init_2_23 rfl
theorem n220_24 : Snd mt G 220 24 (oPutf [30] 1 .byte 27) := w_putfF (hm := mm220) dJ9_init_2_24 (pfk1 (k := 1) (T := TJ9) 29 (Nat.le_of_ble_eq_true rfl) vc_29 (Nat.le_of_ble_eq_true rfl) rfl rfl pd_J9_1 rfl q517)
theorem n220_27 : Snd mt G 220 27 (oAload 0 28) := w_aload_n (hm := mm220) dJ9_init_2_27
theorem n220_28 : Snd mt G 220 28 (oAload 3 29) := w_aload_n (hm := mm220) dJ9_init_2_28
theorem n220_29 : Snd mt G 220 29 (oConst (.int 0) 30) := w_iconst (hm := mm220) dJ9_init_2_29 rfl
theorem n220_30 : Snd mt G 220 30 (oIload 4 32) := w_iload (hm := mm220) dJ9_init_2_30
theorem n220_32 : Snd mt G 220 32 (oCall 3 (fS 258 3) 1 35 xOut) := s_callS (m' := 258) (n := 3) xsh_out (w_xok0 mm220) (w_cal mm220 mm258 pn_J13 (Nat.le_of_ble_eq_true rfl) (Nat.le_of_ble_eq_true rfl)) (fun h as hn => w_run_S mm220 mm258 dJ9_init_2_32 q462 q463 q144 q464 pa258 hn)
theorem n220_35 : Snd mt G 220 35 (oPutf [30] 0 (.array .byte) 38) := w_putfF (hm := mm220) dJ9_init_2_35 (pfk1 (k := 0) (T := TJ9) 29 (Nat.le_of_ble_eq_true rfl) vc_29 (Nat.le_of_ble_eq_true rfl) rfl rfl pd_J9_0 rfl q516)
theorem n220_38 : Snd mt G 220 38 (oGoto 97) := w_goto (hm := mm220) dJ9_init_2_38 rfl
theorem n220_41 : Snd mt G 220 41 (oGets 0 44) := w_gets (hm := mm220) (j := 0) dJ9_init_2_41 sl_0 q375
theorem n220_44 : Snd mt G 220 44 (oIfEq 79 47) := w_if_eq (hm := mm220) dJ9_init_2_44 rfl
theorem n220_47 : Snd mt G 220 47 (oAload 1 48) := w_aload_n (hm := mm220) dJ9_init_2_47
theorem n220_48 : Snd mt G 220 48 (oGetf [29] 2 51) := w_getf (hm := mm220) dJ9_init_2_48 (fok1 (k := 2) (T := TJ8) 28 (Nat.le_of_ble_eq_true rfl) vc_28 (Nat.le_of_ble_eq_true rfl) q277)
theorem n220_51 : Snd mt G 220 51 (oIfEq 79 54) := w_if_eq (hm := mm220) dJ9_init_2_51 rfl
theorem n220_54 : Snd mt G 220 54 (oAload 0 55) := w_aload_n (hm := mm220) dJ9_init_2_54
theorem n220_55 : Snd mt G 220 55 (oAload 3 56) := w_aload_n (hm := mm220) dJ9_init_2_55
theorem n220_56 : Snd mt G 220 56 (oConst (.int 0) 57) := w_iconst (hm := mm220) dJ9_init_2_56 rfl
theorem n220_57 : Snd mt G 220 57 (oIload 4 59) := w_iload (hm := mm220) dJ9_init_2_57
theorem n220_59 : Snd mt G 220 59 (oCall 3 (fS 236 6) 1 62 xOut) := s_callS (m' := 236) (n := 3) xsh_out (w_xok0 mm220) (w_cal mm220 mm236 pn_J10 (Nat.le_of_ble_eq_true rfl) (Nat.le_of_ble_eq_true rfl)) (fun h as hn => w_run_S mm220 mm236 dJ9_init_2_59 q503 q504 q141 q505 pa236 hn)
theorem n220_62 : Snd mt G 220 62 (oPutf [30] 0 (.array .byte) 65) := w_putfF (hm := mm220) dJ9_init_2_62 (pfk1 (k := 0) (T := TJ9) 29 (Nat.le_of_ble_eq_true rfl) vc_29 (Nat.le_of_ble_eq_true rfl) rfl rfl pd_J9_0 rfl q516)
theorem n220_65 : Snd mt G 220 65 (oAload 0 66) := w_aload_n (hm := mm220) dJ9_init_2_65
theorem n220_66 : Snd mt G 220 66 (oAload 0 67) := w_aload_n (hm := mm220) dJ9_init_2_66
theorem n220_67 : Snd mt G 220 67 (oGetf [30, 1030] 0 70) := w_getf (hm := mm220) dJ9_init_2_67 (fok2 (k := 0) (T := TJ9) 29 (Nat.le_of_ble_eq_true rfl) vc_29 (Nat.le_of_ble_eq_true rfl) q516)
theorem n220_70 : Snd mt G 220 70 (oIload 4 72) := w_iload (hm := mm220) dJ9_init_2_70
theorem n220_72 : Snd mt G 220 72 (oCall 2 (fS 239 2) 0 75 xOut) := s_callS (m' := 239) (n := 2) xsh_out (w_xok0 mm220) (w_cal mm220 mm239 pn_J10 (Nat.le_of_ble_eq_true rfl) (Nat.le_of_ble_eq_true rfl)) (fun h as hn => w_run_S mm220 mm239 dJ9_init_2_72 q513 q514 q141 q515 pa239 hn)
theorem n220_75 : Snd mt G 220 75 (oPutf [30] 1 .byte 78) := w_putfF (hm := mm220) dJ9_init_2_75 (pfk1 (k := 1) (T := TJ9) 29 (Nat.le_of_ble_eq_true rfl) vc_29 (Nat.le_of_ble_eq_true rfl) rfl rfl pd_J9_1 rfl q517)
theorem n220_78 : Snd mt G 220 78 (oRetV) := w_vret (hm := mm220) dJ9_init_2_78 rfl
theorem n220_79 : Snd mt G 220 79 (oAload 0 80) := w_aload_n (hm := mm220) dJ9_init_2_79
theorem n220_80 : Snd mt G 220 80 (oConst (.int 1) 81) := w_iconst (hm := mm220) dJ9_init_2_80 rfl
theorem n220_81 : Snd mt G 220 81 (oPutf [30] 1 .byte 84) := w_putfF (hm := mm220) dJ9_init_2_81 (pfk1 (k := 1) (T := TJ9) 29 (Nat.le_of_ble_eq_true rfl) vc_29 (Nat.le_of_ble_eq_true rfl) rfl rfl pd_J9_1 rfl q517)
theorem n220_84 : Snd mt G 220 84 (oAload 0 85) := w_aload_n (hm := mm220) dJ9_init_2_84
theorem n220_85 : Snd mt G 220 85 (oAload 3 86) := w_aload_n (hm := mm220) dJ9_init_2_85
theorem n220_86 : Snd mt G 220 86 (oConst (.int 0) 87) := w_iconst (hm := mm220) dJ9_init_2_86 rfl
theorem n220_87 : Snd mt G 220 87 (oIload 4 89) := w_iload (hm := mm220) dJ9_init_2_87
theorem n220_89 : Snd mt G 220 89 (oConst (.int 1) 90) := w_iconst (hm := mm220) dJ9_init_2_89 rfl
theorem n220_90 : Snd mt G 220 90 (oBin (fun x y => x <<< (y &&& 31)) 91) := w_ishl (hm := mm220) dJ9_init_2_90
theorem n220_91 : Snd mt G 220 91 (oCall 3 (fS 258 3) 1 94 xOut) := s_callS (m' := 258) (n := 3) xsh_out (w_xok0 mm220) (w_cal mm220 mm258 pn_J13 (Nat.le_of_ble_eq_true rfl) (Nat.le_of_ble_eq_true rfl)) (fun h as hn => w_run_S mm220 mm258 dJ9_init_2_91 q462 q463 q144 q464 pa258 hn)
theorem n220_94 : Snd mt G 220 94 (oPutf [30] 0 (.array .byte) 97) := w_putfF (hm := mm220) dJ9_init_2_94 (pfk1 (k := 0) (T := TJ9) 29 (Nat.le_of_ble_eq_true rfl) vc_29 (Nat.le_of_ble_eq_true rfl) rfl rfl pd_J9_0 rfl q516)
theorem n220_97 : Snd mt G 220 97 (oRetV) := w_vret (hm := mm220) dJ9_init_2_97 rfl
theorem sj220 : ∀ pc, Snd mt G 220 pc (j220 pc) := fun pc => (snd_br ((snd_br ((snd_br ((snd_br ((snd_br ((snd_br ((snd_lf n220_97)) ((snd_lf n220_94)))) ((snd_br ((snd_lf n220_91)) ((snd_lf n220_90)))))) ((snd_br ((snd_br ((snd_lf n220_89)) ((snd_lf n220_87)))) ((snd_lf n220_86)))))) ((snd_br ((snd_br ((snd_br ((snd_lf n220_85)) ((snd_lf n220_84)))) ((snd_lf n220_81)))) ((snd_br ((snd_br ((snd_lf n220_80)) ((snd_lf n220_79)))) ((snd_lf n220_78)))))))) ((snd_br ((snd_br ((snd_br ((snd_br ((snd_lf n220_75)) ((snd_lf n220_72)))) ((snd_br ((snd_lf n220_70)) ((snd_lf n220_67)))))) ((snd_br ((snd_br ((snd_lf n220_66)) ((snd_lf n220_65)))) ((snd_lf n220_62)))))) ((snd_br ((snd_br ((snd_br ((snd_lf n220_59)) ((snd_lf n220_57)))) ((snd_lf n220_56)))) ((snd_br ((snd_br ((snd_lf n220_55)) ((snd_lf n220_54)))) ((snd_lf n220_51)))))))))) ((snd_br ((snd_br ((snd_br ((snd_br ((snd_br ((snd_lf n220_48)) ((snd_lf n220_47)))) ((snd_br ((snd_lf n220_44)) ((snd_lf n220_41)))))) ((snd_br ((snd_br ((snd_lf n220_38)) ((snd_lf n220_35)))) ((snd_lf n220_32)))))) ((snd_br ((snd_br ((snd_br ((snd_lf n220_30)) ((snd_lf n220_29)))) ((snd_lf n220_28)))) ((snd_br ((snd_br ((snd_lf n220_27)) ((snd_lf n220_24)))) ((snd_lf n220_23)))))))) ((snd_br ((snd_br ((snd_br ((snd_br ((snd_lf n220_22)) ((snd_lf n220_19)))) ((snd_lf n220_16)))) ((snd_br ((snd_br ((snd_lf n220_15)) ((snd_lf n220_13)))) ((snd_lf n220_10)))))) ((snd_br ((snd_br ((snd_br ((snd_lf n220_9)) ((snd_lf n220_8)))) ((snd_lf n220_5)))) ((snd_br ((snd_br ((snd_lf n220_4)) ((snd_lf n220_1)))) ((snd_lf n220_0)))))))))))
end
section
variable {G : AG}
theorem n221_0 : Snd mt G 221 0 (oIload 0 1) := w_iload_n (hm := mm221) dJ9_checkIndex_0
theorem n221_1 : Snd mt G 221 1 (oIload 1 2) := w_iload_n (hm := mm221) dJ9_checkIndex_1
theorem n221_2 : Snd mt G 221 2 (oGets 7 5) := w_gets (hm := mm221) (j := 7) dJ9_checkIndex_2 sl_7 q353
theorem n221_5 : Snd mt G 221 5 (oCall 3 (fS 265 3) 0 8 xOut) := s_callS (m' := 265) (n := 3) xsh_out (w_xok0 mm221) (w_cal mm221 mm265 pn_J14 (Nat.le_of_ble_eq_true rfl) (Nat.le_of_ble_eq_true rfl)) (fun h as hn => w_run_S mm221 mm265 dJ9_checkIndex_5 q1255 q721 q146 q722 pa265 hn)
theorem n221_8 : Snd mt G 221 8 (oPop 9) := w_pop (hm := mm221) dJ9_checkIndex_8
theorem n221_9 : Snd mt G 221 9 (oRetV) := w_vret (hm := mm221) dJ9_checkIndex_9 rfl
theorem sj221 : ∀ pc, Snd mt G 221 pc (j221 pc) := fun pc => (snd_br ((snd_br ((snd_br ((snd_lf n221_9)) ((snd_lf n221_8)))) ((snd_lf n221_5)))) ((snd_br ((snd_br ((snd_lf n221_2)) ((snd_lf n221_1)))) ((snd_lf n221_0)))))
end
section
variable {G : AG}
theorem n222_0 : Snd mt G 222 0 (oAload 0 1) := w_aload_n (hm := mm222) dJ9_hashCode_0
theorem n222_1 : Snd mt G 222 1 (oGetf [30, 1030] 2 4) := w_getf (hm := mm222) dJ9_hashCode_1 (fok2 (k := 2) (T := TJ9) 29 (Nat.le_of_ble_eq_true rfl) vc_29 (Nat.le_of_ble_eq_true rfl) q518)
theorem n222_4 : Snd mt G 222 4 (oIstore 1 5) := w_istore_n (hm := mm222) dJ9_hashCode_4 (Nat.le_of_ble_eq_true rfl)
theorem n222_5 : Snd mt G 222 5 (oIload 1 6) := w_iload_n (hm := mm222) dJ9_hashCode_5
theorem n222_6 : Snd mt G 222 6 (oIfEq 9 58) := w_if_ne (hm := mm222) dJ9_hashCode_6 rfl
theorem n222_9 : Snd mt G 222 9 (oAload 0 10) := w_aload_n (hm := mm222) dJ9_hashCode_9
theorem n222_10 : Snd mt G 222 10 (oGetf [30, 1030] 3 13) := w_getf (hm := mm222) dJ9_hashCode_10 (fok2 (k := 3) (T := TJ9) 29 (Nat.le_of_ble_eq_true rfl) vc_29 (Nat.le_of_ble_eq_true rfl) q519)
theorem n222_13 : Snd mt G 222 13 (oIfEq 16 58) := w_if_ne (hm := mm222) dJ9_hashCode_13 rfl
theorem n222_16 : Snd mt G 222 16 (oAload 0 17) := w_aload_n (hm := mm222) dJ9_hashCode_16
theorem n222_17 : Snd mt G 222 17 (oCall 1 (fV [30, 1030] 223 1) 0 20 xOut) := s_callV (m' := 223) (n := 0) xsh_out (w_xok0 mm222) (w_cal mm222 mm223 pn_J9 (Nat.le_of_ble_eq_true rfl) (Nat.le_of_ble_eq_true rfl)) (fun h b as hc hn => w_run_V (ci := 29) mm222 mm223 dJ9_hashCode_17 ((List.mem_cons.mp hc).imp id (fun z => List.mem_singleton.mp z)) (Nat.le_of_ble_eq_true rfl) vc_29 rfl q1261 q1262 q1263 q140 q1264 pa223 hn)
theorem n222_20 : Snd mt G 222 20 (oIfEq 33 23) := w_if_eq (hm := mm222) dJ9_hashCode_20 rfl
theorem n222_23 : Snd mt G 222 23 (oAload 0 24) := w_aload_n (hm := mm222) dJ9_hashCode_23
theorem n222_24 : Snd mt G 222 24 (oGetf [30, 1030] 0 27) := w_getf (hm := mm222) dJ9_hashCode_24 (fok2 (k := 0) (T := TJ9) 29 (Nat.le_of_ble_eq_true rfl) vc_29 (Nat.le_of_ble_eq_true rfl) q516)
theorem n222_27 : Snd mt G 222 27 (oCall 1 (fS 268 1) 0 30 xOut) := s_callS (m' := 268) (n := 1) xsh_out (w_xok0 mm222) (w_cal mm222 mm268 pn_J15 (Nat.le_of_ble_eq_true rfl) (Nat.le_of_ble_eq_true rfl)) (fun h as hn => w_run_S mm222 mm268 dJ9_hashCode_27 q1265 q1266 q147 q1267 pa268 hn)
theorem n222_30 : Snd mt G 222 30 (oGoto 40) := w_goto (hm := mm222) dJ9_hashCode_30 rfl
theorem n222_33 : Snd mt G 222 33 (oAload 0 34) := w_aload_n (hm := mm222) dJ9_hashCode_33
theorem n222_34 : Snd mt G 222 34 (oGetf [30, 1030] 0 37) := w_getf (hm := mm222) dJ9_hashCode_34 (fok2 (k := 0) (T := TJ9) 29 (Nat.le_of_ble_eq_true rfl) vc_29 (Nat.le_of_ble_eq_true rfl) q516)
theorem n222_37 : Snd mt G 222 37 (oCall 1 (fS 242 1) 0 40 xOut) := s_callS (m' := 242) (n := 1) xsh_out (w_xok0 mm222) (w_cal mm222 mm242 pn_J10 (Nat.le_of_ble_eq_true rfl) (Nat.le_of_ble_eq_true rfl)) (fun h as hn => w_run_S mm222 mm242 dJ9_hashCode_37 q1314 q1315 q141 q1316 pa242 hn)
theorem n222_40 : Snd mt G 222 40 (oIstore 1 41) := w_istore_n (hm := mm222) dJ9_hashCode_40 (Nat.le_of_ble_eq_true rfl)
theorem n222_41 : Snd mt G 222 41 (oIload 1 42) := w_iload_n (hm := mm222) dJ9_hashCode_41
theorem n222_42 : Snd mt G 222 42 (oIfEq 45 53) := w_if_ne (hm := mm222) dJ9_hashCode_42 rfl
theorem n222_45 : Snd mt G 222 45 (oAload 0 46) := w_aload_n (hm := mm222) dJ9_hashCode_45
theorem n222_46 : Snd mt G 222 46 (oConst (.int 1) 47) := w_iconst (hm := mm222) dJ9_hashCode_46 rfl
theorem n222_47 : Snd mt G 222 47 (oPutf [30] 3 .boolean 50) := w_putf (hm := mm222) dJ9_hashCode_47 (pok1 (k := 3) (T := TJ9) 29 (Nat.le_of_ble_eq_true rfl) vc_29 (Nat.le_of_ble_eq_true rfl) rfl pd_J9_3 q519)
theorem n222_50 : Snd mt G 222 50 (oGoto 58) := w_goto (hm := mm222) dJ9_hashCode_50 rfl
theorem n222_53 : Snd mt G 222 53 (oAload 0 54) := w_aload_n (hm := mm222) dJ9_hashCode_53
theorem n222_54 : Snd mt G 222 54 (oIload 1 55) := w_iload_n (hm := mm222) dJ9_hashCode_54
theorem n222_55 : Snd mt G 222 55 (oPutf [30] 2 .int 58) := w_putf (hm := mm222) dJ9_hashCode_55 (pok1 (k := 2) (T := TJ9) 29 (Nat.le_of_ble_eq_true rfl) vc_29 (Nat.le_of_ble_eq_true rfl) rfl pd_J9_2 q518)
theorem n222_58 : Snd mt G 222 58 (oIload 1 59) := w_iload_n (hm := mm222) dJ9_hashCode_58
theorem n222_59 : Snd mt G 222 59 (oRetI .int) := w_iret (hm := mm222) dJ9_hashCode_59 rfl
theorem sj222 : ∀ pc, Snd mt G 222 pc (j222 pc) := fun pc => (snd_br ((snd_br ((snd_br ((snd_br ((snd_br ((snd_lf n222_59)) ((snd_lf n222_58)))) ((snd_br ((snd_lf n222_55)) ((snd_lf n222_54)))))) ((snd_br ((snd_br ((snd_lf n222_53)) ((snd_lf n222_50)))) ((snd_br ((snd_lf n222_47)) ((snd_lf n222_46)))))))) ((snd_br ((snd_br ((snd_br ((snd_lf n222_45)) ((snd_lf n222_42)))) ((snd_br ((snd_lf n222_41)) ((snd_lf n222_40)))))) ((snd_br ((snd_br ((snd_lf n222_37)) ((snd_lf n222_34)))) ((snd_lf n222_33)))))))) ((snd_br ((snd_br ((snd_br ((snd_br ((snd_lf n222_30)) ((snd_lf n222_27)))) ((snd_br ((snd_lf n222_24)) ((snd_lf n222_23)))))) ((snd_br ((snd_br ((snd_lf n222_20)) ((snd_lf n222_17)))) ((snd_br ((snd_lf n222_16)) ((snd_lf n222_13)))))))) ((snd_br ((snd_br ((snd_br ((snd_lf n222_10)) ((snd_lf n222_9)))) ((snd_br ((snd_lf n222_6)) ((snd_lf n222_5)))))) ((snd_br ((snd_br ((snd_lf n222_4)) ((snd_lf n222_1)))) ((snd_lf n222_0)))))))))
end
section
variable {G : AG}
theorem n223_0 : Snd mt G 223 0 (oGets 0 3) := w_gets (hm := mm223) (j := 0) dJ9_isLatin1_0 sl_0 q375
theorem n223_3 : Snd mt G 223 3 (oIfEq 17 6) := w_if_eq (hm := mm223) dJ9_isLatin1_3 rfl
theorem n223_6 : Snd mt G 223 6 (oAload 0 7) := w_aload_n (hm := mm223) dJ9_isLatin1_6
theorem n223_7 : Snd mt G 223 7 (oGetf [30, 1030] 1 10) := w_getf (hm := mm223) dJ9_isLatin1_7 (fok2 (k := 1) (T := TJ9) 29 (Nat.le_of_ble_eq_true rfl) vc_29 (Nat.le_of_ble_eq_true rfl) q517)
theorem n223_10 : Snd mt G 223 10 (oIfEq 13 17) := w_if_ne (hm := mm223) dJ9_isLatin1_10 rfl
theorem n223_13 : Snd mt G 223 13 (oConst (.int 1) 14) := w_iconst (hm := mm223) dJ9_isLatin1_13 rfl
theorem n223_14 : Snd mt G 223 14 (oGoto 18) := w_goto (hm := mm223) dJ9_isLatin1_14 rfl
theorem n223_17 : Snd mt G 223 17 (oConst (.int 0) 18) := w_iconst (hm := mm223) dJ9_isLatin1_17 rfl
theorem n223_18 : Snd mt G 223 18 (oRetI .boolean) := w_zret (hm := mm223) dJ9_isLatin1_18 rfl
theorem sj223 : ∀ pc, Snd mt G 223 pc (j223 pc) := fun pc => (snd_br ((snd_br ((snd_br ((snd_br ((snd_lf n223_18)) ((snd_lf n223_17)))) ((snd_lf n223_14)))) ((snd_br ((snd_lf n223_13)) ((snd_lf n223_10)))))) ((snd_br ((snd_br ((snd_lf n223_7)) ((snd_lf n223_6)))) ((snd_br ((snd_lf n223_3)) ((snd_lf n223_0)))))))
end
section
variable {G : AG}
theorem n224_0 : Snd mt G 224 0 (oAload 0 1) := w_aload_n (hm := mm224) dJ9_equals_0
theorem n224_1 : Snd mt G 224 1 (oAload 1 2) := w_aload_n (hm := mm224) dJ9_equals_1
theorem n224_2 : Snd mt G 224 2 (oAcmp 5 7) := w_acmp_ne (hm := mm224) dJ9_equals_2 rfl
theorem n224_5 : Snd mt G 224 5 (oConst (.int 1) 6) := w_iconst (hm := mm224) dJ9_equals_5 rfl
theorem n224_6 : Snd mt G 224 6 (oRetI .boolean) := w_zret (hm := mm224) dJ9_equals_6 rfl
theorem n224_7 : Snd mt G 224 7 (oAload 1 8) := w_aload_n (hm := mm224) dJ9_equals_7
theorem n224_8 : Snd mt G 224 8 (oInst [30, 1030] 11) := w_inst (hm := mm224) (ci := 29) dJ9_equals_8 (Nat.le_of_ble_eq_true rfl) vc_29 q1323 (List.forall_mem_cons.mpr ⟨Or.inl rfl, (List.forall_mem_cons.mpr ⟨Or.inr rfl, (fun t ht => nomatch ht)⟩)⟩)
theorem n224_11 : Snd mt G 224 11 (oIfEq 54 14) := w_if_eq (hm := mm224) dJ9_equals_11 rfl
theorem n224_14 : Snd mt G 224 14 (oAload 1 15) := w_aload_n (hm := mm224) dJ9_equals_14
theorem n224_15 : Snd mt G 224 15 (oCast [30, 1030] 18) := w_cast (hm := mm224) dJ9_equals_15 q1323 (List.forall_mem_cons.mpr ⟨⟨29, _, Or.inl rfl, (Nat.le_of_ble_eq_true rfl), vc_29, Or.inl rfl⟩, (List.forall_mem_cons.mpr ⟨⟨29, _, Or.inr rfl, (Nat.le_of_ble_eq_true rfl), vc_29, Or.inl rfl⟩, (fun t ht => nomatch ht)⟩)⟩)
theorem n224_18 : Snd mt G 224 18 (oAstore 2 19) := w_astore_n (hm := mm224) dJ9_equals_18 (Nat.le_of_ble_eq_true rfl)
theorem n224_19 : Snd mt G 224 19 (oGets 0 22) := w_gets (hm := mm224) (j := 0) dJ9_equals_19 sl_0 q375
theorem n224_22 : Snd mt G 224 22 (oIfEq 36 25) := w_if_eq (hm := mm224) dJ9_equals_22 rfl
theorem n224_25 : Snd mt G 224 25 (oAload 0 26) := w_aload_n (hm := mm224) dJ9_equals_25
theorem n224_26 : Snd mt G 224 26 (oGetf [30, 1030] 1 29) := w_getf (hm := mm224) dJ9_equals_26 (fok2 (k := 1) (T := TJ9) 29 (Nat.le_of_ble_eq_true rfl) vc_29 (Nat.le_of_ble_eq_true rfl) q517)
theorem n224_29 : Snd mt G 224 29 (oAload 2 30) := w_aload_n (hm := mm224) dJ9_equals_29
theorem n224_30 : Snd mt G 224 30 (oGetf [30, 1030] 1 33) := w_getf (hm := mm224) dJ9_equals_30 (fok2 (k := 1) (T := TJ9) 29 (Nat.le_of_ble_eq_true rfl) vc_29 (Nat.le_of_ble_eq_true rfl) q517)
theorem n224_33 : Snd mt G 224 33 (oCmpEq 36 54) := w_icmp_ne (hm := mm224) dJ9_equals_33 rfl
theorem n224_36 : Snd mt G 224 36 (oAload 0 37) := w_aload_n (hm := mm224) dJ9_equals_36
theorem n224_37 : Snd mt G 224 37 (oGetf [30, 1030] 0 40) := w_getf (hm := mm224) dJ9_equals_37 (fok2 (k := 0) (T := TJ9) 29 (Nat.le_of_ble_eq_true rfl) vc_29 (Nat.le_of_ble_eq_true rfl) q516)
theorem n224_40 : Snd mt G 224 40 (oAload 2 41) := w_aload_n (hm := mm224) dJ9_equals_40
theorem n224_41 : Snd mt G 224 41 (oGetf [30, 1030] 0 44) := w_getf (hm := mm224) dJ9_equals_41 (fok2 (k := 0) (T := TJ9) 29 (Nat.le_of_ble_eq_true rfl) vc_29 (Nat.le_of_ble_eq_true rfl) q516)
theorem n224_44 : Snd mt G 224 44 (oCall 2 (fS 269 3) 0 47 xOut) := s_callS (m' := 269) (n := 2) xsh_out (w_xok0 mm224) (w_cal mm224 mm269 pn_J15 (Nat.le_of_ble_eq_true rfl) (Nat.le_of_ble_eq_true rfl)) (fun h as hn => w_run_S mm224 mm269 dJ9_equals_44 q1324 q1325 q147 q1326 pa269 hn)
theorem n224_47 : Snd mt G 224 47 (oIfEq 54 50) := w_if_eq (hm := mm224) dJ9_equals_47 rfl
theorem n224_50 : Snd mt G 224 50 (oConst (.int 1) 51) := w_iconst (hm := mm224) dJ9_equals_50 rfl
theorem n224_51 : Snd mt G 224 51 (oGoto 55) := w_goto (hm := mm224) dJ9_equals_51 rfl
theorem n224_54 : Snd mt G 224 54 (oConst (.int 0) 55) := w_iconst (hm := mm224) dJ9_equals_54 rfl
theorem n224_55 : Snd mt G 224 55 (oRetI .boolean) := w_zret (hm := mm224) dJ9_equals_55 rfl
theorem sj224 : ∀ pc, Snd mt G 224 pc (j224 pc) := fun pc => (snd_br ((snd_br ((snd_br ((snd_br ((snd_br ((snd_lf n224_55)) ((snd_lf n224_54)))) ((snd_br ((snd_lf n224_51)) ((snd_lf n224_50)))))) ((snd_br ((snd_br ((snd_lf n224_47)) ((snd_lf n224_44)))) ((snd_lf n224_41)))))) ((snd_br ((snd_br ((snd_br ((snd_lf n224_40)) ((snd_lf n224_37)))) ((snd_br ((snd_lf n224_36)) ((snd_lf n224_33)))))) ((snd_br ((snd_br ((snd_lf n224_30)) ((snd_lf n224_29)))) ((snd_lf n224_26)))))))) ((snd_br ((snd_br ((snd_br ((snd_br ((snd_lf n224_25)) ((snd_lf n224_22)))) ((snd_br ((snd_lf n224_19)) ((snd_lf n224_18)))))) ((snd_br ((snd_br ((snd_lf n224_15)) ((snd_lf n224_14)))) ((snd_lf n224_11)))))) ((snd_br ((snd_br ((snd_br ((snd_lf n224_8)) ((snd_lf n224_7)))) ((snd_br ((snd_lf n224_6)) ((snd_lf n224_5)))))) ((snd_br ((snd_br ((snd_lf n224_2)) ((snd_lf n224_1)))) ((snd_lf n224_0)))))))))
end
section
variable {G : AG}
theorem n225_0 : Snd mt G 225 0 (oAload 0 1) := w_aload_n (hm := mm225) dJ9_charAt_0
theorem n225_1 : Snd mt G 225 1 (oCall 1 (fV [30, 1030] 223 1) 0 4 xOut) := s_callV (m' := 223) (n := 0) xsh_out (w_xok0 mm225) (w_cal mm225 mm223 pn_J9 (Nat.le_of_ble_eq_true rfl) (Nat.le_of_ble_eq_true rfl)) (fun h b as hc hn => w_run_V (ci := 29) mm225 mm223 dJ9_charAt_1 ((List.mem_cons.mp hc).imp id (fun z => List.mem_singleton.mp z)) (Nat.le_of_ble_eq_true rfl) vc_29 rfl q1261 q1262 q1263 q140 q1264 pa223 hn)
theorem n225_4 : Snd mt G 225 4 (oIfEq 16 7) := w_if_eq (hm := mm225) dJ9_charAt_4 rfl
theorem n225_7 : Snd mt G 225 7 (oAload 0 8) := w_aload_n (hm := mm225) dJ9_charAt_7
theorem n225_8 : Snd mt G 225 8 (oGetf [30, 1030] 0 11) := w_getf (hm := mm225) dJ9_charAt_8 (fok2 (k := 0) (T := TJ9) 29 (Nat.le_of_ble_eq_true rfl) vc_29 (Nat.le_of_ble_eq_true rfl) q516)
theorem n225_11 : Snd mt G 225 11 (oIload 1 12) := w_iload_n (hm := mm225) dJ9_charAt_11
theorem n225_12 : Snd mt G 225 12 (oCall 2 (fS 270 2) 0 15 xOut) := s_callS (m' := 270) (n := 2) xsh_out (w_xok0 mm225) (w_cal mm225 mm270 pn_J15 (Nat.le_of_ble_eq_true rfl) (Nat.le_of_ble_eq_true rfl)) (fun h as hn => w_run_S mm225 mm270 dJ9_charAt_12 q1443 q1444 q147 q1445 pa270 hn)
theorem n225_15 : Snd mt G 225 15 (oRetI .char) := w_zret (hm := mm225) dJ9_charAt_15 rfl
theorem n225_16 : Snd mt G 225 16 (oAload 0 17) := w_aload_n (hm := mm225) dJ9_charAt_16
theorem n225_17 : Snd mt G 225 17 (oGetf [30, 1030] 0 20) := w_getf (hm := mm225) dJ9_charAt_17 (fok2 (k := 0) (T := TJ9) 29 (Nat.le_of_ble_eq_true rfl) vc_29 (Nat.le_of_ble_eq_true rfl) q516)
theorem n225_20 : Snd mt G 225 20 (oIload 1 21) := w_iload_n (hm := mm225) dJ9_charAt_20
theorem n225_21 : Snd mt G 225 21 (oCall 2 (fS 243 2) 0 24 xOut) := s_callS (m' := 243) (n := 2) xsh_out (w_xok0 mm225) (w_cal mm225 mm243 pn_J10 (Nat.le_of_ble_eq_true rfl) (Nat.le_of_ble_eq_true rfl)) (fun h as hn => w_run_S mm225 mm243 dJ9_charAt_21 q1447 q1448 q141 q1449 pa243 hn)
theorem n225_24 : Snd mt G 225 24 (oRetI .char) := w_zret (hm := mm225) dJ9_charAt_24 rfl
theorem sj225 : ∀ pc, Snd mt G 225 pc (j225 pc) := fun pc => (snd_br ((snd_br ((snd_br ((snd_br ((snd_lf n225_24)) ((snd_lf n225_21)))) ((snd_br ((snd_lf n225_20)) ((snd_lf n225_17)))))) ((snd_br ((snd_br ((snd_lf n225_16)) ((snd_lf n225_15)))) ((snd_lf n225_12)))))) ((snd_br ((snd_br ((snd_br ((snd_lf n225_11)) ((snd_lf n225_8)))) ((snd_lf n225_7)))) ((snd_br ((snd_br ((snd_lf n225_4)) ((snd_lf n225_1)))) ((snd_lf n225_0)))))))
end
section
variable {G : AG}
theorem n226_0 : Snd mt G 226 0 (oIload 0 1) := w_iload_n (hm := mm226) dJ10_newBytesFor_0
theorem n226_1 : Snd mt G 226 1 (oCall 1 (fS 227 1) 0 4 xOut) := s_callS (m' := 227) (n := 1) xsh_out (w_xok0 mm226) (w_cal mm226 mm227 pn_J10 (Nat.le_of_ble_eq_true rfl) (Nat.le_of_ble_eq_true rfl)) (fun h as hn => w_run_S mm226 mm227 dJ10_newBytesFor_1 q271 q272 q141 q273 pa227 hn)
theorem n226_4 : Snd mt G 226 4 (oNewa 101 (.int 0) 6) := w_newa (hm := mm226) (kt := 1) dJ10_newBytesFor_4 (Nat.le_of_ble_eq_true rfl) at_1 rfl (fun C q => nomatch q) (Nat.le_of_ble_eq_true rfl) q288
theorem n226_6 : Snd mt G 226 6 (oRetA) := w_aret (hm := mm226) dJ10_newBytesFor_6 rfl (Or.inr ⟨_, rfl⟩)
theorem sj226 : ∀ pc, Snd mt G 226 pc (j226 pc) := fun pc => (snd_br ((snd_br ((snd_lf n226_6)) ((snd_lf n226_4)))) ((snd_br ((snd_lf n226_1)) ((snd_lf n226_0)))))
end
section
variable {G : AG}
theorem n227_0 : Snd mt G 227 0 (oIload 0 1) := w_iload_n (hm := mm227) dJ10_newBytesLength_0
theorem n227_1 : Snd mt G 227 1 (oIfGe 12 4) := w_if_ge (hm := mm227) dJ10_newBytesLength_1 rfl
theorem n227_4 : Snd mt G 227 4 (fun _ _ _ _ => stuck) := snd_stuck
theorem n227_7 : Snd mt G 227 7 (oDup 8) := w_dup (hm := mm227) dJ10_newBytesLength_7
theorem n227_8 : Snd mt G 227 8 (fun _ _ _ _ => stuck) := snd_stuck
theorem n227_11 : Snd mt G 227 11 (oThrow [7]) := w_throw (hm := mm227) dJ10_newBytesLength_11 (List.forall_mem_cons.mpr ⟨⟨6, _, rfl, (Nat.le_of_ble_eq_true rfl), vc_6⟩, (fun t ht => nomatch ht)⟩) rfl
theorem n227_12 : Snd mt G 227 12 (oIload 0 13) := w_iload_n (hm := mm227) dJ10_newBytesLength_12
theorem n227_13 : Snd mt G 227 13 (oConst (.int 1073741823) 15) := w_ldc (hm := mm227) dJ10_newBytesLength_13 q274
theorem n227_15 : Snd mt G 227 15 (oCmpLt 55 18) := w_icmp_lt (hm := mm227) dJ10_newBytesLength_15 rfl
theorem n227_18 : Snd mt G 227 18 (fun _ _ _ _ => stuck) := snd_stuck
theorem n227_21 : Snd mt G 227 21 (oDup 22) := w_dup (hm := mm227) dJ10_newBytesLength_21
theorem n227_22 : Snd mt G 227 22 (fun _ _ _ _ => stuck) := snd_stuck
theorem n227_25 : Snd mt G 227 25 (oDup 26) := w_dup (hm := mm227) dJ10_newBytesLength_25
theorem n227_26 : Snd mt G 227 26 (fun _ _ _ _ => stuck) := snd_stuck
theorem n227_29 : Snd mt G 227 29 (fun _ _ _ _ => stuck) := snd_stuck
theorem n227_31 : Snd mt G 227 31 (fun _ _ _ _ => stuck) := snd_stuck
theorem n227_34 : Snd mt G 227 34 (oIload 0 35) := w_iload_n (hm := mm227) dJ10_newBytesLength_34
theorem n227_35 : Snd mt G 227 35 (fun _ _ _ _ => stuck) := snd_stuck
theorem n227_38 : Snd mt G 227 38 (fun _ _ _ _ => stuck) := snd_stuck
theorem n227_40 : Snd mt G 227 40 (fun _ _ _ _ => stuck) := snd_stuck
theorem n227_43 : Snd mt G 227 43 (oConst (.int 1073741823) 45) := w_ldc (hm := mm227) dJ10_newBytesLength_43 q274
theorem n227_45 : Snd mt G 227 45 (fun _ _ _ _ => stuck) := snd_stuck
theorem n227_48 : Snd mt G 227 48 (fun _ _ _ _ => stuck) := snd_stuck
theorem n227_51 : Snd mt G 227 51 (fun _ _ _ _ => stuck) := snd_stuck
theorem n227_54 : Snd mt G 227 54 (oThrow [7]) := w_throw (hm := mm227) dJ10_newBytesLength_54 (List.forall_mem_cons.mpr ⟨⟨6, _, rfl, (Nat.le_of_ble_eq_true rfl), vc_6⟩, (fun t ht => nomatch ht)⟩) rfl
theorem n227_55 : Snd mt G 227 55 (oIload 0 56) := w_iload_n (hm := mm227) dJ10_newBytesLength_55
theorem n227_56 : Snd mt G 227 56 (oConst (.int 1) 57) := w_iconst (hm := mm227) dJ10_newBytesLength_56 rfl
theorem n227_57 : Snd mt G 227 57 (oBin (fun x y => x <<< (y &&& 31)) 58) := w_ishl (hm := mm227) dJ10_newBytesLength_57
theorem n227_58 : Snd mt G 227 58 (oRetI .int) := w_iret (hm := mm227) dJ10_newBytesLength_58 rfl
theorem sj227 : ∀ pc, Snd mt G 227 pc (j227 pc) := fun pc => (snd_br ((snd_br ((snd_br ((snd_br ((snd_br ((snd_lf n227_58)) ((snd_lf n227_57)))) ((snd_br ((snd_lf n227_56)) ((snd_lf n227_55)))))) ((snd_br ((snd_br ((snd_lf n227_54)) ((snd_lf n227_51)))) ((snd_br ((snd_lf n227_48)) ((snd_lf n227_45)))))))) ((snd_br ((snd_br ((snd_br ((snd_lf n227_43)) ((snd_lf n227_40)))) ((snd_br ((snd_lf n227_38)) ((snd_lf n227_35)))))) ((snd_br ((snd_br ((snd_lf n227_34)) ((snd_lf n227_31)))) ((snd_lf n227_29)))))))) ((snd_br ((snd_br ((snd_br ((snd_br ((snd_lf n227_26)) ((snd_lf n227_25)))) ((snd_br ((snd_lf n227_22)) ((snd_lf n227_21)))))) ((snd_br ((snd_br ((snd_lf n227_18)) ((snd_lf n227_15)))) ((snd_lf n227_13)))))) ((snd_br ((snd_br ((snd_br ((snd_lf n227_12)) ((snd_lf n227_11)))) ((snd_br ((snd_lf n227_8)) ((snd_lf n227_7)))))) ((snd_br ((snd_br ((snd_lf n227_4)) ((snd_lf n227_1)))) ((snd_lf n227_0)))))))))
end
section
variable {G : AG}
theorem n228_0 : Snd mt G 228 0 (oIload 1 1) := w_iload_n (hm := mm228) dJ10_putCharsAt_0
theorem n228_1 : Snd mt G 228 1 (oConst (.int 4) 2) := w_iconst (hm := mm228) dJ10_putCharsAt_1 rfl
theorem n228_2 : Snd mt G 228 2 (oBin (fun x y => x + y) 3) := w_iadd (hm := mm228) dJ10_putCharsAt_2
theorem n228_3 : Snd mt G 228 3 (oIstore 6 5) := w_istore (hm := mm228) dJ10_putCharsAt_3 (Nat.le_of_ble_eq_true rfl)
theorem n228_5 : Snd mt G 228 5 (oIload 1 6) := w_iload_n (hm := mm228) dJ10_putCharsAt_5
theorem n228_6 : Snd mt G 228 6 (oIload 6 8) := w_iload (hm := mm228) dJ10_putCharsAt_6
theorem n228_8 : Snd mt G 228 8 (oAload 0 9) := w_aload_n (hm := mm228) dJ10_putCharsAt_8
theorem n228_9 : Snd mt G 228 9 (oCall 3 (fS 229 3) 0 12 xOut) := s_callS (m' := 229) (n := 3) xsh_out (w_xok0 mm228) (w_cal mm228 mm229 pn_J10 (Nat.le_of_ble_eq_true rfl) (Nat.le_of_ble_eq_true rfl)) (fun h as hn => w_run_S mm228 mm229 dJ10_putCharsAt_9 q344 q345 q141 q346 pa229 hn)
theorem n228_12 : Snd mt G 228 12 (oAload 0 13) := w_aload_n (hm := mm228) dJ10_putCharsAt_12
theorem n228_13 : Snd mt G 228 13 (oIload 1 14) := w_iload_n (hm := mm228) dJ10_putCharsAt_13
theorem n228_14 : Snd mt G 228 14 (oIinc 1 1 17) := w_iinc (hm := mm228) dJ10_putCharsAt_14 rfl (Nat.le_of_ble_eq_true rfl)
theorem n228_17 : Snd mt G 228 17 (oIload 2 18) := w_iload_n (hm := mm228) dJ10_putCharsAt_17
theorem n228_18 : Snd mt G 228 18 (oCall 3 (fS 231 3) 0 21 xOut) := s_callS (m' := 231) (n := 3) xsh_out (w_xok0 mm228) (w_cal mm228 mm231 pn_J10 (Nat.le_of_ble_eq_true rfl) (Nat.le_of_ble_eq_true rfl)) (fun h as hn => w_run_S mm228 mm231 dJ10_putCharsAt_18 q358 q359 q141 q360 pa231 hn)
theorem n228_21 : Snd mt G 228 21 (oAload 0 22) := w_aload_n (hm := mm228) dJ10_putCharsAt_21
theorem n228_22 : Snd mt G 228 22 (oIload 1 23) := w_iload_n (hm := mm228) dJ10_putCharsAt_22
theorem n228_23 : Snd mt G 228 23 (oIinc 1 1 26) := w_iinc (hm := mm228) dJ10_putCharsAt_23 rfl (Nat.le_of_ble_eq_true rfl)
theorem n228_26 : Snd mt G 228 26 (oIload 3 27) := w_iload_n (hm := mm228) dJ10_putCharsAt_26
theorem n228_27 : Snd mt G 228 27 (oCall 3 (fS 231 3) 0 30 xOut) := s_callS (m' := 231) (n := 3) xsh_out (w_xok0 mm228) (w_cal mm228 mm231 pn_J10 (Nat.le_of_ble_eq_true rfl) (Nat.le_of_ble_eq_true rfl)) (fun h as hn => w_run_S mm228 mm231 dJ10_putCharsAt_27 q358 q359 q141 q360 pa231 hn)
theorem n228_30 : Snd mt G 228 30 (oAload 0 31) := w_aload_n (hm := mm228) dJ10_putCharsAt_30
theorem n228_31 : Snd mt G 228 31 (oIload 1 32) := w_iload_n (hm := mm228) dJ10_putCharsAt_31
theorem n228_32 : Snd mt G 228 32 (oIinc 1 1 35) := w_iinc (hm := mm228) dJ10_putCharsAt_32 rfl (Nat.le_of_ble_eq_true rfl)
theorem n228_35 : Snd mt G 228 35 (oIload 4 37) := w_iload (hm := mm228) dJ10_putCharsAt_35
theorem n228_37 : Snd mt G 228 37 (oCall 3 (fS 231 3) 0 40 xOut) := s_callS (m' := 231) (n := 3) xsh_out (w_xok0 mm228) (w_cal mm228 mm231 pn_J10 (Nat.le_of_ble_eq_true rfl) (Nat.le_of_ble_eq_true rfl)) (fun h as hn => w_run_S mm228 mm231 dJ10_putCharsAt_37 q358 q359 q141 q360 pa231 hn)
theorem n228_40 : Snd mt G 228 40 (oAload 0 41) := w_aload_n (hm := mm228) dJ10_putCharsAt_40
theorem n228_41 : Snd mt G 228 41 (oIload 1 42) := w_iload_n (hm := mm228) dJ10_putCharsAt_41
theorem n228_42 : Snd mt G 228 42 (oIinc 1 1 45) := w_iinc (hm := mm228) dJ10_putCharsAt_42 rfl (Nat.le_of_ble_eq_true rfl)
theorem n228_45 : Snd mt G 228 45 (oIload 5 47) := w_iload (hm := mm228) dJ10_putCharsAt_45
theorem n228_47 : Snd mt G 228 47 (oCall 3 (fS 231 3) 0 50 xOut) := s_callS (m' := 231) (n := 3) xsh_out (w_xok0 mm228) (w_cal mm228 mm231 pn_J10 (Nat.le_of_ble_eq_true rfl) (Nat.le_of_ble_eq_true rfl)) (fun h as hn => w_run_S mm228 mm231 dJ10_putCharsAt_47 q358 q359 q141 q360 pa231 hn)
theorem n228_50 : Snd mt G 228 50 (fun _ _ _ _ => stuck) := snd_stuck
theorem n228_53 : Snd mt G 228 53 (oIfEq 56 70) := w_if_ne (hm := mm228) dJ10_putCharsAt_53 rfl
theorem n228_56 : Snd mt G 228 56 (oIload 1 57) := w_iload_n (hm := mm228) dJ10_putCharsAt_56
theorem n228_57 : Snd mt G 228 57 (oIload 6 59) := w_iload (hm := mm228) dJ10_putCharsAt_57
theorem n228_59 : Snd mt G 228 59 (oCmpEq 70 62) := w_icmp_eq (hm := mm228) dJ10_putCharsAt_59 rfl
theorem n228_62 : Snd mt G 228 62 (fun _ _ _ _ => stuck) := snd_stuck
theorem n228_65 : Snd mt G 228 65 (oDup 66) := w_dup (hm := mm228) dJ10_putCharsAt_65
theorem n228_66 : Snd mt G 228 66 (fun _ _ _ _ => stuck) := snd_stuck
theorem n228_69 : Snd mt G 228 69 (oThrow [7]) := w_throw (hm := mm228) dJ10_putCharsAt_69 (List.forall_mem_cons.mpr ⟨⟨6, _, rfl, (Nat.le_of_ble_eq_true rfl), vc_6⟩, (fun t ht => nomatch ht)⟩) rfl
theorem n228_70 : Snd mt G 228 70 (oIload 6 72) := w_iload (hm := mm228) dJ10_putCharsAt_70
theorem n228_72 : Snd mt G 228 72 (oRetI .int) := w_iret (hm := mm228) dJ10_putCharsAt_72 rfl
theorem sj228 : ∀ pc, Snd mt G 228 pc (j228 pc) := fun pc => (snd_br ((snd_br ((snd_br ((snd_br ((snd_br ((snd_br ((snd_lf n228_72)) ((snd_lf n228_70)))) ((snd_lf n228_69)))) ((snd_br ((snd_lf n228_66)) ((snd_lf n228_65)))))) ((snd_br ((snd_br ((snd_br ((snd_lf n228_62)) ((snd_lf n228_59)))) ((snd_lf n228_57)))) ((snd_br ((snd_lf n228_56)) ((snd_lf n228_53)))))))) ((snd_br ((snd_br ((snd_br ((snd_br ((snd_lf n228_50)) ((snd_lf n228_47)))) ((snd_lf n228_45)))) ((snd_br ((snd_lf n228_42)) ((snd_lf n228_41)))))) ((snd_br ((snd_br ((snd_br ((snd_lf n228_40)) ((snd_lf n228_37)))) ((snd_lf n228_35)))) ((snd_br ((snd_lf n228_32)) ((snd_lf n228_31)))))))))) ((snd_br ((snd_br ((snd_br ((snd_br ((snd_br ((snd_lf n228_30)) ((snd_lf n228_27)))) ((snd_lf n228_26)))) ((snd_br ((snd_lf n228_23)) ((snd_lf n228_22)))))) ((snd_br ((snd_br ((snd_br ((snd_lf n228_21)) ((snd_lf n228_18)))) ((snd_lf n228_17)))) ((snd_br ((snd_lf n228_14)) ((snd_lf n228_13)))))))) ((snd_br ((snd_br ((snd_br ((snd_br ((snd_lf n228_12)) ((snd_lf n228_9)))) ((snd_lf n228_8)))) ((snd_br ((snd_lf n228_6)) ((snd_lf n228_5)))))) ((snd_br ((snd_br ((snd_lf n228_3)) ((snd_lf n228_2)))) ((snd_br ((snd_lf n228_1)) ((snd_lf n228_0)))))))))))
end
section
variable {G : AG}
theorem n229_0 : Snd mt G 229 0 (oIload 0 1) := w_iload_n (hm := mm229) dJ10_checkBoundsBeginEnd_0
theorem n229_1 : Snd mt G 229 1 (oIload 1 2) := w_iload_n (hm := mm229) dJ10_checkBoundsBeginEnd_1
theorem n229_2 : Snd mt G 229 2 (oAload 2 3) := w_aload_n (hm := mm229) dJ10_checkBoundsBeginEnd_2
theorem n229_3 : Snd mt G 229 3 (oCall 1 (fS 230 1) 0 6 xOut) := s_callS (m' := 230) (n := 1) xsh_out (w_xok0 mm229) (w_cal mm229 mm230 pn_J10 (Nat.le_of_ble_eq_true rfl) (Nat.le_of_ble_eq_true rfl)) (fun h as hn => w_run_S mm229 mm230 dJ10_checkBoundsBeginEnd_3 q347 q348 q141 q349 pa230 hn)
theorem n229_6 : Snd mt G 229 6 (oCall 3 (fS 214 3) 0 9 xOut) := s_callS (m' := 214) (n := 3) xsh_out (w_xok0 mm229) (w_cal mm229 mm214 pn_J9 (Nat.le_of_ble_eq_true rfl) (Nat.le_of_ble_eq_true rfl)) (fun h as hn => w_run_S mm229 mm214 dJ10_checkBoundsBeginEnd_6 q350 q351 q140 q352 pa214 hn)
theorem n229_9 : Snd mt G 229 9 (oRetV) := w_vret (hm := mm229) dJ10_checkBoundsBeginEnd_9 rfl
theorem sj229 : ∀ pc, Snd mt G 229 pc (j229 pc) := fun pc => (snd_br ((snd_br ((snd_br ((snd_lf n229_9)) ((snd_lf n229_6)))) ((snd_lf n229_3)))) ((snd_br ((snd_br ((snd_lf n229_2)) ((snd_lf n229_1)))) ((snd_lf n229_0)))))
end
section
variable {G : AG}
theorem n230_0 : Snd mt G 230 0 (oAload 0 1) := w_aload_n (hm := mm230) dJ10_length_0
theorem n230_1 : Snd mt G 230 1 (oAlen 2) := w_alen (hm := mm230) dJ10_length_1
theorem n230_2 : Snd mt G 230 2 (oConst (.int 1) 3) := w_iconst (hm := mm230) dJ10_length_2 rfl
theorem n230_3 : Snd mt G 230 3 (oBin (fun x y => x >>> (y &&& 31)) 4) := w_ishr (hm := mm230) dJ10_length_3
theorem n230_4 : Snd mt G 230 4 (oRetI .int) := w_iret (hm := mm230) dJ10_length_4 rfl
theorem sj230 : ∀ pc, Snd mt G 230 pc (j230 pc) := fun pc => (snd_br ((snd_br ((snd_br ((snd_lf n230_4)) ((snd_lf n230_3)))) ((snd_lf n230_2)))) ((snd_br ((snd_lf n230_1)) ((snd_lf n230_0)))))
end
section
variable {G : AG}
theorem n231_0 : Snd mt G 231 0 (fun _ _ _ _ => stuck) := snd_stuck
theorem n231_3 : Snd mt G 231 3 (oIfEq 6 28) := w_if_ne (hm := mm231) dJ10_putChar_3 rfl
theorem n231_6 : Snd mt G 231 6 (oIload 1 7) := w_iload_n (hm := mm231) dJ10_putChar_6
theorem n231_7 : Snd mt G 231 7 (oIfLt 18 10) := w_if_lt (hm := mm231) dJ10_putChar_7 rfl
theorem n231_10 : Snd mt G 231 10 (oIload 1 11) := w_iload_n (hm := mm231) dJ10_putChar_10
theorem n231_11 : Snd mt G 231 11 (oAload 0 12) := w_aload_n (hm := mm231) dJ10_putChar_11
theorem n231_12 : Snd mt G 231 12 (oCall 1 (fS 230 1) 0 15 xOut) := s_callS (m' := 230) (n := 1) xsh_out (w_xok0 mm231) (w_cal mm231 mm230 pn_J10 (Nat.le_of_ble_eq_true rfl) (Nat.le_of_ble_eq_true rfl)) (fun h as hn => w_run_S mm231 mm230 dJ10_putChar_12 q347 q348 q141 q349 pa230 hn)
theorem n231_15 : Snd mt G 231 15 (oCmpLt 28 18) := w_icmp_lt (hm := mm231) dJ10_putChar_15 rfl
theorem n231_18 : Snd mt G 231 18 (fun _ _ _ _ => stuck) := snd_stuck
theorem n231_21 : Snd mt G 231 21 (oDup 22) := w_dup (hm := mm231) dJ10_putChar_21
theorem n231_22 : Snd mt G 231 22 (fun _ _ _ _ => stuck) := snd_stuck
theorem n231_24 : Snd mt G 231 24 (fun _ _ _ _ => stuck) := snd_stuck
theorem n231_27 : Snd mt G 231 27 (oThrow [7]) := w_throw (hm := mm231) dJ10_putChar_27 (List.forall_mem_cons.mpr ⟨⟨6, _, rfl, (Nat.le_of_ble_eq_true rfl), vc_6⟩, (fun t ht => nomatch ht)⟩) rfl
theorem n231_28 : Snd mt G 231 28 (oIload 1 29) := w_iload_n (hm := mm231) dJ10_putChar_28
theorem n231_29 : Snd mt G 231 29 (oConst (.int 1) 30) := w_iconst (hm := mm231) dJ10_putChar_29 rfl
theorem n231_30 : Snd mt G 231 30 (oBin (fun x y => x <<< (y &&& 31)) 31) := w_ishl (hm := mm231) dJ10_putChar_30
theorem n231_31 : Snd mt G 231 31 (oIstore 1 32) := w_istore_n (hm := mm231) dJ10_putChar_31 (Nat.le_of_ble_eq_true rfl)
theorem n231_32 : Snd mt G 231 32 (oAload 0 33) := w_aload_n (hm := mm231) dJ10_putChar_32
theorem n231_33 : Snd mt G 231 33 (oIload 1 34) := w_iload_n (hm := mm231) dJ10_putChar_33
theorem n231_34 : Snd mt G 231 34 (oIinc 1 1 37) := w_iinc (hm := mm231) dJ10_putChar_34 rfl (Nat.le_of_ble_eq_true rfl)
theorem n231_37 : Snd mt G 231 37 (oIload 2 38) := w_iload_n (hm := mm231) dJ10_putChar_37
theorem n231_38 : Snd mt G 231 38 (fun _ _ _ _ => stuck) := snd_stuck
theorem n231_41 : Snd mt G 231 41 (oBin (fun x y => x >>> (y &&& 31)) 42) := w_ishr (hm := mm231) dJ10_putChar_41
theorem n231_42 : Snd mt G 231 42 (oUn (fun x => .int x.toInt8.toInt32) 43) := w_i2b (hm := mm231) dJ10_putChar_42
theorem n231_43 : Snd mt G 231 43 (oBast [101] 44) := w_bastore (hm := mm231) (kt := 1) dJ10_putChar_43 at_1 (Nat.le_of_ble_eq_true rfl) (List.forall_mem_cons.mpr ⟨rfl, (fun t ht => nomatch ht)⟩)
theorem n231_44 : Snd mt G 231 44 (oAload 0 45) := w_aload_n (hm := mm231) dJ10_putChar_44
theorem n231_45 : Snd mt G 231 45 (oIload 1 46) := w_iload_n (hm := mm231) dJ10_putChar_45
theorem n231_46 : Snd mt G 231 46 (oIload 2 47) := w_iload_n (hm := mm231) dJ10_putChar_46
theorem n231_47 : Snd mt G 231 47 (fun _ _ _ _ => stuck) := snd_stuck
theorem n231_50 : Snd mt G 231 50 (oBin (fun x y => x >>> (y &&& 31)) 51) := w_ishr (hm := mm231) dJ10_putChar_50
theorem n231_51 : Snd mt G 231 51 (oUn (fun x => .int x.toInt8.toInt32) 52) := w_i2b (hm := mm231) dJ10_putChar_51
theorem n231_52 : Snd mt G 231 52 (oBast [101] 53) := w_bastore (hm := mm231) (kt := 1) dJ10_putChar_52 at_1 (Nat.le_of_ble_eq_true rfl) (List.forall_mem_cons.mpr ⟨rfl, (fun t ht => nomatch ht)⟩)
theorem n231_53 : Snd mt G 231 53 (oRetV) := w_vret (hm := mm231) dJ10_putChar_53 rfl
theorem sj231 : ∀ pc, Snd mt G 231 pc (j231 pc) := fun pc => (snd_br ((snd_br ((snd_br ((snd_br ((snd_br ((snd_br ((snd_lf n231_53)) ((snd_lf n231_52)))) ((snd_lf n231_51)))) ((snd_br ((snd_lf n231_50)) ((snd_lf n231_47)))))) ((snd_br ((snd_br ((snd_lf n231_46)) ((snd_lf n231_45)))) ((snd_br ((snd_lf n231_44)) ((snd_lf n231_43)))))))) ((snd_br ((snd_br ((snd_br ((snd_lf n231_42)) ((snd_lf n231_41)))) ((snd_br ((snd_lf n231_38)) ((snd_lf n231_37)))))) ((snd_br ((snd_br ((snd_lf n231_34)) ((snd_lf n231_33)))) ((snd_br ((snd_lf n231_32)) ((snd_lf n231_31)))))))))) ((snd_br ((snd_br ((snd_br ((snd_br ((snd_lf n231_30)) ((snd_lf n231_29)))) ((snd_br ((snd_lf n231_28)) ((snd_lf n231_27)))))) ((snd_br ((snd_br ((snd_lf n231_24)) ((snd_lf n231_22)))) ((snd_br ((snd_lf n231_21)) ((snd_lf n231_18)))))))) ((snd_br ((snd_br ((snd_br ((snd_lf n231_15)) ((snd_lf n231_12)))) ((snd_br ((snd_lf n231_11)) ((snd_lf n231_10)))))) ((snd_br ((snd_br ((snd_lf n231_7)) ((snd_lf n231_6)))) ((snd_br ((snd_lf n231_3)) ((snd_lf n231_0)))))))))))
end
section
variable {G : AG}
theorem n232_0 : Snd mt G 232 0 (oIload 3 1) := w_iload_n (hm := mm232) dJ10_inflate_0
theorem n232_1 : Snd mt G 232 1 (oIload 4 3) := w_iload (hm := mm232) dJ10_inflate_1
theorem n232_3 : Snd mt G 232 3 (oAload 2 4) := w_aload_n (hm := mm232) dJ10_inflate_3
theorem n232_4 : Snd mt G 232 4 (oCall 3 (fS 233 3) 0 7 xOut) := s_callS (m' := 233) (n := 3) xsh_out (w_xok0 mm232) (w_cal mm232 mm233 pn_J10 (Nat.le_of_ble_eq_true rfl) (Nat.le_of_ble_eq_true rfl)) (fun h as hn => w_run_S mm232 mm233 dJ10_inflate_4 q395 q396 q141 q397 pa233 hn)
theorem n232_7 : Snd mt G 232 7 (oConst (.int 0) 8) := w_iconst (hm := mm232) dJ10_inflate_7 rfl
theorem n232_8 : Snd mt G 232 8 (oIstore 5 10) := w_istore (hm := mm232) dJ10_inflate_8 (Nat.le_of_ble_eq_true rfl)
theorem n232_10 : Snd mt G 232 10 (oIload 5 12) := w_iload (hm := mm232) dJ10_inflate_10
theorem n232_12 : Snd mt G 232 12 (oIload 4 14) := w_iload (hm := mm232) dJ10_inflate_12
theorem n232_14 : Snd mt G 232 14 (oCmpGe 41 17) := w_icmp_ge (hm := mm232) dJ10_inflate_14 rfl
theorem n232_17 : Snd mt G 232 17 (oAload 2 18) := w_aload_n (hm := mm232) dJ10_inflate_17
theorem n232_18 : Snd mt G 232 18 (oIload 3 19) := w_iload_n (hm := mm232) dJ10_inflate_18
theorem n232_19 : Snd mt G 232 19 (oIinc 3 1 22) := w_iinc (hm := mm232) dJ10_inflate_19 rfl (Nat.le_of_ble_eq_true rfl)
theorem n232_22 : Snd mt G 232 22 (oAload 0 23) := w_aload_n (hm := mm232) dJ10_inflate_22
theorem n232_23 : Snd mt G 232 23 (oIload 1 24) := w_iload_n (hm := mm232) dJ10_inflate_23
theorem n232_24 : Snd mt G 232 24 (oIinc 1 1 27) := w_iinc (hm := mm232) dJ10_inflate_24 rfl (Nat.le_of_ble_eq_true rfl)
theorem n232_27 : Snd mt G 232 27 (oAld [101, 1101] 28) := w_baload (hm := mm232) (kt := 1) dJ10_inflate_27 at_1 (Nat.le_of_ble_eq_true rfl) (List.forall_mem_cons.mpr ⟨Or.inl rfl, (List.forall_mem_cons.mpr ⟨Or.inr rfl, (fun t ht => nomatch ht)⟩)⟩)
theorem n232_28 : Snd mt G 232 28 (oConst (.int 255) 31) := w_sipush (hm := mm232) dJ10_inflate_28 (by decide)
theorem n232_31 : Snd mt G 232 31 (oBin (fun x y => x &&& y) 32) := w_iand (hm := mm232) dJ10_inflate_31
theorem n232_32 : Snd mt G 232 32 (oCall 3 (fS 231 3) 0 35 xOut) := s_callS (m' := 231) (n := 3) xsh_out (w_xok0 mm232) (w_cal mm232 mm231 pn_J10 (Nat.le_of_ble_eq_true rfl) (Nat.le_of_ble_eq_true rfl)) (fun h as hn => w_run_S mm232 mm231 dJ10_inflate_32 q358 q359 q141 q360 pa231 hn)
theorem n232_35 : Snd mt G 232 35 (oIinc 5 1 38) := w_iinc (hm := mm232) dJ10_inflate_35 rfl (Nat.le_of_ble_eq_true rfl)
theorem n232_38 : Snd mt G 232 38 (oGoto 10) := w_goto (hm := mm232) dJ10_inflate_38 rfl
theorem n232_41 : Snd mt G 232 41 (oRetV) := w_vret (hm := mm232) dJ10_inflate_41 rfl
theorem sj232 : ∀ pc, Snd mt G 232 pc (j232 pc) := fun pc => (snd_br ((snd_br ((snd_br ((snd_br ((snd_br ((snd_lf n232_41)) ((snd_lf n232_38)))) ((snd_lf n232_35)))) ((snd_br ((snd_br ((snd_lf n232_32)) ((snd_lf n232_31)))) ((snd_lf n232_28)))))) ((snd_br ((snd_br ((snd_br ((snd_lf n232_27)) ((snd_lf n232_24)))) ((snd_lf n232_23)))) ((snd_br ((snd_lf n232_22)) ((snd_lf n232_19)))))))) ((snd_br ((snd_br ((snd_br ((snd_br ((snd_lf n232_18)) ((snd_lf n232_17)))) ((snd_lf n232_14)))) ((snd_br ((snd_br ((snd_lf n232_12)) ((snd_lf n232_10)))) ((snd_lf n232_8)))))) ((snd_br ((snd_br ((snd_br ((snd_lf n232_7)) ((snd_lf n232_4)))) ((snd_lf n232_3)))) ((snd_br ((snd_lf n232_1)) ((snd_lf n232_0)))))))))
end
section
variable {G : AG}
theorem n233_0 : Snd mt G 233 0 (oIload 0 1) := w_iload_n (hm := mm233) dJ10_checkBoundsOffCount_0
theorem n233_1 : Snd mt G 233 1 (oIload 1 2) := w_iload_n (hm := mm233) dJ10_checkBoundsOffCount_1
theorem n233_2 : Snd mt G 233 2 (oAload 2 3) := w_aload_n (hm := mm233) dJ10_checkBoundsOffCount_2
theorem n233_3 : Snd mt G 233 3 (oCall 1 (fS 230 1) 0 6 xOut) := s_callS (m' := 230) (n := 1) xsh_out (w_xok0 mm233) (w_cal mm233 mm230 pn_J10 (Nat.le_of_ble_eq_true rfl) (Nat.le_of_ble_eq_true rfl)) (fun h as hn => w_run_S mm233 mm230 dJ10_checkBoundsOffCount_3 q347 q348 q141 q349 pa230 hn)
theorem n233_6 : Snd mt G 233 6 (oCall 3 (fS 217 3) 0 9 xOut) := s_callS (m' := 217) (n := 3) xsh_out (w_xok0 mm233) (w_cal mm233 mm217 pn_J9 (Nat.le_of_ble_eq_true rfl) (Nat.le_of_ble_eq_true rfl)) (fun h as hn => w_run_S mm233 mm217 dJ10_checkBoundsOffCount_6 q398 q399 q140 q400 pa217 hn)
theorem n233_9 : Snd mt G 233 9 (oPop 10) := w_pop (hm := mm233) dJ10_checkBoundsOffCount_9
theorem n233_10 : Snd mt G 233 10 (oRetV) := w_vret (hm := mm233) dJ10_checkBoundsOffCount_10 rfl
theorem sj233 : ∀ pc, Snd mt G 233 pc (j233 pc) := fun pc => (snd_br ((snd_br ((snd_br ((snd_lf n233_10)) ((snd_lf n233_9)))) ((snd_br ((snd_lf n233_6)) ((snd_lf n233_3)))))) ((snd_br ((snd_br ((snd_lf n233_2)) ((snd_lf n233_1)))) ((snd_lf n233_0)))))
end
section
variable {G : AG}
theorem n234_0 : Snd mt G 234 0 (oIload 1 1) := w_iload_n (hm := mm234) dJ10_getChars_0
theorem n234_1 : Snd mt G 234 1 (oIload 2 2) := w_iload_n (hm := mm234) dJ10_getChars_1
theorem n234_2 : Snd mt G 234 2 (oAload 3 3) := w_aload_n (hm := mm234) dJ10_getChars_2
theorem n234_3 : Snd mt G 234 3 (oCall 3 (fS 229 3) 0 6 xOut) := s_callS (m' := 229) (n := 3) xsh_out (w_xok0 mm234) (w_cal mm234 mm229 pn_J10 (Nat.le_of_ble_eq_true rfl) (Nat.le_of_ble_eq_true rfl)) (fun h as hn => w_run_S mm234 mm229 dJ10_getChars_3 q344 q345 q141 q346 pa229 hn)
theorem n234_6 : Snd mt G 234 6 (oIload 0 7) := w_iload_n (hm := mm234) dJ10_getChars_6
theorem n234_7 : Snd mt G 234 7 (oIload 2 8) := w_iload_n (hm := mm234) dJ10_getChars_7
theorem n234_8 : Snd mt G 234 8 (oAload 3 9) := w_aload_n (hm := mm234) dJ10_getChars_8
theorem n234_9 : Snd mt G 234 9 (oCall 3 (fS 235 7) 0 12 xOut) := s_callS (m' := 235) (n := 3) xsh_out (w_xok0 mm234) (w_cal mm234 mm235 pn_J10 (Nat.le_of_ble_eq_true rfl) (Nat.le_of_ble_eq_true rfl)) (fun h as hn => w_run_S mm234 mm235 dJ10_getChars_9 q430 q431 q141 q432 pa235 hn)
theorem n234_12 : Snd mt G 234 12 (oIstore 4 14) := w_istore (hm := mm234) dJ10_getChars_12 (Nat.le_of_ble_eq_true rfl)
theorem n234_14 : Snd mt G 234 14 (fun _ _ _ _ => stuck) := snd_stuck
theorem n234_17 : Snd mt G 234 17 (oIfEq 20 34) := w_if_ne (hm := mm234) dJ10_getChars_17 rfl
theorem n234_20 : Snd mt G 234 20 (oIload 1 21) := w_iload_n (hm := mm234) dJ10_getChars_20
theorem n234_21 : Snd mt G 234 21 (oIload 4 23) := w_iload (hm := mm234) dJ10_getChars_21
theorem n234_23 : Snd mt G 234 23 (oCmpEq 34 26) := w_icmp_eq (hm := mm234) dJ10_getChars_23 rfl
theorem n234_26 : Snd mt G 234 26 (fun _ _ _ _ => stuck) := snd_stuck
theorem n234_29 : Snd mt G 234 29 (oDup 30) := w_dup (hm := mm234) dJ10_getChars_29
theorem n234_30 : Snd mt G 234 30 (fun _ _ _ _ => stuck) := snd_stuck
theorem n234_33 : Snd mt G 234 33 (oThrow [7]) := w_throw (hm := mm234) dJ10_getChars_33 (List.forall_mem_cons.mpr ⟨⟨6, _, rfl, (Nat.le_of_ble_eq_true rfl), vc_6⟩, (fun t ht => nomatch ht)⟩) rfl
theorem n234_34 : Snd mt G 234 34 (oIload 4 36) := w_iload (hm := mm234) dJ10_getChars_34
theorem n234_36 : Snd mt G 234 36 (oRetI .int) := w_iret (hm := mm234) dJ10_getChars_36 rfl
theorem sj234 : ∀ pc, Snd mt G 234 pc (j234 pc) := fun pc => (snd_br ((snd_br ((snd_br ((snd_br ((snd_br ((snd_lf n234_36)) ((snd_lf n234_34)))) ((snd_lf n234_33)))) ((snd_br ((snd_lf n234_30)) ((snd_lf n234_29)))))) ((snd_br ((snd_br ((snd_br ((snd_lf n234_26)) ((snd_lf n234_23)))) ((snd_lf n234_21)))) ((snd_br ((snd_lf n234_20)) ((snd_lf n234_17)))))))) ((snd_br ((snd_br ((snd_br ((snd_br ((snd_lf n234_14)) ((snd_lf n234_12)))) ((snd_lf n234_9)))) ((snd_br ((snd_lf n234_8)) ((snd_lf n234_7)))))) ((snd_br ((snd_br ((snd_br ((snd_lf n234_6)) ((snd_lf n234_3)))) ((snd_lf n234_2)))) ((snd_br ((snd_lf n234_1)) ((snd_lf n234_0)))))))))
end
section
variable {G : AG}
theorem n235_0 : Snd mt G 235 0 (oIload 1 1) := w_iload_n (hm := mm235) dJ10_getChars_2_0
theorem n235_1 : Snd mt G 235 1 (oIstore 5 3) := w_istore (hm := mm235) dJ10_getChars_2_1 (Nat.le_of_ble_eq_true rfl)
theorem n235_3 : Snd mt G 235 3 (oIload 0 4) := w_iload_n (hm := mm235) dJ10_getChars_2_3
theorem n235_4 : Snd mt G 235 4 (oIfGe 11 7) := w_if_ge (hm := mm235) dJ10_getChars_2_4 rfl
theorem n235_7 : Snd mt G 235 7 (oConst (.int 1) 8) := w_iconst (hm := mm235) dJ10_getChars_2_7 rfl
theorem n235_8 : Snd mt G 235 8 (oGoto 12) := w_goto (hm := mm235) dJ10_getChars_2_8 rfl
theorem n235_11 : Snd mt G 235 11 (oConst (.int 0) 12) := w_iconst (hm := mm235) dJ10_getChars_2_11 rfl
theorem n235_12 : Snd mt G 235 12 (oIstore 6 14) := w_istore (hm := mm235) dJ10_getChars_2_12 (Nat.le_of_ble_eq_true rfl)
theorem n235_14 : Snd mt G 235 14 (oIload 6 16) := w_iload (hm := mm235) dJ10_getChars_2_14
theorem n235_16 : Snd mt G 235 16 (oIfEq 19 22) := w_if_ne (hm := mm235) dJ10_getChars_2_16 rfl
theorem n235_19 : Snd mt G 235 19 (oIload 0 20) := w_iload_n (hm := mm235) dJ10_getChars_2_19
theorem n235_20 : Snd mt G 235 20 (oUn (fun x => .int (-x)) 21) := w_ineg (hm := mm235) dJ10_getChars_2_20
theorem n235_21 : Snd mt G 235 21 (oIstore 0 22) := w_istore_n (hm := mm235) dJ10_getChars_2_21 (Nat.le_of_ble_eq_true rfl)
theorem n235_22 : Snd mt G 235 22 (oIload 0 23) := w_iload_n (hm := mm235) dJ10_getChars_2_22
theorem n235_23 : Snd mt G 235 23 (oConst (.int (-100)) 25) := w_bipush (hm := mm235) dJ10_getChars_2_23 (by decide)
theorem n235_25 : Snd mt G 235 25 (oCmpGt 76 28) := w_icmp_gt (hm := mm235) dJ10_getChars_2_25 rfl
theorem n235_28 : Snd mt G 235 28 (oIload 0 29) := w_iload_n (hm := mm235) dJ10_getChars_2_28
theorem n235_29 : Snd mt G 235 29 (oConst (.int 100) 31) := w_bipush (hm := mm235) dJ10_getChars_2_29 (by decide)
theorem n235_31 : Snd mt G 235 31 (oDiv (fun x y => x / y) 32) := w_idiv (hm := mm235) dJ10_getChars_2_31
theorem n235_32 : Snd mt G 235 32 (oIstore 3 33) := w_istore_n (hm := mm235) dJ10_getChars_2_32 (Nat.le_of_ble_eq_true rfl)
theorem n235_33 : Snd mt G 235 33 (oIload 3 34) := w_iload_n (hm := mm235) dJ10_getChars_2_33
theorem n235_34 : Snd mt G 235 34 (oConst (.int 100) 36) := w_bipush (hm := mm235) dJ10_getChars_2_34 (by decide)
theorem n235_36 : Snd mt G 235 36 (oBin (fun x y => x * y) 37) := w_imul (hm := mm235) dJ10_getChars_2_36
theorem n235_37 : Snd mt G 235 37 (oIload 0 38) := w_iload_n (hm := mm235) dJ10_getChars_2_37
theorem n235_38 : Snd mt G 235 38 (oBin (fun x y => x - y) 39) := w_isub (hm := mm235) dJ10_getChars_2_38
theorem n235_39 : Snd mt G 235 39 (oIstore 4 41) := w_istore (hm := mm235) dJ10_getChars_2_39 (Nat.le_of_ble_eq_true rfl)
theorem n235_41 : Snd mt G 235 41 (oIload 3 42) := w_iload_n (hm := mm235) dJ10_getChars_2_41
theorem n235_42 : Snd mt G 235 42 (oIstore 0 43) := w_istore_n (hm := mm235) dJ10_getChars_2_42 (Nat.le_of_ble_eq_true rfl)
theorem n235_43 : Snd mt G 235 43 (oAload 2 44) := w_aload_n (hm := mm235) dJ10_getChars_2_43
theorem n235_44 : Snd mt G 235 44 (oIinc 5 (-1) 47) := w_iinc (hm := mm235) dJ10_getChars_2_44 rfl (Nat.le_of_ble_eq_true rfl)
theorem n235_47 : Snd mt G 235 47 (oIload 5 49) := w_iload (hm := mm235) dJ10_getChars_2_47
theorem n235_49 : Snd mt G 235 49 (fun _ _ _ _ => stuck) := snd_stuck
theorem n235_52 : Snd mt G 235 52 (oIload 4 54) := w_iload (hm := mm235) dJ10_getChars_2_52
theorem n235_54 : Snd mt G 235 54 (oAld [101, 1101] 55) := w_baload (hm := mm235) (kt := 1) dJ10_getChars_2_54 at_1 (Nat.le_of_ble_eq_true rfl) (List.forall_mem_cons.mpr ⟨Or.inl rfl, (List.forall_mem_cons.mpr ⟨Or.inr rfl, (fun t ht => nomatch ht)⟩)⟩)
theorem n235_55 : Snd mt G 235 55 (oCall 3 (fS 231 3) 0 58 xOut) := s_callS (m' := 231) (n := 3) xsh_out (w_xok0 mm235) (w_cal mm235 mm231 pn_J10 (Nat.le_of_ble_eq_true rfl) (Nat.le_of_ble_eq_true rfl)) (fun h as hn => w_run_S mm235 mm231 dJ10_getChars_2_55 q358 q359 q141 q360 pa231 hn)
theorem n235_58 : Snd mt G 235 58 (oAload 2 59) := w_aload_n (hm := mm235) dJ10_getChars_2_58
theorem n235_59 : Snd mt G 235 59 (oIinc 5 (-1) 62) := w_iinc (hm := mm235) dJ10_getChars_2_59 rfl (Nat.le_of_ble_eq_true rfl)
theorem n235_62 : Snd mt G 235 62 (oIload 5 64) := w_iload (hm := mm235) dJ10_getChars_2_62
theorem n235_64 : Snd mt G 235 64 (fun _ _ _ _ => stuck) := snd_stuck
theorem n235_67 : Snd mt G 235 67 (oIload 4 69) := w_iload (hm := mm235) dJ10_getChars_2_67
theorem n235_69 : Snd mt G 235 69 (oAld [101, 1101] 70) := w_baload (hm := mm235) (kt := 1) dJ10_getChars_2_69 at_1 (Nat.le_of_ble_eq_true rfl) (List.forall_mem_cons.mpr ⟨Or.inl rfl, (List.forall_mem_cons.mpr ⟨Or.inr rfl, (fun t ht => nomatch ht)⟩)⟩)
theorem n235_70 : Snd mt G 235 70 (oCall 3 (fS 231 3) 0 73 xOut) := s_callS (m' := 231) (n := 3) xsh_out (w_xok0 mm235) (w_cal mm235 mm231 pn_J10 (Nat.le_of_ble_eq_true rfl) (Nat.le_of_ble_eq_true rfl)) (fun h as hn => w_run_S mm235 mm231 dJ10_getChars_2_70 q358 q359 q141 q360 pa231 hn)
theorem n235_73 : Snd mt G 235 73 (oGoto 22) := w_goto (hm := mm235) dJ10_getChars_2_73 rfl
theorem n235_76 : Snd mt G 235 76 (oAload 2 77) := w_aload_n (hm := mm235) dJ10_getChars_2_76
theorem n235_77 : Snd mt G 235 77 (oIinc 5 (-1) 80) := w_iinc (hm := mm235) dJ10_getChars_2_77 rfl (Nat.le_of_ble_eq_true rfl)
theorem n235_80 : Snd mt G 235 80 (oIload 5 82) := w_iload (hm := mm235) dJ10_getChars_2_80
theorem n235_82 : Snd mt G 235 82 (fun _ _ _ _ => stuck) := snd_stuck
theorem n235_85 : Snd mt G 235 85 (oIload 0 86) := w_iload_n (hm := mm235) dJ10_getChars_2_85
theorem n235_86 : Snd mt G 235 86 (oUn (fun x => .int (-x)) 87) := w_ineg (hm := mm235) dJ10_getChars_2_86
theorem n235_87 : Snd mt G 235 87 (oAld [101, 1101] 88) := w_baload (hm := mm235) (kt := 1) dJ10_getChars_2_87 at_1 (Nat.le_of_ble_eq_true rfl) (List.forall_mem_cons.mpr ⟨Or.inl rfl, (List.forall_mem_cons.mpr ⟨Or.inr rfl, (fun t ht => nomatch ht)⟩)⟩)
theorem n235_88 : Snd mt G 235 88 (oCall 3 (fS 231 3) 0 91 xOut) := s_callS (m' := 231) (n := 3) xsh_out (w_xok0 mm235) (w_cal mm235 mm231 pn_J10 (Nat.le_of_ble_eq_true rfl) (Nat.le_of_ble_eq_true rfl)) (fun h as hn => w_run_S mm235 mm231 dJ10_getChars_2_88 q358 q359 q141 q360 pa231 hn)
theorem n235_91 : Snd mt G 235 91 (oIload 0 92) := w_iload_n (hm := mm235) dJ10_getChars_2_91
theorem n235_92 : Snd mt G 235 92 (oConst (.int (-9)) 94) := w_bipush (hm := mm235) dJ10_getChars_2_92 (by decide)
theorem n235_94 : Snd mt G 235 94 (oCmpGe 112 97) := w_icmp_ge (hm := mm235) dJ10_getChars_2_94 rfl
theorem n235_97 : Snd mt G 235 97 (oAload 2 98) := w_aload_n (hm := mm235) dJ10_getChars_2_97
theorem n235_98 : Snd mt G 235 98 (oIinc 5 (-1) 101) := w_iinc (hm := mm235) dJ10_getChars_2_98 rfl (Nat.le_of_ble_eq_true rfl)
theorem n235_101 : Snd mt G 235 101 (oIload 5 103) := w_iload (hm := mm235) dJ10_getChars_2_101
theorem n235_103 : Snd mt G 235 103 (fun _ _ _ _ => stuck) := snd_stuck
theorem n235_106 : Snd mt G 235 106 (oIload 0 107) := w_iload_n (hm := mm235) dJ10_getChars_2_106
theorem n235_107 : Snd mt G 235 107 (oUn (fun x => .int (-x)) 108) := w_ineg (hm := mm235) dJ10_getChars_2_107
theorem n235_108 : Snd mt G 235 108 (oAld [101, 1101] 109) := w_baload (hm := mm235) (kt := 1) dJ10_getChars_2_108 at_1 (Nat.le_of_ble_eq_true rfl) (List.forall_mem_cons.mpr ⟨Or.inl rfl, (List.forall_mem_cons.mpr ⟨Or.inr rfl, (fun t ht => nomatch ht)⟩)⟩)
theorem n235_109 : Snd mt G 235 109 (oCall 3 (fS 231 3) 0 112 xOut) := s_callS (m' := 231) (n := 3) xsh_out (w_xok0 mm235) (w_cal mm235 mm231 pn_J10 (Nat.le_of_ble_eq_true rfl) (Nat.le_of_ble_eq_true rfl)) (fun h as hn => w_run_S mm235 mm231 dJ10_getChars_2_109 q358 q359 q141 q360 pa231 hn)
theorem n235_112 : Snd mt G 235 112 (oIload 6 114) := w_iload (hm := mm235) dJ10_getChars_2_112
theorem n235_114 : Snd mt G 235 114 (oIfEq 128 117) := w_if_eq (hm := mm235) dJ10_getChars_2_114 rfl
theorem n235_117 : Snd mt G 235 117 (oAload 2 118) := w_aload_n (hm := mm235) dJ10_getChars_2_117
theorem n235_118 : Snd mt G 235 118 (oIinc 5 (-1) 121) := w_iinc (hm := mm235) dJ10_getChars_2_118 rfl (Nat.le_of_ble_eq_true rfl)
theorem n235_121 : Snd mt G 235 121 (oIload 5 123) := w_iload (hm := mm235) dJ10_getChars_2_121
theorem n235_123 : Snd mt G 235 123 (oConst (.int 45) 125) := w_bipush (hm := mm235) dJ10_getChars_2_123 (by decide)
theorem n235_125 : Snd mt G 235 125 (oCall 3 (fS 231 3) 0 128 xOut) := s_callS (m' := 231) (n := 3) xsh_out (w_xok0 mm235) (w_cal mm235 mm231 pn_J10 (Nat.le_of_ble_eq_true rfl) (Nat.le_of_ble_eq_true rfl)) (fun h as hn => w_run_S mm235 mm231 dJ10_getChars_2_125 q358 q359 q141 q360 pa231 hn)
theorem n235_128 : Snd mt G 235 128 (oIload 5 130) := w_iload (hm := mm235) dJ10_getChars_2_128
theorem n235_130 : Snd mt G 235 130 (oRetI .int) := w_iret (hm := mm235) dJ10_getChars_2_130 rfl
theorem sj235 : ∀ pc, Snd mt G 235 pc (j235 pc) := fun pc => (snd_br ((snd_br ((snd_br ((snd_br ((snd_br ((snd_br ((snd_br ((snd_lf n235_130)) ((snd_lf n235_128)))) ((snd_lf n235_125)))) ((snd_br ((snd_lf n235_123)) ((snd_lf n235_121)))))) ((snd_br ((snd_br ((snd_lf n235_118)) ((snd_lf n235_117)))) ((snd_br ((snd_lf n235_114)) ((snd_lf n235_112)))))))) ((snd_br ((snd_br ((snd_br ((snd_br ((snd_lf n235_109)) ((snd_lf n235_108)))) ((snd_lf n235_107)))) ((snd_br ((snd_lf n235_106)) ((snd_lf n235_103)))))) ((snd_br ((snd_br ((snd_lf n235_101)) ((snd_lf n235_98)))) ((snd_br ((snd_lf n235_97)) ((snd_lf n235_94)))))))))) ((snd_br ((snd_br ((snd_br ((snd_br ((snd_br ((snd_lf n235_92)) ((snd_lf n235_91)))) ((snd_lf n235_88)))) ((snd_br ((snd_lf n235_87)) ((snd_lf n235_86)))))) ((snd_br ((snd_br ((snd_lf n235_85)) ((snd_lf n235_82)))) ((snd_br ((snd_lf n235_80)) ((snd_lf n235_77)))))))) ((snd_br ((snd_br ((snd_br ((snd_br ((snd_lf n235_76)) ((snd_lf n235_73)))) ((snd_lf n235_70)))) ((snd_br ((snd_lf n235_69)) ((snd_lf n235_67)))))) ((snd_br ((snd_br ((snd_lf n235_64)) ((snd_lf n235_62)))) ((snd_br ((snd_lf n235_59)) ((snd_lf n235_58)))))))))))) ((snd_br ((snd_br ((snd_br ((snd_br ((snd_br ((snd_br ((snd_lf n235_55)) ((snd_lf n235_54)))) ((snd_lf n235_52)))) ((snd_br ((snd_lf n235_49)) ((snd_lf n235_47)))))) ((snd_br ((snd_br ((snd_lf n235_44)) ((snd_lf n235_43)))) ((snd_br ((snd_lf n235_42)) ((snd_lf n235_41)))))))) ((snd_br ((snd_br ((snd_br ((snd_br ((snd_lf n235_39)) ((snd_lf n235_38)))) ((snd_lf n235_37)))) ((snd_br ((snd_lf n235_36)) ((snd_lf n235_34)))))) ((snd_br ((snd_br ((snd_lf n235_33)) ((snd_lf n235_32)))) ((snd_br ((snd_lf n235_31)) ((snd_lf n235_29)))))))))) ((snd_br ((snd_br ((snd_br ((snd_br ((snd_br ((snd_lf n235_28)) ((snd_lf n235_25)))) ((snd_lf n235_23)))) ((snd_br ((snd_lf n235_22)) ((snd_lf n235_21)))))) ((snd_br ((snd_br ((snd_lf n235_20)) ((snd_lf n235_19)))) ((snd_br ((snd_lf n235_16)) ((snd_lf n235_14)))))))) ((snd_br ((snd_br ((snd_br ((snd_lf n235_12)) ((snd_lf n235_11)))) ((snd_br ((snd_lf n235_8)) ((snd_lf n235_7)))))) ((snd_br ((snd_br ((snd_lf n235_4)) ((snd_lf n235_3)))) ((snd_br ((snd_lf n235_1)) ((snd_lf n235_0)))))))))))))
end
section
variable {G : AG}
theorem n236_0 : Snd mt G 236 0 (oIload 2 1) := w_iload_n (hm := mm236) dJ10_compress_0
theorem n236_1 : Snd mt G 236 1 (oNewa 101 (.int 0) 3) := w_newa (hm := mm236) (kt := 1) dJ10_compress_1 (Nat.le_of_ble_eq_true rfl) at_1 rfl (fun C q => nomatch q) (Nat.le_of_ble_eq_true rfl) q288
theorem n236_3 : Snd mt G 236 3 (oAstore 3 4) := w_astore_n (hm := mm236) dJ10_compress_3 (Nat.le_of_ble_eq_true rfl)
theorem n236_4 : Snd mt G 236 4 (oAload 0 5) := w_aload_n (hm := mm236) dJ10_compress_4
theorem n236_5 : Snd mt G 236 5 (oIload 1 6) := w_iload_n (hm := mm236) dJ10_compress_5
theorem n236_6 : Snd mt G 236 6 (oAload 3 7) := w_aload_n (hm := mm236) dJ10_compress_6
theorem n236_7 : Snd mt G 236 7 (oConst (.int 0) 8) := w_iconst (hm := mm236) dJ10_compress_7 rfl
theorem n236_8 : Snd mt G 236 8 (oIload 2 9) := w_iload_n (hm := mm236) dJ10_compress_8
theorem n236_9 : Snd mt G 236 9 (oCall 5 (fS 237 7) 0 12 xOut) := s_callS (m' := 237) (n := 5) xsh_out (w_xok0 mm236) (w_cal mm236 mm237 pn_J10 (Nat.le_of_ble_eq_true rfl) (Nat.le_of_ble_eq_true rfl)) (fun h as hn => w_run_S mm236 mm237 dJ10_compress_9 q506 q507 q141 q508 pa237 hn)
theorem n236_12 : Snd mt G 236 12 (oIstore 4 14) := w_istore (hm := mm236) dJ10_compress_12 (Nat.le_of_ble_eq_true rfl)
theorem n236_14 : Snd mt G 236 14 (oIload 4 16) := w_iload (hm := mm236) dJ10_compress_14
theorem n236_16 : Snd mt G 236 16 (oIload 2 17) := w_iload_n (hm := mm236) dJ10_compress_16
theorem n236_17 : Snd mt G 236 17 (oCmpEq 64 20) := w_icmp_eq (hm := mm236) dJ10_compress_17 rfl
theorem n236_20 : Snd mt G 236 20 (oAload 0 21) := w_aload_n (hm := mm236) dJ10_compress_20
theorem n236_21 : Snd mt G 236 21 (oIload 1 22) := w_iload_n (hm := mm236) dJ10_compress_21
theorem n236_22 : Snd mt G 236 22 (oConst (.int 1) 23) := w_iconst (hm := mm236) dJ10_compress_22 rfl
theorem n236_23 : Snd mt G 236 23 (oBin (fun x y => x <<< (y &&& 31)) 24) := w_ishl (hm := mm236) dJ10_compress_23
theorem n236_24 : Snd mt G 236 24 (oIload 1 25) := w_iload_n (hm := mm236) dJ10_compress_24
theorem n236_25 : Snd mt G 236 25 (oIload 2 26) := w_iload_n (hm := mm236) dJ10_compress_25
theorem n236_26 : Snd mt G 236 26 (oBin (fun x y => x + y) 27) := w_iadd (hm := mm236) dJ10_compress_26
theorem n236_27 : Snd mt G 236 27 (oCall 1 (fS 227 1) 0 30 xOut) := s_callS (m' := 227) (n := 1) xsh_out (w_xok0 mm236) (w_cal mm236 mm227 pn_J10 (Nat.le_of_ble_eq_true rfl) (Nat.le_of_ble_eq_true rfl)) (fun h as hn => w_run_S mm236 mm227 dJ10_compress_27 q271 q272 q141 q273 pa227 hn)
theorem n236_30 : Snd mt G 236 30 (oCall 3 (fS 258 3) 1 33 xOut) := s_callS (m' := 258) (n := 3) xsh_out (w_xok0 mm236) (w_cal mm236 mm258 pn_J13 (Nat.le_of_ble_eq_true rfl) (Nat.le_of_ble_eq_true rfl)) (fun h as hn => w_run_S mm236 mm258 dJ10_compress_30 q512 q463 q144 q464 pa258 hn)
theorem n236_33 : Snd mt G 236 33 (oAstore 5 35) := w_astore (hm := mm236) dJ10_compress_33 (Nat.le_of_ble_eq_true rfl)
theorem n236_35 : Snd mt G 236 35 (oAload 5 37) := w_aload (hm := mm236) dJ10_compress_35
theorem n236_37 : Snd mt G 236 37 (oIload 4 39) := w_iload (hm := mm236) dJ10_compress_37
theorem n236_39 : Snd mt G 236 39 (oCall 2 (fS 238 2) 0 42 xOut) := s_callS (m' := 238) (n := 2) xsh_out (w_xok0 mm236) (w_cal mm236 mm238 pn_J10 (Nat.le_of_ble_eq_true rfl) (Nat.le_of_ble_eq_true rfl)) (fun h as hn => w_run_S mm236 mm238 dJ10_compress_39 q509 q510 q141 q511 pa238 hn)
theorem n236_42 : Snd mt G 236 42 (oConst (.int 255) 45) := w_sipush (hm := mm236) dJ10_compress_42 (by decide)
theorem n236_45 : Snd mt G 236 45 (oCmpGt 61 48) := w_icmp_gt (hm := mm236) dJ10_compress_45 rfl
theorem n236_48 : Snd mt G 236 48 (oAload 5 50) := w_aload (hm := mm236) dJ10_compress_48
theorem n236_50 : Snd mt G 236 50 (oConst (.int 0) 51) := w_iconst (hm := mm236) dJ10_compress_50 rfl
theorem n236_51 : Snd mt G 236 51 (oAload 3 52) := w_aload_n (hm := mm236) dJ10_compress_51
theorem n236_52 : Snd mt G 236 52 (oConst (.int 0) 53) := w_iconst (hm := mm236) dJ10_compress_52 rfl
theorem n236_53 : Snd mt G 236 53 (oIload 2 54) := w_iload_n (hm := mm236) dJ10_compress_53
theorem n236_54 : Snd mt G 236 54 (oCall 5 (fS 237 7) 0 57 xOut) := s_callS (m' := 237) (n := 5) xsh_out (w_xok0 mm236) (w_cal mm236 mm237 pn_J10 (Nat.le_of_ble_eq_true rfl) (Nat.le_of_ble_eq_true rfl)) (fun h as hn => w_run_S mm236 mm237 dJ10_compress_54 q506 q507 q141 q508 pa237 hn)
theorem n236_57 : Snd mt G 236 57 (oIload 2 58) := w_iload_n (hm := mm236) dJ10_compress_57
theorem n236_58 : Snd mt G 236 58 (oCmpEq 64 61) := w_icmp_eq (hm := mm236) dJ10_compress_58 rfl
theorem n236_61 : Snd mt G 236 61 (oAload 5 63) := w_aload (hm := mm236) dJ10_compress_61
theorem n236_63 : Snd mt G 236 63 (oRetA) := w_aret (hm := mm236) dJ10_compress_63 rfl (Or.inr ⟨_, rfl⟩)
theorem n236_64 : Snd mt G 236 64 (oAload 3 65) := w_aload_n (hm := mm236) dJ10_compress_64
theorem n236_65 : Snd mt G 236 65 (oRetA) := w_aret (hm := mm236) dJ10_compress_65 rfl (Or.inr ⟨_, rfl⟩)
theorem sj236 : ∀ pc, Snd mt G 236 pc (j236 pc) := fun pc => (snd_br ((snd_br ((snd_br ((snd_br ((snd_br ((snd_br ((snd_lf n236_65)) ((snd_lf n236_64)))) ((snd_lf n236_63)))) ((snd_br ((snd_lf n236_61)) ((snd_lf n236_58)))))) ((snd_br ((snd_br ((snd_br ((snd_lf n236_57)) ((snd_lf n236_54)))) ((snd_lf n236_53)))) ((snd_br ((snd_lf n236_52)) ((snd_lf n236_51)))))))) ((snd_br ((snd_br ((snd_br ((snd_br ((snd_lf n236_50)) ((snd_lf n236_48)))) ((snd_lf n236_45)))) ((snd_br ((snd_lf n236_42)) ((snd_lf n236_39)))))) ((snd_br ((snd_br ((snd_br ((snd_lf n236_37)) ((snd_lf n236_35)))) ((snd_lf n236_33)))) ((snd_br ((snd_lf n236_30)) ((snd_lf n236_27)))))))))) ((snd_br ((snd_br ((snd_br ((snd_br ((snd_br ((snd_lf n236_26)) ((snd_lf n236_25)))) ((snd_lf n236_24)))) ((snd_br ((snd_lf n236_23)) ((snd_lf n236_22)))))) ((snd_br ((snd_br ((snd_br ((snd_lf n236_21)) ((snd_lf n236_20)))) ((snd_lf n236_17)))) ((snd_br ((snd_lf n236_16)) ((snd_lf n236_14)))))))) ((snd_br ((snd_br ((snd_br ((snd_br ((snd_lf n236_12)) ((snd_lf n236_9)))) ((snd_lf n236_8)))) ((snd_br ((snd_lf n236_7)) ((snd_lf n236_6)))))) ((snd_br ((snd_br ((snd_br ((snd_lf n236_5)) ((snd_lf n236_4)))) ((snd_lf n236_3)))) ((snd_br ((snd_lf n236_1)) ((snd_lf n236_0)))))))))))
end
section
variable {G : AG}
theorem n237_0 : Snd mt G 237 0 (oIload 1 1) := w_iload_n (hm := mm237) dJ10_compress_2_0
theorem n237_1 : Snd mt G 237 1 (oIload 4 3) := w_iload (hm := mm237) dJ10_compress_2_1
theorem n237_3 : Snd mt G 237 3 (oAload 0 4) := w_aload_n (hm := mm237) dJ10_compress_2_3
theorem n237_4 : Snd mt G 237 4 (oCall 3 (fS 233 3) 0 7 xOut) := s_callS (m' := 233) (n := 3) xsh_out (w_xok0 mm237) (w_cal mm237 mm233 pn_J10 (Nat.le_of_ble_eq_true rfl) (Nat.le_of_ble_eq_true rfl)) (fun h as hn => w_run_S mm237 mm233 dJ10_compress_2_4 q395 q396 q141 q397 pa233 hn)
theorem n237_7 : Snd mt G 237 7 (oConst (.int 0) 8) := w_iconst (hm := mm237) dJ10_compress_2_7 rfl
theorem n237_8 : Snd mt G 237 8 (oIstore 5 10) := w_istore (hm := mm237) dJ10_compress_2_8 (Nat.le_of_ble_eq_true rfl)
theorem n237_10 : Snd mt G 237 10 (oIload 5 12) := w_iload (hm := mm237) dJ10_compress_2_10
theorem n237_12 : Snd mt G 237 12 (oIload 4 14) := w_iload (hm := mm237) dJ10_compress_2_12
theorem n237_14 : Snd mt G 237 14 (oCmpGe 53 17) := w_icmp_ge (hm := mm237) dJ10_compress_2_14 rfl
theorem n237_17 : Snd mt G 237 17 (oAload 0 18) := w_aload_n (hm := mm237) dJ10_compress_2_17
theorem n237_18 : Snd mt G 237 18 (oIload 1 19) := w_iload_n (hm := mm237) dJ10_compress_2_18
theorem n237_19 : Snd mt G 237 19 (oCall 2 (fS 238 2) 0 22 xOut) := s_callS (m' := 238) (n := 2) xsh_out (w_xok0 mm237) (w_cal mm237 mm238 pn_J10 (Nat.le_of_ble_eq_true rfl) (Nat.le_of_ble_eq_true rfl)) (fun h as hn => w_run_S mm237 mm238 dJ10_compress_2_19 q509 q510 q141 q511 pa238 hn)
theorem n237_22 : Snd mt G 237 22 (oIstore 6 24) := w_istore (hm := mm237) dJ10_compress_2_22 (Nat.le_of_ble_eq_true rfl)
theorem n237_24 : Snd mt G 237 24 (oIload 6 26) := w_iload (hm := mm237) dJ10_compress_2_24
theorem n237_26 : Snd mt G 237 26 (oConst (.int 255) 29) := w_sipush (hm := mm237) dJ10_compress_2_26 (by decide)
theorem n237_29 : Snd mt G 237 29 (oCmpLe 35 32) := w_icmp_le (hm := mm237) dJ10_compress_2_29 rfl
theorem n237_32 : Snd mt G 237 32 (oIload 5 34) := w_iload (hm := mm237) dJ10_compress_2_32
theorem n237_34 : Snd mt G 237 34 (oRetI .int) := w_iret (hm := mm237) dJ10_compress_2_34 rfl
theorem n237_35 : Snd mt G 237 35 (oAload 2 36) := w_aload_n (hm := mm237) dJ10_compress_2_35
theorem n237_36 : Snd mt G 237 36 (oIload 3 37) := w_iload_n (hm := mm237) dJ10_compress_2_36
theorem n237_37 : Snd mt G 237 37 (oIload 6 39) := w_iload (hm := mm237) dJ10_compress_2_37
theorem n237_39 : Snd mt G 237 39 (oUn (fun x => .int x.toInt8.toInt32) 40) := w_i2b (hm := mm237) dJ10_compress_2_39
theorem n237_40 : Snd mt G 237 40 (oBast [101] 41) := w_bastore (hm := mm237) (kt := 1) dJ10_compress_2_40 at_1 (Nat.le_of_ble_eq_true rfl) (List.forall_mem_cons.mpr ⟨rfl, (fun t ht => nomatch ht)⟩)
theorem n237_41 : Snd mt G 237 41 (oIinc 1 1 44) := w_iinc (hm := mm237) dJ10_compress_2_41 rfl (Nat.le_of_ble_eq_true rfl)
theorem n237_44 : Snd mt G 237 44 (oIinc 3 1 47) := w_iinc (hm := mm237) dJ10_compress_2_44 rfl (Nat.le_of_ble_eq_true rfl)
theorem n237_47 : Snd mt G 237 47 (oIinc 5 1 50) := w_iinc (hm := mm237) dJ10_compress_2_47 rfl (Nat.le_of_ble_eq_true rfl)
theorem n237_50 : Snd mt G 237 50 (oGoto 10) := w_goto (hm := mm237) dJ10_compress_2_50 rfl
theorem n237_53 : Snd mt G 237 53 (oIload 4 55) := w_iload (hm := mm237) dJ10_compress_2_53
theorem n237_55 : Snd mt G 237 55 (oRetI .int) := w_iret (hm := mm237) dJ10_compress_2_55 rfl
theorem sj237 : ∀ pc, Snd mt G 237 pc (j237 pc) := fun pc => (snd_br ((snd_br ((snd_br ((snd_br ((snd_br ((snd_lf n237_55)) ((snd_lf n237_53)))) ((snd_br ((snd_lf n237_50)) ((snd_lf n237_47)))))) ((snd_br ((snd_br ((snd_lf n237_44)) ((snd_lf n237_41)))) ((snd_br ((snd_lf n237_40)) ((snd_lf n237_39)))))))) ((snd_br ((snd_br ((snd_br ((snd_lf n237_37)) ((snd_lf n237_36)))) ((snd_br ((snd_lf n237_35)) ((snd_lf n237_34)))))) ((snd_br ((snd_br ((snd_lf n237_32)) ((snd_lf n237_29)))) ((snd_lf n237_26)))))))) ((snd_br ((snd_br ((snd_br ((snd_br ((snd_lf n237_24)) ((snd_lf n237_22)))) ((snd_br ((snd_lf n237_19)) ((snd_lf n237_18)))))) ((snd_br ((snd_br ((snd_lf n237_17)) ((snd_lf n237_14)))) ((snd_lf n237_12)))))) ((snd_br ((snd_br ((snd_br ((snd_lf n237_10)) ((snd_lf n237_8)))) ((snd_br ((snd_lf n237_7)) ((snd_lf n237_4)))))) ((snd_br ((snd_br ((snd_lf n237_3)) ((snd_lf n237_1)))) ((snd_lf n237_0)))))))))
end
section
variable {G : AG}
theorem n238_0 : Snd mt G 238 0 (fun _ _ _ _ => stuck) := snd_stuck
theorem n238_3 : Snd mt G 238 3 (oIfEq 6 28) := w_if_ne (hm := mm238) dJ10_getChar_3 rfl
theorem n238_6 : Snd mt G 238 6 (oIload 1 7) := w_iload_n (hm := mm238) dJ10_getChar_6
theorem n238_7 : Snd mt G 238 7 (oIfLt 18 10) := w_if_lt (hm := mm238) dJ10_getChar_7 rfl
theorem n238_10 : Snd mt G 238 10 (oIload 1 11) := w_iload_n (hm := mm238) dJ10_getChar_10
theorem n238_11 : Snd mt G 238 11 (oAload 0 12) := w_aload_n (hm := mm238) dJ10_getChar_11
theorem n238_12 : Snd mt G 238 12 (oCall 1 (fS 230 1) 0 15 xOut) := s_callS (m' := 230) (n := 1) xsh_out (w_xok0 mm238) (w_cal mm238 mm230 pn_J10 (Nat.le_of_ble_eq_true rfl) (Nat.le_of_ble_eq_true rfl)) (fun h as hn => w_run_S mm238 mm230 dJ10_getChar_12 q347 q348 q141 q349 pa230 hn)
theorem n238_15 : Snd mt G 238 15 (oCmpLt 28 18) := w_icmp_lt (hm := mm238) dJ10_getChar_15 rfl
theorem n238_18 : Snd mt G 238 18 (fun _ _ _ _ => stuck) := snd_stuck
theorem n238_21 : Snd mt G 238 21 (oDup 22) := w_dup (hm := mm238) dJ10_getChar_21
theorem n238_22 : Snd mt G 238 22 (fun _ _ _ _ => stuck) := snd_stuck
theorem n238_24 : Snd mt G 238 24 (fun _ _ _ _ => stuck) := snd_stuck
theorem n238_27 : Snd mt G 238 27 (oThrow [7]) := w_throw (hm := mm238) dJ10_getChar_27 (List.forall_mem_cons.mpr ⟨⟨6, _, rfl, (Nat.le_of_ble_eq_true rfl), vc_6⟩, (fun t ht => nomatch ht)⟩) rfl
theorem n238_28 : Snd mt G 238 28 (oIload 1 29) := w_iload_n (hm := mm238) dJ10_getChar_28
theorem n238_29 : Snd mt G 238 29 (oConst (.int 1) 30) := w_iconst (hm := mm238) dJ10_getChar_29 rfl
theorem n238_30 : Snd mt G 238 30 (oBin (fun x y => x <<< (y &&& 31)) 31) := w_ishl (hm := mm238) dJ10_getChar_30
theorem n238_31 : Snd mt G 238 31 (oIstore 1 32) := w_istore_n (hm := mm238) dJ10_getChar_31 (Nat.le_of_ble_eq_true rfl)
theorem n238_32 : Snd mt G 238 32 (oAload 0 33) := w_aload_n (hm := mm238) dJ10_getChar_32
theorem n238_33 : Snd mt G 238 33 (oIload 1 34) := w_iload_n (hm := mm238) dJ10_getChar_33
theorem n238_34 : Snd mt G 238 34 (oIinc 1 1 37) := w_iinc (hm := mm238) dJ10_getChar_34 rfl (Nat.le_of_ble_eq_true rfl)
theorem n238_37 : Snd mt G 238 37 (oAld [101, 1101] 38) := w_baload (hm := mm238) (kt := 1) dJ10_getChar_37 at_1 (Nat.le_of_ble_eq_true rfl) (List.forall_mem_cons.mpr ⟨Or.inl rfl, (List.forall_mem_cons.mpr ⟨Or.inr rfl, (fun t ht => nomatch ht)⟩)⟩)
theorem n238_38 : Snd mt G 238 38 (oConst (.int 255) 41) := w_sipush (hm := mm238) dJ10_getChar_38 (by decide)
theorem n238_41 : Snd mt G 238 41 (oBin (fun x y => x &&& y) 42) := w_iand (hm := mm238) dJ10_getChar_41
theorem n238_42 : Snd mt G 238 42 (fun _ _ _ _ => stuck) := snd_stuck
theorem n238_45 : Snd mt G 238 45 (oBin (fun x y => x <<< (y &&& 31)) 46) := w_ishl (hm := mm238) dJ10_getChar_45
theorem n238_46 : Snd mt G 238 46 (oAload 0 47) := w_aload_n (hm := mm238) dJ10_getChar_46
theorem n238_47 : Snd mt G 238 47 (oIload 1 48) := w_iload_n (hm := mm238) dJ10_getChar_47
theorem n238_48 : Snd mt G 238 48 (oAld [101, 1101] 49) := w_baload (hm := mm238) (kt := 1) dJ10_getChar_48 at_1 (Nat.le_of_ble_eq_true rfl) (List.forall_mem_cons.mpr ⟨Or.inl rfl, (List.forall_mem_cons.mpr ⟨Or.inr rfl, (fun t ht => nomatch ht)⟩)⟩)
theorem n238_49 : Snd mt G 238 49 (oConst (.int 255) 52) := w_sipush (hm := mm238) dJ10_getChar_49 (by decide)
theorem n238_52 : Snd mt G 238 52 (oBin (fun x y => x &&& y) 53) := w_iand (hm := mm238) dJ10_getChar_52
theorem n238_53 : Snd mt G 238 53 (fun _ _ _ _ => stuck) := snd_stuck
theorem n238_56 : Snd mt G 238 56 (oBin (fun x y => x <<< (y &&& 31)) 57) := w_ishl (hm := mm238) dJ10_getChar_56
theorem n238_57 : Snd mt G 238 57 (oBin (fun x y => x ||| y) 58) := w_ior (hm := mm238) dJ10_getChar_57
theorem n238_58 : Snd mt G 238 58 (oUn (fun x => .int (x.toUInt32 % 65536).toInt32) 59) := w_i2c (hm := mm238) dJ10_getChar_58
theorem n238_59 : Snd mt G 238 59 (oRetI .char) := w_zret (hm := mm238) dJ10_getChar_59 rfl
theorem sj238 : ∀ pc, Snd mt G 238 pc (j238 pc) := fun pc => (snd_br ((snd_br ((snd_br ((snd_br ((snd_br ((snd_br ((snd_lf n238_59)) ((snd_lf n238_58)))) ((snd_lf n238_57)))) ((snd_br ((snd_lf n238_56)) ((snd_lf n238_53)))))) ((snd_br ((snd_br ((snd_lf n238_52)) ((snd_lf n238_49)))) ((snd_br ((snd_lf n238_48)) ((snd_lf n238_47)))))))) ((snd_br ((snd_br ((snd_br ((snd_br ((snd_lf n238_46)) ((snd_lf n238_45)))) ((snd_lf n238_42)))) ((snd_br ((snd_lf n238_41)) ((snd_lf n238_38)))))) ((snd_br ((snd_br ((snd_lf n238_37)) ((snd_lf n238_34)))) ((snd_br ((snd_lf n238_33)) ((snd_lf n238_32)))))))))) ((snd_br ((snd_br ((snd_br ((snd_br ((snd_br ((snd_lf n238_31)) ((snd_lf n238_30)))) ((snd_lf n238_29)))) ((snd_br ((snd_lf n238_28)) ((snd_lf n238_27)))))) ((snd_br ((snd_br ((snd_lf n238_24)) ((snd_lf n238_22)))) ((snd_br ((snd_lf n238_21)) ((snd_lf n238_18)))))))) ((snd_br ((snd_br ((snd_br ((snd_lf n238_15)) ((snd_lf n238_12)))) ((snd_br ((snd_lf n238_11)) ((snd_lf n238_10)))))) ((snd_br ((snd_br ((snd_lf n238_7)) ((snd_lf n238_6)))) ((snd_br ((snd_lf n238_3)) ((snd_lf n238_0)))))))))))
end
section
variable {G : AG}
theorem n239_0 : Snd mt G 239 0 (oIload 1 1) := w_iload_n (hm := mm239) dJ10_coderFromArrayLen_0
theorem n239_1 : Snd mt G 239 1 (oAload 0 2) := w_aload_n (hm := mm239) dJ10_coderFromArrayLen_1
theorem n239_2 : Snd mt G 239 2 (oAlen 3) := w_alen (hm := mm239) dJ10_coderFromArrayLen_2
theorem n239_3 : Snd mt G 239 3 (oBin (fun x y => x - y) 4) := w_isub (hm := mm239) dJ10_coderFromArrayLen_3
theorem n239_4 : Snd mt G 239 4 (oConst (.int 31) 6) := w_bipush (hm := mm239) dJ10_coderFromArrayLen_4 (by decide)
theorem n239_6 : Snd mt G 239 6 (oBin (fun x y => (x.toUInt32 >>> (y.toUInt32 &&& Int32.toUInt32 31)).toInt32) 7) := w_iushr (hm := mm239) dJ10_coderFromArrayLen_6
theorem n239_7 : Snd mt G 239 7 (oUn (fun x => .int x.toInt8.toInt32) 8) := w_i2b (hm := mm239) dJ10_coderFromArrayLen_7
theorem n239_8 : Snd mt G 239 8 (oRetI .byte) := w_zret (hm := mm239) dJ10_coderFromArrayLen_8 rfl
theorem sj239 : ∀ pc, Snd mt G 239 pc (j239 pc) := fun pc => (snd_br ((snd_br ((snd_br ((snd_lf n239_8)) ((snd_lf n239_7)))) ((snd_br ((snd_lf n239_6)) ((snd_lf n239_4)))))) ((snd_br ((snd_br ((snd_lf n239_3)) ((snd_lf n239_2)))) ((snd_br ((snd_lf n239_1)) ((snd_lf n239_0)))))))
end
section
variable {G : AG}
theorem n240_0 : Snd mt G 240 0 (oIload 1 1) := w_iload_n (hm := mm240) dJ10_putCharSB_0
theorem n240_1 : Snd mt G 240 1 (oAload 0 2) := w_aload_n (hm := mm240) dJ10_putCharSB_1
theorem n240_2 : Snd mt G 240 2 (oCall 2 (fS 241 2) 0 5 xOut) := s_callS (m' := 241) (n := 2) xsh_out (w_xok0 mm240) (w_cal mm240 mm241 pn_J10 (Nat.le_of_ble_eq_true rfl) (Nat.le_of_ble_eq_true rfl)) (fun h as hn => w_run_S mm240 mm241 dJ10_putCharSB_2 q1249 q1250 q141 q1251 pa241 hn)
theorem n240_5 : Snd mt G 240 5 (oAload 0 6) := w_aload_n (hm := mm240) dJ10_putCharSB_5
theorem n240_6 : Snd mt G 240 6 (oIload 1 7) := w_iload_n (hm := mm240) dJ10_putCharSB_6
theorem n240_7 : Snd mt G 240 7 (oIload 2 8) := w_iload_n (hm := mm240) dJ10_putCharSB_7
theorem n240_8 : Snd mt G 240 8 (oCall 3 (fS 231 3) 0 11 xOut) := s_callS (m' := 231) (n := 3) xsh_out (w_xok0 mm240) (w_cal mm240 mm231 pn_J10 (Nat.le_of_ble_eq_true rfl) (Nat.le_of_ble_eq_true rfl)) (fun h as hn => w_run_S mm240 mm231 dJ10_putCharSB_8 q358 q359 q141 q360 pa231 hn)
theorem n240_11 : Snd mt G 240 11 (oRetV) := w_vret (hm := mm240) dJ10_putCharSB_11 rfl
theorem sj240 : ∀ pc, Snd mt G 240 pc (j240 pc) := fun pc => (snd_br ((snd_br ((snd_br ((snd_lf n240_11)) ((snd_lf n240_8)))) ((snd_br ((snd_lf n240_7)) ((snd_lf n240_6)))))) ((snd_br ((snd_br ((snd_lf n240_5)) ((snd_lf n240_2)))) ((snd_br ((snd_lf n240_1)) ((snd_lf n240_0)))))))
end
section
variable {G : AG}
theorem n241_0 : Snd mt G 241 0 (oIload 0 1) := w_iload_n (hm := mm241) dJ10_checkIndex_0
theorem n241_1 : Snd mt G 241 1 (oAload 1 2) := w_aload_n (hm := mm241) dJ10_checkIndex_1
theorem n241_2 : Snd mt G 241 2 (oCall 1 (fS 230 1) 0 5 xOut) := s_callS (m' := 230) (n := 1) xsh_out (w_xok0 mm241) (w_cal mm241 mm230 pn_J10 (Nat.le_of_ble_eq_true rfl) (Nat.le_of_ble_eq_true rfl)) (fun h as hn => w_run_S mm241 mm230 dJ10_checkIndex_2 q347 q348 q141 q349 pa230 hn)
theorem n241_5 : Snd mt G 241 5 (oCall 2 (fS 221 2) 0 8 xOut) := s_callS (m' := 221) (n := 2) xsh_out (w_xok0 mm241) (w_cal mm241 mm221 pn_J9 (Nat.le_of_ble_eq_true rfl) (Nat.le_of_ble_eq_true rfl)) (fun h as hn => w_run_S mm241 mm221 dJ10_checkIndex_5 q1252 q1253 q140 q1254 pa221 hn)
theorem n241_8 : Snd mt G 241 8 (oRetV) := w_vret (hm := mm241) dJ10_checkIndex_8 rfl
theorem sj241 : ∀ pc, Snd mt G 241 pc (j241 pc) := fun pc => (snd_br ((snd_br ((snd_br ((snd_lf n241_8)) ((snd_lf n241_5)))) ((snd_lf n241_2)))) ((snd_br ((snd_lf n241_1)) ((snd_lf n241_0)))))
end
section
variable {G : AG}
theorem n242_0 : Snd mt G 242 0 (oAload 0 1) := w_aload_n (hm := mm242) dJ10_hashCode_0
theorem n242_1 : Snd mt G 242 1 (oAlen 2) := w_alen (hm := mm242) dJ10_hashCode_1
theorem n242_2 : Snd mt G 242 2 (oSwitch sw242_2) := w_lookupL (hm := mm242) (dfl := 40) (L := [(0, 28), (2, 32)]) dJ10_hashCode_2 (by decide +kernel) rfl (by decide +kernel)
theorem n242_28 : Snd mt G 242 28 (oConst (.int 0) 29) := w_iconst (hm := mm242) dJ10_hashCode_28 rfl
theorem n242_29 : Snd mt G 242 29 (oGoto 51) := w_goto (hm := mm242) dJ10_hashCode_29 rfl
theorem n242_32 : Snd mt G 242 32 (oAload 0 33) := w_aload_n (hm := mm242) dJ10_hashCode_32
theorem n242_33 : Snd mt G 242 33 (oConst (.int 0) 34) := w_iconst (hm := mm242) dJ10_hashCode_33 rfl
theorem n242_34 : Snd mt G 242 34 (oCall 2 (fS 238 2) 0 37 xOut) := s_callS (m' := 238) (n := 2) xsh_out (w_xok0 mm242) (w_cal mm242 mm238 pn_J10 (Nat.le_of_ble_eq_true rfl) (Nat.le_of_ble_eq_true rfl)) (fun h as hn => w_run_S mm242 mm238 dJ10_hashCode_34 q509 q510 q141 q511 pa238 hn)
theorem n242_37 : Snd mt G 242 37 (oGoto 51) := w_goto (hm := mm242) dJ10_hashCode_37 rfl
theorem n242_40 : Snd mt G 242 40 (oAload 0 41) := w_aload_n (hm := mm242) dJ10_hashCode_40
theorem n242_41 : Snd mt G 242 41 (oConst (.int 0) 42) := w_iconst (hm := mm242) dJ10_hashCode_41 rfl
theorem n242_42 : Snd mt G 242 42 (oAload 0 43) := w_aload_n (hm := mm242) dJ10_hashCode_42
theorem n242_43 : Snd mt G 242 43 (oAlen 44) := w_alen (hm := mm242) dJ10_hashCode_43
theorem n242_44 : Snd mt G 242 44 (oConst (.int 1) 45) := w_iconst (hm := mm242) dJ10_hashCode_44 rfl
theorem n242_45 : Snd mt G 242 45 (oBin (fun x y => x >>> (y &&& 31)) 46) := w_ishr (hm := mm242) dJ10_hashCode_45
theorem n242_46 : Snd mt G 242 46 (oConst (.int 0) 47) := w_iconst (hm := mm242) dJ10_hashCode_46 rfl
theorem n242_47 : Snd mt G 242 47 (oConst (.int 5) 48) := w_iconst (hm := mm242) dJ10_hashCode_47 rfl
theorem n242_48 : Snd mt G 242 48 (oCall 5 (fS 246 5) 0 51 xOut) := s_callS (m' := 246) (n := 5) xsh_out (w_xok0 mm242) (w_cal mm242 mm246 pn_J11 (Nat.le_of_ble_eq_true rfl) (Nat.le_of_ble_eq_true rfl)) (fun h as hn => w_run_S mm242 mm246 dJ10_hashCode_48 q1317 q1269 q142 q1270 pa246 hn)
theorem n242_51 : Snd mt G 242 51 (oRetI .int) := w_iret (hm := mm242) dJ10_hashCode_51 rfl
theorem sj242 : ∀ pc, Snd mt G 242 pc (j242 pc) := fun pc => (snd_br ((snd_br ((snd_br ((snd_br ((snd_br ((snd_lf n242_51)) ((snd_lf n242_48)))) ((snd_lf n242_47)))) ((snd_br ((snd_lf n242_46)) ((snd_lf n242_45)))))) ((snd_br ((snd_br ((snd_br ((snd_lf n242_44)) ((snd_lf n242_43)))) ((snd_lf n242_42)))) ((snd_br ((snd_lf n242_41)) ((snd_lf n242_40)))))))) ((snd_br ((snd_br ((snd_br ((snd_br ((snd_lf n242_37)) ((snd_lf n242_34)))) ((snd_lf n242_33)))) ((snd_br ((snd_lf n242_32)) ((snd_lf n242_29)))))) ((snd_br ((snd_br ((snd_lf n242_28)) ((snd_lf n242_2)))) ((snd_br ((snd_lf n242_1)) ((snd_lf n242_0)))))))))
end
section
variable {G : AG}
theorem n243_0 : Snd mt G 243 0 (oIload 1 1) := w_iload_n (hm := mm243) dJ10_charAt_0
theorem n243_1 : Snd mt G 243 1 (oAload 0 2) := w_aload_n (hm := mm243) dJ10_charAt_1
theorem n243_2 : Snd mt G 243 2 (oCall 2 (fS 241 2) 0 5 xOut) := s_callS (m' := 241) (n := 2) xsh_out (w_xok0 mm243) (w_cal mm243 mm241 pn_J10 (Nat.le_of_ble_eq_true rfl) (Nat.le_of_ble_eq_true rfl)) (fun h as hn => w_run_S mm243 mm241 dJ10_charAt_2 q1249 q1250 q141 q1251 pa241 hn)
theorem n243_5 : Snd mt G 243 5 (oAload 0 6) := w_aload_n (hm := mm243) dJ10_charAt_5
theorem n243_6 : Snd mt G 243 6 (oIload 1 7) := w_iload_n (hm := mm243) dJ10_charAt_6
theorem n243_7 : Snd mt G 243 7 (oCall 2 (fS 238 2) 0 10 xOut) := s_callS (m' := 238) (n := 2) xsh_out (w_xok0 mm243) (w_cal mm243 mm238 pn_J10 (Nat.le_of_ble_eq_true rfl) (Nat.le_of_ble_eq_true rfl)) (fun h as hn => w_run_S mm243 mm238 dJ10_charAt_7 q509 q510 q141 q511 pa238 hn)
theorem n243_10 : Snd mt G 243 10 (oRetI .char) := w_zret (hm := mm243) dJ10_charAt_10 rfl
theorem sj243 : ∀ pc, Snd mt G 243 pc (j243 pc) := fun pc => (snd_br ((snd_br ((snd_br ((snd_lf n243_10)) ((snd_lf n243_7)))) ((snd_br ((snd_lf n243_6)) ((snd_lf n243_5)))))) ((snd_br ((snd_br ((snd_lf n243_2)) ((snd_lf n243_1)))) ((snd_lf n243_0)))))
end
section
variable {G : AG}
theorem n244_0 : Snd mt G 244 0 (oIload 0 1) := w_iload_n (hm := mm244) dJ11_newLength_0
theorem n244_1 : Snd mt G 244 1 (oIload 1 2) := w_iload_n (hm := mm244) dJ11_newLength_1
theorem n244_2 : Snd mt G 244 2 (oIload 2 3) := w_iload_n (hm := mm244) dJ11_newLength_2
theorem n244_3 : Snd mt G 244 3 (oMath2 (fun x y => if x < y then y else x) 6) := w_mmax (hm := mm244) dJ11_newLength_3 (Nat.le_of_ble_eq_true rfl) q312 q313 q143 q314
theorem n244_6 : Snd mt G 244 6 (oBin (fun x y => x + y) 7) := w_iadd (hm := mm244) dJ11_newLength_6
theorem n244_7 : Snd mt G 244 7 (oIstore 3 8) := w_istore_n (hm := mm244) dJ11_newLength_7 (Nat.le_of_ble_eq_true rfl)
theorem n244_8 : Snd mt G 244 8 (oConst (.int 0) 9) := w_iconst (hm := mm244) dJ11_newLength_8 rfl
theorem n244_9 : Snd mt G 244 9 (oIload 3 10) := w_iload_n (hm := mm244) dJ11_newLength_9
theorem n244_10 : Snd mt G 244 10 (oCmpGe 21 13) := w_icmp_ge (hm := mm244) dJ11_newLength_10 rfl
theorem n244_13 : Snd mt G 244 13 (oIload 3 14) := w_iload_n (hm := mm244) dJ11_newLength_13
theorem n244_14 : Snd mt G 244 14 (oConst (.int 2147483639) 16) := w_ldc (hm := mm244) dJ11_newLength_14 q315
theorem n244_16 : Snd mt G 244 16 (oCmpGt 21 19) := w_icmp_gt (hm := mm244) dJ11_newLength_16 rfl
theorem n244_19 : Snd mt G 244 19 (oIload 3 20) := w_iload_n (hm := mm244) dJ11_newLength_19
theorem n244_20 : Snd mt G 244 20 (oRetI .int) := w_iret (hm := mm244) dJ11_newLength_20 rfl
theorem n244_21 : Snd mt G 244 21 (oIload 0 22) := w_iload_n (hm := mm244) dJ11_newLength_21
theorem n244_22 : Snd mt G 244 22 (oIload 1 23) := w_iload_n (hm := mm244) dJ11_newLength_22
theorem n244_23 : Snd mt G 244 23 (oCall 2 (fS 245 3) 1 26 xOut) := s_callS (m' := 245) (n := 2) xsh_out (w_xok0 mm244) (w_cal mm244 mm245 pn_J11 (Nat.le_of_ble_eq_true rfl) (Nat.le_of_ble_eq_true rfl)) (fun h as hn => w_run_S mm244 mm245 dJ11_newLength_23 q316 q317 q142 q318 pa245 hn)
theorem n244_26 : Snd mt G 244 26 (oRetI .int) := w_iret (hm := mm244) dJ11_newLength_26 rfl
theorem sj244 : ∀ pc, Snd mt G 244 pc (j244 pc) := fun pc => (snd_br ((snd_br ((snd_br ((snd_br ((snd_br ((snd_lf n244_26)) ((snd_lf n244_23)))) ((snd_lf n244_22)))) ((snd_br ((snd_lf n244_21)) ((snd_lf n244_20)))))) ((snd_br ((snd_br ((snd_lf n244_19)) ((snd_lf n244_16)))) ((snd_br ((snd_lf n244_14)) ((snd_lf n244_13)))))))) ((snd_br ((snd_br ((snd_br ((snd_br ((snd_lf n244_10)) ((snd_lf n244_9)))) ((snd_lf n244_8)))) ((snd_br ((snd_lf n244_7)) ((snd_lf n244_6)))))) ((snd_br ((snd_br ((snd_lf n244_3)) ((snd_lf n244_2)))) ((snd_br ((snd_lf n244_1)) ((snd_lf n244_0)))))))))
end
section
variable {G : AG}
theorem n245_0 : Snd mt G 245 0 (oIload 0 1) := w_iload_n (hm := mm245) dJ11_hugeLength_0
theorem n245_1 : Snd mt G 245 1 (oIload 1 2) := w_iload_n (hm := mm245) dJ11_hugeLength_1
theorem n245_2 : Snd mt G 245 2 (oBin (fun x y => x + y) 3) := w_iadd (hm := mm245) dJ11_hugeLength_2
theorem n245_3 : Snd mt G 245 3 (oIstore 2 4) := w_istore_n (hm := mm245) dJ11_hugeLength_3 (Nat.le_of_ble_eq_true rfl)
theorem n245_4 : Snd mt G 245 4 (oIload 2 5) := w_iload_n (hm := mm245) dJ11_hugeLength_4
theorem n245_5 : Snd mt G 245 5 (oIfGe 49 8) := w_if_ge (hm := mm245) dJ11_hugeLength_5 rfl
theorem n245_8 : Snd mt G 245 8 (fun _ _ _ _ => stuck) := snd_stuck
theorem n245_11 : Snd mt G 245 11 (oDup 12) := w_dup (hm := mm245) dJ11_hugeLength_11
theorem n245_12 : Snd mt G 245 12 (oNew 29 4 nfJ8 15) := w_new (hm := mm245) (ci := 28) (T9 := TJ8) (ty := tyJ8) dJ11_hugeLength_12 (Nat.le_of_ble_eq_true rfl) vc_28 tyJ8_ok (fun _ _ => rfl) q1307 q258 q139
theorem n245_15 : Snd mt G 245 15 (oDup 16) := w_dup (hm := mm245) dJ11_hugeLength_15
theorem n245_16 : Snd mt G 245 16 (oCall 1 (fI 208 1) 0 19 xOut) := s_callI (m' := 208) (n := 0) xsh_out (w_xok0 mm245) (w_cal mm245 mm208 pn_J8 (Nat.le_of_ble_eq_true rfl) (Nat.le_of_ble_eq_true rfl)) (fun h b as hn => w_run_I mm245 mm208 dJ11_hugeLength_16 rfl rfl q1308 q260 q139 q261 pa208 hn)
theorem n245_19 : Snd mt G 245 19 (fun _ _ _ _ => stuck) := snd_stuck
theorem n245_21 : Snd mt G 245 21 (oCall 2 (fV [29] 209 2) 1 24 xOut) := s_callV (m' := 209) (n := 1) xsh_out (w_xok0 mm245) (w_cal mm245 mm209 pn_J8 (Nat.le_of_ble_eq_true rfl) (Nat.le_of_ble_eq_true rfl)) (fun h b as hc hn => w_run_V (ci := 28) mm245 mm209 dJ11_hugeLength_21 (Or.inl (List.mem_singleton.mp hc)) (Nat.le_of_ble_eq_true rfl) vc_28 rfl q1310 q291 q292 q139 q293 pa209 hn)
theorem n245_24 : Snd mt G 245 24 (oIload 0 25) := w_iload_n (hm := mm245) dJ11_hugeLength_24
theorem n245_25 : Snd mt G 245 25 (oCall 2 (fV [29] 210 2) 1 28 xOut) := s_callV (m' := 210) (n := 1) xsh_out (w_xok0 mm245) (w_cal mm245 mm210 pn_J8 (Nat.le_of_ble_eq_true rfl) (Nat.le_of_ble_eq_true rfl)) (fun h b as hc hn => w_run_V (ci := 28) mm245 mm210 dJ11_hugeLength_25 (Or.inl (List.mem_singleton.mp hc)) (Nat.le_of_ble_eq_true rfl) vc_28 rfl q1311 q411 q412 q139 q413 pa210 hn)
theorem n245_28 : Snd mt G 245 28 (fun _ _ _ _ => stuck) := snd_stuck
theorem n245_30 : Snd mt G 245 30 (oCall 2 (fV [29] 209 2) 1 33 xOut) := s_callV (m' := 209) (n := 1) xsh_out (w_xok0 mm245) (w_cal mm245 mm209 pn_J8 (Nat.le_of_ble_eq_true rfl) (Nat.le_of_ble_eq_true rfl)) (fun h b as hc hn => w_run_V (ci := 28) mm245 mm209 dJ11_hugeLength_30 (Or.inl (List.mem_singleton.mp hc)) (Nat.le_of_ble_eq_true rfl) vc_28 rfl q1310 q291 q292 q139 q293 pa209 hn)
theorem n245_33 : Snd mt G 245 33 (oIload 1 34) := w_iload_n (hm := mm245) dJ11_hugeLength_33
theorem n245_34 : Snd mt G 245 34 (oCall 2 (fV [29] 210 2) 1 37 xOut) := s_callV (m' := 210) (n := 1) xsh_out (w_xok0 mm245) (w_cal mm245 mm210 pn_J8 (Nat.le_of_ble_eq_true rfl) (Nat.le_of_ble_eq_true rfl)) (fun h b as hc hn => w_run_V (ci := 28) mm245 mm210 dJ11_hugeLength_34 (Or.inl (List.mem_singleton.mp hc)) (Nat.le_of_ble_eq_true rfl) vc_28 rfl q1311 q411 q412 q139 q413 pa210 hn)
theorem n245_37 : Snd mt G 245 37 (fun _ _ _ _ => stuck) := snd_stuck
theorem n245_39 : Snd mt G 245 39 (oCall 2 (fV [29] 209 2) 1 42 xOut) := s_callV (m' := 209) (n := 1) xsh_out (w_xok0 mm245) (w_cal mm245 mm209 pn_J8 (Nat.le_of_ble_eq_true rfl) (Nat.le_of_ble_eq_true rfl)) (fun h b as hc hn => w_run_V (ci := 28) mm245 mm209 dJ11_hugeLength_39 (Or.inl (List.mem_singleton.mp hc)) (Nat.le_of_ble_eq_true rfl) vc_28 rfl q1310 q291 q292 q139 q293 pa209 hn)
theorem n245_42 : Snd mt G 245 42 (oCall 1 (fV [29] 211 1) 1 45 xOut) := s_callV (m' := 211) (n := 0) xsh_out (w_xok0 mm245) (w_cal mm245 mm211 pn_J8 (Nat.le_of_ble_eq_true rfl) (Nat.le_of_ble_eq_true rfl)) (fun h b as hc hn => w_run_V (ci := 28) mm245 mm211 dJ11_hugeLength_42 (Or.inl (List.mem_singleton.mp hc)) (Nat.le_of_ble_eq_true rfl) vc_28 rfl q1312 q436 q437 q139 q438 pa211 hn)
theorem n245_45 : Snd mt G 245 45 (fun _ _ _ _ => stuck) := snd_stuck
theorem n245_48 : Snd mt G 245 48 (oThrow [7]) := w_throw (hm := mm245) dJ11_hugeLength_48 (List.forall_mem_cons.mpr ⟨⟨6, _, rfl, (Nat.le_of_ble_eq_true rfl), vc_6⟩, (fun t ht => nomatch ht)⟩) rfl
theorem n245_49 : Snd mt G 245 49 (oIload 2 50) := w_iload_n (hm := mm245) dJ11_hugeLength_49
theorem n245_50 : Snd mt G 245 50 (oConst (.int 2147483639) 52) := w_ldc (hm := mm245) dJ11_hugeLength_50 q315
theorem n245_52 : Snd mt G 245 52 (oCmpGt 58 55) := w_icmp_gt (hm := mm245) dJ11_hugeLength_52 rfl
theorem n245_55 : Snd mt G 245 55 (oConst (.int 2147483639) 57) := w_ldc (hm := mm245) dJ11_hugeLength_55 q315
theorem n245_57 : Snd mt G 245 57 (oRetI .int) := w_iret (hm := mm245) dJ11_hugeLength_57 rfl
theorem n245_58 : Snd mt G 245 58 (oIload 2 59) := w_iload_n (hm := mm245) dJ11_hugeLength_58
theorem n245_59 : Snd mt G 245 59 (oRetI .int) := w_iret (hm := mm245) dJ11_hugeLength_59 rfl
theorem sj245 : ∀ pc, Snd mt G 245 pc (j245 pc) := fun pc => (snd_br ((snd_br ((snd_br ((snd_br ((snd_br ((snd_lf n245_59)) ((snd_lf n245_58)))) ((snd_br ((snd_lf n245_57)) ((snd_lf n245_55)))))) ((snd_br ((snd_br ((snd_lf n245_52)) ((snd_lf n245_50)))) ((snd_br ((snd_lf n245_49)) ((snd_lf n245_48)))))))) ((snd_br ((snd_br ((snd_br ((snd_lf n245_45)) ((snd_lf n245_42)))) ((snd_br ((snd_lf n245_39)) ((snd_lf n245_37)))))) ((snd_br ((snd_br ((snd_lf n245_34)) ((snd_lf n245_33)))) ((snd_br ((snd_lf n245_30)) ((snd_lf n245_28)))))))))) ((snd_br ((snd_br ((snd_br ((snd_br ((snd_lf n245_25)) ((snd_lf n245_24)))) ((snd_br ((snd_lf n245_21)) ((snd_lf n245_19)))))) ((snd_br ((snd_br ((snd_lf n245_16)) ((snd_lf n245_15)))) ((snd_br ((snd_lf n245_12)) ((snd_lf n245_11)))))))) ((snd_br ((snd_br ((snd_br ((snd_lf n245_8)) ((snd_lf n245_5)))) ((snd_br ((snd_lf n245_4)) ((snd_lf n245_3)))))) ((snd_br ((snd_br ((snd_lf n245_2)) ((snd_lf n245_1)))) ((snd_lf n245_0)))))))))
end
section
variable {G : AG}
theorem n246_0 : Snd mt G 246 0 (oIload 4 2) := w_iload (hm := mm246) dJ11_vectorizedHashCode_0
theorem n246_2 : Snd mt G 246 2 (oSwitch sw246_2) := w_tableL (hm := mm246) (dfl := 129) (L := [44, 57, 129, 129, 90, 103, 116]) dJ11_vectorizedHashCode_2 rfl rfl (by decide +kernel)
theorem n246_44 : Snd mt G 246 44 (oIload 3 45) := w_iload_n (hm := mm246) dJ11_vectorizedHashCode_44
theorem n246_45 : Snd mt G 246 45 (oAload 0 46) := w_aload_n (hm := mm246) dJ11_vectorizedHashCode_45
theorem n246_46 : Snd mt G 246 46 (oCast [101] 49) := w_castB (hm := mm246) dJ11_vectorizedHashCode_46 q1271 (List.forall_mem_cons.mpr ⟨rfl, (fun t ht => nomatch ht)⟩)
theorem n246_49 : Snd mt G 246 49 (oIload 1 50) := w_iload_n (hm := mm246) dJ11_vectorizedHashCode_49
theorem n246_50 : Snd mt G 246 50 (oIload 2 51) := w_iload_n (hm := mm246) dJ11_vectorizedHashCode_50
theorem n246_51 : Snd mt G 246 51 (oCall 4 (fS 247 6) 0 54 xOut) := s_callS (m' := 247) (n := 4) xsh_out (w_xok0 mm246) (w_cal mm246 mm247 pn_J11 (Nat.le_of_ble_eq_true rfl) (Nat.le_of_ble_eq_true rfl)) (fun h as hn => w_run_S mm246 mm247 dJ11_vectorizedHashCode_51 q1272 q1273 q142 q1274 pa247 hn)
theorem n246_54 : Snd mt G 246 54 (oGoto 157) := w_goto (hm := mm246) dJ11_vectorizedHashCode_54 rfl
theorem n246_57 : Snd mt G 246 57 (oAload 0 58) := w_aload_n (hm := mm246) dJ11_vectorizedHashCode_57
theorem n246_58 : Snd mt G 246 58 (fun _ _ _ _ => stuck) := snd_stuck
theorem n246_61 : Snd mt G 246 61 (oIfEq 77 64) := w_if_eq (hm := mm246) dJ11_vectorizedHashCode_61 rfl
theorem n246_64 : Snd mt G 246 64 (oIload 3 65) := w_iload_n (hm := mm246) dJ11_vectorizedHashCode_64
theorem n246_65 : Snd mt G 246 65 (oAload 0 66) := w_aload_n (hm := mm246) dJ11_vectorizedHashCode_65
theorem n246_66 : Snd mt G 246 66 (oCast [101] 69) := w_castB (hm := mm246) dJ11_vectorizedHashCode_66 q1271 (List.forall_mem_cons.mpr ⟨rfl, (fun t ht => nomatch ht)⟩)
theorem n246_69 : Snd mt G 246 69 (oIload 1 70) := w_iload_n (hm := mm246) dJ11_vectorizedHashCode_69
theorem n246_70 : Snd mt G 246 70 (oIload 2 71) := w_iload_n (hm := mm246) dJ11_vectorizedHashCode_70
theorem n246_71 : Snd mt G 246 71 (oCall 4 (fS 248 6) 0 74 xOut) := s_callS (m' := 248) (n := 4) xsh_out (w_xok0 mm246) (w_cal mm246 mm248 pn_J11 (Nat.le_of_ble_eq_true rfl) (Nat.le_of_ble_eq_true rfl)) (fun h as hn => w_run_S mm246 mm248 dJ11_vectorizedHashCode_71 q1275 q1276 q142 q1277 pa248 hn)
theorem n246_74 : Snd mt G 246 74 (oGoto 157) := w_goto (hm := mm246) dJ11_vectorizedHashCode_74 rfl
theorem n246_77 : Snd mt G 246 77 (oIload 3 78) := w_iload_n (hm := mm246) dJ11_vectorizedHashCode_77
theorem n246_78 : Snd mt G 246 78 (oAload 0 79) := w_aload_n (hm := mm246) dJ11_vectorizedHashCode_78
theorem n246_79 : Snd mt G 246 79 (fun _ _ _ _ => stuck) := snd_stuck
theorem n246_82 : Snd mt G 246 82 (oIload 1 83) := w_iload_n (hm := mm246) dJ11_vectorizedHashCode_82
theorem n246_83 : Snd mt G 246 83 (oIload 2 84) := w_iload_n (hm := mm246) dJ11_vectorizedHashCode_83
theorem n246_84 : Snd mt G 246 84 (oCall 4 (fS 249 6) 0 87 xOut) := s_callS (m' := 249) (n := 4) xsh_out (w_xok0 mm246) (w_cal mm246 mm249 pn_J11 (Nat.le_of_ble_eq_true rfl) (Nat.le_of_ble_eq_true rfl)) (fun h as hn => w_run_S mm246 mm249 dJ11_vectorizedHashCode_84 q1292 q1293 q142 q1294 pa249 hn)
theorem n246_87 : Snd mt G 246 87 (oGoto 157) := w_goto (hm := mm246) dJ11_vectorizedHashCode_87 rfl
theorem n246_90 : Snd mt G 246 90 (oIload 3 91) := w_iload_n (hm := mm246) dJ11_vectorizedHashCode_90
theorem n246_91 : Snd mt G 246 91 (oAload 0 92) := w_aload_n (hm := mm246) dJ11_vectorizedHashCode_91
theorem n246_92 : Snd mt G 246 92 (oCast [101] 95) := w_castB (hm := mm246) dJ11_vectorizedHashCode_92 q1271 (List.forall_mem_cons.mpr ⟨rfl, (fun t ht => nomatch ht)⟩)
theorem n246_95 : Snd mt G 246 95 (oIload 1 96) := w_iload_n (hm := mm246) dJ11_vectorizedHashCode_95
theorem n246_96 : Snd mt G 246 96 (oIload 2 97) := w_iload_n (hm := mm246) dJ11_vectorizedHashCode_96
theorem n246_97 : Snd mt G 246 97 (oCall 4 (fS 250 6) 0 100 xOut) := s_callS (m' := 250) (n := 4) xsh_out (w_xok0 mm246) (w_cal mm246 mm250 pn_J11 (Nat.le_of_ble_eq_true rfl) (Nat.le_of_ble_eq_true rfl)) (fun h as hn => w_run_S mm246 mm250 dJ11_vectorizedHashCode_97 q1295 q1296 q142 q1297 pa250 hn)
theorem n246_100 : Snd mt G 246 100 (oGoto 157) := w_goto (hm := mm246) dJ11_vectorizedHashCode_100 rfl
theorem n246_103 : Snd mt G 246 103 (oIload 3 104) := w_iload_n (hm := mm246) dJ11_vectorizedHashCode_103
theorem n246_104 : Snd mt G 246 104 (oAload 0 105) := w_aload_n (hm := mm246) dJ11_vectorizedHashCode_104
theorem n246_105 : Snd mt G 246 105 (fun _ _ _ _ => stuck) := snd_stuck
theorem n246_108 : Snd mt G 246 108 (oIload 1 109) := w_iload_n (hm := mm246) dJ11_vectorizedHashCode_108
theorem n246_109 : Snd mt G 246 109 (oIload 2 110) := w_iload_n (hm := mm246) dJ11_vectorizedHashCode_109
theorem n246_110 : Snd mt G 246 110 (oCall 4 (fS 251 6) 0 113 xOut) := s_callS (m' := 251) (n := 4) xsh_out (w_xok0 mm246) (w_cal mm246 mm251 pn_J11 (Nat.le_of_ble_eq_true rfl) (Nat.le_of_ble_eq_true rfl)) (fun h as hn => w_run_S mm246 mm251 dJ11_vectorizedHashCode_110 q1299 q1300 q142 q1301 pa251 hn)
theorem n246_113 : Snd mt G 246 113 (oGoto 157) := w_goto (hm := mm246) dJ11_vectorizedHashCode_113 rfl
theorem n246_116 : Snd mt G 246 116 (oIload 3 117) := w_iload_n (hm := mm246) dJ11_vectorizedHashCode_116
theorem n246_117 : Snd mt G 246 117 (oAload 0 118) := w_aload_n (hm := mm246) dJ11_vectorizedHashCode_117
theorem n246_118 : Snd mt G 246 118 (fun _ _ _ _ => stuck) := snd_stuck
theorem n246_121 : Snd mt G 246 121 (oIload 1 122) := w_iload_n (hm := mm246) dJ11_vectorizedHashCode_121
theorem n246_122 : Snd mt G 246 122 (oIload 2 123) := w_iload_n (hm := mm246) dJ11_vectorizedHashCode_122
theorem n246_123 : Snd mt G 246 123 (oCall 4 (fS 252 6) 0 126 xOut) := s_callS (m' := 252) (n := 4) xsh_out (w_xok0 mm246) (w_cal mm246 mm252 pn_J11 (Nat.le_of_ble_eq_true rfl) (Nat.le_of_ble_eq_true rfl)) (fun h as hn => w_run_S mm246 mm252 dJ11_vectorizedHashCode_123 q1303 q1304 q142 q1305 pa252 hn)
theorem n246_126 : Snd mt G 246 126 (oGoto 157) := w_goto (hm := mm246) dJ11_vectorizedHashCode_126 rfl
theorem n246_129 : Snd mt G 246 129 (fun _ _ _ _ => stuck) := snd_stuck
theorem n246_132 : Snd mt G 246 132 (oDup 133) := w_dup (hm := mm246) dJ11_vectorizedHashCode_132
theorem n246_133 : Snd mt G 246 133 (oNew 29 4 nfJ8 136) := w_new (hm := mm246) (ci := 28) (T9 := TJ8) (ty := tyJ8) dJ11_vectorizedHashCode_133 (Nat.le_of_ble_eq_true rfl) vc_28 tyJ8_ok (fun _ _ => rfl) q1307 q258 q139
theorem n246_136 : Snd mt G 246 136 (oDup 137) := w_dup (hm := mm246) dJ11_vectorizedHashCode_136
theorem n246_137 : Snd mt G 246 137 (oCall 1 (fI 208 1) 0 140 xOut) := s_callI (m' := 208) (n := 0) xsh_out (w_xok0 mm246) (w_cal mm246 mm208 pn_J8 (Nat.le_of_ble_eq_true rfl) (Nat.le_of_ble_eq_true rfl)) (fun h b as hn => w_run_I mm246 mm208 dJ11_vectorizedHashCode_137 rfl rfl q1308 q260 q139 q261 pa208 hn)
theorem n246_140 : Snd mt G 246 140 (fun _ _ _ _ => stuck) := snd_stuck
theorem n246_142 : Snd mt G 246 142 (oCall 2 (fV [29] 209 2) 0 145 xOut) := s_callV (m' := 209) (n := 1) xsh_out (w_xok0 mm246) (w_cal mm246 mm209 pn_J8 (Nat.le_of_ble_eq_true rfl) (Nat.le_of_ble_eq_true rfl)) (fun h b as hc hn => w_run_V (ci := 28) mm246 mm209 dJ11_vectorizedHashCode_142 (Or.inl (List.mem_singleton.mp hc)) (Nat.le_of_ble_eq_true rfl) vc_28 rfl q1310 q291 q292 q139 q293 pa209 hn)
theorem n246_145 : Snd mt G 246 145 (oIload 4 147) := w_iload (hm := mm246) dJ11_vectorizedHashCode_145
theorem n246_147 : Snd mt G 246 147 (oCall 2 (fV [29] 210 2) 0 150 xOut) := s_callV (m' := 210) (n := 1) xsh_out (w_xok0 mm246) (w_cal mm246 mm210 pn_J8 (Nat.le_of_ble_eq_true rfl) (Nat.le_of_ble_eq_true rfl)) (fun h b as hc hn => w_run_V (ci := 28) mm246 mm210 dJ11_vectorizedHashCode_147 (Or.inl (List.mem_singleton.mp hc)) (Nat.le_of_ble_eq_true rfl) vc_28 rfl q1311 q411 q412 q139 q413 pa210 hn)
theorem n246_150 : Snd mt G 246 150 (oCall 1 (fV [29] 211 1) 0 153 xOut) := s_callV (m' := 211) (n := 0) xsh_out (w_xok0 mm246) (w_cal mm246 mm211 pn_J8 (Nat.le_of_ble_eq_true rfl) (Nat.le_of_ble_eq_true rfl)) (fun h b as hc hn => w_run_V (ci := 28) mm246 mm211 dJ11_vectorizedHashCode_150 (Or.inl (List.mem_singleton.mp hc)) (Nat.le_of_ble_eq_true rfl) vc_28 rfl q1312 q436 q437 q139 q438 pa211 hn)
theorem n246_153 : Snd mt G 246 153 (oCall 2 (fI 193 2) 0 156 xOut) := s_callI (m' := 193) (n := 1) xsh_out (w_xok0 mm246) (w_cal mm246 mm193 pn_J6 (Nat.le_of_ble_eq_true rfl) (Nat.le_of_ble_eq_true rfl)) (fun h b as hn => w_run_I mm246 mm193 dJ11_vectorizedHashCode_153 rfl rfl q1313 q479 q137 q480 pa193 hn)
theorem n246_156 : Snd mt G 246 156 (oThrow [7]) := w_throw (hm := mm246) dJ11_vectorizedHashCode_156 (List.forall_mem_cons.mpr ⟨⟨6, _, rfl, (Nat.le_of_ble_eq_true rfl), vc_6⟩, (fun t ht => nomatch ht)⟩) rfl
theorem n246_157 : Snd mt G 246 157 (oRetI .int) := w_iret (hm := mm246) dJ11_vectorizedHashCode_157 rfl
theorem sj246 : ∀ pc, Snd mt G 246 pc (j246 pc) := fun pc => (snd_br ((snd_br ((snd_br ((snd_br ((snd_br ((snd_br ((snd_lf n246_157)) ((snd_lf n246_156)))) ((snd_br ((snd_lf n246_153)) ((snd_lf n246_150)))))) ((snd_br ((snd_br ((snd_lf n246_147)) ((snd_lf n246_145)))) ((snd_br ((snd_lf n246_142)) ((snd_lf n246_140)))))))) ((snd_br ((snd_br ((snd_br ((snd_lf n246_137)) ((snd_lf n246_136)))) ((snd_br ((snd_lf n246_133)) ((snd_lf n246_132)))))) ((snd_br ((snd_br ((snd_lf n246_129)) ((snd_lf n246_126)))) ((snd_lf n246_123)))))))) ((snd_br ((snd_br ((snd_br ((snd_br ((snd_lf n246_122)) ((snd_lf n246_121)))) ((snd_br ((snd_lf n246_118)) ((snd_lf n246_117)))))) ((snd_br ((snd_br ((snd_lf n246_116)) ((snd_lf n246_113)))) ((snd_br ((snd_lf n246_110)) ((snd_lf n246_109)))))))) ((snd_br ((snd_br ((snd_br ((snd_lf n246_108)) ((snd_lf n246_105)))) ((snd_br ((snd_lf n246_104)) ((snd_lf n246_103)))))) ((snd_br ((snd_br ((snd_lf n246_100)) ((snd_lf n246_97)))) ((snd_lf n246_96)))))))))) ((snd_br ((snd_br ((snd_br ((snd_br ((snd_br ((snd_lf n246_95)) ((snd_lf n246_92)))) ((snd_br ((snd_lf n246_91)) ((snd_lf n246_90)))))) ((snd_br ((snd_br ((snd_lf n246_87)) ((snd_lf n246_84)))) ((snd_br ((snd_lf n246_83)) ((snd_lf n246_82)))))))) ((snd_br ((snd_br ((snd_br ((snd_lf n246_79)) ((snd_lf n246_78)))) ((snd_br ((snd_lf n246_77)) ((snd_lf n246_74)))))) ((snd_br ((snd_br ((snd_lf n246_71)) ((snd_lf n246_70)))) ((snd_lf n246_69)))))))) ((snd_br ((snd_br ((snd_br ((snd_br ((snd_lf n246_66)) ((snd_lf n246_65)))) ((snd_br ((snd_lf n246_64)) ((snd_lf n246_61)))))) ((snd_br ((snd_br ((snd_lf n246_58)) ((snd_lf n246_57)))) ((snd_br ((snd_lf n246_54)) ((snd_lf n246_51)))))))) ((snd_br ((snd_br ((snd_br ((snd_lf n246_50)) ((snd_lf n246_49)))) ((snd_br ((snd_lf n246_46)) ((snd_lf n246_45)))))) ((snd_br ((snd_br ((snd_lf n246_44)) ((snd_lf n246_2)))) ((snd_lf n246_0)))))))))))
end
section
variable {G : AG}
theorem n247_0 : Snd mt G 247 0 (oIload 2 1) := w_iload_n (hm := mm247) dJ11_signedHashCode_0
theorem n247_1 : Snd mt G 247 1 (oIload 3 2) := w_iload_n (hm := mm247) dJ11_signedHashCode_1
theorem n247_2 : Snd mt G 247 2 (oBin (fun x y => x + y) 3) := w_iadd (hm := mm247) dJ11_signedHashCode_2
theorem n247_3 : Snd mt G 247 3 (oIstore 4 5) := w_istore (hm := mm247) dJ11_signedHashCode_3 (Nat.le_of_ble_eq_true rfl)
theorem n247_5 : Snd mt G 247 5 (oIload 2 6) := w_iload_n (hm := mm247) dJ11_signedHashCode_5
theorem n247_6 : Snd mt G 247 6 (oIstore 5 8) := w_istore (hm := mm247) dJ11_signedHashCode_6 (Nat.le_of_ble_eq_true rfl)
theorem n247_8 : Snd mt G 247 8 (oIload 5 10) := w_iload (hm := mm247) dJ11_signedHashCode_8
theorem n247_10 : Snd mt G 247 10 (oIload 4 12) := w_iload (hm := mm247) dJ11_signedHashCode_10
theorem n247_12 : Snd mt G 247 12 (oCmpGe 35 15) := w_icmp_ge (hm := mm247) dJ11_signedHashCode_12 rfl
theorem n247_15 : Snd mt G 247 15 (oConst (.int 31) 17) := w_bipush (hm := mm247) dJ11_signedHashCode_15 (by decide)
theorem n247_17 : Snd mt G 247 17 (oIload 0 18) := w_iload_n (hm := mm247) dJ11_signedHashCode_17
theorem n247_18 : Snd mt G 247 18 (oBin (fun x y => x * y) 19) := w_imul (hm := mm247) dJ11_signedHashCode_18
theorem n247_19 : Snd mt G 247 19 (oAload 1 20) := w_aload_n (hm := mm247) dJ11_signedHashCode_19
theorem n247_20 : Snd mt G 247 20 (oIload 5 22) := w_iload (hm := mm247) dJ11_signedHashCode_20
theorem n247_22 : Snd mt G 247 22 (oAld [101, 1101] 23) := w_baload (hm := mm247) (kt := 1) dJ11_signedHashCode_22 at_1 (Nat.le_of_ble_eq_true rfl) (List.forall_mem_cons.mpr ⟨Or.inl rfl, (List.forall_mem_cons.mpr ⟨Or.inr rfl, (fun t ht => nomatch ht)⟩)⟩)
theorem n247_23 : Snd mt G 247 23 (oConst (.int 255) 26) := w_sipush (hm := mm247) dJ11_signedHashCode_23 (by decide)
theorem n247_26 : Snd mt G 247 26 (oBin (fun x y => x &&& y) 27) := w_iand (hm := mm247) dJ11_signedHashCode_26
theorem n247_27 : Snd mt G 247 27 (oBin (fun x y => x + y) 28) := w_iadd (hm := mm247) dJ11_signedHashCode_27
theorem n247_28 : Snd mt G 247 28 (oIstore 0 29) := w_istore_n (hm := mm247) dJ11_signedHashCode_28 (Nat.le_of_ble_eq_true rfl)
theorem n247_29 : Snd mt G 247 29 (oIinc 5 1 32) := w_iinc (hm := mm247) dJ11_signedHashCode_29 rfl (Nat.le_of_ble_eq_true rfl)
theorem n247_32 : Snd mt G 247 32 (oGoto 8) := w_goto (hm := mm247) dJ11_signedHashCode_32 rfl
theorem n247_35 : Snd mt G 247 35 (oIload 0 36) := w_iload_n (hm := mm247) dJ11_signedHashCode_35
theorem n247_36 : Snd mt G 247 36 (oRetI .int) := w_iret (hm := mm247) dJ11_signedHashCode_36 rfl
theorem sj247 : ∀ pc, Snd mt G 247 pc (j247 pc) := fun pc => (snd_br ((snd_br ((snd_br ((snd_br ((snd_br ((snd_lf n247_36)) ((snd_lf n247_35)))) ((snd_lf n247_32)))) ((snd_br ((snd_br ((snd_lf n247_29)) ((snd_lf n247_28)))) ((snd_lf n247_27)))))) ((snd_br ((snd_br ((snd_br ((snd_lf n247_26)) ((snd_lf n247_23)))) ((snd_lf n247_22)))) ((snd_br ((snd_br ((snd_lf n247_20)) ((snd_lf n247_19)))) ((snd_lf n247_18)))))))) ((snd_br ((snd_br ((snd_br ((snd_br ((snd_lf n247_17)) ((snd_lf n247_15)))) ((snd_lf n247_12)))) ((snd_br ((snd_br ((snd_lf n247_10)) ((snd_lf n247_8)))) ((snd_lf n247_6)))))) ((snd_br ((snd_br ((snd_br ((snd_lf n247_5)) ((snd_lf n247_3)))) ((snd_lf n247_2)))) ((snd_br ((snd_lf n247_1)) ((snd_lf n247_0)))))))))
end
section
variable {G : AG}
theorem n248_0 : Snd mt G 248 0 (oIload 2 1) := w_iload_n (hm := mm248) dJ11_utf16hashCode_0
theorem n248_1 : Snd mt G 248 1 (oIload 3 2) := w_iload_n (hm := mm248) dJ11_utf16hashCode_1
theorem n248_2 : Snd mt G 248 2 (oBin (fun x y => x + y) 3) := w_iadd (hm := mm248) dJ11_utf16hashCode_2
theorem n248_3 : Snd mt G 248 3 (oIstore 4 5) := w_istore (hm := mm248) dJ11_utf16hashCode_3 (Nat.le_of_ble_eq_true rfl)
theorem n248_5 : Snd mt G 248 5 (oIload 2 6) := w_iload_n (hm := mm248) dJ11_utf16hashCode_5
theorem n248_6 : Snd mt G 248 6 (oIstore 5 8) := w_istore (hm := mm248) dJ11_utf16hashCode_6 (Nat.le_of_ble_eq_true rfl)
theorem n248_8 : Snd mt G 248 8 (oIload 5 10) := w_iload (hm := mm248) dJ11_utf16hashCode_8
theorem n248_10 : Snd mt G 248 10 (oIload 4 12) := w_iload (hm := mm248) dJ11_utf16hashCode_10
theorem n248_12 : Snd mt G 248 12 (oCmpGe 38 15) := w_icmp_ge (hm := mm248) dJ11_utf16hashCode_12 rfl
theorem n248_15 : Snd mt G 248 15 (oConst (.int 31) 17) := w_bipush (hm := mm248) dJ11_utf16hashCode_15 (by decide)
theorem n248_17 : Snd mt G 248 17 (oIload 0 18) := w_iload_n (hm := mm248) dJ11_utf16hashCode_17
theorem n248_18 : Snd mt G 248 18 (oBin (fun x y => x * y) 19) := w_imul (hm := mm248) dJ11_utf16hashCode_18
theorem n248_19 : Snd mt G 248 19 (fun _ _ _ _ => stuck) := snd_stuck
theorem n248_22 : Snd mt G 248 22 (oAload 1 23) := w_aload_n (hm := mm248) dJ11_utf16hashCode_22
theorem n248_23 : Snd mt G 248 23 (oIload 5 25) := w_iload (hm := mm248) dJ11_utf16hashCode_23
theorem n248_25 : Snd mt G 248 25 (fun _ _ _ _ => stuck) := snd_stuck
theorem n248_30 : Snd mt G 248 30 (oBin (fun x y => x + y) 31) := w_iadd (hm := mm248) dJ11_utf16hashCode_30
theorem n248_31 : Snd mt G 248 31 (oIstore 0 32) := w_istore_n (hm := mm248) dJ11_utf16hashCode_31 (Nat.le_of_ble_eq_true rfl)
theorem n248_32 : Snd mt G 248 32 (oIinc 5 1 35) := w_iinc (hm := mm248) dJ11_utf16hashCode_32 rfl (Nat.le_of_ble_eq_true rfl)
theorem n248_35 : Snd mt G 248 35 (oGoto 8) := w_goto (hm := mm248) dJ11_utf16hashCode_35 rfl
theorem n248_38 : Snd mt G 248 38 (oIload 0 39) := w_iload_n (hm := mm248) dJ11_utf16hashCode_38
theorem n248_39 : Snd mt G 248 39 (oRetI .int) := w_iret (hm := mm248) dJ11_utf16hashCode_39 rfl
theorem sj248 : ∀ pc, Snd mt G 248 pc (j248 pc) := fun pc => (snd_br ((snd_br ((snd_br ((snd_br ((snd_br ((snd_lf n248_39)) ((snd_lf n248_38)))) ((snd_lf n248_35)))) ((snd_br ((snd_br ((snd_lf n248_32)) ((snd_lf n248_31)))) ((snd_lf n248_30)))))) ((snd_br ((snd_br ((snd_br ((snd_lf n248_25)) ((snd_lf n248_23)))) ((snd_lf n248_22)))) ((snd_br ((snd_lf n248_19)) ((snd_lf n248_18)))))))) ((snd_br ((snd_br ((snd_br ((snd_br ((snd_lf n248_17)) ((snd_lf n248_15)))) ((snd_lf n248_12)))) ((snd_br ((snd_br ((snd_lf n248_10)) ((snd_lf n248_8)))) ((snd_lf n248_6)))))) ((snd_br ((snd_br ((snd_br ((snd_lf n248_5)) ((snd_lf n248_3)))) ((snd_lf n248_2)))) ((snd_br ((snd_lf n248_1)) ((snd_lf n248_0)))))))))
end
section
variable {G : AG}
theorem n249_0 : Snd mt G 249 0 (oIload 2 1) := w_iload_n (hm := mm249) dJ11_hashCode_0
theorem n249_1 : Snd mt G 249 1 (oIload 3 2) := w_iload_n (hm := mm249) dJ11_hashCode_1
theorem n249_2 : Snd mt G 249 2 (oBin (fun x y => x + y) 3) := w_iadd (hm := mm249) dJ11_hashCode_2
theorem n249_3 : Snd mt G 249 3 (oIstore 4 5) := w_istore (hm := mm249) dJ11_hashCode_3 (Nat.le_of_ble_eq_true rfl)
theorem n249_5 : Snd mt G 249 5 (oIload 2 6) := w_iload_n (hm := mm249) dJ11_hashCode_5
theorem n249_6 : Snd mt G 249 6 (oIstore 5 8) := w_istore (hm := mm249) dJ11_hashCode_6 (Nat.le_of_ble_eq_true rfl)
theorem n249_8 : Snd mt G 249 8 (oIload 5 10) := w_iload (hm := mm249) dJ11_hashCode_8
theorem n249_10 : Snd mt G 249 10 (oIload 4 12) := w_iload (hm := mm249) dJ11_hashCode_10
theorem n249_12 : Snd mt G 249 12 (oCmpGe 31 15) := w_icmp_ge (hm := mm249) dJ11_hashCode_12 rfl
theorem n249_15 : Snd mt G 249 15 (oConst (.int 31) 17) := w_bipush (hm := mm249) dJ11_hashCode_15 (by decide)
theorem n249_17 : Snd mt G 249 17 (oIload 0 18) := w_iload_n (hm := mm249) dJ11_hashCode_17
theorem n249_18 : Snd mt G 249 18 (oBin (fun x y => x * y) 19) := w_imul (hm := mm249) dJ11_hashCode_18
theorem n249_19 : Snd mt G 249 19 (oAload 1 20) := w_aload_n (hm := mm249) dJ11_hashCode_19
theorem n249_20 : Snd mt G 249 20 (oIload 5 22) := w_iload (hm := mm249) dJ11_hashCode_20
theorem n249_22 : Snd mt G 249 22 (fun _ _ _ _ => stuck) := snd_stuck
theorem n249_23 : Snd mt G 249 23 (oBin (fun x y => x + y) 24) := w_iadd (hm := mm249) dJ11_hashCode_23
theorem n249_24 : Snd mt G 249 24 (oIstore 0 25) := w_istore_n (hm := mm249) dJ11_hashCode_24 (Nat.le_of_ble_eq_true rfl)
theorem n249_25 : Snd mt G 249 25 (oIinc 5 1 28) := w_iinc (hm := mm249) dJ11_hashCode_25 rfl (Nat.le_of_ble_eq_true rfl)
theorem n249_28 : Snd mt G 249 28 (oGoto 8) := w_goto (hm := mm249) dJ11_hashCode_28 rfl
theorem n249_31 : Snd mt G 249 31 (oIload 0 32) := w_iload_n (hm := mm249) dJ11_hashCode_31
theorem n249_32 : Snd mt G 249 32 (oRetI .int) := w_iret (hm := mm249) dJ11_hashCode_32 rfl
theorem sj249 : ∀ pc, Snd mt G 249 pc (j249 pc) := fun pc => (snd_br ((snd_br ((snd_br ((snd_br ((snd_br ((snd_lf n249_32)) ((snd_lf n249_31)))) ((snd_lf n249_28)))) ((snd_br ((snd_br ((snd_lf n249_25)) ((snd_lf n249_24)))) ((snd_lf n249_23)))))) ((snd_br ((snd_br ((snd_br ((snd_lf n249_22)) ((snd_lf n249_20)))) ((snd_lf n249_19)))) ((snd_br ((snd_lf n249_18)) ((snd_lf n249_17)))))))) ((snd_br ((snd_br ((snd_br ((snd_br ((snd_lf n249_15)) ((snd_lf n249_12)))) ((snd_lf n249_10)))) ((snd_br ((snd_lf n249_8)) ((snd_lf n249_6)))))) ((snd_br ((snd_br ((snd_br ((snd_lf n249_5)) ((snd_lf n249_3)))) ((snd_lf n249_2)))) ((snd_br ((snd_lf n249_1)) ((snd_lf n249_0)))))))))
end
section
variable {G : AG}
theorem n250_0 : Snd mt G 250 0 (oIload 2 1) := w_iload_n (hm := mm250) dJ11_hashCode_2_0
theorem n250_1 : Snd mt G 250 1 (oIload 3 2) := w_iload_n (hm := mm250) dJ11_hashCode_2_1
theorem n250_2 : Snd mt G 250 2 (oBin (fun x y => x + y) 3) := w_iadd (hm := mm250) dJ11_hashCode_2_2
theorem n250_3 : Snd mt G 250 3 (oIstore 4 5) := w_istore (hm := mm250) dJ11_hashCode_2_3 (Nat.le_of_ble_eq_true rfl)
theorem n250_5 : Snd mt G 250 5 (oIload 2 6) := w_iload_n (hm := mm250) dJ11_hashCode_2_5
theorem n250_6 : Snd mt G 250 6 (oIstore 5 8) := w_istore (hm := mm250) dJ11_hashCode_2_6 (Nat.le_of_ble_eq_true rfl)
theorem n250_8 : Snd mt G 250 8 (oIload 5 10) := w_iload (hm := mm250) dJ11_hashCode_2_8
theorem n250_10 : Snd mt G 250 10 (oIload 4 12) := w_iload (hm := mm250) dJ11_hashCode_2_10
theorem n250_12 : Snd mt G 250 12 (oCmpGe 31 15) := w_icmp_ge (hm := mm250) dJ11_hashCode_2_12 rfl
theorem n250_15 : Snd mt G 250 15 (oConst (.int 31) 17) := w_bipush (hm := mm250) dJ11_hashCode_2_15 (by decide)
theorem n250_17 : Snd mt G 250 17 (oIload 0 18) := w_iload_n (hm := mm250) dJ11_hashCode_2_17
theorem n250_18 : Snd mt G 250 18 (oBin (fun x y => x * y) 19) := w_imul (hm := mm250) dJ11_hashCode_2_18
theorem n250_19 : Snd mt G 250 19 (oAload 1 20) := w_aload_n (hm := mm250) dJ11_hashCode_2_19
theorem n250_20 : Snd mt G 250 20 (oIload 5 22) := w_iload (hm := mm250) dJ11_hashCode_2_20
theorem n250_22 : Snd mt G 250 22 (oAld [101, 1101] 23) := w_baload (hm := mm250) (kt := 1) dJ11_hashCode_2_22 at_1 (Nat.le_of_ble_eq_true rfl) (List.forall_mem_cons.mpr ⟨Or.inl rfl, (List.forall_mem_cons.mpr ⟨Or.inr rfl, (fun t ht => nomatch ht)⟩)⟩)
theorem n250_23 : Snd mt G 250 23 (oBin (fun x y => x + y) 24) := w_iadd (hm := mm250) dJ11_hashCode_2_23
theorem n250_24 : Snd mt G 250 24 (oIstore 0 25) := w_istore_n (hm := mm250) dJ11_hashCode_2_24 (Nat.le_of_ble_eq_true rfl)
theorem n250_25 : Snd mt G 250 25 (oIinc 5 1 28) := w_iinc (hm := mm250) dJ11_hashCode_2_25 rfl (Nat.le_of_ble_eq_true rfl)
theorem n250_28 : Snd mt G 250 28 (oGoto 8) := w_goto (hm := mm250) dJ11_hashCode_2_28 rfl
theorem n250_31 : Snd mt G 250 31 (oIload 0 32) := w_iload_n (hm := mm250) dJ11_hashCode_2_31
theorem n250_32 : Snd mt G 250 32 (oRetI .int) := w_iret (hm := mm250) dJ11_hashCode_2_32 rfl
theorem sj250 : ∀ pc, Snd mt G 250 pc (j250 pc) := fun pc => (snd_br ((snd_br ((snd_br ((snd_br ((snd_br ((snd_lf n250_32)) ((snd_lf n250_31)))) ((snd_lf n250_28)))) ((snd_br ((snd_br ((snd_lf n250_25)) ((snd_lf n250_24)))) ((snd_lf n250_23)))))) ((snd_br ((snd_br ((snd_br ((snd_lf n250_22)) ((snd_lf n250_20)))) ((snd_lf n250_19)))) ((snd_br ((snd_lf n250_18)) ((snd_lf n250_17)))))))) ((snd_br ((snd_br ((snd_br ((snd_br ((snd_lf n250_15)) ((snd_lf n250_12)))) ((snd_lf n250_10)))) ((snd_br ((snd_lf n250_8)) ((snd_lf n250_6)))))) ((snd_br ((snd_br ((snd_br ((snd_lf n250_5)) ((snd_lf n250_3)))) ((snd_lf n250_2)))) ((snd_br ((snd_lf n250_1)) ((snd_lf n250_0)))))))))
end
section
variable {G : AG}
theorem n251_0 : Snd mt G 251 0 (oIload 2 1) := w_iload_n (hm := mm251) dJ11_hashCode_3_0
theorem n251_1 : Snd mt G 251 1 (oIload 3 2) := w_iload_n (hm := mm251) dJ11_hashCode_3_1
theorem n251_2 : Snd mt G 251 2 (oBin (fun x y => x + y) 3) := w_iadd (hm := mm251) dJ11_hashCode_3_2
theorem n251_3 : Snd mt G 251 3 (oIstore 4 5) := w_istore (hm := mm251) dJ11_hashCode_3_3 (Nat.le_of_ble_eq_true rfl)
theorem n251_5 : Snd mt G 251 5 (oIload 2 6) := w_iload_n (hm := mm251) dJ11_hashCode_3_5
theorem n251_6 : Snd mt G 251 6 (oIstore 5 8) := w_istore (hm := mm251) dJ11_hashCode_3_6 (Nat.le_of_ble_eq_true rfl)
theorem n251_8 : Snd mt G 251 8 (oIload 5 10) := w_iload (hm := mm251) dJ11_hashCode_3_8
theorem n251_10 : Snd mt G 251 10 (oIload 4 12) := w_iload (hm := mm251) dJ11_hashCode_3_10
theorem n251_12 : Snd mt G 251 12 (oCmpGe 31 15) := w_icmp_ge (hm := mm251) dJ11_hashCode_3_12 rfl
theorem n251_15 : Snd mt G 251 15 (oConst (.int 31) 17) := w_bipush (hm := mm251) dJ11_hashCode_3_15 (by decide)
theorem n251_17 : Snd mt G 251 17 (oIload 0 18) := w_iload_n (hm := mm251) dJ11_hashCode_3_17
theorem n251_18 : Snd mt G 251 18 (oBin (fun x y => x * y) 19) := w_imul (hm := mm251) dJ11_hashCode_3_18
theorem n251_19 : Snd mt G 251 19 (oAload 1 20) := w_aload_n (hm := mm251) dJ11_hashCode_3_19
theorem n251_20 : Snd mt G 251 20 (oIload 5 22) := w_iload (hm := mm251) dJ11_hashCode_3_20
theorem n251_22 : Snd mt G 251 22 (fun _ _ _ _ => stuck) := snd_stuck
theorem n251_23 : Snd mt G 251 23 (oBin (fun x y => x + y) 24) := w_iadd (hm := mm251) dJ11_hashCode_3_23
theorem n251_24 : Snd mt G 251 24 (oIstore 0 25) := w_istore_n (hm := mm251) dJ11_hashCode_3_24 (Nat.le_of_ble_eq_true rfl)
theorem n251_25 : Snd mt G 251 25 (oIinc 5 1 28) := w_iinc (hm := mm251) dJ11_hashCode_3_25 rfl (Nat.le_of_ble_eq_true rfl)
theorem n251_28 : Snd mt G 251 28 (oGoto 8) := w_goto (hm := mm251) dJ11_hashCode_3_28 rfl
theorem n251_31 : Snd mt G 251 31 (oIload 0 32) := w_iload_n (hm := mm251) dJ11_hashCode_3_31
theorem n251_32 : Snd mt G 251 32 (oRetI .int) := w_iret (hm := mm251) dJ11_hashCode_3_32 rfl
theorem sj251 : ∀ pc, Snd mt G 251 pc (j251 pc) := fun pc => (snd_br ((snd_br ((snd_br ((snd_br ((snd_br ((snd_lf n251_32)) ((snd_lf n251_31)))) ((snd_lf n251_28)))) ((snd_br ((snd_br ((snd_lf n251_25)) ((snd_lf n251_24)))) ((snd_lf n251_23)))))) ((snd_br ((snd_br ((snd_br ((snd_lf n251_22)) ((snd_lf n251_20)))) ((snd_lf n251_19)))) ((snd_br ((snd_lf n251_18)) ((snd_lf n251_17)))))))) ((snd_br ((snd_br ((snd_br ((snd_br ((snd_lf n251_15)) ((snd_lf n251_12)))) ((snd_lf n251_10)))) ((snd_br ((snd_lf n251_8)) ((snd_lf n251_6)))))) ((snd_br ((snd_br ((snd_br ((snd_lf n251_5)) ((snd_lf n251_3)))) ((snd_lf n251_2)))) ((snd_br ((snd_lf n251_1)) ((snd_lf n251_0)))))))))
end
section
variable {G : AG}
theorem n252_0 : Snd mt G 252 0 (oIload 2 1) := w_iload_n (hm := mm252) dJ11_hashCode_4_0
theorem n252_1 : Snd mt G 252 1 (oIload 3 2) := w_iload_n (hm := mm252) dJ11_hashCode_4_1
theorem n252_2 : Snd mt G 252 2 (oBin (fun x y => x + y) 3) := w_iadd (hm := mm252) dJ11_hashCode_4_2
theorem n252_3 : Snd mt G 252 3 (oIstore 4 5) := w_istore (hm := mm252) dJ11_hashCode_4_3 (Nat.le_of_ble_eq_true rfl)
theorem n252_5 : Snd mt G 252 5 (oIload 2 6) := w_iload_n (hm := mm252) dJ11_hashCode_4_5
theorem n252_6 : Snd mt G 252 6 (oIstore 5 8) := w_istore (hm := mm252) dJ11_hashCode_4_6 (Nat.le_of_ble_eq_true rfl)
theorem n252_8 : Snd mt G 252 8 (oIload 5 10) := w_iload (hm := mm252) dJ11_hashCode_4_8
theorem n252_10 : Snd mt G 252 10 (oIload 4 12) := w_iload (hm := mm252) dJ11_hashCode_4_10
theorem n252_12 : Snd mt G 252 12 (oCmpGe 31 15) := w_icmp_ge (hm := mm252) dJ11_hashCode_4_12 rfl
theorem n252_15 : Snd mt G 252 15 (oConst (.int 31) 17) := w_bipush (hm := mm252) dJ11_hashCode_4_15 (by decide)
theorem n252_17 : Snd mt G 252 17 (oIload 0 18) := w_iload_n (hm := mm252) dJ11_hashCode_4_17
theorem n252_18 : Snd mt G 252 18 (oBin (fun x y => x * y) 19) := w_imul (hm := mm252) dJ11_hashCode_4_18
theorem n252_19 : Snd mt G 252 19 (oAload 1 20) := w_aload_n (hm := mm252) dJ11_hashCode_4_19
theorem n252_20 : Snd mt G 252 20 (oIload 5 22) := w_iload (hm := mm252) dJ11_hashCode_4_20
theorem n252_22 : Snd mt G 252 22 (oAld [100] 23) := w_iaload (hm := mm252) (kt := 0) dJ11_hashCode_4_22 at_0 (Nat.le_of_ble_eq_true rfl) (List.forall_mem_cons.mpr ⟨Or.inl rfl, (fun t ht => nomatch ht)⟩)
theorem n252_23 : Snd mt G 252 23 (oBin (fun x y => x + y) 24) := w_iadd (hm := mm252) dJ11_hashCode_4_23
theorem n252_24 : Snd mt G 252 24 (oIstore 0 25) := w_istore_n (hm := mm252) dJ11_hashCode_4_24 (Nat.le_of_ble_eq_true rfl)
theorem n252_25 : Snd mt G 252 25 (oIinc 5 1 28) := w_iinc (hm := mm252) dJ11_hashCode_4_25 rfl (Nat.le_of_ble_eq_true rfl)
theorem n252_28 : Snd mt G 252 28 (oGoto 8) := w_goto (hm := mm252) dJ11_hashCode_4_28 rfl
theorem n252_31 : Snd mt G 252 31 (oIload 0 32) := w_iload_n (hm := mm252) dJ11_hashCode_4_31
theorem n252_32 : Snd mt G 252 32 (oRetI .int) := w_iret (hm := mm252) dJ11_hashCode_4_32 rfl
theorem sj252 : ∀ pc, Snd mt G 252 pc (j252 pc) := fun pc => (snd_br ((snd_br ((snd_br ((snd_br ((snd_br ((snd_lf n252_32)) ((snd_lf n252_31)))) ((snd_lf n252_28)))) ((snd_br ((snd_br ((snd_lf n252_25)) ((snd_lf n252_24)))) ((snd_lf n252_23)))))) ((snd_br ((snd_br ((snd_br ((snd_lf n252_22)) ((snd_lf n252_20)))) ((snd_lf n252_19)))) ((snd_br ((snd_lf n252_18)) ((snd_lf n252_17)))))))) ((snd_br ((snd_br ((snd_br ((snd_br ((snd_lf n252_15)) ((snd_lf n252_12)))) ((snd_lf n252_10)))) ((snd_br ((snd_lf n252_8)) ((snd_lf n252_6)))))) ((snd_br ((snd_br ((snd_br ((snd_lf n252_5)) ((snd_lf n252_3)))) ((snd_lf n252_2)))) ((snd_br ((snd_lf n252_1)) ((snd_lf n252_0)))))))))
end
section
variable {G : AG}
theorem n253_0 : Snd mt G 253 0 (oIload 0 1) := w_iload_n (hm := mm253) dJ12_max_0
theorem n253_1 : Snd mt G 253 1 (oIload 1 2) := w_iload_n (hm := mm253) dJ12_max_1
theorem n253_2 : Snd mt G 253 2 (oCmpLt 9 5) := w_icmp_lt (hm := mm253) dJ12_max_2 rfl
theorem n253_5 : Snd mt G 253 5 (oIload 0 6) := w_iload_n (hm := mm253) dJ12_max_5
theorem n253_6 : Snd mt G 253 6 (oGoto 10) := w_goto (hm := mm253) dJ12_max_6 rfl
theorem n253_9 : Snd mt G 253 9 (oIload 1 10) := w_iload_n (hm := mm253) dJ12_max_9
theorem n253_10 : Snd mt G 253 10 (oRetI .int) := w_iret (hm := mm253) dJ12_max_10 rfl
theorem sj253 : ∀ pc, Snd mt G 253 pc (j253 pc) := fun pc => (snd_br ((snd_br ((snd_br ((snd_lf n253_10)) ((snd_lf n253_9)))) ((snd_br ((snd_lf n253_6)) ((snd_lf n253_5)))))) ((snd_br ((snd_br ((snd_lf n253_2)) ((snd_lf n253_1)))) ((snd_lf n253_0)))))
end
section
variable {G : AG}
theorem n254_0 : Snd mt G 254 0 (oIload 0 1) := w_iload_n (hm := mm254) dJ12_min_0
theorem n254_1 : Snd mt G 254 1 (oIload 1 2) := w_iload_n (hm := mm254) dJ12_min_1
theorem n254_2 : Snd mt G 254 2 (oCmpGt 9 5) := w_icmp_gt (hm := mm254) dJ12_min_2 rfl
theorem n254_5 : Snd mt G 254 5 (oIload 0 6) := w_iload_n (hm := mm254) dJ12_min_5
theorem n254_6 : Snd mt G 254 6 (oGoto 10) := w_goto (hm := mm254) dJ12_min_6 rfl
theorem n254_9 : Snd mt G 254 9 (oIload 1 10) := w_iload_n (hm := mm254) dJ12_min_9
theorem n254_10 : Snd mt G 254 10 (oRetI .int) := w_iret (hm := mm254) dJ12_min_10 rfl
theorem sj254 : ∀ pc, Snd mt G 254 pc (j254 pc) := fun pc => (snd_br ((snd_br ((snd_br ((snd_lf n254_10)) ((snd_lf n254_9)))) ((snd_br ((snd_lf n254_6)) ((snd_lf n254_5)))))) ((snd_br ((snd_br ((snd_lf n254_2)) ((snd_lf n254_1)))) ((snd_lf n254_0)))))
end
section
variable {G : AG}
theorem n255_0 : Snd mt G 255 0 (oIload 0 1) := w_iload_n (hm := mm255) dJ12_abs_0
theorem n255_1 : Snd mt G 255 1 (oIfGe 9 4) := w_if_ge (hm := mm255) dJ12_abs_1 rfl
theorem n255_4 : Snd mt G 255 4 (oIload 0 5) := w_iload_n (hm := mm255) dJ12_abs_4
theorem n255_5 : Snd mt G 255 5 (oUn (fun x => .int (-x)) 6) := w_ineg (hm := mm255) dJ12_abs_5
theorem n255_6 : Snd mt G 255 6 (oGoto 10) := w_goto (hm := mm255) dJ12_abs_6 rfl
theorem n255_9 : Snd mt G 255 9 (oIload 0 10) := w_iload_n (hm := mm255) dJ12_abs_9
theorem n255_10 : Snd mt G 255 10 (oRetI .int) := w_iret (hm := mm255) dJ12_abs_10 rfl
theorem sj255 : ∀ pc, Snd mt G 255 pc (j255 pc) := fun pc => (snd_br ((snd_br ((snd_br ((snd_lf n255_10)) ((snd_lf n255_9)))) ((snd_br ((snd_lf n255_6)) ((snd_lf n255_5)))))) ((snd_br ((snd_br ((snd_lf n255_4)) ((snd_lf n255_1)))) ((snd_lf n255_0)))))
end
section
variable {G : AG}
theorem n256_0 : Snd mt G 256 0 (oLload 0 1) := w_lload_n (hm := mm256) dJ12_abs_2_0
theorem n256_1 : Snd mt G 256 1 (oConst (.long 0) 2) := w_lconst (hm := mm256) dJ12_abs_2_1 rfl
theorem n256_2 : Snd mt G 256 2 (oLbin (fun x y => .int (lg_cmp x y)) 3) := w_lcmp (hm := mm256) dJ12_abs_2_2
theorem n256_3 : Snd mt G 256 3 (oIfGe 11 6) := w_if_ge (hm := mm256) dJ12_abs_2_3 rfl
theorem n256_6 : Snd mt G 256 6 (oLload 0 7) := w_lload_n (hm := mm256) dJ12_abs_2_6
theorem n256_7 : Snd mt G 256 7 (oLun (fun x => .long (-x)) 8) := w_lneg (hm := mm256) dJ12_abs_2_7
theorem n256_8 : Snd mt G 256 8 (oGoto 12) := w_goto (hm := mm256) dJ12_abs_2_8 rfl
theorem n256_11 : Snd mt G 256 11 (oLload 0 12) := w_lload_n (hm := mm256) dJ12_abs_2_11
theorem n256_12 : Snd mt G 256 12 (oRetL) := w_lret (hm := mm256) dJ12_abs_2_12 rfl
theorem sj256 : ∀ pc, Snd mt G 256 pc (j256 pc) := fun pc => (snd_br ((snd_br ((snd_br ((snd_br ((snd_lf n256_12)) ((snd_lf n256_11)))) ((snd_lf n256_8)))) ((snd_br ((snd_lf n256_7)) ((snd_lf n256_6)))))) ((snd_br ((snd_br ((snd_lf n256_3)) ((snd_lf n256_2)))) ((snd_br ((snd_lf n256_1)) ((snd_lf n256_0)))))))
end
section
variable {G : AG}
theorem n257_0 : Snd mt G 257 0 (oIload 1 1) := w_iload_n (hm := mm257) dJ13_copyOf_0
theorem n257_1 : Snd mt G 257 1 (oAload 0 2) := w_aload_n (hm := mm257) dJ13_copyOf_1
theorem n257_2 : Snd mt G 257 2 (oAlen 3) := w_alen (hm := mm257) dJ13_copyOf_2
theorem n257_3 : Snd mt G 257 3 (oCmpEq 6 14) := w_icmp_ne (hm := mm257) dJ13_copyOf_3 rfl
theorem n257_6 : Snd mt G 257 6 (oAload 0 7) := w_aload_n (hm := mm257) dJ13_copyOf_6
theorem n257_7 : Snd mt G 257 7 (fun _ _ _ _ => stuck) := snd_stuck
theorem n257_10 : Snd mt G 257 10 (oCast [101] 13) := w_castB (hm := mm257) dJ13_copyOf_10 q329 (List.forall_mem_cons.mpr ⟨rfl, (fun t ht => nomatch ht)⟩)
theorem n257_13 : Snd mt G 257 13 (oRetA) := w_aret (hm := mm257) dJ13_copyOf_13 rfl (Or.inr ⟨_, rfl⟩)
theorem n257_14 : Snd mt G 257 14 (oIload 1 15) := w_iload_n (hm := mm257) dJ13_copyOf_14
theorem n257_15 : Snd mt G 257 15 (oNewa 101 (.int 0) 17) := w_newa (hm := mm257) (kt := 1) dJ13_copyOf_15 (Nat.le_of_ble_eq_true rfl) at_1 rfl (fun C q => nomatch q) (Nat.le_of_ble_eq_true rfl) q288
theorem n257_17 : Snd mt G 257 17 (oAstore 2 18) := w_astore_n (hm := mm257) dJ13_copyOf_17 (Nat.le_of_ble_eq_true rfl)
theorem n257_18 : Snd mt G 257 18 (oAload 0 19) := w_aload_n (hm := mm257) dJ13_copyOf_18
theorem n257_19 : Snd mt G 257 19 (oConst (.int 0) 20) := w_iconst (hm := mm257) dJ13_copyOf_19 rfl
theorem n257_20 : Snd mt G 257 20 (oAload 2 21) := w_aload_n (hm := mm257) dJ13_copyOf_20
theorem n257_21 : Snd mt G 257 21 (oConst (.int 0) 22) := w_iconst (hm := mm257) dJ13_copyOf_21 rfl
theorem n257_22 : Snd mt G 257 22 (oAload 0 23) := w_aload_n (hm := mm257) dJ13_copyOf_22
theorem n257_23 : Snd mt G 257 23 (oAlen 24) := w_alen (hm := mm257) dJ13_copyOf_23
theorem n257_24 : Snd mt G 257 24 (oIload 1 25) := w_iload_n (hm := mm257) dJ13_copyOf_24
theorem n257_25 : Snd mt G 257 25 (oMath2 (fun x y => if y < x then y else x) 28) := w_mmin (hm := mm257) dJ13_copyOf_25 (Nat.le_of_ble_eq_true rfl) q330 q331 q143 q332
theorem n257_28 : Snd mt G 257 28 (oCopy [101, 1101] [101] (ckTy .byte) 31) := w_copy (hm := mm257) (kt := 1) dJ13_copyOf_28 (Nat.le_of_ble_eq_true rfl) at_1 (List.forall_mem_cons.mpr ⟨Or.inl rfl, (List.forall_mem_cons.mpr ⟨Or.inr rfl, (fun t ht => nomatch ht)⟩)⟩) (List.forall_mem_cons.mpr ⟨rfl, (fun t ht => nomatch ht)⟩) (fun s h H v _ _ e => ck_int s h H .byte v e) (Nat.le_of_ble_eq_true rfl) q333 q335 q334 q145
theorem n257_31 : Snd mt G 257 31 (oAload 2 32) := w_aload_n (hm := mm257) dJ13_copyOf_31
theorem n257_32 : Snd mt G 257 32 (oRetA) := w_aret (hm := mm257) dJ13_copyOf_32 rfl (Or.inr ⟨_, rfl⟩)
theorem sj257 : ∀ pc, Snd mt G 257 pc (j257 pc) := fun pc => (snd_br ((snd_br ((snd_br ((snd_br ((snd_br ((snd_lf n257_32)) ((snd_lf n257_31)))) ((snd_lf n257_28)))) ((snd_br ((snd_br ((snd_lf n257_25)) ((snd_lf n257_24)))) ((snd_lf n257_23)))))) ((snd_br ((snd_br ((snd_br ((snd_lf n257_22)) ((snd_lf n257_21)))) ((snd_lf n257_20)))) ((snd_br ((snd_lf n257_19)) ((snd_lf n257_18)))))))) ((snd_br ((snd_br ((snd_br ((snd_br ((snd_lf n257_17)) ((snd_lf n257_15)))) ((snd_lf n257_14)))) ((snd_br ((snd_br ((snd_lf n257_13)) ((snd_lf n257_10)))) ((snd_lf n257_7)))))) ((snd_br ((snd_br ((snd_br ((snd_lf n257_6)) ((snd_lf n257_3)))) ((snd_lf n257_2)))) ((snd_br ((snd_lf n257_1)) ((snd_lf n257_0)))))))))
end
section
variable {G : AG}
theorem n258_0 : Snd mt G 258 0 (oIload 1 1) := w_iload_n (hm := mm258) dJ13_copyOfRange_0
theorem n258_1 : Snd mt G 258 1 (oIfEq 4 10) := w_if_ne (hm := mm258) dJ13_copyOfRange_1 rfl
theorem n258_4 : Snd mt G 258 4 (oIload 2 5) := w_iload_n (hm := mm258) dJ13_copyOfRange_4
theorem n258_5 : Snd mt G 258 5 (oAload 0 6) := w_aload_n (hm := mm258) dJ13_copyOfRange_5
theorem n258_6 : Snd mt G 258 6 (oAlen 7) := w_alen (hm := mm258) dJ13_copyOfRange_6
theorem n258_7 : Snd mt G 258 7 (oCmpEq 17 10) := w_icmp_eq (hm := mm258) dJ13_copyOfRange_7 rfl
theorem n258_10 : Snd mt G 258 10 (oAload 0 11) := w_aload_n (hm := mm258) dJ13_copyOfRange_10
theorem n258_11 : Snd mt G 258 11 (oIload 1 12) := w_iload_n (hm := mm258) dJ13_copyOfRange_11
theorem n258_12 : Snd mt G 258 12 (oIload 2 13) := w_iload_n (hm := mm258) dJ13_copyOfRange_12
theorem n258_13 : Snd mt G 258 13 (oCall 3 (fS 259 5) 1 16 xOut) := s_callS (m' := 259) (n := 3) xsh_out (w_xok0 mm258) (w_cal mm258 mm259 pn_J13 (Nat.le_of_ble_eq_true rfl) (Nat.le_of_ble_eq_true rfl)) (fun h as hn => w_run_S mm258 mm259 dJ13_copyOfRange_13 q465 q466 q144 q467 pa259 hn)
theorem n258_16 : Snd mt G 258 16 (oRetA) := w_aret (hm := mm258) dJ13_copyOfRange_16 rfl (Or.inr ⟨_, rfl⟩)
theorem n258_17 : Snd mt G 258 17 (oAload 0 18) := w_aload_n (hm := mm258) dJ13_copyOfRange_17
theorem n258_18 : Snd mt G 258 18 (fun _ _ _ _ => stuck) := snd_stuck
theorem n258_21 : Snd mt G 258 21 (oCast [101] 24) := w_castB (hm := mm258) dJ13_copyOfRange_21 q329 (List.forall_mem_cons.mpr ⟨rfl, (fun t ht => nomatch ht)⟩)
theorem n258_24 : Snd mt G 258 24 (oRetA) := w_aret (hm := mm258) dJ13_copyOfRange_24 rfl (Or.inr ⟨_, rfl⟩)
theorem sj258 : ∀ pc, Snd mt G 258 pc (j258 pc) := fun pc => (snd_br ((snd_br ((snd_br ((snd_br ((snd_lf n258_24)) ((snd_lf n258_21)))) ((snd_br ((snd_lf n258_18)) ((snd_lf n258_17)))))) ((snd_br ((snd_br ((snd_lf n258_16)) ((snd_lf n258_13)))) ((snd_br ((snd_lf n258_12)) ((snd_lf n258_11)))))))) ((snd_br ((snd_br ((snd_br ((snd_lf n258_10)) ((snd_lf n258_7)))) ((snd_br ((snd_lf n258_6)) ((snd_lf n258_5)))))) ((snd_br ((snd_br ((snd_lf n258_4)) ((snd_lf n258_1)))) ((snd_lf n258_0)))))))
end
section
variable {G : AG}
theorem n259_0 : Snd mt G 259 0 (oIload 1 1) := w_iload_n (hm := mm259) dJ13_copyOfRangeByte_0
theorem n259_1 : Snd mt G 259 1 (oIload 2 2) := w_iload_n (hm := mm259) dJ13_copyOfRangeByte_1
theorem n259_2 : Snd mt G 259 2 (oCall 2 (fS 260 2) 1 5 xOut) := s_callS (m' := 260) (n := 2) xsh_out (w_xok0 mm259) (w_cal mm259 mm260 pn_J13 (Nat.le_of_ble_eq_true rfl) (Nat.le_of_ble_eq_true rfl)) (fun h as hn => w_run_S mm259 mm260 dJ13_copyOfRangeByte_2 q468 q469 q144 q470 pa260 hn)
theorem n259_5 : Snd mt G 259 5 (oIload 2 6) := w_iload_n (hm := mm259) dJ13_copyOfRangeByte_5
theorem n259_6 : Snd mt G 259 6 (oIload 1 7) := w_iload_n (hm := mm259) dJ13_copyOfRangeByte_6
theorem n259_7 : Snd mt G 259 7 (oBin (fun x y => x - y) 8) := w_isub (hm := mm259) dJ13_copyOfRangeByte_7
theorem n259_8 : Snd mt G 259 8 (oIstore 3 9) := w_istore_n (hm := mm259) dJ13_copyOfRangeByte_8 (Nat.le_of_ble_eq_true rfl)
theorem n259_9 : Snd mt G 259 9 (oIload 3 10) := w_iload_n (hm := mm259) dJ13_copyOfRangeByte_9
theorem n259_10 : Snd mt G 259 10 (oNewa 101 (.int 0) 12) := w_newa (hm := mm259) (kt := 1) dJ13_copyOfRangeByte_10 (Nat.le_of_ble_eq_true rfl) at_1 rfl (fun C q => nomatch q) (Nat.le_of_ble_eq_true rfl) q288
theorem n259_12 : Snd mt G 259 12 (oAstore 4 14) := w_astore (hm := mm259) dJ13_copyOfRangeByte_12 (Nat.le_of_ble_eq_true rfl)
theorem n259_14 : Snd mt G 259 14 (oAload 0 15) := w_aload_n (hm := mm259) dJ13_copyOfRangeByte_14
theorem n259_15 : Snd mt G 259 15 (oIload 1 16) := w_iload_n (hm := mm259) dJ13_copyOfRangeByte_15
theorem n259_16 : Snd mt G 259 16 (oAload 4 18) := w_aload (hm := mm259) dJ13_copyOfRangeByte_16
theorem n259_18 : Snd mt G 259 18 (oConst (.int 0) 19) := w_iconst (hm := mm259) dJ13_copyOfRangeByte_18 rfl
theorem n259_19 : Snd mt G 259 19 (oAload 0 20) := w_aload_n (hm := mm259) dJ13_copyOfRangeByte_19
theorem n259_20 : Snd mt G 259 20 (oAlen 21) := w_alen (hm := mm259) dJ13_copyOfRangeByte_20
theorem n259_21 : Snd mt G 259 21 (oIload 1 22) := w_iload_n (hm := mm259) dJ13_copyOfRangeByte_21
theorem n259_22 : Snd mt G 259 22 (oBin (fun x y => x - y) 23) := w_isub (hm := mm259) dJ13_copyOfRangeByte_22
theorem n259_23 : Snd mt G 259 23 (oIload 3 24) := w_iload_n (hm := mm259) dJ13_copyOfRangeByte_23
theorem n259_24 : Snd mt G 259 24 (oMath2 (fun x y => if y < x then y else x) 27) := w_mmin (hm := mm259) dJ13_copyOfRangeByte_24 (Nat.le_of_ble_eq_true rfl) q330 q331 q143 q332
theorem n259_27 : Snd mt G 259 27 (oCopy [101, 1101] [101] (ckTy .byte) 30) := w_copy (hm := mm259) (kt := 1) dJ13_copyOfRangeByte_27 (Nat.le_of_ble_eq_true rfl) at_1 (List.forall_mem_cons.mpr ⟨Or.inl rfl, (List.forall_mem_cons.mpr ⟨Or.inr rfl, (fun t ht => nomatch ht)⟩)⟩) (List.forall_mem_cons.mpr ⟨rfl, (fun t ht => nomatch ht)⟩) (fun s h H v _ _ e => ck_int s h H .byte v e) (Nat.le_of_ble_eq_true rfl) q333 q335 q334 q145
theorem n259_30 : Snd mt G 259 30 (oAload 4 32) := w_aload (hm := mm259) dJ13_copyOfRangeByte_30
theorem n259_32 : Snd mt G 259 32 (oRetA) := w_aret (hm := mm259) dJ13_copyOfRangeByte_32 rfl (Or.inr ⟨_, rfl⟩)
theorem sj259 : ∀ pc, Snd mt G 259 pc (j259 pc) := fun pc => (snd_br ((snd_br ((snd_br ((snd_br ((snd_br ((snd_lf n259_32)) ((snd_lf n259_30)))) ((snd_lf n259_27)))) ((snd_br ((snd_br ((snd_lf n259_24)) ((snd_lf n259_23)))) ((snd_lf n259_22)))))) ((snd_br ((snd_br ((snd_br ((snd_lf n259_21)) ((snd_lf n259_20)))) ((snd_lf n259_19)))) ((snd_br ((snd_br ((snd_lf n259_18)) ((snd_lf n259_16)))) ((snd_lf n259_15)))))))) ((snd_br ((snd_br ((snd_br ((snd_br ((snd_lf n259_14)) ((snd_lf n259_12)))) ((snd_lf n259_10)))) ((snd_br ((snd_br ((snd_lf n259_9)) ((snd_lf n259_8)))) ((snd_lf n259_7)))))) ((snd_br ((snd_br ((snd_br ((snd_lf n259_6)) ((snd_lf n259_5)))) ((snd_lf n259_2)))) ((snd_br ((snd_lf n259_1)) ((snd_lf n259_0)))))))))
end
section
variable {G : AG}
theorem n260_0 : Snd mt G 260 0 (oIload 1 1) := w_iload_n (hm := mm260) dJ13_checkLength_0
theorem n260_1 : Snd mt G 260 1 (oIload 0 2) := w_iload_n (hm := mm260) dJ13_checkLength_1
theorem n260_2 : Snd mt G 260 2 (oCmpGe 37 5) := w_icmp_ge (hm := mm260) dJ13_checkLength_2 rfl
theorem n260_5 : Snd mt G 260 5 (fun _ _ _ _ => stuck) := snd_stuck
theorem n260_8 : Snd mt G 260 8 (oDup 9) := w_dup (hm := mm260) dJ13_checkLength_8
theorem n260_9 : Snd mt G 260 9 (oNew 29 4 nfJ8 12) := w_new (hm := mm260) (ci := 28) (T9 := TJ8) (ty := tyJ8) dJ13_checkLength_9 (Nat.le_of_ble_eq_true rfl) vc_28 tyJ8_ok (fun _ _ => rfl) q472 q258 q139
theorem n260_12 : Snd mt G 260 12 (oDup 13) := w_dup (hm := mm260) dJ13_checkLength_12
theorem n260_13 : Snd mt G 260 13 (oCall 1 (fI 208 1) 0 16 xOut) := s_callI (m' := 208) (n := 0) xsh_out (w_xok0 mm260) (w_cal mm260 mm208 pn_J8 (Nat.le_of_ble_eq_true rfl) (Nat.le_of_ble_eq_true rfl)) (fun h b as hn => w_run_I mm260 mm208 dJ13_checkLength_13 rfl rfl q473 q260 q139 q261 pa208 hn)
theorem n260_16 : Snd mt G 260 16 (oIload 0 17) := w_iload_n (hm := mm260) dJ13_checkLength_16
theorem n260_17 : Snd mt G 260 17 (oCall 2 (fV [29] 210 2) 1 20 xOut) := s_callV (m' := 210) (n := 1) xsh_out (w_xok0 mm260) (w_cal mm260 mm210 pn_J8 (Nat.le_of_ble_eq_true rfl) (Nat.le_of_ble_eq_true rfl)) (fun h b as hc hn => w_run_V (ci := 28) mm260 mm210 dJ13_checkLength_17 (Or.inl (List.mem_singleton.mp hc)) (Nat.le_of_ble_eq_true rfl) vc_28 rfl q474 q411 q412 q139 q413 pa210 hn)
theorem n260_20 : Snd mt G 260 20 (fun _ _ _ _ => stuck) := snd_stuck
theorem n260_23 : Snd mt G 260 23 (oCall 2 (fV [29] 209 2) 1 26 xOut) := s_callV (m' := 209) (n := 1) xsh_out (w_xok0 mm260) (w_cal mm260 mm209 pn_J8 (Nat.le_of_ble_eq_true rfl) (Nat.le_of_ble_eq_true rfl)) (fun h b as hc hn => w_run_V (ci := 28) mm260 mm209 dJ13_checkLength_23 (Or.inl (List.mem_singleton.mp hc)) (Nat.le_of_ble_eq_true rfl) vc_28 rfl q476 q291 q292 q139 q293 pa209 hn)
theorem n260_26 : Snd mt G 260 26 (oIload 1 27) := w_iload_n (hm := mm260) dJ13_checkLength_26
theorem n260_27 : Snd mt G 260 27 (oCall 2 (fV [29] 210 2) 1 30 xOut) := s_callV (m' := 210) (n := 1) xsh_out (w_xok0 mm260) (w_cal mm260 mm210 pn_J8 (Nat.le_of_ble_eq_true rfl) (Nat.le_of_ble_eq_true rfl)) (fun h b as hc hn => w_run_V (ci := 28) mm260 mm210 dJ13_checkLength_27 (Or.inl (List.mem_singleton.mp hc)) (Nat.le_of_ble_eq_true rfl) vc_28 rfl q474 q411 q412 q139 q413 pa210 hn)
theorem n260_30 : Snd mt G 260 30 (oCall 1 (fV [29] 211 1) 1 33 xOut) := s_callV (m' := 211) (n := 0) xsh_out (w_xok0 mm260) (w_cal mm260 mm211 pn_J8 (Nat.le_of_ble_eq_true rfl) (Nat.le_of_ble_eq_true rfl)) (fun h b as hc hn => w_run_V (ci := 28) mm260 mm211 dJ13_checkLength_30 (Or.inl (List.mem_singleton.mp hc)) (Nat.le_of_ble_eq_true rfl) vc_28 rfl q477 q436 q437 q139 q438 pa211 hn)
theorem n260_33 : Snd mt G 260 33 (oCall 2 (fI 193 2) 0 36 xOut) := s_callI (m' := 193) (n := 1) xsh_out (w_xok0 mm260) (w_cal mm260 mm193 pn_J6 (Nat.le_of_ble_eq_true rfl) (Nat.le_of_ble_eq_true rfl)) (fun h b as hn => w_run_I mm260 mm193 dJ13_checkLength_33 rfl rfl q478 q479 q137 q480 pa193 hn)
theorem n260_36 : Snd mt G 260 36 (oThrow [7]) := w_throw (hm := mm260) dJ13_checkLength_36 (List.forall_mem_cons.mpr ⟨⟨6, _, rfl, (Nat.le_of_ble_eq_true rfl), vc_6⟩, (fun t ht => nomatch ht)⟩) rfl
theorem n260_37 : Snd mt G 260 37 (oRetV) := w_vret (hm := mm260) dJ13_checkLength_37 rfl
theorem sj260 : ∀ pc, Snd mt G 260 pc (j260 pc) := fun pc => (snd_br ((snd_br ((snd_br ((snd_br ((snd_br ((snd_lf n260_37)) ((snd_lf n260_36)))) ((snd_lf n260_33)))) ((snd_br ((snd_lf n260_30)) ((snd_lf n260_27)))))) ((snd_br ((snd_br ((snd_lf n260_26)) ((snd_lf n260_23)))) ((snd_br ((snd_lf n260_20)) ((snd_lf n260_17)))))))) ((snd_br ((snd_br ((snd_br ((snd_br ((snd_lf n260_16)) ((snd_lf n260_13)))) ((snd_lf n260_12)))) ((snd_br ((snd_lf n260_9)) ((snd_lf n260_8)))))) ((snd_br ((snd_br ((snd_lf n260_5)) ((snd_lf n260_2)))) ((snd_br ((snd_lf n260_1)) ((snd_lf n260_0)))))))))
end
section
variable {G : AG}
theorem n261_0 : Snd mt G 261 0 (oAload 0 1) := w_aload_n (hm := mm261) dJ13_copyOf_2_0
theorem n261_1 : Snd mt G 261 1 (oIload 1 2) := w_iload_n (hm := mm261) dJ13_copyOf_2_1
theorem n261_2 : Snd mt G 261 2 (oAload 0 3) := w_aload_n (hm := mm261) dJ13_copyOf_2_2
theorem n261_3 : Snd mt G 261 3 (oGetC [103] 6) := w_getC (hm := mm261) dJ13_copyOf_2_3 (Nat.le_of_ble_eq_true rfl) q1006 (List.mem_filter.mpr ⟨q3237, rfl⟩) q3236 q1007 q1046 (List.forall_mem_cons.mpr ⟨rfl, (fun t ht => nomatch ht)⟩)
theorem n261_6 : Snd mt G 261 6 (oCall 3 (fS 262 4) 0 9 xOut) := s_callS (m' := 262) (n := 3) xsh_out (w_xok0 mm261) (w_cal mm261 mm262 pn_J13 (Nat.le_of_ble_eq_true rfl) (Nat.le_of_ble_eq_true rfl)) (fun h as hn => w_run_S mm261 mm262 dJ13_copyOf_2_6 q1047 q1048 q144 q1049 pa262 hn)
theorem n261_9 : Snd mt G 261 9 (oRetA) := w_aret (hm := mm261) dJ13_copyOf_2_9 rfl (Or.inr ⟨_, rfl⟩)
theorem sj261 : ∀ pc, Snd mt G 261 pc (j261 pc) := fun pc => (snd_br ((snd_br ((snd_br ((snd_lf n261_9)) ((snd_lf n261_6)))) ((snd_lf n261_3)))) ((snd_br ((snd_br ((snd_lf n261_2)) ((snd_lf n261_1)))) ((snd_lf n261_0)))))
end
section
variable {G : AG}
theorem n262_0 : Snd mt G 262 0 (oAload 2 1) := w_aload_n (hm := mm262) dJ13_copyOf_3_0
theorem n262_1 : Snd mt G 262 1 (oGets 999 3) := w_ldcM (hm := mm262) dJ13_copyOf_3_1 q1050
theorem n262_3 : Snd mt G 262 3 (oAcmp 6 13) := w_acmp_ne (hm := mm262) dJ13_copyOf_3_3 rfl
theorem n262_6 : Snd mt G 262 6 (oIload 1 7) := w_iload_n (hm := mm262) dJ13_copyOf_3_6
theorem n262_7 : Snd mt G 262 7 (oNewa 103 .null 10) := w_anew (hm := mm262) (kt := 3) dJ13_copyOf_3_7 (Nat.le_of_ble_eq_true rfl) at_3 q1051 (by decide)
theorem n262_10 : Snd mt G 262 10 (oGoto 24) := w_goto (hm := mm262) dJ13_copyOf_3_10 rfl
theorem n262_13 : Snd mt G 262 13 (oAload 2 14) := w_aload_n (hm := mm262) dJ13_copyOf_3_13
theorem n262_14 : Snd mt G 262 14 (fun _ _ _ _ => stuck) := snd_stuck
theorem n262_17 : Snd mt G 262 17 (oIload 1 18) := w_iload_n (hm := mm262) dJ13_copyOf_3_17
theorem n262_18 : Snd mt G 262 18 (fun _ _ _ _ => stuck) := snd_stuck
theorem n262_21 : Snd mt G 262 21 (fun _ _ _ _ => stuck) := snd_stuck
theorem n262_24 : Snd mt G 262 24 (oAstore 3 25) := w_astore_n (hm := mm262) dJ13_copyOf_3_24 (Nat.le_of_ble_eq_true rfl)
theorem n262_25 : Snd mt G 262 25 (oAload 0 26) := w_aload_n (hm := mm262) dJ13_copyOf_3_25
theorem n262_26 : Snd mt G 262 26 (oConst (.int 0) 27) := w_iconst (hm := mm262) dJ13_copyOf_3_26 rfl
theorem n262_27 : Snd mt G 262 27 (oAload 3 28) := w_aload_n (hm := mm262) dJ13_copyOf_3_27
theorem n262_28 : Snd mt G 262 28 (oConst (.int 0) 29) := w_iconst (hm := mm262) dJ13_copyOf_3_28 rfl
theorem n262_29 : Snd mt G 262 29 (oAload 0 30) := w_aload_n (hm := mm262) dJ13_copyOf_3_29
theorem n262_30 : Snd mt G 262 30 (oAlen 31) := w_alen (hm := mm262) dJ13_copyOf_3_30
theorem n262_31 : Snd mt G 262 31 (oIload 1 32) := w_iload_n (hm := mm262) dJ13_copyOf_3_31
theorem n262_32 : Snd mt G 262 32 (oMath2 (fun x y => if y < x then y else x) 35) := w_mmin (hm := mm262) dJ13_copyOf_3_32 (Nat.le_of_ble_eq_true rfl) q330 q331 q143 q332
theorem n262_35 : Snd mt G 262 35 (oCopy [103, 1103] [103] (ckRef es3) 38) := w_copy (hm := mm262) (kt := 3) dJ13_copyOf_3_35 (Nat.le_of_ble_eq_true rfl) at_3 (List.forall_mem_cons.mpr ⟨Or.inl rfl, (List.forall_mem_cons.mpr ⟨Or.inr rfl, (fun t ht => nomatch ht)⟩)⟩) (List.forall_mem_cons.mpr ⟨rfl, (fun t ht => nomatch ht)⟩) (fun s h H v hEn hR e => ck_ref es3_ok s h H v hEn hR e) (Nat.le_of_ble_eq_true rfl) q333 q335 q334 q145
theorem n262_38 : Snd mt G 262 38 (oAload 3 39) := w_aload_n (hm := mm262) dJ13_copyOf_3_38
theorem n262_39 : Snd mt G 262 39 (oRetA) := w_aret (hm := mm262) dJ13_copyOf_3_39 rfl (Or.inr ⟨_, rfl⟩)
theorem sj262 : ∀ pc, Snd mt G 262 pc (j262 pc) := fun pc => (snd_br ((snd_br ((snd_br ((snd_br ((snd_br ((snd_lf n262_39)) ((snd_lf n262_38)))) ((snd_lf n262_35)))) ((snd_br ((snd_br ((snd_lf n262_32)) ((snd_lf n262_31)))) ((snd_lf n262_30)))))) ((snd_br ((snd_br ((snd_br ((snd_lf n262_29)) ((snd_lf n262_28)))) ((snd_lf n262_27)))) ((snd_br ((snd_br ((snd_lf n262_26)) ((snd_lf n262_25)))) ((snd_lf n262_24)))))))) ((snd_br ((snd_br ((snd_br ((snd_br ((snd_lf n262_21)) ((snd_lf n262_18)))) ((snd_lf n262_17)))) ((snd_br ((snd_br ((snd_lf n262_14)) ((snd_lf n262_13)))) ((snd_lf n262_10)))))) ((snd_br ((snd_br ((snd_br ((snd_lf n262_7)) ((snd_lf n262_6)))) ((snd_lf n262_3)))) ((snd_br ((snd_lf n262_1)) ((snd_lf n262_0)))))))))
end
section
variable {G : AG}
theorem n263_0 : Snd mt G 263 0 (oIload 0 1) := w_iload_n (hm := mm263) dJ14_checkFromToIndex_0
theorem n263_1 : Snd mt G 263 1 (oIfLt 14 4) := w_if_lt (hm := mm263) dJ14_checkFromToIndex_1 rfl
theorem n263_4 : Snd mt G 263 4 (oIload 0 5) := w_iload_n (hm := mm263) dJ14_checkFromToIndex_4
theorem n263_5 : Snd mt G 263 5 (oIload 1 6) := w_iload_n (hm := mm263) dJ14_checkFromToIndex_5
theorem n263_6 : Snd mt G 263 6 (oCmpGt 14 9) := w_icmp_gt (hm := mm263) dJ14_checkFromToIndex_6 rfl
theorem n263_9 : Snd mt G 263 9 (oIload 1 10) := w_iload_n (hm := mm263) dJ14_checkFromToIndex_9
theorem n263_10 : Snd mt G 263 10 (oIload 2 11) := w_iload_n (hm := mm263) dJ14_checkFromToIndex_10
theorem n263_11 : Snd mt G 263 11 (oCmpLe 22 14) := w_icmp_le (hm := mm263) dJ14_checkFromToIndex_11 rfl
theorem n263_14 : Snd mt G 263 14 (oAload 3 15) := w_aload_n (hm := mm263) dJ14_checkFromToIndex_14
theorem n263_15 : Snd mt G 263 15 (oIload 0 16) := w_iload_n (hm := mm263) dJ14_checkFromToIndex_15
theorem n263_16 : Snd mt G 263 16 (oIload 1 17) := w_iload_n (hm := mm263) dJ14_checkFromToIndex_16
theorem n263_17 : Snd mt G 263 17 (oIload 2 18) := w_iload_n (hm := mm263) dJ14_checkFromToIndex_17
theorem n263_18 : Snd mt G 263 18 (fun _ _ _ _ => stuck) := snd_stuck
theorem n263_21 : Snd mt G 263 21 (oThrow [7]) := w_throw (hm := mm263) dJ14_checkFromToIndex_21 (List.forall_mem_cons.mpr ⟨⟨6, _, rfl, (Nat.le_of_ble_eq_true rfl), vc_6⟩, (fun t ht => nomatch ht)⟩) rfl
theorem n263_22 : Snd mt G 263 22 (oIload 0 23) := w_iload_n (hm := mm263) dJ14_checkFromToIndex_22
theorem n263_23 : Snd mt G 263 23 (oRetI .int) := w_iret (hm := mm263) dJ14_checkFromToIndex_23 rfl
theorem sj263 : ∀ pc, Snd mt G 263 pc (j263 pc) := fun pc => (snd_br ((snd_br ((snd_br ((snd_br ((snd_lf n263_23)) ((snd_lf n263_22)))) ((snd_br ((snd_lf n263_21)) ((snd_lf n263_18)))))) ((snd_br ((snd_br ((snd_lf n263_17)) ((snd_lf n263_16)))) ((snd_br ((snd_lf n263_15)) ((snd_lf n263_14)))))))) ((snd_br ((snd_br ((snd_br ((snd_lf n263_11)) ((snd_lf n263_10)))) ((snd_br ((snd_lf n263_9)) ((snd_lf n263_6)))))) ((snd_br ((snd_br ((snd_lf n263_5)) ((snd_lf n263_4)))) ((snd_br ((snd_lf n263_1)) ((snd_lf n263_0)))))))))
end
section
variable {G : AG}
theorem n264_0 : Snd mt G 264 0 (oIload 2 1) := w_iload_n (hm := mm264) dJ14_checkFromIndexSize_0
theorem n264_1 : Snd mt G 264 1 (oIload 0 2) := w_iload_n (hm := mm264) dJ14_checkFromIndexSize_1
theorem n264_2 : Snd mt G 264 2 (oBin (fun x y => x ||| y) 3) := w_ior (hm := mm264) dJ14_checkFromIndexSize_2
theorem n264_3 : Snd mt G 264 3 (oIload 1 4) := w_iload_n (hm := mm264) dJ14_checkFromIndexSize_3
theorem n264_4 : Snd mt G 264 4 (oBin (fun x y => x ||| y) 5) := w_ior (hm := mm264) dJ14_checkFromIndexSize_4
theorem n264_5 : Snd mt G 264 5 (oIfLt 15 8) := w_if_lt (hm := mm264) dJ14_checkFromIndexSize_5 rfl
theorem n264_8 : Snd mt G 264 8 (oIload 1 9) := w_iload_n (hm := mm264) dJ14_checkFromIndexSize_8
theorem n264_9 : Snd mt G 264 9 (oIload 2 10) := w_iload_n (hm := mm264) dJ14_checkFromIndexSize_9
theorem n264_10 : Snd mt G 264 10 (oIload 0 11) := w_iload_n (hm := mm264) dJ14_checkFromIndexSize_10
theorem n264_11 : Snd mt G 264 11 (oBin (fun x y => x - y) 12) := w_isub (hm := mm264) dJ14_checkFromIndexSize_11
theorem n264_12 : Snd mt G 264 12 (oCmpLe 23 15) := w_icmp_le (hm := mm264) dJ14_checkFromIndexSize_12 rfl
theorem n264_15 : Snd mt G 264 15 (oAload 3 16) := w_aload_n (hm := mm264) dJ14_checkFromIndexSize_15
theorem n264_16 : Snd mt G 264 16 (oIload 0 17) := w_iload_n (hm := mm264) dJ14_checkFromIndexSize_16
theorem n264_17 : Snd mt G 264 17 (oIload 1 18) := w_iload_n (hm := mm264) dJ14_checkFromIndexSize_17
theorem n264_18 : Snd mt G 264 18 (oIload 2 19) := w_iload_n (hm := mm264) dJ14_checkFromIndexSize_18
theorem n264_19 : Snd mt G 264 19 (fun _ _ _ _ => stuck) := snd_stuck
theorem n264_22 : Snd mt G 264 22 (oThrow [7]) := w_throw (hm := mm264) dJ14_checkFromIndexSize_22 (List.forall_mem_cons.mpr ⟨⟨6, _, rfl, (Nat.le_of_ble_eq_true rfl), vc_6⟩, (fun t ht => nomatch ht)⟩) rfl
theorem n264_23 : Snd mt G 264 23 (oIload 0 24) := w_iload_n (hm := mm264) dJ14_checkFromIndexSize_23
theorem n264_24 : Snd mt G 264 24 (oRetI .int) := w_iret (hm := mm264) dJ14_checkFromIndexSize_24 rfl
theorem sj264 : ∀ pc, Snd mt G 264 pc (j264 pc) := fun pc => (snd_br ((snd_br ((snd_br ((snd_br ((snd_br ((snd_lf n264_24)) ((snd_lf n264_23)))) ((snd_lf n264_22)))) ((snd_br ((snd_lf n264_19)) ((snd_lf n264_18)))))) ((snd_br ((snd_br ((snd_br ((snd_lf n264_17)) ((snd_lf n264_16)))) ((snd_lf n264_15)))) ((snd_br ((snd_lf n264_12)) ((snd_lf n264_11)))))))) ((snd_br ((snd_br ((snd_br ((snd_br ((snd_lf n264_10)) ((snd_lf n264_9)))) ((snd_lf n264_8)))) ((snd_br ((snd_lf n264_5)) ((snd_lf n264_4)))))) ((snd_br ((snd_br ((snd_lf n264_3)) ((snd_lf n264_2)))) ((snd_br ((snd_lf n264_1)) ((snd_lf n264_0)))))))))
end
section
variable {G : AG}
theorem n265_0 : Snd mt G 265 0 (oIload 0 1) := w_iload_n (hm := mm265) dJ14_checkIndex_0
theorem n265_1 : Snd mt G 265 1 (oIfLt 9 4) := w_if_lt (hm := mm265) dJ14_checkIndex_1 rfl
theorem n265_4 : Snd mt G 265 4 (oIload 0 5) := w_iload_n (hm := mm265) dJ14_checkIndex_4
theorem n265_5 : Snd mt G 265 5 (oIload 1 6) := w_iload_n (hm := mm265) dJ14_checkIndex_5
theorem n265_6 : Snd mt G 265 6 (oCmpLt 16 9) := w_icmp_lt (hm := mm265) dJ14_checkIndex_6 rfl
theorem n265_9 : Snd mt G 265 9 (oAload 2 10) := w_aload_n (hm := mm265) dJ14_checkIndex_9
theorem n265_10 : Snd mt G 265 10 (oIload 0 11) := w_iload_n (hm := mm265) dJ14_checkIndex_10
theorem n265_11 : Snd mt G 265 11 (oIload 1 12) := w_iload_n (hm := mm265) dJ14_checkIndex_11
theorem n265_12 : Snd mt G 265 12 (fun _ _ _ _ => stuck) := snd_stuck
theorem n265_15 : Snd mt G 265 15 (oThrow [7]) := w_throw (hm := mm265) dJ14_checkIndex_15 (List.forall_mem_cons.mpr ⟨⟨6, _, rfl, (Nat.le_of_ble_eq_true rfl), vc_6⟩, (fun t ht => nomatch ht)⟩) rfl
theorem n265_16 : Snd mt G 265 16 (oIload 0 17) := w_iload_n (hm := mm265) dJ14_checkIndex_16
theorem n265_17 : Snd mt G 265 17 (oRetI .int) := w_iret (hm := mm265) dJ14_checkIndex_17 rfl
theorem sj265 : ∀ pc, Snd mt G 265 pc (j265 pc) := fun pc => (snd_br ((snd_br ((snd_br ((snd_br ((snd_lf n265_17)) ((snd_lf n265_16)))) ((snd_lf n265_15)))) ((snd_br ((snd_br ((snd_lf n265_12)) ((snd_lf n265_11)))) ((snd_lf n265_10)))))) ((snd_br ((snd_br ((snd_br ((snd_lf n265_9)) ((snd_lf n265_6)))) ((snd_lf n265_5)))) ((snd_br ((snd_br ((snd_lf n265_4)) ((snd_lf n265_1)))) ((snd_lf n265_0)))))))
end
section
variable {G : AG}
theorem n266_0 : Snd mt G 266 0 (oAload 0 1) := w_aload_n (hm := mm266) dJ15_inflate_0
theorem n266_1 : Snd mt G 266 1 (oIload 1 2) := w_iload_n (hm := mm266) dJ15_inflate_1
theorem n266_2 : Snd mt G 266 2 (oAload 2 3) := w_aload_n (hm := mm266) dJ15_inflate_2
theorem n266_3 : Snd mt G 266 3 (oIload 3 4) := w_iload_n (hm := mm266) dJ15_inflate_3
theorem n266_4 : Snd mt G 266 4 (oIload 4 6) := w_iload (hm := mm266) dJ15_inflate_4
theorem n266_6 : Snd mt G 266 6 (oCall 5 (fS 232 6) 0 9 xOut) := s_callS (m' := 232) (n := 5) xsh_out (w_xok0 mm266) (w_cal mm266 mm232 pn_J10 (Nat.le_of_ble_eq_true rfl) (Nat.le_of_ble_eq_true rfl)) (fun h as hn => w_run_S mm266 mm232 dJ15_inflate_6 q392 q393 q141 q394 pa232 hn)
theorem n266_9 : Snd mt G 266 9 (oRetV) := w_vret (hm := mm266) dJ15_inflate_9 rfl
theorem sj266 : ∀ pc, Snd mt G 266 pc (j266 pc) := fun pc => (snd_br ((snd_br ((snd_br ((snd_lf n266_9)) ((snd_lf n266_6)))) ((snd_br ((snd_lf n266_4)) ((snd_lf n266_3)))))) ((snd_br ((snd_br ((snd_lf n266_2)) ((snd_lf n266_1)))) ((snd_lf n266_0)))))
end
section
variable {G : AG}
theorem n267_0 : Snd mt G 267 0 (oIload 0 1) := w_iload_n (hm := mm267) dJ15_canEncode_0
theorem n267_1 : Snd mt G 267 1 (oConst (.int 255) 4) := w_sipush (hm := mm267) dJ15_canEncode_1 (by decide)
theorem n267_4 : Snd mt G 267 4 (oCmpGt 11 7) := w_icmp_gt (hm := mm267) dJ15_canEncode_4 rfl
theorem n267_7 : Snd mt G 267 7 (oConst (.int 1) 8) := w_iconst (hm := mm267) dJ15_canEncode_7 rfl
theorem n267_8 : Snd mt G 267 8 (oGoto 12) := w_goto (hm := mm267) dJ15_canEncode_8 rfl
theorem n267_11 : Snd mt G 267 11 (oConst (.int 0) 12) := w_iconst (hm := mm267) dJ15_canEncode_11 rfl
theorem n267_12 : Snd mt G 267 12 (oRetI .boolean) := w_zret (hm := mm267) dJ15_canEncode_12 rfl
theorem sj267 : ∀ pc, Snd mt G 267 pc (j267 pc) := fun pc => (snd_br ((snd_br ((snd_br ((snd_lf n267_12)) ((snd_lf n267_11)))) ((snd_br ((snd_lf n267_8)) ((snd_lf n267_7)))))) ((snd_br ((snd_br ((snd_lf n267_4)) ((snd_lf n267_1)))) ((snd_lf n267_0)))))
end
section
variable {G : AG}
theorem n268_0 : Snd mt G 268 0 (oAload 0 1) := w_aload_n (hm := mm268) dJ15_hashCode_0
theorem n268_1 : Snd mt G 268 1 (oAlen 2) := w_alen (hm := mm268) dJ15_hashCode_1
theorem n268_2 : Snd mt G 268 2 (oSwitch sw268_2) := w_lookupL (hm := mm268) (dfl := 42) (L := [(0, 28), (1, 32)]) dJ15_hashCode_2 (by decide +kernel) rfl (by decide +kernel)
theorem n268_28 : Snd mt G 268 28 (oConst (.int 0) 29) := w_iconst (hm := mm268) dJ15_hashCode_28 rfl
theorem n268_29 : Snd mt G 268 29 (oGoto 51) := w_goto (hm := mm268) dJ15_hashCode_29 rfl
theorem n268_32 : Snd mt G 268 32 (oAload 0 33) := w_aload_n (hm := mm268) dJ15_hashCode_32
theorem n268_33 : Snd mt G 268 33 (oConst (.int 0) 34) := w_iconst (hm := mm268) dJ15_hashCode_33 rfl
theorem n268_34 : Snd mt G 268 34 (oAld [101, 1101] 35) := w_baload (hm := mm268) (kt := 1) dJ15_hashCode_34 at_1 (Nat.le_of_ble_eq_true rfl) (List.forall_mem_cons.mpr ⟨Or.inl rfl, (List.forall_mem_cons.mpr ⟨Or.inr rfl, (fun t ht => nomatch ht)⟩)⟩)
theorem n268_35 : Snd mt G 268 35 (oConst (.int 255) 38) := w_sipush (hm := mm268) dJ15_hashCode_35 (by decide)
theorem n268_38 : Snd mt G 268 38 (oBin (fun x y => x &&& y) 39) := w_iand (hm := mm268) dJ15_hashCode_38
theorem n268_39 : Snd mt G 268 39 (oGoto 51) := w_goto (hm := mm268) dJ15_hashCode_39 rfl
theorem n268_42 : Snd mt G 268 42 (oAload 0 43) := w_aload_n (hm := mm268) dJ15_hashCode_42
theorem n268_43 : Snd mt G 268 43 (oConst (.int 0) 44) := w_iconst (hm := mm268) dJ15_hashCode_43 rfl
theorem n268_44 : Snd mt G 268 44 (oAload 0 45) := w_aload_n (hm := mm268) dJ15_hashCode_44
theorem n268_45 : Snd mt G 268 45 (oAlen 46) := w_alen (hm := mm268) dJ15_hashCode_45
theorem n268_46 : Snd mt G 268 46 (oConst (.int 0) 47) := w_iconst (hm := mm268) dJ15_hashCode_46 rfl
theorem n268_47 : Snd mt G 268 47 (oConst (.int 4) 48) := w_iconst (hm := mm268) dJ15_hashCode_47 rfl
theorem n268_48 : Snd mt G 268 48 (oCall 5 (fS 246 5) 0 51 xOut) := s_callS (m' := 246) (n := 5) xsh_out (w_xok0 mm268) (w_cal mm268 mm246 pn_J11 (Nat.le_of_ble_eq_true rfl) (Nat.le_of_ble_eq_true rfl)) (fun h as hn => w_run_S mm268 mm246 dJ15_hashCode_48 q1268 q1269 q142 q1270 pa246 hn)
theorem n268_51 : Snd mt G 268 51 (oRetI .int) := w_iret (hm := mm268) dJ15_hashCode_51 rfl
theorem sj268 : ∀ pc, Snd mt G 268 pc (j268 pc) := fun pc => (snd_br ((snd_br ((snd_br ((snd_br ((snd_br ((snd_lf n268_51)) ((snd_lf n268_48)))) ((snd_lf n268_47)))) ((snd_br ((snd_lf n268_46)) ((snd_lf n268_45)))))) ((snd_br ((snd_br ((snd_br ((snd_lf n268_44)) ((snd_lf n268_43)))) ((snd_lf n268_42)))) ((snd_br ((snd_lf n268_39)) ((snd_lf n268_38)))))))) ((snd_br ((snd_br ((snd_br ((snd_br ((snd_lf n268_35)) ((snd_lf n268_34)))) ((snd_lf n268_33)))) ((snd_br ((snd_lf n268_32)) ((snd_lf n268_29)))))) ((snd_br ((snd_br ((snd_lf n268_28)) ((snd_lf n268_2)))) ((snd_br ((snd_lf n268_1)) ((snd_lf n268_0)))))))))
end
section
variable {G : AG}
theorem n269_0 : Snd mt G 269 0 (oAload 0 1) := w_aload_n (hm := mm269) dJ15_equals_0
theorem n269_1 : Snd mt G 269 1 (oAlen 2) := w_alen (hm := mm269) dJ15_equals_1
theorem n269_2 : Snd mt G 269 2 (oAload 1 3) := w_aload_n (hm := mm269) dJ15_equals_2
theorem n269_3 : Snd mt G 269 3 (oAlen 4) := w_alen (hm := mm269) dJ15_equals_3
theorem n269_4 : Snd mt G 269 4 (oCmpEq 7 34) := w_icmp_ne (hm := mm269) dJ15_equals_4 rfl
theorem n269_7 : Snd mt G 269 7 (oConst (.int 0) 8) := w_iconst (hm := mm269) dJ15_equals_7 rfl
theorem n269_8 : Snd mt G 269 8 (oIstore 2 9) := w_istore_n (hm := mm269) dJ15_equals_8 (Nat.le_of_ble_eq_true rfl)
theorem n269_9 : Snd mt G 269 9 (oIload 2 10) := w_iload_n (hm := mm269) dJ15_equals_9
theorem n269_10 : Snd mt G 269 10 (oAload 0 11) := w_aload_n (hm := mm269) dJ15_equals_10
theorem n269_11 : Snd mt G 269 11 (oAlen 12) := w_alen (hm := mm269) dJ15_equals_11
theorem n269_12 : Snd mt G 269 12 (oCmpGe 32 15) := w_icmp_ge (hm := mm269) dJ15_equals_12 rfl
theorem n269_15 : Snd mt G 269 15 (oAload 0 16) := w_aload_n (hm := mm269) dJ15_equals_15
theorem n269_16 : Snd mt G 269 16 (oIload 2 17) := w_iload_n (hm := mm269) dJ15_equals_16
theorem n269_17 : Snd mt G 269 17 (oAld [101, 1101] 18) := w_baload (hm := mm269) (kt := 1) dJ15_equals_17 at_1 (Nat.le_of_ble_eq_true rfl) (List.forall_mem_cons.mpr ⟨Or.inl rfl, (List.forall_mem_cons.mpr ⟨Or.inr rfl, (fun t ht => nomatch ht)⟩)⟩)
theorem n269_18 : Snd mt G 269 18 (oAload 1 19) := w_aload_n (hm := mm269) dJ15_equals_18
theorem n269_19 : Snd mt G 269 19 (oIload 2 20) := w_iload_n (hm := mm269) dJ15_equals_19
theorem n269_20 : Snd mt G 269 20 (oAld [101, 1101] 21) := w_baload (hm := mm269) (kt := 1) dJ15_equals_20 at_1 (Nat.le_of_ble_eq_true rfl) (List.forall_mem_cons.mpr ⟨Or.inl rfl, (List.forall_mem_cons.mpr ⟨Or.inr rfl, (fun t ht => nomatch ht)⟩)⟩)
theorem n269_21 : Snd mt G 269 21 (oCmpEq 26 24) := w_icmp_eq (hm := mm269) dJ15_equals_21 rfl
theorem n269_24 : Snd mt G 269 24 (oConst (.int 0) 25) := w_iconst (hm := mm269) dJ15_equals_24 rfl
theorem n269_25 : Snd mt G 269 25 (oRetI .boolean) := w_zret (hm := mm269) dJ15_equals_25 rfl
theorem n269_26 : Snd mt G 269 26 (oIinc 2 1 29) := w_iinc (hm := mm269) dJ15_equals_26 rfl (Nat.le_of_ble_eq_true rfl)
theorem n269_29 : Snd mt G 269 29 (oGoto 9) := w_goto (hm := mm269) dJ15_equals_29 rfl
theorem n269_32 : Snd mt G 269 32 (oConst (.int 1) 33) := w_iconst (hm := mm269) dJ15_equals_32 rfl
theorem n269_33 : Snd mt G 269 33 (oRetI .boolean) := w_zret (hm := mm269) dJ15_equals_33 rfl
theorem n269_34 : Snd mt G 269 34 (oConst (.int 0) 35) := w_iconst (hm := mm269) dJ15_equals_34 rfl
theorem n269_35 : Snd mt G 269 35 (oRetI .boolean) := w_zret (hm := mm269) dJ15_equals_35 rfl
theorem sj269 : ∀ pc, Snd mt G 269 pc (j269 pc) := fun pc => (snd_br ((snd_br ((snd_br ((snd_br ((snd_br ((snd_lf n269_35)) ((snd_lf n269_34)))) ((snd_br ((snd_lf n269_33)) ((snd_lf n269_32)))))) ((snd_br ((snd_br ((snd_lf n269_29)) ((snd_lf n269_26)))) ((snd_lf n269_25)))))) ((snd_br ((snd_br ((snd_br ((snd_lf n269_24)) ((snd_lf n269_21)))) ((snd_lf n269_20)))) ((snd_br ((snd_br ((snd_lf n269_19)) ((snd_lf n269_18)))) ((snd_lf n269_17)))))))) ((snd_br ((snd_br ((snd_br ((snd_br ((snd_lf n269_16)) ((snd_lf n269_15)))) ((snd_br ((snd_lf n269_12)) ((snd_lf n269_11)))))) ((snd_br ((snd_br ((snd_lf n269_10)) ((snd_lf n269_9)))) ((snd_lf n269_8)))))) ((snd_br ((snd_br ((snd_br ((snd_lf n269_7)) ((snd_lf n269_4)))) ((snd_lf n269_3)))) ((snd_br ((snd_br ((snd_lf n269_2)) ((snd_lf n269_1)))) ((snd_lf n269_0)))))))))
end
section
variable {G : AG}
theorem n270_0 : Snd mt G 270 0 (oIload 1 1) := w_iload_n (hm := mm270) dJ15_charAt_0
theorem n270_1 : Snd mt G 270 1 (oAload 0 2) := w_aload_n (hm := mm270) dJ15_charAt_1
theorem n270_2 : Snd mt G 270 2 (oAlen 3) := w_alen (hm := mm270) dJ15_charAt_2
theorem n270_3 : Snd mt G 270 3 (oCall 2 (fS 221 2) 0 6 xOut) := s_callS (m' := 221) (n := 2) xsh_out (w_xok0 mm270) (w_cal mm270 mm221 pn_J9 (Nat.le_of_ble_eq_true rfl) (Nat.le_of_ble_eq_true rfl)) (fun h as hn => w_run_S mm270 mm221 dJ15_charAt_3 q1446 q1253 q140 q1254 pa221 hn)
theorem n270_6 : Snd mt G 270 6 (oAload 0 7) := w_aload_n (hm := mm270) dJ15_charAt_6
theorem n270_7 : Snd mt G 270 7 (oIload 1 8) := w_iload_n (hm := mm270) dJ15_charAt_7
theorem n270_8 : Snd mt G 270 8 (oAld [101, 1101] 9) := w_baload (hm := mm270) (kt := 1) dJ15_charAt_8 at_1 (Nat.le_of_ble_eq_true rfl) (List.forall_mem_cons.mpr ⟨Or.inl rfl, (List.forall_mem_cons.mpr ⟨Or.inr rfl, (fun t ht => nomatch ht)⟩)⟩)
theorem n270_9 : Snd mt G 270 9 (oConst (.int 255) 12) := w_sipush (hm := mm270) dJ15_charAt_9 (by decide)
theorem n270_12 : Snd mt G 270 12 (oBin (fun x y => x &&& y) 13) := w_iand (hm := mm270) dJ15_charAt_12
theorem n270_13 : Snd mt G 270 13 (oUn (fun x => .int (x.toUInt32 % 65536).toInt32) 14) := w_i2c (hm := mm270) dJ15_charAt_13
theorem n270_14 : Snd mt G 270 14 (oRetI .char) := w_zret (hm := mm270) dJ15_charAt_14 rfl
theorem sj270 : ∀ pc, Snd mt G 270 pc (j270 pc) := fun pc => (snd_br ((snd_br ((snd_br ((snd_br ((snd_lf n270_14)) ((snd_lf n270_13)))) ((snd_lf n270_12)))) ((snd_br ((snd_br ((snd_lf n270_9)) ((snd_lf n270_8)))) ((snd_lf n270_7)))))) ((snd_br ((snd_br ((snd_br ((snd_lf n270_6)) ((snd_lf n270_3)))) ((snd_lf n270_2)))) ((snd_br ((snd_lf n270_1)) ((snd_lf n270_0)))))))
end
section
variable {G : AG}
theorem n271_0 : Snd mt G 271 0 (oAload 0 1) := w_aload_n (hm := mm271) dJ16_init_0
theorem n271_1 : Snd mt G 271 1 (oObjI 4) := w_objI (hm := mm271) dJ16_init_1 (Nat.le_of_ble_eq_true rfl) q2225 q189 q190
theorem n271_4 : Snd mt G 271 4 (oRetV) := w_vret (hm := mm271) dJ16_init_4 rfl
theorem sj271 : ∀ pc, Snd mt G 271 pc (j271 pc) := fun pc => (snd_br ((snd_br ((snd_lf n271_4)) ((snd_lf n271_1)))) ((snd_lf n271_0)))
end
section
variable {G : AG}
theorem n272_0 : Snd mt G 272 0 (oConst (.int 1) 1) := w_iconst (hm := mm272) dJ17_stringSize_0 rfl
theorem n272_1 : Snd mt G 272 1 (oIstore 1 2) := w_istore_n (hm := mm272) dJ17_stringSize_1 (Nat.le_of_ble_eq_true rfl)
theorem n272_2 : Snd mt G 272 2 (oIload 0 3) := w_iload_n (hm := mm272) dJ17_stringSize_2
theorem n272_3 : Snd mt G 272 3 (oIfLt 11 6) := w_if_lt (hm := mm272) dJ17_stringSize_3 rfl
theorem n272_6 : Snd mt G 272 6 (oConst (.int 0) 7) := w_iconst (hm := mm272) dJ17_stringSize_6 rfl
theorem n272_7 : Snd mt G 272 7 (oIstore 1 8) := w_istore_n (hm := mm272) dJ17_stringSize_7 (Nat.le_of_ble_eq_true rfl)
theorem n272_8 : Snd mt G 272 8 (oIload 0 9) := w_iload_n (hm := mm272) dJ17_stringSize_8
theorem n272_9 : Snd mt G 272 9 (oUn (fun x => .int (-x)) 10) := w_ineg (hm := mm272) dJ17_stringSize_9
theorem n272_10 : Snd mt G 272 10 (oIstore 0 11) := w_istore_n (hm := mm272) dJ17_stringSize_10 (Nat.le_of_ble_eq_true rfl)
theorem n272_11 : Snd mt G 272 11 (oConst (.int (-10)) 13) := w_bipush (hm := mm272) dJ17_stringSize_11 (by decide)
theorem n272_13 : Snd mt G 272 13 (oIstore 2 14) := w_istore_n (hm := mm272) dJ17_stringSize_13 (Nat.le_of_ble_eq_true rfl)
theorem n272_14 : Snd mt G 272 14 (oConst (.int 1) 15) := w_iconst (hm := mm272) dJ17_stringSize_14 rfl
theorem n272_15 : Snd mt G 272 15 (oIstore 3 16) := w_istore_n (hm := mm272) dJ17_stringSize_15 (Nat.le_of_ble_eq_true rfl)
theorem n272_16 : Snd mt G 272 16 (oIload 3 17) := w_iload_n (hm := mm272) dJ17_stringSize_16
theorem n272_17 : Snd mt G 272 17 (oConst (.int 10) 19) := w_bipush (hm := mm272) dJ17_stringSize_17 (by decide)
theorem n272_19 : Snd mt G 272 19 (oCmpGe 42 22) := w_icmp_ge (hm := mm272) dJ17_stringSize_19 rfl
theorem n272_22 : Snd mt G 272 22 (oIload 0 23) := w_iload_n (hm := mm272) dJ17_stringSize_22
theorem n272_23 : Snd mt G 272 23 (oIload 2 24) := w_iload_n (hm := mm272) dJ17_stringSize_23
theorem n272_24 : Snd mt G 272 24 (oCmpLe 31 27) := w_icmp_le (hm := mm272) dJ17_stringSize_24 rfl
theorem n272_27 : Snd mt G 272 27 (oIload 3 28) := w_iload_n (hm := mm272) dJ17_stringSize_27
theorem n272_28 : Snd mt G 272 28 (oIload 1 29) := w_iload_n (hm := mm272) dJ17_stringSize_28
theorem n272_29 : Snd mt G 272 29 (oBin (fun x y => x + y) 30) := w_iadd (hm := mm272) dJ17_stringSize_29
theorem n272_30 : Snd mt G 272 30 (oRetI .int) := w_iret (hm := mm272) dJ17_stringSize_30 rfl
theorem n272_31 : Snd mt G 272 31 (oConst (.int 10) 33) := w_bipush (hm := mm272) dJ17_stringSize_31 (by decide)
theorem n272_33 : Snd mt G 272 33 (oIload 2 34) := w_iload_n (hm := mm272) dJ17_stringSize_33
theorem n272_34 : Snd mt G 272 34 (oBin (fun x y => x * y) 35) := w_imul (hm := mm272) dJ17_stringSize_34
theorem n272_35 : Snd mt G 272 35 (oIstore 2 36) := w_istore_n (hm := mm272) dJ17_stringSize_35 (Nat.le_of_ble_eq_true rfl)
theorem n272_36 : Snd mt G 272 36 (oIinc 3 1 39) := w_iinc (hm := mm272) dJ17_stringSize_36 rfl (Nat.le_of_ble_eq_true rfl)
theorem n272_39 : Snd mt G 272 39 (oGoto 16) := w_goto (hm := mm272) dJ17_stringSize_39 rfl
theorem n272_42 : Snd mt G 272 42 (oConst (.int 10) 44) := w_bipush (hm := mm272) dJ17_stringSize_42 (by decide)
theorem n272_44 : Snd mt G 272 44 (oIload 1 45) := w_iload_n (hm := mm272) dJ17_stringSize_44
theorem n272_45 : Snd mt G 272 45 (oBin (fun x y => x + y) 46) := w_iadd (hm := mm272) dJ17_stringSize_45
theorem n272_46 : Snd mt G 272 46 (oRetI .int) := w_iret (hm := mm272) dJ17_stringSize_46 rfl
theorem sj272 : ∀ pc, Snd mt G 272 pc (j272 pc) := fun pc => (snd_br ((snd_br ((snd_br ((snd_br ((snd_br ((snd_br ((snd_lf n272_46)) ((snd_lf n272_45)))) ((snd_lf n272_44)))) ((snd_br ((snd_lf n272_42)) ((snd_lf n272_39)))))) ((snd_br ((snd_br ((snd_lf n272_36)) ((snd_lf n272_35)))) ((snd_br ((snd_lf n272_34)) ((snd_lf n272_33)))))))) ((snd_br ((snd_br ((snd_br ((snd_lf n272_31)) ((snd_lf n272_30)))) ((snd_br ((snd_lf n272_29)) ((snd_lf n272_28)))))) ((snd_br ((snd_br ((snd_lf n272_27)) ((snd_lf n272_24)))) ((snd_br ((snd_lf n272_23)) ((snd_lf n272_22)))))))))) ((snd_br ((snd_br ((snd_br ((snd_br ((snd_lf n272_19)) ((snd_lf n272_17)))) ((snd_br ((snd_lf n272_16)) ((snd_lf n272_15)))))) ((snd_br ((snd_br ((snd_lf n272_14)) ((snd_lf n272_13)))) ((snd_br ((snd_lf n272_11)) ((snd_lf n272_10)))))))) ((snd_br ((snd_br ((snd_br ((snd_lf n272_9)) ((snd_lf n272_8)))) ((snd_br ((snd_lf n272_7)) ((snd_lf n272_6)))))) ((snd_br ((snd_br ((snd_lf n272_3)) ((snd_lf n272_2)))) ((snd_br ((snd_lf n272_1)) ((snd_lf n272_0)))))))))))
end
section
variable {G : AG}
theorem n273_0 : Snd mt G 273 0 (oIload 1 1) := w_iload_n (hm := mm273) dJ17_getChars_0
theorem n273_1 : Snd mt G 273 1 (oIstore 5 3) := w_istore (hm := mm273) dJ17_getChars_1 (Nat.le_of_ble_eq_true rfl)
theorem n273_3 : Snd mt G 273 3 (oIload 0 4) := w_iload_n (hm := mm273) dJ17_getChars_3
theorem n273_4 : Snd mt G 273 4 (oIfGe 11 7) := w_if_ge (hm := mm273) dJ17_getChars_4 rfl
theorem n273_7 : Snd mt G 273 7 (oConst (.int 1) 8) := w_iconst (hm := mm273) dJ17_getChars_7 rfl
theorem n273_8 : Snd mt G 273 8 (oGoto 12) := w_goto (hm := mm273) dJ17_getChars_8 rfl
theorem n273_11 : Snd mt G 273 11 (oConst (.int 0) 12) := w_iconst (hm := mm273) dJ17_getChars_11 rfl
theorem n273_12 : Snd mt G 273 12 (oIstore 6 14) := w_istore (hm := mm273) dJ17_getChars_12 (Nat.le_of_ble_eq_true rfl)
theorem n273_14 : Snd mt G 273 14 (oIload 6 16) := w_iload (hm := mm273) dJ17_getChars_14
theorem n273_16 : Snd mt G 273 16 (oIfEq 19 22) := w_if_ne (hm := mm273) dJ17_getChars_16 rfl
theorem n273_19 : Snd mt G 273 19 (oIload 0 20) := w_iload_n (hm := mm273) dJ17_getChars_19
theorem n273_20 : Snd mt G 273 20 (oUn (fun x => .int (-x)) 21) := w_ineg (hm := mm273) dJ17_getChars_20
theorem n273_21 : Snd mt G 273 21 (oIstore 0 22) := w_istore_n (hm := mm273) dJ17_getChars_21 (Nat.le_of_ble_eq_true rfl)
theorem n273_22 : Snd mt G 273 22 (oIload 0 23) := w_iload_n (hm := mm273) dJ17_getChars_22
theorem n273_23 : Snd mt G 273 23 (oConst (.int (-100)) 25) := w_bipush (hm := mm273) dJ17_getChars_23 (by decide)
theorem n273_25 : Snd mt G 273 25 (oCmpGt 72 28) := w_icmp_gt (hm := mm273) dJ17_getChars_25 rfl
theorem n273_28 : Snd mt G 273 28 (oIload 0 29) := w_iload_n (hm := mm273) dJ17_getChars_28
theorem n273_29 : Snd mt G 273 29 (oConst (.int 100) 31) := w_bipush (hm := mm273) dJ17_getChars_29 (by decide)
theorem n273_31 : Snd mt G 273 31 (oDiv (fun x y => x / y) 32) := w_idiv (hm := mm273) dJ17_getChars_31
theorem n273_32 : Snd mt G 273 32 (oIstore 3 33) := w_istore_n (hm := mm273) dJ17_getChars_32 (Nat.le_of_ble_eq_true rfl)
theorem n273_33 : Snd mt G 273 33 (oIload 3 34) := w_iload_n (hm := mm273) dJ17_getChars_33
theorem n273_34 : Snd mt G 273 34 (oConst (.int 100) 36) := w_bipush (hm := mm273) dJ17_getChars_34 (by decide)
theorem n273_36 : Snd mt G 273 36 (oBin (fun x y => x * y) 37) := w_imul (hm := mm273) dJ17_getChars_36
theorem n273_37 : Snd mt G 273 37 (oIload 0 38) := w_iload_n (hm := mm273) dJ17_getChars_37
theorem n273_38 : Snd mt G 273 38 (oBin (fun x y => x - y) 39) := w_isub (hm := mm273) dJ17_getChars_38
theorem n273_39 : Snd mt G 273 39 (oIstore 4 41) := w_istore (hm := mm273) dJ17_getChars_39 (Nat.le_of_ble_eq_true rfl)
theorem n273_41 : Snd mt G 273 41 (oIload 3 42) := w_iload_n (hm := mm273) dJ17_getChars_41
theorem n273_42 : Snd mt G 273 42 (oIstore 0 43) := w_istore_n (hm := mm273) dJ17_getChars_42 (Nat.le_of_ble_eq_true rfl)
theorem n273_43 : Snd mt G 273 43 (oAload 2 44) := w_aload_n (hm := mm273) dJ17_getChars_43
theorem n273_44 : Snd mt G 273 44 (oIinc 5 (-1) 47) := w_iinc (hm := mm273) dJ17_getChars_44 rfl (Nat.le_of_ble_eq_true rfl)
theorem n273_47 : Snd mt G 273 47 (oIload 5 49) := w_iload (hm := mm273) dJ17_getChars_47
theorem n273_49 : Snd mt G 273 49 (fun _ _ _ _ => stuck) := snd_stuck
theorem n273_52 : Snd mt G 273 52 (oIload 4 54) := w_iload (hm := mm273) dJ17_getChars_52
theorem n273_54 : Snd mt G 273 54 (oAld [101, 1101] 55) := w_baload (hm := mm273) (kt := 1) dJ17_getChars_54 at_1 (Nat.le_of_ble_eq_true rfl) (List.forall_mem_cons.mpr ⟨Or.inl rfl, (List.forall_mem_cons.mpr ⟨Or.inr rfl, (fun t ht => nomatch ht)⟩)⟩)
theorem n273_55 : Snd mt G 273 55 (oBast [101] 56) := w_bastore (hm := mm273) (kt := 1) dJ17_getChars_55 at_1 (Nat.le_of_ble_eq_true rfl) (List.forall_mem_cons.mpr ⟨rfl, (fun t ht => nomatch ht)⟩)
theorem n273_56 : Snd mt G 273 56 (oAload 2 57) := w_aload_n (hm := mm273) dJ17_getChars_56
theorem n273_57 : Snd mt G 273 57 (oIinc 5 (-1) 60) := w_iinc (hm := mm273) dJ17_getChars_57 rfl (Nat.le_of_ble_eq_true rfl)
theorem n273_60 : Snd mt G 273 60 (oIload 5 62) := w_iload (hm := mm273) dJ17_getChars_60
theorem n273_62 : Snd mt G 273 62 (fun _ _ _ _ => stuck) := snd_stuck
theorem n273_65 : Snd mt G 273 65 (oIload 4 67) := w_iload (hm := mm273) dJ17_getChars_65
theorem n273_67 : Snd mt G 273 67 (oAld [101, 1101] 68) := w_baload (hm := mm273) (kt := 1) dJ17_getChars_67 at_1 (Nat.le_of_ble_eq_true rfl) (List.forall_mem_cons.mpr ⟨Or.inl rfl, (List.forall_mem_cons.mpr ⟨Or.inr rfl, (fun t ht => nomatch ht)⟩)⟩)
theorem n273_68 : Snd mt G 273 68 (oBast [101] 69) := w_bastore (hm := mm273) (kt := 1) dJ17_getChars_68 at_1 (Nat.le_of_ble_eq_true rfl) (List.forall_mem_cons.mpr ⟨rfl, (fun t ht => nomatch ht)⟩)
theorem n273_69 : Snd mt G 273 69 (oGoto 22) := w_goto (hm := mm273) dJ17_getChars_69 rfl
theorem n273_72 : Snd mt G 273 72 (oAload 2 73) := w_aload_n (hm := mm273) dJ17_getChars_72
theorem n273_73 : Snd mt G 273 73 (oIinc 5 (-1) 76) := w_iinc (hm := mm273) dJ17_getChars_73 rfl (Nat.le_of_ble_eq_true rfl)
theorem n273_76 : Snd mt G 273 76 (oIload 5 78) := w_iload (hm := mm273) dJ17_getChars_76
theorem n273_78 : Snd mt G 273 78 (fun _ _ _ _ => stuck) := snd_stuck
theorem n273_81 : Snd mt G 273 81 (oIload 0 82) := w_iload_n (hm := mm273) dJ17_getChars_81
theorem n273_82 : Snd mt G 273 82 (oUn (fun x => .int (-x)) 83) := w_ineg (hm := mm273) dJ17_getChars_82
theorem n273_83 : Snd mt G 273 83 (oAld [101, 1101] 84) := w_baload (hm := mm273) (kt := 1) dJ17_getChars_83 at_1 (Nat.le_of_ble_eq_true rfl) (List.forall_mem_cons.mpr ⟨Or.inl rfl, (List.forall_mem_cons.mpr ⟨Or.inr rfl, (fun t ht => nomatch ht)⟩)⟩)
theorem n273_84 : Snd mt G 273 84 (oBast [101] 85) := w_bastore (hm := mm273) (kt := 1) dJ17_getChars_84 at_1 (Nat.le_of_ble_eq_true rfl) (List.forall_mem_cons.mpr ⟨rfl, (fun t ht => nomatch ht)⟩)
theorem n273_85 : Snd mt G 273 85 (oIload 0 86) := w_iload_n (hm := mm273) dJ17_getChars_85
theorem n273_86 : Snd mt G 273 86 (oConst (.int (-9)) 88) := w_bipush (hm := mm273) dJ17_getChars_86 (by decide)
theorem n273_88 : Snd mt G 273 88 (oCmpGe 104 91) := w_icmp_ge (hm := mm273) dJ17_getChars_88 rfl
theorem n273_91 : Snd mt G 273 91 (oAload 2 92) := w_aload_n (hm := mm273) dJ17_getChars_91
theorem n273_92 : Snd mt G 273 92 (oIinc 5 (-1) 95) := w_iinc (hm := mm273) dJ17_getChars_92 rfl (Nat.le_of_ble_eq_true rfl)
theorem n273_95 : Snd mt G 273 95 (oIload 5 97) := w_iload (hm := mm273) dJ17_getChars_95
theorem n273_97 : Snd mt G 273 97 (fun _ _ _ _ => stuck) := snd_stuck
theorem n273_100 : Snd mt G 273 100 (oIload 0 101) := w_iload_n (hm := mm273) dJ17_getChars_100
theorem n273_101 : Snd mt G 273 101 (oUn (fun x => .int (-x)) 102) := w_ineg (hm := mm273) dJ17_getChars_101
theorem n273_102 : Snd mt G 273 102 (oAld [101, 1101] 103) := w_baload (hm := mm273) (kt := 1) dJ17_getChars_102 at_1 (Nat.le_of_ble_eq_true rfl) (List.forall_mem_cons.mpr ⟨Or.inl rfl, (List.forall_mem_cons.mpr ⟨Or.inr rfl, (fun t ht => nomatch ht)⟩)⟩)
theorem n273_103 : Snd mt G 273 103 (oBast [101] 104) := w_bastore (hm := mm273) (kt := 1) dJ17_getChars_103 at_1 (Nat.le_of_ble_eq_true rfl) (List.forall_mem_cons.mpr ⟨rfl, (fun t ht => nomatch ht)⟩)
theorem n273_104 : Snd mt G 273 104 (oIload 6 106) := w_iload (hm := mm273) dJ17_getChars_104
theorem n273_106 : Snd mt G 273 106 (oIfEq 118 109) := w_if_eq (hm := mm273) dJ17_getChars_106 rfl
theorem n273_109 : Snd mt G 273 109 (oAload 2 110) := w_aload_n (hm := mm273) dJ17_getChars_109
theorem n273_110 : Snd mt G 273 110 (oIinc 5 (-1) 113) := w_iinc (hm := mm273) dJ17_getChars_110 rfl (Nat.le_of_ble_eq_true rfl)
theorem n273_113 : Snd mt G 273 113 (oIload 5 115) := w_iload (hm := mm273) dJ17_getChars_113
theorem n273_115 : Snd mt G 273 115 (oConst (.int 45) 117) := w_bipush (hm := mm273) dJ17_getChars_115 (by decide)
theorem n273_117 : Snd mt G 273 117 (oBast [101] 118) := w_bastore (hm := mm273) (kt := 1) dJ17_getChars_117 at_1 (Nat.le_of_ble_eq_true rfl) (List.forall_mem_cons.mpr ⟨rfl, (fun t ht => nomatch ht)⟩)
theorem n273_118 : Snd mt G 273 118 (oIload 5 120) := w_iload (hm := mm273) dJ17_getChars_118
theorem n273_120 : Snd mt G 273 120 (oRetI .int) := w_iret (hm := mm273) dJ17_getChars_120 rfl
theorem sj273 : ∀ pc, Snd mt G 273 pc (j273 pc) := fun pc => (snd_br ((snd_br ((snd_br ((snd_br ((snd_br ((snd_br ((snd_br ((snd_lf n273_120)) ((snd_lf n273_118)))) ((snd_lf n273_117)))) ((snd_br ((snd_lf n273_115)) ((snd_lf n273_113)))))) ((snd_br ((snd_br ((snd_lf n273_110)) ((snd_lf n273_109)))) ((snd_br ((snd_lf n273_106)) ((snd_lf n273_104)))))))) ((snd_br ((snd_br ((snd_br ((snd_br ((snd_lf n273_103)) ((snd_lf n273_102)))) ((snd_lf n273_101)))) ((snd_br ((snd_lf n273_100)) ((snd_lf n273_97)))))) ((snd_br ((snd_br ((snd_lf n273_95)) ((snd_lf n273_92)))) ((snd_br ((snd_lf n273_91)) ((snd_lf n273_88)))))))))) ((snd_br ((snd_br ((snd_br ((snd_br ((snd_br ((snd_lf n273_86)) ((snd_lf n273_85)))) ((snd_lf n273_84)))) ((snd_br ((snd_lf n273_83)) ((snd_lf n273_82)))))) ((snd_br ((snd_br ((snd_lf n273_81)) ((snd_lf n273_78)))) ((snd_br ((snd_lf n273_76)) ((snd_lf n273_73)))))))) ((snd_br ((snd_br ((snd_br ((snd_br ((snd_lf n273_72)) ((snd_lf n273_69)))) ((snd_lf n273_68)))) ((snd_br ((snd_lf n273_67)) ((snd_lf n273_65)))))) ((snd_br ((snd_br ((snd_lf n273_62)) ((snd_lf n273_60)))) ((snd_br ((snd_lf n273_57)) ((snd_lf n273_56)))))))))))) ((snd_br ((snd_br ((snd_br ((snd_br ((snd_br ((snd_br ((snd_lf n273_55)) ((snd_lf n273_54)))) ((snd_lf n273_52)))) ((snd_br ((snd_lf n273_49)) ((snd_lf n273_47)))))) ((snd_br ((snd_br ((snd_lf n273_44)) ((snd_lf n273_43)))) ((snd_br ((snd_lf n273_42)) ((snd_lf n273_41)))))))) ((snd_br ((snd_br ((snd_br ((snd_br ((snd_lf n273_39)) ((snd_lf n273_38)))) ((snd_lf n273_37)))) ((snd_br ((snd_lf n273_36)) ((snd_lf n273_34)))))) ((snd_br ((snd_br ((snd_lf n273_33)) ((snd_lf n273_32)))) ((snd_br ((snd_lf n273_31)) ((snd_lf n273_29)))))))))) ((snd_br ((snd_br ((snd_br ((snd_br ((snd_br ((snd_lf n273_28)) ((snd_lf n273_25)))) ((snd_lf n273_23)))) ((snd_br ((snd_lf n273_22)) ((snd_lf n273_21)))))) ((snd_br ((snd_br ((snd_lf n273_20)) ((snd_lf n273_19)))) ((snd_br ((snd_lf n273_16)) ((snd_lf n273_14)))))))) ((snd_br ((snd_br ((snd_br ((snd_lf n273_12)) ((snd_lf n273_11)))) ((snd_br ((snd_lf n273_8)) ((snd_lf n273_7)))))) ((snd_br ((snd_br ((snd_lf n273_4)) ((snd_lf n273_3)))) ((snd_br ((snd_lf n273_1)) ((snd_lf n273_0)))))))))))))
end
section
variable {G : AG}
theorem n274_0 : Snd mt G 274 0 (oIload 0 1) := w_iload_n (hm := mm274) dJ17_bitCount_0
theorem n274_1 : Snd mt G 274 1 (oIload 0 2) := w_iload_n (hm := mm274) dJ17_bitCount_1
theorem n274_2 : Snd mt G 274 2 (oConst (.int 1) 3) := w_iconst (hm := mm274) dJ17_bitCount_2 rfl
theorem n274_3 : Snd mt G 274 3 (oBin (fun x y => (x.toUInt32 >>> (y.toUInt32 &&& Int32.toUInt32 31)).toInt32) 4) := w_iushr (hm := mm274) dJ17_bitCount_3
theorem n274_4 : Snd mt G 274 4 (oConst (.int 1431655765) 7) := w_ldcw (hm := mm274) dJ17_bitCount_4 q960
theorem n274_7 : Snd mt G 274 7 (oBin (fun x y => x &&& y) 8) := w_iand (hm := mm274) dJ17_bitCount_7
theorem n274_8 : Snd mt G 274 8 (oBin (fun x y => x - y) 9) := w_isub (hm := mm274) dJ17_bitCount_8
theorem n274_9 : Snd mt G 274 9 (oIstore 0 10) := w_istore_n (hm := mm274) dJ17_bitCount_9 (Nat.le_of_ble_eq_true rfl)
theorem n274_10 : Snd mt G 274 10 (oIload 0 11) := w_iload_n (hm := mm274) dJ17_bitCount_10
theorem n274_11 : Snd mt G 274 11 (oConst (.int 858993459) 14) := w_ldcw (hm := mm274) dJ17_bitCount_11 q961
theorem n274_14 : Snd mt G 274 14 (oBin (fun x y => x &&& y) 15) := w_iand (hm := mm274) dJ17_bitCount_14
theorem n274_15 : Snd mt G 274 15 (oIload 0 16) := w_iload_n (hm := mm274) dJ17_bitCount_15
theorem n274_16 : Snd mt G 274 16 (oConst (.int 2) 17) := w_iconst (hm := mm274) dJ17_bitCount_16 rfl
theorem n274_17 : Snd mt G 274 17 (oBin (fun x y => (x.toUInt32 >>> (y.toUInt32 &&& Int32.toUInt32 31)).toInt32) 18) := w_iushr (hm := mm274) dJ17_bitCount_17
theorem n274_18 : Snd mt G 274 18 (oConst (.int 858993459) 21) := w_ldcw (hm := mm274) dJ17_bitCount_18 q961
theorem n274_21 : Snd mt G 274 21 (oBin (fun x y => x &&& y) 22) := w_iand (hm := mm274) dJ17_bitCount_21
theorem n274_22 : Snd mt G 274 22 (oBin (fun x y => x + y) 23) := w_iadd (hm := mm274) dJ17_bitCount_22
theorem n274_23 : Snd mt G 274 23 (oIstore 0 24) := w_istore_n (hm := mm274) dJ17_bitCount_23 (Nat.le_of_ble_eq_true rfl)
theorem n274_24 : Snd mt G 274 24 (oIload 0 25) := w_iload_n (hm := mm274) dJ17_bitCount_24
theorem n274_25 : Snd mt G 274 25 (oIload 0 26) := w_iload_n (hm := mm274) dJ17_bitCount_25
theorem n274_26 : Snd mt G 274 26 (oConst (.int 4) 27) := w_iconst (hm := mm274) dJ17_bitCount_26 rfl
theorem n274_27 : Snd mt G 274 27 (oBin (fun x y => (x.toUInt32 >>> (y.toUInt32 &&& Int32.toUInt32 31)).toInt32) 28) := w_iushr (hm := mm274) dJ17_bitCount_27
theorem n274_28 : Snd mt G 274 28 (oBin (fun x y => x + y) 29) := w_iadd (hm := mm274) dJ17_bitCount_28
theorem n274_29 : Snd mt G 274 29 (oConst (.int 252645135) 32) := w_ldcw (hm := mm274) dJ17_bitCount_29 q962
theorem n274_32 : Snd mt G 274 32 (oBin (fun x y => x &&& y) 33) := w_iand (hm := mm274) dJ17_bitCount_32
theorem n274_33 : Snd mt G 274 33 (oIstore 0 34) := w_istore_n (hm := mm274) dJ17_bitCount_33 (Nat.le_of_ble_eq_true rfl)
theorem n274_34 : Snd mt G 274 34 (oIload 0 35) := w_iload_n (hm := mm274) dJ17_bitCount_34
theorem n274_35 : Snd mt G 274 35 (oIload 0 36) := w_iload_n (hm := mm274) dJ17_bitCount_35
theorem n274_36 : Snd mt G 274 36 (oConst (.int 8) 38) := w_bipush (hm := mm274) dJ17_bitCount_36 (by decide)
theorem n274_38 : Snd mt G 274 38 (oBin (fun x y => (x.toUInt32 >>> (y.toUInt32 &&& Int32.toUInt32 31)).toInt32) 39) := w_iushr (hm := mm274) dJ17_bitCount_38
theorem n274_39 : Snd mt G 274 39 (oBin (fun x y => x + y) 40) := w_iadd (hm := mm274) dJ17_bitCount_39
theorem n274_40 : Snd mt G 274 40 (oIstore 0 41) := w_istore_n (hm := mm274) dJ17_bitCount_40 (Nat.le_of_ble_eq_true rfl)
theorem n274_41 : Snd mt G 274 41 (oIload 0 42) := w_iload_n (hm := mm274) dJ17_bitCount_41
theorem n274_42 : Snd mt G 274 42 (oIload 0 43) := w_iload_n (hm := mm274) dJ17_bitCount_42
theorem n274_43 : Snd mt G 274 43 (oConst (.int 16) 45) := w_bipush (hm := mm274) dJ17_bitCount_43 (by decide)
theorem n274_45 : Snd mt G 274 45 (oBin (fun x y => (x.toUInt32 >>> (y.toUInt32 &&& Int32.toUInt32 31)).toInt32) 46) := w_iushr (hm := mm274) dJ17_bitCount_45
theorem n274_46 : Snd mt G 274 46 (oBin (fun x y => x + y) 47) := w_iadd (hm := mm274) dJ17_bitCount_46
theorem n274_47 : Snd mt G 274 47 (oIstore 0 48) := w_istore_n (hm := mm274) dJ17_bitCount_47 (Nat.le_of_ble_eq_true rfl)
theorem n274_48 : Snd mt G 274 48 (oIload 0 49) := w_iload_n (hm := mm274) dJ17_bitCount_48
theorem n274_49 : Snd mt G 274 49 (oConst (.int 63) 51) := w_bipush (hm := mm274) dJ17_bitCount_49 (by decide)
theorem n274_51 : Snd mt G 274 51 (oBin (fun x y => x &&& y) 52) := w_iand (hm := mm274) dJ17_bitCount_51
theorem n274_52 : Snd mt G 274 52 (oRetI .int) := w_iret (hm := mm274) dJ17_bitCount_52 rfl
theorem sj274 : ∀ pc, Snd mt G 274 pc (j274 pc) := fun pc => (snd_br ((snd_br ((snd_br ((snd_br ((snd_br ((snd_br ((snd_lf n274_52)) ((snd_lf n274_51)))) ((snd_lf n274_49)))) ((snd_br ((snd_br ((snd_lf n274_48)) ((snd_lf n274_47)))) ((snd_lf n274_46)))))) ((snd_br ((snd_br ((snd_br ((snd_lf n274_45)) ((snd_lf n274_43)))) ((snd_lf n274_42)))) ((snd_br ((snd_lf n274_41)) ((snd_lf n274_40)))))))) ((snd_br ((snd_br ((snd_br ((snd_br ((snd_lf n274_39)) ((snd_lf n274_38)))) ((snd_lf n274_36)))) ((snd_br ((snd_lf n274_35)) ((snd_lf n274_34)))))) ((snd_br ((snd_br ((snd_br ((snd_lf n274_33)) ((snd_lf n274_32)))) ((snd_lf n274_29)))) ((snd_br ((snd_lf n274_28)) ((snd_lf n274_27)))))))))) ((snd_br ((snd_br ((snd_br ((snd_br ((snd_br ((snd_lf n274_26)) ((snd_lf n274_25)))) ((snd_lf n274_24)))) ((snd_br ((snd_br ((snd_lf n274_23)) ((snd_lf n274_22)))) ((snd_lf n274_21)))))) ((snd_br ((snd_br ((snd_br ((snd_lf n274_18)) ((snd_lf n274_17)))) ((snd_lf n274_16)))) ((snd_br ((snd_lf n274_15)) ((snd_lf n274_14)))))))) ((snd_br ((snd_br ((snd_br ((snd_br ((snd_lf n274_11)) ((snd_lf n274_10)))) ((snd_lf n274_9)))) ((snd_br ((snd_lf n274_8)) ((snd_lf n274_7)))))) ((snd_br ((snd_br ((snd_br ((snd_lf n274_4)) ((snd_lf n274_3)))) ((snd_lf n274_2)))) ((snd_br ((snd_lf n274_1)) ((snd_lf n274_0)))))))))))
end
section
variable {G : AG}
theorem n275_0 : Snd mt G 275 0 (oIload 0 1) := w_iload_n (hm := mm275) dJ17_numberOfTrailingZeros_0
theorem n275_1 : Snd mt G 275 1 (oConst (.int (-1)) 2) := w_iconst (hm := mm275) dJ17_numberOfTrailingZeros_1 rfl
theorem n275_2 : Snd mt G 275 2 (oBin (fun x y => x ^^^ y) 3) := w_ixor (hm := mm275) dJ17_numberOfTrailingZeros_2
theorem n275_3 : Snd mt G 275 3 (oIload 0 4) := w_iload_n (hm := mm275) dJ17_numberOfTrailingZeros_3
theorem n275_4 : Snd mt G 275 4 (oConst (.int 1) 5) := w_iconst (hm := mm275) dJ17_numberOfTrailingZeros_4 rfl
theorem n275_5 : Snd mt G 275 5 (oBin (fun x y => x - y) 6) := w_isub (hm := mm275) dJ17_numberOfTrailingZeros_5
theorem n275_6 : Snd mt G 275 6 (oBin (fun x y => x &&& y) 7) := w_iand (hm := mm275) dJ17_numberOfTrailingZeros_6
theorem n275_7 : Snd mt G 275 7 (oIstore 0 8) := w_istore_n (hm := mm275) dJ17_numberOfTrailingZeros_7 (Nat.le_of_ble_eq_true rfl)
theorem n275_8 : Snd mt G 275 8 (oIload 0 9) := w_iload_n (hm := mm275) dJ17_numberOfTrailingZeros_8
theorem n275_9 : Snd mt G 275 9 (oIfGt 17 12) := w_if_gt (hm := mm275) dJ17_numberOfTrailingZeros_9 rfl
theorem n275_12 : Snd mt G 275 12 (oIload 0 13) := w_iload_n (hm := mm275) dJ17_numberOfTrailingZeros_12
theorem n275_13 : Snd mt G 275 13 (oConst (.int 32) 15) := w_bipush (hm := mm275) dJ17_numberOfTrailingZeros_13 (by decide)
theorem n275_15 : Snd mt G 275 15 (oBin (fun x y => x &&& y) 16) := w_iand (hm := mm275) dJ17_numberOfTrailingZeros_15
theorem n275_16 : Snd mt G 275 16 (oRetI .int) := w_iret (hm := mm275) dJ17_numberOfTrailingZeros_16 rfl
theorem n275_17 : Snd mt G 275 17 (oConst (.int 1) 18) := w_iconst (hm := mm275) dJ17_numberOfTrailingZeros_17 rfl
theorem n275_18 : Snd mt G 275 18 (oIstore 1 19) := w_istore_n (hm := mm275) dJ17_numberOfTrailingZeros_18 (Nat.le_of_ble_eq_true rfl)
theorem n275_19 : Snd mt G 275 19 (oIload 0 20) := w_iload_n (hm := mm275) dJ17_numberOfTrailingZeros_19
theorem n275_20 : Snd mt G 275 20 (oConst (.int 65536) 23) := w_ldcw (hm := mm275) dJ17_numberOfTrailingZeros_20 q966
theorem n275_23 : Snd mt G 275 23 (oCmpLe 34 26) := w_icmp_le (hm := mm275) dJ17_numberOfTrailingZeros_23 rfl
theorem n275_26 : Snd mt G 275 26 (oIinc 1 16 29) := w_iinc (hm := mm275) dJ17_numberOfTrailingZeros_26 rfl (Nat.le_of_ble_eq_true rfl)
theorem n275_29 : Snd mt G 275 29 (oIload 0 30) := w_iload_n (hm := mm275) dJ17_numberOfTrailingZeros_29
theorem n275_30 : Snd mt G 275 30 (oConst (.int 16) 32) := w_bipush (hm := mm275) dJ17_numberOfTrailingZeros_30 (by decide)
theorem n275_32 : Snd mt G 275 32 (oBin (fun x y => (x.toUInt32 >>> (y.toUInt32 &&& Int32.toUInt32 31)).toInt32) 33) := w_iushr (hm := mm275) dJ17_numberOfTrailingZeros_32
theorem n275_33 : Snd mt G 275 33 (oIstore 0 34) := w_istore_n (hm := mm275) dJ17_numberOfTrailingZeros_33 (Nat.le_of_ble_eq_true rfl)
theorem n275_34 : Snd mt G 275 34 (oIload 0 35) := w_iload_n (hm := mm275) dJ17_numberOfTrailingZeros_34
theorem n275_35 : Snd mt G 275 35 (oConst (.int 256) 38) := w_sipush (hm := mm275) dJ17_numberOfTrailingZeros_35 (by decide)
theorem n275_38 : Snd mt G 275 38 (oCmpLe 49 41) := w_icmp_le (hm := mm275) dJ17_numberOfTrailingZeros_38 rfl
theorem n275_41 : Snd mt G 275 41 (oIinc 1 8 44) := w_iinc (hm := mm275) dJ17_numberOfTrailingZeros_41 rfl (Nat.le_of_ble_eq_true rfl)
theorem n275_44 : Snd mt G 275 44 (oIload 0 45) := w_iload_n (hm := mm275) dJ17_numberOfTrailingZeros_44
theorem n275_45 : Snd mt G 275 45 (oConst (.int 8) 47) := w_bipush (hm := mm275) dJ17_numberOfTrailingZeros_45 (by decide)
theorem n275_47 : Snd mt G 275 47 (oBin (fun x y => (x.toUInt32 >>> (y.toUInt32 &&& Int32.toUInt32 31)).toInt32) 48) := w_iushr (hm := mm275) dJ17_numberOfTrailingZeros_47
theorem n275_48 : Snd mt G 275 48 (oIstore 0 49) := w_istore_n (hm := mm275) dJ17_numberOfTrailingZeros_48 (Nat.le_of_ble_eq_true rfl)
theorem n275_49 : Snd mt G 275 49 (oIload 0 50) := w_iload_n (hm := mm275) dJ17_numberOfTrailingZeros_49
theorem n275_50 : Snd mt G 275 50 (oConst (.int 16) 52) := w_bipush (hm := mm275) dJ17_numberOfTrailingZeros_50 (by decide)
theorem n275_52 : Snd mt G 275 52 (oCmpLe 62 55) := w_icmp_le (hm := mm275) dJ17_numberOfTrailingZeros_52 rfl
theorem n275_55 : Snd mt G 275 55 (oIinc 1 4 58) := w_iinc (hm := mm275) dJ17_numberOfTrailingZeros_55 rfl (Nat.le_of_ble_eq_true rfl)
theorem n275_58 : Snd mt G 275 58 (oIload 0 59) := w_iload_n (hm := mm275) dJ17_numberOfTrailingZeros_58
theorem n275_59 : Snd mt G 275 59 (oConst (.int 4) 60) := w_iconst (hm := mm275) dJ17_numberOfTrailingZeros_59 rfl
theorem n275_60 : Snd mt G 275 60 (oBin (fun x y => (x.toUInt32 >>> (y.toUInt32 &&& Int32.toUInt32 31)).toInt32) 61) := w_iushr (hm := mm275) dJ17_numberOfTrailingZeros_60
theorem n275_61 : Snd mt G 275 61 (oIstore 0 62) := w_istore_n (hm := mm275) dJ17_numberOfTrailingZeros_61 (Nat.le_of_ble_eq_true rfl)
theorem n275_62 : Snd mt G 275 62 (oIload 0 63) := w_iload_n (hm := mm275) dJ17_numberOfTrailingZeros_62
theorem n275_63 : Snd mt G 275 63 (oConst (.int 4) 64) := w_iconst (hm := mm275) dJ17_numberOfTrailingZeros_63 rfl
theorem n275_64 : Snd mt G 275 64 (oCmpLe 74 67) := w_icmp_le (hm := mm275) dJ17_numberOfTrailingZeros_64 rfl
theorem n275_67 : Snd mt G 275 67 (oIinc 1 2 70) := w_iinc (hm := mm275) dJ17_numberOfTrailingZeros_67 rfl (Nat.le_of_ble_eq_true rfl)
theorem n275_70 : Snd mt G 275 70 (oIload 0 71) := w_iload_n (hm := mm275) dJ17_numberOfTrailingZeros_70
theorem n275_71 : Snd mt G 275 71 (oConst (.int 2) 72) := w_iconst (hm := mm275) dJ17_numberOfTrailingZeros_71 rfl
theorem n275_72 : Snd mt G 275 72 (oBin (fun x y => (x.toUInt32 >>> (y.toUInt32 &&& Int32.toUInt32 31)).toInt32) 73) := w_iushr (hm := mm275) dJ17_numberOfTrailingZeros_72
theorem n275_73 : Snd mt G 275 73 (oIstore 0 74) := w_istore_n (hm := mm275) dJ17_numberOfTrailingZeros_73 (Nat.le_of_ble_eq_true rfl)
theorem n275_74 : Snd mt G 275 74 (oIload 1 75) := w_iload_n (hm := mm275) dJ17_numberOfTrailingZeros_74
theorem n275_75 : Snd mt G 275 75 (oIload 0 76) := w_iload_n (hm := mm275) dJ17_numberOfTrailingZeros_75
theorem n275_76 : Snd mt G 275 76 (oConst (.int 1) 77) := w_iconst (hm := mm275) dJ17_numberOfTrailingZeros_76 rfl
theorem n275_77 : Snd mt G 275 77 (oBin (fun x y => (x.toUInt32 >>> (y.toUInt32 &&& Int32.toUInt32 31)).toInt32) 78) := w_iushr (hm := mm275) dJ17_numberOfTrailingZeros_77
theorem n275_78 : Snd mt G 275 78 (oBin (fun x y => x + y) 79) := w_iadd (hm := mm275) dJ17_numberOfTrailingZeros_78
theorem n275_79 : Snd mt G 275 79 (oRetI .int) := w_iret (hm := mm275) dJ17_numberOfTrailingZeros_79 rfl
theorem sj275 : ∀ pc, Snd mt G 275 pc (j275 pc) := fun pc => (snd_br ((snd_br ((snd_br ((snd_br ((snd_br ((snd_br ((snd_lf n275_79)) ((snd_lf n275_78)))) ((snd_br ((snd_lf n275_77)) ((snd_lf n275_76)))))) ((snd_br ((snd_br ((snd_lf n275_75)) ((snd_lf n275_74)))) ((snd_lf n275_73)))))) ((snd_br ((snd_br ((snd_br ((snd_lf n275_72)) ((snd_lf n275_71)))) ((snd_br ((snd_lf n275_70)) ((snd_lf n275_67)))))) ((snd_br ((snd_br ((snd_lf n275_64)) ((snd_lf n275_63)))) ((snd_lf n275_62)))))))) ((snd_br ((snd_br ((snd_br ((snd_br ((snd_lf n275_61)) ((snd_lf n275_60)))) ((snd_br ((snd_lf n275_59)) ((snd_lf n275_58)))))) ((snd_br ((snd_br ((snd_lf n275_55)) ((snd_lf n275_52)))) ((snd_lf n275_50)))))) ((snd_br ((snd_br ((snd_br ((snd_lf n275_49)) ((snd_lf n275_48)))) ((snd_lf n275_47)))) ((snd_br ((snd_br ((snd_lf n275_45)) ((snd_lf n275_44)))) ((snd_lf n275_41)))))))))) ((snd_br ((snd_br ((snd_br ((snd_br ((snd_br ((snd_lf n275_38)) ((snd_lf n275_35)))) ((snd_br ((snd_lf n275_34)) ((snd_lf n275_33)))))) ((snd_br ((snd_br ((snd_lf n275_32)) ((snd_lf n275_30)))) ((snd_lf n275_29)))))) ((snd_br ((snd_br ((snd_br ((snd_lf n275_26)) ((snd_lf n275_23)))) ((snd_br ((snd_lf n275_20)) ((snd_lf n275_19)))))) ((snd_br ((snd_br ((snd_lf n275_18)) ((snd_lf n275_17)))) ((snd_lf n275_16)))))))) ((snd_br ((snd_br ((snd_br ((snd_br ((snd_lf n275_15)) ((snd_lf n275_13)))) ((snd_br ((snd_lf n275_12)) ((snd_lf n275_9)))))) ((snd_br ((snd_br ((snd_lf n275_8)) ((snd_lf n275_7)))) ((snd_lf n275_6)))))) ((snd_br ((snd_br ((snd_br ((snd_lf n275_5)) ((snd_lf n275_4)))) ((snd_lf n275_3)))) ((snd_br ((snd_br ((snd_lf n275_2)) ((snd_lf n275_1)))) ((snd_lf n275_0)))))))))))
end
section
variable {G : AG}
theorem n276_0 : Snd mt G 276 0 (oIload 0 1) := w_iload_n (hm := mm276) dJ17_valueOf_0
theorem n276_1 : Snd mt G 276 1 (oConst (.int (-128)) 3) := w_bipush (hm := mm276) dJ17_valueOf_1 (by decide)
theorem n276_3 : Snd mt G 276 3 (oCmpLt 23 6) := w_icmp_lt (hm := mm276) dJ17_valueOf_3 rfl
theorem n276_6 : Snd mt G 276 6 (oIload 0 7) := w_iload_n (hm := mm276) dJ17_valueOf_6
theorem n276_7 : Snd mt G 276 7 (oGets 3 10) := w_gets (hm := mm276) (j := 3) dJ17_valueOf_7 sl_3 q2213
theorem n276_10 : Snd mt G 276 10 (oCmpGt 23 13) := w_icmp_gt (hm := mm276) dJ17_valueOf_10 rfl
theorem n276_13 : Snd mt G 276 13 (oGets 4 16) := w_gets (hm := mm276) (j := 4) dJ17_valueOf_13 sl_4 q2215
theorem n276_16 : Snd mt G 276 16 (oIload 0 17) := w_iload_n (hm := mm276) dJ17_valueOf_16
theorem n276_17 : Snd mt G 276 17 (oConst (.int 128) 20) := w_sipush (hm := mm276) dJ17_valueOf_17 (by decide)
theorem n276_20 : Snd mt G 276 20 (oBin (fun x y => x + y) 21) := w_iadd (hm := mm276) dJ17_valueOf_20
theorem n276_21 : Snd mt G 276 21 (oAld [1107] 22) := w_aaload (hm := mm276) (kt := 7) dJ17_valueOf_21 rfl at_7 (Nat.le_of_ble_eq_true rfl) (List.forall_mem_cons.mpr ⟨Or.inr rfl, (fun t ht => nomatch ht)⟩)
theorem n276_22 : Snd mt G 276 22 (oRetA) := w_aret (hm := mm276) dJ17_valueOf_22 rfl (Or.inl ⟨_, rfl⟩)
theorem n276_23 : Snd mt G 276 23 (oNew 31 1 nfJ17 26) := w_new (hm := mm276) (ci := 30) (T9 := TJ17) (ty := tyJ17) dJ17_valueOf_23 (Nat.le_of_ble_eq_true rfl) vc_30 tyJ17_ok (fun _ _ => rfl) q2217 q2218 q149
theorem n276_26 : Snd mt G 276 26 (oDup 27) := w_dup (hm := mm276) dJ17_valueOf_26
theorem n276_27 : Snd mt G 276 27 (oIload 0 28) := w_iload_n (hm := mm276) dJ17_valueOf_27
theorem n276_28 : Snd mt G 276 28 (oCall 2 (fI 277 2) 0 31 xOut) := s_callI (m' := 277) (n := 1) xsh_out (w_xok0 mm276) (w_cal mm276 mm277 pn_J17 (Nat.le_of_ble_eq_true rfl) (Nat.le_of_ble_eq_true rfl)) (fun h b as hn => w_run_I mm276 mm277 dJ17_valueOf_28 rfl rfl q2219 q2220 q149 q2221 pa277 hn)
theorem n276_31 : Snd mt G 276 31 (oRetA) := w_aret (hm := mm276) dJ17_valueOf_31 rfl (Or.inl ⟨_, rfl⟩)
theorem sj276 : ∀ pc, Snd mt G 276 pc (j276 pc) := fun pc => (snd_br ((snd_br ((snd_br ((snd_br ((snd_br ((snd_lf n276_31)) ((snd_lf n276_28)))) ((snd_lf n276_27)))) ((snd_br ((snd_lf n276_26)) ((snd_lf n276_23)))))) ((snd_br ((snd_br ((snd_lf n276_22)) ((snd_lf n276_21)))) ((snd_br ((snd_lf n276_20)) ((snd_lf n276_17)))))))) ((snd_br ((snd_br ((snd_br ((snd_lf n276_16)) ((snd_lf n276_13)))) ((snd_br ((snd_lf n276_10)) ((snd_lf n276_7)))))) ((snd_br ((snd_br ((snd_lf n276_6)) ((snd_lf n276_3)))) ((snd_br ((snd_lf n276_1)) ((snd_lf n276_0)))))))))
end
section
variable {G : AG}
theorem n277_0 : Snd mt G 277 0 (oAload 0 1) := w_aload_n (hm := mm277) dJ17_init_0
theorem n277_1 : Snd mt G 277 1 (oCall 1 (fI 271 1) 0 4 xOut) := s_callI (m' := 271) (n := 0) xsh_out (w_xok0 mm277) (w_cal mm277 mm271 pn_J16 (Nat.le_of_ble_eq_true rfl) (Nat.le_of_ble_eq_true rfl)) (fun h b as hn => w_run_I mm277 mm271 dJ17_init_1 rfl rfl q2222 q2223 q148 q2224 pa271 hn)
theorem n277_4 : Snd mt G 277 4 (oAload 0 5) := w_aload_n (hm := mm277) dJ17_init_4
theorem n277_5 : Snd mt G 277 5 (oIload 1 6) := w_iload_n (hm := mm277) dJ17_init_5
theorem n277_6 : Snd mt G 277 6 (oPutf [31] 0 .int 9) := w_putfF (hm := mm277) dJ17_init_6 (pfk1 (k := 0) (T := TJ17) 30 (Nat.le_of_ble_eq_true rfl) vc_30 (Nat.le_of_ble_eq_true rfl) rfl rfl pd_J17_0 rfl q2226)
theorem n277_9 : Snd mt G 277 9 (oRetV) := w_vret (hm := mm277) dJ17_init_9 rfl
theorem sj277 : ∀ pc, Snd mt G 277 pc (j277 pc) := fun pc => (snd_br ((snd_br ((snd_br ((snd_lf n277_9)) ((snd_lf n277_6)))) ((snd_lf n277_5)))) ((snd_br ((snd_br ((snd_lf n277_4)) ((snd_lf n277_1)))) ((snd_lf n277_0)))))
end
section
variable {G : AG}
theorem n278_0 : Snd mt G 278 0 (oAload 0 1) := w_aload_n (hm := mm278) dJ17_intValue_0
theorem n278_1 : Snd mt G 278 1 (oGetf [31, 1031] 0 4) := w_getf (hm := mm278) dJ17_intValue_1 (fok2 (k := 0) (T := TJ17) 30 (Nat.le_of_ble_eq_true rfl) vc_30 (Nat.le_of_ble_eq_true rfl) q2226)
theorem n278_4 : Snd mt G 278 4 (oRetI .int) := w_iret (hm := mm278) dJ17_intValue_4 rfl
theorem sj278 : ∀ pc, Snd mt G 278 pc (j278 pc) := fun pc => (snd_br ((snd_br ((snd_lf n278_4)) ((snd_lf n278_1)))) ((snd_lf n278_0)))
end
section
variable {G : AG}
theorem n279_0 : Snd mt G 279 0 (oIload 0 1) := w_iload_n (hm := mm279) dJ17_compare_0
theorem n279_1 : Snd mt G 279 1 (oIload 1 2) := w_iload_n (hm := mm279) dJ17_compare_1
theorem n279_2 : Snd mt G 279 2 (oCmpGe 9 5) := w_icmp_ge (hm := mm279) dJ17_compare_2 rfl
theorem n279_5 : Snd mt G 279 5 (oConst (.int (-1)) 6) := w_iconst (hm := mm279) dJ17_compare_5 rfl
theorem n279_6 : Snd mt G 279 6 (oGoto 19) := w_goto (hm := mm279) dJ17_compare_6 rfl
theorem n279_9 : Snd mt G 279 9 (oIload 0 10) := w_iload_n (hm := mm279) dJ17_compare_9
theorem n279_10 : Snd mt G 279 10 (oIload 1 11) := w_iload_n (hm := mm279) dJ17_compare_10
theorem n279_11 : Snd mt G 279 11 (oCmpEq 14 18) := w_icmp_ne (hm := mm279) dJ17_compare_11 rfl
theorem n279_14 : Snd mt G 279 14 (oConst (.int 0) 15) := w_iconst (hm := mm279) dJ17_compare_14 rfl
theorem n279_15 : Snd mt G 279 15 (oGoto 19) := w_goto (hm := mm279) dJ17_compare_15 rfl
theorem n279_18 : Snd mt G 279 18 (oConst (.int 1) 19) := w_iconst (hm := mm279) dJ17_compare_18 rfl
theorem n279_19 : Snd mt G 279 19 (oRetI .int) := w_iret (hm := mm279) dJ17_compare_19 rfl
theorem sj279 : ∀ pc, Snd mt G 279 pc (j279 pc) := fun pc => (snd_br ((snd_br ((snd_br ((snd_br ((snd_lf n279_19)) ((snd_lf n279_18)))) ((snd_lf n279_15)))) ((snd_br ((snd_br ((snd_lf n279_14)) ((snd_lf n279_11)))) ((snd_lf n279_10)))))) ((snd_br ((snd_br ((snd_br ((snd_lf n279_9)) ((snd_lf n279_6)))) ((snd_lf n279_5)))) ((snd_br ((snd_br ((snd_lf n279_2)) ((snd_lf n279_1)))) ((snd_lf n279_0)))))))
end
section
variable {G : AG}
theorem n473_0 : Snd mt G 473 0 (oIload 0 1) := w_iload_n (hm := mm473) dJ18_checkIndex_0
theorem n473_1 : Snd mt G 473 1 (oIload 1 2) := w_iload_n (hm := mm473) dJ18_checkIndex_1
theorem n473_2 : Snd mt G 473 2 (oConst .null 3) := w_null (hm := mm473) dJ18_checkIndex_2
theorem n473_3 : Snd mt G 473 3 (oCall 3 (fS 265 3) 0 6 xOut) := s_callS (m' := 265) (n := 3) xsh_out (w_xok0 mm473) (w_cal mm473 mm265 pn_J14 (Nat.le_of_ble_eq_true rfl) (Nat.le_of_ble_eq_true rfl)) (fun h as hn => w_run_S mm473 mm265 dJ18_checkIndex_3 q720 q721 q146 q722 pa265 hn)
theorem n473_6 : Snd mt G 473 6 (oRetI .int) := w_iret (hm := mm473) dJ18_checkIndex_6 rfl
theorem sj473 : ∀ pc, Snd mt G 473 pc (j473 pc) := fun pc => (snd_br ((snd_br ((snd_br ((snd_lf n473_6)) ((snd_lf n473_3)))) ((snd_lf n473_2)))) ((snd_br ((snd_lf n473_1)) ((snd_lf n473_0)))))
end
section
variable {G : AG}
theorem n475_0 : Snd mt G 475 0 (oAload 0 1) := w_aload_n (hm := mm475) dJ19_init_0
theorem n475_1 : Snd mt G 475 1 (oCall 1 (fI 192 1) 0 4 xOut) := s_callI (m' := 192) (n := 0) xsh_out (w_xok0 mm475) (w_cal mm475 mm192 pn_J5 (Nat.le_of_ble_eq_true rfl) (Nat.le_of_ble_eq_true rfl)) (fun h b as hn => w_run_I mm475 mm192 dJ19_init_1 rfl rfl q1666 q1188 q136 q1189 pa192 hn)
theorem n475_4 : Snd mt G 475 4 (oRetV) := w_vret (hm := mm475) dJ19_init_4 rfl
theorem sj475 : ∀ pc, Snd mt G 475 pc (j475 pc) := fun pc => (snd_br ((snd_br ((snd_lf n475_4)) ((snd_lf n475_1)))) ((snd_lf n475_0)))
end
section
variable {G : AG}
theorem n482_0 : Snd mt G 482 0 (oAload 0 1) := w_aload_n (hm := mm482) dJ20_init_0
theorem n482_1 : Snd mt G 482 1 (oCall 1 (fI 192 1) 0 4 xOut) := s_callI (m' := 192) (n := 0) xsh_out (w_xok0 mm482) (w_cal mm482 mm192 pn_J5 (Nat.le_of_ble_eq_true rfl) (Nat.le_of_ble_eq_true rfl)) (fun h b as hn => w_run_I mm482 mm192 dJ20_init_1 rfl rfl q1704 q1188 q136 q1189 pa192 hn)
theorem n482_4 : Snd mt G 482 4 (oRetV) := w_vret (hm := mm482) dJ20_init_4 rfl
theorem sj482 : ∀ pc, Snd mt G 482 pc (j482 pc) := fun pc => (snd_br ((snd_br ((snd_lf n482_4)) ((snd_lf n482_1)))) ((snd_lf n482_0)))
end
section
variable {G : AG}
theorem n483_0 : Snd mt G 483 0 (oAload 0 1) := w_aload_n (hm := mm483) dJ21_init_0
theorem n483_1 : Snd mt G 483 1 (oAload 1 2) := w_aload_n (hm := mm483) dJ21_init_1
theorem n483_2 : Snd mt G 483 2 (oCall 2 (fI 191 2) 0 5 xOut) := s_callI (m' := 191) (n := 1) xsh_out (w_xok0 mm483) (w_cal mm483 mm191 pn_J5 (Nat.le_of_ble_eq_true rfl) (Nat.le_of_ble_eq_true rfl)) (fun h b as hn => w_run_I mm483 mm191 dJ21_init_2 rfl rfl q1747 q482 q136 q483 pa191 hn)
theorem n483_5 : Snd mt G 483 5 (oRetV) := w_vret (hm := mm483) dJ21_init_5 rfl
theorem sj483 : ∀ pc, Snd mt G 483 pc (j483 pc) := fun pc => (snd_br ((snd_br ((snd_lf n483_5)) ((snd_lf n483_2)))) ((snd_br ((snd_lf n483_1)) ((snd_lf n483_0)))))
end
section
variable {G : AG}
theorem n484_0 : Snd mt G 484 0 (oAload 0 1) := w_aload_n (hm := mm484) dJ21_init_2_0
theorem n484_1 : Snd mt G 484 1 (oCall 1 (fI 192 1) 0 4 xOut) := s_callI (m' := 192) (n := 0) xsh_out (w_xok0 mm484) (w_cal mm484 mm192 pn_J5 (Nat.le_of_ble_eq_true rfl) (Nat.le_of_ble_eq_true rfl)) (fun h b as hn => w_run_I mm484 mm192 dJ21_init_2_1 rfl rfl q1779 q1188 q136 q1189 pa192 hn)
theorem n484_4 : Snd mt G 484 4 (oRetV) := w_vret (hm := mm484) dJ21_init_2_4 rfl
theorem sj484 : ∀ pc, Snd mt G 484 pc (j484 pc) := fun pc => (snd_br ((snd_br ((snd_lf n484_4)) ((snd_lf n484_1)))) ((snd_lf n484_0)))
end
section
variable {G : AG}
theorem n485_0 : Snd mt G 485 0 (oAload 0 1) := w_aload_n (hm := mm485) dJ22_init_0
theorem n485_1 : Snd mt G 485 1 (oAload 1 2) := w_aload_n (hm := mm485) dJ22_init_1
theorem n485_2 : Snd mt G 485 2 (oCall 2 (fI 483 2) 0 5 xOut) := s_callI (m' := 483) (n := 1) xsh_out (w_xok0 mm485) (w_cal mm485 mm483 pn_J21 (Nat.le_of_ble_eq_true rfl) (Nat.le_of_ble_eq_true rfl)) (fun h b as hn => w_run_I mm485 mm483 dJ22_init_2 rfl rfl q1744 q1745 q171 q1746 pa483 hn)
theorem n485_5 : Snd mt G 485 5 (oRetV) := w_vret (hm := mm485) dJ22_init_5 rfl
theorem sj485 : ∀ pc, Snd mt G 485 pc (j485 pc) := fun pc => (snd_br ((snd_br ((snd_lf n485_5)) ((snd_lf n485_2)))) ((snd_br ((snd_lf n485_1)) ((snd_lf n485_0)))))
end
section
variable {G : AG}
theorem n498_0 : Snd mt G 498 0 (oRetV) := w_vret (hm := mm498) dJ23_init_0 rfl
theorem sj498 : ∀ pc, Snd mt G 498 pc (j498 pc) := fun pc => (snd_lf n498_0)
end
section
variable {G : AG}
theorem n499_0 : Snd mt G 499 0 (oAload 1 1) := w_aload_n (hm := mm499) dJ24_getUTF16Char_0
theorem n499_1 : Snd mt G 499 1 (oIload 2 2) := w_iload_n (hm := mm499) dJ24_getUTF16Char_1
theorem n499_2 : Snd mt G 499 2 (oCall 2 (fS 238 2) 0 5 xOut) := s_callS (m' := 238) (n := 2) xsh_out (w_xok0 mm499) (w_cal mm499 mm238 pn_J10 (Nat.le_of_ble_eq_true rfl) (Nat.le_of_ble_eq_true rfl)) (fun h as hn => w_run_S mm499 mm238 dJ24_getUTF16Char_2 q1290 q510 q141 q511 pa238 hn)
theorem n499_5 : Snd mt G 499 5 (oRetI .char) := w_zret (hm := mm499) dJ24_getUTF16Char_5 rfl
theorem sj499 : ∀ pc, Snd mt G 499 pc (j499 pc) := fun pc => (snd_br ((snd_br ((snd_lf n499_5)) ((snd_lf n499_2)))) ((snd_br ((snd_lf n499_1)) ((snd_lf n499_0)))))
end
