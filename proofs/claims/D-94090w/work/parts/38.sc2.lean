/-! every instruction is sound (by gen3.py) -/
set_option maxRecDepth 100000
section
variable {G : AG}
theorem n167_0 : Snd mt G 167 0 (oAload 0 1) := w_aload_n (hm := mm167) dX1_walk_0
theorem n167_1 : Snd mt G 167 1 (oIload 1 2) := w_iload_n (hm := mm167) dX1_walk_1
theorem n167_2 : Snd mt G 167 2 (oCall 2 (fV [1] 97 2) 0 5 xOut) := s_callV (m' := 97) (n := 1) xsh_out (w_xok0 mm167) (w_cal mm167 mm97 pn_X1 (Nat.le_of_ble_eq_true rfl) (Nat.le_of_ble_eq_true rfl)) (fun h b as hc hn => w_run_V (ci := 0) mm167 mm97 dX1_walk_2 (Or.inl (List.mem_singleton.mp hc)) (Nat.le_of_ble_eq_true rfl) vc_0 rfl q1688 q1690 qs41 q129 q1691 pa97 hn)
theorem n167_5 : Snd mt G 167 5 (oPop 6) := w_pop (hm := mm167) dX1_walk_5
theorem n167_6 : Snd mt G 167 6 (oIload 2 7) := w_iload_n (hm := mm167) dX1_walk_6
theorem n167_7 : Snd mt G 167 7 (oIfLt 37 10) := w_if_lt (hm := mm167) dX1_walk_7 rfl
theorem n167_10 : Snd mt G 167 10 (oIload 2 11) := w_iload_n (hm := mm167) dX1_walk_10
theorem n167_11 : Snd mt G 167 11 (oAload 0 12) := w_aload_n (hm := mm167) dX1_walk_11
theorem n167_12 : Snd mt G 167 12 (oGetf [1] 0 15) := w_getf (hm := mm167) dX1_walk_12 (fok1 (k := 0) (T := TX1) 0 (Nat.le_of_ble_eq_true rfl) vc_0 (Nat.le_of_ble_eq_true rfl) q623)
theorem n167_15 : Snd mt G 167 15 (oGetf [2] 12 18) := w_getfN (hm := mm167) dX1_walk_15 (fokn1 (k := 12) (T := TX2) 1 (Nat.le_of_ble_eq_true rfl) vc_1 (Nat.le_of_ble_eq_true rfl) q567)
theorem n167_18 : Snd mt G 167 18 (oCmpGt 37 21) := w_icmp_gt (hm := mm167) dX1_walk_18 rfl
theorem n167_21 : Snd mt G 167 21 (oIload 3 22) := w_iload_n (hm := mm167) dX1_walk_21
theorem n167_22 : Snd mt G 167 22 (oConst (.int (-99)) 24) := w_bipush (hm := mm167) dX1_walk_22 (by decide)
theorem n167_24 : Snd mt G 167 24 (oCmpLt 37 27) := w_icmp_lt (hm := mm167) dX1_walk_24 rfl
theorem n167_27 : Snd mt G 167 27 (oIload 3 28) := w_iload_n (hm := mm167) dX1_walk_27
theorem n167_28 : Snd mt G 167 28 (oConst (.int 99) 30) := w_bipush (hm := mm167) dX1_walk_28 (by decide)
theorem n167_30 : Snd mt G 167 30 (oCmpGt 37 33) := w_icmp_gt (hm := mm167) dX1_walk_30 rfl
theorem n167_33 : Snd mt G 167 33 (oConst (.int 1) 34) := w_iconst (hm := mm167) dX1_walk_33 rfl
theorem n167_34 : Snd mt G 167 34 (oGoto 38) := w_goto (hm := mm167) dX1_walk_34 rfl
theorem n167_37 : Snd mt G 167 37 (oConst (.int 0) 38) := w_iconst (hm := mm167) dX1_walk_37 rfl
theorem n167_38 : Snd mt G 167 38 (oCall 1 (fS 89 1) 0 41 xOut) := s_callS (m' := 89) (n := 1) xsh_out (w_xok0 mm167) (w_cal mm167 mm89 pn_X1 (Nat.le_of_ble_eq_true rfl) (Nat.le_of_ble_eq_true rfl)) (fun h as hn => w_run_S mm167 mm89 dX1_walk_38 q1180 q1181 q129 q1182 pa89 hn)
theorem n167_41 : Snd mt G 167 41 (oAload 0 42) := w_aload_n (hm := mm167) dX1_walk_41
theorem n167_42 : Snd mt G 167 42 (oGetf [1] 0 45) := w_getf (hm := mm167) dX1_walk_42 (fok1 (k := 0) (T := TX1) 0 (Nat.le_of_ble_eq_true rfl) vc_0 (Nat.le_of_ble_eq_true rfl) q623)
theorem n167_45 : Snd mt G 167 45 (oGetf [2] 3 48) := w_getfN (hm := mm167) dX1_walk_45 (fokn1 (k := 3) (T := TX2) 1 (Nat.le_of_ble_eq_true rfl) vc_1 (Nat.le_of_ble_eq_true rfl) q549)
theorem n167_48 : Snd mt G 167 48 (oCall 1 (fV [3] 175 1) 0 51 xOut) := s_callV (m' := 175) (n := 0) xsh_out (w_xok0 mm167) (w_cal mm167 mm175 pn_J2 (Nat.le_of_ble_eq_true rfl) (Nat.le_of_ble_eq_true rfl)) (fun h b as hc hn => w_run_V (ci := 2) mm167 mm175 dX1_walk_48 (Or.inl (List.mem_singleton.mp hc)) (Nat.le_of_ble_eq_true rfl) vc_2 rfl q709 q710 q711 q133 q712 pa175 hn)
theorem n167_51 : Snd mt G 167 51 (oConst (.int 20) 53) := w_bipush (hm := mm167) dX1_walk_51 (by decide)
theorem n167_53 : Snd mt G 167 53 (oCmpEq 56 58) := w_icmp_ne (hm := mm167) dX1_walk_53 rfl
theorem n167_56 : Snd mt G 167 56 (oConst (.int (-1)) 57) := w_iconst (hm := mm167) dX1_walk_56 rfl
theorem n167_57 : Snd mt G 167 57 (oRetI .int) := w_iret (hm := mm167) dX1_walk_57 rfl
theorem n167_58 : Snd mt G 167 58 (oAload 0 59) := w_aload_n (hm := mm167) dX1_walk_58
theorem n167_59 : Snd mt G 167 59 (oGetf [1] 0 62) := w_getf (hm := mm167) dX1_walk_59 (fok1 (k := 0) (T := TX1) 0 (Nat.le_of_ble_eq_true rfl) vc_0 (Nat.le_of_ble_eq_true rfl) q623)
theorem n167_62 : Snd mt G 167 62 (oGetf [2] 3 65) := w_getfN (hm := mm167) dX1_walk_62 (fokn1 (k := 3) (T := TX2) 1 (Nat.le_of_ble_eq_true rfl) vc_1 (Nat.le_of_ble_eq_true rfl) q549)
theorem n167_65 : Snd mt G 167 65 (oNew 28 3 nfX29 68) := w_new (hm := mm167) (ci := 27) (T9 := TX29) (ty := tyX29) dX1_walk_65 (Nat.le_of_ble_eq_true rfl) vc_27 tyX29_ok (fun _ _ => rfl) q2364 q2365 q182
theorem n167_68 : Snd mt G 167 68 (oDup 69) := w_dup (hm := mm167) dX1_walk_68
theorem n167_69 : Snd mt G 167 69 (oIload 1 70) := w_iload_n (hm := mm167) dX1_walk_69
theorem n167_70 : Snd mt G 167 70 (oIload 2 71) := w_iload_n (hm := mm167) dX1_walk_70
theorem n167_71 : Snd mt G 167 71 (oIload 3 72) := w_iload_n (hm := mm167) dX1_walk_71
theorem n167_72 : Snd mt G 167 72 (oCall 4 (fI 497 4) 0 75 xOut) := s_callI (m' := 497) (n := 3) xsh_out (w_xok0 mm167) (w_cal mm167 mm497 pn_X29 (Nat.le_of_ble_eq_true rfl) (Nat.le_of_ble_eq_true rfl)) (fun h b as hn => w_run_I mm167 mm497 dX1_walk_72 rfl rfl q2366 q2367 q182 q2368 pa497 hn)
theorem n167_75 : Snd mt G 167 75 (oCall 2 (fV [3] 179 2) 0 78 xOut) := s_callV (m' := 179) (n := 1) xsh_out (w_xok0 mm167) (w_cal mm167 mm179 pn_J2 (Nat.le_of_ble_eq_true rfl) (Nat.le_of_ble_eq_true rfl)) (fun h b as hc hn => w_run_V (ci := 2) mm167 mm179 dX1_walk_75 (Or.inl (List.mem_singleton.mp hc)) (Nat.le_of_ble_eq_true rfl) vc_2 rfl q1605 q985 q986 q133 q987 pa179 hn)
theorem n167_78 : Snd mt G 167 78 (oPop 79) := w_pop (hm := mm167) dX1_walk_78
theorem n167_79 : Snd mt G 167 79 (oAload 0 80) := w_aload_n (hm := mm167) dX1_walk_79
theorem n167_80 : Snd mt G 167 80 (oGetf [1] 0 83) := w_getf (hm := mm167) dX1_walk_80 (fok1 (k := 0) (T := TX1) 0 (Nat.le_of_ble_eq_true rfl) vc_0 (Nat.le_of_ble_eq_true rfl) q623)
theorem n167_83 : Snd mt G 167 83 (oGetf [2] 3 86) := w_getfN (hm := mm167) dX1_walk_83 (fokn1 (k := 3) (T := TX2) 1 (Nat.le_of_ble_eq_true rfl) vc_1 (Nat.le_of_ble_eq_true rfl) q549)
theorem n167_86 : Snd mt G 167 86 (oCall 1 (fV [3] 175 1) 0 89 xOut) := s_callV (m' := 175) (n := 0) xsh_out (w_xok0 mm167) (w_cal mm167 mm175 pn_J2 (Nat.le_of_ble_eq_true rfl) (Nat.le_of_ble_eq_true rfl)) (fun h b as hc hn => w_run_V (ci := 2) mm167 mm175 dX1_walk_86 (Or.inl (List.mem_singleton.mp hc)) (Nat.le_of_ble_eq_true rfl) vc_2 rfl q709 q710 q711 q133 q712 pa175 hn)
theorem n167_89 : Snd mt G 167 89 (oRetI .int) := w_iret (hm := mm167) dX1_walk_89 rfl
theorem sj167 : ∀ pc, Snd mt G 167 pc (j167 pc) := fun pc => (snd_br ((snd_br ((snd_br ((snd_br ((snd_br ((snd_br ((snd_lf n167_89)) ((snd_lf n167_86)))) ((snd_lf n167_83)))) ((snd_br ((snd_br ((snd_lf n167_80)) ((snd_lf n167_79)))) ((snd_lf n167_78)))))) ((snd_br ((snd_br ((snd_br ((snd_lf n167_75)) ((snd_lf n167_72)))) ((snd_lf n167_71)))) ((snd_br ((snd_br ((snd_lf n167_70)) ((snd_lf n167_69)))) ((snd_lf n167_68)))))))) ((snd_br ((snd_br ((snd_br ((snd_br ((snd_lf n167_65)) ((snd_lf n167_62)))) ((snd_lf n167_59)))) ((snd_br ((snd_br ((snd_lf n167_58)) ((snd_lf n167_57)))) ((snd_lf n167_56)))))) ((snd_br ((snd_br ((snd_br ((snd_lf n167_53)) ((snd_lf n167_51)))) ((snd_lf n167_48)))) ((snd_br ((snd_lf n167_45)) ((snd_lf n167_42)))))))))) ((snd_br ((snd_br ((snd_br ((snd_br ((snd_br ((snd_lf n167_41)) ((snd_lf n167_38)))) ((snd_lf n167_37)))) ((snd_br ((snd_br ((snd_lf n167_34)) ((snd_lf n167_33)))) ((snd_lf n167_30)))))) ((snd_br ((snd_br ((snd_br ((snd_lf n167_28)) ((snd_lf n167_27)))) ((snd_lf n167_24)))) ((snd_br ((snd_lf n167_22)) ((snd_lf n167_21)))))))) ((snd_br ((snd_br ((snd_br ((snd_br ((snd_lf n167_18)) ((snd_lf n167_15)))) ((snd_lf n167_12)))) ((snd_br ((snd_br ((snd_lf n167_11)) ((snd_lf n167_10)))) ((snd_lf n167_7)))))) ((snd_br ((snd_br ((snd_br ((snd_lf n167_6)) ((snd_lf n167_5)))) ((snd_lf n167_2)))) ((snd_br ((snd_lf n167_1)) ((snd_lf n167_0)))))))))))
end
section
variable {G : AG}
theorem n168_0 : Snd mt G 168 0 (oAload 0 1) := w_aload_n (hm := mm168) dX1_changed_0
theorem n168_1 : Snd mt G 168 1 (oIload 1 2) := w_iload_n (hm := mm168) dX1_changed_1
theorem n168_2 : Snd mt G 168 2 (oCall 2 (fV [1] 97 2) 0 5 xOut) := s_callV (m' := 97) (n := 1) xsh_out (w_xok0 mm168) (w_cal mm168 mm97 pn_X1 (Nat.le_of_ble_eq_true rfl) (Nat.le_of_ble_eq_true rfl)) (fun h b as hc hn => w_run_V (ci := 0) mm168 mm97 dX1_changed_2 (Or.inl (List.mem_singleton.mp hc)) (Nat.le_of_ble_eq_true rfl) vc_0 rfl q1688 q1690 qs41 q129 q1691 pa97 hn)
theorem n168_5 : Snd mt G 168 5 (oAstore 3 6) := w_astore_n (hm := mm168) dX1_changed_5 (Nat.le_of_ble_eq_true rfl)
theorem n168_6 : Snd mt G 168 6 (oIload 2 7) := w_iload_n (hm := mm168) dX1_changed_6
theorem n168_7 : Snd mt G 168 7 (oCall 1 (fS 92 1) 0 10 xOut) := s_callS (m' := 92) (n := 1) xsh_out (w_xok0 mm168) (w_cal mm168 mm92 pn_X1 (Nat.le_of_ble_eq_true rfl) (Nat.le_of_ble_eq_true rfl)) (fun h as hn => w_run_S mm168 mm92 dX1_changed_7 q1620 q1621 q129 q1622 pa92 hn)
theorem n168_10 : Snd mt G 168 10 (oCall 1 (fS 89 1) 0 13 xOut) := s_callS (m' := 89) (n := 1) xsh_out (w_xok0 mm168) (w_cal mm168 mm89 pn_X1 (Nat.le_of_ble_eq_true rfl) (Nat.le_of_ble_eq_true rfl)) (fun h as hn => w_run_S mm168 mm89 dX1_changed_10 q1180 q1181 q129 q1182 pa89 hn)
theorem n168_13 : Snd mt G 168 13 (oAload 3 14) := w_aload_n (hm := mm168) dX1_changed_13
theorem n168_14 : Snd mt G 168 14 (oGetf [19] 8 17) := w_getfN (hm := mm168) dX1_changed_14 (fokn1 (k := 8) (T := TX20) 18 (Nat.le_of_ble_eq_true rfl) vc_18 (Nat.le_of_ble_eq_true rfl) q1083)
theorem n168_17 : Snd mt G 168 17 (oIload 2 18) := w_iload_n (hm := mm168) dX1_changed_17
theorem n168_18 : Snd mt G 168 18 (oAld [104] 19) := w_aaload (hm := mm168) (kt := 4) dX1_changed_18 rfl at_4 (Nat.le_of_ble_eq_true rfl) (List.forall_mem_cons.mpr ⟨Or.inl rfl, (fun t ht => nomatch ht)⟩)
theorem n168_19 : Snd mt G 168 19 (oIfNull 22 24) := w_ifnonnull (hm := mm168) dX1_changed_19 rfl
theorem n168_22 : Snd mt G 168 22 (oConst (.int 0) 23) := w_iconst (hm := mm168) dX1_changed_22 rfl
theorem n168_23 : Snd mt G 168 23 (oRetI .int) := w_iret (hm := mm168) dX1_changed_23 rfl
theorem n168_24 : Snd mt G 168 24 (oConst (.int 0) 25) := w_iconst (hm := mm168) dX1_changed_24 rfl
theorem n168_25 : Snd mt G 168 25 (oIstore 4 27) := w_istore (hm := mm168) dX1_changed_25 (Nat.le_of_ble_eq_true rfl)
theorem n168_27 : Snd mt G 168 27 (oConst (.int 0) 28) := w_iconst (hm := mm168) dX1_changed_27 rfl
theorem n168_28 : Snd mt G 168 28 (oIstore 5 30) := w_istore (hm := mm168) dX1_changed_28 (Nat.le_of_ble_eq_true rfl)
theorem n168_30 : Snd mt G 168 30 (oConst (.int 0) 31) := w_iconst (hm := mm168) dX1_changed_30 rfl
theorem n168_31 : Snd mt G 168 31 (oIstore 6 33) := w_istore (hm := mm168) dX1_changed_31 (Nat.le_of_ble_eq_true rfl)
theorem n168_33 : Snd mt G 168 33 (oConst (.int 0) 34) := w_iconst (hm := mm168) dX1_changed_33 rfl
theorem n168_34 : Snd mt G 168 34 (oIstore 7 36) := w_istore (hm := mm168) dX1_changed_34 (Nat.le_of_ble_eq_true rfl)
theorem n168_36 : Snd mt G 168 36 (oConst (.int 0) 37) := w_iconst (hm := mm168) dX1_changed_36 rfl
theorem n168_37 : Snd mt G 168 37 (oIstore 8 39) := w_istore (hm := mm168) dX1_changed_37 (Nat.le_of_ble_eq_true rfl)
theorem n168_39 : Snd mt G 168 39 (oIload 8 41) := w_iload (hm := mm168) dX1_changed_39
theorem n168_41 : Snd mt G 168 41 (oAload 0 42) := w_aload_n (hm := mm168) dX1_changed_41
theorem n168_42 : Snd mt G 168 42 (oGetf [1] 0 45) := w_getf (hm := mm168) dX1_changed_42 (fok1 (k := 0) (T := TX1) 0 (Nat.le_of_ble_eq_true rfl) vc_0 (Nat.le_of_ble_eq_true rfl) q623)
theorem n168_45 : Snd mt G 168 45 (oGetf [2] 3 48) := w_getfN (hm := mm168) dX1_changed_45 (fokn1 (k := 3) (T := TX2) 1 (Nat.le_of_ble_eq_true rfl) vc_1 (Nat.le_of_ble_eq_true rfl) q549)
theorem n168_48 : Snd mt G 168 48 (oCall 1 (fV [3] 175 1) 0 51 xOut) := s_callV (m' := 175) (n := 0) xsh_out (w_xok0 mm168) (w_cal mm168 mm175 pn_J2 (Nat.le_of_ble_eq_true rfl) (Nat.le_of_ble_eq_true rfl)) (fun h b as hc hn => w_run_V (ci := 2) mm168 mm175 dX1_changed_48 (Or.inl (List.mem_singleton.mp hc)) (Nat.le_of_ble_eq_true rfl) vc_2 rfl q709 q710 q711 q133 q712 pa175 hn)
theorem n168_51 : Snd mt G 168 51 (oCmpGe 135 54) := w_icmp_ge (hm := mm168) dX1_changed_51 rfl
theorem n168_54 : Snd mt G 168 54 (oAload 0 55) := w_aload_n (hm := mm168) dX1_changed_54
theorem n168_55 : Snd mt G 168 55 (oGetf [1] 0 58) := w_getf (hm := mm168) dX1_changed_55 (fok1 (k := 0) (T := TX1) 0 (Nat.le_of_ble_eq_true rfl) vc_0 (Nat.le_of_ble_eq_true rfl) q623)
theorem n168_58 : Snd mt G 168 58 (oGetf [2] 3 61) := w_getfN (hm := mm168) dX1_changed_58 (fokn1 (k := 3) (T := TX2) 1 (Nat.le_of_ble_eq_true rfl) vc_1 (Nat.le_of_ble_eq_true rfl) q549)
theorem n168_61 : Snd mt G 168 61 (oIload 8 63) := w_iload (hm := mm168) dX1_changed_61
theorem n168_63 : Snd mt G 168 63 (oCall 2 (fV [3] 176 2) 0 66 xOut) := s_callV (m' := 176) (n := 1) xsh_out (w_xok0 mm168) (w_cal mm168 mm176 pn_J2 (Nat.le_of_ble_eq_true rfl) (Nat.le_of_ble_eq_true rfl)) (fun h b as hc hn => w_run_V (ci := 2) mm168 mm176 dX1_changed_63 (Or.inl (List.mem_singleton.mp hc)) (Nat.le_of_ble_eq_true rfl) vc_2 rfl q713 q714 q715 q133 q716 pa176 hn)
theorem n168_66 : Snd mt G 168 66 (oCast [28] 69) := w_cast (hm := mm168) dX1_changed_66 q2364 (List.forall_mem_cons.mpr ⟨⟨27, _, Or.inl rfl, (Nat.le_of_ble_eq_true rfl), vc_27, Or.inl rfl⟩, (fun t ht => nomatch ht)⟩)
theorem n168_69 : Snd mt G 168 69 (oAstore 9 71) := w_astore (hm := mm168) dX1_changed_69 (Nat.le_of_ble_eq_true rfl)
theorem n168_71 : Snd mt G 168 71 (oAload 9 73) := w_aload (hm := mm168) dX1_changed_71
theorem n168_73 : Snd mt G 168 73 (oGetf [28] 0 76) := w_getfN (hm := mm168) dX1_changed_73 (fokn1 (k := 0) (T := TX29) 27 (Nat.le_of_ble_eq_true rfl) vc_27 (Nat.le_of_ble_eq_true rfl) q2371)
theorem n168_76 : Snd mt G 168 76 (oIload 1 77) := w_iload_n (hm := mm168) dX1_changed_76
theorem n168_77 : Snd mt G 168 77 (oCmpEq 83 80) := w_icmp_eq (hm := mm168) dX1_changed_77 rfl
theorem n168_80 : Snd mt G 168 80 (oGoto 129) := w_goto (hm := mm168) dX1_changed_80 rfl
theorem n168_83 : Snd mt G 168 83 (oAload 9 85) := w_aload (hm := mm168) dX1_changed_83
theorem n168_85 : Snd mt G 168 85 (oGetf [28] 1 88) := w_getfN (hm := mm168) dX1_changed_85 (fokn1 (k := 1) (T := TX29) 27 (Nat.le_of_ble_eq_true rfl) vc_27 (Nat.le_of_ble_eq_true rfl) q2373)
theorem n168_88 : Snd mt G 168 88 (oAload 3 89) := w_aload_n (hm := mm168) dX1_changed_88
theorem n168_89 : Snd mt G 168 89 (oGetf [19] 8 92) := w_getfN (hm := mm168) dX1_changed_89 (fokn1 (k := 8) (T := TX20) 18 (Nat.le_of_ble_eq_true rfl) vc_18 (Nat.le_of_ble_eq_true rfl) q1083)
theorem n168_92 : Snd mt G 168 92 (oIload 2 93) := w_iload_n (hm := mm168) dX1_changed_92
theorem n168_93 : Snd mt G 168 93 (oAld [104] 94) := w_aaload (hm := mm168) (kt := 4) dX1_changed_93 rfl at_4 (Nat.le_of_ble_eq_true rfl) (List.forall_mem_cons.mpr ⟨Or.inl rfl, (fun t ht => nomatch ht)⟩)
theorem n168_94 : Snd mt G 168 94 (oGetf [20] 2 97) := w_getfN (hm := mm168) dX1_changed_94 (fokn1 (k := 2) (T := TX21) 19 (Nat.le_of_ble_eq_true rfl) vc_19 (Nat.le_of_ble_eq_true rfl) q1835)
theorem n168_97 : Snd mt G 168 97 (oCmpGe 116 100) := w_icmp_ge (hm := mm168) dX1_changed_97 rfl
theorem n168_100 : Snd mt G 168 100 (oIload 4 102) := w_iload (hm := mm168) dX1_changed_100
theorem n168_102 : Snd mt G 168 102 (oAload 9 104) := w_aload (hm := mm168) dX1_changed_102
theorem n168_104 : Snd mt G 168 104 (oGetf [28] 2 107) := w_getfN (hm := mm168) dX1_changed_104 (fokn1 (k := 2) (T := TX29) 27 (Nat.le_of_ble_eq_true rfl) vc_27 (Nat.le_of_ble_eq_true rfl) q2375)
theorem n168_107 : Snd mt G 168 107 (oBin (fun x y => x + y) 108) := w_iadd (hm := mm168) dX1_changed_107
theorem n168_108 : Snd mt G 168 108 (oIstore 4 110) := w_istore (hm := mm168) dX1_changed_108 (Nat.le_of_ble_eq_true rfl)
theorem n168_110 : Snd mt G 168 110 (oIinc 6 1 113) := w_iinc (hm := mm168) dX1_changed_110 rfl (Nat.le_of_ble_eq_true rfl)
theorem n168_113 : Snd mt G 168 113 (oGoto 129) := w_goto (hm := mm168) dX1_changed_113 rfl
theorem n168_116 : Snd mt G 168 116 (oIload 5 118) := w_iload (hm := mm168) dX1_changed_116
theorem n168_118 : Snd mt G 168 118 (oAload 9 120) := w_aload (hm := mm168) dX1_changed_118
theorem n168_120 : Snd mt G 168 120 (oGetf [28] 2 123) := w_getfN (hm := mm168) dX1_changed_120 (fokn1 (k := 2) (T := TX29) 27 (Nat.le_of_ble_eq_true rfl) vc_27 (Nat.le_of_ble_eq_true rfl) q2375)
theorem n168_123 : Snd mt G 168 123 (oBin (fun x y => x + y) 124) := w_iadd (hm := mm168) dX1_changed_123
theorem n168_124 : Snd mt G 168 124 (oIstore 5 126) := w_istore (hm := mm168) dX1_changed_124 (Nat.le_of_ble_eq_true rfl)
theorem n168_126 : Snd mt G 168 126 (oIinc 7 1 129) := w_iinc (hm := mm168) dX1_changed_126 rfl (Nat.le_of_ble_eq_true rfl)
theorem n168_129 : Snd mt G 168 129 (oIinc 8 1 132) := w_iinc (hm := mm168) dX1_changed_129 rfl (Nat.le_of_ble_eq_true rfl)
theorem n168_132 : Snd mt G 168 132 (oGoto 39) := w_goto (hm := mm168) dX1_changed_132 rfl
theorem n168_135 : Snd mt G 168 135 (oIload 5 137) := w_iload (hm := mm168) dX1_changed_135
theorem n168_137 : Snd mt G 168 137 (oIload 6 139) := w_iload (hm := mm168) dX1_changed_137
theorem n168_139 : Snd mt G 168 139 (oBin (fun x y => x * y) 140) := w_imul (hm := mm168) dX1_changed_139
theorem n168_140 : Snd mt G 168 140 (oIload 4 142) := w_iload (hm := mm168) dX1_changed_140
theorem n168_142 : Snd mt G 168 142 (oIload 7 144) := w_iload (hm := mm168) dX1_changed_142
theorem n168_144 : Snd mt G 168 144 (oBin (fun x y => x * y) 145) := w_imul (hm := mm168) dX1_changed_144
theorem n168_145 : Snd mt G 168 145 (oBin (fun x y => x - y) 146) := w_isub (hm := mm168) dX1_changed_145
theorem n168_146 : Snd mt G 168 146 (oRetI .int) := w_iret (hm := mm168) dX1_changed_146 rfl
theorem sj168 : ∀ pc, Snd mt G 168 pc (j168 pc) := fun pc => (snd_br ((snd_br ((snd_br ((snd_br ((snd_br ((snd_br ((snd_br ((snd_lf n168_146)) ((snd_lf n168_145)))) ((snd_lf n168_144)))) ((snd_br ((snd_lf n168_142)) ((snd_lf n168_140)))))) ((snd_br ((snd_br ((snd_br ((snd_lf n168_139)) ((snd_lf n168_137)))) ((snd_lf n168_135)))) ((snd_br ((snd_lf n168_132)) ((snd_lf n168_129)))))))) ((snd_br ((snd_br ((snd_br ((snd_br ((snd_lf n168_126)) ((snd_lf n168_124)))) ((snd_lf n168_123)))) ((snd_br ((snd_lf n168_120)) ((snd_lf n168_118)))))) ((snd_br ((snd_br ((snd_lf n168_116)) ((snd_lf n168_113)))) ((snd_br ((snd_lf n168_110)) ((snd_lf n168_108)))))))))) ((snd_br ((snd_br ((snd_br ((snd_br ((snd_br ((snd_lf n168_107)) ((snd_lf n168_104)))) ((snd_lf n168_102)))) ((snd_br ((snd_lf n168_100)) ((snd_lf n168_97)))))) ((snd_br ((snd_br ((snd_lf n168_94)) ((snd_lf n168_93)))) ((snd_br ((snd_lf n168_92)) ((snd_lf n168_89)))))))) ((snd_br ((snd_br ((snd_br ((snd_br ((snd_lf n168_88)) ((snd_lf n168_85)))) ((snd_lf n168_83)))) ((snd_br ((snd_lf n168_80)) ((snd_lf n168_77)))))) ((snd_br ((snd_br ((snd_lf n168_76)) ((snd_lf n168_73)))) ((snd_br ((snd_lf n168_71)) ((snd_lf n168_69)))))))))))) ((snd_br ((snd_br ((snd_br ((snd_br ((snd_br ((snd_br ((snd_lf n168_66)) ((snd_lf n168_63)))) ((snd_lf n168_61)))) ((snd_br ((snd_lf n168_58)) ((snd_lf n168_55)))))) ((snd_br ((snd_br ((snd_lf n168_54)) ((snd_lf n168_51)))) ((snd_br ((snd_lf n168_48)) ((snd_lf n168_45)))))))) ((snd_br ((snd_br ((snd_br ((snd_br ((snd_lf n168_42)) ((snd_lf n168_41)))) ((snd_lf n168_39)))) ((snd_br ((snd_lf n168_37)) ((snd_lf n168_36)))))) ((snd_br ((snd_br ((snd_lf n168_34)) ((snd_lf n168_33)))) ((snd_br ((snd_lf n168_31)) ((snd_lf n168_30)))))))))) ((snd_br ((snd_br ((snd_br ((snd_br ((snd_br ((snd_lf n168_28)) ((snd_lf n168_27)))) ((snd_lf n168_25)))) ((snd_br ((snd_lf n168_24)) ((snd_lf n168_23)))))) ((snd_br ((snd_br ((snd_lf n168_22)) ((snd_lf n168_19)))) ((snd_br ((snd_lf n168_18)) ((snd_lf n168_17)))))))) ((snd_br ((snd_br ((snd_br ((snd_br ((snd_lf n168_14)) ((snd_lf n168_13)))) ((snd_lf n168_10)))) ((snd_br ((snd_lf n168_7)) ((snd_lf n168_6)))))) ((snd_br ((snd_br ((snd_lf n168_5)) ((snd_lf n168_2)))) ((snd_br ((snd_lf n168_1)) ((snd_lf n168_0)))))))))))))
end
section
variable {G : AG}
theorem n169_0 : Snd mt G 169 0 (oIload 1 1) := w_iload_n (hm := mm169) dX1_spent_0
theorem n169_1 : Snd mt G 169 1 (oConst (.int (-1)) 2) := w_iconst (hm := mm169) dX1_spent_1 rfl
theorem n169_2 : Snd mt G 169 2 (oCmpEq 11 5) := w_icmp_eq (hm := mm169) dX1_spent_2 rfl
theorem n169_5 : Snd mt G 169 5 (oAload 0 6) := w_aload_n (hm := mm169) dX1_spent_5
theorem n169_6 : Snd mt G 169 6 (oIload 1 7) := w_iload_n (hm := mm169) dX1_spent_6
theorem n169_7 : Snd mt G 169 7 (oCall 2 (fV [1] 97 2) 0 10 xOut) := s_callV (m' := 97) (n := 1) xsh_out (w_xok0 mm169) (w_cal mm169 mm97 pn_X1 (Nat.le_of_ble_eq_true rfl) (Nat.le_of_ble_eq_true rfl)) (fun h b as hc hn => w_run_V (ci := 0) mm169 mm97 dX1_spent_7 (Or.inl (List.mem_singleton.mp hc)) (Nat.le_of_ble_eq_true rfl) vc_0 rfl q1688 q1690 qs41 q129 q1691 pa97 hn)
theorem n169_10 : Snd mt G 169 10 (oPop 11) := w_pop (hm := mm169) dX1_spent_10
theorem n169_11 : Snd mt G 169 11 (oIload 2 12) := w_iload_n (hm := mm169) dX1_spent_11
theorem n169_12 : Snd mt G 169 12 (oCall 1 (fS 120 1) 0 15 xOut) := s_callS (m' := 120) (n := 1) xsh_out (w_xok0 mm169) (w_cal mm169 mm120 pn_X1 (Nat.le_of_ble_eq_true rfl) (Nat.le_of_ble_eq_true rfl)) (fun h as hn => w_run_S mm169 mm120 dX1_spent_12 q1936 q1937 q129 q1938 pa120 hn)
theorem n169_15 : Snd mt G 169 15 (oCall 1 (fS 89 1) 0 18 xOut) := s_callS (m' := 89) (n := 1) xsh_out (w_xok0 mm169) (w_cal mm169 mm89 pn_X1 (Nat.le_of_ble_eq_true rfl) (Nat.le_of_ble_eq_true rfl)) (fun h as hn => w_run_S mm169 mm89 dX1_spent_15 q1180 q1181 q129 q1182 pa89 hn)
theorem n169_18 : Snd mt G 169 18 (oIload 1 19) := w_iload_n (hm := mm169) dX1_spent_18
theorem n169_19 : Snd mt G 169 19 (oConst (.int (-1)) 20) := w_iconst (hm := mm169) dX1_spent_19 rfl
theorem n169_20 : Snd mt G 169 20 (oCmpEq 43 23) := w_icmp_eq (hm := mm169) dX1_spent_20 rfl
theorem n169_23 : Snd mt G 169 23 (oAload 0 24) := w_aload_n (hm := mm169) dX1_spent_23
theorem n169_24 : Snd mt G 169 24 (oGetf [1] 0 27) := w_getf (hm := mm169) dX1_spent_24 (fok1 (k := 0) (T := TX1) 0 (Nat.le_of_ble_eq_true rfl) vc_0 (Nat.le_of_ble_eq_true rfl) q623)
theorem n169_27 : Snd mt G 169 27 (oGetf [2] 1 30) := w_getfN (hm := mm169) dX1_spent_27 (fokn1 (k := 1) (T := TX2) 1 (Nat.le_of_ble_eq_true rfl) vc_1 (Nat.le_of_ble_eq_true rfl) q545)
theorem n169_30 : Snd mt G 169 30 (oIload 1 31) := w_iload_n (hm := mm169) dX1_spent_30
theorem n169_31 : Snd mt G 169 31 (oCall 2 (fV [3] 176 2) 0 34 xOut) := s_callV (m' := 176) (n := 1) xsh_out (w_xok0 mm169) (w_cal mm169 mm176 pn_J2 (Nat.le_of_ble_eq_true rfl) (Nat.le_of_ble_eq_true rfl)) (fun h b as hc hn => w_run_V (ci := 2) mm169 mm176 dX1_spent_31 (Or.inl (List.mem_singleton.mp hc)) (Nat.le_of_ble_eq_true rfl) vc_2 rfl q713 q714 q715 q133 q716 pa176 hn)
theorem n169_34 : Snd mt G 169 34 (oCast [19] 37) := w_cast (hm := mm169) dX1_spent_34 q727 (List.forall_mem_cons.mpr ⟨⟨18, _, Or.inl rfl, (Nat.le_of_ble_eq_true rfl), vc_18, Or.inl rfl⟩, (fun t ht => nomatch ht)⟩)
theorem n169_37 : Snd mt G 169 37 (oGetf [19] 9 40) := w_getfN (hm := mm169) dX1_spent_37 (fokn1 (k := 9) (T := TX20) 18 (Nat.le_of_ble_eq_true rfl) vc_18 (Nat.le_of_ble_eq_true rfl) q1085)
theorem n169_40 : Snd mt G 169 40 (oIload 2 41) := w_iload_n (hm := mm169) dX1_spent_40
theorem n169_41 : Snd mt G 169 41 (oAld [100] 42) := w_iaload (hm := mm169) (kt := 0) dX1_spent_41 at_0 (Nat.le_of_ble_eq_true rfl) (List.forall_mem_cons.mpr ⟨Or.inl rfl, (fun t ht => nomatch ht)⟩)
theorem n169_42 : Snd mt G 169 42 (oRetI .int) := w_iret (hm := mm169) dX1_spent_42 rfl
theorem n169_43 : Snd mt G 169 43 (oConst (.int 0) 44) := w_iconst (hm := mm169) dX1_spent_43 rfl
theorem n169_44 : Snd mt G 169 44 (oIstore 3 45) := w_istore_n (hm := mm169) dX1_spent_44 (Nat.le_of_ble_eq_true rfl)
theorem n169_45 : Snd mt G 169 45 (oConst (.int 0) 46) := w_iconst (hm := mm169) dX1_spent_45 rfl
theorem n169_46 : Snd mt G 169 46 (oIstore 4 48) := w_istore (hm := mm169) dX1_spent_46 (Nat.le_of_ble_eq_true rfl)
theorem n169_48 : Snd mt G 169 48 (oIload 4 50) := w_iload (hm := mm169) dX1_spent_48
theorem n169_50 : Snd mt G 169 50 (oAload 0 51) := w_aload_n (hm := mm169) dX1_spent_50
theorem n169_51 : Snd mt G 169 51 (oGetf [1] 0 54) := w_getf (hm := mm169) dX1_spent_51 (fok1 (k := 0) (T := TX1) 0 (Nat.le_of_ble_eq_true rfl) vc_0 (Nat.le_of_ble_eq_true rfl) q623)
theorem n169_54 : Snd mt G 169 54 (oGetf [2] 1 57) := w_getfN (hm := mm169) dX1_spent_54 (fokn1 (k := 1) (T := TX2) 1 (Nat.le_of_ble_eq_true rfl) vc_1 (Nat.le_of_ble_eq_true rfl) q545)
theorem n169_57 : Snd mt G 169 57 (oCall 1 (fV [3] 175 1) 0 60 xOut) := s_callV (m' := 175) (n := 0) xsh_out (w_xok0 mm169) (w_cal mm169 mm175 pn_J2 (Nat.le_of_ble_eq_true rfl) (Nat.le_of_ble_eq_true rfl)) (fun h b as hc hn => w_run_V (ci := 2) mm169 mm175 dX1_spent_57 (Or.inl (List.mem_singleton.mp hc)) (Nat.le_of_ble_eq_true rfl) vc_2 rfl q709 q710 q711 q133 q712 pa175 hn)
theorem n169_60 : Snd mt G 169 60 (oCmpGe 92 63) := w_icmp_ge (hm := mm169) dX1_spent_60 rfl
theorem n169_63 : Snd mt G 169 63 (oIload 3 64) := w_iload_n (hm := mm169) dX1_spent_63
theorem n169_64 : Snd mt G 169 64 (oAload 0 65) := w_aload_n (hm := mm169) dX1_spent_64
theorem n169_65 : Snd mt G 169 65 (oGetf [1] 0 68) := w_getf (hm := mm169) dX1_spent_65 (fok1 (k := 0) (T := TX1) 0 (Nat.le_of_ble_eq_true rfl) vc_0 (Nat.le_of_ble_eq_true rfl) q623)
theorem n169_68 : Snd mt G 169 68 (oGetf [2] 1 71) := w_getfN (hm := mm169) dX1_spent_68 (fokn1 (k := 1) (T := TX2) 1 (Nat.le_of_ble_eq_true rfl) vc_1 (Nat.le_of_ble_eq_true rfl) q545)
theorem n169_71 : Snd mt G 169 71 (oIload 4 73) := w_iload (hm := mm169) dX1_spent_71
theorem n169_73 : Snd mt G 169 73 (oCall 2 (fV [3] 176 2) 0 76 xOut) := s_callV (m' := 176) (n := 1) xsh_out (w_xok0 mm169) (w_cal mm169 mm176 pn_J2 (Nat.le_of_ble_eq_true rfl) (Nat.le_of_ble_eq_true rfl)) (fun h b as hc hn => w_run_V (ci := 2) mm169 mm176 dX1_spent_73 (Or.inl (List.mem_singleton.mp hc)) (Nat.le_of_ble_eq_true rfl) vc_2 rfl q713 q714 q715 q133 q716 pa176 hn)
theorem n169_76 : Snd mt G 169 76 (oCast [19] 79) := w_cast (hm := mm169) dX1_spent_76 q727 (List.forall_mem_cons.mpr ⟨⟨18, _, Or.inl rfl, (Nat.le_of_ble_eq_true rfl), vc_18, Or.inl rfl⟩, (fun t ht => nomatch ht)⟩)
theorem n169_79 : Snd mt G 169 79 (oGetf [19] 9 82) := w_getfN (hm := mm169) dX1_spent_79 (fokn1 (k := 9) (T := TX20) 18 (Nat.le_of_ble_eq_true rfl) vc_18 (Nat.le_of_ble_eq_true rfl) q1085)
theorem n169_82 : Snd mt G 169 82 (oIload 2 83) := w_iload_n (hm := mm169) dX1_spent_82
theorem n169_83 : Snd mt G 169 83 (oAld [100] 84) := w_iaload (hm := mm169) (kt := 0) dX1_spent_83 at_0 (Nat.le_of_ble_eq_true rfl) (List.forall_mem_cons.mpr ⟨Or.inl rfl, (fun t ht => nomatch ht)⟩)
theorem n169_84 : Snd mt G 169 84 (oBin (fun x y => x + y) 85) := w_iadd (hm := mm169) dX1_spent_84
theorem n169_85 : Snd mt G 169 85 (oIstore 3 86) := w_istore_n (hm := mm169) dX1_spent_85 (Nat.le_of_ble_eq_true rfl)
theorem n169_86 : Snd mt G 169 86 (oIinc 4 1 89) := w_iinc (hm := mm169) dX1_spent_86 rfl (Nat.le_of_ble_eq_true rfl)
theorem n169_89 : Snd mt G 169 89 (oGoto 48) := w_goto (hm := mm169) dX1_spent_89 rfl
theorem n169_92 : Snd mt G 169 92 (oIload 3 93) := w_iload_n (hm := mm169) dX1_spent_92
theorem n169_93 : Snd mt G 169 93 (oRetI .int) := w_iret (hm := mm169) dX1_spent_93 rfl
theorem sj169 : ∀ pc, Snd mt G 169 pc (j169 pc) := fun pc => (snd_br ((snd_br ((snd_br ((snd_br ((snd_br ((snd_br ((snd_lf n169_93)) ((snd_lf n169_92)))) ((snd_br ((snd_lf n169_89)) ((snd_lf n169_86)))))) ((snd_br ((snd_br ((snd_lf n169_85)) ((snd_lf n169_84)))) ((snd_lf n169_83)))))) ((snd_br ((snd_br ((snd_br ((snd_lf n169_82)) ((snd_lf n169_79)))) ((snd_lf n169_76)))) ((snd_br ((snd_br ((snd_lf n169_73)) ((snd_lf n169_71)))) ((snd_lf n169_68)))))))) ((snd_br ((snd_br ((snd_br ((snd_br ((snd_lf n169_65)) ((snd_lf n169_64)))) ((snd_lf n169_63)))) ((snd_br ((snd_br ((snd_lf n169_60)) ((snd_lf n169_57)))) ((snd_lf n169_54)))))) ((snd_br ((snd_br ((snd_br ((snd_lf n169_51)) ((snd_lf n169_50)))) ((snd_lf n169_48)))) ((snd_br ((snd_br ((snd_lf n169_46)) ((snd_lf n169_45)))) ((snd_lf n169_44)))))))))) ((snd_br ((snd_br ((snd_br ((snd_br ((snd_br ((snd_lf n169_43)) ((snd_lf n169_42)))) ((snd_lf n169_41)))) ((snd_br ((snd_br ((snd_lf n169_40)) ((snd_lf n169_37)))) ((snd_lf n169_34)))))) ((snd_br ((snd_br ((snd_br ((snd_lf n169_31)) ((snd_lf n169_30)))) ((snd_lf n169_27)))) ((snd_br ((snd_br ((snd_lf n169_24)) ((snd_lf n169_23)))) ((snd_lf n169_20)))))))) ((snd_br ((snd_br ((snd_br ((snd_br ((snd_lf n169_19)) ((snd_lf n169_18)))) ((snd_lf n169_15)))) ((snd_br ((snd_br ((snd_lf n169_12)) ((snd_lf n169_11)))) ((snd_lf n169_10)))))) ((snd_br ((snd_br ((snd_br ((snd_lf n169_7)) ((snd_lf n169_6)))) ((snd_lf n169_5)))) ((snd_br ((snd_br ((snd_lf n169_2)) ((snd_lf n169_1)))) ((snd_lf n169_0)))))))))))
end
section
variable {G : AG}
theorem n170_0 : Snd mt G 170 0 (oAload 0 1) := w_aload_n (hm := mm170) dX2_init_0
theorem n170_1 : Snd mt G 170 1 (oObjI 4) := w_objI (hm := mm170) dX2_init_1 (Nat.le_of_ble_eq_true rfl) q196 q189 q190
theorem n170_4 : Snd mt G 170 4 (oAload 0 5) := w_aload_n (hm := mm170) dX2_init_4
theorem n170_5 : Snd mt G 170 5 (oNew 3 3 nfJ2 8) := w_new (hm := mm170) (ci := 2) (T9 := TJ2) (ty := tyJ2) dX2_init_5 (Nat.le_of_ble_eq_true rfl) vc_2 tyJ2_ok (fun _ _ => rfl) q197 q198 q133
theorem n170_8 : Snd mt G 170 8 (oDup 9) := w_dup (hm := mm170) dX2_init_8
theorem n170_9 : Snd mt G 170 9 (oConst (.int 1) 10) := w_iconst (hm := mm170) dX2_init_9 rfl
theorem n170_10 : Snd mt G 170 10 (oCall 2 (fI 174 2) 0 13 xOut) := s_callI (m' := 174) (n := 1) xsh_out (w_xok0 mm170) (w_cal mm170 mm174 pn_J2 (Nat.le_of_ble_eq_true rfl) (Nat.le_of_ble_eq_true rfl)) (fun h b as hn => w_run_I mm170 mm174 dX2_init_10 rfl rfl q199 q200 q133 q201 pa174 hn)
theorem n170_13 : Snd mt G 170 13 (oPutf [2] 0 (.object "java/util/ArrayList") 16) := w_putfF (hm := mm170) dX2_init_13 (pfk1 (k := 0) (T := TX2) 1 (Nat.le_of_ble_eq_true rfl) vc_1 (Nat.le_of_ble_eq_true rfl) rfl rfl pd_X2_0 rfl q542)
theorem n170_16 : Snd mt G 170 16 (oAload 0 17) := w_aload_n (hm := mm170) dX2_init_16
theorem n170_17 : Snd mt G 170 17 (oNew 3 3 nfJ2 20) := w_new (hm := mm170) (ci := 2) (T9 := TJ2) (ty := tyJ2) dX2_init_17 (Nat.le_of_ble_eq_true rfl) vc_2 tyJ2_ok (fun _ _ => rfl) q197 q198 q133
theorem n170_20 : Snd mt G 170 20 (oDup 21) := w_dup (hm := mm170) dX2_init_20
theorem n170_21 : Snd mt G 170 21 (oConst (.int 1) 22) := w_iconst (hm := mm170) dX2_init_21 rfl
theorem n170_22 : Snd mt G 170 22 (oCall 2 (fI 174 2) 0 25 xOut) := s_callI (m' := 174) (n := 1) xsh_out (w_xok0 mm170) (w_cal mm170 mm174 pn_J2 (Nat.le_of_ble_eq_true rfl) (Nat.le_of_ble_eq_true rfl)) (fun h b as hn => w_run_I mm170 mm174 dX2_init_22 rfl rfl q199 q200 q133 q201 pa174 hn)
theorem n170_25 : Snd mt G 170 25 (oPutf [2] 1 (.object "java/util/ArrayList") 28) := w_putfF (hm := mm170) dX2_init_25 (pfk1 (k := 1) (T := TX2) 1 (Nat.le_of_ble_eq_true rfl) vc_1 (Nat.le_of_ble_eq_true rfl) rfl rfl pd_X2_1 rfl q544)
theorem n170_28 : Snd mt G 170 28 (oAload 0 29) := w_aload_n (hm := mm170) dX2_init_28
theorem n170_29 : Snd mt G 170 29 (oNew 3 3 nfJ2 32) := w_new (hm := mm170) (ci := 2) (T9 := TJ2) (ty := tyJ2) dX2_init_29 (Nat.le_of_ble_eq_true rfl) vc_2 tyJ2_ok (fun _ _ => rfl) q197 q198 q133
theorem n170_32 : Snd mt G 170 32 (oDup 33) := w_dup (hm := mm170) dX2_init_32
theorem n170_33 : Snd mt G 170 33 (oConst (.int 1) 34) := w_iconst (hm := mm170) dX2_init_33 rfl
theorem n170_34 : Snd mt G 170 34 (oCall 2 (fI 174 2) 0 37 xOut) := s_callI (m' := 174) (n := 1) xsh_out (w_xok0 mm170) (w_cal mm170 mm174 pn_J2 (Nat.le_of_ble_eq_true rfl) (Nat.le_of_ble_eq_true rfl)) (fun h b as hn => w_run_I mm170 mm174 dX2_init_34 rfl rfl q199 q200 q133 q201 pa174 hn)
theorem n170_37 : Snd mt G 170 37 (oPutf [2] 2 (.object "java/util/ArrayList") 40) := w_putfF (hm := mm170) dX2_init_37 (pfk1 (k := 2) (T := TX2) 1 (Nat.le_of_ble_eq_true rfl) vc_1 (Nat.le_of_ble_eq_true rfl) rfl rfl pd_X2_2 rfl q546)
theorem n170_40 : Snd mt G 170 40 (oAload 0 41) := w_aload_n (hm := mm170) dX2_init_40
theorem n170_41 : Snd mt G 170 41 (oNew 3 3 nfJ2 44) := w_new (hm := mm170) (ci := 2) (T9 := TJ2) (ty := tyJ2) dX2_init_41 (Nat.le_of_ble_eq_true rfl) vc_2 tyJ2_ok (fun _ _ => rfl) q197 q198 q133
theorem n170_44 : Snd mt G 170 44 (oDup 45) := w_dup (hm := mm170) dX2_init_44
theorem n170_45 : Snd mt G 170 45 (oConst (.int 1) 46) := w_iconst (hm := mm170) dX2_init_45 rfl
theorem n170_46 : Snd mt G 170 46 (oCall 2 (fI 174 2) 0 49 xOut) := s_callI (m' := 174) (n := 1) xsh_out (w_xok0 mm170) (w_cal mm170 mm174 pn_J2 (Nat.le_of_ble_eq_true rfl) (Nat.le_of_ble_eq_true rfl)) (fun h b as hn => w_run_I mm170 mm174 dX2_init_46 rfl rfl q199 q200 q133 q201 pa174 hn)
theorem n170_49 : Snd mt G 170 49 (oPutf [2] 3 (.object "java/util/ArrayList") 52) := w_putfF (hm := mm170) dX2_init_49 (pfk1 (k := 3) (T := TX2) 1 (Nat.le_of_ble_eq_true rfl) vc_1 (Nat.le_of_ble_eq_true rfl) rfl rfl pd_X2_3 rfl q548)
theorem n170_52 : Snd mt G 170 52 (oAload 0 53) := w_aload_n (hm := mm170) dX2_init_52
theorem n170_53 : Snd mt G 170 53 (oNew 3 3 nfJ2 56) := w_new (hm := mm170) (ci := 2) (T9 := TJ2) (ty := tyJ2) dX2_init_53 (Nat.le_of_ble_eq_true rfl) vc_2 tyJ2_ok (fun _ _ => rfl) q197 q198 q133
theorem n170_56 : Snd mt G 170 56 (oDup 57) := w_dup (hm := mm170) dX2_init_56
theorem n170_57 : Snd mt G 170 57 (oConst (.int 1) 58) := w_iconst (hm := mm170) dX2_init_57 rfl
theorem n170_58 : Snd mt G 170 58 (oCall 2 (fI 174 2) 0 61 xOut) := s_callI (m' := 174) (n := 1) xsh_out (w_xok0 mm170) (w_cal mm170 mm174 pn_J2 (Nat.le_of_ble_eq_true rfl) (Nat.le_of_ble_eq_true rfl)) (fun h b as hn => w_run_I mm170 mm174 dX2_init_58 rfl rfl q199 q200 q133 q201 pa174 hn)
theorem n170_61 : Snd mt G 170 61 (oPutf [2] 4 (.object "java/util/ArrayList") 64) := w_putfF (hm := mm170) dX2_init_61 (pfk1 (k := 4) (T := TX2) 1 (Nat.le_of_ble_eq_true rfl) vc_1 (Nat.le_of_ble_eq_true rfl) rfl rfl pd_X2_4 rfl q550)
theorem n170_64 : Snd mt G 170 64 (oAload 0 65) := w_aload_n (hm := mm170) dX2_init_64
theorem n170_65 : Snd mt G 170 65 (oNew 3 3 nfJ2 68) := w_new (hm := mm170) (ci := 2) (T9 := TJ2) (ty := tyJ2) dX2_init_65 (Nat.le_of_ble_eq_true rfl) vc_2 tyJ2_ok (fun _ _ => rfl) q197 q198 q133
theorem n170_68 : Snd mt G 170 68 (oDup 69) := w_dup (hm := mm170) dX2_init_68
theorem n170_69 : Snd mt G 170 69 (oConst (.int 1) 70) := w_iconst (hm := mm170) dX2_init_69 rfl
theorem n170_70 : Snd mt G 170 70 (oCall 2 (fI 174 2) 0 73 xOut) := s_callI (m' := 174) (n := 1) xsh_out (w_xok0 mm170) (w_cal mm170 mm174 pn_J2 (Nat.le_of_ble_eq_true rfl) (Nat.le_of_ble_eq_true rfl)) (fun h b as hn => w_run_I mm170 mm174 dX2_init_70 rfl rfl q199 q200 q133 q201 pa174 hn)
theorem n170_73 : Snd mt G 170 73 (oPutf [2] 5 (.object "java/util/ArrayList") 76) := w_putfF (hm := mm170) dX2_init_73 (pfk1 (k := 5) (T := TX2) 1 (Nat.le_of_ble_eq_true rfl) vc_1 (Nat.le_of_ble_eq_true rfl) rfl rfl pd_X2_5 rfl q552)
theorem n170_76 : Snd mt G 170 76 (oAload 0 77) := w_aload_n (hm := mm170) dX2_init_76
theorem n170_77 : Snd mt G 170 77 (oNew 3 3 nfJ2 80) := w_new (hm := mm170) (ci := 2) (T9 := TJ2) (ty := tyJ2) dX2_init_77 (Nat.le_of_ble_eq_true rfl) vc_2 tyJ2_ok (fun _ _ => rfl) q197 q198 q133
theorem n170_80 : Snd mt G 170 80 (oDup 81) := w_dup (hm := mm170) dX2_init_80
theorem n170_81 : Snd mt G 170 81 (oConst (.int 1) 82) := w_iconst (hm := mm170) dX2_init_81 rfl
theorem n170_82 : Snd mt G 170 82 (oCall 2 (fI 174 2) 0 85 xOut) := s_callI (m' := 174) (n := 1) xsh_out (w_xok0 mm170) (w_cal mm170 mm174 pn_J2 (Nat.le_of_ble_eq_true rfl) (Nat.le_of_ble_eq_true rfl)) (fun h b as hn => w_run_I mm170 mm174 dX2_init_82 rfl rfl q199 q200 q133 q201 pa174 hn)
theorem n170_85 : Snd mt G 170 85 (oPutf [2] 6 (.object "java/util/ArrayList") 88) := w_putfF (hm := mm170) dX2_init_85 (pfk1 (k := 6) (T := TX2) 1 (Nat.le_of_ble_eq_true rfl) vc_1 (Nat.le_of_ble_eq_true rfl) rfl rfl pd_X2_6 rfl q554)
theorem n170_88 : Snd mt G 170 88 (oAload 0 89) := w_aload_n (hm := mm170) dX2_init_88
theorem n170_89 : Snd mt G 170 89 (oNew 3 3 nfJ2 92) := w_new (hm := mm170) (ci := 2) (T9 := TJ2) (ty := tyJ2) dX2_init_89 (Nat.le_of_ble_eq_true rfl) vc_2 tyJ2_ok (fun _ _ => rfl) q197 q198 q133
theorem n170_92 : Snd mt G 170 92 (oDup 93) := w_dup (hm := mm170) dX2_init_92
theorem n170_93 : Snd mt G 170 93 (oConst (.int 1) 94) := w_iconst (hm := mm170) dX2_init_93 rfl
theorem n170_94 : Snd mt G 170 94 (oCall 2 (fI 174 2) 0 97 xOut) := s_callI (m' := 174) (n := 1) xsh_out (w_xok0 mm170) (w_cal mm170 mm174 pn_J2 (Nat.le_of_ble_eq_true rfl) (Nat.le_of_ble_eq_true rfl)) (fun h b as hn => w_run_I mm170 mm174 dX2_init_94 rfl rfl q199 q200 q133 q201 pa174 hn)
theorem n170_97 : Snd mt G 170 97 (oPutf [2] 7 (.object "java/util/ArrayList") 100) := w_putfF (hm := mm170) dX2_init_97 (pfk1 (k := 7) (T := TX2) 1 (Nat.le_of_ble_eq_true rfl) vc_1 (Nat.le_of_ble_eq_true rfl) rfl rfl pd_X2_7 rfl q556)
theorem n170_100 : Snd mt G 170 100 (oAload 0 101) := w_aload_n (hm := mm170) dX2_init_100
theorem n170_101 : Snd mt G 170 101 (oNew 3 3 nfJ2 104) := w_new (hm := mm170) (ci := 2) (T9 := TJ2) (ty := tyJ2) dX2_init_101 (Nat.le_of_ble_eq_true rfl) vc_2 tyJ2_ok (fun _ _ => rfl) q197 q198 q133
theorem n170_104 : Snd mt G 170 104 (oDup 105) := w_dup (hm := mm170) dX2_init_104
theorem n170_105 : Snd mt G 170 105 (oConst (.int 1) 106) := w_iconst (hm := mm170) dX2_init_105 rfl
theorem n170_106 : Snd mt G 170 106 (oCall 2 (fI 174 2) 0 109 xOut) := s_callI (m' := 174) (n := 1) xsh_out (w_xok0 mm170) (w_cal mm170 mm174 pn_J2 (Nat.le_of_ble_eq_true rfl) (Nat.le_of_ble_eq_true rfl)) (fun h b as hn => w_run_I mm170 mm174 dX2_init_106 rfl rfl q199 q200 q133 q201 pa174 hn)
theorem n170_109 : Snd mt G 170 109 (oPutf [2] 8 (.object "java/util/ArrayList") 112) := w_putfF (hm := mm170) dX2_init_109 (pfk1 (k := 8) (T := TX2) 1 (Nat.le_of_ble_eq_true rfl) vc_1 (Nat.le_of_ble_eq_true rfl) rfl rfl pd_X2_8 rfl q558)
theorem n170_112 : Snd mt G 170 112 (oAload 0 113) := w_aload_n (hm := mm170) dX2_init_112
theorem n170_113 : Snd mt G 170 113 (oNew 3 3 nfJ2 116) := w_new (hm := mm170) (ci := 2) (T9 := TJ2) (ty := tyJ2) dX2_init_113 (Nat.le_of_ble_eq_true rfl) vc_2 tyJ2_ok (fun _ _ => rfl) q197 q198 q133
theorem n170_116 : Snd mt G 170 116 (oDup 117) := w_dup (hm := mm170) dX2_init_116
theorem n170_117 : Snd mt G 170 117 (oConst (.int 1) 118) := w_iconst (hm := mm170) dX2_init_117 rfl
theorem n170_118 : Snd mt G 170 118 (oCall 2 (fI 174 2) 0 121 xOut) := s_callI (m' := 174) (n := 1) xsh_out (w_xok0 mm170) (w_cal mm170 mm174 pn_J2 (Nat.le_of_ble_eq_true rfl) (Nat.le_of_ble_eq_true rfl)) (fun h b as hn => w_run_I mm170 mm174 dX2_init_118 rfl rfl q199 q200 q133 q201 pa174 hn)
theorem n170_121 : Snd mt G 170 121 (oPutf [2] 9 (.object "java/util/ArrayList") 124) := w_putfF (hm := mm170) dX2_init_121 (pfk1 (k := 9) (T := TX2) 1 (Nat.le_of_ble_eq_true rfl) vc_1 (Nat.le_of_ble_eq_true rfl) rfl rfl pd_X2_9 rfl q560)
theorem n170_124 : Snd mt G 170 124 (oAload 0 125) := w_aload_n (hm := mm170) dX2_init_124
theorem n170_125 : Snd mt G 170 125 (oConst (.int 6) 127) := w_bipush (hm := mm170) dX2_init_125 (by decide)
theorem n170_127 : Snd mt G 170 127 (oNewa 100 (.int 0) 129) := w_newa (hm := mm170) (kt := 0) dX2_init_127 (Nat.le_of_ble_eq_true rfl) at_0 rfl (fun C q => nomatch q) (Nat.le_of_ble_eq_true rfl) q619
theorem n170_129 : Snd mt G 170 129 (oPutf [2] 10 (.array .int) 132) := w_putfF (hm := mm170) dX2_init_129 (pfk1 (k := 10) (T := TX2) 1 (Nat.le_of_ble_eq_true rfl) vc_1 (Nat.le_of_ble_eq_true rfl) rfl rfl pd_X2_10 rfl q562)
theorem n170_132 : Snd mt G 170 132 (oAload 0 133) := w_aload_n (hm := mm170) dX2_init_132
theorem n170_133 : Snd mt G 170 133 (oConst (.int 12) 135) := w_bipush (hm := mm170) dX2_init_133 (by decide)
theorem n170_135 : Snd mt G 170 135 (oNewa 100 (.int 0) 137) := w_newa (hm := mm170) (kt := 0) dX2_init_135 (Nat.le_of_ble_eq_true rfl) at_0 rfl (fun C q => nomatch q) (Nat.le_of_ble_eq_true rfl) q619
theorem n170_137 : Snd mt G 170 137 (oPutf [2] 11 (.array .int) 140) := w_putfF (hm := mm170) dX2_init_137 (pfk1 (k := 11) (T := TX2) 1 (Nat.le_of_ble_eq_true rfl) vc_1 (Nat.le_of_ble_eq_true rfl) rfl rfl pd_X2_11 rfl q564)
theorem n170_140 : Snd mt G 170 140 (oAload 0 141) := w_aload_n (hm := mm170) dX2_init_140
theorem n170_141 : Snd mt G 170 141 (oConst (.int 1) 142) := w_iconst (hm := mm170) dX2_init_141 rfl
theorem n170_142 : Snd mt G 170 142 (oPutf [2] 18 .int 145) := w_putf (hm := mm170) dX2_init_142 (pok1 (k := 18) (T := TX2) 1 (Nat.le_of_ble_eq_true rfl) vc_1 (Nat.le_of_ble_eq_true rfl) rfl pd_X2_18 q578)
theorem n170_145 : Snd mt G 170 145 (oRetV) := w_vret (hm := mm170) dX2_init_145 rfl
theorem sj170 : ∀ pc, Snd mt G 170 pc (j170 pc) := fun pc => (snd_br ((snd_br ((snd_br ((snd_br ((snd_br ((snd_br ((snd_br ((snd_lf n170_145)) ((snd_lf n170_142)))) ((snd_lf n170_141)))) ((snd_br ((snd_lf n170_140)) ((snd_lf n170_137)))))) ((snd_br ((snd_br ((snd_br ((snd_lf n170_135)) ((snd_lf n170_133)))) ((snd_lf n170_132)))) ((snd_br ((snd_lf n170_129)) ((snd_lf n170_127)))))))) ((snd_br ((snd_br ((snd_br ((snd_br ((snd_lf n170_125)) ((snd_lf n170_124)))) ((snd_lf n170_121)))) ((snd_br ((snd_lf n170_118)) ((snd_lf n170_117)))))) ((snd_br ((snd_br ((snd_lf n170_116)) ((snd_lf n170_113)))) ((snd_br ((snd_lf n170_112)) ((snd_lf n170_109)))))))))) ((snd_br ((snd_br ((snd_br ((snd_br ((snd_br ((snd_lf n170_106)) ((snd_lf n170_105)))) ((snd_lf n170_104)))) ((snd_br ((snd_lf n170_101)) ((snd_lf n170_100)))))) ((snd_br ((snd_br ((snd_lf n170_97)) ((snd_lf n170_94)))) ((snd_br ((snd_lf n170_93)) ((snd_lf n170_92)))))))) ((snd_br ((snd_br ((snd_br ((snd_br ((snd_lf n170_89)) ((snd_lf n170_88)))) ((snd_lf n170_85)))) ((snd_br ((snd_lf n170_82)) ((snd_lf n170_81)))))) ((snd_br ((snd_br ((snd_lf n170_80)) ((snd_lf n170_77)))) ((snd_br ((snd_lf n170_76)) ((snd_lf n170_73)))))))))))) ((snd_br ((snd_br ((snd_br ((snd_br ((snd_br ((snd_br ((snd_lf n170_70)) ((snd_lf n170_69)))) ((snd_lf n170_68)))) ((snd_br ((snd_lf n170_65)) ((snd_lf n170_64)))))) ((snd_br ((snd_br ((snd_br ((snd_lf n170_61)) ((snd_lf n170_58)))) ((snd_lf n170_57)))) ((snd_br ((snd_lf n170_56)) ((snd_lf n170_53)))))))) ((snd_br ((snd_br ((snd_br ((snd_br ((snd_lf n170_52)) ((snd_lf n170_49)))) ((snd_lf n170_46)))) ((snd_br ((snd_lf n170_45)) ((snd_lf n170_44)))))) ((snd_br ((snd_br ((snd_lf n170_41)) ((snd_lf n170_40)))) ((snd_br ((snd_lf n170_37)) ((snd_lf n170_34)))))))))) ((snd_br ((snd_br ((snd_br ((snd_br ((snd_br ((snd_lf n170_33)) ((snd_lf n170_32)))) ((snd_lf n170_29)))) ((snd_br ((snd_lf n170_28)) ((snd_lf n170_25)))))) ((snd_br ((snd_br ((snd_lf n170_22)) ((snd_lf n170_21)))) ((snd_br ((snd_lf n170_20)) ((snd_lf n170_17)))))))) ((snd_br ((snd_br ((snd_br ((snd_br ((snd_lf n170_16)) ((snd_lf n170_13)))) ((snd_lf n170_10)))) ((snd_br ((snd_lf n170_9)) ((snd_lf n170_8)))))) ((snd_br ((snd_br ((snd_lf n170_5)) ((snd_lf n170_4)))) ((snd_br ((snd_lf n170_1)) ((snd_lf n170_0)))))))))))))
end
section
variable {G : AG}
theorem n171_0 : Snd mt G 171 0 (oNew 2 19 nfX2 3) := w_new (hm := mm171) (ci := 1) (T9 := TX2) (ty := tyX2) dX2_like_0 (Nat.le_of_ble_eq_true rfl) vc_1 tyX2_ok (fun _ _ => rfl) q979 q192 q130
theorem n171_3 : Snd mt G 171 3 (oDup 4) := w_dup (hm := mm171) dX2_like_3
theorem n171_4 : Snd mt G 171 4 (oCall 1 (fI 170 1) 0 7 xOut) := s_callI (m' := 170) (n := 0) xsh_out (w_xok0 mm171) (w_cal mm171 mm170 pn_X2 (Nat.le_of_ble_eq_true rfl) (Nat.le_of_ble_eq_true rfl)) (fun h b as hn => w_run_I mm171 mm170 dX2_like_4 rfl rfl q980 q194 q130 q195 pa170 hn)
theorem n171_7 : Snd mt G 171 7 (oAstore 1 8) := w_astore_n (hm := mm171) dX2_like_7 (Nat.le_of_ble_eq_true rfl)
theorem n171_8 : Snd mt G 171 8 (oConst (.int 0) 9) := w_iconst (hm := mm171) dX2_like_8 rfl
theorem n171_9 : Snd mt G 171 9 (oIstore 2 10) := w_istore_n (hm := mm171) dX2_like_9 (Nat.le_of_ble_eq_true rfl)
theorem n171_10 : Snd mt G 171 10 (oIload 2 11) := w_iload_n (hm := mm171) dX2_like_10
theorem n171_11 : Snd mt G 171 11 (oAload 0 12) := w_aload_n (hm := mm171) dX2_like_11
theorem n171_12 : Snd mt G 171 12 (oGetf [2] 0 15) := w_getf (hm := mm171) dX2_like_12 (fok1 (k := 0) (T := TX2) 1 (Nat.le_of_ble_eq_true rfl) vc_1 (Nat.le_of_ble_eq_true rfl) q542)
theorem n171_15 : Snd mt G 171 15 (oCall 1 (fV [3] 175 1) 0 18 xOut) := s_callV (m' := 175) (n := 0) xsh_out (w_xok0 mm171) (w_cal mm171 mm175 pn_J2 (Nat.le_of_ble_eq_true rfl) (Nat.le_of_ble_eq_true rfl)) (fun h b as hc hn => w_run_V (ci := 2) mm171 mm175 dX2_like_15 (Or.inl (List.mem_singleton.mp hc)) (Nat.le_of_ble_eq_true rfl) vc_2 rfl q981 q710 q711 q133 q712 pa175 hn)
theorem n171_18 : Snd mt G 171 18 (oCmpGe 46 21) := w_icmp_ge (hm := mm171) dX2_like_18 rfl
theorem n171_21 : Snd mt G 171 21 (oAload 1 22) := w_aload_n (hm := mm171) dX2_like_21
theorem n171_22 : Snd mt G 171 22 (oGetf [2] 0 25) := w_getf (hm := mm171) dX2_like_22 (fok1 (k := 0) (T := TX2) 1 (Nat.le_of_ble_eq_true rfl) vc_1 (Nat.le_of_ble_eq_true rfl) q542)
theorem n171_25 : Snd mt G 171 25 (oAload 0 26) := w_aload_n (hm := mm171) dX2_like_25
theorem n171_26 : Snd mt G 171 26 (oGetf [2] 0 29) := w_getf (hm := mm171) dX2_like_26 (fok1 (k := 0) (T := TX2) 1 (Nat.le_of_ble_eq_true rfl) vc_1 (Nat.le_of_ble_eq_true rfl) q542)
theorem n171_29 : Snd mt G 171 29 (oIload 2 30) := w_iload_n (hm := mm171) dX2_like_29
theorem n171_30 : Snd mt G 171 30 (oCall 2 (fV [3] 176 2) 0 33 xOut) := s_callV (m' := 176) (n := 1) xsh_out (w_xok0 mm171) (w_cal mm171 mm176 pn_J2 (Nat.le_of_ble_eq_true rfl) (Nat.le_of_ble_eq_true rfl)) (fun h b as hc hn => w_run_V (ci := 2) mm171 mm176 dX2_like_30 (Or.inl (List.mem_singleton.mp hc)) (Nat.le_of_ble_eq_true rfl) vc_2 rfl q982 q714 q715 q133 q716 pa176 hn)
theorem n171_33 : Snd mt G 171 33 (oCast [18] 36) := w_cast (hm := mm171) dX2_like_33 q983 (List.forall_mem_cons.mpr ⟨⟨17, _, Or.inl rfl, (Nat.le_of_ble_eq_true rfl), vc_17, Or.inl rfl⟩, (fun t ht => nomatch ht)⟩)
theorem n171_36 : Snd mt G 171 36 (oCall 2 (fV [3] 179 2) 0 39 xOut) := s_callV (m' := 179) (n := 1) xsh_out (w_xok0 mm171) (w_cal mm171 mm179 pn_J2 (Nat.le_of_ble_eq_true rfl) (Nat.le_of_ble_eq_true rfl)) (fun h b as hc hn => w_run_V (ci := 2) mm171 mm179 dX2_like_36 (Or.inl (List.mem_singleton.mp hc)) (Nat.le_of_ble_eq_true rfl) vc_2 rfl q984 q985 q986 q133 q987 pa179 hn)
theorem n171_39 : Snd mt G 171 39 (oPop 40) := w_pop (hm := mm171) dX2_like_39
theorem n171_40 : Snd mt G 171 40 (oIinc 2 1 43) := w_iinc (hm := mm171) dX2_like_40 rfl (Nat.le_of_ble_eq_true rfl)
theorem n171_43 : Snd mt G 171 43 (oGoto 10) := w_goto (hm := mm171) dX2_like_43 rfl
theorem n171_46 : Snd mt G 171 46 (oConst (.int 0) 47) := w_iconst (hm := mm171) dX2_like_46 rfl
theorem n171_47 : Snd mt G 171 47 (oIstore 2 48) := w_istore_n (hm := mm171) dX2_like_47 (Nat.le_of_ble_eq_true rfl)
theorem n171_48 : Snd mt G 171 48 (oIload 2 49) := w_iload_n (hm := mm171) dX2_like_48
theorem n171_49 : Snd mt G 171 49 (oAload 0 50) := w_aload_n (hm := mm171) dX2_like_49
theorem n171_50 : Snd mt G 171 50 (oGetf [2] 1 53) := w_getf (hm := mm171) dX2_like_50 (fok1 (k := 1) (T := TX2) 1 (Nat.le_of_ble_eq_true rfl) vc_1 (Nat.le_of_ble_eq_true rfl) q544)
theorem n171_53 : Snd mt G 171 53 (oCall 1 (fV [3] 175 1) 0 56 xOut) := s_callV (m' := 175) (n := 0) xsh_out (w_xok0 mm171) (w_cal mm171 mm175 pn_J2 (Nat.le_of_ble_eq_true rfl) (Nat.le_of_ble_eq_true rfl)) (fun h b as hc hn => w_run_V (ci := 2) mm171 mm175 dX2_like_53 (Or.inl (List.mem_singleton.mp hc)) (Nat.le_of_ble_eq_true rfl) vc_2 rfl q981 q710 q711 q133 q712 pa175 hn)
theorem n171_56 : Snd mt G 171 56 (oCmpGe 87 59) := w_icmp_ge (hm := mm171) dX2_like_56 rfl
theorem n171_59 : Snd mt G 171 59 (oAload 1 60) := w_aload_n (hm := mm171) dX2_like_59
theorem n171_60 : Snd mt G 171 60 (oGetf [2] 1 63) := w_getf (hm := mm171) dX2_like_60 (fok1 (k := 1) (T := TX2) 1 (Nat.le_of_ble_eq_true rfl) vc_1 (Nat.le_of_ble_eq_true rfl) q544)
theorem n171_63 : Snd mt G 171 63 (oAload 0 64) := w_aload_n (hm := mm171) dX2_like_63
theorem n171_64 : Snd mt G 171 64 (oGetf [2] 1 67) := w_getf (hm := mm171) dX2_like_64 (fok1 (k := 1) (T := TX2) 1 (Nat.le_of_ble_eq_true rfl) vc_1 (Nat.le_of_ble_eq_true rfl) q544)
theorem n171_67 : Snd mt G 171 67 (oIload 2 68) := w_iload_n (hm := mm171) dX2_like_67
theorem n171_68 : Snd mt G 171 68 (oCall 2 (fV [3] 176 2) 0 71 xOut) := s_callV (m' := 176) (n := 1) xsh_out (w_xok0 mm171) (w_cal mm171 mm176 pn_J2 (Nat.le_of_ble_eq_true rfl) (Nat.le_of_ble_eq_true rfl)) (fun h b as hc hn => w_run_V (ci := 2) mm171 mm176 dX2_like_68 (Or.inl (List.mem_singleton.mp hc)) (Nat.le_of_ble_eq_true rfl) vc_2 rfl q982 q714 q715 q133 q716 pa176 hn)
theorem n171_71 : Snd mt G 171 71 (oCast [19] 74) := w_cast (hm := mm171) dX2_like_71 q1053 (List.forall_mem_cons.mpr ⟨⟨18, _, Or.inl rfl, (Nat.le_of_ble_eq_true rfl), vc_18, Or.inl rfl⟩, (fun t ht => nomatch ht)⟩)
theorem n171_74 : Snd mt G 171 74 (oCall 1 (fV [19] 479 3) 0 77 xOut) := s_callV (m' := 479) (n := 0) xsh_out (w_xok0 mm171) (w_cal mm171 mm479 pn_X20 (Nat.le_of_ble_eq_true rfl) (Nat.le_of_ble_eq_true rfl)) (fun h b as hc hn => w_run_V (ci := 18) mm171 mm479 dX2_like_74 (Or.inl (List.mem_singleton.mp hc)) (Nat.le_of_ble_eq_true rfl) vc_18 rfl q1054 q1055 q1056 q169 q1057 pa479 hn)
theorem n171_77 : Snd mt G 171 77 (oCall 2 (fV [3] 179 2) 0 80 xOut) := s_callV (m' := 179) (n := 1) xsh_out (w_xok0 mm171) (w_cal mm171 mm179 pn_J2 (Nat.le_of_ble_eq_true rfl) (Nat.le_of_ble_eq_true rfl)) (fun h b as hc hn => w_run_V (ci := 2) mm171 mm179 dX2_like_77 (Or.inl (List.mem_singleton.mp hc)) (Nat.le_of_ble_eq_true rfl) vc_2 rfl q984 q985 q986 q133 q987 pa179 hn)
theorem n171_80 : Snd mt G 171 80 (oPop 81) := w_pop (hm := mm171) dX2_like_80
theorem n171_81 : Snd mt G 171 81 (oIinc 2 1 84) := w_iinc (hm := mm171) dX2_like_81 rfl (Nat.le_of_ble_eq_true rfl)
theorem n171_84 : Snd mt G 171 84 (oGoto 48) := w_goto (hm := mm171) dX2_like_84 rfl
theorem n171_87 : Snd mt G 171 87 (oConst (.int 0) 88) := w_iconst (hm := mm171) dX2_like_87 rfl
theorem n171_88 : Snd mt G 171 88 (oIstore 2 89) := w_istore_n (hm := mm171) dX2_like_88 (Nat.le_of_ble_eq_true rfl)
theorem n171_89 : Snd mt G 171 89 (oIload 2 90) := w_iload_n (hm := mm171) dX2_like_89
theorem n171_90 : Snd mt G 171 90 (oAload 0 91) := w_aload_n (hm := mm171) dX2_like_90
theorem n171_91 : Snd mt G 171 91 (oGetf [2] 2 94) := w_getf (hm := mm171) dX2_like_91 (fok1 (k := 2) (T := TX2) 1 (Nat.le_of_ble_eq_true rfl) vc_1 (Nat.le_of_ble_eq_true rfl) q546)
theorem n171_94 : Snd mt G 171 94 (oCall 1 (fV [3] 175 1) 0 97 xOut) := s_callV (m' := 175) (n := 0) xsh_out (w_xok0 mm171) (w_cal mm171 mm175 pn_J2 (Nat.le_of_ble_eq_true rfl) (Nat.le_of_ble_eq_true rfl)) (fun h b as hc hn => w_run_V (ci := 2) mm171 mm175 dX2_like_94 (Or.inl (List.mem_singleton.mp hc)) (Nat.le_of_ble_eq_true rfl) vc_2 rfl q981 q710 q711 q133 q712 pa175 hn)
theorem n171_97 : Snd mt G 171 97 (oCmpGe 125 100) := w_icmp_ge (hm := mm171) dX2_like_97 rfl
theorem n171_100 : Snd mt G 171 100 (oAload 1 101) := w_aload_n (hm := mm171) dX2_like_100
theorem n171_101 : Snd mt G 171 101 (oGetf [2] 2 104) := w_getf (hm := mm171) dX2_like_101 (fok1 (k := 2) (T := TX2) 1 (Nat.le_of_ble_eq_true rfl) vc_1 (Nat.le_of_ble_eq_true rfl) q546)
theorem n171_104 : Snd mt G 171 104 (oAload 0 105) := w_aload_n (hm := mm171) dX2_like_104
theorem n171_105 : Snd mt G 171 105 (oGetf [2] 2 108) := w_getf (hm := mm171) dX2_like_105 (fok1 (k := 2) (T := TX2) 1 (Nat.le_of_ble_eq_true rfl) vc_1 (Nat.le_of_ble_eq_true rfl) q546)
theorem n171_108 : Snd mt G 171 108 (oIload 2 109) := w_iload_n (hm := mm171) dX2_like_108
theorem n171_109 : Snd mt G 171 109 (oCall 2 (fV [3] 176 2) 0 112 xOut) := s_callV (m' := 176) (n := 1) xsh_out (w_xok0 mm171) (w_cal mm171 mm176 pn_J2 (Nat.le_of_ble_eq_true rfl) (Nat.le_of_ble_eq_true rfl)) (fun h b as hc hn => w_run_V (ci := 2) mm171 mm176 dX2_like_109 (Or.inl (List.mem_singleton.mp hc)) (Nat.le_of_ble_eq_true rfl) vc_2 rfl q982 q714 q715 q133 q716 pa176 hn)
theorem n171_112 : Snd mt G 171 112 (oCast [22] 115) := w_cast (hm := mm171) dX2_like_112 q1116 (List.forall_mem_cons.mpr ⟨⟨21, _, Or.inl rfl, (Nat.le_of_ble_eq_true rfl), vc_21, Or.inl rfl⟩, (fun t ht => nomatch ht)⟩)
theorem n171_115 : Snd mt G 171 115 (oCall 2 (fV [3] 179 2) 0 118 xOut) := s_callV (m' := 179) (n := 1) xsh_out (w_xok0 mm171) (w_cal mm171 mm179 pn_J2 (Nat.le_of_ble_eq_true rfl) (Nat.le_of_ble_eq_true rfl)) (fun h b as hc hn => w_run_V (ci := 2) mm171 mm179 dX2_like_115 (Or.inl (List.mem_singleton.mp hc)) (Nat.le_of_ble_eq_true rfl) vc_2 rfl q984 q985 q986 q133 q987 pa179 hn)
theorem n171_118 : Snd mt G 171 118 (oPop 119) := w_pop (hm := mm171) dX2_like_118
theorem n171_119 : Snd mt G 171 119 (oIinc 2 1 122) := w_iinc (hm := mm171) dX2_like_119 rfl (Nat.le_of_ble_eq_true rfl)
theorem n171_122 : Snd mt G 171 122 (oGoto 89) := w_goto (hm := mm171) dX2_like_122 rfl
theorem n171_125 : Snd mt G 171 125 (oConst (.int 0) 126) := w_iconst (hm := mm171) dX2_like_125 rfl
theorem n171_126 : Snd mt G 171 126 (oIstore 2 127) := w_istore_n (hm := mm171) dX2_like_126 (Nat.le_of_ble_eq_true rfl)
theorem n171_127 : Snd mt G 171 127 (oIload 2 128) := w_iload_n (hm := mm171) dX2_like_127
theorem n171_128 : Snd mt G 171 128 (oAload 0 129) := w_aload_n (hm := mm171) dX2_like_128
theorem n171_129 : Snd mt G 171 129 (oGetf [2] 3 132) := w_getf (hm := mm171) dX2_like_129 (fok1 (k := 3) (T := TX2) 1 (Nat.le_of_ble_eq_true rfl) vc_1 (Nat.le_of_ble_eq_true rfl) q548)
theorem n171_132 : Snd mt G 171 132 (oCall 1 (fV [3] 175 1) 0 135 xOut) := s_callV (m' := 175) (n := 0) xsh_out (w_xok0 mm171) (w_cal mm171 mm175 pn_J2 (Nat.le_of_ble_eq_true rfl) (Nat.le_of_ble_eq_true rfl)) (fun h b as hc hn => w_run_V (ci := 2) mm171 mm175 dX2_like_132 (Or.inl (List.mem_singleton.mp hc)) (Nat.le_of_ble_eq_true rfl) vc_2 rfl q981 q710 q711 q133 q712 pa175 hn)
theorem n171_135 : Snd mt G 171 135 (oCmpGe 163 138) := w_icmp_ge (hm := mm171) dX2_like_135 rfl
theorem n171_138 : Snd mt G 171 138 (oAload 1 139) := w_aload_n (hm := mm171) dX2_like_138
theorem n171_139 : Snd mt G 171 139 (oGetf [2] 3 142) := w_getf (hm := mm171) dX2_like_139 (fok1 (k := 3) (T := TX2) 1 (Nat.le_of_ble_eq_true rfl) vc_1 (Nat.le_of_ble_eq_true rfl) q548)
theorem n171_142 : Snd mt G 171 142 (oAload 0 143) := w_aload_n (hm := mm171) dX2_like_142
theorem n171_143 : Snd mt G 171 143 (oGetf [2] 3 146) := w_getf (hm := mm171) dX2_like_143 (fok1 (k := 3) (T := TX2) 1 (Nat.le_of_ble_eq_true rfl) vc_1 (Nat.le_of_ble_eq_true rfl) q548)
theorem n171_146 : Snd mt G 171 146 (oIload 2 147) := w_iload_n (hm := mm171) dX2_like_146
theorem n171_147 : Snd mt G 171 147 (oCall 2 (fV [3] 176 2) 0 150 xOut) := s_callV (m' := 176) (n := 1) xsh_out (w_xok0 mm171) (w_cal mm171 mm176 pn_J2 (Nat.le_of_ble_eq_true rfl) (Nat.le_of_ble_eq_true rfl)) (fun h b as hc hn => w_run_V (ci := 2) mm171 mm176 dX2_like_147 (Or.inl (List.mem_singleton.mp hc)) (Nat.le_of_ble_eq_true rfl) vc_2 rfl q982 q714 q715 q133 q716 pa176 hn)
theorem n171_150 : Snd mt G 171 150 (oCast [28] 153) := w_cast (hm := mm171) dX2_like_150 q1117 (List.forall_mem_cons.mpr ⟨⟨27, _, Or.inl rfl, (Nat.le_of_ble_eq_true rfl), vc_27, Or.inl rfl⟩, (fun t ht => nomatch ht)⟩)
theorem n171_153 : Snd mt G 171 153 (oCall 2 (fV [3] 179 2) 0 156 xOut) := s_callV (m' := 179) (n := 1) xsh_out (w_xok0 mm171) (w_cal mm171 mm179 pn_J2 (Nat.le_of_ble_eq_true rfl) (Nat.le_of_ble_eq_true rfl)) (fun h b as hc hn => w_run_V (ci := 2) mm171 mm179 dX2_like_153 (Or.inl (List.mem_singleton.mp hc)) (Nat.le_of_ble_eq_true rfl) vc_2 rfl q984 q985 q986 q133 q987 pa179 hn)
theorem n171_156 : Snd mt G 171 156 (oPop 157) := w_pop (hm := mm171) dX2_like_156
theorem n171_157 : Snd mt G 171 157 (oIinc 2 1 160) := w_iinc (hm := mm171) dX2_like_157 rfl (Nat.le_of_ble_eq_true rfl)
theorem n171_160 : Snd mt G 171 160 (oGoto 127) := w_goto (hm := mm171) dX2_like_160 rfl
theorem n171_163 : Snd mt G 171 163 (oConst (.int 0) 164) := w_iconst (hm := mm171) dX2_like_163 rfl
theorem n171_164 : Snd mt G 171 164 (oIstore 2 165) := w_istore_n (hm := mm171) dX2_like_164 (Nat.le_of_ble_eq_true rfl)
theorem n171_165 : Snd mt G 171 165 (oIload 2 166) := w_iload_n (hm := mm171) dX2_like_165
theorem n171_166 : Snd mt G 171 166 (oAload 0 167) := w_aload_n (hm := mm171) dX2_like_166
theorem n171_167 : Snd mt G 171 167 (oGetf [2] 4 170) := w_getf (hm := mm171) dX2_like_167 (fok1 (k := 4) (T := TX2) 1 (Nat.le_of_ble_eq_true rfl) vc_1 (Nat.le_of_ble_eq_true rfl) q550)
theorem n171_170 : Snd mt G 171 170 (oCall 1 (fV [3] 175 1) 0 173 xOut) := s_callV (m' := 175) (n := 0) xsh_out (w_xok0 mm171) (w_cal mm171 mm175 pn_J2 (Nat.le_of_ble_eq_true rfl) (Nat.le_of_ble_eq_true rfl)) (fun h b as hc hn => w_run_V (ci := 2) mm171 mm175 dX2_like_170 (Or.inl (List.mem_singleton.mp hc)) (Nat.le_of_ble_eq_true rfl) vc_2 rfl q981 q710 q711 q133 q712 pa175 hn)
theorem n171_173 : Snd mt G 171 173 (oCmpGe 201 176) := w_icmp_ge (hm := mm171) dX2_like_173 rfl
theorem n171_176 : Snd mt G 171 176 (oAload 1 177) := w_aload_n (hm := mm171) dX2_like_176
theorem n171_177 : Snd mt G 171 177 (oGetf [2] 4 180) := w_getf (hm := mm171) dX2_like_177 (fok1 (k := 4) (T := TX2) 1 (Nat.le_of_ble_eq_true rfl) vc_1 (Nat.le_of_ble_eq_true rfl) q550)
theorem n171_180 : Snd mt G 171 180 (oAload 0 181) := w_aload_n (hm := mm171) dX2_like_180
theorem n171_181 : Snd mt G 171 181 (oGetf [2] 4 184) := w_getf (hm := mm171) dX2_like_181 (fok1 (k := 4) (T := TX2) 1 (Nat.le_of_ble_eq_true rfl) vc_1 (Nat.le_of_ble_eq_true rfl) q550)
theorem n171_184 : Snd mt G 171 184 (oIload 2 185) := w_iload_n (hm := mm171) dX2_like_184
theorem n171_185 : Snd mt G 171 185 (oCall 2 (fV [3] 176 2) 0 188 xOut) := s_callV (m' := 176) (n := 1) xsh_out (w_xok0 mm171) (w_cal mm171 mm176 pn_J2 (Nat.le_of_ble_eq_true rfl) (Nat.le_of_ble_eq_true rfl)) (fun h b as hc hn => w_run_V (ci := 2) mm171 mm176 dX2_like_185 (Or.inl (List.mem_singleton.mp hc)) (Nat.le_of_ble_eq_true rfl) vc_2 rfl q982 q714 q715 q133 q716 pa176 hn)
theorem n171_188 : Snd mt G 171 188 (oCast [27] 191) := w_cast (hm := mm171) dX2_like_188 q1118 (List.forall_mem_cons.mpr ⟨⟨26, _, Or.inl rfl, (Nat.le_of_ble_eq_true rfl), vc_26, Or.inl rfl⟩, (fun t ht => nomatch ht)⟩)
theorem n171_191 : Snd mt G 171 191 (oCall 2 (fV [3] 179 2) 0 194 xOut) := s_callV (m' := 179) (n := 1) xsh_out (w_xok0 mm171) (w_cal mm171 mm179 pn_J2 (Nat.le_of_ble_eq_true rfl) (Nat.le_of_ble_eq_true rfl)) (fun h b as hc hn => w_run_V (ci := 2) mm171 mm179 dX2_like_191 (Or.inl (List.mem_singleton.mp hc)) (Nat.le_of_ble_eq_true rfl) vc_2 rfl q984 q985 q986 q133 q987 pa179 hn)
theorem n171_194 : Snd mt G 171 194 (oPop 195) := w_pop (hm := mm171) dX2_like_194
theorem n171_195 : Snd mt G 171 195 (oIinc 2 1 198) := w_iinc (hm := mm171) dX2_like_195 rfl (Nat.le_of_ble_eq_true rfl)
theorem n171_198 : Snd mt G 171 198 (oGoto 165) := w_goto (hm := mm171) dX2_like_198 rfl
theorem n171_201 : Snd mt G 171 201 (oConst (.int 0) 202) := w_iconst (hm := mm171) dX2_like_201 rfl
theorem n171_202 : Snd mt G 171 202 (oIstore 2 203) := w_istore_n (hm := mm171) dX2_like_202 (Nat.le_of_ble_eq_true rfl)
theorem n171_203 : Snd mt G 171 203 (oIload 2 204) := w_iload_n (hm := mm171) dX2_like_203
theorem n171_204 : Snd mt G 171 204 (oAload 0 205) := w_aload_n (hm := mm171) dX2_like_204
theorem n171_205 : Snd mt G 171 205 (oGetf [2] 5 208) := w_getf (hm := mm171) dX2_like_205 (fok1 (k := 5) (T := TX2) 1 (Nat.le_of_ble_eq_true rfl) vc_1 (Nat.le_of_ble_eq_true rfl) q552)
theorem n171_208 : Snd mt G 171 208 (oCall 1 (fV [3] 175 1) 0 211 xOut) := s_callV (m' := 175) (n := 0) xsh_out (w_xok0 mm171) (w_cal mm171 mm175 pn_J2 (Nat.le_of_ble_eq_true rfl) (Nat.le_of_ble_eq_true rfl)) (fun h b as hc hn => w_run_V (ci := 2) mm171 mm175 dX2_like_208 (Or.inl (List.mem_singleton.mp hc)) (Nat.le_of_ble_eq_true rfl) vc_2 rfl q981 q710 q711 q133 q712 pa175 hn)
theorem n171_211 : Snd mt G 171 211 (oCmpGe 239 214) := w_icmp_ge (hm := mm171) dX2_like_211 rfl
theorem n171_214 : Snd mt G 171 214 (oAload 1 215) := w_aload_n (hm := mm171) dX2_like_214
theorem n171_215 : Snd mt G 171 215 (oGetf [2] 5 218) := w_getf (hm := mm171) dX2_like_215 (fok1 (k := 5) (T := TX2) 1 (Nat.le_of_ble_eq_true rfl) vc_1 (Nat.le_of_ble_eq_true rfl) q552)
theorem n171_218 : Snd mt G 171 218 (oAload 0 219) := w_aload_n (hm := mm171) dX2_like_218
theorem n171_219 : Snd mt G 171 219 (oGetf [2] 5 222) := w_getf (hm := mm171) dX2_like_219 (fok1 (k := 5) (T := TX2) 1 (Nat.le_of_ble_eq_true rfl) vc_1 (Nat.le_of_ble_eq_true rfl) q552)
theorem n171_222 : Snd mt G 171 222 (oIload 2 223) := w_iload_n (hm := mm171) dX2_like_222
theorem n171_223 : Snd mt G 171 223 (oCall 2 (fV [3] 176 2) 0 226 xOut) := s_callV (m' := 176) (n := 1) xsh_out (w_xok0 mm171) (w_cal mm171 mm176 pn_J2 (Nat.le_of_ble_eq_true rfl) (Nat.le_of_ble_eq_true rfl)) (fun h b as hc hn => w_run_V (ci := 2) mm171 mm176 dX2_like_223 (Or.inl (List.mem_singleton.mp hc)) (Nat.le_of_ble_eq_true rfl) vc_2 rfl q982 q714 q715 q133 q716 pa176 hn)
theorem n171_226 : Snd mt G 171 226 (oCast [21] 229) := w_cast (hm := mm171) dX2_like_226 q1119 (List.forall_mem_cons.mpr ⟨⟨20, _, Or.inl rfl, (Nat.le_of_ble_eq_true rfl), vc_20, Or.inl rfl⟩, (fun t ht => nomatch ht)⟩)
theorem n171_229 : Snd mt G 171 229 (oCall 2 (fV [3] 179 2) 0 232 xOut) := s_callV (m' := 179) (n := 1) xsh_out (w_xok0 mm171) (w_cal mm171 mm179 pn_J2 (Nat.le_of_ble_eq_true rfl) (Nat.le_of_ble_eq_true rfl)) (fun h b as hc hn => w_run_V (ci := 2) mm171 mm179 dX2_like_229 (Or.inl (List.mem_singleton.mp hc)) (Nat.le_of_ble_eq_true rfl) vc_2 rfl q984 q985 q986 q133 q987 pa179 hn)
theorem n171_232 : Snd mt G 171 232 (oPop 233) := w_pop (hm := mm171) dX2_like_232
theorem n171_233 : Snd mt G 171 233 (oIinc 2 1 236) := w_iinc (hm := mm171) dX2_like_233 rfl (Nat.le_of_ble_eq_true rfl)
theorem n171_236 : Snd mt G 171 236 (oGoto 203) := w_goto (hm := mm171) dX2_like_236 rfl
theorem n171_239 : Snd mt G 171 239 (oConst (.int 0) 240) := w_iconst (hm := mm171) dX2_like_239 rfl
theorem n171_240 : Snd mt G 171 240 (oIstore 2 241) := w_istore_n (hm := mm171) dX2_like_240 (Nat.le_of_ble_eq_true rfl)
theorem n171_241 : Snd mt G 171 241 (oIload 2 242) := w_iload_n (hm := mm171) dX2_like_241
theorem n171_242 : Snd mt G 171 242 (oAload 0 243) := w_aload_n (hm := mm171) dX2_like_242
theorem n171_243 : Snd mt G 171 243 (oGetf [2] 6 246) := w_getf (hm := mm171) dX2_like_243 (fok1 (k := 6) (T := TX2) 1 (Nat.le_of_ble_eq_true rfl) vc_1 (Nat.le_of_ble_eq_true rfl) q554)
theorem n171_246 : Snd mt G 171 246 (oCall 1 (fV [3] 175 1) 0 249 xOut) := s_callV (m' := 175) (n := 0) xsh_out (w_xok0 mm171) (w_cal mm171 mm175 pn_J2 (Nat.le_of_ble_eq_true rfl) (Nat.le_of_ble_eq_true rfl)) (fun h b as hc hn => w_run_V (ci := 2) mm171 mm175 dX2_like_246 (Or.inl (List.mem_singleton.mp hc)) (Nat.le_of_ble_eq_true rfl) vc_2 rfl q981 q710 q711 q133 q712 pa175 hn)
theorem n171_249 : Snd mt G 171 249 (oCmpGe 280 252) := w_icmp_ge (hm := mm171) dX2_like_249 rfl
theorem n171_252 : Snd mt G 171 252 (oAload 1 253) := w_aload_n (hm := mm171) dX2_like_252
theorem n171_253 : Snd mt G 171 253 (oGetf [2] 6 256) := w_getf (hm := mm171) dX2_like_253 (fok1 (k := 6) (T := TX2) 1 (Nat.le_of_ble_eq_true rfl) vc_1 (Nat.le_of_ble_eq_true rfl) q554)
theorem n171_256 : Snd mt G 171 256 (oAload 0 257) := w_aload_n (hm := mm171) dX2_like_256
theorem n171_257 : Snd mt G 171 257 (oGetf [2] 6 260) := w_getf (hm := mm171) dX2_like_257 (fok1 (k := 6) (T := TX2) 1 (Nat.le_of_ble_eq_true rfl) vc_1 (Nat.le_of_ble_eq_true rfl) q554)
theorem n171_260 : Snd mt G 171 260 (oIload 2 261) := w_iload_n (hm := mm171) dX2_like_260
theorem n171_261 : Snd mt G 171 261 (oCall 2 (fV [3] 176 2) 0 264 xOut) := s_callV (m' := 176) (n := 1) xsh_out (w_xok0 mm171) (w_cal mm171 mm176 pn_J2 (Nat.le_of_ble_eq_true rfl) (Nat.le_of_ble_eq_true rfl)) (fun h b as hc hn => w_run_V (ci := 2) mm171 mm176 dX2_like_261 (Or.inl (List.mem_singleton.mp hc)) (Nat.le_of_ble_eq_true rfl) vc_2 rfl q982 q714 q715 q133 q716 pa176 hn)
theorem n171_264 : Snd mt G 171 264 (oCast [23] 267) := w_cast (hm := mm171) dX2_like_264 q1120 (List.forall_mem_cons.mpr ⟨⟨22, _, Or.inl rfl, (Nat.le_of_ble_eq_true rfl), vc_22, Or.inl rfl⟩, (fun t ht => nomatch ht)⟩)
theorem n171_267 : Snd mt G 171 267 (oCall 1 (fV [23] 489 2) 0 270 xOut) := s_callV (m' := 489) (n := 0) xsh_out (w_xok0 mm171) (w_cal mm171 mm489 pn_X24 (Nat.le_of_ble_eq_true rfl) (Nat.le_of_ble_eq_true rfl)) (fun h b as hc hn => w_run_V (ci := 22) mm171 mm489 dX2_like_267 (Or.inl (List.mem_singleton.mp hc)) (Nat.le_of_ble_eq_true rfl) vc_22 rfl q1121 q1122 q1123 q176 q1124 pa489 hn)
theorem n171_270 : Snd mt G 171 270 (oCall 2 (fV [3] 179 2) 0 273 xOut) := s_callV (m' := 179) (n := 1) xsh_out (w_xok0 mm171) (w_cal mm171 mm179 pn_J2 (Nat.le_of_ble_eq_true rfl) (Nat.le_of_ble_eq_true rfl)) (fun h b as hc hn => w_run_V (ci := 2) mm171 mm179 dX2_like_270 (Or.inl (List.mem_singleton.mp hc)) (Nat.le_of_ble_eq_true rfl) vc_2 rfl q984 q985 q986 q133 q987 pa179 hn)
theorem n171_273 : Snd mt G 171 273 (oPop 274) := w_pop (hm := mm171) dX2_like_273
theorem n171_274 : Snd mt G 171 274 (oIinc 2 1 277) := w_iinc (hm := mm171) dX2_like_274 rfl (Nat.le_of_ble_eq_true rfl)
theorem n171_277 : Snd mt G 171 277 (oGoto 241) := w_goto (hm := mm171) dX2_like_277 rfl
theorem n171_280 : Snd mt G 171 280 (oConst (.int 0) 281) := w_iconst (hm := mm171) dX2_like_280 rfl
theorem n171_281 : Snd mt G 171 281 (oIstore 2 282) := w_istore_n (hm := mm171) dX2_like_281 (Nat.le_of_ble_eq_true rfl)
theorem n171_282 : Snd mt G 171 282 (oIload 2 283) := w_iload_n (hm := mm171) dX2_like_282
theorem n171_283 : Snd mt G 171 283 (oAload 0 284) := w_aload_n (hm := mm171) dX2_like_283
theorem n171_284 : Snd mt G 171 284 (oGetf [2] 7 287) := w_getf (hm := mm171) dX2_like_284 (fok1 (k := 7) (T := TX2) 1 (Nat.le_of_ble_eq_true rfl) vc_1 (Nat.le_of_ble_eq_true rfl) q556)
theorem n171_287 : Snd mt G 171 287 (oCall 1 (fV [3] 175 1) 0 290 xOut) := s_callV (m' := 175) (n := 0) xsh_out (w_xok0 mm171) (w_cal mm171 mm175 pn_J2 (Nat.le_of_ble_eq_true rfl) (Nat.le_of_ble_eq_true rfl)) (fun h b as hc hn => w_run_V (ci := 2) mm171 mm175 dX2_like_287 (Or.inl (List.mem_singleton.mp hc)) (Nat.le_of_ble_eq_true rfl) vc_2 rfl q981 q710 q711 q133 q712 pa175 hn)
theorem n171_290 : Snd mt G 171 290 (oCmpGe 318 293) := w_icmp_ge (hm := mm171) dX2_like_290 rfl
theorem n171_293 : Snd mt G 171 293 (oAload 1 294) := w_aload_n (hm := mm171) dX2_like_293
theorem n171_294 : Snd mt G 171 294 (oGetf [2] 7 297) := w_getf (hm := mm171) dX2_like_294 (fok1 (k := 7) (T := TX2) 1 (Nat.le_of_ble_eq_true rfl) vc_1 (Nat.le_of_ble_eq_true rfl) q556)
theorem n171_297 : Snd mt G 171 297 (oAload 0 298) := w_aload_n (hm := mm171) dX2_like_297
theorem n171_298 : Snd mt G 171 298 (oGetf [2] 7 301) := w_getf (hm := mm171) dX2_like_298 (fok1 (k := 7) (T := TX2) 1 (Nat.le_of_ble_eq_true rfl) vc_1 (Nat.le_of_ble_eq_true rfl) q556)
theorem n171_301 : Snd mt G 171 301 (oIload 2 302) := w_iload_n (hm := mm171) dX2_like_301
theorem n171_302 : Snd mt G 171 302 (oCall 2 (fV [3] 176 2) 0 305 xOut) := s_callV (m' := 176) (n := 1) xsh_out (w_xok0 mm171) (w_cal mm171 mm176 pn_J2 (Nat.le_of_ble_eq_true rfl) (Nat.le_of_ble_eq_true rfl)) (fun h b as hc hn => w_run_V (ci := 2) mm171 mm176 dX2_like_302 (Or.inl (List.mem_singleton.mp hc)) (Nat.le_of_ble_eq_true rfl) vc_2 rfl q982 q714 q715 q133 q716 pa176 hn)
theorem n171_305 : Snd mt G 171 305 (oCast [24] 308) := w_cast (hm := mm171) dX2_like_305 q1156 (List.forall_mem_cons.mpr ⟨⟨23, _, Or.inl rfl, (Nat.le_of_ble_eq_true rfl), vc_23, Or.inl rfl⟩, (fun t ht => nomatch ht)⟩)
theorem n171_308 : Snd mt G 171 308 (oCall 2 (fV [3] 179 2) 0 311 xOut) := s_callV (m' := 179) (n := 1) xsh_out (w_xok0 mm171) (w_cal mm171 mm179 pn_J2 (Nat.le_of_ble_eq_true rfl) (Nat.le_of_ble_eq_true rfl)) (fun h b as hc hn => w_run_V (ci := 2) mm171 mm179 dX2_like_308 (Or.inl (List.mem_singleton.mp hc)) (Nat.le_of_ble_eq_true rfl) vc_2 rfl q984 q985 q986 q133 q987 pa179 hn)
theorem n171_311 : Snd mt G 171 311 (oPop 312) := w_pop (hm := mm171) dX2_like_311
theorem n171_312 : Snd mt G 171 312 (oIinc 2 1 315) := w_iinc (hm := mm171) dX2_like_312 rfl (Nat.le_of_ble_eq_true rfl)
theorem n171_315 : Snd mt G 171 315 (oGoto 282) := w_goto (hm := mm171) dX2_like_315 rfl
theorem n171_318 : Snd mt G 171 318 (oConst (.int 0) 319) := w_iconst (hm := mm171) dX2_like_318 rfl
theorem n171_319 : Snd mt G 171 319 (oIstore 2 320) := w_istore_n (hm := mm171) dX2_like_319 (Nat.le_of_ble_eq_true rfl)
theorem n171_320 : Snd mt G 171 320 (oIload 2 321) := w_iload_n (hm := mm171) dX2_like_320
theorem n171_321 : Snd mt G 171 321 (oAload 0 322) := w_aload_n (hm := mm171) dX2_like_321
theorem n171_322 : Snd mt G 171 322 (oGetf [2] 8 325) := w_getf (hm := mm171) dX2_like_322 (fok1 (k := 8) (T := TX2) 1 (Nat.le_of_ble_eq_true rfl) vc_1 (Nat.le_of_ble_eq_true rfl) q558)
theorem n171_325 : Snd mt G 171 325 (oCall 1 (fV [3] 175 1) 0 328 xOut) := s_callV (m' := 175) (n := 0) xsh_out (w_xok0 mm171) (w_cal mm171 mm175 pn_J2 (Nat.le_of_ble_eq_true rfl) (Nat.le_of_ble_eq_true rfl)) (fun h b as hc hn => w_run_V (ci := 2) mm171 mm175 dX2_like_325 (Or.inl (List.mem_singleton.mp hc)) (Nat.le_of_ble_eq_true rfl) vc_2 rfl q981 q710 q711 q133 q712 pa175 hn)
theorem n171_328 : Snd mt G 171 328 (oCmpGe 356 331) := w_icmp_ge (hm := mm171) dX2_like_328 rfl
theorem n171_331 : Snd mt G 171 331 (oAload 1 332) := w_aload_n (hm := mm171) dX2_like_331
theorem n171_332 : Snd mt G 171 332 (oGetf [2] 8 335) := w_getf (hm := mm171) dX2_like_332 (fok1 (k := 8) (T := TX2) 1 (Nat.le_of_ble_eq_true rfl) vc_1 (Nat.le_of_ble_eq_true rfl) q558)
theorem n171_335 : Snd mt G 171 335 (oAload 0 336) := w_aload_n (hm := mm171) dX2_like_335
theorem n171_336 : Snd mt G 171 336 (oGetf [2] 8 339) := w_getf (hm := mm171) dX2_like_336 (fok1 (k := 8) (T := TX2) 1 (Nat.le_of_ble_eq_true rfl) vc_1 (Nat.le_of_ble_eq_true rfl) q558)
theorem n171_339 : Snd mt G 171 339 (oIload 2 340) := w_iload_n (hm := mm171) dX2_like_339
theorem n171_340 : Snd mt G 171 340 (oCall 2 (fV [3] 176 2) 0 343 xOut) := s_callV (m' := 176) (n := 1) xsh_out (w_xok0 mm171) (w_cal mm171 mm176 pn_J2 (Nat.le_of_ble_eq_true rfl) (Nat.le_of_ble_eq_true rfl)) (fun h b as hc hn => w_run_V (ci := 2) mm171 mm176 dX2_like_340 (Or.inl (List.mem_singleton.mp hc)) (Nat.le_of_ble_eq_true rfl) vc_2 rfl q982 q714 q715 q133 q716 pa176 hn)
theorem n171_343 : Snd mt G 171 343 (oCast [25] 346) := w_cast (hm := mm171) dX2_like_343 q1157 (List.forall_mem_cons.mpr ⟨⟨24, _, Or.inl rfl, (Nat.le_of_ble_eq_true rfl), vc_24, Or.inl rfl⟩, (fun t ht => nomatch ht)⟩)
theorem n171_346 : Snd mt G 171 346 (oCall 2 (fV [3] 179 2) 0 349 xOut) := s_callV (m' := 179) (n := 1) xsh_out (w_xok0 mm171) (w_cal mm171 mm179 pn_J2 (Nat.le_of_ble_eq_true rfl) (Nat.le_of_ble_eq_true rfl)) (fun h b as hc hn => w_run_V (ci := 2) mm171 mm179 dX2_like_346 (Or.inl (List.mem_singleton.mp hc)) (Nat.le_of_ble_eq_true rfl) vc_2 rfl q984 q985 q986 q133 q987 pa179 hn)
theorem n171_349 : Snd mt G 171 349 (oPop 350) := w_pop (hm := mm171) dX2_like_349
theorem n171_350 : Snd mt G 171 350 (oIinc 2 1 353) := w_iinc (hm := mm171) dX2_like_350 rfl (Nat.le_of_ble_eq_true rfl)
theorem n171_353 : Snd mt G 171 353 (oGoto 320) := w_goto (hm := mm171) dX2_like_353 rfl
theorem n171_356 : Snd mt G 171 356 (oConst (.int 0) 357) := w_iconst (hm := mm171) dX2_like_356 rfl
theorem n171_357 : Snd mt G 171 357 (oIstore 2 358) := w_istore_n (hm := mm171) dX2_like_357 (Nat.le_of_ble_eq_true rfl)
theorem n171_358 : Snd mt G 171 358 (oIload 2 359) := w_iload_n (hm := mm171) dX2_like_358
theorem n171_359 : Snd mt G 171 359 (oAload 0 360) := w_aload_n (hm := mm171) dX2_like_359
theorem n171_360 : Snd mt G 171 360 (oGetf [2] 9 363) := w_getf (hm := mm171) dX2_like_360 (fok1 (k := 9) (T := TX2) 1 (Nat.le_of_ble_eq_true rfl) vc_1 (Nat.le_of_ble_eq_true rfl) q560)
theorem n171_363 : Snd mt G 171 363 (oCall 1 (fV [3] 175 1) 0 366 xOut) := s_callV (m' := 175) (n := 0) xsh_out (w_xok0 mm171) (w_cal mm171 mm175 pn_J2 (Nat.le_of_ble_eq_true rfl) (Nat.le_of_ble_eq_true rfl)) (fun h b as hc hn => w_run_V (ci := 2) mm171 mm175 dX2_like_363 (Or.inl (List.mem_singleton.mp hc)) (Nat.le_of_ble_eq_true rfl) vc_2 rfl q981 q710 q711 q133 q712 pa175 hn)
theorem n171_366 : Snd mt G 171 366 (oCmpGe 394 369) := w_icmp_ge (hm := mm171) dX2_like_366 rfl
theorem n171_369 : Snd mt G 171 369 (oAload 1 370) := w_aload_n (hm := mm171) dX2_like_369
theorem n171_370 : Snd mt G 171 370 (oGetf [2] 9 373) := w_getf (hm := mm171) dX2_like_370 (fok1 (k := 9) (T := TX2) 1 (Nat.le_of_ble_eq_true rfl) vc_1 (Nat.le_of_ble_eq_true rfl) q560)
theorem n171_373 : Snd mt G 171 373 (oAload 0 374) := w_aload_n (hm := mm171) dX2_like_373
theorem n171_374 : Snd mt G 171 374 (oGetf [2] 9 377) := w_getf (hm := mm171) dX2_like_374 (fok1 (k := 9) (T := TX2) 1 (Nat.le_of_ble_eq_true rfl) vc_1 (Nat.le_of_ble_eq_true rfl) q560)
theorem n171_377 : Snd mt G 171 377 (oIload 2 378) := w_iload_n (hm := mm171) dX2_like_377
theorem n171_378 : Snd mt G 171 378 (oCall 2 (fV [3] 176 2) 0 381 xOut) := s_callV (m' := 176) (n := 1) xsh_out (w_xok0 mm171) (w_cal mm171 mm176 pn_J2 (Nat.le_of_ble_eq_true rfl) (Nat.le_of_ble_eq_true rfl)) (fun h b as hc hn => w_run_V (ci := 2) mm171 mm176 dX2_like_378 (Or.inl (List.mem_singleton.mp hc)) (Nat.le_of_ble_eq_true rfl) vc_2 rfl q982 q714 q715 q133 q716 pa176 hn)
theorem n171_381 : Snd mt G 171 381 (oCast [26] 384) := w_cast (hm := mm171) dX2_like_381 q1158 (List.forall_mem_cons.mpr ⟨⟨25, _, Or.inl rfl, (Nat.le_of_ble_eq_true rfl), vc_25, Or.inl rfl⟩, (fun t ht => nomatch ht)⟩)
theorem n171_384 : Snd mt G 171 384 (oCall 2 (fV [3] 179 2) 0 387 xOut) := s_callV (m' := 179) (n := 1) xsh_out (w_xok0 mm171) (w_cal mm171 mm179 pn_J2 (Nat.le_of_ble_eq_true rfl) (Nat.le_of_ble_eq_true rfl)) (fun h b as hc hn => w_run_V (ci := 2) mm171 mm179 dX2_like_384 (Or.inl (List.mem_singleton.mp hc)) (Nat.le_of_ble_eq_true rfl) vc_2 rfl q984 q985 q986 q133 q987 pa179 hn)
theorem n171_387 : Snd mt G 171 387 (oPop 388) := w_pop (hm := mm171) dX2_like_387
theorem n171_388 : Snd mt G 171 388 (oIinc 2 1 391) := w_iinc (hm := mm171) dX2_like_388 rfl (Nat.le_of_ble_eq_true rfl)
theorem n171_391 : Snd mt G 171 391 (oGoto 358) := w_goto (hm := mm171) dX2_like_391 rfl
theorem n171_394 : Snd mt G 171 394 (oAload 0 395) := w_aload_n (hm := mm171) dX2_like_394
theorem n171_395 : Snd mt G 171 395 (oGetf [2] 10 398) := w_getf (hm := mm171) dX2_like_395 (fok1 (k := 10) (T := TX2) 1 (Nat.le_of_ble_eq_true rfl) vc_1 (Nat.le_of_ble_eq_true rfl) q562)
theorem n171_398 : Snd mt G 171 398 (oConst (.int 0) 399) := w_iconst (hm := mm171) dX2_like_398 rfl
theorem n171_399 : Snd mt G 171 399 (oAload 1 400) := w_aload_n (hm := mm171) dX2_like_399
theorem n171_400 : Snd mt G 171 400 (oGetf [2] 10 403) := w_getf (hm := mm171) dX2_like_400 (fok1 (k := 10) (T := TX2) 1 (Nat.le_of_ble_eq_true rfl) vc_1 (Nat.le_of_ble_eq_true rfl) q562)
theorem n171_403 : Snd mt G 171 403 (oConst (.int 0) 404) := w_iconst (hm := mm171) dX2_like_403 rfl
theorem n171_404 : Snd mt G 171 404 (oConst (.int 6) 406) := w_bipush (hm := mm171) dX2_like_404 (by decide)
theorem n171_406 : Snd mt G 171 406 (oCopy [100] [100] (ckTy .int) 409) := w_copy (hm := mm171) (kt := 0) dX2_like_406 (Nat.le_of_ble_eq_true rfl) at_0 (List.forall_mem_cons.mpr ⟨Or.inl rfl, (fun t ht => nomatch ht)⟩) (List.forall_mem_cons.mpr ⟨rfl, (fun t ht => nomatch ht)⟩) (fun s h H v _ _ e => ck_int s h H .int v e) (Nat.le_of_ble_eq_true rfl) q1159 q335 q334 q145
theorem n171_409 : Snd mt G 171 409 (oAload 0 410) := w_aload_n (hm := mm171) dX2_like_409
theorem n171_410 : Snd mt G 171 410 (oGetf [2] 11 413) := w_getf (hm := mm171) dX2_like_410 (fok1 (k := 11) (T := TX2) 1 (Nat.le_of_ble_eq_true rfl) vc_1 (Nat.le_of_ble_eq_true rfl) q564)
theorem n171_413 : Snd mt G 171 413 (oConst (.int 0) 414) := w_iconst (hm := mm171) dX2_like_413 rfl
theorem n171_414 : Snd mt G 171 414 (oAload 1 415) := w_aload_n (hm := mm171) dX2_like_414
theorem n171_415 : Snd mt G 171 415 (oGetf [2] 11 418) := w_getf (hm := mm171) dX2_like_415 (fok1 (k := 11) (T := TX2) 1 (Nat.le_of_ble_eq_true rfl) vc_1 (Nat.le_of_ble_eq_true rfl) q564)
theorem n171_418 : Snd mt G 171 418 (oConst (.int 0) 419) := w_iconst (hm := mm171) dX2_like_418 rfl
theorem n171_419 : Snd mt G 171 419 (oConst (.int 12) 421) := w_bipush (hm := mm171) dX2_like_419 (by decide)
theorem n171_421 : Snd mt G 171 421 (oCopy [100] [100] (ckTy .int) 424) := w_copy (hm := mm171) (kt := 0) dX2_like_421 (Nat.le_of_ble_eq_true rfl) at_0 (List.forall_mem_cons.mpr ⟨Or.inl rfl, (fun t ht => nomatch ht)⟩) (List.forall_mem_cons.mpr ⟨rfl, (fun t ht => nomatch ht)⟩) (fun s h H v _ _ e => ck_int s h H .int v e) (Nat.le_of_ble_eq_true rfl) q1159 q335 q334 q145
theorem n171_424 : Snd mt G 171 424 (oAload 1 425) := w_aload_n (hm := mm171) dX2_like_424
theorem n171_425 : Snd mt G 171 425 (oAload 0 426) := w_aload_n (hm := mm171) dX2_like_425
theorem n171_426 : Snd mt G 171 426 (oGetf [2] 16 429) := w_getf (hm := mm171) dX2_like_426 (fok1 (k := 16) (T := TX2) 1 (Nat.le_of_ble_eq_true rfl) vc_1 (Nat.le_of_ble_eq_true rfl) q574)
theorem n171_429 : Snd mt G 171 429 (oPutf [2] 16 .int 432) := w_putf (hm := mm171) dX2_like_429 (pok1 (k := 16) (T := TX2) 1 (Nat.le_of_ble_eq_true rfl) vc_1 (Nat.le_of_ble_eq_true rfl) rfl pd_X2_16 q574)
theorem n171_432 : Snd mt G 171 432 (oAload 1 433) := w_aload_n (hm := mm171) dX2_like_432
theorem n171_433 : Snd mt G 171 433 (oAload 0 434) := w_aload_n (hm := mm171) dX2_like_433
theorem n171_434 : Snd mt G 171 434 (oGetf [2] 17 437) := w_getf (hm := mm171) dX2_like_434 (fok1 (k := 17) (T := TX2) 1 (Nat.le_of_ble_eq_true rfl) vc_1 (Nat.le_of_ble_eq_true rfl) q576)
theorem n171_437 : Snd mt G 171 437 (oPutf [2] 17 .int 440) := w_putf (hm := mm171) dX2_like_437 (pok1 (k := 17) (T := TX2) 1 (Nat.le_of_ble_eq_true rfl) vc_1 (Nat.le_of_ble_eq_true rfl) rfl pd_X2_17 q576)
theorem n171_440 : Snd mt G 171 440 (oAload 1 441) := w_aload_n (hm := mm171) dX2_like_440
theorem n171_441 : Snd mt G 171 441 (oAload 0 442) := w_aload_n (hm := mm171) dX2_like_441
theorem n171_442 : Snd mt G 171 442 (oGetf [2] 18 445) := w_getf (hm := mm171) dX2_like_442 (fok1 (k := 18) (T := TX2) 1 (Nat.le_of_ble_eq_true rfl) vc_1 (Nat.le_of_ble_eq_true rfl) q578)
theorem n171_445 : Snd mt G 171 445 (oPutf [2] 18 .int 448) := w_putf (hm := mm171) dX2_like_445 (pok1 (k := 18) (T := TX2) 1 (Nat.le_of_ble_eq_true rfl) vc_1 (Nat.le_of_ble_eq_true rfl) rfl pd_X2_18 q578)
theorem n171_448 : Snd mt G 171 448 (oAload 1 449) := w_aload_n (hm := mm171) dX2_like_448
theorem n171_449 : Snd mt G 171 449 (oAload 0 450) := w_aload_n (hm := mm171) dX2_like_449
theorem n171_450 : Snd mt G 171 450 (oGetf [2] 12 453) := w_getf (hm := mm171) dX2_like_450 (fok1 (k := 12) (T := TX2) 1 (Nat.le_of_ble_eq_true rfl) vc_1 (Nat.le_of_ble_eq_true rfl) q566)
theorem n171_453 : Snd mt G 171 453 (oPutf [2] 12 .int 456) := w_putf (hm := mm171) dX2_like_453 (pok1 (k := 12) (T := TX2) 1 (Nat.le_of_ble_eq_true rfl) vc_1 (Nat.le_of_ble_eq_true rfl) rfl pd_X2_12 q566)
theorem n171_456 : Snd mt G 171 456 (oAload 1 457) := w_aload_n (hm := mm171) dX2_like_456
theorem n171_457 : Snd mt G 171 457 (oAload 0 458) := w_aload_n (hm := mm171) dX2_like_457
theorem n171_458 : Snd mt G 171 458 (oGetf [2] 13 461) := w_getf (hm := mm171) dX2_like_458 (fok1 (k := 13) (T := TX2) 1 (Nat.le_of_ble_eq_true rfl) vc_1 (Nat.le_of_ble_eq_true rfl) q568)
theorem n171_461 : Snd mt G 171 461 (oPutf [2] 13 .int 464) := w_putf (hm := mm171) dX2_like_461 (pok1 (k := 13) (T := TX2) 1 (Nat.le_of_ble_eq_true rfl) vc_1 (Nat.le_of_ble_eq_true rfl) rfl pd_X2_13 q568)
theorem n171_464 : Snd mt G 171 464 (oAload 1 465) := w_aload_n (hm := mm171) dX2_like_464
theorem n171_465 : Snd mt G 171 465 (oAload 0 466) := w_aload_n (hm := mm171) dX2_like_465
theorem n171_466 : Snd mt G 171 466 (oGetf [2] 14 469) := w_getf (hm := mm171) dX2_like_466 (fok1 (k := 14) (T := TX2) 1 (Nat.le_of_ble_eq_true rfl) vc_1 (Nat.le_of_ble_eq_true rfl) q570)
theorem n171_469 : Snd mt G 171 469 (oPutf [2] 14 .int 472) := w_putf (hm := mm171) dX2_like_469 (pok1 (k := 14) (T := TX2) 1 (Nat.le_of_ble_eq_true rfl) vc_1 (Nat.le_of_ble_eq_true rfl) rfl pd_X2_14 q570)
theorem n171_472 : Snd mt G 171 472 (oAload 1 473) := w_aload_n (hm := mm171) dX2_like_472
theorem n171_473 : Snd mt G 171 473 (oAload 0 474) := w_aload_n (hm := mm171) dX2_like_473
theorem n171_474 : Snd mt G 171 474 (oGetf [2] 15 477) := w_getf (hm := mm171) dX2_like_474 (fok1 (k := 15) (T := TX2) 1 (Nat.le_of_ble_eq_true rfl) vc_1 (Nat.le_of_ble_eq_true rfl) q572)
theorem n171_477 : Snd mt G 171 477 (oPutf [2] 15 .int 480) := w_putf (hm := mm171) dX2_like_477 (pok1 (k := 15) (T := TX2) 1 (Nat.le_of_ble_eq_true rfl) vc_1 (Nat.le_of_ble_eq_true rfl) rfl pd_X2_15 q572)
theorem n171_480 : Snd mt G 171 480 (oAload 1 481) := w_aload_n (hm := mm171) dX2_like_480
theorem n171_481 : Snd mt G 171 481 (oRetA) := w_aret (hm := mm171) dX2_like_481 rfl (Or.inl ⟨_, rfl⟩)
theorem sj171 : ∀ pc, Snd mt G 171 pc (j171 pc) := fun pc => (snd_br ((snd_br ((snd_br ((snd_br ((snd_br ((snd_br ((snd_br ((snd_br ((snd_lf n171_481)) ((snd_lf n171_480)))) ((snd_br ((snd_lf n171_477)) ((snd_lf n171_474)))))) ((snd_br ((snd_br ((snd_lf n171_473)) ((snd_lf n171_472)))) ((snd_br ((snd_lf n171_469)) ((snd_lf n171_466)))))))) ((snd_br ((snd_br ((snd_br ((snd_lf n171_465)) ((snd_lf n171_464)))) ((snd_br ((snd_lf n171_461)) ((snd_lf n171_458)))))) ((snd_br ((snd_br ((snd_lf n171_457)) ((snd_lf n171_456)))) ((snd_lf n171_453)))))))) ((snd_br ((snd_br ((snd_br ((snd_br ((snd_lf n171_450)) ((snd_lf n171_449)))) ((snd_br ((snd_lf n171_448)) ((snd_lf n171_445)))))) ((snd_br ((snd_br ((snd_lf n171_442)) ((snd_lf n171_441)))) ((snd_lf n171_440)))))) ((snd_br ((snd_br ((snd_br ((snd_lf n171_437)) ((snd_lf n171_434)))) ((snd_br ((snd_lf n171_433)) ((snd_lf n171_432)))))) ((snd_br ((snd_br ((snd_lf n171_429)) ((snd_lf n171_426)))) ((snd_lf n171_425)))))))))) ((snd_br ((snd_br ((snd_br ((snd_br ((snd_br ((snd_lf n171_424)) ((snd_lf n171_421)))) ((snd_br ((snd_lf n171_419)) ((snd_lf n171_418)))))) ((snd_br ((snd_br ((snd_lf n171_415)) ((snd_lf n171_414)))) ((snd_br ((snd_lf n171_413)) ((snd_lf n171_410)))))))) ((snd_br ((snd_br ((snd_br ((snd_lf n171_409)) ((snd_lf n171_406)))) ((snd_br ((snd_lf n171_404)) ((snd_lf n171_403)))))) ((snd_br ((snd_br ((snd_lf n171_400)) ((snd_lf n171_399)))) ((snd_lf n171_398)))))))) ((snd_br ((snd_br ((snd_br ((snd_br ((snd_lf n171_395)) ((snd_lf n171_394)))) ((snd_br ((snd_lf n171_391)) ((snd_lf n171_388)))))) ((snd_br ((snd_br ((snd_lf n171_387)) ((snd_lf n171_384)))) ((snd_lf n171_381)))))) ((snd_br ((snd_br ((snd_br ((snd_lf n171_378)) ((snd_lf n171_377)))) ((snd_br ((snd_lf n171_374)) ((snd_lf n171_373)))))) ((snd_br ((snd_br ((snd_lf n171_370)) ((snd_lf n171_369)))) ((snd_lf n171_366)))))))))))) ((snd_br ((snd_br ((snd_br ((snd_br ((snd_br ((snd_br ((snd_lf n171_363)) ((snd_lf n171_360)))) ((snd_br ((snd_lf n171_359)) ((snd_lf n171_358)))))) ((snd_br ((snd_br ((snd_lf n171_357)) ((snd_lf n171_356)))) ((snd_br ((snd_lf n171_353)) ((snd_lf n171_350)))))))) ((snd_br ((snd_br ((snd_br ((snd_lf n171_349)) ((snd_lf n171_346)))) ((snd_br ((snd_lf n171_343)) ((snd_lf n171_340)))))) ((snd_br ((snd_br ((snd_lf n171_339)) ((snd_lf n171_336)))) ((snd_lf n171_335)))))))) ((snd_br ((snd_br ((snd_br ((snd_br ((snd_lf n171_332)) ((snd_lf n171_331)))) ((snd_br ((snd_lf n171_328)) ((snd_lf n171_325)))))) ((snd_br ((snd_br ((snd_lf n171_322)) ((snd_lf n171_321)))) ((snd_lf n171_320)))))) ((snd_br ((snd_br ((snd_br ((snd_lf n171_319)) ((snd_lf n171_318)))) ((snd_br ((snd_lf n171_315)) ((snd_lf n171_312)))))) ((snd_br ((snd_br ((snd_lf n171_311)) ((snd_lf n171_308)))) ((snd_lf n171_305)))))))))) ((snd_br ((snd_br ((snd_br ((snd_br ((snd_br ((snd_lf n171_302)) ((snd_lf n171_301)))) ((snd_br ((snd_lf n171_298)) ((snd_lf n171_297)))))) ((snd_br ((snd_br ((snd_lf n171_294)) ((snd_lf n171_293)))) ((snd_br ((snd_lf n171_290)) ((snd_lf n171_287)))))))) ((snd_br ((snd_br ((snd_br ((snd_lf n171_284)) ((snd_lf n171_283)))) ((snd_br ((snd_lf n171_282)) ((snd_lf n171_281)))))) ((snd_br ((snd_br ((snd_lf n171_280)) ((snd_lf n171_277)))) ((snd_lf n171_274)))))))) ((snd_br ((snd_br ((snd_br ((snd_br ((snd_lf n171_273)) ((snd_lf n171_270)))) ((snd_br ((snd_lf n171_267)) ((snd_lf n171_264)))))) ((snd_br ((snd_br ((snd_lf n171_261)) ((snd_lf n171_260)))) ((snd_lf n171_257)))))) ((snd_br ((snd_br ((snd_br ((snd_lf n171_256)) ((snd_lf n171_253)))) ((snd_br ((snd_lf n171_252)) ((snd_lf n171_249)))))) ((snd_br ((snd_br ((snd_lf n171_246)) ((snd_lf n171_243)))) ((snd_lf n171_242)))))))))))))) ((snd_br ((snd_br ((snd_br ((snd_br ((snd_br ((snd_br ((snd_br ((snd_lf n171_241)) ((snd_lf n171_240)))) ((snd_br ((snd_lf n171_239)) ((snd_lf n171_236)))))) ((snd_br ((snd_br ((snd_lf n171_233)) ((snd_lf n171_232)))) ((snd_br ((snd_lf n171_229)) ((snd_lf n171_226)))))))) ((snd_br ((snd_br ((snd_br ((snd_lf n171_223)) ((snd_lf n171_222)))) ((snd_br ((snd_lf n171_219)) ((snd_lf n171_218)))))) ((snd_br ((snd_br ((snd_lf n171_215)) ((snd_lf n171_214)))) ((snd_lf n171_211)))))))) ((snd_br ((snd_br ((snd_br ((snd_br ((snd_lf n171_208)) ((snd_lf n171_205)))) ((snd_br ((snd_lf n171_204)) ((snd_lf n171_203)))))) ((snd_br ((snd_br ((snd_lf n171_202)) ((snd_lf n171_201)))) ((snd_lf n171_198)))))) ((snd_br ((snd_br ((snd_br ((snd_lf n171_195)) ((snd_lf n171_194)))) ((snd_br ((snd_lf n171_191)) ((snd_lf n171_188)))))) ((snd_br ((snd_br ((snd_lf n171_185)) ((snd_lf n171_184)))) ((snd_lf n171_181)))))))))) ((snd_br ((snd_br ((snd_br ((snd_br ((snd_br ((snd_lf n171_180)) ((snd_lf n171_177)))) ((snd_br ((snd_lf n171_176)) ((snd_lf n171_173)))))) ((snd_br ((snd_br ((snd_lf n171_170)) ((snd_lf n171_167)))) ((snd_br ((snd_lf n171_166)) ((snd_lf n171_165)))))))) ((snd_br ((snd_br ((snd_br ((snd_lf n171_164)) ((snd_lf n171_163)))) ((snd_br ((snd_lf n171_160)) ((snd_lf n171_157)))))) ((snd_br ((snd_br ((snd_lf n171_156)) ((snd_lf n171_153)))) ((snd_lf n171_150)))))))) ((snd_br ((snd_br ((snd_br ((snd_br ((snd_lf n171_147)) ((snd_lf n171_146)))) ((snd_br ((snd_lf n171_143)) ((snd_lf n171_142)))))) ((snd_br ((snd_br ((snd_lf n171_139)) ((snd_lf n171_138)))) ((snd_lf n171_135)))))) ((snd_br ((snd_br ((snd_br ((snd_lf n171_132)) ((snd_lf n171_129)))) ((snd_br ((snd_lf n171_128)) ((snd_lf n171_127)))))) ((snd_br ((snd_br ((snd_lf n171_126)) ((snd_lf n171_125)))) ((snd_lf n171_122)))))))))))) ((snd_br ((snd_br ((snd_br ((snd_br ((snd_br ((snd_br ((snd_lf n171_119)) ((snd_lf n171_118)))) ((snd_br ((snd_lf n171_115)) ((snd_lf n171_112)))))) ((snd_br ((snd_br ((snd_lf n171_109)) ((snd_lf n171_108)))) ((snd_br ((snd_lf n171_105)) ((snd_lf n171_104)))))))) ((snd_br ((snd_br ((snd_br ((snd_lf n171_101)) ((snd_lf n171_100)))) ((snd_br ((snd_lf n171_97)) ((snd_lf n171_94)))))) ((snd_br ((snd_br ((snd_lf n171_91)) ((snd_lf n171_90)))) ((snd_lf n171_89)))))))) ((snd_br ((snd_br ((snd_br ((snd_br ((snd_lf n171_88)) ((snd_lf n171_87)))) ((snd_br ((snd_lf n171_84)) ((snd_lf n171_81)))))) ((snd_br ((snd_br ((snd_lf n171_80)) ((snd_lf n171_77)))) ((snd_lf n171_74)))))) ((snd_br ((snd_br ((snd_br ((snd_lf n171_71)) ((snd_lf n171_68)))) ((snd_br ((snd_lf n171_67)) ((snd_lf n171_64)))))) ((snd_br ((snd_br ((snd_lf n171_63)) ((snd_lf n171_60)))) ((snd_lf n171_59)))))))))) ((snd_br ((snd_br ((snd_br ((snd_br ((snd_br ((snd_lf n171_56)) ((snd_lf n171_53)))) ((snd_br ((snd_lf n171_50)) ((snd_lf n171_49)))))) ((snd_br ((snd_br ((snd_lf n171_48)) ((snd_lf n171_47)))) ((snd_br ((snd_lf n171_46)) ((snd_lf n171_43)))))))) ((snd_br ((snd_br ((snd_br ((snd_lf n171_40)) ((snd_lf n171_39)))) ((snd_br ((snd_lf n171_36)) ((snd_lf n171_33)))))) ((snd_br ((snd_br ((snd_lf n171_30)) ((snd_lf n171_29)))) ((snd_lf n171_26)))))))) ((snd_br ((snd_br ((snd_br ((snd_br ((snd_lf n171_25)) ((snd_lf n171_22)))) ((snd_br ((snd_lf n171_21)) ((snd_lf n171_18)))))) ((snd_br ((snd_br ((snd_lf n171_15)) ((snd_lf n171_12)))) ((snd_lf n171_11)))))) ((snd_br ((snd_br ((snd_br ((snd_lf n171_10)) ((snd_lf n171_9)))) ((snd_br ((snd_lf n171_8)) ((snd_lf n171_7)))))) ((snd_br ((snd_br ((snd_lf n171_4)) ((snd_lf n171_3)))) ((snd_lf n171_0)))))))))))))))
end
section
variable {G : AG}
theorem n422_0 : Snd mt G 422 0 (oAload 0 1) := w_aload_n (hm := mm422) dX4_init_0
theorem n422_1 : Snd mt G 422 1 (oObjI 4) := w_objI (hm := mm422) dX4_init_1 (Nat.le_of_ble_eq_true rfl) q1595 q189 q190
theorem n422_4 : Snd mt G 422 4 (oAload 0 5) := w_aload_n (hm := mm422) dX4_init_4
theorem n422_5 : Snd mt G 422 5 (oIload 1 6) := w_iload_n (hm := mm422) dX4_init_5
theorem n422_6 : Snd mt G 422 6 (oPutf [5] 0 .int 9) := w_putfF (hm := mm422) dX4_init_6 (pfk1 (k := 0) (T := TX4) 4 (Nat.le_of_ble_eq_true rfl) vc_4 (Nat.le_of_ble_eq_true rfl) rfl rfl pd_X4_0 rfl q1596)
theorem n422_9 : Snd mt G 422 9 (oAload 0 10) := w_aload_n (hm := mm422) dX4_init_9
theorem n422_10 : Snd mt G 422 10 (oAload 2 11) := w_aload_n (hm := mm422) dX4_init_10
theorem n422_11 : Snd mt G 422 11 (oPutf [5] 1 (.object "java/util/ArrayList") 14) := w_putfF (hm := mm422) dX4_init_11 (pfk1 (k := 1) (T := TX4) 4 (Nat.le_of_ble_eq_true rfl) vc_4 (Nat.le_of_ble_eq_true rfl) rfl rfl pd_X4_1 rfl q1598)
theorem n422_14 : Snd mt G 422 14 (oRetV) := w_vret (hm := mm422) dX4_init_14 rfl
theorem sj422 : ∀ pc, Snd mt G 422 pc (j422 pc) := fun pc => (snd_br ((snd_br ((snd_br ((snd_br ((snd_lf n422_14)) ((snd_lf n422_11)))) ((snd_lf n422_10)))) ((snd_br ((snd_lf n422_9)) ((snd_lf n422_6)))))) ((snd_br ((snd_br ((snd_lf n422_5)) ((snd_lf n422_4)))) ((snd_br ((snd_lf n422_1)) ((snd_lf n422_0)))))))
end
section
variable {G : AG}
theorem n423_0 : Snd mt G 423 0 (oAload 0 1) := w_aload_n (hm := mm423) dX5_init_0
theorem n423_1 : Snd mt G 423 1 (oObjI 4) := w_objI (hm := mm423) dX5_init_1 (Nat.le_of_ble_eq_true rfl) q1200 q189 q190
theorem n423_4 : Snd mt G 423 4 (oAload 0 5) := w_aload_n (hm := mm423) dX5_init_4
theorem n423_5 : Snd mt G 423 5 (oAload 1 6) := w_aload_n (hm := mm423) dX5_init_5
theorem n423_6 : Snd mt G 423 6 (oPutf [6] 0 (.array .byte) 9) := w_putfF (hm := mm423) dX5_init_6 (pfk1 (k := 0) (T := TX5) 5 (Nat.le_of_ble_eq_true rfl) vc_5 (Nat.le_of_ble_eq_true rfl) rfl rfl pd_X5_0 rfl q1201)
theorem n423_9 : Snd mt G 423 9 (oAload 0 10) := w_aload_n (hm := mm423) dX5_init_9
theorem n423_10 : Snd mt G 423 10 (oIload 2 11) := w_iload_n (hm := mm423) dX5_init_10
theorem n423_11 : Snd mt G 423 11 (oPutf [6] 1 .int 14) := w_putfF (hm := mm423) dX5_init_11 (pfk1 (k := 1) (T := TX5) 5 (Nat.le_of_ble_eq_true rfl) vc_5 (Nat.le_of_ble_eq_true rfl) rfl rfl pd_X5_1 rfl q1202)
theorem n423_14 : Snd mt G 423 14 (oRetV) := w_vret (hm := mm423) dX5_init_14 rfl
theorem sj423 : ∀ pc, Snd mt G 423 pc (j423 pc) := fun pc => (snd_br ((snd_br ((snd_br ((snd_br ((snd_lf n423_14)) ((snd_lf n423_11)))) ((snd_lf n423_10)))) ((snd_br ((snd_lf n423_9)) ((snd_lf n423_6)))))) ((snd_br ((snd_br ((snd_lf n423_5)) ((snd_lf n423_4)))) ((snd_br ((snd_lf n423_1)) ((snd_lf n423_0)))))))
end
section
variable {G : AG}
theorem n424_0 : Snd mt G 424 0 (oNew 3 3 nfJ2 3) := w_new (hm := mm424) (ci := 2) (T9 := TJ2) (ty := tyJ2) dX5_reads_0 (Nat.le_of_ble_eq_true rfl) vc_2 tyJ2_ok (fun _ _ => rfl) q1218 q198 q133
theorem n424_3 : Snd mt G 424 3 (oDup 4) := w_dup (hm := mm424) dX5_reads_3
theorem n424_4 : Snd mt G 424 4 (oConst (.int 1) 5) := w_iconst (hm := mm424) dX5_reads_4 rfl
theorem n424_5 : Snd mt G 424 5 (oCall 2 (fI 174 2) 0 8 xOut) := s_callI (m' := 174) (n := 1) xsh_out (w_xok0 mm424) (w_cal mm424 mm174 pn_J2 (Nat.le_of_ble_eq_true rfl) (Nat.le_of_ble_eq_true rfl)) (fun h b as hn => w_run_I mm424 mm174 dX5_reads_5 rfl rfl q1219 q200 q133 q201 pa174 hn)
theorem n424_8 : Snd mt G 424 8 (oAstore 1 9) := w_astore_n (hm := mm424) dX5_reads_8 (Nat.le_of_ble_eq_true rfl)
theorem n424_9 : Snd mt G 424 9 (oAload 0 10) := w_aload_n (hm := mm424) dX5_reads_9
theorem n424_10 : Snd mt G 424 10 (oCall 1 (fV [6] 425 1) 0 13 xOut) := s_callV (m' := 425) (n := 0) xsh_out (w_xok0 mm424) (w_cal mm424 mm425 pn_X5 (Nat.le_of_ble_eq_true rfl) (Nat.le_of_ble_eq_true rfl)) (fun h b as hc hn => w_run_V (ci := 5) mm424 mm425 dX5_reads_10 (Or.inl (List.mem_singleton.mp hc)) (Nat.le_of_ble_eq_true rfl) vc_5 rfl q1220 q1222 qs24 q152 q1223 pa425 hn)
theorem n424_13 : Snd mt G 424 13 (oPop 14) := w_pop (hm := mm424) dX5_reads_13
theorem n424_14 : Snd mt G 424 14 (oAload 0 15) := w_aload_n (hm := mm424) dX5_reads_14
theorem n424_15 : Snd mt G 424 15 (oGetf [6] 2 18) := w_getf (hm := mm424) dX5_reads_15 (fok1 (k := 2) (T := TX5) 5 (Nat.le_of_ble_eq_true rfl) vc_5 (Nat.le_of_ble_eq_true rfl) q1203)
theorem n424_18 : Snd mt G 424 18 (oAload 0 19) := w_aload_n (hm := mm424) dX5_reads_18
theorem n424_19 : Snd mt G 424 19 (oGetf [6] 1 22) := w_getf (hm := mm424) dX5_reads_19 (fok1 (k := 1) (T := TX5) 5 (Nat.le_of_ble_eq_true rfl) vc_5 (Nat.le_of_ble_eq_true rfl) q1202)
theorem n424_22 : Snd mt G 424 22 (oCmpGe 71 25) := w_icmp_ge (hm := mm424) dX5_reads_22 rfl
theorem n424_25 : Snd mt G 424 25 (oAload 0 26) := w_aload_n (hm := mm424) dX5_reads_25
theorem n424_26 : Snd mt G 424 26 (oAload 1 27) := w_aload_n (hm := mm424) dX5_reads_26
theorem n424_27 : Snd mt G 424 27 (oCall 1 (fV [3] 175 1) 0 30 xOut) := s_callV (m' := 175) (n := 0) xsh_out (w_xok0 mm424) (w_cal mm424 mm175 pn_J2 (Nat.le_of_ble_eq_true rfl) (Nat.le_of_ble_eq_true rfl)) (fun h b as hc hn => w_run_V (ci := 2) mm424 mm175 dX5_reads_27 (Or.inl (List.mem_singleton.mp hc)) (Nat.le_of_ble_eq_true rfl) vc_2 rfl q1224 q710 q711 q133 q712 pa175 hn)
theorem n424_30 : Snd mt G 424 30 (oCall 2 (fV [6] 426 8) 0 33 xOut) := s_callV (m' := 426) (n := 1) xsh_out (w_xok0 mm424) (w_cal mm424 mm426 pn_X5 (Nat.le_of_ble_eq_true rfl) (Nat.le_of_ble_eq_true rfl)) (fun h b as hc hn => w_run_V (ci := 5) mm424 mm426 dX5_reads_30 (Or.inl (List.mem_singleton.mp hc)) (Nat.le_of_ble_eq_true rfl) vc_5 rfl q1225 q1227 qs25 q152 q1228 pa426 hn)
theorem n424_33 : Snd mt G 424 33 (oAstore 2 34) := w_astore_n (hm := mm424) dX5_reads_33 (Nat.le_of_ble_eq_true rfl)
theorem n424_34 : Snd mt G 424 34 (oAload 0 35) := w_aload_n (hm := mm424) dX5_reads_34
theorem n424_35 : Snd mt G 424 35 (oGets 1015 37) := w_ldcS (hm := mm424) (j := 15) dX5_reads_35 sr_15 rfl
theorem n424_37 : Snd mt G 424 37 (oCall 2 (fV [6] 439 2) 0 40 xOut) := s_callV (m' := 439) (n := 1) xsh_out (w_xok0 mm424) (w_cal mm424 mm439 pn_X5 (Nat.le_of_ble_eq_true rfl) (Nat.le_of_ble_eq_true rfl)) (fun h b as hc hn => w_run_V (ci := 5) mm424 mm439 dX5_reads_37 (Or.inl (List.mem_singleton.mp hc)) (Nat.le_of_ble_eq_true rfl) vc_5 rfl q1527 q1529 qs37 q152 q1530 pa439 hn)
theorem n424_40 : Snd mt G 424 40 (oIfEq 51 43) := w_if_eq (hm := mm424) dX5_reads_40 rfl
theorem n424_43 : Snd mt G 424 43 (oAload 2 44) := w_aload_n (hm := mm424) dX5_reads_43
theorem n424_44 : Snd mt G 424 44 (oAload 0 45) := w_aload_n (hm := mm424) dX5_reads_44
theorem n424_45 : Snd mt G 424 45 (oCall 1 (fV [6] 440 2) 0 48 xOut) := s_callV (m' := 440) (n := 0) xsh_out (w_xok0 mm424) (w_cal mm424 mm440 pn_X5 (Nat.le_of_ble_eq_true rfl) (Nat.le_of_ble_eq_true rfl)) (fun h b as hc hn => w_run_V (ci := 5) mm424 mm440 dX5_reads_45 (Or.inl (List.mem_singleton.mp hc)) (Nat.le_of_ble_eq_true rfl) vc_5 rfl q1531 q1533 qs38 q152 q1534 pa440 hn)
theorem n424_48 : Snd mt G 424 48 (oPutf [8, 9, 13, 14] 0 (.object "LimbBenches$Cond") 51) := w_putfN (hm := mm424) (k := 0) dX5_reads_48 ⟨_, _, _, _, List.mem_filter.mpr ⟨q1387, rfl⟩, by decide +kernel, (List.forall_mem_cons.mpr ⟨⟨7, RX8, TX8, 3, rfl, (Nat.le_of_ble_eq_true rfl), vc_7, (Nat.le_of_ble_eq_true rfl), rfl, rfl, Or.inl rfl, rfl⟩, (List.forall_mem_cons.mpr ⟨⟨8, RX9, TX9, 4, rfl, (Nat.le_of_ble_eq_true rfl), vc_8, (Nat.le_of_ble_eq_true rfl), rfl, rfl, Or.inl rfl, rfl⟩, (List.forall_mem_cons.mpr ⟨⟨12, RX13, TX13, 4, rfl, (Nat.le_of_ble_eq_true rfl), vc_12, (Nat.le_of_ble_eq_true rfl), rfl, rfl, Or.inl rfl, rfl⟩, (List.forall_mem_cons.mpr ⟨⟨13, RX14, TX14, 2, rfl, (Nat.le_of_ble_eq_true rfl), vc_13, (Nat.le_of_ble_eq_true rfl), rfl, rfl, Or.inl rfl, rfl⟩, (fun t ht => nomatch ht)⟩)⟩)⟩)⟩)⟩
theorem n424_51 : Snd mt G 424 51 (oAload 0 52) := w_aload_n (hm := mm424) dX5_reads_51
theorem n424_52 : Snd mt G 424 52 (oConst (.int 59) 54) := w_bipush (hm := mm424) dX5_reads_52 (by decide)
theorem n424_54 : Snd mt G 424 54 (oCall 2 (fV [6] 437 2) 0 57 xOut) := s_callV (m' := 437) (n := 1) xsh_out (w_xok0 mm424) (w_cal mm424 mm437 pn_X5 (Nat.le_of_ble_eq_true rfl) (Nat.le_of_ble_eq_true rfl)) (fun h b as hc hn => w_run_V (ci := 5) mm424 mm437 dX5_reads_54 (Or.inl (List.mem_singleton.mp hc)) (Nat.le_of_ble_eq_true rfl) vc_5 rfl q1431 q1433 qs36 q152 q1434 pa437 hn)
theorem n424_57 : Snd mt G 424 57 (oAload 1 58) := w_aload_n (hm := mm424) dX5_reads_57
theorem n424_58 : Snd mt G 424 58 (oAload 2 59) := w_aload_n (hm := mm424) dX5_reads_58
theorem n424_59 : Snd mt G 424 59 (oCall 2 (fV [3] 179 2) 0 62 xOut) := s_callV (m' := 179) (n := 1) xsh_out (w_xok0 mm424) (w_cal mm424 mm179 pn_J2 (Nat.le_of_ble_eq_true rfl) (Nat.le_of_ble_eq_true rfl)) (fun h b as hc hn => w_run_V (ci := 2) mm424 mm179 dX5_reads_59 (Or.inl (List.mem_singleton.mp hc)) (Nat.le_of_ble_eq_true rfl) vc_2 rfl q1591 q985 q986 q133 q987 pa179 hn)
theorem n424_62 : Snd mt G 424 62 (oPop 63) := w_pop (hm := mm424) dX5_reads_62
theorem n424_63 : Snd mt G 424 63 (oAload 0 64) := w_aload_n (hm := mm424) dX5_reads_63
theorem n424_64 : Snd mt G 424 64 (oCall 1 (fV [6] 425 1) 0 67 xOut) := s_callV (m' := 425) (n := 0) xsh_out (w_xok0 mm424) (w_cal mm424 mm425 pn_X5 (Nat.le_of_ble_eq_true rfl) (Nat.le_of_ble_eq_true rfl)) (fun h b as hc hn => w_run_V (ci := 5) mm424 mm425 dX5_reads_64 (Or.inl (List.mem_singleton.mp hc)) (Nat.le_of_ble_eq_true rfl) vc_5 rfl q1220 q1222 qs24 q152 q1223 pa425 hn)
theorem n424_67 : Snd mt G 424 67 (oPop 68) := w_pop (hm := mm424) dX5_reads_67
theorem n424_68 : Snd mt G 424 68 (oGoto 14) := w_goto (hm := mm424) dX5_reads_68 rfl
theorem n424_71 : Snd mt G 424 71 (oAload 1 72) := w_aload_n (hm := mm424) dX5_reads_71
theorem n424_72 : Snd mt G 424 72 (oRetA) := w_aret (hm := mm424) dX5_reads_72 rfl (Or.inl ⟨_, rfl⟩)
theorem sj424 : ∀ pc, Snd mt G 424 pc (j424 pc) := fun pc => (snd_br ((snd_br ((snd_br ((snd_br ((snd_br ((snd_br ((snd_lf n424_72)) ((snd_lf n424_71)))) ((snd_lf n424_68)))) ((snd_br ((snd_lf n424_67)) ((snd_lf n424_64)))))) ((snd_br ((snd_br ((snd_br ((snd_lf n424_63)) ((snd_lf n424_62)))) ((snd_lf n424_59)))) ((snd_br ((snd_lf n424_58)) ((snd_lf n424_57)))))))) ((snd_br ((snd_br ((snd_br ((snd_br ((snd_lf n424_54)) ((snd_lf n424_52)))) ((snd_lf n424_51)))) ((snd_br ((snd_lf n424_48)) ((snd_lf n424_45)))))) ((snd_br ((snd_br ((snd_br ((snd_lf n424_44)) ((snd_lf n424_43)))) ((snd_lf n424_40)))) ((snd_br ((snd_lf n424_37)) ((snd_lf n424_35)))))))))) ((snd_br ((snd_br ((snd_br ((snd_br ((snd_br ((snd_lf n424_34)) ((snd_lf n424_33)))) ((snd_lf n424_30)))) ((snd_br ((snd_lf n424_27)) ((snd_lf n424_26)))))) ((snd_br ((snd_br ((snd_br ((snd_lf n424_25)) ((snd_lf n424_22)))) ((snd_lf n424_19)))) ((snd_br ((snd_lf n424_18)) ((snd_lf n424_15)))))))) ((snd_br ((snd_br ((snd_br ((snd_br ((snd_lf n424_14)) ((snd_lf n424_13)))) ((snd_lf n424_10)))) ((snd_br ((snd_lf n424_9)) ((snd_lf n424_8)))))) ((snd_br ((snd_br ((snd_lf n424_5)) ((snd_lf n424_4)))) ((snd_br ((snd_lf n424_3)) ((snd_lf n424_0)))))))))))
end
section
variable {G : AG}
theorem n425_0 : Snd mt G 425 0 (oAload 0 1) := w_aload_n (hm := mm425) dX5_sign_0
theorem n425_1 : Snd mt G 425 1 (oGetf [6] 2 4) := w_getf (hm := mm425) dX5_sign_1 (fok1 (k := 2) (T := TX5) 5 (Nat.le_of_ble_eq_true rfl) vc_5 (Nat.le_of_ble_eq_true rfl) q1203)
theorem n425_4 : Snd mt G 425 4 (oAload 0 5) := w_aload_n (hm := mm425) dX5_sign_4
theorem n425_5 : Snd mt G 425 5 (oGetf [6] 1 8) := w_getf (hm := mm425) dX5_sign_5 (fok1 (k := 1) (T := TX5) 5 (Nat.le_of_ble_eq_true rfl) vc_5 (Nat.le_of_ble_eq_true rfl) q1202)
theorem n425_8 : Snd mt G 425 8 (oCmpGe 38 11) := w_icmp_ge (hm := mm425) dX5_sign_8 rfl
theorem n425_11 : Snd mt G 425 11 (oAload 0 12) := w_aload_n (hm := mm425) dX5_sign_11
theorem n425_12 : Snd mt G 425 12 (oGetf [6] 0 15) := w_getf (hm := mm425) dX5_sign_12 (fok1 (k := 0) (T := TX5) 5 (Nat.le_of_ble_eq_true rfl) vc_5 (Nat.le_of_ble_eq_true rfl) q1201)
theorem n425_15 : Snd mt G 425 15 (oAload 0 16) := w_aload_n (hm := mm425) dX5_sign_15
theorem n425_16 : Snd mt G 425 16 (oGetf [6] 2 19) := w_getf (hm := mm425) dX5_sign_16 (fok1 (k := 2) (T := TX5) 5 (Nat.le_of_ble_eq_true rfl) vc_5 (Nat.le_of_ble_eq_true rfl) q1203)
theorem n425_19 : Snd mt G 425 19 (oAld [101] 20) := w_baload (hm := mm425) (kt := 1) dX5_sign_19 at_1 (Nat.le_of_ble_eq_true rfl) (List.forall_mem_cons.mpr ⟨Or.inl rfl, (fun t ht => nomatch ht)⟩)
theorem n425_20 : Snd mt G 425 20 (oConst (.int 32) 22) := w_bipush (hm := mm425) dX5_sign_20 (by decide)
theorem n425_22 : Snd mt G 425 22 (oCmpEq 25 38) := w_icmp_ne (hm := mm425) dX5_sign_22 rfl
theorem n425_25 : Snd mt G 425 25 (oAload 0 26) := w_aload_n (hm := mm425) dX5_sign_25
theorem n425_26 : Snd mt G 425 26 (oDup 27) := w_dup (hm := mm425) dX5_sign_26
theorem n425_27 : Snd mt G 425 27 (oGetf [6] 2 30) := w_getf (hm := mm425) dX5_sign_27 (fok1 (k := 2) (T := TX5) 5 (Nat.le_of_ble_eq_true rfl) vc_5 (Nat.le_of_ble_eq_true rfl) q1203)
theorem n425_30 : Snd mt G 425 30 (oConst (.int 1) 31) := w_iconst (hm := mm425) dX5_sign_30 rfl
theorem n425_31 : Snd mt G 425 31 (oBin (fun x y => x + y) 32) := w_iadd (hm := mm425) dX5_sign_31
theorem n425_32 : Snd mt G 425 32 (oPutf [6] 2 .int 35) := w_putf (hm := mm425) dX5_sign_32 (pok1 (k := 2) (T := TX5) 5 (Nat.le_of_ble_eq_true rfl) vc_5 (Nat.le_of_ble_eq_true rfl) rfl pd_X5_2 q1203)
theorem n425_35 : Snd mt G 425 35 (oGoto 0) := w_goto (hm := mm425) dX5_sign_35 rfl
theorem n425_38 : Snd mt G 425 38 (oAload 0 39) := w_aload_n (hm := mm425) dX5_sign_38
theorem n425_39 : Snd mt G 425 39 (oGetf [6] 2 42) := w_getf (hm := mm425) dX5_sign_39 (fok1 (k := 2) (T := TX5) 5 (Nat.le_of_ble_eq_true rfl) vc_5 (Nat.le_of_ble_eq_true rfl) q1203)
theorem n425_42 : Snd mt G 425 42 (oAload 0 43) := w_aload_n (hm := mm425) dX5_sign_42
theorem n425_43 : Snd mt G 425 43 (oGetf [6] 1 46) := w_getf (hm := mm425) dX5_sign_43 (fok1 (k := 1) (T := TX5) 5 (Nat.le_of_ble_eq_true rfl) vc_5 (Nat.le_of_ble_eq_true rfl) q1202)
theorem n425_46 : Snd mt G 425 46 (oCmpGe 61 49) := w_icmp_ge (hm := mm425) dX5_sign_46 rfl
theorem n425_49 : Snd mt G 425 49 (oAload 0 50) := w_aload_n (hm := mm425) dX5_sign_49
theorem n425_50 : Snd mt G 425 50 (oGetf [6] 0 53) := w_getf (hm := mm425) dX5_sign_50 (fok1 (k := 0) (T := TX5) 5 (Nat.le_of_ble_eq_true rfl) vc_5 (Nat.le_of_ble_eq_true rfl) q1201)
theorem n425_53 : Snd mt G 425 53 (oAload 0 54) := w_aload_n (hm := mm425) dX5_sign_53
theorem n425_54 : Snd mt G 425 54 (oGetf [6] 2 57) := w_getf (hm := mm425) dX5_sign_54 (fok1 (k := 2) (T := TX5) 5 (Nat.le_of_ble_eq_true rfl) vc_5 (Nat.le_of_ble_eq_true rfl) q1203)
theorem n425_57 : Snd mt G 425 57 (oAld [101] 58) := w_baload (hm := mm425) (kt := 1) dX5_sign_57 at_1 (Nat.le_of_ble_eq_true rfl) (List.forall_mem_cons.mpr ⟨Or.inl rfl, (fun t ht => nomatch ht)⟩)
theorem n425_58 : Snd mt G 425 58 (oGoto 62) := w_goto (hm := mm425) dX5_sign_58 rfl
theorem n425_61 : Snd mt G 425 61 (oConst (.int 0) 62) := w_iconst (hm := mm425) dX5_sign_61 rfl
theorem n425_62 : Snd mt G 425 62 (oRetI .int) := w_iret (hm := mm425) dX5_sign_62 rfl
theorem sj425 : ∀ pc, Snd mt G 425 pc (j425 pc) := fun pc => (snd_br ((snd_br ((snd_br ((snd_br ((snd_br ((snd_lf n425_62)) ((snd_lf n425_61)))) ((snd_br ((snd_lf n425_58)) ((snd_lf n425_57)))))) ((snd_br ((snd_br ((snd_lf n425_54)) ((snd_lf n425_53)))) ((snd_br ((snd_lf n425_50)) ((snd_lf n425_49)))))))) ((snd_br ((snd_br ((snd_br ((snd_lf n425_46)) ((snd_lf n425_43)))) ((snd_br ((snd_lf n425_42)) ((snd_lf n425_39)))))) ((snd_br ((snd_br ((snd_lf n425_38)) ((snd_lf n425_35)))) ((snd_br ((snd_lf n425_32)) ((snd_lf n425_31)))))))))) ((snd_br ((snd_br ((snd_br ((snd_br ((snd_lf n425_30)) ((snd_lf n425_27)))) ((snd_br ((snd_lf n425_26)) ((snd_lf n425_25)))))) ((snd_br ((snd_br ((snd_lf n425_22)) ((snd_lf n425_20)))) ((snd_br ((snd_lf n425_19)) ((snd_lf n425_16)))))))) ((snd_br ((snd_br ((snd_br ((snd_lf n425_15)) ((snd_lf n425_12)))) ((snd_br ((snd_lf n425_11)) ((snd_lf n425_8)))))) ((snd_br ((snd_br ((snd_lf n425_5)) ((snd_lf n425_4)))) ((snd_br ((snd_lf n425_1)) ((snd_lf n425_0)))))))))))
end
section
variable {G : AG}
theorem n426_0 : Snd mt G 426 0 (oAload 0 1) := w_aload_n (hm := mm426) dX5_clause_0
theorem n426_1 : Snd mt G 426 1 (oCall 1 (fV [6] 427 3) 0 4 xOut) := s_callV (m' := 427) (n := 0) xsh_out (w_xok0 mm426) (w_cal mm426 mm427 pn_X5 (Nat.le_of_ble_eq_true rfl) (Nat.le_of_ble_eq_true rfl)) (fun h b as hc hn => w_run_V (ci := 5) mm426 mm427 dX5_clause_1 (Or.inl (List.mem_singleton.mp hc)) (Nat.le_of_ble_eq_true rfl) vc_5 rfl q1229 q1231 qs26 q152 q1232 pa427 hn)
theorem n426_4 : Snd mt G 426 4 (oAstore 2 5) := w_astore_n (hm := mm426) dX5_clause_4 (Nat.le_of_ble_eq_true rfl)
theorem n426_5 : Snd mt G 426 5 (oAload 2 6) := w_aload_n (hm := mm426) dX5_clause_5
theorem n426_6 : Snd mt G 426 6 (oAstore 3 7) := w_astore_n (hm := mm426) dX5_clause_6 (Nat.le_of_ble_eq_true rfl)
theorem n426_7 : Snd mt G 426 7 (oConst (.int (-1)) 8) := w_iconst (hm := mm426) dX5_clause_7 rfl
theorem n426_8 : Snd mt G 426 8 (oIstore 4 10) := w_istore (hm := mm426) dX5_clause_8 (Nat.le_of_ble_eq_true rfl)
theorem n426_10 : Snd mt G 426 10 (oAload 3 11) := w_aload_n (hm := mm426) dX5_clause_10
theorem n426_11 : Snd mt G 426 11 (oCall 1 (fV [30, 1030] 222 2) 0 14 xOut) := s_callV (m' := 222) (n := 0) xsh_out (w_xok0 mm426) (w_cal mm426 mm222 pn_J9 (Nat.le_of_ble_eq_true rfl) (Nat.le_of_ble_eq_true rfl)) (fun h b as hc hn => w_run_V (ci := 29) mm426 mm222 dX5_clause_11 ((List.mem_cons.mp hc).imp id (fun z => List.mem_singleton.mp z)) (Nat.le_of_ble_eq_true rfl) vc_29 rfl q1257 q1258 q1259 q140 q1260 pa222 hn)
theorem n426_14 : Snd mt G 426 14 (oSwitch sw426_14) := w_lookupL (hm := mm426) (dfl := 183) (L := [((-934922479), 155), (97299, 80), (3321596, 95), (3377302, 125), (3641717, 170), (108406388, 140), (108511772, 110)]) dX5_clause_14 (by decide +kernel) rfl (by decide +kernel)
theorem n426_80 : Snd mt G 426 80 (oAload 3 81) := w_aload_n (hm := mm426) dX5_clause_80
theorem n426_81 : Snd mt G 426 81 (oGets 1000 83) := w_ldcS (hm := mm426) (j := 0) dX5_clause_81 sr_0 rfl
theorem n426_83 : Snd mt G 426 83 (oCall 2 (fV [30, 1030] 224 3) 0 86 xOut) := s_callV (m' := 224) (n := 1) xsh_out (w_xok0 mm426) (w_cal mm426 mm224 pn_J9 (Nat.le_of_ble_eq_true rfl) (Nat.le_of_ble_eq_true rfl)) (fun h b as hc hn => w_run_V (ci := 29) mm426 mm224 dX5_clause_83 ((List.mem_cons.mp hc).imp id (fun z => List.mem_singleton.mp z)) (Nat.le_of_ble_eq_true rfl) vc_29 rfl q1319 q1320 q1321 q140 q1322 pa224 hn)
theorem n426_86 : Snd mt G 426 86 (oIfEq 183 89) := w_if_eq (hm := mm426) dX5_clause_86 rfl
theorem n426_89 : Snd mt G 426 89 (oConst (.int 0) 90) := w_iconst (hm := mm426) dX5_clause_89 rfl
theorem n426_90 : Snd mt G 426 90 (oIstore 4 92) := w_istore (hm := mm426) dX5_clause_90 (Nat.le_of_ble_eq_true rfl)
theorem n426_92 : Snd mt G 426 92 (oGoto 183) := w_goto (hm := mm426) dX5_clause_92 rfl
theorem n426_95 : Snd mt G 426 95 (oAload 3 96) := w_aload_n (hm := mm426) dX5_clause_95
theorem n426_96 : Snd mt G 426 96 (oGets 1001 98) := w_ldcS (hm := mm426) (j := 1) dX5_clause_96 sr_1 rfl
theorem n426_98 : Snd mt G 426 98 (oCall 2 (fV [30, 1030] 224 3) 0 101 xOut) := s_callV (m' := 224) (n := 1) xsh_out (w_xok0 mm426) (w_cal mm426 mm224 pn_J9 (Nat.le_of_ble_eq_true rfl) (Nat.le_of_ble_eq_true rfl)) (fun h b as hc hn => w_run_V (ci := 29) mm426 mm224 dX5_clause_98 ((List.mem_cons.mp hc).imp id (fun z => List.mem_singleton.mp z)) (Nat.le_of_ble_eq_true rfl) vc_29 rfl q1319 q1320 q1321 q140 q1322 pa224 hn)
theorem n426_101 : Snd mt G 426 101 (oIfEq 183 104) := w_if_eq (hm := mm426) dX5_clause_101 rfl
theorem n426_104 : Snd mt G 426 104 (oConst (.int 1) 105) := w_iconst (hm := mm426) dX5_clause_104 rfl
theorem n426_105 : Snd mt G 426 105 (oIstore 4 107) := w_istore (hm := mm426) dX5_clause_105 (Nat.le_of_ble_eq_true rfl)
theorem n426_107 : Snd mt G 426 107 (oGoto 183) := w_goto (hm := mm426) dX5_clause_107 rfl
theorem n426_110 : Snd mt G 426 110 (oAload 3 111) := w_aload_n (hm := mm426) dX5_clause_110
theorem n426_111 : Snd mt G 426 111 (oGets 1002 113) := w_ldcS (hm := mm426) (j := 2) dX5_clause_111 sr_2 rfl
theorem n426_113 : Snd mt G 426 113 (oCall 2 (fV [30, 1030] 224 3) 0 116 xOut) := s_callV (m' := 224) (n := 1) xsh_out (w_xok0 mm426) (w_cal mm426 mm224 pn_J9 (Nat.le_of_ble_eq_true rfl) (Nat.le_of_ble_eq_true rfl)) (fun h b as hc hn => w_run_V (ci := 29) mm426 mm224 dX5_clause_113 ((List.mem_cons.mp hc).imp id (fun z => List.mem_singleton.mp z)) (Nat.le_of_ble_eq_true rfl) vc_29 rfl q1319 q1320 q1321 q140 q1322 pa224 hn)
theorem n426_116 : Snd mt G 426 116 (oIfEq 183 119) := w_if_eq (hm := mm426) dX5_clause_116 rfl
theorem n426_119 : Snd mt G 426 119 (oConst (.int 2) 120) := w_iconst (hm := mm426) dX5_clause_119 rfl
theorem n426_120 : Snd mt G 426 120 (oIstore 4 122) := w_istore (hm := mm426) dX5_clause_120 (Nat.le_of_ble_eq_true rfl)
theorem n426_122 : Snd mt G 426 122 (oGoto 183) := w_goto (hm := mm426) dX5_clause_122 rfl
theorem n426_125 : Snd mt G 426 125 (oAload 3 126) := w_aload_n (hm := mm426) dX5_clause_125
theorem n426_126 : Snd mt G 426 126 (oGets 1003 128) := w_ldcS (hm := mm426) (j := 3) dX5_clause_126 sr_3 rfl
theorem n426_128 : Snd mt G 426 128 (oCall 2 (fV [30, 1030] 224 3) 0 131 xOut) := s_callV (m' := 224) (n := 1) xsh_out (w_xok0 mm426) (w_cal mm426 mm224 pn_J9 (Nat.le_of_ble_eq_true rfl) (Nat.le_of_ble_eq_true rfl)) (fun h b as hc hn => w_run_V (ci := 29) mm426 mm224 dX5_clause_128 ((List.mem_cons.mp hc).imp id (fun z => List.mem_singleton.mp z)) (Nat.le_of_ble_eq_true rfl) vc_29 rfl q1319 q1320 q1321 q140 q1322 pa224 hn)
theorem n426_131 : Snd mt G 426 131 (oIfEq 183 134) := w_if_eq (hm := mm426) dX5_clause_131 rfl
theorem n426_134 : Snd mt G 426 134 (oConst (.int 3) 135) := w_iconst (hm := mm426) dX5_clause_134 rfl
theorem n426_135 : Snd mt G 426 135 (oIstore 4 137) := w_istore (hm := mm426) dX5_clause_135 (Nat.le_of_ble_eq_true rfl)
theorem n426_137 : Snd mt G 426 137 (oGoto 183) := w_goto (hm := mm426) dX5_clause_137 rfl
theorem n426_140 : Snd mt G 426 140 (oAload 3 141) := w_aload_n (hm := mm426) dX5_clause_140
theorem n426_141 : Snd mt G 426 141 (oGets 1004 143) := w_ldcS (hm := mm426) (j := 4) dX5_clause_141 sr_4 rfl
theorem n426_143 : Snd mt G 426 143 (oCall 2 (fV [30, 1030] 224 3) 0 146 xOut) := s_callV (m' := 224) (n := 1) xsh_out (w_xok0 mm426) (w_cal mm426 mm224 pn_J9 (Nat.le_of_ble_eq_true rfl) (Nat.le_of_ble_eq_true rfl)) (fun h b as hc hn => w_run_V (ci := 29) mm426 mm224 dX5_clause_143 ((List.mem_cons.mp hc).imp id (fun z => List.mem_singleton.mp z)) (Nat.le_of_ble_eq_true rfl) vc_29 rfl q1319 q1320 q1321 q140 q1322 pa224 hn)
theorem n426_146 : Snd mt G 426 146 (oIfEq 183 149) := w_if_eq (hm := mm426) dX5_clause_146 rfl
theorem n426_149 : Snd mt G 426 149 (oConst (.int 4) 150) := w_iconst (hm := mm426) dX5_clause_149 rfl
theorem n426_150 : Snd mt G 426 150 (oIstore 4 152) := w_istore (hm := mm426) dX5_clause_150 (Nat.le_of_ble_eq_true rfl)
theorem n426_152 : Snd mt G 426 152 (oGoto 183) := w_goto (hm := mm426) dX5_clause_152 rfl
theorem n426_155 : Snd mt G 426 155 (oAload 3 156) := w_aload_n (hm := mm426) dX5_clause_155
theorem n426_156 : Snd mt G 426 156 (oGets 1005 158) := w_ldcS (hm := mm426) (j := 5) dX5_clause_156 sr_5 rfl
theorem n426_158 : Snd mt G 426 158 (oCall 2 (fV [30, 1030] 224 3) 0 161 xOut) := s_callV (m' := 224) (n := 1) xsh_out (w_xok0 mm426) (w_cal mm426 mm224 pn_J9 (Nat.le_of_ble_eq_true rfl) (Nat.le_of_ble_eq_true rfl)) (fun h b as hc hn => w_run_V (ci := 29) mm426 mm224 dX5_clause_158 ((List.mem_cons.mp hc).imp id (fun z => List.mem_singleton.mp z)) (Nat.le_of_ble_eq_true rfl) vc_29 rfl q1319 q1320 q1321 q140 q1322 pa224 hn)
theorem n426_161 : Snd mt G 426 161 (oIfEq 183 164) := w_if_eq (hm := mm426) dX5_clause_161 rfl
theorem n426_164 : Snd mt G 426 164 (oConst (.int 5) 165) := w_iconst (hm := mm426) dX5_clause_164 rfl
theorem n426_165 : Snd mt G 426 165 (oIstore 4 167) := w_istore (hm := mm426) dX5_clause_165 (Nat.le_of_ble_eq_true rfl)
theorem n426_167 : Snd mt G 426 167 (oGoto 183) := w_goto (hm := mm426) dX5_clause_167 rfl
theorem n426_170 : Snd mt G 426 170 (oAload 3 171) := w_aload_n (hm := mm426) dX5_clause_170
theorem n426_171 : Snd mt G 426 171 (oGets 1006 173) := w_ldcS (hm := mm426) (j := 6) dX5_clause_171 sr_6 rfl
theorem n426_173 : Snd mt G 426 173 (oCall 2 (fV [30, 1030] 224 3) 0 176 xOut) := s_callV (m' := 224) (n := 1) xsh_out (w_xok0 mm426) (w_cal mm426 mm224 pn_J9 (Nat.le_of_ble_eq_true rfl) (Nat.le_of_ble_eq_true rfl)) (fun h b as hc hn => w_run_V (ci := 29) mm426 mm224 dX5_clause_173 ((List.mem_cons.mp hc).imp id (fun z => List.mem_singleton.mp z)) (Nat.le_of_ble_eq_true rfl) vc_29 rfl q1319 q1320 q1321 q140 q1322 pa224 hn)
theorem n426_176 : Snd mt G 426 176 (oIfEq 183 179) := w_if_eq (hm := mm426) dX5_clause_176 rfl
theorem n426_179 : Snd mt G 426 179 (oConst (.int 6) 181) := w_bipush (hm := mm426) dX5_clause_179 (by decide)
theorem n426_181 : Snd mt G 426 181 (oIstore 4 183) := w_istore (hm := mm426) dX5_clause_181 (Nat.le_of_ble_eq_true rfl)
theorem n426_183 : Snd mt G 426 183 (oIload 4 185) := w_iload (hm := mm426) dX5_clause_183
theorem n426_185 : Snd mt G 426 185 (oSwitch sw426_185) := w_tableL (hm := mm426) (dfl := 231) (L := [228, 228, 228, 228, 228, 228, 228]) dX5_clause_185 rfl rfl (by decide +kernel)
theorem n426_228 : Snd mt G 426 228 (oGoto 236) := w_goto (hm := mm426) dX5_clause_228 rfl
theorem n426_231 : Snd mt G 426 231 (oAload 0 232) := w_aload_n (hm := mm426) dX5_clause_231
theorem n426_232 : Snd mt G 426 232 (oCall 1 (fV [6] 428 1) 0 235 xOut) := s_callV (m' := 428) (n := 0) xsh_out (w_xok0 mm426) (w_cal mm426 mm428 pn_X5 (Nat.le_of_ble_eq_true rfl) (Nat.le_of_ble_eq_true rfl)) (fun h b as hc hn => w_run_V (ci := 5) mm426 mm428 dX5_clause_232 (Or.inl (List.mem_singleton.mp hc)) (Nat.le_of_ble_eq_true rfl) vc_5 rfl q1333 q1335 qs27 q152 q1336 pa428 hn)
theorem n426_235 : Snd mt G 426 235 (oThrow [7]) := w_throw (hm := mm426) dX5_clause_235 (List.forall_mem_cons.mpr ⟨⟨6, _, rfl, (Nat.le_of_ble_eq_true rfl), vc_6⟩, (fun t ht => nomatch ht)⟩) rfl
theorem n426_236 : Snd mt G 426 236 (oIload 1 237) := w_iload_n (hm := mm426) dX5_clause_236
theorem n426_237 : Snd mt G 426 237 (oConst (.int 20) 239) := w_bipush (hm := mm426) dX5_clause_237 (by decide)
theorem n426_239 : Snd mt G 426 239 (oCmpEq 242 255) := w_icmp_ne (hm := mm426) dX5_clause_239 rfl
theorem n426_242 : Snd mt G 426 242 (oNew 7 8 nfX6 245) := w_new (hm := mm426) (ci := 6) (T9 := TX6) (ty := tyX6) dX5_clause_242 (Nat.le_of_ble_eq_true rfl) vc_6 tyX6_ok (fun _ _ => rfl) q1337 q1338 q153
theorem n426_245 : Snd mt G 426 245 (oDup 246) := w_dup (hm := mm426) dX5_clause_245
theorem n426_246 : Snd mt G 426 246 (oConst (.int 3) 247) := w_iconst (hm := mm426) dX5_clause_246 rfl
theorem n426_247 : Snd mt G 426 247 (oAload 0 248) := w_aload_n (hm := mm426) dX5_clause_247
theorem n426_248 : Snd mt G 426 248 (oGetf [6] 2 251) := w_getf (hm := mm426) dX5_clause_248 (fok1 (k := 2) (T := TX5) 5 (Nat.le_of_ble_eq_true rfl) vc_5 (Nat.le_of_ble_eq_true rfl) q1203)
theorem n426_251 : Snd mt G 426 251 (oCall 3 (fI 443 3) 0 254 xOut) := s_callI (m' := 443) (n := 2) xsh_out (w_xok0 mm426) (w_cal mm426 mm443 pn_X6 (Nat.le_of_ble_eq_true rfl) (Nat.le_of_ble_eq_true rfl)) (fun h b as hn => w_run_I mm426 mm443 dX5_clause_251 rfl rfl q1346 q1347 q153 q1348 pa443 hn)
theorem n426_254 : Snd mt G 426 254 (oThrow [7]) := w_throw (hm := mm426) dX5_clause_254 (List.forall_mem_cons.mpr ⟨⟨6, _, rfl, (Nat.le_of_ble_eq_true rfl), vc_6⟩, (fun t ht => nomatch ht)⟩) rfl
theorem n426_255 : Snd mt G 426 255 (oAload 0 256) := w_aload_n (hm := mm426) dX5_clause_255
theorem n426_256 : Snd mt G 426 256 (oDup 257) := w_dup (hm := mm426) dX5_clause_256
theorem n426_257 : Snd mt G 426 257 (oGetf [6] 2 260) := w_getf (hm := mm426) dX5_clause_257 (fok1 (k := 2) (T := TX5) 5 (Nat.le_of_ble_eq_true rfl) vc_5 (Nat.le_of_ble_eq_true rfl) q1203)
theorem n426_260 : Snd mt G 426 260 (oAload 2 261) := w_aload_n (hm := mm426) dX5_clause_260
theorem n426_261 : Snd mt G 426 261 (oCall 1 (fV [30, 1030] 215 1) 0 264 xOut) := s_callV (m' := 215) (n := 0) xsh_out (w_xok0 mm426) (w_cal mm426 mm215 pn_J9 (Nat.le_of_ble_eq_true rfl) (Nat.le_of_ble_eq_true rfl)) (fun h b as hc hn => w_run_V (ci := 29) mm426 mm215 dX5_clause_261 ((List.mem_cons.mp hc).imp id (fun z => List.mem_singleton.mp z)) (Nat.le_of_ble_eq_true rfl) vc_29 rfl q1365 q368 q369 q140 q370 pa215 hn)
theorem n426_264 : Snd mt G 426 264 (oBin (fun x y => x + y) 265) := w_iadd (hm := mm426) dX5_clause_264
theorem n426_265 : Snd mt G 426 265 (oPutf [6] 2 .int 268) := w_putf (hm := mm426) dX5_clause_265 (pok1 (k := 2) (T := TX5) 5 (Nat.le_of_ble_eq_true rfl) vc_5 (Nat.le_of_ble_eq_true rfl) rfl pd_X5_2 q1203)
theorem n426_268 : Snd mt G 426 268 (oAload 2 269) := w_aload_n (hm := mm426) dX5_clause_268
theorem n426_269 : Snd mt G 426 269 (oAstore 3 270) := w_astore_n (hm := mm426) dX5_clause_269 (Nat.le_of_ble_eq_true rfl)
theorem n426_270 : Snd mt G 426 270 (oConst (.int (-1)) 271) := w_iconst (hm := mm426) dX5_clause_270 rfl
theorem n426_271 : Snd mt G 426 271 (oIstore 4 273) := w_istore (hm := mm426) dX5_clause_271 (Nat.le_of_ble_eq_true rfl)
theorem n426_273 : Snd mt G 426 273 (oAload 3 274) := w_aload_n (hm := mm426) dX5_clause_273
theorem n426_274 : Snd mt G 426 274 (oCall 1 (fV [30, 1030] 222 2) 0 277 xOut) := s_callV (m' := 222) (n := 0) xsh_out (w_xok0 mm426) (w_cal mm426 mm222 pn_J9 (Nat.le_of_ble_eq_true rfl) (Nat.le_of_ble_eq_true rfl)) (fun h b as hc hn => w_run_V (ci := 29) mm426 mm222 dX5_clause_274 ((List.mem_cons.mp hc).imp id (fun z => List.mem_singleton.mp z)) (Nat.le_of_ble_eq_true rfl) vc_29 rfl q1257 q1258 q1259 q140 q1260 pa222 hn)
theorem n426_277 : Snd mt G 426 277 (oSwitch sw426_277) := w_lookupL (hm := mm426) (dfl := 423) (L := [((-934922479), 381), (97299, 336), (3321596, 351), (3641717, 411), (108406388, 366), (108511772, 396)]) dX5_clause_277 (by decide +kernel) rfl (by decide +kernel)
theorem n426_336 : Snd mt G 426 336 (oAload 3 337) := w_aload_n (hm := mm426) dX5_clause_336
theorem n426_337 : Snd mt G 426 337 (oGets 1000 339) := w_ldcS (hm := mm426) (j := 0) dX5_clause_337 sr_0 rfl
theorem n426_339 : Snd mt G 426 339 (oCall 2 (fV [30, 1030] 224 3) 0 342 xOut) := s_callV (m' := 224) (n := 1) xsh_out (w_xok0 mm426) (w_cal mm426 mm224 pn_J9 (Nat.le_of_ble_eq_true rfl) (Nat.le_of_ble_eq_true rfl)) (fun h b as hc hn => w_run_V (ci := 29) mm426 mm224 dX5_clause_339 ((List.mem_cons.mp hc).imp id (fun z => List.mem_singleton.mp z)) (Nat.le_of_ble_eq_true rfl) vc_29 rfl q1319 q1320 q1321 q140 q1322 pa224 hn)
theorem n426_342 : Snd mt G 426 342 (oIfEq 423 345) := w_if_eq (hm := mm426) dX5_clause_342 rfl
theorem n426_345 : Snd mt G 426 345 (oConst (.int 0) 346) := w_iconst (hm := mm426) dX5_clause_345 rfl
theorem n426_346 : Snd mt G 426 346 (oIstore 4 348) := w_istore (hm := mm426) dX5_clause_346 (Nat.le_of_ble_eq_true rfl)
theorem n426_348 : Snd mt G 426 348 (oGoto 423) := w_goto (hm := mm426) dX5_clause_348 rfl
theorem n426_351 : Snd mt G 426 351 (oAload 3 352) := w_aload_n (hm := mm426) dX5_clause_351
theorem n426_352 : Snd mt G 426 352 (oGets 1001 354) := w_ldcS (hm := mm426) (j := 1) dX5_clause_352 sr_1 rfl
theorem n426_354 : Snd mt G 426 354 (oCall 2 (fV [30, 1030] 224 3) 0 357 xOut) := s_callV (m' := 224) (n := 1) xsh_out (w_xok0 mm426) (w_cal mm426 mm224 pn_J9 (Nat.le_of_ble_eq_true rfl) (Nat.le_of_ble_eq_true rfl)) (fun h b as hc hn => w_run_V (ci := 29) mm426 mm224 dX5_clause_354 ((List.mem_cons.mp hc).imp id (fun z => List.mem_singleton.mp z)) (Nat.le_of_ble_eq_true rfl) vc_29 rfl q1319 q1320 q1321 q140 q1322 pa224 hn)
theorem n426_357 : Snd mt G 426 357 (oIfEq 423 360) := w_if_eq (hm := mm426) dX5_clause_357 rfl
theorem n426_360 : Snd mt G 426 360 (oConst (.int 1) 361) := w_iconst (hm := mm426) dX5_clause_360 rfl
theorem n426_361 : Snd mt G 426 361 (oIstore 4 363) := w_istore (hm := mm426) dX5_clause_361 (Nat.le_of_ble_eq_true rfl)
theorem n426_363 : Snd mt G 426 363 (oGoto 423) := w_goto (hm := mm426) dX5_clause_363 rfl
theorem n426_366 : Snd mt G 426 366 (oAload 3 367) := w_aload_n (hm := mm426) dX5_clause_366
theorem n426_367 : Snd mt G 426 367 (oGets 1004 369) := w_ldcS (hm := mm426) (j := 4) dX5_clause_367 sr_4 rfl
theorem n426_369 : Snd mt G 426 369 (oCall 2 (fV [30, 1030] 224 3) 0 372 xOut) := s_callV (m' := 224) (n := 1) xsh_out (w_xok0 mm426) (w_cal mm426 mm224 pn_J9 (Nat.le_of_ble_eq_true rfl) (Nat.le_of_ble_eq_true rfl)) (fun h b as hc hn => w_run_V (ci := 29) mm426 mm224 dX5_clause_369 ((List.mem_cons.mp hc).imp id (fun z => List.mem_singleton.mp z)) (Nat.le_of_ble_eq_true rfl) vc_29 rfl q1319 q1320 q1321 q140 q1322 pa224 hn)
theorem n426_372 : Snd mt G 426 372 (oIfEq 423 375) := w_if_eq (hm := mm426) dX5_clause_372 rfl
theorem n426_375 : Snd mt G 426 375 (oConst (.int 2) 376) := w_iconst (hm := mm426) dX5_clause_375 rfl
theorem n426_376 : Snd mt G 426 376 (oIstore 4 378) := w_istore (hm := mm426) dX5_clause_376 (Nat.le_of_ble_eq_true rfl)
theorem n426_378 : Snd mt G 426 378 (oGoto 423) := w_goto (hm := mm426) dX5_clause_378 rfl
theorem n426_381 : Snd mt G 426 381 (oAload 3 382) := w_aload_n (hm := mm426) dX5_clause_381
theorem n426_382 : Snd mt G 426 382 (oGets 1005 384) := w_ldcS (hm := mm426) (j := 5) dX5_clause_382 sr_5 rfl
theorem n426_384 : Snd mt G 426 384 (oCall 2 (fV [30, 1030] 224 3) 0 387 xOut) := s_callV (m' := 224) (n := 1) xsh_out (w_xok0 mm426) (w_cal mm426 mm224 pn_J9 (Nat.le_of_ble_eq_true rfl) (Nat.le_of_ble_eq_true rfl)) (fun h b as hc hn => w_run_V (ci := 29) mm426 mm224 dX5_clause_384 ((List.mem_cons.mp hc).imp id (fun z => List.mem_singleton.mp z)) (Nat.le_of_ble_eq_true rfl) vc_29 rfl q1319 q1320 q1321 q140 q1322 pa224 hn)
theorem n426_387 : Snd mt G 426 387 (oIfEq 423 390) := w_if_eq (hm := mm426) dX5_clause_387 rfl
theorem n426_390 : Snd mt G 426 390 (oConst (.int 3) 391) := w_iconst (hm := mm426) dX5_clause_390 rfl
theorem n426_391 : Snd mt G 426 391 (oIstore 4 393) := w_istore (hm := mm426) dX5_clause_391 (Nat.le_of_ble_eq_true rfl)
theorem n426_393 : Snd mt G 426 393 (oGoto 423) := w_goto (hm := mm426) dX5_clause_393 rfl
theorem n426_396 : Snd mt G 426 396 (oAload 3 397) := w_aload_n (hm := mm426) dX5_clause_396
theorem n426_397 : Snd mt G 426 397 (oGets 1002 399) := w_ldcS (hm := mm426) (j := 2) dX5_clause_397 sr_2 rfl
theorem n426_399 : Snd mt G 426 399 (oCall 2 (fV [30, 1030] 224 3) 0 402 xOut) := s_callV (m' := 224) (n := 1) xsh_out (w_xok0 mm426) (w_cal mm426 mm224 pn_J9 (Nat.le_of_ble_eq_true rfl) (Nat.le_of_ble_eq_true rfl)) (fun h b as hc hn => w_run_V (ci := 29) mm426 mm224 dX5_clause_399 ((List.mem_cons.mp hc).imp id (fun z => List.mem_singleton.mp z)) (Nat.le_of_ble_eq_true rfl) vc_29 rfl q1319 q1320 q1321 q140 q1322 pa224 hn)
theorem n426_402 : Snd mt G 426 402 (oIfEq 423 405) := w_if_eq (hm := mm426) dX5_clause_402 rfl
theorem n426_405 : Snd mt G 426 405 (oConst (.int 4) 406) := w_iconst (hm := mm426) dX5_clause_405 rfl
theorem n426_406 : Snd mt G 426 406 (oIstore 4 408) := w_istore (hm := mm426) dX5_clause_406 (Nat.le_of_ble_eq_true rfl)
theorem n426_408 : Snd mt G 426 408 (oGoto 423) := w_goto (hm := mm426) dX5_clause_408 rfl
theorem n426_411 : Snd mt G 426 411 (oAload 3 412) := w_aload_n (hm := mm426) dX5_clause_411
theorem n426_412 : Snd mt G 426 412 (oGets 1006 414) := w_ldcS (hm := mm426) (j := 6) dX5_clause_412 sr_6 rfl
theorem n426_414 : Snd mt G 426 414 (oCall 2 (fV [30, 1030] 224 3) 0 417 xOut) := s_callV (m' := 224) (n := 1) xsh_out (w_xok0 mm426) (w_cal mm426 mm224 pn_J9 (Nat.le_of_ble_eq_true rfl) (Nat.le_of_ble_eq_true rfl)) (fun h b as hc hn => w_run_V (ci := 29) mm426 mm224 dX5_clause_414 ((List.mem_cons.mp hc).imp id (fun z => List.mem_singleton.mp z)) (Nat.le_of_ble_eq_true rfl) vc_29 rfl q1319 q1320 q1321 q140 q1322 pa224 hn)
theorem n426_417 : Snd mt G 426 417 (oIfEq 423 420) := w_if_eq (hm := mm426) dX5_clause_417 rfl
theorem n426_420 : Snd mt G 426 420 (oConst (.int 5) 421) := w_iconst (hm := mm426) dX5_clause_420 rfl
theorem n426_421 : Snd mt G 426 421 (oIstore 4 423) := w_istore (hm := mm426) dX5_clause_421 (Nat.le_of_ble_eq_true rfl)
theorem n426_423 : Snd mt G 426 423 (oIload 4 425) := w_iload (hm := mm426) dX5_clause_423
theorem n426_425 : Snd mt G 426 425 (oSwitch sw426_425) := w_tableL (hm := mm426) (dfl := 619) (L := [464, 523, 523, 561, 601, 601]) dX5_clause_425 rfl rfl (by decide +kernel)
theorem n426_464 : Snd mt G 426 464 (oAload 0 465) := w_aload_n (hm := mm426) dX5_clause_464
theorem n426_465 : Snd mt G 426 465 (oConst (.int 0) 466) := w_iconst (hm := mm426) dX5_clause_465 rfl
theorem n426_466 : Snd mt G 426 466 (oConst (.int 11) 468) := w_bipush (hm := mm426) dX5_clause_466 (by decide)
theorem n426_468 : Snd mt G 426 468 (oCall 3 (fV [6] 429 5) 0 471 xOut) := s_callV (m' := 429) (n := 2) xsh_out (w_xok0 mm426) (w_cal mm426 mm429 pn_X5 (Nat.le_of_ble_eq_true rfl) (Nat.le_of_ble_eq_true rfl)) (fun h b as hc hn => w_run_V (ci := 5) mm426 mm429 dX5_clause_468 (Or.inl (List.mem_singleton.mp hc)) (Nat.le_of_ble_eq_true rfl) vc_5 rfl q1366 q1368 qs28 q152 q1369 pa429 hn)
theorem n426_471 : Snd mt G 426 471 (oIstore 5 473) := w_istore (hm := mm426) dX5_clause_471 (Nat.le_of_ble_eq_true rfl)
theorem n426_473 : Snd mt G 426 473 (oAload 0 474) := w_aload_n (hm := mm426) dX5_clause_473
theorem n426_474 : Snd mt G 426 474 (oCall 1 (fV [6] 425 1) 0 477 xOut) := s_callV (m' := 425) (n := 0) xsh_out (w_xok0 mm426) (w_cal mm426 mm425 pn_X5 (Nat.le_of_ble_eq_true rfl) (Nat.le_of_ble_eq_true rfl)) (fun h b as hc hn => w_run_V (ci := 5) mm426 mm425 dX5_clause_474 (Or.inl (List.mem_singleton.mp hc)) (Nat.le_of_ble_eq_true rfl) vc_5 rfl q1220 q1222 qs24 q152 q1223 pa425 hn)
theorem n426_477 : Snd mt G 426 477 (oPop 478) := w_pop (hm := mm426) dX5_clause_477
theorem n426_478 : Snd mt G 426 478 (oAload 0 479) := w_aload_n (hm := mm426) dX5_clause_478
theorem n426_479 : Snd mt G 426 479 (oGetf [6] 2 482) := w_getf (hm := mm426) dX5_clause_479 (fok1 (k := 2) (T := TX5) 5 (Nat.le_of_ble_eq_true rfl) vc_5 (Nat.le_of_ble_eq_true rfl) q1203)
theorem n426_482 : Snd mt G 426 482 (oIstore 6 484) := w_istore (hm := mm426) dX5_clause_482 (Nat.le_of_ble_eq_true rfl)
theorem n426_484 : Snd mt G 426 484 (oAload 0 485) := w_aload_n (hm := mm426) dX5_clause_484
theorem n426_485 : Snd mt G 426 485 (oConst (.int 0) 486) := w_iconst (hm := mm426) dX5_clause_485 rfl
theorem n426_486 : Snd mt G 426 486 (oConst (.int 11) 488) := w_bipush (hm := mm426) dX5_clause_486 (by decide)
theorem n426_488 : Snd mt G 426 488 (oCall 3 (fV [6] 429 5) 0 491 xOut) := s_callV (m' := 429) (n := 2) xsh_out (w_xok0 mm426) (w_cal mm426 mm429 pn_X5 (Nat.le_of_ble_eq_true rfl) (Nat.le_of_ble_eq_true rfl)) (fun h b as hc hn => w_run_V (ci := 5) mm426 mm429 dX5_clause_488 (Or.inl (List.mem_singleton.mp hc)) (Nat.le_of_ble_eq_true rfl) vc_5 rfl q1366 q1368 qs28 q152 q1369 pa429 hn)
theorem n426_491 : Snd mt G 426 491 (oIstore 7 493) := w_istore (hm := mm426) dX5_clause_491 (Nat.le_of_ble_eq_true rfl)
theorem n426_493 : Snd mt G 426 493 (oIload 5 495) := w_iload (hm := mm426) dX5_clause_493
theorem n426_495 : Snd mt G 426 495 (oIload 7 497) := w_iload (hm := mm426) dX5_clause_495
theorem n426_497 : Snd mt G 426 497 (oCmpEq 500 511) := w_icmp_ne (hm := mm426) dX5_clause_497 rfl
theorem n426_500 : Snd mt G 426 500 (oNew 7 8 nfX6 503) := w_new (hm := mm426) (ci := 6) (T9 := TX6) (ty := tyX6) dX5_clause_500 (Nat.le_of_ble_eq_true rfl) vc_6 tyX6_ok (fun _ _ => rfl) q1337 q1338 q153
theorem n426_503 : Snd mt G 426 503 (oDup 504) := w_dup (hm := mm426) dX5_clause_503
theorem n426_504 : Snd mt G 426 504 (oConst (.int 2) 505) := w_iconst (hm := mm426) dX5_clause_504 rfl
theorem n426_505 : Snd mt G 426 505 (oIload 6 507) := w_iload (hm := mm426) dX5_clause_505
theorem n426_507 : Snd mt G 426 507 (oCall 3 (fI 443 3) 0 510 xOut) := s_callI (m' := 443) (n := 2) xsh_out (w_xok0 mm426) (w_cal mm426 mm443 pn_X6 (Nat.le_of_ble_eq_true rfl) (Nat.le_of_ble_eq_true rfl)) (fun h b as hn => w_run_I mm426 mm443 dX5_clause_507 rfl rfl q1346 q1347 q153 q1348 pa443 hn)
theorem n426_510 : Snd mt G 426 510 (oThrow [7]) := w_throw (hm := mm426) dX5_clause_510 (List.forall_mem_cons.mpr ⟨⟨6, _, rfl, (Nat.le_of_ble_eq_true rfl), vc_6⟩, (fun t ht => nomatch ht)⟩) rfl
theorem n426_511 : Snd mt G 426 511 (oNew 8 3 nfX8 514) := w_new (hm := mm426) (ci := 7) (T9 := TX8) (ty := tyX8) dX5_clause_511 (Nat.le_of_ble_eq_true rfl) vc_7 tyX8_ok (fun _ _ => rfl) q1375 q1376 q155
theorem n426_514 : Snd mt G 426 514 (oDup 515) := w_dup (hm := mm426) dX5_clause_514
theorem n426_515 : Snd mt G 426 515 (oIload 5 517) := w_iload (hm := mm426) dX5_clause_515
theorem n426_517 : Snd mt G 426 517 (oIload 7 519) := w_iload (hm := mm426) dX5_clause_517
theorem n426_519 : Snd mt G 426 519 (oCall 3 (fI 451 3) 0 522 xOut) := s_callI (m' := 451) (n := 2) xsh_out (w_xok0 mm426) (w_cal mm426 mm451 pn_X8 (Nat.le_of_ble_eq_true rfl) (Nat.le_of_ble_eq_true rfl)) (fun h b as hn => w_run_I mm426 mm451 dX5_clause_519 rfl rfl q1377 q1378 q155 q1379 pa451 hn)
theorem n426_522 : Snd mt G 426 522 (oRetA) := w_aret (hm := mm426) dX5_clause_522 rfl (Or.inl ⟨_, rfl⟩)
theorem n426_523 : Snd mt G 426 523 (oAload 0 524) := w_aload_n (hm := mm426) dX5_clause_523
theorem n426_524 : Snd mt G 426 524 (oConst (.int 0) 525) := w_iconst (hm := mm426) dX5_clause_524 rfl
theorem n426_525 : Snd mt G 426 525 (oConst (.int 3) 526) := w_iconst (hm := mm426) dX5_clause_525 rfl
theorem n426_526 : Snd mt G 426 526 (oCall 3 (fV [6] 429 5) 0 529 xOut) := s_callV (m' := 429) (n := 2) xsh_out (w_xok0 mm426) (w_cal mm426 mm429 pn_X5 (Nat.le_of_ble_eq_true rfl) (Nat.le_of_ble_eq_true rfl)) (fun h b as hc hn => w_run_V (ci := 5) mm426 mm429 dX5_clause_526 (Or.inl (List.mem_singleton.mp hc)) (Nat.le_of_ble_eq_true rfl) vc_5 rfl q1366 q1368 qs28 q152 q1369 pa429 hn)
theorem n426_529 : Snd mt G 426 529 (oIstore 5 531) := w_istore (hm := mm426) dX5_clause_529 (Nat.le_of_ble_eq_true rfl)
theorem n426_531 : Snd mt G 426 531 (oNew 9 4 nfX9 534) := w_new (hm := mm426) (ci := 8) (T9 := TX9) (ty := tyX9) dX5_clause_531 (Nat.le_of_ble_eq_true rfl) vc_8 tyX9_ok (fun _ _ => rfl) q1395 q1396 q156
theorem n426_534 : Snd mt G 426 534 (oDup 535) := w_dup (hm := mm426) dX5_clause_534
theorem n426_535 : Snd mt G 426 535 (oAload 2 536) := w_aload_n (hm := mm426) dX5_clause_535
theorem n426_536 : Snd mt G 426 536 (oGets 1001 538) := w_ldcS (hm := mm426) (j := 1) dX5_clause_536 sr_1 rfl
theorem n426_538 : Snd mt G 426 538 (oCall 2 (fV [30, 1030] 224 3) 0 541 xOut) := s_callV (m' := 224) (n := 1) xsh_out (w_xok0 mm426) (w_cal mm426 mm224 pn_J9 (Nat.le_of_ble_eq_true rfl) (Nat.le_of_ble_eq_true rfl)) (fun h b as hc hn => w_run_V (ci := 29) mm426 mm224 dX5_clause_538 ((List.mem_cons.mp hc).imp id (fun z => List.mem_singleton.mp z)) (Nat.le_of_ble_eq_true rfl) vc_29 rfl q1319 q1320 q1321 q140 q1322 pa224 hn)
theorem n426_541 : Snd mt G 426 541 (oIfEq 549 544) := w_if_eq (hm := mm426) dX5_clause_541 rfl
theorem n426_544 : Snd mt G 426 544 (oConst (.int 108) 546) := w_bipush (hm := mm426) dX5_clause_544 (by decide)
theorem n426_546 : Snd mt G 426 546 (oGoto 551) := w_goto (hm := mm426) dX5_clause_546 rfl
theorem n426_549 : Snd mt G 426 549 (oConst (.int 117) 551) := w_bipush (hm := mm426) dX5_clause_549 (by decide)
theorem n426_551 : Snd mt G 426 551 (oIload 5 553) := w_iload (hm := mm426) dX5_clause_551
theorem n426_553 : Snd mt G 426 553 (oAload 0 554) := w_aload_n (hm := mm426) dX5_clause_553
theorem n426_554 : Snd mt G 426 554 (oCall 1 (fV [6] 431 3) 0 557 xOut) := s_callV (m' := 431) (n := 0) xsh_out (w_xok0 mm426) (w_cal mm426 mm431 pn_X5 (Nat.le_of_ble_eq_true rfl) (Nat.le_of_ble_eq_true rfl)) (fun h b as hc hn => w_run_V (ci := 5) mm426 mm431 dX5_clause_554 (Or.inl (List.mem_singleton.mp hc)) (Nat.le_of_ble_eq_true rfl) vc_5 rfl q1397 q1399 qs30 q152 q1400 pa431 hn)
theorem n426_557 : Snd mt G 426 557 (oCall 4 (fI 455 4) 0 560 xOut) := s_callI (m' := 455) (n := 3) xsh_out (w_xok0 mm426) (w_cal mm426 mm455 pn_X9 (Nat.le_of_ble_eq_true rfl) (Nat.le_of_ble_eq_true rfl)) (fun h b as hn => w_run_I mm426 mm455 dX5_clause_557 rfl rfl q1483 q1484 q156 q1485 pa455 hn)
theorem n426_560 : Snd mt G 426 560 (oRetA) := w_aret (hm := mm426) dX5_clause_560 rfl (Or.inl ⟨_, rfl⟩)
theorem n426_561 : Snd mt G 426 561 (oAload 0 562) := w_aload_n (hm := mm426) dX5_clause_561
theorem n426_562 : Snd mt G 426 562 (oConst (.int 0) 563) := w_iconst (hm := mm426) dX5_clause_562 rfl
theorem n426_563 : Snd mt G 426 563 (oConst (.int 11) 565) := w_bipush (hm := mm426) dX5_clause_563 (by decide)
theorem n426_565 : Snd mt G 426 565 (oCall 3 (fV [6] 429 5) 0 568 xOut) := s_callV (m' := 429) (n := 2) xsh_out (w_xok0 mm426) (w_cal mm426 mm429 pn_X5 (Nat.le_of_ble_eq_true rfl) (Nat.le_of_ble_eq_true rfl)) (fun h b as hc hn => w_run_V (ci := 5) mm426 mm429 dX5_clause_565 (Or.inl (List.mem_singleton.mp hc)) (Nat.le_of_ble_eq_true rfl) vc_5 rfl q1366 q1368 qs28 q152 q1369 pa429 hn)
theorem n426_568 : Snd mt G 426 568 (oIstore 5 570) := w_istore (hm := mm426) dX5_clause_568 (Nat.le_of_ble_eq_true rfl)
theorem n426_570 : Snd mt G 426 570 (oAload 0 571) := w_aload_n (hm := mm426) dX5_clause_570
theorem n426_571 : Snd mt G 426 571 (oConst (.int 0) 572) := w_iconst (hm := mm426) dX5_clause_571 rfl
theorem n426_572 : Snd mt G 426 572 (oConst (.int 9999) 575) := w_sipush (hm := mm426) dX5_clause_572 (by decide)
theorem n426_575 : Snd mt G 426 575 (oCall 3 (fV [6] 429 5) 0 578 xOut) := s_callV (m' := 429) (n := 2) xsh_out (w_xok0 mm426) (w_cal mm426 mm429 pn_X5 (Nat.le_of_ble_eq_true rfl) (Nat.le_of_ble_eq_true rfl)) (fun h b as hc hn => w_run_V (ci := 5) mm426 mm429 dX5_clause_575 (Or.inl (List.mem_singleton.mp hc)) (Nat.le_of_ble_eq_true rfl) vc_5 rfl q1366 q1368 qs28 q152 q1369 pa429 hn)
theorem n426_578 : Snd mt G 426 578 (oIstore 6 580) := w_istore (hm := mm426) dX5_clause_578 (Nat.le_of_ble_eq_true rfl)
theorem n426_580 : Snd mt G 426 580 (oNew 13 4 nfX13 583) := w_new (hm := mm426) (ci := 12) (T9 := TX13) (ty := tyX13) dX5_clause_580 (Nat.le_of_ble_eq_true rfl) vc_12 tyX13_ok (fun _ _ => rfl) q1498 q1499 q160
theorem n426_583 : Snd mt G 426 583 (oDup 584) := w_dup (hm := mm426) dX5_clause_583
theorem n426_584 : Snd mt G 426 584 (oIload 5 586) := w_iload (hm := mm426) dX5_clause_584
theorem n426_586 : Snd mt G 426 586 (oIload 6 588) := w_iload (hm := mm426) dX5_clause_586
theorem n426_588 : Snd mt G 426 588 (oAload 0 589) := w_aload_n (hm := mm426) dX5_clause_588
theorem n426_589 : Snd mt G 426 589 (oIload 6 591) := w_iload (hm := mm426) dX5_clause_589
theorem n426_591 : Snd mt G 426 591 (oConst (.int 9999) 594) := w_sipush (hm := mm426) dX5_clause_591 (by decide)
theorem n426_594 : Snd mt G 426 594 (oCall 3 (fV [6] 429 5) 0 597 xOut) := s_callV (m' := 429) (n := 2) xsh_out (w_xok0 mm426) (w_cal mm426 mm429 pn_X5 (Nat.le_of_ble_eq_true rfl) (Nat.le_of_ble_eq_true rfl)) (fun h b as hc hn => w_run_V (ci := 5) mm426 mm429 dX5_clause_594 (Or.inl (List.mem_singleton.mp hc)) (Nat.le_of_ble_eq_true rfl) vc_5 rfl q1366 q1368 qs28 q152 q1369 pa429 hn)
theorem n426_597 : Snd mt G 426 597 (oCall 4 (fI 463 4) 0 600 xOut) := s_callI (m' := 463) (n := 3) xsh_out (w_xok0 mm426) (w_cal mm426 mm463 pn_X13 (Nat.le_of_ble_eq_true rfl) (Nat.le_of_ble_eq_true rfl)) (fun h b as hn => w_run_I mm426 mm463 dX5_clause_597 rfl rfl q1500 q1501 q160 q1502 pa463 hn)
theorem n426_600 : Snd mt G 426 600 (oRetA) := w_aret (hm := mm426) dX5_clause_600 rfl (Or.inl ⟨_, rfl⟩)
theorem n426_601 : Snd mt G 426 601 (oNew 9 4 nfX9 604) := w_new (hm := mm426) (ci := 8) (T9 := TX9) (ty := tyX9) dX5_clause_601 (Nat.le_of_ble_eq_true rfl) vc_8 tyX9_ok (fun _ _ => rfl) q1395 q1396 q156
theorem n426_604 : Snd mt G 426 604 (oDup 605) := w_dup (hm := mm426) dX5_clause_604
theorem n426_605 : Snd mt G 426 605 (oAload 2 606) := w_aload_n (hm := mm426) dX5_clause_605
theorem n426_606 : Snd mt G 426 606 (oConst (.int 0) 607) := w_iconst (hm := mm426) dX5_clause_606 rfl
theorem n426_607 : Snd mt G 426 607 (oCall 2 (fV [30, 1030] 225 2) 0 610 xOut) := s_callV (m' := 225) (n := 1) xsh_out (w_xok0 mm426) (w_cal mm426 mm225 pn_J9 (Nat.le_of_ble_eq_true rfl) (Nat.le_of_ble_eq_true rfl)) (fun h b as hc hn => w_run_V (ci := 29) mm426 mm225 dX5_clause_607 ((List.mem_cons.mp hc).imp id (fun z => List.mem_singleton.mp z)) (Nat.le_of_ble_eq_true rfl) vc_29 rfl q1439 q1440 q1441 q140 q1442 pa225 hn)
theorem n426_610 : Snd mt G 426 610 (oConst (.int 0) 611) := w_iconst (hm := mm426) dX5_clause_610 rfl
theorem n426_611 : Snd mt G 426 611 (oAload 0 612) := w_aload_n (hm := mm426) dX5_clause_611
theorem n426_612 : Snd mt G 426 612 (oCall 1 (fV [6] 431 3) 0 615 xOut) := s_callV (m' := 431) (n := 0) xsh_out (w_xok0 mm426) (w_cal mm426 mm431 pn_X5 (Nat.le_of_ble_eq_true rfl) (Nat.le_of_ble_eq_true rfl)) (fun h b as hc hn => w_run_V (ci := 5) mm426 mm431 dX5_clause_612 (Or.inl (List.mem_singleton.mp hc)) (Nat.le_of_ble_eq_true rfl) vc_5 rfl q1397 q1399 qs30 q152 q1400 pa431 hn)
theorem n426_615 : Snd mt G 426 615 (oCall 4 (fI 455 4) 0 618 xOut) := s_callI (m' := 455) (n := 3) xsh_out (w_xok0 mm426) (w_cal mm426 mm455 pn_X9 (Nat.le_of_ble_eq_true rfl) (Nat.le_of_ble_eq_true rfl)) (fun h b as hn => w_run_I mm426 mm455 dX5_clause_615 rfl rfl q1483 q1484 q156 q1485 pa455 hn)
theorem n426_618 : Snd mt G 426 618 (oRetA) := w_aret (hm := mm426) dX5_clause_618 rfl (Or.inl ⟨_, rfl⟩)
theorem n426_619 : Snd mt G 426 619 (oNew 14 2 nfX14 622) := w_new (hm := mm426) (ci := 13) (T9 := TX14) (ty := tyX14) dX5_clause_619 (Nat.le_of_ble_eq_true rfl) vc_13 tyX14_ok (fun _ _ => rfl) q1515 q1516 q161
theorem n426_622 : Snd mt G 426 622 (oDup 623) := w_dup (hm := mm426) dX5_clause_622
theorem n426_623 : Snd mt G 426 623 (oAload 0 624) := w_aload_n (hm := mm426) dX5_clause_623
theorem n426_624 : Snd mt G 426 624 (oConst (.int 0) 625) := w_iconst (hm := mm426) dX5_clause_624 rfl
theorem n426_625 : Snd mt G 426 625 (oConst (.int 3) 626) := w_iconst (hm := mm426) dX5_clause_625 rfl
theorem n426_626 : Snd mt G 426 626 (oCall 3 (fV [6] 429 5) 0 629 xOut) := s_callV (m' := 429) (n := 2) xsh_out (w_xok0 mm426) (w_cal mm426 mm429 pn_X5 (Nat.le_of_ble_eq_true rfl) (Nat.le_of_ble_eq_true rfl)) (fun h b as hc hn => w_run_V (ci := 5) mm426 mm429 dX5_clause_626 (Or.inl (List.mem_singleton.mp hc)) (Nat.le_of_ble_eq_true rfl) vc_5 rfl q1366 q1368 qs28 q152 q1369 pa429 hn)
theorem n426_629 : Snd mt G 426 629 (oCall 2 (fI 465 2) 0 632 xOut) := s_callI (m' := 465) (n := 1) xsh_out (w_xok0 mm426) (w_cal mm426 mm465 pn_X14 (Nat.le_of_ble_eq_true rfl) (Nat.le_of_ble_eq_true rfl)) (fun h b as hn => w_run_I mm426 mm465 dX5_clause_629 rfl rfl q1517 q1518 q161 q1519 pa465 hn)
theorem n426_632 : Snd mt G 426 632 (oRetA) := w_aret (hm := mm426) dX5_clause_632 rfl (Or.inl ⟨_, rfl⟩)
theorem sj426 : ∀ pc, Snd mt G 426 pc (j426 pc) := fun pc => (snd_br ((snd_br ((snd_br ((snd_br ((snd_br ((snd_br ((snd_br ((snd_br ((snd_lf n426_632)) ((snd_lf n426_629)))) ((snd_br ((snd_lf n426_626)) ((snd_lf n426_625)))))) ((snd_br ((snd_br ((snd_lf n426_624)) ((snd_lf n426_623)))) ((snd_lf n426_622)))))) ((snd_br ((snd_br ((snd_br ((snd_lf n426_619)) ((snd_lf n426_618)))) ((snd_br ((snd_lf n426_615)) ((snd_lf n426_612)))))) ((snd_br ((snd_br ((snd_lf n426_611)) ((snd_lf n426_610)))) ((snd_lf n426_607)))))))) ((snd_br ((snd_br ((snd_br ((snd_br ((snd_lf n426_606)) ((snd_lf n426_605)))) ((snd_br ((snd_lf n426_604)) ((snd_lf n426_601)))))) ((snd_br ((snd_br ((snd_lf n426_600)) ((snd_lf n426_597)))) ((snd_lf n426_594)))))) ((snd_br ((snd_br ((snd_br ((snd_lf n426_591)) ((snd_lf n426_589)))) ((snd_br ((snd_lf n426_588)) ((snd_lf n426_586)))))) ((snd_br ((snd_br ((snd_lf n426_584)) ((snd_lf n426_583)))) ((snd_lf n426_580)))))))))) ((snd_br ((snd_br ((snd_br ((snd_br ((snd_br ((snd_lf n426_578)) ((snd_lf n426_575)))) ((snd_br ((snd_lf n426_572)) ((snd_lf n426_571)))))) ((snd_br ((snd_br ((snd_lf n426_570)) ((snd_lf n426_568)))) ((snd_lf n426_565)))))) ((snd_br ((snd_br ((snd_br ((snd_lf n426_563)) ((snd_lf n426_562)))) ((snd_br ((snd_lf n426_561)) ((snd_lf n426_560)))))) ((snd_br ((snd_br ((snd_lf n426_557)) ((snd_lf n426_554)))) ((snd_lf n426_553)))))))) ((snd_br ((snd_br ((snd_br ((snd_br ((snd_lf n426_551)) ((snd_lf n426_549)))) ((snd_br ((snd_lf n426_546)) ((snd_lf n426_544)))))) ((snd_br ((snd_br ((snd_lf n426_541)) ((snd_lf n426_538)))) ((snd_lf n426_536)))))) ((snd_br ((snd_br ((snd_br ((snd_lf n426_535)) ((snd_lf n426_534)))) ((snd_lf n426_531)))) ((snd_br ((snd_br ((snd_lf n426_529)) ((snd_lf n426_526)))) ((snd_lf n426_525)))))))))))) ((snd_br ((snd_br ((snd_br ((snd_br ((snd_br ((snd_br ((snd_lf n426_524)) ((snd_lf n426_523)))) ((snd_br ((snd_lf n426_522)) ((snd_lf n426_519)))))) ((snd_br ((snd_br ((snd_lf n426_517)) ((snd_lf n426_515)))) ((snd_lf n426_514)))))) ((snd_br ((snd_br ((snd_br ((snd_lf n426_511)) ((snd_lf n426_510)))) ((snd_br ((snd_lf n426_507)) ((snd_lf n426_505)))))) ((snd_br ((snd_br ((snd_lf n426_504)) ((snd_lf n426_503)))) ((snd_lf n426_500)))))))) ((snd_br ((snd_br ((snd_br ((snd_br ((snd_lf n426_497)) ((snd_lf n426_495)))) ((snd_br ((snd_lf n426_493)) ((snd_lf n426_491)))))) ((snd_br ((snd_br ((snd_lf n426_488)) ((snd_lf n426_486)))) ((snd_lf n426_485)))))) ((snd_br ((snd_br ((snd_br ((snd_lf n426_484)) ((snd_lf n426_482)))) ((snd_br ((snd_lf n426_479)) ((snd_lf n426_478)))))) ((snd_br ((snd_br ((snd_lf n426_477)) ((snd_lf n426_474)))) ((snd_lf n426_473)))))))))) ((snd_br ((snd_br ((snd_br ((snd_br ((snd_br ((snd_lf n426_471)) ((snd_lf n426_468)))) ((snd_br ((snd_lf n426_466)) ((snd_lf n426_465)))))) ((snd_br ((snd_br ((snd_lf n426_464)) ((snd_lf n426_425)))) ((snd_lf n426_423)))))) ((snd_br ((snd_br ((snd_br ((snd_lf n426_421)) ((snd_lf n426_420)))) ((snd_br ((snd_lf n426_417)) ((snd_lf n426_414)))))) ((snd_br ((snd_br ((snd_lf n426_412)) ((snd_lf n426_411)))) ((snd_lf n426_408)))))))) ((snd_br ((snd_br ((snd_br ((snd_br ((snd_lf n426_406)) ((snd_lf n426_405)))) ((snd_br ((snd_lf n426_402)) ((snd_lf n426_399)))))) ((snd_br ((snd_br ((snd_lf n426_397)) ((snd_lf n426_396)))) ((snd_lf n426_393)))))) ((snd_br ((snd_br ((snd_br ((snd_lf n426_391)) ((snd_lf n426_390)))) ((snd_lf n426_387)))) ((snd_br ((snd_br ((snd_lf n426_384)) ((snd_lf n426_382)))) ((snd_lf n426_381)))))))))))))) ((snd_br ((snd_br ((snd_br ((snd_br ((snd_br ((snd_br ((snd_br ((snd_lf n426_378)) ((snd_lf n426_376)))) ((snd_br ((snd_lf n426_375)) ((snd_lf n426_372)))))) ((snd_br ((snd_br ((snd_lf n426_369)) ((snd_lf n426_367)))) ((snd_lf n426_366)))))) ((snd_br ((snd_br ((snd_br ((snd_lf n426_363)) ((snd_lf n426_361)))) ((snd_br ((snd_lf n426_360)) ((snd_lf n426_357)))))) ((snd_br ((snd_br ((snd_lf n426_354)) ((snd_lf n426_352)))) ((snd_lf n426_351)))))))) ((snd_br ((snd_br ((snd_br ((snd_br ((snd_lf n426_348)) ((snd_lf n426_346)))) ((snd_br ((snd_lf n426_345)) ((snd_lf n426_342)))))) ((snd_br ((snd_br ((snd_lf n426_339)) ((snd_lf n426_337)))) ((snd_lf n426_336)))))) ((snd_br ((snd_br ((snd_br ((snd_lf n426_277)) ((snd_lf n426_274)))) ((snd_br ((snd_lf n426_273)) ((snd_lf n426_271)))))) ((snd_br ((snd_br ((snd_lf n426_270)) ((snd_lf n426_269)))) ((snd_lf n426_268)))))))))) ((snd_br ((snd_br ((snd_br ((snd_br ((snd_br ((snd_lf n426_265)) ((snd_lf n426_264)))) ((snd_br ((snd_lf n426_261)) ((snd_lf n426_260)))))) ((snd_br ((snd_br ((snd_lf n426_257)) ((snd_lf n426_256)))) ((snd_lf n426_255)))))) ((snd_br ((snd_br ((snd_br ((snd_lf n426_254)) ((snd_lf n426_251)))) ((snd_br ((snd_lf n426_248)) ((snd_lf n426_247)))))) ((snd_br ((snd_br ((snd_lf n426_246)) ((snd_lf n426_245)))) ((snd_lf n426_242)))))))) ((snd_br ((snd_br ((snd_br ((snd_br ((snd_lf n426_239)) ((snd_lf n426_237)))) ((snd_br ((snd_lf n426_236)) ((snd_lf n426_235)))))) ((snd_br ((snd_br ((snd_lf n426_232)) ((snd_lf n426_231)))) ((snd_lf n426_228)))))) ((snd_br ((snd_br ((snd_br ((snd_lf n426_185)) ((snd_lf n426_183)))) ((snd_lf n426_181)))) ((snd_br ((snd_br ((snd_lf n426_179)) ((snd_lf n426_176)))) ((snd_lf n426_173)))))))))))) ((snd_br ((snd_br ((snd_br ((snd_br ((snd_br ((snd_br ((snd_lf n426_171)) ((snd_lf n426_170)))) ((snd_br ((snd_lf n426_167)) ((snd_lf n426_165)))))) ((snd_br ((snd_br ((snd_lf n426_164)) ((snd_lf n426_161)))) ((snd_lf n426_158)))))) ((snd_br ((snd_br ((snd_br ((snd_lf n426_156)) ((snd_lf n426_155)))) ((snd_br ((snd_lf n426_152)) ((snd_lf n426_150)))))) ((snd_br ((snd_br ((snd_lf n426_149)) ((snd_lf n426_146)))) ((snd_lf n426_143)))))))) ((snd_br ((snd_br ((snd_br ((snd_br ((snd_lf n426_141)) ((snd_lf n426_140)))) ((snd_br ((snd_lf n426_137)) ((snd_lf n426_135)))))) ((snd_br ((snd_br ((snd_lf n426_134)) ((snd_lf n426_131)))) ((snd_lf n426_128)))))) ((snd_br ((snd_br ((snd_br ((snd_lf n426_126)) ((snd_lf n426_125)))) ((snd_lf n426_122)))) ((snd_br ((snd_br ((snd_lf n426_120)) ((snd_lf n426_119)))) ((snd_lf n426_116)))))))))) ((snd_br ((snd_br ((snd_br ((snd_br ((snd_br ((snd_lf n426_113)) ((snd_lf n426_111)))) ((snd_br ((snd_lf n426_110)) ((snd_lf n426_107)))))) ((snd_br ((snd_br ((snd_lf n426_105)) ((snd_lf n426_104)))) ((snd_lf n426_101)))))) ((snd_br ((snd_br ((snd_br ((snd_lf n426_98)) ((snd_lf n426_96)))) ((snd_br ((snd_lf n426_95)) ((snd_lf n426_92)))))) ((snd_br ((snd_br ((snd_lf n426_90)) ((snd_lf n426_89)))) ((snd_lf n426_86)))))))) ((snd_br ((snd_br ((snd_br ((snd_br ((snd_lf n426_83)) ((snd_lf n426_81)))) ((snd_br ((snd_lf n426_80)) ((snd_lf n426_14)))))) ((snd_br ((snd_br ((snd_lf n426_11)) ((snd_lf n426_10)))) ((snd_lf n426_8)))))) ((snd_br ((snd_br ((snd_br ((snd_lf n426_7)) ((snd_lf n426_6)))) ((snd_lf n426_5)))) ((snd_br ((snd_br ((snd_lf n426_4)) ((snd_lf n426_1)))) ((snd_lf n426_0)))))))))))))))
end
section
variable {G : AG}
theorem n427_0 : Snd mt G 427 0 (oAload 0 1) := w_aload_n (hm := mm427) dX5_word_0
theorem n427_1 : Snd mt G 427 1 (oCall 1 (fV [6] 425 1) 0 4 xOut) := s_callV (m' := 425) (n := 0) xsh_out (w_xok0 mm427) (w_cal mm427 mm425 pn_X5 (Nat.le_of_ble_eq_true rfl) (Nat.le_of_ble_eq_true rfl)) (fun h b as hc hn => w_run_V (ci := 5) mm427 mm425 dX5_word_1 (Or.inl (List.mem_singleton.mp hc)) (Nat.le_of_ble_eq_true rfl) vc_5 rfl q1220 q1222 qs24 q152 q1223 pa425 hn)
theorem n427_4 : Snd mt G 427 4 (oPop 5) := w_pop (hm := mm427) dX5_word_4
theorem n427_5 : Snd mt G 427 5 (oNew 29 4 nfJ8 8) := w_new (hm := mm427) (ci := 28) (T9 := TJ8) (ty := tyJ8) dX5_word_5 (Nat.le_of_ble_eq_true rfl) vc_28 tyJ8_ok (fun _ _ => rfl) q1233 q258 q139
theorem n427_8 : Snd mt G 427 8 (oDup 9) := w_dup (hm := mm427) dX5_word_8
theorem n427_9 : Snd mt G 427 9 (oCall 1 (fI 208 1) 0 12 xOut) := s_callI (m' := 208) (n := 0) xsh_out (w_xok0 mm427) (w_cal mm427 mm208 pn_J8 (Nat.le_of_ble_eq_true rfl) (Nat.le_of_ble_eq_true rfl)) (fun h b as hn => w_run_I mm427 mm208 dX5_word_9 rfl rfl q1234 q260 q139 q261 pa208 hn)
theorem n427_12 : Snd mt G 427 12 (oAstore 1 13) := w_astore_n (hm := mm427) dX5_word_12 (Nat.le_of_ble_eq_true rfl)
theorem n427_13 : Snd mt G 427 13 (oAload 0 14) := w_aload_n (hm := mm427) dX5_word_13
theorem n427_14 : Snd mt G 427 14 (oGetf [6] 2 17) := w_getf (hm := mm427) dX5_word_14 (fok1 (k := 2) (T := TX5) 5 (Nat.le_of_ble_eq_true rfl) vc_5 (Nat.le_of_ble_eq_true rfl) q1203)
theorem n427_17 : Snd mt G 427 17 (oIstore 2 18) := w_istore_n (hm := mm427) dX5_word_17 (Nat.le_of_ble_eq_true rfl)
theorem n427_18 : Snd mt G 427 18 (oIload 2 19) := w_iload_n (hm := mm427) dX5_word_18
theorem n427_19 : Snd mt G 427 19 (oAload 0 20) := w_aload_n (hm := mm427) dX5_word_19
theorem n427_20 : Snd mt G 427 20 (oGetf [6] 1 23) := w_getf (hm := mm427) dX5_word_20 (fok1 (k := 1) (T := TX5) 5 (Nat.le_of_ble_eq_true rfl) vc_5 (Nat.le_of_ble_eq_true rfl) q1202)
theorem n427_23 : Snd mt G 427 23 (oCmpGe 75 26) := w_icmp_ge (hm := mm427) dX5_word_23 rfl
theorem n427_26 : Snd mt G 427 26 (oAload 0 27) := w_aload_n (hm := mm427) dX5_word_26
theorem n427_27 : Snd mt G 427 27 (oGetf [6] 0 30) := w_getf (hm := mm427) dX5_word_27 (fok1 (k := 0) (T := TX5) 5 (Nat.le_of_ble_eq_true rfl) vc_5 (Nat.le_of_ble_eq_true rfl) q1201)
theorem n427_30 : Snd mt G 427 30 (oIload 2 31) := w_iload_n (hm := mm427) dX5_word_30
theorem n427_31 : Snd mt G 427 31 (oAld [101] 32) := w_baload (hm := mm427) (kt := 1) dX5_word_31 at_1 (Nat.le_of_ble_eq_true rfl) (List.forall_mem_cons.mpr ⟨Or.inl rfl, (fun t ht => nomatch ht)⟩)
theorem n427_32 : Snd mt G 427 32 (oConst (.int 97) 34) := w_bipush (hm := mm427) dX5_word_32 (by decide)
theorem n427_34 : Snd mt G 427 34 (oCmpLt 75 37) := w_icmp_lt (hm := mm427) dX5_word_34 rfl
theorem n427_37 : Snd mt G 427 37 (oAload 0 38) := w_aload_n (hm := mm427) dX5_word_37
theorem n427_38 : Snd mt G 427 38 (oGetf [6] 0 41) := w_getf (hm := mm427) dX5_word_38 (fok1 (k := 0) (T := TX5) 5 (Nat.le_of_ble_eq_true rfl) vc_5 (Nat.le_of_ble_eq_true rfl) q1201)
theorem n427_41 : Snd mt G 427 41 (oIload 2 42) := w_iload_n (hm := mm427) dX5_word_41
theorem n427_42 : Snd mt G 427 42 (oAld [101] 43) := w_baload (hm := mm427) (kt := 1) dX5_word_42 at_1 (Nat.le_of_ble_eq_true rfl) (List.forall_mem_cons.mpr ⟨Or.inl rfl, (fun t ht => nomatch ht)⟩)
theorem n427_43 : Snd mt G 427 43 (oConst (.int 122) 45) := w_bipush (hm := mm427) dX5_word_43 (by decide)
theorem n427_45 : Snd mt G 427 45 (oCmpGt 75 48) := w_icmp_gt (hm := mm427) dX5_word_45 rfl
theorem n427_48 : Snd mt G 427 48 (oAload 1 49) := w_aload_n (hm := mm427) dX5_word_48
theorem n427_49 : Snd mt G 427 49 (oCall 1 (fV [29] 212 1) 0 52 xOut) := s_callV (m' := 212) (n := 0) xsh_out (w_xok0 mm427) (w_cal mm427 mm212 pn_J8 (Nat.le_of_ble_eq_true rfl) (Nat.le_of_ble_eq_true rfl)) (fun h b as hc hn => w_run_V (ci := 28) mm427 mm212 dX5_word_49 (Or.inl (List.mem_singleton.mp hc)) (Nat.le_of_ble_eq_true rfl) vc_28 rfl q1235 q457 q3189 q139 q458 pa212 hn)
theorem n427_52 : Snd mt G 427 52 (oConst (.int 7) 54) := w_bipush (hm := mm427) dX5_word_52 (by decide)
theorem n427_54 : Snd mt G 427 54 (oCmpGe 75 57) := w_icmp_ge (hm := mm427) dX5_word_54 rfl
theorem n427_57 : Snd mt G 427 57 (oAload 1 58) := w_aload_n (hm := mm427) dX5_word_57
theorem n427_58 : Snd mt G 427 58 (oAload 0 59) := w_aload_n (hm := mm427) dX5_word_58
theorem n427_59 : Snd mt G 427 59 (oGetf [6] 0 62) := w_getf (hm := mm427) dX5_word_59 (fok1 (k := 0) (T := TX5) 5 (Nat.le_of_ble_eq_true rfl) vc_5 (Nat.le_of_ble_eq_true rfl) q1201)
theorem n427_62 : Snd mt G 427 62 (oIload 2 63) := w_iload_n (hm := mm427) dX5_word_62
theorem n427_63 : Snd mt G 427 63 (oAld [101] 64) := w_baload (hm := mm427) (kt := 1) dX5_word_63 at_1 (Nat.le_of_ble_eq_true rfl) (List.forall_mem_cons.mpr ⟨Or.inl rfl, (fun t ht => nomatch ht)⟩)
theorem n427_64 : Snd mt G 427 64 (oUn (fun x => .int (x.toUInt32 % 65536).toInt32) 65) := w_i2c (hm := mm427) dX5_word_64
theorem n427_65 : Snd mt G 427 65 (oCall 2 (fV [29] 213 2) 0 68 xOut) := s_callV (m' := 213) (n := 1) xsh_out (w_xok0 mm427) (w_cal mm427 mm213 pn_J8 (Nat.le_of_ble_eq_true rfl) (Nat.le_of_ble_eq_true rfl)) (fun h b as hc hn => w_run_V (ci := 28) mm427 mm213 dX5_word_65 (Or.inl (List.mem_singleton.mp hc)) (Nat.le_of_ble_eq_true rfl) vc_28 rfl q1236 q1237 q1238 q139 q1239 pa213 hn)
theorem n427_68 : Snd mt G 427 68 (oPop 69) := w_pop (hm := mm427) dX5_word_68
theorem n427_69 : Snd mt G 427 69 (oIinc 2 1 72) := w_iinc (hm := mm427) dX5_word_69 rfl (Nat.le_of_ble_eq_true rfl)
theorem n427_72 : Snd mt G 427 72 (oGoto 18) := w_goto (hm := mm427) dX5_word_72 rfl
theorem n427_75 : Snd mt G 427 75 (oAload 1 76) := w_aload_n (hm := mm427) dX5_word_75
theorem n427_76 : Snd mt G 427 76 (oCall 1 (fV [29] 211 1) 0 79 xOut) := s_callV (m' := 211) (n := 0) xsh_out (w_xok0 mm427) (w_cal mm427 mm211 pn_J8 (Nat.le_of_ble_eq_true rfl) (Nat.le_of_ble_eq_true rfl)) (fun h b as hc hn => w_run_V (ci := 28) mm427 mm211 dX5_word_76 (Or.inl (List.mem_singleton.mp hc)) (Nat.le_of_ble_eq_true rfl) vc_28 rfl q1256 q436 q437 q139 q438 pa211 hn)
theorem n427_79 : Snd mt G 427 79 (oRetA) := w_aret (hm := mm427) dX5_word_79 rfl (Or.inl ⟨_, rfl⟩)
theorem sj427 : ∀ pc, Snd mt G 427 pc (j427 pc) := fun pc => (snd_br ((snd_br ((snd_br ((snd_br ((snd_br ((snd_br ((snd_lf n427_79)) ((snd_lf n427_76)))) ((snd_lf n427_75)))) ((snd_br ((snd_br ((snd_lf n427_72)) ((snd_lf n427_69)))) ((snd_lf n427_68)))))) ((snd_br ((snd_br ((snd_br ((snd_lf n427_65)) ((snd_lf n427_64)))) ((snd_lf n427_63)))) ((snd_br ((snd_lf n427_62)) ((snd_lf n427_59)))))))) ((snd_br ((snd_br ((snd_br ((snd_br ((snd_lf n427_58)) ((snd_lf n427_57)))) ((snd_lf n427_54)))) ((snd_br ((snd_br ((snd_lf n427_52)) ((snd_lf n427_49)))) ((snd_lf n427_48)))))) ((snd_br ((snd_br ((snd_br ((snd_lf n427_45)) ((snd_lf n427_43)))) ((snd_lf n427_42)))) ((snd_br ((snd_lf n427_41)) ((snd_lf n427_38)))))))))) ((snd_br ((snd_br ((snd_br ((snd_br ((snd_br ((snd_lf n427_37)) ((snd_lf n427_34)))) ((snd_lf n427_32)))) ((snd_br ((snd_br ((snd_lf n427_31)) ((snd_lf n427_30)))) ((snd_lf n427_27)))))) ((snd_br ((snd_br ((snd_br ((snd_lf n427_26)) ((snd_lf n427_23)))) ((snd_lf n427_20)))) ((snd_br ((snd_lf n427_19)) ((snd_lf n427_18)))))))) ((snd_br ((snd_br ((snd_br ((snd_br ((snd_lf n427_17)) ((snd_lf n427_14)))) ((snd_lf n427_13)))) ((snd_br ((snd_lf n427_12)) ((snd_lf n427_9)))))) ((snd_br ((snd_br ((snd_br ((snd_lf n427_8)) ((snd_lf n427_5)))) ((snd_lf n427_4)))) ((snd_br ((snd_lf n427_1)) ((snd_lf n427_0)))))))))))
end
section
variable {G : AG}
theorem n428_0 : Snd mt G 428 0 (oNew 7 8 nfX6 3) := w_new (hm := mm428) (ci := 6) (T9 := TX6) (ty := tyX6) dX5_wrong_0 (Nat.le_of_ble_eq_true rfl) vc_6 tyX6_ok (fun _ _ => rfl) q1337 q1338 q153
theorem n428_3 : Snd mt G 428 3 (oDup 4) := w_dup (hm := mm428) dX5_wrong_3
theorem n428_4 : Snd mt G 428 4 (oConst (.int 1) 5) := w_iconst (hm := mm428) dX5_wrong_4 rfl
theorem n428_5 : Snd mt G 428 5 (oAload 0 6) := w_aload_n (hm := mm428) dX5_wrong_5
theorem n428_6 : Snd mt G 428 6 (oGetf [6] 2 9) := w_getf (hm := mm428) dX5_wrong_6 (fok1 (k := 2) (T := TX5) 5 (Nat.le_of_ble_eq_true rfl) vc_5 (Nat.le_of_ble_eq_true rfl) q1203)
theorem n428_9 : Snd mt G 428 9 (oCall 3 (fI 443 3) 0 12 xOut) := s_callI (m' := 443) (n := 2) xsh_out (w_xok0 mm428) (w_cal mm428 mm443 pn_X6 (Nat.le_of_ble_eq_true rfl) (Nat.le_of_ble_eq_true rfl)) (fun h b as hn => w_run_I mm428 mm443 dX5_wrong_9 rfl rfl q1346 q1347 q153 q1348 pa443 hn)
theorem n428_12 : Snd mt G 428 12 (oRetA) := w_aret (hm := mm428) dX5_wrong_12 rfl (Or.inl ⟨_, rfl⟩)
theorem sj428 : ∀ pc, Snd mt G 428 pc (j428 pc) := fun pc => (snd_br ((snd_br ((snd_br ((snd_lf n428_12)) ((snd_lf n428_9)))) ((snd_br ((snd_lf n428_6)) ((snd_lf n428_5)))))) ((snd_br ((snd_br ((snd_lf n428_4)) ((snd_lf n428_3)))) ((snd_lf n428_0)))))
end
section
variable {G : AG}
theorem n429_0 : Snd mt G 429 0 (oAload 0 1) := w_aload_n (hm := mm429) dX5_number_0
theorem n429_1 : Snd mt G 429 1 (oCall 1 (fV [6] 430 2) 0 4 xOut) := s_callV (m' := 430) (n := 0) xsh_out (w_xok0 mm429) (w_cal mm429 mm430 pn_X5 (Nat.le_of_ble_eq_true rfl) (Nat.le_of_ble_eq_true rfl)) (fun h b as hc hn => w_run_V (ci := 5) mm429 mm430 dX5_number_1 (Or.inl (List.mem_singleton.mp hc)) (Nat.le_of_ble_eq_true rfl) vc_5 rfl q1370 q1372 qs29 q152 q1373 pa430 hn)
theorem n429_4 : Snd mt G 429 4 (oIfEq 7 12) := w_if_ne (hm := mm429) dX5_number_4 rfl
theorem n429_7 : Snd mt G 429 7 (oAload 0 8) := w_aload_n (hm := mm429) dX5_number_7
theorem n429_8 : Snd mt G 429 8 (oCall 1 (fV [6] 428 1) 0 11 xOut) := s_callV (m' := 428) (n := 0) xsh_out (w_xok0 mm429) (w_cal mm429 mm428 pn_X5 (Nat.le_of_ble_eq_true rfl) (Nat.le_of_ble_eq_true rfl)) (fun h b as hc hn => w_run_V (ci := 5) mm429 mm428 dX5_number_8 (Or.inl (List.mem_singleton.mp hc)) (Nat.le_of_ble_eq_true rfl) vc_5 rfl q1333 q1335 qs27 q152 q1336 pa428 hn)
theorem n429_11 : Snd mt G 429 11 (oThrow [7]) := w_throw (hm := mm429) dX5_number_11 (List.forall_mem_cons.mpr ⟨⟨6, _, rfl, (Nat.le_of_ble_eq_true rfl), vc_6⟩, (fun t ht => nomatch ht)⟩) rfl
theorem n429_12 : Snd mt G 429 12 (oAload 0 13) := w_aload_n (hm := mm429) dX5_number_12
theorem n429_13 : Snd mt G 429 13 (oGetf [6] 2 16) := w_getf (hm := mm429) dX5_number_13 (fok1 (k := 2) (T := TX5) 5 (Nat.le_of_ble_eq_true rfl) vc_5 (Nat.le_of_ble_eq_true rfl) q1203)
theorem n429_16 : Snd mt G 429 16 (oIstore 3 17) := w_istore_n (hm := mm429) dX5_number_16 (Nat.le_of_ble_eq_true rfl)
theorem n429_17 : Snd mt G 429 17 (oConst (.int 0) 18) := w_iconst (hm := mm429) dX5_number_17 rfl
theorem n429_18 : Snd mt G 429 18 (oIstore 4 20) := w_istore (hm := mm429) dX5_number_18 (Nat.le_of_ble_eq_true rfl)
theorem n429_20 : Snd mt G 429 20 (oAload 0 21) := w_aload_n (hm := mm429) dX5_number_20
theorem n429_21 : Snd mt G 429 21 (oGetf [6] 2 24) := w_getf (hm := mm429) dX5_number_21 (fok1 (k := 2) (T := TX5) 5 (Nat.le_of_ble_eq_true rfl) vc_5 (Nat.le_of_ble_eq_true rfl) q1203)
theorem n429_24 : Snd mt G 429 24 (oAload 0 25) := w_aload_n (hm := mm429) dX5_number_24
theorem n429_25 : Snd mt G 429 25 (oGetf [6] 1 28) := w_getf (hm := mm429) dX5_number_25 (fok1 (k := 1) (T := TX5) 5 (Nat.le_of_ble_eq_true rfl) vc_5 (Nat.le_of_ble_eq_true rfl) q1202)
theorem n429_28 : Snd mt G 429 28 (oCmpGe 98 31) := w_icmp_ge (hm := mm429) dX5_number_28 rfl
theorem n429_31 : Snd mt G 429 31 (oAload 0 32) := w_aload_n (hm := mm429) dX5_number_31
theorem n429_32 : Snd mt G 429 32 (oGetf [6] 0 35) := w_getf (hm := mm429) dX5_number_32 (fok1 (k := 0) (T := TX5) 5 (Nat.le_of_ble_eq_true rfl) vc_5 (Nat.le_of_ble_eq_true rfl) q1201)
theorem n429_35 : Snd mt G 429 35 (oAload 0 36) := w_aload_n (hm := mm429) dX5_number_35
theorem n429_36 : Snd mt G 429 36 (oGetf [6] 2 39) := w_getf (hm := mm429) dX5_number_36 (fok1 (k := 2) (T := TX5) 5 (Nat.le_of_ble_eq_true rfl) vc_5 (Nat.le_of_ble_eq_true rfl) q1203)
theorem n429_39 : Snd mt G 429 39 (oAld [101] 40) := w_baload (hm := mm429) (kt := 1) dX5_number_39 at_1 (Nat.le_of_ble_eq_true rfl) (List.forall_mem_cons.mpr ⟨Or.inl rfl, (fun t ht => nomatch ht)⟩)
theorem n429_40 : Snd mt G 429 40 (oConst (.int 48) 42) := w_bipush (hm := mm429) dX5_number_40 (by decide)
theorem n429_42 : Snd mt G 429 42 (oCmpLt 98 45) := w_icmp_lt (hm := mm429) dX5_number_42 rfl
theorem n429_45 : Snd mt G 429 45 (oAload 0 46) := w_aload_n (hm := mm429) dX5_number_45
theorem n429_46 : Snd mt G 429 46 (oGetf [6] 0 49) := w_getf (hm := mm429) dX5_number_46 (fok1 (k := 0) (T := TX5) 5 (Nat.le_of_ble_eq_true rfl) vc_5 (Nat.le_of_ble_eq_true rfl) q1201)
theorem n429_49 : Snd mt G 429 49 (oAload 0 50) := w_aload_n (hm := mm429) dX5_number_49
theorem n429_50 : Snd mt G 429 50 (oGetf [6] 2 53) := w_getf (hm := mm429) dX5_number_50 (fok1 (k := 2) (T := TX5) 5 (Nat.le_of_ble_eq_true rfl) vc_5 (Nat.le_of_ble_eq_true rfl) q1203)
theorem n429_53 : Snd mt G 429 53 (oAld [101] 54) := w_baload (hm := mm429) (kt := 1) dX5_number_53 at_1 (Nat.le_of_ble_eq_true rfl) (List.forall_mem_cons.mpr ⟨Or.inl rfl, (fun t ht => nomatch ht)⟩)
theorem n429_54 : Snd mt G 429 54 (oConst (.int 57) 56) := w_bipush (hm := mm429) dX5_number_54 (by decide)
theorem n429_56 : Snd mt G 429 56 (oCmpGt 98 59) := w_icmp_gt (hm := mm429) dX5_number_56 rfl
theorem n429_59 : Snd mt G 429 59 (oConst (.int 10) 61) := w_bipush (hm := mm429) dX5_number_59 (by decide)
theorem n429_61 : Snd mt G 429 61 (oIload 4 63) := w_iload (hm := mm429) dX5_number_61
theorem n429_63 : Snd mt G 429 63 (oBin (fun x y => x * y) 64) := w_imul (hm := mm429) dX5_number_63
theorem n429_64 : Snd mt G 429 64 (oAload 0 65) := w_aload_n (hm := mm429) dX5_number_64
theorem n429_65 : Snd mt G 429 65 (oGetf [6] 0 68) := w_getf (hm := mm429) dX5_number_65 (fok1 (k := 0) (T := TX5) 5 (Nat.le_of_ble_eq_true rfl) vc_5 (Nat.le_of_ble_eq_true rfl) q1201)
theorem n429_68 : Snd mt G 429 68 (oAload 0 69) := w_aload_n (hm := mm429) dX5_number_68
theorem n429_69 : Snd mt G 429 69 (oGetf [6] 2 72) := w_getf (hm := mm429) dX5_number_69 (fok1 (k := 2) (T := TX5) 5 (Nat.le_of_ble_eq_true rfl) vc_5 (Nat.le_of_ble_eq_true rfl) q1203)
theorem n429_72 : Snd mt G 429 72 (oAld [101] 73) := w_baload (hm := mm429) (kt := 1) dX5_number_72 at_1 (Nat.le_of_ble_eq_true rfl) (List.forall_mem_cons.mpr ⟨Or.inl rfl, (fun t ht => nomatch ht)⟩)
theorem n429_73 : Snd mt G 429 73 (oBin (fun x y => x + y) 74) := w_iadd (hm := mm429) dX5_number_73
theorem n429_74 : Snd mt G 429 74 (oConst (.int 48) 76) := w_bipush (hm := mm429) dX5_number_74 (by decide)
theorem n429_76 : Snd mt G 429 76 (oBin (fun x y => x - y) 77) := w_isub (hm := mm429) dX5_number_76
theorem n429_77 : Snd mt G 429 77 (oConst (.int 10000) 80) := w_sipush (hm := mm429) dX5_number_77 (by decide)
theorem n429_80 : Snd mt G 429 80 (oMath2 (fun x y => if y < x then y else x) 83) := w_mmin (hm := mm429) dX5_number_80 (Nat.le_of_ble_eq_true rfl) q1374 q331 q143 q332
theorem n429_83 : Snd mt G 429 83 (oIstore 4 85) := w_istore (hm := mm429) dX5_number_83 (Nat.le_of_ble_eq_true rfl)
theorem n429_85 : Snd mt G 429 85 (oAload 0 86) := w_aload_n (hm := mm429) dX5_number_85
theorem n429_86 : Snd mt G 429 86 (oDup 87) := w_dup (hm := mm429) dX5_number_86
theorem n429_87 : Snd mt G 429 87 (oGetf [6] 2 90) := w_getf (hm := mm429) dX5_number_87 (fok1 (k := 2) (T := TX5) 5 (Nat.le_of_ble_eq_true rfl) vc_5 (Nat.le_of_ble_eq_true rfl) q1203)
theorem n429_90 : Snd mt G 429 90 (oConst (.int 1) 91) := w_iconst (hm := mm429) dX5_number_90 rfl
theorem n429_91 : Snd mt G 429 91 (oBin (fun x y => x + y) 92) := w_iadd (hm := mm429) dX5_number_91
theorem n429_92 : Snd mt G 429 92 (oPutf [6] 2 .int 95) := w_putf (hm := mm429) dX5_number_92 (pok1 (k := 2) (T := TX5) 5 (Nat.le_of_ble_eq_true rfl) vc_5 (Nat.le_of_ble_eq_true rfl) rfl pd_X5_2 q1203)
theorem n429_95 : Snd mt G 429 95 (oGoto 20) := w_goto (hm := mm429) dX5_number_95 rfl
theorem n429_98 : Snd mt G 429 98 (oIload 4 100) := w_iload (hm := mm429) dX5_number_98
theorem n429_100 : Snd mt G 429 100 (oIload 1 101) := w_iload_n (hm := mm429) dX5_number_100
theorem n429_101 : Snd mt G 429 101 (oCmpLt 110 104) := w_icmp_lt (hm := mm429) dX5_number_101 rfl
theorem n429_104 : Snd mt G 429 104 (oIload 4 106) := w_iload (hm := mm429) dX5_number_104
theorem n429_106 : Snd mt G 429 106 (oIload 2 107) := w_iload_n (hm := mm429) dX5_number_106
theorem n429_107 : Snd mt G 429 107 (oCmpLe 120 110) := w_icmp_le (hm := mm429) dX5_number_107 rfl
theorem n429_110 : Snd mt G 429 110 (oNew 7 8 nfX6 113) := w_new (hm := mm429) (ci := 6) (T9 := TX6) (ty := tyX6) dX5_number_110 (Nat.le_of_ble_eq_true rfl) vc_6 tyX6_ok (fun _ _ => rfl) q1337 q1338 q153
theorem n429_113 : Snd mt G 429 113 (oDup 114) := w_dup (hm := mm429) dX5_number_113
theorem n429_114 : Snd mt G 429 114 (oConst (.int 2) 115) := w_iconst (hm := mm429) dX5_number_114 rfl
theorem n429_115 : Snd mt G 429 115 (oIload 3 116) := w_iload_n (hm := mm429) dX5_number_115
theorem n429_116 : Snd mt G 429 116 (oCall 3 (fI 443 3) 0 119 xOut) := s_callI (m' := 443) (n := 2) xsh_out (w_xok0 mm429) (w_cal mm429 mm443 pn_X6 (Nat.le_of_ble_eq_true rfl) (Nat.le_of_ble_eq_true rfl)) (fun h b as hn => w_run_I mm429 mm443 dX5_number_116 rfl rfl q1346 q1347 q153 q1348 pa443 hn)
theorem n429_119 : Snd mt G 429 119 (oThrow [7]) := w_throw (hm := mm429) dX5_number_119 (List.forall_mem_cons.mpr ⟨⟨6, _, rfl, (Nat.le_of_ble_eq_true rfl), vc_6⟩, (fun t ht => nomatch ht)⟩) rfl
theorem n429_120 : Snd mt G 429 120 (oIload 4 122) := w_iload (hm := mm429) dX5_number_120
theorem n429_122 : Snd mt G 429 122 (oRetI .int) := w_iret (hm := mm429) dX5_number_122 rfl
theorem sj429 : ∀ pc, Snd mt G 429 pc (j429 pc) := fun pc => (snd_br ((snd_br ((snd_br ((snd_br ((snd_br ((snd_br ((snd_br ((snd_lf n429_122)) ((snd_lf n429_120)))) ((snd_lf n429_119)))) ((snd_br ((snd_lf n429_116)) ((snd_lf n429_115)))))) ((snd_br ((snd_br ((snd_lf n429_114)) ((snd_lf n429_113)))) ((snd_br ((snd_lf n429_110)) ((snd_lf n429_107)))))))) ((snd_br ((snd_br ((snd_br ((snd_lf n429_106)) ((snd_lf n429_104)))) ((snd_br ((snd_lf n429_101)) ((snd_lf n429_100)))))) ((snd_br ((snd_br ((snd_lf n429_98)) ((snd_lf n429_95)))) ((snd_br ((snd_lf n429_92)) ((snd_lf n429_91)))))))))) ((snd_br ((snd_br ((snd_br ((snd_br ((snd_lf n429_90)) ((snd_lf n429_87)))) ((snd_br ((snd_lf n429_86)) ((snd_lf n429_85)))))) ((snd_br ((snd_br ((snd_lf n429_83)) ((snd_lf n429_80)))) ((snd_br ((snd_lf n429_77)) ((snd_lf n429_76)))))))) ((snd_br ((snd_br ((snd_br ((snd_lf n429_74)) ((snd_lf n429_73)))) ((snd_br ((snd_lf n429_72)) ((snd_lf n429_69)))))) ((snd_br ((snd_br ((snd_lf n429_68)) ((snd_lf n429_65)))) ((snd_br ((snd_lf n429_64)) ((snd_lf n429_63)))))))))))) ((snd_br ((snd_br ((snd_br ((snd_br ((snd_br ((snd_lf n429_61)) ((snd_lf n429_59)))) ((snd_br ((snd_lf n429_56)) ((snd_lf n429_54)))))) ((snd_br ((snd_br ((snd_lf n429_53)) ((snd_lf n429_50)))) ((snd_br ((snd_lf n429_49)) ((snd_lf n429_46)))))))) ((snd_br ((snd_br ((snd_br ((snd_lf n429_45)) ((snd_lf n429_42)))) ((snd_br ((snd_lf n429_40)) ((snd_lf n429_39)))))) ((snd_br ((snd_br ((snd_lf n429_36)) ((snd_lf n429_35)))) ((snd_br ((snd_lf n429_32)) ((snd_lf n429_31)))))))))) ((snd_br ((snd_br ((snd_br ((snd_br ((snd_lf n429_28)) ((snd_lf n429_25)))) ((snd_br ((snd_lf n429_24)) ((snd_lf n429_21)))))) ((snd_br ((snd_br ((snd_lf n429_20)) ((snd_lf n429_18)))) ((snd_br ((snd_lf n429_17)) ((snd_lf n429_16)))))))) ((snd_br ((snd_br ((snd_br ((snd_lf n429_13)) ((snd_lf n429_12)))) ((snd_br ((snd_lf n429_11)) ((snd_lf n429_8)))))) ((snd_br ((snd_br ((snd_lf n429_7)) ((snd_lf n429_4)))) ((snd_br ((snd_lf n429_1)) ((snd_lf n429_0)))))))))))))
end
section
variable {G : AG}
theorem n430_0 : Snd mt G 430 0 (oAload 0 1) := w_aload_n (hm := mm430) dX5_isDigit_0
theorem n430_1 : Snd mt G 430 1 (oCall 1 (fV [6] 425 1) 0 4 xOut) := s_callV (m' := 425) (n := 0) xsh_out (w_xok0 mm430) (w_cal mm430 mm425 pn_X5 (Nat.le_of_ble_eq_true rfl) (Nat.le_of_ble_eq_true rfl)) (fun h b as hc hn => w_run_V (ci := 5) mm430 mm425 dX5_isDigit_1 (Or.inl (List.mem_singleton.mp hc)) (Nat.le_of_ble_eq_true rfl) vc_5 rfl q1220 q1222 qs24 q152 q1223 pa425 hn)
theorem n430_4 : Snd mt G 430 4 (oIstore 1 5) := w_istore_n (hm := mm430) dX5_isDigit_4 (Nat.le_of_ble_eq_true rfl)
theorem n430_5 : Snd mt G 430 5 (oIload 1 6) := w_iload_n (hm := mm430) dX5_isDigit_5
theorem n430_6 : Snd mt G 430 6 (oConst (.int 48) 8) := w_bipush (hm := mm430) dX5_isDigit_6 (by decide)
theorem n430_8 : Snd mt G 430 8 (oCmpLt 21 11) := w_icmp_lt (hm := mm430) dX5_isDigit_8 rfl
theorem n430_11 : Snd mt G 430 11 (oIload 1 12) := w_iload_n (hm := mm430) dX5_isDigit_11
theorem n430_12 : Snd mt G 430 12 (oConst (.int 57) 14) := w_bipush (hm := mm430) dX5_isDigit_12 (by decide)
theorem n430_14 : Snd mt G 430 14 (oCmpGt 21 17) := w_icmp_gt (hm := mm430) dX5_isDigit_14 rfl
theorem n430_17 : Snd mt G 430 17 (oConst (.int 1) 18) := w_iconst (hm := mm430) dX5_isDigit_17 rfl
theorem n430_18 : Snd mt G 430 18 (oGoto 22) := w_goto (hm := mm430) dX5_isDigit_18 rfl
theorem n430_21 : Snd mt G 430 21 (oConst (.int 0) 22) := w_iconst (hm := mm430) dX5_isDigit_21 rfl
theorem n430_22 : Snd mt G 430 22 (oRetI .boolean) := w_zret (hm := mm430) dX5_isDigit_22 rfl
theorem sj430 : ∀ pc, Snd mt G 430 pc (j430 pc) := fun pc => (snd_br ((snd_br ((snd_br ((snd_br ((snd_lf n430_22)) ((snd_lf n430_21)))) ((snd_br ((snd_lf n430_18)) ((snd_lf n430_17)))))) ((snd_br ((snd_br ((snd_lf n430_14)) ((snd_lf n430_12)))) ((snd_lf n430_11)))))) ((snd_br ((snd_br ((snd_br ((snd_lf n430_8)) ((snd_lf n430_6)))) ((snd_lf n430_5)))) ((snd_br ((snd_br ((snd_lf n430_4)) ((snd_lf n430_1)))) ((snd_lf n430_0)))))))
end
section
variable {G : AG}
theorem n431_0 : Snd mt G 431 0 (oAload 0 1) := w_aload_n (hm := mm431) dX5_expr_0
theorem n431_1 : Snd mt G 431 1 (oCall 1 (fV [6] 432 3) 1 4 xOut) := s_callV (m' := 432) (n := 0) xsh_out (w_xok0 mm431) (w_cal mm431 mm432 pn_X5 (Nat.le_of_ble_eq_true rfl) (Nat.le_of_ble_eq_true rfl)) (fun h b as hc hn => w_run_V (ci := 5) mm431 mm432 dX5_expr_1 (Or.inl (List.mem_singleton.mp hc)) (Nat.le_of_ble_eq_true rfl) vc_5 rfl q1401 q1403 qs31 q152 q1404 pa432 hn)
theorem n431_4 : Snd mt G 431 4 (oAstore 1 5) := w_astore_n (hm := mm431) dX5_expr_4 (Nat.le_of_ble_eq_true rfl)
theorem n431_5 : Snd mt G 431 5 (oAload 0 6) := w_aload_n (hm := mm431) dX5_expr_5
theorem n431_6 : Snd mt G 431 6 (oCall 1 (fV [6] 425 1) 0 9 xOut) := s_callV (m' := 425) (n := 0) xsh_out (w_xok0 mm431) (w_cal mm431 mm425 pn_X5 (Nat.le_of_ble_eq_true rfl) (Nat.le_of_ble_eq_true rfl)) (fun h b as hc hn => w_run_V (ci := 5) mm431 mm425 dX5_expr_6 (Or.inl (List.mem_singleton.mp hc)) (Nat.le_of_ble_eq_true rfl) vc_5 rfl q1220 q1222 qs24 q152 q1223 pa425 hn)
theorem n431_9 : Snd mt G 431 9 (oIstore 2 10) := w_istore_n (hm := mm431) dX5_expr_9 (Nat.le_of_ble_eq_true rfl)
theorem n431_10 : Snd mt G 431 10 (oIload 2 11) := w_iload_n (hm := mm431) dX5_expr_10
theorem n431_11 : Snd mt G 431 11 (oConst (.int 43) 13) := w_bipush (hm := mm431) dX5_expr_11 (by decide)
theorem n431_13 : Snd mt G 431 13 (oCmpEq 22 16) := w_icmp_eq (hm := mm431) dX5_expr_13 rfl
theorem n431_16 : Snd mt G 431 16 (oIload 2 17) := w_iload_n (hm := mm431) dX5_expr_16
theorem n431_17 : Snd mt G 431 17 (oConst (.int 45) 19) := w_bipush (hm := mm431) dX5_expr_17 (by decide)
theorem n431_19 : Snd mt G 431 19 (oCmpEq 22 55) := w_icmp_ne (hm := mm431) dX5_expr_19 rfl
theorem n431_22 : Snd mt G 431 22 (oAload 0 23) := w_aload_n (hm := mm431) dX5_expr_22
theorem n431_23 : Snd mt G 431 23 (oDup 24) := w_dup (hm := mm431) dX5_expr_23
theorem n431_24 : Snd mt G 431 24 (oGetf [6] 2 27) := w_getf (hm := mm431) dX5_expr_24 (fok1 (k := 2) (T := TX5) 5 (Nat.le_of_ble_eq_true rfl) vc_5 (Nat.le_of_ble_eq_true rfl) q1203)
theorem n431_27 : Snd mt G 431 27 (oConst (.int 1) 28) := w_iconst (hm := mm431) dX5_expr_27 rfl
theorem n431_28 : Snd mt G 431 28 (oBin (fun x y => x + y) 29) := w_iadd (hm := mm431) dX5_expr_28
theorem n431_29 : Snd mt G 431 29 (oPutf [6] 2 .int 32) := w_putf (hm := mm431) dX5_expr_29 (pok1 (k := 2) (T := TX5) 5 (Nat.le_of_ble_eq_true rfl) vc_5 (Nat.le_of_ble_eq_true rfl) rfl pd_X5_2 q1203)
theorem n431_32 : Snd mt G 431 32 (oNew 11 3 nfX11 35) := w_new (hm := mm431) (ci := 10) (T9 := TX11) (ty := tyX11) dX5_expr_32 (Nat.le_of_ble_eq_true rfl) vc_10 tyX11_ok (fun _ _ => rfl) q1437 q1438 q158
theorem n431_35 : Snd mt G 431 35 (oDup 36) := w_dup (hm := mm431) dX5_expr_35
theorem n431_36 : Snd mt G 431 36 (oIload 2 37) := w_iload_n (hm := mm431) dX5_expr_36
theorem n431_37 : Snd mt G 431 37 (oUn (fun x => .int (x.toUInt32 % 65536).toInt32) 38) := w_i2c (hm := mm431) dX5_expr_37
theorem n431_38 : Snd mt G 431 38 (oAload 1 39) := w_aload_n (hm := mm431) dX5_expr_38
theorem n431_39 : Snd mt G 431 39 (oAload 0 40) := w_aload_n (hm := mm431) dX5_expr_39
theorem n431_40 : Snd mt G 431 40 (oCall 1 (fV [6] 432 3) 1 43 xOut) := s_callV (m' := 432) (n := 0) xsh_out (w_xok0 mm431) (w_cal mm431 mm432 pn_X5 (Nat.le_of_ble_eq_true rfl) (Nat.le_of_ble_eq_true rfl)) (fun h b as hc hn => w_run_V (ci := 5) mm431 mm432 dX5_expr_40 (Or.inl (List.mem_singleton.mp hc)) (Nat.le_of_ble_eq_true rfl) vc_5 rfl q1401 q1403 qs31 q152 q1404 pa432 hn)
theorem n431_43 : Snd mt G 431 43 (oCall 4 (fI 459 4) 0 46 xOut) := s_callI (m' := 459) (n := 3) xsh_out (w_xok0 mm431) (w_cal mm431 mm459 pn_X11 (Nat.le_of_ble_eq_true rfl) (Nat.le_of_ble_eq_true rfl)) (fun h b as hn => w_run_I mm431 mm459 dX5_expr_43 rfl rfl q1450 q1451 q158 q1452 pa459 hn)
theorem n431_46 : Snd mt G 431 46 (oAstore 1 47) := w_astore_n (hm := mm431) dX5_expr_46 (Nat.le_of_ble_eq_true rfl)
theorem n431_47 : Snd mt G 431 47 (oAload 0 48) := w_aload_n (hm := mm431) dX5_expr_47
theorem n431_48 : Snd mt G 431 48 (oCall 1 (fV [6] 425 1) 0 51 xOut) := s_callV (m' := 425) (n := 0) xsh_out (w_xok0 mm431) (w_cal mm431 mm425 pn_X5 (Nat.le_of_ble_eq_true rfl) (Nat.le_of_ble_eq_true rfl)) (fun h b as hc hn => w_run_V (ci := 5) mm431 mm425 dX5_expr_48 (Or.inl (List.mem_singleton.mp hc)) (Nat.le_of_ble_eq_true rfl) vc_5 rfl q1220 q1222 qs24 q152 q1223 pa425 hn)
theorem n431_51 : Snd mt G 431 51 (oIstore 2 52) := w_istore_n (hm := mm431) dX5_expr_51 (Nat.le_of_ble_eq_true rfl)
theorem n431_52 : Snd mt G 431 52 (oGoto 10) := w_goto (hm := mm431) dX5_expr_52 rfl
theorem n431_55 : Snd mt G 431 55 (oAload 1 56) := w_aload_n (hm := mm431) dX5_expr_55
theorem n431_56 : Snd mt G 431 56 (oRetA) := w_aret (hm := mm431) dX5_expr_56 rfl (Or.inl ⟨_, rfl⟩)
theorem sj431 : ∀ pc, Snd mt G 431 pc (j431 pc) := fun pc => (snd_br ((snd_br ((snd_br ((snd_br ((snd_br ((snd_br ((snd_lf n431_56)) ((snd_lf n431_55)))) ((snd_lf n431_52)))) ((snd_br ((snd_lf n431_51)) ((snd_lf n431_48)))))) ((snd_br ((snd_br ((snd_lf n431_47)) ((snd_lf n431_46)))) ((snd_br ((snd_lf n431_43)) ((snd_lf n431_40)))))))) ((snd_br ((snd_br ((snd_br ((snd_lf n431_39)) ((snd_lf n431_38)))) ((snd_br ((snd_lf n431_37)) ((snd_lf n431_36)))))) ((snd_br ((snd_br ((snd_lf n431_35)) ((snd_lf n431_32)))) ((snd_br ((snd_lf n431_29)) ((snd_lf n431_28)))))))))) ((snd_br ((snd_br ((snd_br ((snd_br ((snd_lf n431_27)) ((snd_lf n431_24)))) ((snd_br ((snd_lf n431_23)) ((snd_lf n431_22)))))) ((snd_br ((snd_br ((snd_lf n431_19)) ((snd_lf n431_17)))) ((snd_br ((snd_lf n431_16)) ((snd_lf n431_13)))))))) ((snd_br ((snd_br ((snd_br ((snd_lf n431_11)) ((snd_lf n431_10)))) ((snd_br ((snd_lf n431_9)) ((snd_lf n431_6)))))) ((snd_br ((snd_br ((snd_lf n431_5)) ((snd_lf n431_4)))) ((snd_br ((snd_lf n431_1)) ((snd_lf n431_0)))))))))))
end
section
variable {G : AG}
theorem n432_0 : Snd mt G 432 0 (oAload 0 1) := w_aload_n (hm := mm432) dX5_product_0
theorem n432_1 : Snd mt G 432 1 (oCall 1 (fV [6] 433 4) 1 4 xOut) := s_callV (m' := 433) (n := 0) xsh_out (w_xok0 mm432) (w_cal mm432 mm433 pn_X5 (Nat.le_of_ble_eq_true rfl) (Nat.le_of_ble_eq_true rfl)) (fun h b as hc hn => w_run_V (ci := 5) mm432 mm433 dX5_product_1 (Or.inl (List.mem_singleton.mp hc)) (Nat.le_of_ble_eq_true rfl) vc_5 rfl q1405 q1407 qs32 q152 q1408 pa433 hn)
theorem n432_4 : Snd mt G 432 4 (oAstore 1 5) := w_astore_n (hm := mm432) dX5_product_4 (Nat.le_of_ble_eq_true rfl)
theorem n432_5 : Snd mt G 432 5 (oAload 0 6) := w_aload_n (hm := mm432) dX5_product_5
theorem n432_6 : Snd mt G 432 6 (oCall 1 (fV [6] 425 1) 0 9 xOut) := s_callV (m' := 425) (n := 0) xsh_out (w_xok0 mm432) (w_cal mm432 mm425 pn_X5 (Nat.le_of_ble_eq_true rfl) (Nat.le_of_ble_eq_true rfl)) (fun h b as hc hn => w_run_V (ci := 5) mm432 mm425 dX5_product_6 (Or.inl (List.mem_singleton.mp hc)) (Nat.le_of_ble_eq_true rfl) vc_5 rfl q1220 q1222 qs24 q152 q1223 pa425 hn)
theorem n432_9 : Snd mt G 432 9 (oIstore 2 10) := w_istore_n (hm := mm432) dX5_product_9 (Nat.le_of_ble_eq_true rfl)
theorem n432_10 : Snd mt G 432 10 (oIload 2 11) := w_iload_n (hm := mm432) dX5_product_10
theorem n432_11 : Snd mt G 432 11 (oConst (.int 42) 13) := w_bipush (hm := mm432) dX5_product_11 (by decide)
theorem n432_13 : Snd mt G 432 13 (oCmpEq 22 16) := w_icmp_eq (hm := mm432) dX5_product_13 rfl
theorem n432_16 : Snd mt G 432 16 (oIload 2 17) := w_iload_n (hm := mm432) dX5_product_16
theorem n432_17 : Snd mt G 432 17 (oConst (.int 47) 19) := w_bipush (hm := mm432) dX5_product_17 (by decide)
theorem n432_19 : Snd mt G 432 19 (oCmpEq 22 55) := w_icmp_ne (hm := mm432) dX5_product_19 rfl
theorem n432_22 : Snd mt G 432 22 (oAload 0 23) := w_aload_n (hm := mm432) dX5_product_22
theorem n432_23 : Snd mt G 432 23 (oDup 24) := w_dup (hm := mm432) dX5_product_23
theorem n432_24 : Snd mt G 432 24 (oGetf [6] 2 27) := w_getf (hm := mm432) dX5_product_24 (fok1 (k := 2) (T := TX5) 5 (Nat.le_of_ble_eq_true rfl) vc_5 (Nat.le_of_ble_eq_true rfl) q1203)
theorem n432_27 : Snd mt G 432 27 (oConst (.int 1) 28) := w_iconst (hm := mm432) dX5_product_27 rfl
theorem n432_28 : Snd mt G 432 28 (oBin (fun x y => x + y) 29) := w_iadd (hm := mm432) dX5_product_28
theorem n432_29 : Snd mt G 432 29 (oPutf [6] 2 .int 32) := w_putf (hm := mm432) dX5_product_29 (pok1 (k := 2) (T := TX5) 5 (Nat.le_of_ble_eq_true rfl) vc_5 (Nat.le_of_ble_eq_true rfl) rfl pd_X5_2 q1203)
theorem n432_32 : Snd mt G 432 32 (oNew 11 3 nfX11 35) := w_new (hm := mm432) (ci := 10) (T9 := TX11) (ty := tyX11) dX5_product_32 (Nat.le_of_ble_eq_true rfl) vc_10 tyX11_ok (fun _ _ => rfl) q1437 q1438 q158
theorem n432_35 : Snd mt G 432 35 (oDup 36) := w_dup (hm := mm432) dX5_product_35
theorem n432_36 : Snd mt G 432 36 (oIload 2 37) := w_iload_n (hm := mm432) dX5_product_36
theorem n432_37 : Snd mt G 432 37 (oUn (fun x => .int (x.toUInt32 % 65536).toInt32) 38) := w_i2c (hm := mm432) dX5_product_37
theorem n432_38 : Snd mt G 432 38 (oAload 1 39) := w_aload_n (hm := mm432) dX5_product_38
theorem n432_39 : Snd mt G 432 39 (oAload 0 40) := w_aload_n (hm := mm432) dX5_product_39
theorem n432_40 : Snd mt G 432 40 (oCall 1 (fV [6] 433 4) 1 43 xOut) := s_callV (m' := 433) (n := 0) xsh_out (w_xok0 mm432) (w_cal mm432 mm433 pn_X5 (Nat.le_of_ble_eq_true rfl) (Nat.le_of_ble_eq_true rfl)) (fun h b as hc hn => w_run_V (ci := 5) mm432 mm433 dX5_product_40 (Or.inl (List.mem_singleton.mp hc)) (Nat.le_of_ble_eq_true rfl) vc_5 rfl q1405 q1407 qs32 q152 q1408 pa433 hn)
theorem n432_43 : Snd mt G 432 43 (oCall 4 (fI 459 4) 0 46 xOut) := s_callI (m' := 459) (n := 3) xsh_out (w_xok0 mm432) (w_cal mm432 mm459 pn_X11 (Nat.le_of_ble_eq_true rfl) (Nat.le_of_ble_eq_true rfl)) (fun h b as hn => w_run_I mm432 mm459 dX5_product_43 rfl rfl q1450 q1451 q158 q1452 pa459 hn)
theorem n432_46 : Snd mt G 432 46 (oAstore 1 47) := w_astore_n (hm := mm432) dX5_product_46 (Nat.le_of_ble_eq_true rfl)
theorem n432_47 : Snd mt G 432 47 (oAload 0 48) := w_aload_n (hm := mm432) dX5_product_47
theorem n432_48 : Snd mt G 432 48 (oCall 1 (fV [6] 425 1) 0 51 xOut) := s_callV (m' := 425) (n := 0) xsh_out (w_xok0 mm432) (w_cal mm432 mm425 pn_X5 (Nat.le_of_ble_eq_true rfl) (Nat.le_of_ble_eq_true rfl)) (fun h b as hc hn => w_run_V (ci := 5) mm432 mm425 dX5_product_48 (Or.inl (List.mem_singleton.mp hc)) (Nat.le_of_ble_eq_true rfl) vc_5 rfl q1220 q1222 qs24 q152 q1223 pa425 hn)
theorem n432_51 : Snd mt G 432 51 (oIstore 2 52) := w_istore_n (hm := mm432) dX5_product_51 (Nat.le_of_ble_eq_true rfl)
theorem n432_52 : Snd mt G 432 52 (oGoto 10) := w_goto (hm := mm432) dX5_product_52 rfl
theorem n432_55 : Snd mt G 432 55 (oAload 1 56) := w_aload_n (hm := mm432) dX5_product_55
theorem n432_56 : Snd mt G 432 56 (oRetA) := w_aret (hm := mm432) dX5_product_56 rfl (Or.inl ⟨_, rfl⟩)
theorem sj432 : ∀ pc, Snd mt G 432 pc (j432 pc) := fun pc => (snd_br ((snd_br ((snd_br ((snd_br ((snd_br ((snd_br ((snd_lf n432_56)) ((snd_lf n432_55)))) ((snd_lf n432_52)))) ((snd_br ((snd_lf n432_51)) ((snd_lf n432_48)))))) ((snd_br ((snd_br ((snd_lf n432_47)) ((snd_lf n432_46)))) ((snd_br ((snd_lf n432_43)) ((snd_lf n432_40)))))))) ((snd_br ((snd_br ((snd_br ((snd_lf n432_39)) ((snd_lf n432_38)))) ((snd_br ((snd_lf n432_37)) ((snd_lf n432_36)))))) ((snd_br ((snd_br ((snd_lf n432_35)) ((snd_lf n432_32)))) ((snd_br ((snd_lf n432_29)) ((snd_lf n432_28)))))))))) ((snd_br ((snd_br ((snd_br ((snd_br ((snd_lf n432_27)) ((snd_lf n432_24)))) ((snd_br ((snd_lf n432_23)) ((snd_lf n432_22)))))) ((snd_br ((snd_br ((snd_lf n432_19)) ((snd_lf n432_17)))) ((snd_br ((snd_lf n432_16)) ((snd_lf n432_13)))))))) ((snd_br ((snd_br ((snd_br ((snd_lf n432_11)) ((snd_lf n432_10)))) ((snd_br ((snd_lf n432_9)) ((snd_lf n432_6)))))) ((snd_br ((snd_br ((snd_lf n432_5)) ((snd_lf n432_4)))) ((snd_br ((snd_lf n432_1)) ((snd_lf n432_0)))))))))))
end
section
variable {G : AG}
theorem n433_0 : Snd mt G 433 0 (oAload 0 1) := w_aload_n (hm := mm433) dX5_unit_0
theorem n433_1 : Snd mt G 433 1 (oCall 1 (fV [6] 430 2) 0 4 xOut) := s_callV (m' := 430) (n := 0) xsh_out (w_xok0 mm433) (w_cal mm433 mm430 pn_X5 (Nat.le_of_ble_eq_true rfl) (Nat.le_of_ble_eq_true rfl)) (fun h b as hc hn => w_run_V (ci := 5) mm433 mm430 dX5_unit_1 (Or.inl (List.mem_singleton.mp hc)) (Nat.le_of_ble_eq_true rfl) vc_5 rfl q1370 q1372 qs29 q152 q1373 pa430 hn)
theorem n433_4 : Snd mt G 433 4 (oIfEq 23 7) := w_if_eq (hm := mm433) dX5_unit_4 rfl
theorem n433_7 : Snd mt G 433 7 (oNew 10 1 nfX10 10) := w_new (hm := mm433) (ci := 9) (T9 := TX10) (ty := tyX10) dX5_unit_7 (Nat.le_of_ble_eq_true rfl) vc_9 tyX10_ok (fun _ _ => rfl) q1409 q1410 q157
theorem n433_10 : Snd mt G 433 10 (oDup 11) := w_dup (hm := mm433) dX5_unit_10
theorem n433_11 : Snd mt G 433 11 (oAload 0 12) := w_aload_n (hm := mm433) dX5_unit_11
theorem n433_12 : Snd mt G 433 12 (oConst (.int 0) 13) := w_iconst (hm := mm433) dX5_unit_12 rfl
theorem n433_13 : Snd mt G 433 13 (oConst (.int 9999) 16) := w_sipush (hm := mm433) dX5_unit_13 (by decide)
theorem n433_16 : Snd mt G 433 16 (oCall 3 (fV [6] 429 5) 0 19 xOut) := s_callV (m' := 429) (n := 2) xsh_out (w_xok0 mm433) (w_cal mm433 mm429 pn_X5 (Nat.le_of_ble_eq_true rfl) (Nat.le_of_ble_eq_true rfl)) (fun h b as hc hn => w_run_V (ci := 5) mm433 mm429 dX5_unit_16 (Or.inl (List.mem_singleton.mp hc)) (Nat.le_of_ble_eq_true rfl) vc_5 rfl q1366 q1368 qs28 q152 q1369 pa429 hn)
theorem n433_19 : Snd mt G 433 19 (oCall 2 (fI 457 2) 0 22 xOut) := s_callI (m' := 457) (n := 1) xsh_out (w_xok0 mm433) (w_cal mm433 mm457 pn_X10 (Nat.le_of_ble_eq_true rfl) (Nat.le_of_ble_eq_true rfl)) (fun h b as hn => w_run_I mm433 mm457 dX5_unit_19 rfl rfl q1411 q1412 q157 q1413 pa457 hn)
theorem n433_22 : Snd mt G 433 22 (oRetA) := w_aret (hm := mm433) dX5_unit_22 rfl (Or.inl ⟨_, rfl⟩)
theorem n433_23 : Snd mt G 433 23 (oAload 0 24) := w_aload_n (hm := mm433) dX5_unit_23
theorem n433_24 : Snd mt G 433 24 (oCall 1 (fV [6] 425 1) 0 27 xOut) := s_callV (m' := 425) (n := 0) xsh_out (w_xok0 mm433) (w_cal mm433 mm425 pn_X5 (Nat.le_of_ble_eq_true rfl) (Nat.le_of_ble_eq_true rfl)) (fun h b as hc hn => w_run_V (ci := 5) mm433 mm425 dX5_unit_24 (Or.inl (List.mem_singleton.mp hc)) (Nat.le_of_ble_eq_true rfl) vc_5 rfl q1220 q1222 qs24 q152 q1223 pa425 hn)
theorem n433_27 : Snd mt G 433 27 (oConst (.int 40) 29) := w_bipush (hm := mm433) dX5_unit_27 (by decide)
theorem n433_29 : Snd mt G 433 29 (oCmpEq 32 49) := w_icmp_ne (hm := mm433) dX5_unit_29 rfl
theorem n433_32 : Snd mt G 433 32 (oAload 0 33) := w_aload_n (hm := mm433) dX5_unit_32
theorem n433_33 : Snd mt G 433 33 (oCall 1 (fV [6] 434 1) 0 36 xOut) := s_callV (m' := 434) (n := 0) xsh_out (w_xok0 mm433) (w_cal mm433 mm434 pn_X5 (Nat.le_of_ble_eq_true rfl) (Nat.le_of_ble_eq_true rfl)) (fun h b as hc hn => w_run_V (ci := 5) mm433 mm434 dX5_unit_33 (Or.inl (List.mem_singleton.mp hc)) (Nat.le_of_ble_eq_true rfl) vc_5 rfl q1419 q1421 qs33 q152 q1422 pa434 hn)
theorem n433_36 : Snd mt G 433 36 (oAload 0 37) := w_aload_n (hm := mm433) dX5_unit_36
theorem n433_37 : Snd mt G 433 37 (oCall 1 (fV [6] 431 3) 1 40 xOut) := s_callV (m' := 431) (n := 0) xsh_out (w_xok0 mm433) (w_cal mm433 mm431 pn_X5 (Nat.le_of_ble_eq_true rfl) (Nat.le_of_ble_eq_true rfl)) (fun h b as hc hn => w_run_V (ci := 5) mm433 mm431 dX5_unit_37 (Or.inl (List.mem_singleton.mp hc)) (Nat.le_of_ble_eq_true rfl) vc_5 rfl q1397 q1399 qs30 q152 q1400 pa431 hn)
theorem n433_40 : Snd mt G 433 40 (oAstore 1 41) := w_astore_n (hm := mm433) dX5_unit_40 (Nat.le_of_ble_eq_true rfl)
theorem n433_41 : Snd mt G 433 41 (oAload 0 42) := w_aload_n (hm := mm433) dX5_unit_41
theorem n433_42 : Snd mt G 433 42 (oConst (.int 41) 44) := w_bipush (hm := mm433) dX5_unit_42 (by decide)
theorem n433_44 : Snd mt G 433 44 (oCall 2 (fV [6] 436 2) 0 47 xOut) := s_callV (m' := 436) (n := 1) xsh_out (w_xok0 mm433) (w_cal mm433 mm436 pn_X5 (Nat.le_of_ble_eq_true rfl) (Nat.le_of_ble_eq_true rfl)) (fun h b as hc hn => w_run_V (ci := 5) mm433 mm436 dX5_unit_44 (Or.inl (List.mem_singleton.mp hc)) (Nat.le_of_ble_eq_true rfl) vc_5 rfl q1427 q1429 qs35 q152 q1430 pa436 hn)
theorem n433_47 : Snd mt G 433 47 (oAload 1 48) := w_aload_n (hm := mm433) dX5_unit_47
theorem n433_48 : Snd mt G 433 48 (oRetA) := w_aret (hm := mm433) dX5_unit_48 rfl (Or.inl ⟨_, rfl⟩)
theorem n433_49 : Snd mt G 433 49 (oAload 0 50) := w_aload_n (hm := mm433) dX5_unit_49
theorem n433_50 : Snd mt G 433 50 (oCall 1 (fV [6] 427 3) 0 53 xOut) := s_callV (m' := 427) (n := 0) xsh_out (w_xok0 mm433) (w_cal mm433 mm427 pn_X5 (Nat.le_of_ble_eq_true rfl) (Nat.le_of_ble_eq_true rfl)) (fun h b as hc hn => w_run_V (ci := 5) mm433 mm427 dX5_unit_50 (Or.inl (List.mem_singleton.mp hc)) (Nat.le_of_ble_eq_true rfl) vc_5 rfl q1229 q1231 qs26 q152 q1232 pa427 hn)
theorem n433_53 : Snd mt G 433 53 (oAstore 1 54) := w_astore_n (hm := mm433) dX5_unit_53 (Nat.le_of_ble_eq_true rfl)
theorem n433_54 : Snd mt G 433 54 (oAload 1 55) := w_aload_n (hm := mm433) dX5_unit_54
theorem n433_55 : Snd mt G 433 55 (oGets 1007 57) := w_ldcS (hm := mm433) (j := 7) dX5_unit_55 sr_7 rfl
theorem n433_57 : Snd mt G 433 57 (oCall 2 (fV [30, 1030] 224 3) 0 60 xOut) := s_callV (m' := 224) (n := 1) xsh_out (w_xok0 mm433) (w_cal mm433 mm224 pn_J9 (Nat.le_of_ble_eq_true rfl) (Nat.le_of_ble_eq_true rfl)) (fun h b as hc hn => w_run_V (ci := 29) mm433 mm224 dX5_unit_57 ((List.mem_cons.mp hc).imp id (fun z => List.mem_singleton.mp z)) (Nat.le_of_ble_eq_true rfl) vc_29 rfl q1319 q1320 q1321 q140 q1322 pa224 hn)
theorem n433_60 : Snd mt G 433 60 (oIfEq 63 72) := w_if_ne (hm := mm433) dX5_unit_60 rfl
theorem n433_63 : Snd mt G 433 63 (oAload 1 64) := w_aload_n (hm := mm433) dX5_unit_63
theorem n433_64 : Snd mt G 433 64 (oGets 1008 66) := w_ldcS (hm := mm433) (j := 8) dX5_unit_64 sr_8 rfl
theorem n433_66 : Snd mt G 433 66 (oCall 2 (fV [30, 1030] 224 3) 0 69 xOut) := s_callV (m' := 224) (n := 1) xsh_out (w_xok0 mm433) (w_cal mm433 mm224 pn_J9 (Nat.le_of_ble_eq_true rfl) (Nat.le_of_ble_eq_true rfl)) (fun h b as hc hn => w_run_V (ci := 29) mm433 mm224 dX5_unit_66 ((List.mem_cons.mp hc).imp id (fun z => List.mem_singleton.mp z)) (Nat.le_of_ble_eq_true rfl) vc_29 rfl q1319 q1320 q1321 q140 q1322 pa224 hn)
theorem n433_69 : Snd mt G 433 69 (oIfEq 126 72) := w_if_eq (hm := mm433) dX5_unit_69 rfl
theorem n433_72 : Snd mt G 433 72 (oAload 0 73) := w_aload_n (hm := mm433) dX5_unit_72
theorem n433_73 : Snd mt G 433 73 (oDup 74) := w_dup (hm := mm433) dX5_unit_73
theorem n433_74 : Snd mt G 433 74 (oGetf [6] 2 77) := w_getf (hm := mm433) dX5_unit_74 (fok1 (k := 2) (T := TX5) 5 (Nat.le_of_ble_eq_true rfl) vc_5 (Nat.le_of_ble_eq_true rfl) q1203)
theorem n433_77 : Snd mt G 433 77 (oAload 1 78) := w_aload_n (hm := mm433) dX5_unit_77
theorem n433_78 : Snd mt G 433 78 (oCall 1 (fV [30, 1030] 215 1) 0 81 xOut) := s_callV (m' := 215) (n := 0) xsh_out (w_xok0 mm433) (w_cal mm433 mm215 pn_J9 (Nat.le_of_ble_eq_true rfl) (Nat.le_of_ble_eq_true rfl)) (fun h b as hc hn => w_run_V (ci := 29) mm433 mm215 dX5_unit_78 ((List.mem_cons.mp hc).imp id (fun z => List.mem_singleton.mp z)) (Nat.le_of_ble_eq_true rfl) vc_29 rfl q1365 q368 q369 q140 q370 pa215 hn)
theorem n433_81 : Snd mt G 433 81 (oBin (fun x y => x + y) 82) := w_iadd (hm := mm433) dX5_unit_81
theorem n433_82 : Snd mt G 433 82 (oPutf [6] 2 .int 85) := w_putf (hm := mm433) dX5_unit_82 (pok1 (k := 2) (T := TX5) 5 (Nat.le_of_ble_eq_true rfl) vc_5 (Nat.le_of_ble_eq_true rfl) rfl pd_X5_2 q1203)
theorem n433_85 : Snd mt G 433 85 (oAload 0 86) := w_aload_n (hm := mm433) dX5_unit_85
theorem n433_86 : Snd mt G 433 86 (oCall 1 (fV [6] 434 1) 0 89 xOut) := s_callV (m' := 434) (n := 0) xsh_out (w_xok0 mm433) (w_cal mm433 mm434 pn_X5 (Nat.le_of_ble_eq_true rfl) (Nat.le_of_ble_eq_true rfl)) (fun h b as hc hn => w_run_V (ci := 5) mm433 mm434 dX5_unit_86 (Or.inl (List.mem_singleton.mp hc)) (Nat.le_of_ble_eq_true rfl) vc_5 rfl q1419 q1421 qs33 q152 q1422 pa434 hn)
theorem n433_89 : Snd mt G 433 89 (oAload 0 90) := w_aload_n (hm := mm433) dX5_unit_89
theorem n433_90 : Snd mt G 433 90 (oCall 1 (fV [6] 431 3) 1 93 xOut) := s_callV (m' := 431) (n := 0) xsh_out (w_xok0 mm433) (w_cal mm433 mm431 pn_X5 (Nat.le_of_ble_eq_true rfl) (Nat.le_of_ble_eq_true rfl)) (fun h b as hc hn => w_run_V (ci := 5) mm433 mm431 dX5_unit_90 (Or.inl (List.mem_singleton.mp hc)) (Nat.le_of_ble_eq_true rfl) vc_5 rfl q1397 q1399 qs30 q152 q1400 pa431 hn)
theorem n433_93 : Snd mt G 433 93 (oAstore 2 94) := w_astore_n (hm := mm433) dX5_unit_93 (Nat.le_of_ble_eq_true rfl)
theorem n433_94 : Snd mt G 433 94 (oAload 0 95) := w_aload_n (hm := mm433) dX5_unit_94
theorem n433_95 : Snd mt G 433 95 (oConst (.int 44) 97) := w_bipush (hm := mm433) dX5_unit_95 (by decide)
theorem n433_97 : Snd mt G 433 97 (oCall 2 (fV [6] 437 2) 0 100 xOut) := s_callV (m' := 437) (n := 1) xsh_out (w_xok0 mm433) (w_cal mm433 mm437 pn_X5 (Nat.le_of_ble_eq_true rfl) (Nat.le_of_ble_eq_true rfl)) (fun h b as hc hn => w_run_V (ci := 5) mm433 mm437 dX5_unit_97 (Or.inl (List.mem_singleton.mp hc)) (Nat.le_of_ble_eq_true rfl) vc_5 rfl q1431 q1433 qs36 q152 q1434 pa437 hn)
theorem n433_100 : Snd mt G 433 100 (oAload 0 101) := w_aload_n (hm := mm433) dX5_unit_100
theorem n433_101 : Snd mt G 433 101 (oCall 1 (fV [6] 431 3) 1 104 xOut) := s_callV (m' := 431) (n := 0) xsh_out (w_xok0 mm433) (w_cal mm433 mm431 pn_X5 (Nat.le_of_ble_eq_true rfl) (Nat.le_of_ble_eq_true rfl)) (fun h b as hc hn => w_run_V (ci := 5) mm433 mm431 dX5_unit_101 (Or.inl (List.mem_singleton.mp hc)) (Nat.le_of_ble_eq_true rfl) vc_5 rfl q1397 q1399 qs30 q152 q1400 pa431 hn)
theorem n433_104 : Snd mt G 433 104 (oAstore 3 105) := w_astore_n (hm := mm433) dX5_unit_104 (Nat.le_of_ble_eq_true rfl)
theorem n433_105 : Snd mt G 433 105 (oAload 0 106) := w_aload_n (hm := mm433) dX5_unit_105
theorem n433_106 : Snd mt G 433 106 (oConst (.int 41) 108) := w_bipush (hm := mm433) dX5_unit_106 (by decide)
theorem n433_108 : Snd mt G 433 108 (oCall 2 (fV [6] 436 2) 0 111 xOut) := s_callV (m' := 436) (n := 1) xsh_out (w_xok0 mm433) (w_cal mm433 mm436 pn_X5 (Nat.le_of_ble_eq_true rfl) (Nat.le_of_ble_eq_true rfl)) (fun h b as hc hn => w_run_V (ci := 5) mm433 mm436 dX5_unit_108 (Or.inl (List.mem_singleton.mp hc)) (Nat.le_of_ble_eq_true rfl) vc_5 rfl q1427 q1429 qs35 q152 q1430 pa436 hn)
theorem n433_111 : Snd mt G 433 111 (oNew 11 3 nfX11 114) := w_new (hm := mm433) (ci := 10) (T9 := TX11) (ty := tyX11) dX5_unit_111 (Nat.le_of_ble_eq_true rfl) vc_10 tyX11_ok (fun _ _ => rfl) q1437 q1438 q158
theorem n433_114 : Snd mt G 433 114 (oDup 115) := w_dup (hm := mm433) dX5_unit_114
theorem n433_115 : Snd mt G 433 115 (oAload 1 116) := w_aload_n (hm := mm433) dX5_unit_115
theorem n433_116 : Snd mt G 433 116 (oConst (.int 0) 117) := w_iconst (hm := mm433) dX5_unit_116 rfl
theorem n433_117 : Snd mt G 433 117 (oCall 2 (fV [30, 1030] 225 2) 0 120 xOut) := s_callV (m' := 225) (n := 1) xsh_out (w_xok0 mm433) (w_cal mm433 mm225 pn_J9 (Nat.le_of_ble_eq_true rfl) (Nat.le_of_ble_eq_true rfl)) (fun h b as hc hn => w_run_V (ci := 29) mm433 mm225 dX5_unit_117 ((List.mem_cons.mp hc).imp id (fun z => List.mem_singleton.mp z)) (Nat.le_of_ble_eq_true rfl) vc_29 rfl q1439 q1440 q1441 q140 q1442 pa225 hn)
theorem n433_120 : Snd mt G 433 120 (oAload 2 121) := w_aload_n (hm := mm433) dX5_unit_120
theorem n433_121 : Snd mt G 433 121 (oAload 3 122) := w_aload_n (hm := mm433) dX5_unit_121
theorem n433_122 : Snd mt G 433 122 (oCall 4 (fI 459 4) 0 125 xOut) := s_callI (m' := 459) (n := 3) xsh_out (w_xok0 mm433) (w_cal mm433 mm459 pn_X11 (Nat.le_of_ble_eq_true rfl) (Nat.le_of_ble_eq_true rfl)) (fun h b as hn => w_run_I mm433 mm459 dX5_unit_122 rfl rfl q1450 q1451 q158 q1452 pa459 hn)
theorem n433_125 : Snd mt G 433 125 (oRetA) := w_aret (hm := mm433) dX5_unit_125 rfl (Or.inl ⟨_, rfl⟩)
theorem n433_126 : Snd mt G 433 126 (oAload 1 127) := w_aload_n (hm := mm433) dX5_unit_126
theorem n433_127 : Snd mt G 433 127 (oCall 1 (fS 438 3) 0 130 xOut) := s_callS (m' := 438) (n := 1) xsh_out (w_xok0 mm433) (w_cal mm433 mm438 pn_X5 (Nat.le_of_ble_eq_true rfl) (Nat.le_of_ble_eq_true rfl)) (fun h as hn => w_run_S mm433 mm438 dX5_unit_127 q1464 q1465 q152 q1466 pa438 hn)
theorem n433_130 : Snd mt G 433 130 (oIstore 2 131) := w_istore_n (hm := mm433) dX5_unit_130 (Nat.le_of_ble_eq_true rfl)
theorem n433_131 : Snd mt G 433 131 (oIload 2 132) := w_iload_n (hm := mm433) dX5_unit_131
theorem n433_132 : Snd mt G 433 132 (oConst (.int (-1)) 133) := w_iconst (hm := mm433) dX5_unit_132 rfl
theorem n433_133 : Snd mt G 433 133 (oCmpEq 136 141) := w_icmp_ne (hm := mm433) dX5_unit_133 rfl
theorem n433_136 : Snd mt G 433 136 (oAload 0 137) := w_aload_n (hm := mm433) dX5_unit_136
theorem n433_137 : Snd mt G 433 137 (oCall 1 (fV [6] 428 1) 0 140 xOut) := s_callV (m' := 428) (n := 0) xsh_out (w_xok0 mm433) (w_cal mm433 mm428 pn_X5 (Nat.le_of_ble_eq_true rfl) (Nat.le_of_ble_eq_true rfl)) (fun h b as hc hn => w_run_V (ci := 5) mm433 mm428 dX5_unit_137 (Or.inl (List.mem_singleton.mp hc)) (Nat.le_of_ble_eq_true rfl) vc_5 rfl q1333 q1335 qs27 q152 q1336 pa428 hn)
theorem n433_140 : Snd mt G 433 140 (oThrow [7]) := w_throw (hm := mm433) dX5_unit_140 (List.forall_mem_cons.mpr ⟨⟨6, _, rfl, (Nat.le_of_ble_eq_true rfl), vc_6⟩, (fun t ht => nomatch ht)⟩) rfl
theorem n433_141 : Snd mt G 433 141 (oAload 0 142) := w_aload_n (hm := mm433) dX5_unit_141
theorem n433_142 : Snd mt G 433 142 (oDup 143) := w_dup (hm := mm433) dX5_unit_142
theorem n433_143 : Snd mt G 433 143 (oGetf [6] 2 146) := w_getf (hm := mm433) dX5_unit_143 (fok1 (k := 2) (T := TX5) 5 (Nat.le_of_ble_eq_true rfl) vc_5 (Nat.le_of_ble_eq_true rfl) q1203)
theorem n433_146 : Snd mt G 433 146 (oAload 1 147) := w_aload_n (hm := mm433) dX5_unit_146
theorem n433_147 : Snd mt G 433 147 (oCall 1 (fV [30, 1030] 215 1) 0 150 xOut) := s_callV (m' := 215) (n := 0) xsh_out (w_xok0 mm433) (w_cal mm433 mm215 pn_J9 (Nat.le_of_ble_eq_true rfl) (Nat.le_of_ble_eq_true rfl)) (fun h b as hc hn => w_run_V (ci := 29) mm433 mm215 dX5_unit_147 ((List.mem_cons.mp hc).imp id (fun z => List.mem_singleton.mp z)) (Nat.le_of_ble_eq_true rfl) vc_29 rfl q1365 q368 q369 q140 q370 pa215 hn)
theorem n433_150 : Snd mt G 433 150 (oBin (fun x y => x + y) 151) := w_iadd (hm := mm433) dX5_unit_150
theorem n433_151 : Snd mt G 433 151 (oPutf [6] 2 .int 154) := w_putf (hm := mm433) dX5_unit_151 (pok1 (k := 2) (T := TX5) 5 (Nat.le_of_ble_eq_true rfl) vc_5 (Nat.le_of_ble_eq_true rfl) rfl pd_X5_2 q1203)
theorem n433_154 : Snd mt G 433 154 (oNew 12 1 nfX12 157) := w_new (hm := mm433) (ci := 11) (T9 := TX12) (ty := tyX12) dX5_unit_154 (Nat.le_of_ble_eq_true rfl) vc_11 tyX12_ok (fun _ _ => rfl) q1473 q1474 q159
theorem n433_157 : Snd mt G 433 157 (oDup 158) := w_dup (hm := mm433) dX5_unit_157
theorem n433_158 : Snd mt G 433 158 (oIload 2 159) := w_iload_n (hm := mm433) dX5_unit_158
theorem n433_159 : Snd mt G 433 159 (oCall 2 (fI 461 2) 0 162 xOut) := s_callI (m' := 461) (n := 1) xsh_out (w_xok0 mm433) (w_cal mm433 mm461 pn_X12 (Nat.le_of_ble_eq_true rfl) (Nat.le_of_ble_eq_true rfl)) (fun h b as hn => w_run_I mm433 mm461 dX5_unit_159 rfl rfl q1475 q1476 q159 q1477 pa461 hn)
theorem n433_162 : Snd mt G 433 162 (oRetA) := w_aret (hm := mm433) dX5_unit_162 rfl (Or.inl ⟨_, rfl⟩)
theorem sj433 : ∀ pc, Snd mt G 433 pc (j433 pc) := fun pc => (snd_br ((snd_br ((snd_br ((snd_br ((snd_br ((snd_br ((snd_br ((snd_lf n433_162)) ((snd_lf n433_159)))) ((snd_lf n433_158)))) ((snd_br ((snd_br ((snd_lf n433_157)) ((snd_lf n433_154)))) ((snd_lf n433_151)))))) ((snd_br ((snd_br ((snd_br ((snd_lf n433_150)) ((snd_lf n433_147)))) ((snd_lf n433_146)))) ((snd_br ((snd_lf n433_143)) ((snd_lf n433_142)))))))) ((snd_br ((snd_br ((snd_br ((snd_br ((snd_lf n433_141)) ((snd_lf n433_140)))) ((snd_lf n433_137)))) ((snd_br ((snd_br ((snd_lf n433_136)) ((snd_lf n433_133)))) ((snd_lf n433_132)))))) ((snd_br ((snd_br ((snd_br ((snd_lf n433_131)) ((snd_lf n433_130)))) ((snd_lf n433_127)))) ((snd_br ((snd_lf n433_126)) ((snd_lf n433_125)))))))))) ((snd_br ((snd_br ((snd_br ((snd_br ((snd_br ((snd_lf n433_122)) ((snd_lf n433_121)))) ((snd_lf n433_120)))) ((snd_br ((snd_br ((snd_lf n433_117)) ((snd_lf n433_116)))) ((snd_lf n433_115)))))) ((snd_br ((snd_br ((snd_br ((snd_lf n433_114)) ((snd_lf n433_111)))) ((snd_lf n433_108)))) ((snd_br ((snd_lf n433_106)) ((snd_lf n433_105)))))))) ((snd_br ((snd_br ((snd_br ((snd_br ((snd_lf n433_104)) ((snd_lf n433_101)))) ((snd_lf n433_100)))) ((snd_br ((snd_br ((snd_lf n433_97)) ((snd_lf n433_95)))) ((snd_lf n433_94)))))) ((snd_br ((snd_br ((snd_br ((snd_lf n433_93)) ((snd_lf n433_90)))) ((snd_lf n433_89)))) ((snd_br ((snd_lf n433_86)) ((snd_lf n433_85)))))))))))) ((snd_br ((snd_br ((snd_br ((snd_br ((snd_br ((snd_br ((snd_lf n433_82)) ((snd_lf n433_81)))) ((snd_lf n433_78)))) ((snd_br ((snd_br ((snd_lf n433_77)) ((snd_lf n433_74)))) ((snd_lf n433_73)))))) ((snd_br ((snd_br ((snd_br ((snd_lf n433_72)) ((snd_lf n433_69)))) ((snd_lf n433_66)))) ((snd_br ((snd_lf n433_64)) ((snd_lf n433_63)))))))) ((snd_br ((snd_br ((snd_br ((snd_br ((snd_lf n433_60)) ((snd_lf n433_57)))) ((snd_lf n433_55)))) ((snd_br ((snd_br ((snd_lf n433_54)) ((snd_lf n433_53)))) ((snd_lf n433_50)))))) ((snd_br ((snd_br ((snd_br ((snd_lf n433_49)) ((snd_lf n433_48)))) ((snd_lf n433_47)))) ((snd_br ((snd_lf n433_44)) ((snd_lf n433_42)))))))))) ((snd_br ((snd_br ((snd_br ((snd_br ((snd_br ((snd_lf n433_41)) ((snd_lf n433_40)))) ((snd_lf n433_37)))) ((snd_br ((snd_br ((snd_lf n433_36)) ((snd_lf n433_33)))) ((snd_lf n433_32)))))) ((snd_br ((snd_br ((snd_br ((snd_lf n433_29)) ((snd_lf n433_27)))) ((snd_lf n433_24)))) ((snd_br ((snd_lf n433_23)) ((snd_lf n433_22)))))))) ((snd_br ((snd_br ((snd_br ((snd_br ((snd_lf n433_19)) ((snd_lf n433_16)))) ((snd_lf n433_13)))) ((snd_br ((snd_lf n433_12)) ((snd_lf n433_11)))))) ((snd_br ((snd_br ((snd_br ((snd_lf n433_10)) ((snd_lf n433_7)))) ((snd_lf n433_4)))) ((snd_br ((snd_lf n433_1)) ((snd_lf n433_0)))))))))))))
end
section
variable {G : AG}
theorem n434_0 : Snd mt G 434 0 (oAload 0 1) := w_aload_n (hm := mm434) dX5_opens_0
theorem n434_1 : Snd mt G 434 1 (oCall 1 (fV [6] 425 1) 0 4 xOut) := s_callV (m' := 425) (n := 0) xsh_out (w_xok0 mm434) (w_cal mm434 mm425 pn_X5 (Nat.le_of_ble_eq_true rfl) (Nat.le_of_ble_eq_true rfl)) (fun h b as hc hn => w_run_V (ci := 5) mm434 mm425 dX5_opens_1 (Or.inl (List.mem_singleton.mp hc)) (Nat.le_of_ble_eq_true rfl) vc_5 rfl q1220 q1222 qs24 q152 q1223 pa425 hn)
theorem n434_4 : Snd mt G 434 4 (oConst (.int 40) 6) := w_bipush (hm := mm434) dX5_opens_4 (by decide)
theorem n434_6 : Snd mt G 434 6 (oCmpEq 14 9) := w_icmp_eq (hm := mm434) dX5_opens_6 rfl
theorem n434_9 : Snd mt G 434 9 (oAload 0 10) := w_aload_n (hm := mm434) dX5_opens_9
theorem n434_10 : Snd mt G 434 10 (oCall 1 (fV [6] 428 1) 0 13 xOut) := s_callV (m' := 428) (n := 0) xsh_out (w_xok0 mm434) (w_cal mm434 mm428 pn_X5 (Nat.le_of_ble_eq_true rfl) (Nat.le_of_ble_eq_true rfl)) (fun h b as hc hn => w_run_V (ci := 5) mm434 mm428 dX5_opens_10 (Or.inl (List.mem_singleton.mp hc)) (Nat.le_of_ble_eq_true rfl) vc_5 rfl q1333 q1335 qs27 q152 q1336 pa428 hn)
theorem n434_13 : Snd mt G 434 13 (oThrow [7]) := w_throw (hm := mm434) dX5_opens_13 (List.forall_mem_cons.mpr ⟨⟨6, _, rfl, (Nat.le_of_ble_eq_true rfl), vc_6⟩, (fun t ht => nomatch ht)⟩) rfl
theorem n434_14 : Snd mt G 434 14 (oAload 0 15) := w_aload_n (hm := mm434) dX5_opens_14
theorem n434_15 : Snd mt G 434 15 (oConst (.int 1) 16) := w_iconst (hm := mm434) dX5_opens_15 rfl
theorem n434_16 : Snd mt G 434 16 (oCall 2 (fV [6] 435 2) 0 19 xOut) := s_callV (m' := 435) (n := 1) xsh_out (w_xok0 mm434) (w_cal mm434 mm435 pn_X5 (Nat.le_of_ble_eq_true rfl) (Nat.le_of_ble_eq_true rfl)) (fun h b as hc hn => w_run_V (ci := 5) mm434 mm435 dX5_opens_16 (Or.inl (List.mem_singleton.mp hc)) (Nat.le_of_ble_eq_true rfl) vc_5 rfl q1423 q1425 qs34 q152 q1426 pa435 hn)
theorem n434_19 : Snd mt G 434 19 (oRetV) := w_vret (hm := mm434) dX5_opens_19 rfl
theorem sj434 : ∀ pc, Snd mt G 434 pc (j434 pc) := fun pc => (snd_br ((snd_br ((snd_br ((snd_br ((snd_lf n434_19)) ((snd_lf n434_16)))) ((snd_lf n434_15)))) ((snd_br ((snd_br ((snd_lf n434_14)) ((snd_lf n434_13)))) ((snd_lf n434_10)))))) ((snd_br ((snd_br ((snd_br ((snd_lf n434_9)) ((snd_lf n434_6)))) ((snd_lf n434_4)))) ((snd_br ((snd_lf n434_1)) ((snd_lf n434_0)))))))
end
section
variable {G : AG}
theorem n435_0 : Snd mt G 435 0 (oAload 0 1) := w_aload_n (hm := mm435) dX5_opens_2_0
theorem n435_1 : Snd mt G 435 1 (oGetf [6] 3 4) := w_getf (hm := mm435) dX5_opens_2_1 (fok1 (k := 3) (T := TX5) 5 (Nat.le_of_ble_eq_true rfl) vc_5 (Nat.le_of_ble_eq_true rfl) q1204)
theorem n435_4 : Snd mt G 435 4 (oConst (.int 6) 6) := w_bipush (hm := mm435) dX5_opens_2_4 (by decide)
theorem n435_6 : Snd mt G 435 6 (oCmpEq 9 22) := w_icmp_ne (hm := mm435) dX5_opens_2_6 rfl
theorem n435_9 : Snd mt G 435 9 (oNew 7 8 nfX6 12) := w_new (hm := mm435) (ci := 6) (T9 := TX6) (ty := tyX6) dX5_opens_2_9 (Nat.le_of_ble_eq_true rfl) vc_6 tyX6_ok (fun _ _ => rfl) q1337 q1338 q153
theorem n435_12 : Snd mt G 435 12 (oDup 13) := w_dup (hm := mm435) dX5_opens_2_12
theorem n435_13 : Snd mt G 435 13 (oConst (.int 3) 14) := w_iconst (hm := mm435) dX5_opens_2_13 rfl
theorem n435_14 : Snd mt G 435 14 (oAload 0 15) := w_aload_n (hm := mm435) dX5_opens_2_14
theorem n435_15 : Snd mt G 435 15 (oGetf [6] 2 18) := w_getf (hm := mm435) dX5_opens_2_15 (fok1 (k := 2) (T := TX5) 5 (Nat.le_of_ble_eq_true rfl) vc_5 (Nat.le_of_ble_eq_true rfl) q1203)
theorem n435_18 : Snd mt G 435 18 (oCall 3 (fI 443 3) 0 21 xOut) := s_callI (m' := 443) (n := 2) xsh_out (w_xok0 mm435) (w_cal mm435 mm443 pn_X6 (Nat.le_of_ble_eq_true rfl) (Nat.le_of_ble_eq_true rfl)) (fun h b as hn => w_run_I mm435 mm443 dX5_opens_2_18 rfl rfl q1346 q1347 q153 q1348 pa443 hn)
theorem n435_21 : Snd mt G 435 21 (oThrow [7]) := w_throw (hm := mm435) dX5_opens_2_21 (List.forall_mem_cons.mpr ⟨⟨6, _, rfl, (Nat.le_of_ble_eq_true rfl), vc_6⟩, (fun t ht => nomatch ht)⟩) rfl
theorem n435_22 : Snd mt G 435 22 (oAload 0 23) := w_aload_n (hm := mm435) dX5_opens_2_22
theorem n435_23 : Snd mt G 435 23 (oDup 24) := w_dup (hm := mm435) dX5_opens_2_23
theorem n435_24 : Snd mt G 435 24 (oGetf [6] 3 27) := w_getf (hm := mm435) dX5_opens_2_24 (fok1 (k := 3) (T := TX5) 5 (Nat.le_of_ble_eq_true rfl) vc_5 (Nat.le_of_ble_eq_true rfl) q1204)
theorem n435_27 : Snd mt G 435 27 (oConst (.int 1) 28) := w_iconst (hm := mm435) dX5_opens_2_27 rfl
theorem n435_28 : Snd mt G 435 28 (oBin (fun x y => x + y) 29) := w_iadd (hm := mm435) dX5_opens_2_28
theorem n435_29 : Snd mt G 435 29 (oPutf [6] 3 .int 32) := w_putf (hm := mm435) dX5_opens_2_29 (pok1 (k := 3) (T := TX5) 5 (Nat.le_of_ble_eq_true rfl) vc_5 (Nat.le_of_ble_eq_true rfl) rfl pd_X5_3 q1204)
theorem n435_32 : Snd mt G 435 32 (oAload 0 33) := w_aload_n (hm := mm435) dX5_opens_2_32
theorem n435_33 : Snd mt G 435 33 (oDup 34) := w_dup (hm := mm435) dX5_opens_2_33
theorem n435_34 : Snd mt G 435 34 (oGetf [6] 2 37) := w_getf (hm := mm435) dX5_opens_2_34 (fok1 (k := 2) (T := TX5) 5 (Nat.le_of_ble_eq_true rfl) vc_5 (Nat.le_of_ble_eq_true rfl) q1203)
theorem n435_37 : Snd mt G 435 37 (oIload 1 38) := w_iload_n (hm := mm435) dX5_opens_2_37
theorem n435_38 : Snd mt G 435 38 (oBin (fun x y => x + y) 39) := w_iadd (hm := mm435) dX5_opens_2_38
theorem n435_39 : Snd mt G 435 39 (oPutf [6] 2 .int 42) := w_putf (hm := mm435) dX5_opens_2_39 (pok1 (k := 2) (T := TX5) 5 (Nat.le_of_ble_eq_true rfl) vc_5 (Nat.le_of_ble_eq_true rfl) rfl pd_X5_2 q1203)
theorem n435_42 : Snd mt G 435 42 (oRetV) := w_vret (hm := mm435) dX5_opens_2_42 rfl
theorem sj435 : ∀ pc, Snd mt G 435 pc (j435 pc) := fun pc => (snd_br ((snd_br ((snd_br ((snd_br ((snd_br ((snd_lf n435_42)) ((snd_lf n435_39)))) ((snd_lf n435_38)))) ((snd_br ((snd_br ((snd_lf n435_37)) ((snd_lf n435_34)))) ((snd_lf n435_33)))))) ((snd_br ((snd_br ((snd_br ((snd_lf n435_32)) ((snd_lf n435_29)))) ((snd_lf n435_28)))) ((snd_br ((snd_br ((snd_lf n435_27)) ((snd_lf n435_24)))) ((snd_lf n435_23)))))))) ((snd_br ((snd_br ((snd_br ((snd_br ((snd_lf n435_22)) ((snd_lf n435_21)))) ((snd_lf n435_18)))) ((snd_br ((snd_br ((snd_lf n435_15)) ((snd_lf n435_14)))) ((snd_lf n435_13)))))) ((snd_br ((snd_br ((snd_br ((snd_lf n435_12)) ((snd_lf n435_9)))) ((snd_lf n435_6)))) ((snd_br ((snd_br ((snd_lf n435_4)) ((snd_lf n435_1)))) ((snd_lf n435_0)))))))))
end
section
variable {G : AG}
theorem n436_0 : Snd mt G 436 0 (oAload 0 1) := w_aload_n (hm := mm436) dX5_closes_0
theorem n436_1 : Snd mt G 436 1 (oIload 1 2) := w_iload_n (hm := mm436) dX5_closes_1
theorem n436_2 : Snd mt G 436 2 (oCall 2 (fV [6] 437 2) 0 5 xOut) := s_callV (m' := 437) (n := 1) xsh_out (w_xok0 mm436) (w_cal mm436 mm437 pn_X5 (Nat.le_of_ble_eq_true rfl) (Nat.le_of_ble_eq_true rfl)) (fun h b as hc hn => w_run_V (ci := 5) mm436 mm437 dX5_closes_2 (Or.inl (List.mem_singleton.mp hc)) (Nat.le_of_ble_eq_true rfl) vc_5 rfl q1431 q1433 qs36 q152 q1434 pa437 hn)
theorem n436_5 : Snd mt G 436 5 (oAload 0 6) := w_aload_n (hm := mm436) dX5_closes_5
theorem n436_6 : Snd mt G 436 6 (oDup 7) := w_dup (hm := mm436) dX5_closes_6
theorem n436_7 : Snd mt G 436 7 (oGetf [6] 3 10) := w_getf (hm := mm436) dX5_closes_7 (fok1 (k := 3) (T := TX5) 5 (Nat.le_of_ble_eq_true rfl) vc_5 (Nat.le_of_ble_eq_true rfl) q1204)
theorem n436_10 : Snd mt G 436 10 (oConst (.int 1) 11) := w_iconst (hm := mm436) dX5_closes_10 rfl
theorem n436_11 : Snd mt G 436 11 (oBin (fun x y => x - y) 12) := w_isub (hm := mm436) dX5_closes_11
theorem n436_12 : Snd mt G 436 12 (oPutf [6] 3 .int 15) := w_putf (hm := mm436) dX5_closes_12 (pok1 (k := 3) (T := TX5) 5 (Nat.le_of_ble_eq_true rfl) vc_5 (Nat.le_of_ble_eq_true rfl) rfl pd_X5_3 q1204)
theorem n436_15 : Snd mt G 436 15 (oRetV) := w_vret (hm := mm436) dX5_closes_15 rfl
theorem sj436 : ∀ pc, Snd mt G 436 pc (j436 pc) := fun pc => (snd_br ((snd_br ((snd_br ((snd_br ((snd_lf n436_15)) ((snd_lf n436_12)))) ((snd_lf n436_11)))) ((snd_br ((snd_lf n436_10)) ((snd_lf n436_7)))))) ((snd_br ((snd_br ((snd_br ((snd_lf n436_6)) ((snd_lf n436_5)))) ((snd_lf n436_2)))) ((snd_br ((snd_lf n436_1)) ((snd_lf n436_0)))))))
end
section
variable {G : AG}
theorem n437_0 : Snd mt G 437 0 (oAload 0 1) := w_aload_n (hm := mm437) dX5_need_0
theorem n437_1 : Snd mt G 437 1 (oCall 1 (fV [6] 425 1) 0 4 xOut) := s_callV (m' := 425) (n := 0) xsh_out (w_xok0 mm437) (w_cal mm437 mm425 pn_X5 (Nat.le_of_ble_eq_true rfl) (Nat.le_of_ble_eq_true rfl)) (fun h b as hc hn => w_run_V (ci := 5) mm437 mm425 dX5_need_1 (Or.inl (List.mem_singleton.mp hc)) (Nat.le_of_ble_eq_true rfl) vc_5 rfl q1220 q1222 qs24 q152 q1223 pa425 hn)
theorem n437_4 : Snd mt G 437 4 (oIload 1 5) := w_iload_n (hm := mm437) dX5_need_4
theorem n437_5 : Snd mt G 437 5 (oCmpEq 13 8) := w_icmp_eq (hm := mm437) dX5_need_5 rfl
theorem n437_8 : Snd mt G 437 8 (oAload 0 9) := w_aload_n (hm := mm437) dX5_need_8
theorem n437_9 : Snd mt G 437 9 (oCall 1 (fV [6] 428 1) 0 12 xOut) := s_callV (m' := 428) (n := 0) xsh_out (w_xok0 mm437) (w_cal mm437 mm428 pn_X5 (Nat.le_of_ble_eq_true rfl) (Nat.le_of_ble_eq_true rfl)) (fun h b as hc hn => w_run_V (ci := 5) mm437 mm428 dX5_need_9 (Or.inl (List.mem_singleton.mp hc)) (Nat.le_of_ble_eq_true rfl) vc_5 rfl q1333 q1335 qs27 q152 q1336 pa428 hn)
theorem n437_12 : Snd mt G 437 12 (oThrow [7]) := w_throw (hm := mm437) dX5_need_12 (List.forall_mem_cons.mpr ⟨⟨6, _, rfl, (Nat.le_of_ble_eq_true rfl), vc_6⟩, (fun t ht => nomatch ht)⟩) rfl
theorem n437_13 : Snd mt G 437 13 (oAload 0 14) := w_aload_n (hm := mm437) dX5_need_13
theorem n437_14 : Snd mt G 437 14 (oDup 15) := w_dup (hm := mm437) dX5_need_14
theorem n437_15 : Snd mt G 437 15 (oGetf [6] 2 18) := w_getf (hm := mm437) dX5_need_15 (fok1 (k := 2) (T := TX5) 5 (Nat.le_of_ble_eq_true rfl) vc_5 (Nat.le_of_ble_eq_true rfl) q1203)
theorem n437_18 : Snd mt G 437 18 (oConst (.int 1) 19) := w_iconst (hm := mm437) dX5_need_18 rfl
theorem n437_19 : Snd mt G 437 19 (oBin (fun x y => x + y) 20) := w_iadd (hm := mm437) dX5_need_19
theorem n437_20 : Snd mt G 437 20 (oPutf [6] 2 .int 23) := w_putf (hm := mm437) dX5_need_20 (pok1 (k := 2) (T := TX5) 5 (Nat.le_of_ble_eq_true rfl) vc_5 (Nat.le_of_ble_eq_true rfl) rfl pd_X5_2 q1203)
theorem n437_23 : Snd mt G 437 23 (oRetV) := w_vret (hm := mm437) dX5_need_23 rfl
theorem sj437 : ∀ pc, Snd mt G 437 pc (j437 pc) := fun pc => (snd_br ((snd_br ((snd_br ((snd_br ((snd_lf n437_23)) ((snd_lf n437_20)))) ((snd_br ((snd_lf n437_19)) ((snd_lf n437_18)))))) ((snd_br ((snd_br ((snd_lf n437_15)) ((snd_lf n437_14)))) ((snd_lf n437_13)))))) ((snd_br ((snd_br ((snd_br ((snd_lf n437_12)) ((snd_lf n437_9)))) ((snd_br ((snd_lf n437_8)) ((snd_lf n437_5)))))) ((snd_br ((snd_br ((snd_lf n437_4)) ((snd_lf n437_1)))) ((snd_lf n437_0)))))))
end
section
variable {G : AG}
theorem n438_0 : Snd mt G 438 0 (oAload 0 1) := w_aload_n (hm := mm438) dX5_nameOf_0
theorem n438_1 : Snd mt G 438 1 (oAstore 1 2) := w_astore_n (hm := mm438) dX5_nameOf_1 (Nat.le_of_ble_eq_true rfl)
theorem n438_2 : Snd mt G 438 2 (oConst (.int (-1)) 3) := w_iconst (hm := mm438) dX5_nameOf_2 rfl
theorem n438_3 : Snd mt G 438 3 (oIstore 2 4) := w_istore_n (hm := mm438) dX5_nameOf_3 (Nat.le_of_ble_eq_true rfl)
theorem n438_4 : Snd mt G 438 4 (oAload 1 5) := w_aload_n (hm := mm438) dX5_nameOf_4
theorem n438_5 : Snd mt G 438 5 (oCall 1 (fV [30, 1030] 222 2) 0 8 xOut) := s_callV (m' := 222) (n := 0) xsh_out (w_xok0 mm438) (w_cal mm438 mm222 pn_J9 (Nat.le_of_ble_eq_true rfl) (Nat.le_of_ble_eq_true rfl)) (fun h b as hc hn => w_run_V (ci := 29) mm438 mm222 dX5_nameOf_5 ((List.mem_cons.mp hc).imp id (fun z => List.mem_singleton.mp z)) (Nat.le_of_ble_eq_true rfl) vc_29 rfl q1257 q1258 q1259 q140 q1260 pa222 hn)
theorem n438_8 : Snd mt G 438 8 (oSwitch sw438_8) := w_lookupL (hm := mm438) (dfl := 149) (L := [((-791592328), 68), (96511, 96), (3202625, 110), (109642094, 138), (109761319, 124), (110621028, 82)]) dX5_nameOf_8 (by decide +kernel) rfl (by decide +kernel)
theorem n438_68 : Snd mt G 438 68 (oAload 1 69) := w_aload_n (hm := mm438) dX5_nameOf_68
theorem n438_69 : Snd mt G 438 69 (oGets 1009 71) := w_ldcS (hm := mm438) (j := 9) dX5_nameOf_69 sr_9 rfl
theorem n438_71 : Snd mt G 438 71 (oCall 2 (fV [30, 1030] 224 3) 0 74 xOut) := s_callV (m' := 224) (n := 1) xsh_out (w_xok0 mm438) (w_cal mm438 mm224 pn_J9 (Nat.le_of_ble_eq_true rfl) (Nat.le_of_ble_eq_true rfl)) (fun h b as hc hn => w_run_V (ci := 29) mm438 mm224 dX5_nameOf_71 ((List.mem_cons.mp hc).imp id (fun z => List.mem_singleton.mp z)) (Nat.le_of_ble_eq_true rfl) vc_29 rfl q1319 q1320 q1321 q140 q1322 pa224 hn)
theorem n438_74 : Snd mt G 438 74 (oIfEq 149 77) := w_if_eq (hm := mm438) dX5_nameOf_74 rfl
theorem n438_77 : Snd mt G 438 77 (oConst (.int 0) 78) := w_iconst (hm := mm438) dX5_nameOf_77 rfl
theorem n438_78 : Snd mt G 438 78 (oIstore 2 79) := w_istore_n (hm := mm438) dX5_nameOf_78 (Nat.le_of_ble_eq_true rfl)
theorem n438_79 : Snd mt G 438 79 (oGoto 149) := w_goto (hm := mm438) dX5_nameOf_79 rfl
theorem n438_82 : Snd mt G 438 82 (oAload 1 83) := w_aload_n (hm := mm438) dX5_nameOf_82
theorem n438_83 : Snd mt G 438 83 (oGets 1010 85) := w_ldcS (hm := mm438) (j := 10) dX5_nameOf_83 sr_10 rfl
theorem n438_85 : Snd mt G 438 85 (oCall 2 (fV [30, 1030] 224 3) 0 88 xOut) := s_callV (m' := 224) (n := 1) xsh_out (w_xok0 mm438) (w_cal mm438 mm224 pn_J9 (Nat.le_of_ble_eq_true rfl) (Nat.le_of_ble_eq_true rfl)) (fun h b as hc hn => w_run_V (ci := 29) mm438 mm224 dX5_nameOf_85 ((List.mem_cons.mp hc).imp id (fun z => List.mem_singleton.mp z)) (Nat.le_of_ble_eq_true rfl) vc_29 rfl q1319 q1320 q1321 q140 q1322 pa224 hn)
theorem n438_88 : Snd mt G 438 88 (oIfEq 149 91) := w_if_eq (hm := mm438) dX5_nameOf_88 rfl
theorem n438_91 : Snd mt G 438 91 (oConst (.int 1) 92) := w_iconst (hm := mm438) dX5_nameOf_91 rfl
theorem n438_92 : Snd mt G 438 92 (oIstore 2 93) := w_istore_n (hm := mm438) dX5_nameOf_92 (Nat.le_of_ble_eq_true rfl)
theorem n438_93 : Snd mt G 438 93 (oGoto 149) := w_goto (hm := mm438) dX5_nameOf_93 rfl
theorem n438_96 : Snd mt G 438 96 (oAload 1 97) := w_aload_n (hm := mm438) dX5_nameOf_96
theorem n438_97 : Snd mt G 438 97 (oGets 1011 99) := w_ldcS (hm := mm438) (j := 11) dX5_nameOf_97 sr_11 rfl
theorem n438_99 : Snd mt G 438 99 (oCall 2 (fV [30, 1030] 224 3) 0 102 xOut) := s_callV (m' := 224) (n := 1) xsh_out (w_xok0 mm438) (w_cal mm438 mm224 pn_J9 (Nat.le_of_ble_eq_true rfl) (Nat.le_of_ble_eq_true rfl)) (fun h b as hc hn => w_run_V (ci := 29) mm438 mm224 dX5_nameOf_99 ((List.mem_cons.mp hc).imp id (fun z => List.mem_singleton.mp z)) (Nat.le_of_ble_eq_true rfl) vc_29 rfl q1319 q1320 q1321 q140 q1322 pa224 hn)
theorem n438_102 : Snd mt G 438 102 (oIfEq 149 105) := w_if_eq (hm := mm438) dX5_nameOf_102 rfl
theorem n438_105 : Snd mt G 438 105 (oConst (.int 2) 106) := w_iconst (hm := mm438) dX5_nameOf_105 rfl
theorem n438_106 : Snd mt G 438 106 (oIstore 2 107) := w_istore_n (hm := mm438) dX5_nameOf_106 (Nat.le_of_ble_eq_true rfl)
theorem n438_107 : Snd mt G 438 107 (oGoto 149) := w_goto (hm := mm438) dX5_nameOf_107 rfl
theorem n438_110 : Snd mt G 438 110 (oAload 1 111) := w_aload_n (hm := mm438) dX5_nameOf_110
theorem n438_111 : Snd mt G 438 111 (oGets 1012 113) := w_ldcS (hm := mm438) (j := 12) dX5_nameOf_111 sr_12 rfl
theorem n438_113 : Snd mt G 438 113 (oCall 2 (fV [30, 1030] 224 3) 0 116 xOut) := s_callV (m' := 224) (n := 1) xsh_out (w_xok0 mm438) (w_cal mm438 mm224 pn_J9 (Nat.le_of_ble_eq_true rfl) (Nat.le_of_ble_eq_true rfl)) (fun h b as hc hn => w_run_V (ci := 29) mm438 mm224 dX5_nameOf_113 ((List.mem_cons.mp hc).imp id (fun z => List.mem_singleton.mp z)) (Nat.le_of_ble_eq_true rfl) vc_29 rfl q1319 q1320 q1321 q140 q1322 pa224 hn)
theorem n438_116 : Snd mt G 438 116 (oIfEq 149 119) := w_if_eq (hm := mm438) dX5_nameOf_116 rfl
theorem n438_119 : Snd mt G 438 119 (oConst (.int 3) 120) := w_iconst (hm := mm438) dX5_nameOf_119 rfl
theorem n438_120 : Snd mt G 438 120 (oIstore 2 121) := w_istore_n (hm := mm438) dX5_nameOf_120 (Nat.le_of_ble_eq_true rfl)
theorem n438_121 : Snd mt G 438 121 (oGoto 149) := w_goto (hm := mm438) dX5_nameOf_121 rfl
theorem n438_124 : Snd mt G 438 124 (oAload 1 125) := w_aload_n (hm := mm438) dX5_nameOf_124
theorem n438_125 : Snd mt G 438 125 (oGets 1013 127) := w_ldcS (hm := mm438) (j := 13) dX5_nameOf_125 sr_13 rfl
theorem n438_127 : Snd mt G 438 127 (oCall 2 (fV [30, 1030] 224 3) 0 130 xOut) := s_callV (m' := 224) (n := 1) xsh_out (w_xok0 mm438) (w_cal mm438 mm224 pn_J9 (Nat.le_of_ble_eq_true rfl) (Nat.le_of_ble_eq_true rfl)) (fun h b as hc hn => w_run_V (ci := 29) mm438 mm224 dX5_nameOf_127 ((List.mem_cons.mp hc).imp id (fun z => List.mem_singleton.mp z)) (Nat.le_of_ble_eq_true rfl) vc_29 rfl q1319 q1320 q1321 q140 q1322 pa224 hn)
theorem n438_130 : Snd mt G 438 130 (oIfEq 149 133) := w_if_eq (hm := mm438) dX5_nameOf_130 rfl
theorem n438_133 : Snd mt G 438 133 (oConst (.int 4) 134) := w_iconst (hm := mm438) dX5_nameOf_133 rfl
theorem n438_134 : Snd mt G 438 134 (oIstore 2 135) := w_istore_n (hm := mm438) dX5_nameOf_134 (Nat.le_of_ble_eq_true rfl)
theorem n438_135 : Snd mt G 438 135 (oGoto 149) := w_goto (hm := mm438) dX5_nameOf_135 rfl
theorem n438_138 : Snd mt G 438 138 (oAload 1 139) := w_aload_n (hm := mm438) dX5_nameOf_138
theorem n438_139 : Snd mt G 438 139 (oGets 1014 141) := w_ldcS (hm := mm438) (j := 14) dX5_nameOf_139 sr_14 rfl
theorem n438_141 : Snd mt G 438 141 (oCall 2 (fV [30, 1030] 224 3) 0 144 xOut) := s_callV (m' := 224) (n := 1) xsh_out (w_xok0 mm438) (w_cal mm438 mm224 pn_J9 (Nat.le_of_ble_eq_true rfl) (Nat.le_of_ble_eq_true rfl)) (fun h b as hc hn => w_run_V (ci := 29) mm438 mm224 dX5_nameOf_141 ((List.mem_cons.mp hc).imp id (fun z => List.mem_singleton.mp z)) (Nat.le_of_ble_eq_true rfl) vc_29 rfl q1319 q1320 q1321 q140 q1322 pa224 hn)
theorem n438_144 : Snd mt G 438 144 (oIfEq 149 147) := w_if_eq (hm := mm438) dX5_nameOf_144 rfl
theorem n438_147 : Snd mt G 438 147 (oConst (.int 5) 148) := w_iconst (hm := mm438) dX5_nameOf_147 rfl
theorem n438_148 : Snd mt G 438 148 (oIstore 2 149) := w_istore_n (hm := mm438) dX5_nameOf_148 (Nat.le_of_ble_eq_true rfl)
theorem n438_149 : Snd mt G 438 149 (oIload 2 150) := w_iload_n (hm := mm438) dX5_nameOf_149
theorem n438_150 : Snd mt G 438 150 (oSwitch sw438_150) := w_tableL (hm := mm438) (dfl := 200) (L := [188, 190, 192, 194, 196, 198]) dX5_nameOf_150 rfl rfl (by decide +kernel)
theorem n438_188 : Snd mt G 438 188 (oConst (.int 0) 189) := w_iconst (hm := mm438) dX5_nameOf_188 rfl
theorem n438_189 : Snd mt G 438 189 (oRetI .int) := w_iret (hm := mm438) dX5_nameOf_189 rfl
theorem n438_190 : Snd mt G 438 190 (oConst (.int 1) 191) := w_iconst (hm := mm438) dX5_nameOf_190 rfl
theorem n438_191 : Snd mt G 438 191 (oRetI .int) := w_iret (hm := mm438) dX5_nameOf_191 rfl
theorem n438_192 : Snd mt G 438 192 (oConst (.int 2) 193) := w_iconst (hm := mm438) dX5_nameOf_192 rfl
theorem n438_193 : Snd mt G 438 193 (oRetI .int) := w_iret (hm := mm438) dX5_nameOf_193 rfl
theorem n438_194 : Snd mt G 438 194 (oConst (.int 3) 195) := w_iconst (hm := mm438) dX5_nameOf_194 rfl
theorem n438_195 : Snd mt G 438 195 (oRetI .int) := w_iret (hm := mm438) dX5_nameOf_195 rfl
theorem n438_196 : Snd mt G 438 196 (oConst (.int 4) 197) := w_iconst (hm := mm438) dX5_nameOf_196 rfl
theorem n438_197 : Snd mt G 438 197 (oRetI .int) := w_iret (hm := mm438) dX5_nameOf_197 rfl
theorem n438_198 : Snd mt G 438 198 (oConst (.int 5) 199) := w_iconst (hm := mm438) dX5_nameOf_198 rfl
theorem n438_199 : Snd mt G 438 199 (oRetI .int) := w_iret (hm := mm438) dX5_nameOf_199 rfl
theorem n438_200 : Snd mt G 438 200 (oConst (.int (-1)) 201) := w_iconst (hm := mm438) dX5_nameOf_200 rfl
theorem n438_201 : Snd mt G 438 201 (oRetI .int) := w_iret (hm := mm438) dX5_nameOf_201 rfl
theorem sj438 : ∀ pc, Snd mt G 438 pc (j438 pc) := fun pc => (snd_br ((snd_br ((snd_br ((snd_br ((snd_br ((snd_br ((snd_lf n438_201)) ((snd_lf n438_200)))) ((snd_br ((snd_lf n438_199)) ((snd_lf n438_198)))))) ((snd_br ((snd_br ((snd_lf n438_197)) ((snd_lf n438_196)))) ((snd_br ((snd_lf n438_195)) ((snd_lf n438_194)))))))) ((snd_br ((snd_br ((snd_br ((snd_lf n438_193)) ((snd_lf n438_192)))) ((snd_br ((snd_lf n438_191)) ((snd_lf n438_190)))))) ((snd_br ((snd_br ((snd_lf n438_189)) ((snd_lf n438_188)))) ((snd_br ((snd_lf n438_150)) ((snd_lf n438_149)))))))))) ((snd_br ((snd_br ((snd_br ((snd_br ((snd_lf n438_148)) ((snd_lf n438_147)))) ((snd_br ((snd_lf n438_144)) ((snd_lf n438_141)))))) ((snd_br ((snd_br ((snd_lf n438_139)) ((snd_lf n438_138)))) ((snd_br ((snd_lf n438_135)) ((snd_lf n438_134)))))))) ((snd_br ((snd_br ((snd_br ((snd_lf n438_133)) ((snd_lf n438_130)))) ((snd_br ((snd_lf n438_127)) ((snd_lf n438_125)))))) ((snd_br ((snd_br ((snd_lf n438_124)) ((snd_lf n438_121)))) ((snd_br ((snd_lf n438_120)) ((snd_lf n438_119)))))))))))) ((snd_br ((snd_br ((snd_br ((snd_br ((snd_br ((snd_lf n438_116)) ((snd_lf n438_113)))) ((snd_br ((snd_lf n438_111)) ((snd_lf n438_110)))))) ((snd_br ((snd_br ((snd_lf n438_107)) ((snd_lf n438_106)))) ((snd_br ((snd_lf n438_105)) ((snd_lf n438_102)))))))) ((snd_br ((snd_br ((snd_br ((snd_lf n438_99)) ((snd_lf n438_97)))) ((snd_br ((snd_lf n438_96)) ((snd_lf n438_93)))))) ((snd_br ((snd_br ((snd_lf n438_92)) ((snd_lf n438_91)))) ((snd_br ((snd_lf n438_88)) ((snd_lf n438_85)))))))))) ((snd_br ((snd_br ((snd_br ((snd_br ((snd_lf n438_83)) ((snd_lf n438_82)))) ((snd_br ((snd_lf n438_79)) ((snd_lf n438_78)))))) ((snd_br ((snd_br ((snd_lf n438_77)) ((snd_lf n438_74)))) ((snd_br ((snd_lf n438_71)) ((snd_lf n438_69)))))))) ((snd_br ((snd_br ((snd_br ((snd_lf n438_68)) ((snd_lf n438_8)))) ((snd_br ((snd_lf n438_5)) ((snd_lf n438_4)))))) ((snd_br ((snd_br ((snd_lf n438_3)) ((snd_lf n438_2)))) ((snd_br ((snd_lf n438_1)) ((snd_lf n438_0)))))))))))))
end
section
variable {G : AG}
theorem n439_0 : Snd mt G 439 0 (oAload 0 1) := w_aload_n (hm := mm439) dX5_takes_0
theorem n439_1 : Snd mt G 439 1 (oCall 1 (fV [6] 427 3) 0 4 xOut) := s_callV (m' := 427) (n := 0) xsh_out (w_xok0 mm439) (w_cal mm439 mm427 pn_X5 (Nat.le_of_ble_eq_true rfl) (Nat.le_of_ble_eq_true rfl)) (fun h b as hc hn => w_run_V (ci := 5) mm439 mm427 dX5_takes_1 (Or.inl (List.mem_singleton.mp hc)) (Nat.le_of_ble_eq_true rfl) vc_5 rfl q1229 q1231 qs26 q152 q1232 pa427 hn)
theorem n439_4 : Snd mt G 439 4 (oAload 1 5) := w_aload_n (hm := mm439) dX5_takes_4
theorem n439_5 : Snd mt G 439 5 (oCall 2 (fV [30, 1030] 224 3) 0 8 xOut) := s_callV (m' := 224) (n := 1) xsh_out (w_xok0 mm439) (w_cal mm439 mm224 pn_J9 (Nat.le_of_ble_eq_true rfl) (Nat.le_of_ble_eq_true rfl)) (fun h b as hc hn => w_run_V (ci := 29) mm439 mm224 dX5_takes_5 ((List.mem_cons.mp hc).imp id (fun z => List.mem_singleton.mp z)) (Nat.le_of_ble_eq_true rfl) vc_29 rfl q1319 q1320 q1321 q140 q1322 pa224 hn)
theorem n439_8 : Snd mt G 439 8 (oIfEq 11 13) := w_if_ne (hm := mm439) dX5_takes_8 rfl
theorem n439_11 : Snd mt G 439 11 (oConst (.int 0) 12) := w_iconst (hm := mm439) dX5_takes_11 rfl
theorem n439_12 : Snd mt G 439 12 (oRetI .boolean) := w_zret (hm := mm439) dX5_takes_12 rfl
theorem n439_13 : Snd mt G 439 13 (oAload 0 14) := w_aload_n (hm := mm439) dX5_takes_13
theorem n439_14 : Snd mt G 439 14 (oDup 15) := w_dup (hm := mm439) dX5_takes_14
theorem n439_15 : Snd mt G 439 15 (oGetf [6] 2 18) := w_getf (hm := mm439) dX5_takes_15 (fok1 (k := 2) (T := TX5) 5 (Nat.le_of_ble_eq_true rfl) vc_5 (Nat.le_of_ble_eq_true rfl) q1203)
theorem n439_18 : Snd mt G 439 18 (oAload 1 19) := w_aload_n (hm := mm439) dX5_takes_18
theorem n439_19 : Snd mt G 439 19 (oCall 1 (fV [30, 1030] 215 1) 0 22 xOut) := s_callV (m' := 215) (n := 0) xsh_out (w_xok0 mm439) (w_cal mm439 mm215 pn_J9 (Nat.le_of_ble_eq_true rfl) (Nat.le_of_ble_eq_true rfl)) (fun h b as hc hn => w_run_V (ci := 29) mm439 mm215 dX5_takes_19 ((List.mem_cons.mp hc).imp id (fun z => List.mem_singleton.mp z)) (Nat.le_of_ble_eq_true rfl) vc_29 rfl q1365 q368 q369 q140 q370 pa215 hn)
theorem n439_22 : Snd mt G 439 22 (oBin (fun x y => x + y) 23) := w_iadd (hm := mm439) dX5_takes_22
theorem n439_23 : Snd mt G 439 23 (oPutf [6] 2 .int 26) := w_putf (hm := mm439) dX5_takes_23 (pok1 (k := 2) (T := TX5) 5 (Nat.le_of_ble_eq_true rfl) vc_5 (Nat.le_of_ble_eq_true rfl) rfl pd_X5_2 q1203)
theorem n439_26 : Snd mt G 439 26 (oConst (.int 1) 27) := w_iconst (hm := mm439) dX5_takes_26 rfl
theorem n439_27 : Snd mt G 439 27 (oRetI .boolean) := w_zret (hm := mm439) dX5_takes_27 rfl
theorem sj439 : ∀ pc, Snd mt G 439 pc (j439 pc) := fun pc => (snd_br ((snd_br ((snd_br ((snd_br ((snd_lf n439_27)) ((snd_lf n439_26)))) ((snd_br ((snd_lf n439_23)) ((snd_lf n439_22)))))) ((snd_br ((snd_br ((snd_lf n439_19)) ((snd_lf n439_18)))) ((snd_br ((snd_lf n439_15)) ((snd_lf n439_14)))))))) ((snd_br ((snd_br ((snd_br ((snd_lf n439_13)) ((snd_lf n439_12)))) ((snd_br ((snd_lf n439_11)) ((snd_lf n439_8)))))) ((snd_br ((snd_br ((snd_lf n439_5)) ((snd_lf n439_4)))) ((snd_br ((snd_lf n439_1)) ((snd_lf n439_0)))))))))
end
section
variable {G : AG}
theorem n440_0 : Snd mt G 440 0 (oAload 0 1) := w_aload_n (hm := mm440) dX5_cond_0
theorem n440_1 : Snd mt G 440 1 (oCall 1 (fV [6] 441 2) 1 4 xOut) := s_callV (m' := 441) (n := 0) xsh_out (w_xok0 mm440) (w_cal mm440 mm441 pn_X5 (Nat.le_of_ble_eq_true rfl) (Nat.le_of_ble_eq_true rfl)) (fun h b as hc hn => w_run_V (ci := 5) mm440 mm441 dX5_cond_1 (Or.inl (List.mem_singleton.mp hc)) (Nat.le_of_ble_eq_true rfl) vc_5 rfl q1535 q1537 qs39 q152 q1538 pa441 hn)
theorem n440_4 : Snd mt G 440 4 (oAstore 1 5) := w_astore_n (hm := mm440) dX5_cond_4 (Nat.le_of_ble_eq_true rfl)
theorem n440_5 : Snd mt G 440 5 (oAload 0 6) := w_aload_n (hm := mm440) dX5_cond_5
theorem n440_6 : Snd mt G 440 6 (oGets 1018 8) := w_ldcS (hm := mm440) (j := 18) dX5_cond_6 sr_18 rfl
theorem n440_8 : Snd mt G 440 8 (oCall 2 (fV [6] 439 2) 0 11 xOut) := s_callV (m' := 439) (n := 1) xsh_out (w_xok0 mm440) (w_cal mm440 mm439 pn_X5 (Nat.le_of_ble_eq_true rfl) (Nat.le_of_ble_eq_true rfl)) (fun h b as hc hn => w_run_V (ci := 5) mm440 mm439 dX5_cond_8 (Or.inl (List.mem_singleton.mp hc)) (Nat.le_of_ble_eq_true rfl) vc_5 rfl q1527 q1529 qs37 q152 q1530 pa439 hn)
theorem n440_11 : Snd mt G 440 11 (oIfEq 31 14) := w_if_eq (hm := mm440) dX5_cond_11 rfl
theorem n440_14 : Snd mt G 440 14 (oNew 17 3 nfX18 17) := w_new (hm := mm440) (ci := 16) (T9 := TX18) (ty := tyX18) dX5_cond_14 (Nat.le_of_ble_eq_true rfl) vc_16 tyX18_ok (fun _ _ => rfl) q1574 q1575 q165
theorem n440_17 : Snd mt G 440 17 (oDup 18) := w_dup (hm := mm440) dX5_cond_17
theorem n440_18 : Snd mt G 440 18 (oConst (.int 1) 19) := w_iconst (hm := mm440) dX5_cond_18 rfl
theorem n440_19 : Snd mt G 440 19 (oAload 1 20) := w_aload_n (hm := mm440) dX5_cond_19
theorem n440_20 : Snd mt G 440 20 (oAload 0 21) := w_aload_n (hm := mm440) dX5_cond_20
theorem n440_21 : Snd mt G 440 21 (oCall 1 (fV [6] 441 2) 1 24 xOut) := s_callV (m' := 441) (n := 0) xsh_out (w_xok0 mm440) (w_cal mm440 mm441 pn_X5 (Nat.le_of_ble_eq_true rfl) (Nat.le_of_ble_eq_true rfl)) (fun h b as hc hn => w_run_V (ci := 5) mm440 mm441 dX5_cond_21 (Or.inl (List.mem_singleton.mp hc)) (Nat.le_of_ble_eq_true rfl) vc_5 rfl q1535 q1537 qs39 q152 q1538 pa441 hn)
theorem n440_24 : Snd mt G 440 24 (oCall 4 (fI 472 4) 0 27 xOut) := s_callI (m' := 472) (n := 3) xsh_out (w_xok0 mm440) (w_cal mm440 mm472 pn_X18 (Nat.le_of_ble_eq_true rfl) (Nat.le_of_ble_eq_true rfl)) (fun h b as hn => w_run_I mm440 mm472 dX5_cond_24 rfl rfl q1576 q1577 q165 q1578 pa472 hn)
theorem n440_27 : Snd mt G 440 27 (oAstore 1 28) := w_astore_n (hm := mm440) dX5_cond_27 (Nat.le_of_ble_eq_true rfl)
theorem n440_28 : Snd mt G 440 28 (oGoto 5) := w_goto (hm := mm440) dX5_cond_28 rfl
theorem n440_31 : Snd mt G 440 31 (oAload 1 32) := w_aload_n (hm := mm440) dX5_cond_31
theorem n440_32 : Snd mt G 440 32 (oRetA) := w_aret (hm := mm440) dX5_cond_32 rfl (Or.inl ⟨_, rfl⟩)
theorem sj440 : ∀ pc, Snd mt G 440 pc (j440 pc) := fun pc => (snd_br ((snd_br ((snd_br ((snd_br ((snd_br ((snd_lf n440_32)) ((snd_lf n440_31)))) ((snd_lf n440_28)))) ((snd_br ((snd_lf n440_27)) ((snd_lf n440_24)))))) ((snd_br ((snd_br ((snd_lf n440_21)) ((snd_lf n440_20)))) ((snd_br ((snd_lf n440_19)) ((snd_lf n440_18)))))))) ((snd_br ((snd_br ((snd_br ((snd_br ((snd_lf n440_17)) ((snd_lf n440_14)))) ((snd_lf n440_11)))) ((snd_br ((snd_lf n440_8)) ((snd_lf n440_6)))))) ((snd_br ((snd_br ((snd_lf n440_5)) ((snd_lf n440_4)))) ((snd_br ((snd_lf n440_1)) ((snd_lf n440_0)))))))))
end
section
variable {G : AG}
theorem n441_0 : Snd mt G 441 0 (oAload 0 1) := w_aload_n (hm := mm441) dX5_all_0
theorem n441_1 : Snd mt G 441 1 (oCall 1 (fV [6] 442 3) 1 4 xOut) := s_callV (m' := 442) (n := 0) xsh_out (w_xok0 mm441) (w_cal mm441 mm442 pn_X5 (Nat.le_of_ble_eq_true rfl) (Nat.le_of_ble_eq_true rfl)) (fun h b as hc hn => w_run_V (ci := 5) mm441 mm442 dX5_all_1 (Or.inl (List.mem_singleton.mp hc)) (Nat.le_of_ble_eq_true rfl) vc_5 rfl q1539 q1541 qs40 q152 q1542 pa442 hn)
theorem n441_4 : Snd mt G 441 4 (oAstore 1 5) := w_astore_n (hm := mm441) dX5_all_4 (Nat.le_of_ble_eq_true rfl)
theorem n441_5 : Snd mt G 441 5 (oAload 0 6) := w_aload_n (hm := mm441) dX5_all_5
theorem n441_6 : Snd mt G 441 6 (oGets 1017 8) := w_ldcS (hm := mm441) (j := 17) dX5_all_6 sr_17 rfl
theorem n441_8 : Snd mt G 441 8 (oCall 2 (fV [6] 439 2) 0 11 xOut) := s_callV (m' := 439) (n := 1) xsh_out (w_xok0 mm441) (w_cal mm441 mm439 pn_X5 (Nat.le_of_ble_eq_true rfl) (Nat.le_of_ble_eq_true rfl)) (fun h b as hc hn => w_run_V (ci := 5) mm441 mm439 dX5_all_8 (Or.inl (List.mem_singleton.mp hc)) (Nat.le_of_ble_eq_true rfl) vc_5 rfl q1527 q1529 qs37 q152 q1530 pa439 hn)
theorem n441_11 : Snd mt G 441 11 (oIfEq 31 14) := w_if_eq (hm := mm441) dX5_all_11 rfl
theorem n441_14 : Snd mt G 441 14 (oNew 17 3 nfX18 17) := w_new (hm := mm441) (ci := 16) (T9 := TX18) (ty := tyX18) dX5_all_14 (Nat.le_of_ble_eq_true rfl) vc_16 tyX18_ok (fun _ _ => rfl) q1574 q1575 q165
theorem n441_17 : Snd mt G 441 17 (oDup 18) := w_dup (hm := mm441) dX5_all_17
theorem n441_18 : Snd mt G 441 18 (oConst (.int 0) 19) := w_iconst (hm := mm441) dX5_all_18 rfl
theorem n441_19 : Snd mt G 441 19 (oAload 1 20) := w_aload_n (hm := mm441) dX5_all_19
theorem n441_20 : Snd mt G 441 20 (oAload 0 21) := w_aload_n (hm := mm441) dX5_all_20
theorem n441_21 : Snd mt G 441 21 (oCall 1 (fV [6] 442 3) 1 24 xOut) := s_callV (m' := 442) (n := 0) xsh_out (w_xok0 mm441) (w_cal mm441 mm442 pn_X5 (Nat.le_of_ble_eq_true rfl) (Nat.le_of_ble_eq_true rfl)) (fun h b as hc hn => w_run_V (ci := 5) mm441 mm442 dX5_all_21 (Or.inl (List.mem_singleton.mp hc)) (Nat.le_of_ble_eq_true rfl) vc_5 rfl q1539 q1541 qs40 q152 q1542 pa442 hn)
theorem n441_24 : Snd mt G 441 24 (oCall 4 (fI 472 4) 0 27 xOut) := s_callI (m' := 472) (n := 3) xsh_out (w_xok0 mm441) (w_cal mm441 mm472 pn_X18 (Nat.le_of_ble_eq_true rfl) (Nat.le_of_ble_eq_true rfl)) (fun h b as hn => w_run_I mm441 mm472 dX5_all_24 rfl rfl q1576 q1577 q165 q1578 pa472 hn)
theorem n441_27 : Snd mt G 441 27 (oAstore 1 28) := w_astore_n (hm := mm441) dX5_all_27 (Nat.le_of_ble_eq_true rfl)
theorem n441_28 : Snd mt G 441 28 (oGoto 5) := w_goto (hm := mm441) dX5_all_28 rfl
theorem n441_31 : Snd mt G 441 31 (oAload 1 32) := w_aload_n (hm := mm441) dX5_all_31
theorem n441_32 : Snd mt G 441 32 (oRetA) := w_aret (hm := mm441) dX5_all_32 rfl (Or.inl ⟨_, rfl⟩)
theorem sj441 : ∀ pc, Snd mt G 441 pc (j441 pc) := fun pc => (snd_br ((snd_br ((snd_br ((snd_br ((snd_br ((snd_lf n441_32)) ((snd_lf n441_31)))) ((snd_lf n441_28)))) ((snd_br ((snd_lf n441_27)) ((snd_lf n441_24)))))) ((snd_br ((snd_br ((snd_lf n441_21)) ((snd_lf n441_20)))) ((snd_br ((snd_lf n441_19)) ((snd_lf n441_18)))))))) ((snd_br ((snd_br ((snd_br ((snd_br ((snd_lf n441_17)) ((snd_lf n441_14)))) ((snd_lf n441_11)))) ((snd_br ((snd_lf n441_8)) ((snd_lf n441_6)))))) ((snd_br ((snd_br ((snd_lf n441_5)) ((snd_lf n441_4)))) ((snd_br ((snd_lf n441_1)) ((snd_lf n441_0)))))))))
end
section
variable {G : AG}
theorem n442_0 : Snd mt G 442 0 (oAload 0 1) := w_aload_n (hm := mm442) dX5_one_0
theorem n442_1 : Snd mt G 442 1 (oCall 1 (fV [6] 425 1) 0 4 xOut) := s_callV (m' := 425) (n := 0) xsh_out (w_xok0 mm442) (w_cal mm442 mm425 pn_X5 (Nat.le_of_ble_eq_true rfl) (Nat.le_of_ble_eq_true rfl)) (fun h b as hc hn => w_run_V (ci := 5) mm442 mm425 dX5_one_1 (Or.inl (List.mem_singleton.mp hc)) (Nat.le_of_ble_eq_true rfl) vc_5 rfl q1220 q1222 qs24 q152 q1223 pa425 hn)
theorem n442_4 : Snd mt G 442 4 (oConst (.int 91) 6) := w_bipush (hm := mm442) dX5_one_4 (by decide)
theorem n442_6 : Snd mt G 442 6 (oCmpEq 9 27) := w_icmp_ne (hm := mm442) dX5_one_6 rfl
theorem n442_9 : Snd mt G 442 9 (oAload 0 10) := w_aload_n (hm := mm442) dX5_one_9
theorem n442_10 : Snd mt G 442 10 (oConst (.int 1) 11) := w_iconst (hm := mm442) dX5_one_10 rfl
theorem n442_11 : Snd mt G 442 11 (oCall 2 (fV [6] 435 2) 0 14 xOut) := s_callV (m' := 435) (n := 1) xsh_out (w_xok0 mm442) (w_cal mm442 mm435 pn_X5 (Nat.le_of_ble_eq_true rfl) (Nat.le_of_ble_eq_true rfl)) (fun h b as hc hn => w_run_V (ci := 5) mm442 mm435 dX5_one_11 (Or.inl (List.mem_singleton.mp hc)) (Nat.le_of_ble_eq_true rfl) vc_5 rfl q1423 q1425 qs34 q152 q1426 pa435 hn)
theorem n442_14 : Snd mt G 442 14 (oAload 0 15) := w_aload_n (hm := mm442) dX5_one_14
theorem n442_15 : Snd mt G 442 15 (oCall 1 (fV [6] 440 2) 1 18 xOut) := s_callV (m' := 440) (n := 0) xsh_out (w_xok0 mm442) (w_cal mm442 mm440 pn_X5 (Nat.le_of_ble_eq_true rfl) (Nat.le_of_ble_eq_true rfl)) (fun h b as hc hn => w_run_V (ci := 5) mm442 mm440 dX5_one_15 (Or.inl (List.mem_singleton.mp hc)) (Nat.le_of_ble_eq_true rfl) vc_5 rfl q1531 q1533 qs38 q152 q1534 pa440 hn)
theorem n442_18 : Snd mt G 442 18 (oAstore 1 19) := w_astore_n (hm := mm442) dX5_one_18 (Nat.le_of_ble_eq_true rfl)
theorem n442_19 : Snd mt G 442 19 (oAload 0 20) := w_aload_n (hm := mm442) dX5_one_19
theorem n442_20 : Snd mt G 442 20 (oConst (.int 93) 22) := w_bipush (hm := mm442) dX5_one_20 (by decide)
theorem n442_22 : Snd mt G 442 22 (oCall 2 (fV [6] 436 2) 0 25 xOut) := s_callV (m' := 436) (n := 1) xsh_out (w_xok0 mm442) (w_cal mm442 mm436 pn_X5 (Nat.le_of_ble_eq_true rfl) (Nat.le_of_ble_eq_true rfl)) (fun h b as hc hn => w_run_V (ci := 5) mm442 mm436 dX5_one_22 (Or.inl (List.mem_singleton.mp hc)) (Nat.le_of_ble_eq_true rfl) vc_5 rfl q1427 q1429 qs35 q152 q1430 pa436 hn)
theorem n442_25 : Snd mt G 442 25 (oAload 1 26) := w_aload_n (hm := mm442) dX5_one_25
theorem n442_26 : Snd mt G 442 26 (oRetA) := w_aret (hm := mm442) dX5_one_26 rfl (Or.inl ⟨_, rfl⟩)
theorem n442_27 : Snd mt G 442 27 (oAload 0 28) := w_aload_n (hm := mm442) dX5_one_27
theorem n442_28 : Snd mt G 442 28 (oCall 1 (fV [6] 427 3) 0 31 xOut) := s_callV (m' := 427) (n := 0) xsh_out (w_xok0 mm442) (w_cal mm442 mm427 pn_X5 (Nat.le_of_ble_eq_true rfl) (Nat.le_of_ble_eq_true rfl)) (fun h b as hc hn => w_run_V (ci := 5) mm442 mm427 dX5_one_28 (Or.inl (List.mem_singleton.mp hc)) (Nat.le_of_ble_eq_true rfl) vc_5 rfl q1229 q1231 qs26 q152 q1232 pa427 hn)
theorem n442_31 : Snd mt G 442 31 (oGets 1016 33) := w_ldcS (hm := mm442) (j := 16) dX5_one_31 sr_16 rfl
theorem n442_33 : Snd mt G 442 33 (oCall 2 (fV [30, 1030] 224 3) 0 36 xOut) := s_callV (m' := 224) (n := 1) xsh_out (w_xok0 mm442) (w_cal mm442 mm224 pn_J9 (Nat.le_of_ble_eq_true rfl) (Nat.le_of_ble_eq_true rfl)) (fun h b as hc hn => w_run_V (ci := 29) mm442 mm224 dX5_one_33 ((List.mem_cons.mp hc).imp id (fun z => List.mem_singleton.mp z)) (Nat.le_of_ble_eq_true rfl) vc_29 rfl q1319 q1320 q1321 q140 q1322 pa224 hn)
theorem n442_36 : Snd mt G 442 36 (oIfEq 68 39) := w_if_eq (hm := mm442) dX5_one_36 rfl
theorem n442_39 : Snd mt G 442 39 (oAload 0 40) := w_aload_n (hm := mm442) dX5_one_39
theorem n442_40 : Snd mt G 442 40 (oConst (.int 3) 41) := w_iconst (hm := mm442) dX5_one_40 rfl
theorem n442_41 : Snd mt G 442 41 (oCall 2 (fV [6] 435 2) 0 44 xOut) := s_callV (m' := 435) (n := 1) xsh_out (w_xok0 mm442) (w_cal mm442 mm435 pn_X5 (Nat.le_of_ble_eq_true rfl) (Nat.le_of_ble_eq_true rfl)) (fun h b as hc hn => w_run_V (ci := 5) mm442 mm435 dX5_one_41 (Or.inl (List.mem_singleton.mp hc)) (Nat.le_of_ble_eq_true rfl) vc_5 rfl q1423 q1425 qs34 q152 q1426 pa435 hn)
theorem n442_44 : Snd mt G 442 44 (oAload 0 45) := w_aload_n (hm := mm442) dX5_one_44
theorem n442_45 : Snd mt G 442 45 (oCall 1 (fV [6] 442 3) 1 48 xOut) := s_callV (m' := 442) (n := 0) xsh_out (w_xok0 mm442) (w_cal mm442 mm442 pn_X5 (Nat.le_of_ble_eq_true rfl) (Nat.le_of_ble_eq_true rfl)) (fun h b as hc hn => w_run_V (ci := 5) mm442 mm442 dX5_one_45 (Or.inl (List.mem_singleton.mp hc)) (Nat.le_of_ble_eq_true rfl) vc_5 rfl q1539 q1541 qs40 q152 q1542 pa442 hn)
theorem n442_48 : Snd mt G 442 48 (oAstore 1 49) := w_astore_n (hm := mm442) dX5_one_48 (Nat.le_of_ble_eq_true rfl)
theorem n442_49 : Snd mt G 442 49 (oAload 0 50) := w_aload_n (hm := mm442) dX5_one_49
theorem n442_50 : Snd mt G 442 50 (oDup 51) := w_dup (hm := mm442) dX5_one_50
theorem n442_51 : Snd mt G 442 51 (oGetf [6] 3 54) := w_getf (hm := mm442) dX5_one_51 (fok1 (k := 3) (T := TX5) 5 (Nat.le_of_ble_eq_true rfl) vc_5 (Nat.le_of_ble_eq_true rfl) q1204)
theorem n442_54 : Snd mt G 442 54 (oConst (.int 1) 55) := w_iconst (hm := mm442) dX5_one_54 rfl
theorem n442_55 : Snd mt G 442 55 (oBin (fun x y => x - y) 56) := w_isub (hm := mm442) dX5_one_55
theorem n442_56 : Snd mt G 442 56 (oPutf [6] 3 .int 59) := w_putf (hm := mm442) dX5_one_56 (pok1 (k := 3) (T := TX5) 5 (Nat.le_of_ble_eq_true rfl) vc_5 (Nat.le_of_ble_eq_true rfl) rfl pd_X5_3 q1204)
theorem n442_59 : Snd mt G 442 59 (oNew 15 1 nfX16 62) := w_new (hm := mm442) (ci := 14) (T9 := TX16) (ty := tyX16) dX5_one_59 (Nat.le_of_ble_eq_true rfl) vc_14 tyX16_ok (fun _ _ => rfl) q1544 q1545 q163
theorem n442_62 : Snd mt G 442 62 (oDup 63) := w_dup (hm := mm442) dX5_one_62
theorem n442_63 : Snd mt G 442 63 (oAload 1 64) := w_aload_n (hm := mm442) dX5_one_63
theorem n442_64 : Snd mt G 442 64 (oCall 2 (fI 468 2) 0 67 xOut) := s_callI (m' := 468) (n := 1) xsh_out (w_xok0 mm442) (w_cal mm442 mm468 pn_X16 (Nat.le_of_ble_eq_true rfl) (Nat.le_of_ble_eq_true rfl)) (fun h b as hn => w_run_I mm442 mm468 dX5_one_64 rfl rfl q1546 q1547 q163 q1548 pa468 hn)
theorem n442_67 : Snd mt G 442 67 (oRetA) := w_aret (hm := mm442) dX5_one_67 rfl (Or.inl ⟨_, rfl⟩)
theorem n442_68 : Snd mt G 442 68 (oAload 0 69) := w_aload_n (hm := mm442) dX5_one_68
theorem n442_69 : Snd mt G 442 69 (oCall 1 (fV [6] 431 3) 0 72 xOut) := s_callV (m' := 431) (n := 0) xsh_out (w_xok0 mm442) (w_cal mm442 mm431 pn_X5 (Nat.le_of_ble_eq_true rfl) (Nat.le_of_ble_eq_true rfl)) (fun h b as hc hn => w_run_V (ci := 5) mm442 mm431 dX5_one_69 (Or.inl (List.mem_singleton.mp hc)) (Nat.le_of_ble_eq_true rfl) vc_5 rfl q1397 q1399 qs30 q152 q1400 pa431 hn)
theorem n442_72 : Snd mt G 442 72 (oAstore 1 73) := w_astore_n (hm := mm442) dX5_one_72 (Nat.le_of_ble_eq_true rfl)
theorem n442_73 : Snd mt G 442 73 (oAload 0 74) := w_aload_n (hm := mm442) dX5_one_73
theorem n442_74 : Snd mt G 442 74 (oCall 1 (fV [6] 425 1) 0 77 xOut) := s_callV (m' := 425) (n := 0) xsh_out (w_xok0 mm442) (w_cal mm442 mm425 pn_X5 (Nat.le_of_ble_eq_true rfl) (Nat.le_of_ble_eq_true rfl)) (fun h b as hc hn => w_run_V (ci := 5) mm442 mm425 dX5_one_74 (Or.inl (List.mem_singleton.mp hc)) (Nat.le_of_ble_eq_true rfl) vc_5 rfl q1220 q1222 qs24 q152 q1223 pa425 hn)
theorem n442_77 : Snd mt G 442 77 (oIstore 2 78) := w_istore_n (hm := mm442) dX5_one_77 (Nat.le_of_ble_eq_true rfl)
theorem n442_78 : Snd mt G 442 78 (oIload 2 79) := w_iload_n (hm := mm442) dX5_one_78
theorem n442_79 : Snd mt G 442 79 (oConst (.int 60) 81) := w_bipush (hm := mm442) dX5_one_79 (by decide)
theorem n442_81 : Snd mt G 442 81 (oCmpEq 101 84) := w_icmp_eq (hm := mm442) dX5_one_81 rfl
theorem n442_84 : Snd mt G 442 84 (oIload 2 85) := w_iload_n (hm := mm442) dX5_one_84
theorem n442_85 : Snd mt G 442 85 (oConst (.int 62) 87) := w_bipush (hm := mm442) dX5_one_85 (by decide)
theorem n442_87 : Snd mt G 442 87 (oCmpEq 101 90) := w_icmp_eq (hm := mm442) dX5_one_87 rfl
theorem n442_90 : Snd mt G 442 90 (oIload 2 91) := w_iload_n (hm := mm442) dX5_one_90
theorem n442_91 : Snd mt G 442 91 (oConst (.int 61) 93) := w_bipush (hm := mm442) dX5_one_91 (by decide)
theorem n442_93 : Snd mt G 442 93 (oCmpEq 101 96) := w_icmp_eq (hm := mm442) dX5_one_93 rfl
theorem n442_96 : Snd mt G 442 96 (oAload 0 97) := w_aload_n (hm := mm442) dX5_one_96
theorem n442_97 : Snd mt G 442 97 (oCall 1 (fV [6] 428 1) 0 100 xOut) := s_callV (m' := 428) (n := 0) xsh_out (w_xok0 mm442) (w_cal mm442 mm428 pn_X5 (Nat.le_of_ble_eq_true rfl) (Nat.le_of_ble_eq_true rfl)) (fun h b as hc hn => w_run_V (ci := 5) mm442 mm428 dX5_one_97 (Or.inl (List.mem_singleton.mp hc)) (Nat.le_of_ble_eq_true rfl) vc_5 rfl q1333 q1335 qs27 q152 q1336 pa428 hn)
theorem n442_100 : Snd mt G 442 100 (oThrow [7]) := w_throw (hm := mm442) dX5_one_100 (List.forall_mem_cons.mpr ⟨⟨6, _, rfl, (Nat.le_of_ble_eq_true rfl), vc_6⟩, (fun t ht => nomatch ht)⟩) rfl
theorem n442_101 : Snd mt G 442 101 (oAload 0 102) := w_aload_n (hm := mm442) dX5_one_101
theorem n442_102 : Snd mt G 442 102 (oDup 103) := w_dup (hm := mm442) dX5_one_102
theorem n442_103 : Snd mt G 442 103 (oGetf [6] 2 106) := w_getf (hm := mm442) dX5_one_103 (fok1 (k := 2) (T := TX5) 5 (Nat.le_of_ble_eq_true rfl) vc_5 (Nat.le_of_ble_eq_true rfl) q1203)
theorem n442_106 : Snd mt G 442 106 (oConst (.int 1) 107) := w_iconst (hm := mm442) dX5_one_106 rfl
theorem n442_107 : Snd mt G 442 107 (oBin (fun x y => x + y) 108) := w_iadd (hm := mm442) dX5_one_107
theorem n442_108 : Snd mt G 442 108 (oPutf [6] 2 .int 111) := w_putf (hm := mm442) dX5_one_108 (pok1 (k := 2) (T := TX5) 5 (Nat.le_of_ble_eq_true rfl) vc_5 (Nat.le_of_ble_eq_true rfl) rfl pd_X5_2 q1203)
theorem n442_111 : Snd mt G 442 111 (oNew 16 3 nfX17 114) := w_new (hm := mm442) (ci := 15) (T9 := TX17) (ty := tyX17) dX5_one_111 (Nat.le_of_ble_eq_true rfl) vc_15 tyX17_ok (fun _ _ => rfl) q1557 q1558 q164
theorem n442_114 : Snd mt G 442 114 (oDup 115) := w_dup (hm := mm442) dX5_one_114
theorem n442_115 : Snd mt G 442 115 (oIload 2 116) := w_iload_n (hm := mm442) dX5_one_115
theorem n442_116 : Snd mt G 442 116 (oUn (fun x => .int (x.toUInt32 % 65536).toInt32) 117) := w_i2c (hm := mm442) dX5_one_116
theorem n442_117 : Snd mt G 442 117 (oAload 1 118) := w_aload_n (hm := mm442) dX5_one_117
theorem n442_118 : Snd mt G 442 118 (oAload 0 119) := w_aload_n (hm := mm442) dX5_one_118
theorem n442_119 : Snd mt G 442 119 (oCall 1 (fV [6] 431 3) 0 122 xOut) := s_callV (m' := 431) (n := 0) xsh_out (w_xok0 mm442) (w_cal mm442 mm431 pn_X5 (Nat.le_of_ble_eq_true rfl) (Nat.le_of_ble_eq_true rfl)) (fun h b as hc hn => w_run_V (ci := 5) mm442 mm431 dX5_one_119 (Or.inl (List.mem_singleton.mp hc)) (Nat.le_of_ble_eq_true rfl) vc_5 rfl q1397 q1399 qs30 q152 q1400 pa431 hn)
theorem n442_122 : Snd mt G 442 122 (oCall 4 (fI 470 4) 0 125 xOut) := s_callI (m' := 470) (n := 3) xsh_out (w_xok0 mm442) (w_cal mm442 mm470 pn_X17 (Nat.le_of_ble_eq_true rfl) (Nat.le_of_ble_eq_true rfl)) (fun h b as hn => w_run_I mm442 mm470 dX5_one_122 rfl rfl q1559 q1560 q164 q1561 pa470 hn)
theorem n442_125 : Snd mt G 442 125 (oRetA) := w_aret (hm := mm442) dX5_one_125 rfl (Or.inl ⟨_, rfl⟩)
theorem sj442 : ∀ pc, Snd mt G 442 pc (j442 pc) := fun pc => (snd_br ((snd_br ((snd_br ((snd_br ((snd_br ((snd_br ((snd_br ((snd_lf n442_125)) ((snd_lf n442_122)))) ((snd_lf n442_119)))) ((snd_br ((snd_lf n442_118)) ((snd_lf n442_117)))))) ((snd_br ((snd_br ((snd_lf n442_116)) ((snd_lf n442_115)))) ((snd_br ((snd_lf n442_114)) ((snd_lf n442_111)))))))) ((snd_br ((snd_br ((snd_br ((snd_br ((snd_lf n442_108)) ((snd_lf n442_107)))) ((snd_lf n442_106)))) ((snd_br ((snd_lf n442_103)) ((snd_lf n442_102)))))) ((snd_br ((snd_br ((snd_lf n442_101)) ((snd_lf n442_100)))) ((snd_br ((snd_lf n442_97)) ((snd_lf n442_96)))))))))) ((snd_br ((snd_br ((snd_br ((snd_br ((snd_br ((snd_lf n442_93)) ((snd_lf n442_91)))) ((snd_lf n442_90)))) ((snd_br ((snd_lf n442_87)) ((snd_lf n442_85)))))) ((snd_br ((snd_br ((snd_lf n442_84)) ((snd_lf n442_81)))) ((snd_br ((snd_lf n442_79)) ((snd_lf n442_78)))))))) ((snd_br ((snd_br ((snd_br ((snd_lf n442_77)) ((snd_lf n442_74)))) ((snd_br ((snd_lf n442_73)) ((snd_lf n442_72)))))) ((snd_br ((snd_br ((snd_lf n442_69)) ((snd_lf n442_68)))) ((snd_br ((snd_lf n442_67)) ((snd_lf n442_64)))))))))))) ((snd_br ((snd_br ((snd_br ((snd_br ((snd_br ((snd_br ((snd_lf n442_63)) ((snd_lf n442_62)))) ((snd_lf n442_59)))) ((snd_br ((snd_lf n442_56)) ((snd_lf n442_55)))))) ((snd_br ((snd_br ((snd_lf n442_54)) ((snd_lf n442_51)))) ((snd_br ((snd_lf n442_50)) ((snd_lf n442_49)))))))) ((snd_br ((snd_br ((snd_br ((snd_br ((snd_lf n442_48)) ((snd_lf n442_45)))) ((snd_lf n442_44)))) ((snd_br ((snd_lf n442_41)) ((snd_lf n442_40)))))) ((snd_br ((snd_br ((snd_lf n442_39)) ((snd_lf n442_36)))) ((snd_br ((snd_lf n442_33)) ((snd_lf n442_31)))))))))) ((snd_br ((snd_br ((snd_br ((snd_br ((snd_br ((snd_lf n442_28)) ((snd_lf n442_27)))) ((snd_lf n442_26)))) ((snd_br ((snd_lf n442_25)) ((snd_lf n442_22)))))) ((snd_br ((snd_br ((snd_lf n442_20)) ((snd_lf n442_19)))) ((snd_br ((snd_lf n442_18)) ((snd_lf n442_15)))))))) ((snd_br ((snd_br ((snd_br ((snd_lf n442_14)) ((snd_lf n442_11)))) ((snd_br ((snd_lf n442_10)) ((snd_lf n442_9)))))) ((snd_br ((snd_br ((snd_lf n442_6)) ((snd_lf n442_4)))) ((snd_br ((snd_lf n442_1)) ((snd_lf n442_0)))))))))))))
end
section
variable {G : AG}
theorem n443_0 : Snd mt G 443 0 (oAload 0 1) := w_aload_n (hm := mm443) dX6_init_0
theorem n443_1 : Snd mt G 443 1 (oConst .null 2) := w_null (hm := mm443) dX6_init_1
theorem n443_2 : Snd mt G 443 2 (oConst .null 3) := w_null (hm := mm443) dX6_init_2
theorem n443_3 : Snd mt G 443 3 (oConst (.int 0) 4) := w_iconst (hm := mm443) dX6_init_3 rfl
theorem n443_4 : Snd mt G 443 4 (oConst (.int 0) 5) := w_iconst (hm := mm443) dX6_init_4 rfl
theorem n443_5 : Snd mt G 443 5 (oCall 5 (fI 190 5) 0 8 xOut) := s_callI (m' := 190) (n := 4) xsh_out (w_xok0 mm443) (w_cal mm443 mm190 pn_J4 (Nat.le_of_ble_eq_true rfl) (Nat.le_of_ble_eq_true rfl)) (fun h b as hn => w_run_I mm443 mm190 dX6_init_5 rfl rfl q1349 q1350 q135 q1351 pa190 hn)
theorem n443_8 : Snd mt G 443 8 (oAload 0 9) := w_aload_n (hm := mm443) dX6_init_8
theorem n443_9 : Snd mt G 443 9 (oIload 1 10) := w_iload_n (hm := mm443) dX6_init_9
theorem n443_10 : Snd mt G 443 10 (oPutf [7] 6 .int 13) := w_putfF (hm := mm443) dX6_init_10 (pfk1 (k := 6) (T := TX6) 6 (Nat.le_of_ble_eq_true rfl) vc_6 (Nat.le_of_ble_eq_true rfl) rfl rfl pd_X6_6 rfl q1355)
theorem n443_13 : Snd mt G 443 13 (oAload 0 14) := w_aload_n (hm := mm443) dX6_init_13
theorem n443_14 : Snd mt G 443 14 (oIload 2 15) := w_iload_n (hm := mm443) dX6_init_14
theorem n443_15 : Snd mt G 443 15 (oPutf [7] 7 .int 18) := w_putfF (hm := mm443) dX6_init_15 (pfk1 (k := 7) (T := TX6) 6 (Nat.le_of_ble_eq_true rfl) vc_6 (Nat.le_of_ble_eq_true rfl) rfl rfl pd_X6_7 rfl q1357)
theorem n443_18 : Snd mt G 443 18 (oRetV) := w_vret (hm := mm443) dX6_init_18 rfl
theorem sj443 : ∀ pc, Snd mt G 443 pc (j443 pc) := fun pc => (snd_br ((snd_br ((snd_br ((snd_br ((snd_lf n443_18)) ((snd_lf n443_15)))) ((snd_br ((snd_lf n443_14)) ((snd_lf n443_13)))))) ((snd_br ((snd_br ((snd_lf n443_10)) ((snd_lf n443_9)))) ((snd_lf n443_8)))))) ((snd_br ((snd_br ((snd_br ((snd_lf n443_5)) ((snd_lf n443_4)))) ((snd_lf n443_3)))) ((snd_br ((snd_br ((snd_lf n443_2)) ((snd_lf n443_1)))) ((snd_lf n443_0)))))))
end
section
variable {G : AG}
theorem n444_0 : Snd mt G 444 0 (oConst (.int 0) 1) := w_iconst (hm := mm444) dX7_tells_0 rfl
theorem n444_1 : Snd mt G 444 1 (oRetI .boolean) := w_zret (hm := mm444) dX7_tells_1 rfl
theorem sj444 : ∀ pc, Snd mt G 444 pc (j444 pc) := fun pc => (snd_br ((snd_lf n444_1)) ((snd_lf n444_0)))
end
section
variable {G : AG}
theorem n445_0 : Snd mt G 445 0 (oAload 0 1) := w_aload_n (hm := mm445) dX7_holds_0
theorem n445_1 : Snd mt G 445 1 (oGetf [8, 9, 13, 14] 0 4) := w_getf (hm := mm445) (k := 0) dX7_holds_1 ⟨_, _, _, q1386, (List.forall_mem_cons.mpr ⟨⟨7, RX8, TX8, 3, Or.inl rfl, (Nat.le_of_ble_eq_true rfl), vc_7, (Nat.le_of_ble_eq_true rfl), rfl, rfl, Or.inl rfl⟩, (List.forall_mem_cons.mpr ⟨⟨8, RX9, TX9, 4, Or.inl rfl, (Nat.le_of_ble_eq_true rfl), vc_8, (Nat.le_of_ble_eq_true rfl), rfl, rfl, Or.inl rfl⟩, (List.forall_mem_cons.mpr ⟨⟨12, RX13, TX13, 4, Or.inl rfl, (Nat.le_of_ble_eq_true rfl), vc_12, (Nat.le_of_ble_eq_true rfl), rfl, rfl, Or.inl rfl⟩, (List.forall_mem_cons.mpr ⟨⟨13, RX14, TX14, 2, Or.inl rfl, (Nat.le_of_ble_eq_true rfl), vc_13, (Nat.le_of_ble_eq_true rfl), rfl, rfl, Or.inl rfl⟩, (fun t ht => nomatch ht)⟩)⟩)⟩)⟩)⟩
theorem n445_4 : Snd mt G 445 4 (oIfNull 18 7) := w_ifnull (hm := mm445) dX7_holds_4 rfl
theorem n445_7 : Snd mt G 445 7 (oAload 0 8) := w_aload_n (hm := mm445) dX7_holds_7
theorem n445_8 : Snd mt G 445 8 (oGetf [8, 9, 13, 14] 0 11) := w_getf (hm := mm445) (k := 0) dX7_holds_8 ⟨_, _, _, q1386, (List.forall_mem_cons.mpr ⟨⟨7, RX8, TX8, 3, Or.inl rfl, (Nat.le_of_ble_eq_true rfl), vc_7, (Nat.le_of_ble_eq_true rfl), rfl, rfl, Or.inl rfl⟩, (List.forall_mem_cons.mpr ⟨⟨8, RX9, TX9, 4, Or.inl rfl, (Nat.le_of_ble_eq_true rfl), vc_8, (Nat.le_of_ble_eq_true rfl), rfl, rfl, Or.inl rfl⟩, (List.forall_mem_cons.mpr ⟨⟨12, RX13, TX13, 4, Or.inl rfl, (Nat.le_of_ble_eq_true rfl), vc_12, (Nat.le_of_ble_eq_true rfl), rfl, rfl, Or.inl rfl⟩, (List.forall_mem_cons.mpr ⟨⟨13, RX14, TX14, 2, Or.inl rfl, (Nat.le_of_ble_eq_true rfl), vc_13, (Nat.le_of_ble_eq_true rfl), rfl, rfl, Or.inl rfl⟩, (fun t ht => nomatch ht)⟩)⟩)⟩)⟩)⟩
theorem n445_11 : Snd mt G 445 11 (oAload 1 12) := w_aload_n (hm := mm445) dX7_holds_11
theorem n445_12 : Snd mt G 445 12 (oCall 2 (fP [(15, 467, 2), (16, 469, 4), (17, 471, 4)]) 0 15 xOut) := s_callP (n := 1) (len := 3) xsh_out (w_xok0 mm445) (List.forall_mem_cons.mpr ⟨(w_cal mm445 mm467 pn_X16 (Nat.le_of_ble_eq_true rfl) (Nat.le_of_ble_eq_true rfl)), (List.forall_mem_cons.mpr ⟨(w_cal mm445 mm469 pn_X17 (Nat.le_of_ble_eq_true rfl) (Nat.le_of_ble_eq_true rfl)), (List.forall_mem_cons.mpr ⟨(w_cal mm445 mm471 pn_X18 (Nat.le_of_ble_eq_true rfl) (Nat.le_of_ble_eq_true rfl)), (fun z hz => nomatch hz)⟩)⟩)⟩) (List.forall_mem_cons.mpr ⟨(fun h b as hc hn => w_run_U (owner := "LimbBenches$Cond") (ci := 14) mm445 mm467 dX7_holds_12 (Or.inl hc) (Nat.le_of_ble_eq_true rfl) vc_14 (Or.inr (Or.inr (List.mem_filter.mpr ⟨q774, rfl⟩))) q773 q775 q808 q812 q163 q809 ⟨by decide, by decide, by decide +kernel⟩ hn), (List.forall_mem_cons.mpr ⟨(fun h b as hc hn => w_run_U (owner := "LimbBenches$Cond") (ci := 15) mm445 mm469 dX7_holds_12 (Or.inl hc) (Nat.le_of_ble_eq_true rfl) vc_15 (Or.inr (Or.inr (List.mem_filter.mpr ⟨q774, rfl⟩))) q773 q775 q780 q811 q164 q781 ⟨by decide, by decide, by decide +kernel⟩ hn), (List.forall_mem_cons.mpr ⟨(fun h b as hc hn => w_run_U (owner := "LimbBenches$Cond") (ci := 16) mm445 mm471 dX7_holds_12 (Or.inl hc) (Nat.le_of_ble_eq_true rfl) vc_16 (Or.inr (Or.inr (List.mem_filter.mpr ⟨q774, rfl⟩))) q773 q775 q777 q776 q165 q778 ⟨by decide, by decide, by decide +kernel⟩ hn), (fun z hz => nomatch hz)⟩)⟩)⟩)
theorem n445_15 : Snd mt G 445 15 (oIfEq 22 18) := w_if_eq (hm := mm445) dX7_holds_15 rfl
theorem n445_18 : Snd mt G 445 18 (oConst (.int 1) 19) := w_iconst (hm := mm445) dX7_holds_18 rfl
theorem n445_19 : Snd mt G 445 19 (oGoto 23) := w_goto (hm := mm445) dX7_holds_19 rfl
theorem n445_22 : Snd mt G 445 22 (oConst (.int 0) 23) := w_iconst (hm := mm445) dX7_holds_22 rfl
theorem n445_23 : Snd mt G 445 23 (oRetI .boolean) := w_zret (hm := mm445) dX7_holds_23 rfl
theorem sj445 : ∀ pc, Snd mt G 445 pc (j445 pc) := fun pc => (snd_br ((snd_br ((snd_br ((snd_br ((snd_lf n445_23)) ((snd_lf n445_22)))) ((snd_lf n445_19)))) ((snd_br ((snd_br ((snd_lf n445_18)) ((snd_lf n445_15)))) ((snd_lf n445_12)))))) ((snd_br ((snd_br ((snd_br ((snd_lf n445_11)) ((snd_lf n445_8)))) ((snd_lf n445_7)))) ((snd_br ((snd_br ((snd_lf n445_4)) ((snd_lf n445_1)))) ((snd_lf n445_0)))))))
end
section
variable {G : AG}
theorem n446_0 : Snd mt G 446 0 (oConst (.int 0) 1) := w_iconst (hm := mm446) dX7_value_0 rfl
theorem n446_1 : Snd mt G 446 1 (oRetI .int) := w_iret (hm := mm446) dX7_value_1 rfl
theorem sj446 : ∀ pc, Snd mt G 446 pc (j446 pc) := fun pc => (snd_br ((snd_lf n446_1)) ((snd_lf n446_0)))
end
section
variable {G : AG}
theorem n447_0 : Snd mt G 447 0 (oConst (.int (-1)) 1) := w_iconst (hm := mm447) dX7_needs_0 rfl
theorem n447_1 : Snd mt G 447 1 (oRetI .int) := w_iret (hm := mm447) dX7_needs_1 rfl
theorem sj447 : ∀ pc, Snd mt G 447 pc (j447 pc) := fun pc => (snd_br ((snd_lf n447_1)) ((snd_lf n447_0)))
end
section
variable {G : AG}
theorem n448_0 : Snd mt G 448 0 (oConst (.int 0) 1) := w_iconst (hm := mm448) dX7_recalls_0 rfl
theorem n448_1 : Snd mt G 448 1 (oRetI .boolean) := w_zret (hm := mm448) dX7_recalls_1 rfl
theorem sj448 : ∀ pc, Snd mt G 448 pc (j448 pc) := fun pc => (snd_br ((snd_lf n448_1)) ((snd_lf n448_0)))
end
section
variable {G : AG}
theorem n449_0 : Snd mt G 449 0 (oAload 0 1) := w_aload_n (hm := mm449) dX7_init_0
theorem n449_1 : Snd mt G 449 1 (oObjI 4) := w_objI (hm := mm449) dX7_init_1 (Nat.le_of_ble_eq_true rfl) q1383 q189 q190
theorem n449_4 : Snd mt G 449 4 (oRetV) := w_vret (hm := mm449) dX7_init_4 rfl
theorem sj449 : ∀ pc, Snd mt G 449 pc (j449 pc) := fun pc => (snd_br ((snd_br ((snd_lf n449_4)) ((snd_lf n449_1)))) ((snd_lf n449_0)))
end
section
variable {G : AG}
theorem n450_0 : Snd mt G 450 0 (oConst (.int 0) 1) := w_iconst (hm := mm450) dX7_bars_0 rfl
theorem n450_1 : Snd mt G 450 1 (oRetI .boolean) := w_zret (hm := mm450) dX7_bars_1 rfl
theorem sj450 : ∀ pc, Snd mt G 450 pc (j450 pc) := fun pc => (snd_br ((snd_lf n450_1)) ((snd_lf n450_0)))
end
section
variable {G : AG}
theorem n451_0 : Snd mt G 451 0 (oAload 0 1) := w_aload_n (hm := mm451) dX8_init_0
theorem n451_1 : Snd mt G 451 1 (oCall 1 (fI 449 1) 0 4 xOut) := s_callI (m' := 449) (n := 0) xsh_out (w_xok0 mm451) (w_cal mm451 mm449 pn_X7 (Nat.le_of_ble_eq_true rfl) (Nat.le_of_ble_eq_true rfl)) (fun h b as hn => w_run_IN (host := "LimbBenches") mm451 mm449 dX8_init_1 rfl rfl (List.mem_filter.mpr ⟨q1380, rfl⟩) q1381 q154 q1382 pa449 hn)
theorem n451_4 : Snd mt G 451 4 (oAload 0 5) := w_aload_n (hm := mm451) dX8_init_4
theorem n451_5 : Snd mt G 451 5 (oIload 1 6) := w_iload_n (hm := mm451) dX8_init_5
theorem n451_6 : Snd mt G 451 6 (oPutf [8] 1 .int 9) := w_putfF (hm := mm451) dX8_init_6 (pfk1 (k := 1) (T := TX8) 7 (Nat.le_of_ble_eq_true rfl) vc_7 (Nat.le_of_ble_eq_true rfl) rfl rfl pd_X8_1 rfl q1384)
theorem n451_9 : Snd mt G 451 9 (oAload 0 10) := w_aload_n (hm := mm451) dX8_init_9
theorem n451_10 : Snd mt G 451 10 (oIload 2 11) := w_iload_n (hm := mm451) dX8_init_10
theorem n451_11 : Snd mt G 451 11 (oPutf [8] 2 .int 14) := w_putfF (hm := mm451) dX8_init_11 (pfk1 (k := 2) (T := TX8) 7 (Nat.le_of_ble_eq_true rfl) vc_7 (Nat.le_of_ble_eq_true rfl) rfl rfl pd_X8_2 rfl q1385)
theorem n451_14 : Snd mt G 451 14 (oRetV) := w_vret (hm := mm451) dX8_init_14 rfl
theorem sj451 : ∀ pc, Snd mt G 451 pc (j451 pc) := fun pc => (snd_br ((snd_br ((snd_br ((snd_br ((snd_lf n451_14)) ((snd_lf n451_11)))) ((snd_lf n451_10)))) ((snd_br ((snd_lf n451_9)) ((snd_lf n451_6)))))) ((snd_br ((snd_br ((snd_lf n451_5)) ((snd_lf n451_4)))) ((snd_br ((snd_lf n451_1)) ((snd_lf n451_0)))))))
end
section
variable {G : AG}
theorem n452_0 : Snd mt G 452 0 (oAload 0 1) := w_aload_n (hm := mm452) dX8_bars_0
theorem n452_1 : Snd mt G 452 1 (oGetf [8] 1 4) := w_getf (hm := mm452) dX8_bars_1 (fok1 (k := 1) (T := TX8) 7 (Nat.le_of_ble_eq_true rfl) vc_7 (Nat.le_of_ble_eq_true rfl) q1384)
theorem n452_4 : Snd mt G 452 4 (oIload 1 5) := w_iload_n (hm := mm452) dX8_bars_4
theorem n452_5 : Snd mt G 452 5 (oCmpEq 8 16) := w_icmp_ne (hm := mm452) dX8_bars_5 rfl
theorem n452_8 : Snd mt G 452 8 (oAload 0 9) := w_aload_n (hm := mm452) dX8_bars_8
theorem n452_9 : Snd mt G 452 9 (oGetf [8] 2 12) := w_getf (hm := mm452) dX8_bars_9 (fok1 (k := 2) (T := TX8) 7 (Nat.le_of_ble_eq_true rfl) vc_7 (Nat.le_of_ble_eq_true rfl) q1385)
theorem n452_12 : Snd mt G 452 12 (oIload 2 13) := w_iload_n (hm := mm452) dX8_bars_12
theorem n452_13 : Snd mt G 452 13 (oCmpEq 32 16) := w_icmp_eq (hm := mm452) dX8_bars_13 rfl
theorem n452_16 : Snd mt G 452 16 (oAload 0 17) := w_aload_n (hm := mm452) dX8_bars_16
theorem n452_17 : Snd mt G 452 17 (oGetf [8] 1 20) := w_getf (hm := mm452) dX8_bars_17 (fok1 (k := 1) (T := TX8) 7 (Nat.le_of_ble_eq_true rfl) vc_7 (Nat.le_of_ble_eq_true rfl) q1384)
theorem n452_20 : Snd mt G 452 20 (oIload 2 21) := w_iload_n (hm := mm452) dX8_bars_20
theorem n452_21 : Snd mt G 452 21 (oCmpEq 24 44) := w_icmp_ne (hm := mm452) dX8_bars_21 rfl
theorem n452_24 : Snd mt G 452 24 (oAload 0 25) := w_aload_n (hm := mm452) dX8_bars_24
theorem n452_25 : Snd mt G 452 25 (oGetf [8] 2 28) := w_getf (hm := mm452) dX8_bars_25 (fok1 (k := 2) (T := TX8) 7 (Nat.le_of_ble_eq_true rfl) vc_7 (Nat.le_of_ble_eq_true rfl) q1385)
theorem n452_28 : Snd mt G 452 28 (oIload 1 29) := w_iload_n (hm := mm452) dX8_bars_28
theorem n452_29 : Snd mt G 452 29 (oCmpEq 32 44) := w_icmp_ne (hm := mm452) dX8_bars_29 rfl
theorem n452_32 : Snd mt G 452 32 (oAload 0 33) := w_aload_n (hm := mm452) dX8_bars_32
theorem n452_33 : Snd mt G 452 33 (oAload 3 34) := w_aload_n (hm := mm452) dX8_bars_33
theorem n452_34 : Snd mt G 452 34 (oCall 2 (fP [(8, 445, 2)]) 0 37 xOut) := s_callP (n := 1) (len := 3) xsh_out (w_xok0 mm452) (List.forall_mem_cons.mpr ⟨(w_cal mm452 mm445 pn_X7 (Nat.le_of_ble_eq_true rfl) (Nat.le_of_ble_eq_true rfl)), (fun z hz => nomatch hz)⟩) (List.forall_mem_cons.mpr ⟨(fun h b as hc hn => w_run_U (owner := "LimbBenches$Clause") (ci := 7) mm452 mm445 dX8_bars_34 (Or.inl hc) (Nat.le_of_ble_eq_true rfl) vc_7 (Or.inl rfl) q1792 q1793 q766 q1794 q154 q772 ⟨by decide, by decide, by decide +kernel⟩ hn), (fun z hz => nomatch hz)⟩)
theorem n452_37 : Snd mt G 452 37 (oIfEq 44 40) := w_if_eq (hm := mm452) dX8_bars_37 rfl
theorem n452_40 : Snd mt G 452 40 (oConst (.int 1) 41) := w_iconst (hm := mm452) dX8_bars_40 rfl
theorem n452_41 : Snd mt G 452 41 (oGoto 45) := w_goto (hm := mm452) dX8_bars_41 rfl
theorem n452_44 : Snd mt G 452 44 (oConst (.int 0) 45) := w_iconst (hm := mm452) dX8_bars_44 rfl
theorem n452_45 : Snd mt G 452 45 (oRetI .boolean) := w_zret (hm := mm452) dX8_bars_45 rfl
theorem sj452 : ∀ pc, Snd mt G 452 pc (j452 pc) := fun pc => (snd_br ((snd_br ((snd_br ((snd_br ((snd_br ((snd_lf n452_45)) ((snd_lf n452_44)))) ((snd_lf n452_41)))) ((snd_br ((snd_br ((snd_lf n452_40)) ((snd_lf n452_37)))) ((snd_lf n452_34)))))) ((snd_br ((snd_br ((snd_br ((snd_lf n452_33)) ((snd_lf n452_32)))) ((snd_lf n452_29)))) ((snd_br ((snd_br ((snd_lf n452_28)) ((snd_lf n452_25)))) ((snd_lf n452_24)))))))) ((snd_br ((snd_br ((snd_br ((snd_br ((snd_lf n452_21)) ((snd_lf n452_20)))) ((snd_lf n452_17)))) ((snd_br ((snd_br ((snd_lf n452_16)) ((snd_lf n452_13)))) ((snd_lf n452_12)))))) ((snd_br ((snd_br ((snd_br ((snd_lf n452_9)) ((snd_lf n452_8)))) ((snd_lf n452_5)))) ((snd_br ((snd_br ((snd_lf n452_4)) ((snd_lf n452_1)))) ((snd_lf n452_0)))))))))
end
section
variable {G : AG}
theorem n453_0 : Snd mt G 453 0 (oAload 0 1) := w_aload_n (hm := mm453) dX9_tells_0
theorem n453_1 : Snd mt G 453 1 (oGetf [9] 1 4) := w_getf (hm := mm453) dX9_tells_1 (fok1 (k := 1) (T := TX9) 8 (Nat.le_of_ble_eq_true rfl) vc_8 (Nat.le_of_ble_eq_true rfl) q1487)
theorem n453_4 : Snd mt G 453 4 (oIload 1 5) := w_iload_n (hm := mm453) dX9_tells_4
theorem n453_5 : Snd mt G 453 5 (oCmpEq 8 20) := w_icmp_ne (hm := mm453) dX9_tells_5 rfl
theorem n453_8 : Snd mt G 453 8 (oAload 0 9) := w_aload_n (hm := mm453) dX9_tells_8
theorem n453_9 : Snd mt G 453 9 (oGetf [9] 2 12) := w_getf (hm := mm453) dX9_tells_9 (fok1 (k := 2) (T := TX9) 8 (Nat.le_of_ble_eq_true rfl) vc_8 (Nat.le_of_ble_eq_true rfl) q1488)
theorem n453_12 : Snd mt G 453 12 (oIload 2 13) := w_iload_n (hm := mm453) dX9_tells_12
theorem n453_13 : Snd mt G 453 13 (oCmpEq 16 20) := w_icmp_ne (hm := mm453) dX9_tells_13 rfl
theorem n453_16 : Snd mt G 453 16 (oConst (.int 1) 17) := w_iconst (hm := mm453) dX9_tells_16 rfl
theorem n453_17 : Snd mt G 453 17 (oGoto 21) := w_goto (hm := mm453) dX9_tells_17 rfl
theorem n453_20 : Snd mt G 453 20 (oConst (.int 0) 21) := w_iconst (hm := mm453) dX9_tells_20 rfl
theorem n453_21 : Snd mt G 453 21 (oRetI .boolean) := w_zret (hm := mm453) dX9_tells_21 rfl
theorem sj453 : ∀ pc, Snd mt G 453 pc (j453 pc) := fun pc => (snd_br ((snd_br ((snd_br ((snd_br ((snd_lf n453_21)) ((snd_lf n453_20)))) ((snd_lf n453_17)))) ((snd_br ((snd_br ((snd_lf n453_16)) ((snd_lf n453_13)))) ((snd_lf n453_12)))))) ((snd_br ((snd_br ((snd_br ((snd_lf n453_9)) ((snd_lf n453_8)))) ((snd_lf n453_5)))) ((snd_br ((snd_br ((snd_lf n453_4)) ((snd_lf n453_1)))) ((snd_lf n453_0)))))))
end
section
variable {G : AG}
theorem n454_0 : Snd mt G 454 0 (oAload 0 1) := w_aload_n (hm := mm454) dX9_value_0
theorem n454_1 : Snd mt G 454 1 (oGetf [9] 3 4) := w_getf (hm := mm454) dX9_value_1 (fok1 (k := 3) (T := TX9) 8 (Nat.le_of_ble_eq_true rfl) vc_8 (Nat.le_of_ble_eq_true rfl) q1489)
theorem n454_4 : Snd mt G 454 4 (oAload 1 5) := w_aload_n (hm := mm454) dX9_value_4
theorem n454_5 : Snd mt G 454 5 (oCall 2 (fP [(10, 456, 2), (11, 458, 4), (12, 460, 2)]) 0 10 xOut) := s_callP (n := 1) (len := 5) xsh_out (w_xok0 mm454) (List.forall_mem_cons.mpr ⟨(w_cal mm454 mm456 pn_X10 (Nat.le_of_ble_eq_true rfl) (Nat.le_of_ble_eq_true rfl)), (List.forall_mem_cons.mpr ⟨(w_cal mm454 mm458 pn_X11 (Nat.le_of_ble_eq_true rfl) (Nat.le_of_ble_eq_true rfl)), (List.forall_mem_cons.mpr ⟨(w_cal mm454 mm460 pn_X12 (Nat.le_of_ble_eq_true rfl) (Nat.le_of_ble_eq_true rfl)), (fun z hz => nomatch hz)⟩)⟩)⟩) (List.forall_mem_cons.mpr ⟨(fun h b as hc hn => w_run_F (ci := 9) mm454 mm456 dX9_value_5 (Or.inl hc) (Nat.le_of_ble_eq_true rfl) vc_9 (by decide) q823 q795 q793 q157 q797 pax_0 hn), (List.forall_mem_cons.mpr ⟨(fun h b as hc hn => w_run_F (ci := 10) mm454 mm458 dX9_value_5 (Or.inl hc) (Nat.le_of_ble_eq_true rfl) vc_10 (by decide) q823 q801 q799 q158 q803 pax_0 hn), (List.forall_mem_cons.mpr ⟨(fun h b as hc hn => w_run_F (ci := 11) mm454 mm460 dX9_value_5 (Or.inl hc) (Nat.le_of_ble_eq_true rfl) vc_11 (by decide) q823 q789 q787 q159 q791 pax_0 hn), (fun z hz => nomatch hz)⟩)⟩)⟩)
theorem n454_10 : Snd mt G 454 10 (oRetI .int) := w_iret (hm := mm454) dX9_value_10 rfl
theorem sj454 : ∀ pc, Snd mt G 454 pc (j454 pc) := fun pc => (snd_br ((snd_br ((snd_br ((snd_lf n454_10)) ((snd_lf n454_5)))) ((snd_lf n454_4)))) ((snd_br ((snd_lf n454_1)) ((snd_lf n454_0)))))
end
section
variable {G : AG}
theorem n455_0 : Snd mt G 455 0 (oAload 0 1) := w_aload_n (hm := mm455) dX9_init_0
theorem n455_1 : Snd mt G 455 1 (oCall 1 (fI 449 1) 0 4 xOut) := s_callI (m' := 449) (n := 0) xsh_out (w_xok0 mm455) (w_cal mm455 mm449 pn_X7 (Nat.le_of_ble_eq_true rfl) (Nat.le_of_ble_eq_true rfl)) (fun h b as hn => w_run_IN (host := "LimbBenches") mm455 mm449 dX9_init_1 rfl rfl (List.mem_filter.mpr ⟨q1486, rfl⟩) q1381 q154 q1382 pa449 hn)
theorem n455_4 : Snd mt G 455 4 (oAload 0 5) := w_aload_n (hm := mm455) dX9_init_4
theorem n455_5 : Snd mt G 455 5 (oIload 1 6) := w_iload_n (hm := mm455) dX9_init_5
theorem n455_6 : Snd mt G 455 6 (oPutf [9] 1 .char 9) := w_putfF (hm := mm455) dX9_init_6 (pfk1 (k := 1) (T := TX9) 8 (Nat.le_of_ble_eq_true rfl) vc_8 (Nat.le_of_ble_eq_true rfl) rfl rfl pd_X9_1 rfl q1487)
theorem n455_9 : Snd mt G 455 9 (oAload 0 10) := w_aload_n (hm := mm455) dX9_init_9
theorem n455_10 : Snd mt G 455 10 (oIload 2 11) := w_iload_n (hm := mm455) dX9_init_10
theorem n455_11 : Snd mt G 455 11 (oPutf [9] 2 .int 14) := w_putfF (hm := mm455) dX9_init_11 (pfk1 (k := 2) (T := TX9) 8 (Nat.le_of_ble_eq_true rfl) vc_8 (Nat.le_of_ble_eq_true rfl) rfl rfl pd_X9_2 rfl q1488)
theorem n455_14 : Snd mt G 455 14 (oAload 0 15) := w_aload_n (hm := mm455) dX9_init_14
theorem n455_15 : Snd mt G 455 15 (oAload 3 16) := w_aload_n (hm := mm455) dX9_init_15
theorem n455_16 : Snd mt G 455 16 (oPutf [9] 3 (.object "LimbBenches$Expr") 19) := w_putfF (hm := mm455) dX9_init_16 (pfk1 (k := 3) (T := TX9) 8 (Nat.le_of_ble_eq_true rfl) vc_8 (Nat.le_of_ble_eq_true rfl) rfl rfl pd_X9_3 rfl q1489)
theorem n455_19 : Snd mt G 455 19 (oRetV) := w_vret (hm := mm455) dX9_init_19 rfl
theorem sj455 : ∀ pc, Snd mt G 455 pc (j455 pc) := fun pc => (snd_br ((snd_br ((snd_br ((snd_br ((snd_lf n455_19)) ((snd_lf n455_16)))) ((snd_lf n455_15)))) ((snd_br ((snd_br ((snd_lf n455_14)) ((snd_lf n455_11)))) ((snd_lf n455_10)))))) ((snd_br ((snd_br ((snd_br ((snd_lf n455_9)) ((snd_lf n455_6)))) ((snd_lf n455_5)))) ((snd_br ((snd_br ((snd_lf n455_4)) ((snd_lf n455_1)))) ((snd_lf n455_0)))))))
end
section
variable {G : AG}
theorem n456_0 : Snd mt G 456 0 (oAload 0 1) := w_aload_n (hm := mm456) dX10_of_0
theorem n456_1 : Snd mt G 456 1 (oGetf [10] 0 4) := w_getf (hm := mm456) dX10_of_1 (fok1 (k := 0) (T := TX10) 9 (Nat.le_of_ble_eq_true rfl) vc_9 (Nat.le_of_ble_eq_true rfl) q1415)
theorem n456_4 : Snd mt G 456 4 (oRetI .int) := w_iret (hm := mm456) dX10_of_4 rfl
theorem sj456 : ∀ pc, Snd mt G 456 pc (j456 pc) := fun pc => (snd_br ((snd_br ((snd_lf n456_4)) ((snd_lf n456_1)))) ((snd_lf n456_0)))
end
section
variable {G : AG}
theorem n457_0 : Snd mt G 457 0 (oAload 0 1) := w_aload_n (hm := mm457) dX10_init_0
theorem n457_1 : Snd mt G 457 1 (oObjI 4) := w_objI (hm := mm457) dX10_init_1 (Nat.le_of_ble_eq_true rfl) q1414 q189 q190
theorem n457_4 : Snd mt G 457 4 (oAload 0 5) := w_aload_n (hm := mm457) dX10_init_4
theorem n457_5 : Snd mt G 457 5 (oIload 1 6) := w_iload_n (hm := mm457) dX10_init_5
theorem n457_6 : Snd mt G 457 6 (oPutf [10] 0 .int 9) := w_putfF (hm := mm457) dX10_init_6 (pfk1 (k := 0) (T := TX10) 9 (Nat.le_of_ble_eq_true rfl) vc_9 (Nat.le_of_ble_eq_true rfl) rfl rfl pd_X10_0 rfl q1415)
theorem n457_9 : Snd mt G 457 9 (oRetV) := w_vret (hm := mm457) dX10_init_9 rfl
theorem sj457 : ∀ pc, Snd mt G 457 pc (j457 pc) := fun pc => (snd_br ((snd_br ((snd_br ((snd_lf n457_9)) ((snd_lf n457_6)))) ((snd_lf n457_5)))) ((snd_br ((snd_br ((snd_lf n457_4)) ((snd_lf n457_1)))) ((snd_lf n457_0)))))
end
section
variable {G : AG}
theorem n458_0 : Snd mt G 458 0 (oAload 0 1) := w_aload_n (hm := mm458) dX11_of_0
theorem n458_1 : Snd mt G 458 1 (oGetf [11] 1 4) := w_getf (hm := mm458) dX11_of_1 (fok1 (k := 1) (T := TX11) 10 (Nat.le_of_ble_eq_true rfl) vc_10 (Nat.le_of_ble_eq_true rfl) q1455)
theorem n458_4 : Snd mt G 458 4 (oAload 1 5) := w_aload_n (hm := mm458) dX11_of_4
theorem n458_5 : Snd mt G 458 5 (oCall 2 (fP [(10, 456, 2), (11, 458, 4), (12, 460, 2)]) 1 10 xOut) := s_callP (n := 1) (len := 5) xsh_out (w_xok0 mm458) (List.forall_mem_cons.mpr ⟨(w_cal mm458 mm456 pn_X10 (Nat.le_of_ble_eq_true rfl) (Nat.le_of_ble_eq_true rfl)), (List.forall_mem_cons.mpr ⟨(w_cal mm458 mm458 pn_X11 (Nat.le_of_ble_eq_true rfl) (Nat.le_of_ble_eq_true rfl)), (List.forall_mem_cons.mpr ⟨(w_cal mm458 mm460 pn_X12 (Nat.le_of_ble_eq_true rfl) (Nat.le_of_ble_eq_true rfl)), (fun z hz => nomatch hz)⟩)⟩)⟩) (List.forall_mem_cons.mpr ⟨(fun h b as hc hn => w_run_F (ci := 9) mm458 mm456 dX11_of_5 (Or.inl hc) (Nat.le_of_ble_eq_true rfl) vc_9 (by decide) q805 q795 q793 q157 q797 pax_0 hn), (List.forall_mem_cons.mpr ⟨(fun h b as hc hn => w_run_F (ci := 10) mm458 mm458 dX11_of_5 (Or.inl hc) (Nat.le_of_ble_eq_true rfl) vc_10 (by decide) q805 q801 q799 q158 q803 pax_0 hn), (List.forall_mem_cons.mpr ⟨(fun h b as hc hn => w_run_F (ci := 11) mm458 mm460 dX11_of_5 (Or.inl hc) (Nat.le_of_ble_eq_true rfl) vc_11 (by decide) q805 q789 q787 q159 q791 pax_0 hn), (fun z hz => nomatch hz)⟩)⟩)⟩)
theorem n458_10 : Snd mt G 458 10 (oIstore 2 11) := w_istore_n (hm := mm458) dX11_of_10 (Nat.le_of_ble_eq_true rfl)
theorem n458_11 : Snd mt G 458 11 (oAload 0 12) := w_aload_n (hm := mm458) dX11_of_11
theorem n458_12 : Snd mt G 458 12 (oGetf [11] 2 15) := w_getf (hm := mm458) dX11_of_12 (fok1 (k := 2) (T := TX11) 10 (Nat.le_of_ble_eq_true rfl) vc_10 (Nat.le_of_ble_eq_true rfl) q1456)
theorem n458_15 : Snd mt G 458 15 (oAload 1 16) := w_aload_n (hm := mm458) dX11_of_15
theorem n458_16 : Snd mt G 458 16 (oCall 2 (fP [(10, 456, 2), (11, 458, 4), (12, 460, 2)]) 1 21 xOut) := s_callP (n := 1) (len := 5) xsh_out (w_xok0 mm458) (List.forall_mem_cons.mpr ⟨(w_cal mm458 mm456 pn_X10 (Nat.le_of_ble_eq_true rfl) (Nat.le_of_ble_eq_true rfl)), (List.forall_mem_cons.mpr ⟨(w_cal mm458 mm458 pn_X11 (Nat.le_of_ble_eq_true rfl) (Nat.le_of_ble_eq_true rfl)), (List.forall_mem_cons.mpr ⟨(w_cal mm458 mm460 pn_X12 (Nat.le_of_ble_eq_true rfl) (Nat.le_of_ble_eq_true rfl)), (fun z hz => nomatch hz)⟩)⟩)⟩) (List.forall_mem_cons.mpr ⟨(fun h b as hc hn => w_run_F (ci := 9) mm458 mm456 dX11_of_16 (Or.inl hc) (Nat.le_of_ble_eq_true rfl) vc_9 (by decide) q805 q795 q793 q157 q797 pax_0 hn), (List.forall_mem_cons.mpr ⟨(fun h b as hc hn => w_run_F (ci := 10) mm458 mm458 dX11_of_16 (Or.inl hc) (Nat.le_of_ble_eq_true rfl) vc_10 (by decide) q805 q801 q799 q158 q803 pax_0 hn), (List.forall_mem_cons.mpr ⟨(fun h b as hc hn => w_run_F (ci := 11) mm458 mm460 dX11_of_16 (Or.inl hc) (Nat.le_of_ble_eq_true rfl) vc_11 (by decide) q805 q789 q787 q159 q791 pax_0 hn), (fun z hz => nomatch hz)⟩)⟩)⟩)
theorem n458_21 : Snd mt G 458 21 (oIstore 3 22) := w_istore_n (hm := mm458) dX11_of_21 (Nat.le_of_ble_eq_true rfl)
theorem n458_22 : Snd mt G 458 22 (oAload 0 23) := w_aload_n (hm := mm458) dX11_of_22
theorem n458_23 : Snd mt G 458 23 (oGetf [11] 0 26) := w_getf (hm := mm458) dX11_of_23 (fok1 (k := 0) (T := TX11) 10 (Nat.le_of_ble_eq_true rfl) vc_10 (Nat.le_of_ble_eq_true rfl) q1454)
theorem n458_26 : Snd mt G 458 26 (oSwitch sw458_26) := w_lookupL (hm := mm458) (dfl := 106) (L := [(42, 84), (43, 76), (45, 80), (47, 88), (108, 100)]) dX11_of_26 (by decide +kernel) rfl (by decide +kernel)
theorem n458_76 : Snd mt G 458 76 (oIload 2 77) := w_iload_n (hm := mm458) dX11_of_76
theorem n458_77 : Snd mt G 458 77 (oIload 3 78) := w_iload_n (hm := mm458) dX11_of_77
theorem n458_78 : Snd mt G 458 78 (oBin (fun x y => x + y) 79) := w_iadd (hm := mm458) dX11_of_78
theorem n458_79 : Snd mt G 458 79 (oRetI .int) := w_iret (hm := mm458) dX11_of_79 rfl
theorem n458_80 : Snd mt G 458 80 (oIload 2 81) := w_iload_n (hm := mm458) dX11_of_80
theorem n458_81 : Snd mt G 458 81 (oIload 3 82) := w_iload_n (hm := mm458) dX11_of_81
theorem n458_82 : Snd mt G 458 82 (oBin (fun x y => x - y) 83) := w_isub (hm := mm458) dX11_of_82
theorem n458_83 : Snd mt G 458 83 (oRetI .int) := w_iret (hm := mm458) dX11_of_83 rfl
theorem n458_84 : Snd mt G 458 84 (oIload 2 85) := w_iload_n (hm := mm458) dX11_of_84
theorem n458_85 : Snd mt G 458 85 (oIload 3 86) := w_iload_n (hm := mm458) dX11_of_85
theorem n458_86 : Snd mt G 458 86 (oBin (fun x y => x * y) 87) := w_imul (hm := mm458) dX11_of_86
theorem n458_87 : Snd mt G 458 87 (oRetI .int) := w_iret (hm := mm458) dX11_of_87 rfl
theorem n458_88 : Snd mt G 458 88 (oIload 3 89) := w_iload_n (hm := mm458) dX11_of_88
theorem n458_89 : Snd mt G 458 89 (oIfEq 92 96) := w_if_ne (hm := mm458) dX11_of_89 rfl
theorem n458_92 : Snd mt G 458 92 (oConst (.int 0) 93) := w_iconst (hm := mm458) dX11_of_92 rfl
theorem n458_93 : Snd mt G 458 93 (oGoto 99) := w_goto (hm := mm458) dX11_of_93 rfl
theorem n458_96 : Snd mt G 458 96 (oIload 2 97) := w_iload_n (hm := mm458) dX11_of_96
theorem n458_97 : Snd mt G 458 97 (oIload 3 98) := w_iload_n (hm := mm458) dX11_of_97
theorem n458_98 : Snd mt G 458 98 (oDiv (fun x y => x / y) 99) := w_idiv (hm := mm458) dX11_of_98
theorem n458_99 : Snd mt G 458 99 (oRetI .int) := w_iret (hm := mm458) dX11_of_99 rfl
theorem n458_100 : Snd mt G 458 100 (oIload 2 101) := w_iload_n (hm := mm458) dX11_of_100
theorem n458_101 : Snd mt G 458 101 (oIload 3 102) := w_iload_n (hm := mm458) dX11_of_101
theorem n458_102 : Snd mt G 458 102 (oMath2 (fun x y => if y < x then y else x) 105) := w_mmin (hm := mm458) dX11_of_102 (Nat.le_of_ble_eq_true rfl) q806 q331 q143 q332
theorem n458_105 : Snd mt G 458 105 (oRetI .int) := w_iret (hm := mm458) dX11_of_105 rfl
theorem n458_106 : Snd mt G 458 106 (oIload 2 107) := w_iload_n (hm := mm458) dX11_of_106
theorem n458_107 : Snd mt G 458 107 (oIload 3 108) := w_iload_n (hm := mm458) dX11_of_107
theorem n458_108 : Snd mt G 458 108 (oMath2 (fun x y => if x < y then y else x) 111) := w_mmax (hm := mm458) dX11_of_108 (Nat.le_of_ble_eq_true rfl) q807 q313 q143 q314
theorem n458_111 : Snd mt G 458 111 (oRetI .int) := w_iret (hm := mm458) dX11_of_111 rfl
theorem sj458 : ∀ pc, Snd mt G 458 pc (j458 pc) := fun pc => (snd_br ((snd_br ((snd_br ((snd_br ((snd_br ((snd_br ((snd_lf n458_111)) ((snd_lf n458_108)))) ((snd_lf n458_107)))) ((snd_br ((snd_br ((snd_lf n458_106)) ((snd_lf n458_105)))) ((snd_lf n458_102)))))) ((snd_br ((snd_br ((snd_br ((snd_lf n458_101)) ((snd_lf n458_100)))) ((snd_lf n458_99)))) ((snd_br ((snd_lf n458_98)) ((snd_lf n458_97)))))))) ((snd_br ((snd_br ((snd_br ((snd_br ((snd_lf n458_96)) ((snd_lf n458_93)))) ((snd_lf n458_92)))) ((snd_br ((snd_lf n458_89)) ((snd_lf n458_88)))))) ((snd_br ((snd_br ((snd_br ((snd_lf n458_87)) ((snd_lf n458_86)))) ((snd_lf n458_85)))) ((snd_br ((snd_lf n458_84)) ((snd_lf n458_83)))))))))) ((snd_br ((snd_br ((snd_br ((snd_br ((snd_br ((snd_lf n458_82)) ((snd_lf n458_81)))) ((snd_lf n458_80)))) ((snd_br ((snd_lf n458_79)) ((snd_lf n458_78)))))) ((snd_br ((snd_br ((snd_br ((snd_lf n458_77)) ((snd_lf n458_76)))) ((snd_lf n458_26)))) ((snd_br ((snd_lf n458_23)) ((snd_lf n458_22)))))))) ((snd_br ((snd_br ((snd_br ((snd_br ((snd_lf n458_21)) ((snd_lf n458_16)))) ((snd_lf n458_15)))) ((snd_br ((snd_lf n458_12)) ((snd_lf n458_11)))))) ((snd_br ((snd_br ((snd_br ((snd_lf n458_10)) ((snd_lf n458_5)))) ((snd_lf n458_4)))) ((snd_br ((snd_lf n458_1)) ((snd_lf n458_0)))))))))))
end
section
variable {G : AG}
theorem n459_0 : Snd mt G 459 0 (oAload 0 1) := w_aload_n (hm := mm459) dX11_init_0
theorem n459_1 : Snd mt G 459 1 (oObjI 4) := w_objI (hm := mm459) dX11_init_1 (Nat.le_of_ble_eq_true rfl) q1453 q189 q190
theorem n459_4 : Snd mt G 459 4 (oAload 0 5) := w_aload_n (hm := mm459) dX11_init_4
theorem n459_5 : Snd mt G 459 5 (oIload 1 6) := w_iload_n (hm := mm459) dX11_init_5
theorem n459_6 : Snd mt G 459 6 (oPutf [11] 0 .char 9) := w_putfF (hm := mm459) dX11_init_6 (pfk1 (k := 0) (T := TX11) 10 (Nat.le_of_ble_eq_true rfl) vc_10 (Nat.le_of_ble_eq_true rfl) rfl rfl pd_X11_0 rfl q1454)
theorem n459_9 : Snd mt G 459 9 (oAload 0 10) := w_aload_n (hm := mm459) dX11_init_9
theorem n459_10 : Snd mt G 459 10 (oAload 2 11) := w_aload_n (hm := mm459) dX11_init_10
theorem n459_11 : Snd mt G 459 11 (oPutf [11] 1 (.object "LimbBenches$Expr") 14) := w_putfF (hm := mm459) dX11_init_11 (pfk1 (k := 1) (T := TX11) 10 (Nat.le_of_ble_eq_true rfl) vc_10 (Nat.le_of_ble_eq_true rfl) rfl rfl pd_X11_1 rfl q1455)
theorem n459_14 : Snd mt G 459 14 (oAload 0 15) := w_aload_n (hm := mm459) dX11_init_14
theorem n459_15 : Snd mt G 459 15 (oAload 3 16) := w_aload_n (hm := mm459) dX11_init_15
theorem n459_16 : Snd mt G 459 16 (oPutf [11] 2 (.object "LimbBenches$Expr") 19) := w_putfF (hm := mm459) dX11_init_16 (pfk1 (k := 2) (T := TX11) 10 (Nat.le_of_ble_eq_true rfl) vc_10 (Nat.le_of_ble_eq_true rfl) rfl rfl pd_X11_2 rfl q1456)
theorem n459_19 : Snd mt G 459 19 (oRetV) := w_vret (hm := mm459) dX11_init_19 rfl
theorem sj459 : ∀ pc, Snd mt G 459 pc (j459 pc) := fun pc => (snd_br ((snd_br ((snd_br ((snd_br ((snd_lf n459_19)) ((snd_lf n459_16)))) ((snd_lf n459_15)))) ((snd_br ((snd_br ((snd_lf n459_14)) ((snd_lf n459_11)))) ((snd_lf n459_10)))))) ((snd_br ((snd_br ((snd_br ((snd_lf n459_9)) ((snd_lf n459_6)))) ((snd_lf n459_5)))) ((snd_br ((snd_br ((snd_lf n459_4)) ((snd_lf n459_1)))) ((snd_lf n459_0)))))))
end
section
variable {G : AG}
theorem n460_0 : Snd mt G 460 0 (oAload 1 1) := w_aload_n (hm := mm460) dX12_of_0
theorem n460_1 : Snd mt G 460 1 (oAload 0 2) := w_aload_n (hm := mm460) dX12_of_1
theorem n460_2 : Snd mt G 460 2 (oGetf [12] 0 5) := w_getf (hm := mm460) dX12_of_2 (fok1 (k := 0) (T := TX12) 11 (Nat.le_of_ble_eq_true rfl) vc_11 (Nat.le_of_ble_eq_true rfl) q1479)
theorem n460_5 : Snd mt G 460 5 (oAld [100] 6) := w_iaload (hm := mm460) (kt := 0) dX12_of_5 at_0 (Nat.le_of_ble_eq_true rfl) (List.forall_mem_cons.mpr ⟨Or.inl rfl, (fun t ht => nomatch ht)⟩)
theorem n460_6 : Snd mt G 460 6 (oRetI .int) := w_iret (hm := mm460) dX12_of_6 rfl
theorem sj460 : ∀ pc, Snd mt G 460 pc (j460 pc) := fun pc => (snd_br ((snd_br ((snd_br ((snd_lf n460_6)) ((snd_lf n460_5)))) ((snd_lf n460_2)))) ((snd_br ((snd_lf n460_1)) ((snd_lf n460_0)))))
end
section
variable {G : AG}
theorem n461_0 : Snd mt G 461 0 (oAload 0 1) := w_aload_n (hm := mm461) dX12_init_0
theorem n461_1 : Snd mt G 461 1 (oObjI 4) := w_objI (hm := mm461) dX12_init_1 (Nat.le_of_ble_eq_true rfl) q1478 q189 q190
theorem n461_4 : Snd mt G 461 4 (oAload 0 5) := w_aload_n (hm := mm461) dX12_init_4
theorem n461_5 : Snd mt G 461 5 (oIload 1 6) := w_iload_n (hm := mm461) dX12_init_5
theorem n461_6 : Snd mt G 461 6 (oPutf [12] 0 .int 9) := w_putfF (hm := mm461) dX12_init_6 (pfk1 (k := 0) (T := TX12) 11 (Nat.le_of_ble_eq_true rfl) vc_11 (Nat.le_of_ble_eq_true rfl) rfl rfl pd_X12_0 rfl q1479)
theorem n461_9 : Snd mt G 461 9 (oRetV) := w_vret (hm := mm461) dX12_init_9 rfl
theorem sj461 : ∀ pc, Snd mt G 461 pc (j461 pc) := fun pc => (snd_br ((snd_br ((snd_br ((snd_lf n461_9)) ((snd_lf n461_6)))) ((snd_lf n461_5)))) ((snd_br ((snd_br ((snd_lf n461_4)) ((snd_lf n461_1)))) ((snd_lf n461_0)))))
end
section
variable {G : AG}
theorem n462_0 : Snd mt G 462 0 (oAload 1 1) := w_aload_n (hm := mm462) dX13_recalls_0
theorem n462_1 : Snd mt G 462 1 (oGetf [20] 0 4) := w_getfN (hm := mm462) dX13_recalls_1 (fokn1 (k := 0) (T := TX21) 19 (Nat.le_of_ble_eq_true rfl) vc_19 (Nat.le_of_ble_eq_true rfl) q1828)
theorem n462_4 : Snd mt G 462 4 (oAload 0 5) := w_aload_n (hm := mm462) dX13_recalls_4
theorem n462_5 : Snd mt G 462 5 (oGetf [13] 1 8) := w_getf (hm := mm462) dX13_recalls_5 (fok1 (k := 1) (T := TX13) 12 (Nat.le_of_ble_eq_true rfl) vc_12 (Nat.le_of_ble_eq_true rfl) q1504)
theorem n462_8 : Snd mt G 462 8 (oCmpEq 11 45) := w_icmp_ne (hm := mm462) dX13_recalls_8 rfl
theorem n462_11 : Snd mt G 462 11 (oAload 1 12) := w_aload_n (hm := mm462) dX13_recalls_11
theorem n462_12 : Snd mt G 462 12 (oGetf [20] 1 15) := w_getfN (hm := mm462) dX13_recalls_12 (fokn1 (k := 1) (T := TX21) 19 (Nat.le_of_ble_eq_true rfl) vc_19 (Nat.le_of_ble_eq_true rfl) q1831)
theorem n462_15 : Snd mt G 462 15 (oAload 0 16) := w_aload_n (hm := mm462) dX13_recalls_15
theorem n462_16 : Snd mt G 462 16 (oGetf [13] 2 19) := w_getf (hm := mm462) dX13_recalls_16 (fok1 (k := 2) (T := TX13) 12 (Nat.le_of_ble_eq_true rfl) vc_12 (Nat.le_of_ble_eq_true rfl) q1505)
theorem n462_19 : Snd mt G 462 19 (oCmpLt 45 22) := w_icmp_lt (hm := mm462) dX13_recalls_19 rfl
theorem n462_22 : Snd mt G 462 22 (oAload 1 23) := w_aload_n (hm := mm462) dX13_recalls_22
theorem n462_23 : Snd mt G 462 23 (oGetf [20] 1 26) := w_getfN (hm := mm462) dX13_recalls_23 (fokn1 (k := 1) (T := TX21) 19 (Nat.le_of_ble_eq_true rfl) vc_19 (Nat.le_of_ble_eq_true rfl) q1831)
theorem n462_26 : Snd mt G 462 26 (oAload 0 27) := w_aload_n (hm := mm462) dX13_recalls_26
theorem n462_27 : Snd mt G 462 27 (oGetf [13] 3 30) := w_getf (hm := mm462) dX13_recalls_27 (fok1 (k := 3) (T := TX13) 12 (Nat.le_of_ble_eq_true rfl) vc_12 (Nat.le_of_ble_eq_true rfl) q1506)
theorem n462_30 : Snd mt G 462 30 (oCmpGt 45 33) := w_icmp_gt (hm := mm462) dX13_recalls_30 rfl
theorem n462_33 : Snd mt G 462 33 (oAload 0 34) := w_aload_n (hm := mm462) dX13_recalls_33
theorem n462_34 : Snd mt G 462 34 (oAload 2 35) := w_aload_n (hm := mm462) dX13_recalls_34
theorem n462_35 : Snd mt G 462 35 (oCall 2 (fP [(13, 445, 2)]) 0 38 xOut) := s_callP (n := 1) (len := 3) xsh_out (w_xok0 mm462) (List.forall_mem_cons.mpr ⟨(w_cal mm462 mm445 pn_X7 (Nat.le_of_ble_eq_true rfl) (Nat.le_of_ble_eq_true rfl)), (fun z hz => nomatch hz)⟩) (List.forall_mem_cons.mpr ⟨(fun h b as hc hn => w_run_U (owner := "LimbBenches$Clause") (ci := 12) mm462 mm445 dX13_recalls_35 (Or.inl hc) (Nat.le_of_ble_eq_true rfl) vc_12 (Or.inl rfl) q905 q906 q766 q908 q154 q772 ⟨by decide, by decide, by decide +kernel⟩ hn), (fun z hz => nomatch hz)⟩)
theorem n462_38 : Snd mt G 462 38 (oIfEq 45 41) := w_if_eq (hm := mm462) dX13_recalls_38 rfl
theorem n462_41 : Snd mt G 462 41 (oConst (.int 1) 42) := w_iconst (hm := mm462) dX13_recalls_41 rfl
theorem n462_42 : Snd mt G 462 42 (oGoto 46) := w_goto (hm := mm462) dX13_recalls_42 rfl
theorem n462_45 : Snd mt G 462 45 (oConst (.int 0) 46) := w_iconst (hm := mm462) dX13_recalls_45 rfl
theorem n462_46 : Snd mt G 462 46 (oRetI .boolean) := w_zret (hm := mm462) dX13_recalls_46 rfl
theorem sj462 : ∀ pc, Snd mt G 462 pc (j462 pc) := fun pc => (snd_br ((snd_br ((snd_br ((snd_br ((snd_br ((snd_lf n462_46)) ((snd_lf n462_45)))) ((snd_lf n462_42)))) ((snd_br ((snd_br ((snd_lf n462_41)) ((snd_lf n462_38)))) ((snd_lf n462_35)))))) ((snd_br ((snd_br ((snd_br ((snd_lf n462_34)) ((snd_lf n462_33)))) ((snd_lf n462_30)))) ((snd_br ((snd_br ((snd_lf n462_27)) ((snd_lf n462_26)))) ((snd_lf n462_23)))))))) ((snd_br ((snd_br ((snd_br ((snd_br ((snd_lf n462_22)) ((snd_lf n462_19)))) ((snd_lf n462_16)))) ((snd_br ((snd_br ((snd_lf n462_15)) ((snd_lf n462_12)))) ((snd_lf n462_11)))))) ((snd_br ((snd_br ((snd_br ((snd_lf n462_8)) ((snd_lf n462_5)))) ((snd_lf n462_4)))) ((snd_br ((snd_lf n462_1)) ((snd_lf n462_0)))))))))
end
section
variable {G : AG}
theorem n463_0 : Snd mt G 463 0 (oAload 0 1) := w_aload_n (hm := mm463) dX13_init_0
theorem n463_1 : Snd mt G 463 1 (oCall 1 (fI 449 1) 0 4 xOut) := s_callI (m' := 449) (n := 0) xsh_out (w_xok0 mm463) (w_cal mm463 mm449 pn_X7 (Nat.le_of_ble_eq_true rfl) (Nat.le_of_ble_eq_true rfl)) (fun h b as hn => w_run_IN (host := "LimbBenches") mm463 mm449 dX13_init_1 rfl rfl (List.mem_filter.mpr ⟨q1503, rfl⟩) q1381 q154 q1382 pa449 hn)
theorem n463_4 : Snd mt G 463 4 (oAload 0 5) := w_aload_n (hm := mm463) dX13_init_4
theorem n463_5 : Snd mt G 463 5 (oIload 1 6) := w_iload_n (hm := mm463) dX13_init_5
theorem n463_6 : Snd mt G 463 6 (oPutf [13] 1 .int 9) := w_putfF (hm := mm463) dX13_init_6 (pfk1 (k := 1) (T := TX13) 12 (Nat.le_of_ble_eq_true rfl) vc_12 (Nat.le_of_ble_eq_true rfl) rfl rfl pd_X13_1 rfl q1504)
theorem n463_9 : Snd mt G 463 9 (oAload 0 10) := w_aload_n (hm := mm463) dX13_init_9
theorem n463_10 : Snd mt G 463 10 (oIload 2 11) := w_iload_n (hm := mm463) dX13_init_10
theorem n463_11 : Snd mt G 463 11 (oPutf [13] 2 .int 14) := w_putfF (hm := mm463) dX13_init_11 (pfk1 (k := 2) (T := TX13) 12 (Nat.le_of_ble_eq_true rfl) vc_12 (Nat.le_of_ble_eq_true rfl) rfl rfl pd_X13_2 rfl q1505)
theorem n463_14 : Snd mt G 463 14 (oAload 0 15) := w_aload_n (hm := mm463) dX13_init_14
theorem n463_15 : Snd mt G 463 15 (oIload 3 16) := w_iload_n (hm := mm463) dX13_init_15
theorem n463_16 : Snd mt G 463 16 (oPutf [13] 3 .int 19) := w_putfF (hm := mm463) dX13_init_16 (pfk1 (k := 3) (T := TX13) 12 (Nat.le_of_ble_eq_true rfl) vc_12 (Nat.le_of_ble_eq_true rfl) rfl rfl pd_X13_3 rfl q1506)
theorem n463_19 : Snd mt G 463 19 (oRetV) := w_vret (hm := mm463) dX13_init_19 rfl
theorem sj463 : ∀ pc, Snd mt G 463 pc (j463 pc) := fun pc => (snd_br ((snd_br ((snd_br ((snd_br ((snd_lf n463_19)) ((snd_lf n463_16)))) ((snd_lf n463_15)))) ((snd_br ((snd_br ((snd_lf n463_14)) ((snd_lf n463_11)))) ((snd_lf n463_10)))))) ((snd_br ((snd_br ((snd_br ((snd_lf n463_9)) ((snd_lf n463_6)))) ((snd_lf n463_5)))) ((snd_br ((snd_br ((snd_lf n463_4)) ((snd_lf n463_1)))) ((snd_lf n463_0)))))))
end
section
variable {G : AG}
theorem n464_0 : Snd mt G 464 0 (oAload 0 1) := w_aload_n (hm := mm464) dX14_needs_0
theorem n464_1 : Snd mt G 464 1 (oGetf [14] 1 4) := w_getf (hm := mm464) dX14_needs_1 (fok1 (k := 1) (T := TX14) 13 (Nat.le_of_ble_eq_true rfl) vc_13 (Nat.le_of_ble_eq_true rfl) q1521)
theorem n464_4 : Snd mt G 464 4 (oRetI .int) := w_iret (hm := mm464) dX14_needs_4 rfl
theorem sj464 : ∀ pc, Snd mt G 464 pc (j464 pc) := fun pc => (snd_br ((snd_br ((snd_lf n464_4)) ((snd_lf n464_1)))) ((snd_lf n464_0)))
end
section
variable {G : AG}
theorem n465_0 : Snd mt G 465 0 (oAload 0 1) := w_aload_n (hm := mm465) dX14_init_0
theorem n465_1 : Snd mt G 465 1 (oCall 1 (fI 449 1) 0 4 xOut) := s_callI (m' := 449) (n := 0) xsh_out (w_xok0 mm465) (w_cal mm465 mm449 pn_X7 (Nat.le_of_ble_eq_true rfl) (Nat.le_of_ble_eq_true rfl)) (fun h b as hn => w_run_IN (host := "LimbBenches") mm465 mm449 dX14_init_1 rfl rfl (List.mem_filter.mpr ⟨q1520, rfl⟩) q1381 q154 q1382 pa449 hn)
theorem n465_4 : Snd mt G 465 4 (oAload 0 5) := w_aload_n (hm := mm465) dX14_init_4
theorem n465_5 : Snd mt G 465 5 (oIload 1 6) := w_iload_n (hm := mm465) dX14_init_5
theorem n465_6 : Snd mt G 465 6 (oPutf [14] 1 .int 9) := w_putfF (hm := mm465) dX14_init_6 (pfk1 (k := 1) (T := TX14) 13 (Nat.le_of_ble_eq_true rfl) vc_13 (Nat.le_of_ble_eq_true rfl) rfl rfl pd_X14_1 rfl q1521)
theorem n465_9 : Snd mt G 465 9 (oRetV) := w_vret (hm := mm465) dX14_init_9 rfl
theorem sj465 : ∀ pc, Snd mt G 465 pc (j465 pc) := fun pc => (snd_br ((snd_br ((snd_br ((snd_lf n465_9)) ((snd_lf n465_6)))) ((snd_lf n465_5)))) ((snd_br ((snd_br ((snd_lf n465_4)) ((snd_lf n465_1)))) ((snd_lf n465_0)))))
end
section
variable {G : AG}
theorem n466_0 : Snd mt G 466 0 (oAload 0 1) := w_aload_n (hm := mm466) dX15_init_0
theorem n466_1 : Snd mt G 466 1 (oObjI 4) := w_objI (hm := mm466) dX15_init_1 (Nat.le_of_ble_eq_true rfl) q1552 q189 q190
theorem n466_4 : Snd mt G 466 4 (oRetV) := w_vret (hm := mm466) dX15_init_4 rfl
theorem sj466 : ∀ pc, Snd mt G 466 pc (j466 pc) := fun pc => (snd_br ((snd_br ((snd_lf n466_4)) ((snd_lf n466_1)))) ((snd_lf n466_0)))
end
section
variable {G : AG}
theorem n467_0 : Snd mt G 467 0 (oAload 0 1) := w_aload_n (hm := mm467) dX16_holds_0
theorem n467_1 : Snd mt G 467 1 (oGetf [15] 0 4) := w_getf (hm := mm467) dX16_holds_1 (fok1 (k := 0) (T := TX16) 14 (Nat.le_of_ble_eq_true rfl) vc_14 (Nat.le_of_ble_eq_true rfl) q1553)
theorem n467_4 : Snd mt G 467 4 (oAload 1 5) := w_aload_n (hm := mm467) dX16_holds_4
theorem n467_5 : Snd mt G 467 5 (oCall 2 (fP [(15, 467, 2), (16, 469, 4), (17, 471, 4)]) 1 8 xOut) := s_callP (n := 1) (len := 3) xsh_out (w_xok0 mm467) (List.forall_mem_cons.mpr ⟨(w_cal mm467 mm467 pn_X16 (Nat.le_of_ble_eq_true rfl) (Nat.le_of_ble_eq_true rfl)), (List.forall_mem_cons.mpr ⟨(w_cal mm467 mm469 pn_X17 (Nat.le_of_ble_eq_true rfl) (Nat.le_of_ble_eq_true rfl)), (List.forall_mem_cons.mpr ⟨(w_cal mm467 mm471 pn_X18 (Nat.le_of_ble_eq_true rfl) (Nat.le_of_ble_eq_true rfl)), (fun z hz => nomatch hz)⟩)⟩)⟩) (List.forall_mem_cons.mpr ⟨(fun h b as hc hn => w_run_U (owner := "LimbBenches$Cond") (ci := 14) mm467 mm467 dX16_holds_5 (Or.inl hc) (Nat.le_of_ble_eq_true rfl) vc_14 (Or.inr (Or.inr (List.mem_filter.mpr ⟨q774, rfl⟩))) q810 q775 q808 q812 q163 q809 ⟨by decide, by decide, by decide +kernel⟩ hn), (List.forall_mem_cons.mpr ⟨(fun h b as hc hn => w_run_U (owner := "LimbBenches$Cond") (ci := 15) mm467 mm469 dX16_holds_5 (Or.inl hc) (Nat.le_of_ble_eq_true rfl) vc_15 (Or.inr (Or.inr (List.mem_filter.mpr ⟨q774, rfl⟩))) q810 q775 q780 q811 q164 q781 ⟨by decide, by decide, by decide +kernel⟩ hn), (List.forall_mem_cons.mpr ⟨(fun h b as hc hn => w_run_U (owner := "LimbBenches$Cond") (ci := 16) mm467 mm471 dX16_holds_5 (Or.inl hc) (Nat.le_of_ble_eq_true rfl) vc_16 (Or.inr (Or.inr (List.mem_filter.mpr ⟨q774, rfl⟩))) q810 q775 q777 q776 q165 q778 ⟨by decide, by decide, by decide +kernel⟩ hn), (fun z hz => nomatch hz)⟩)⟩)⟩)
theorem n467_8 : Snd mt G 467 8 (oIfEq 11 15) := w_if_ne (hm := mm467) dX16_holds_8 rfl
theorem n467_11 : Snd mt G 467 11 (oConst (.int 1) 12) := w_iconst (hm := mm467) dX16_holds_11 rfl
theorem n467_12 : Snd mt G 467 12 (oGoto 16) := w_goto (hm := mm467) dX16_holds_12 rfl
theorem n467_15 : Snd mt G 467 15 (oConst (.int 0) 16) := w_iconst (hm := mm467) dX16_holds_15 rfl
theorem n467_16 : Snd mt G 467 16 (oRetI .boolean) := w_zret (hm := mm467) dX16_holds_16 rfl
theorem sj467 : ∀ pc, Snd mt G 467 pc (j467 pc) := fun pc => (snd_br ((snd_br ((snd_br ((snd_br ((snd_lf n467_16)) ((snd_lf n467_15)))) ((snd_lf n467_12)))) ((snd_br ((snd_lf n467_11)) ((snd_lf n467_8)))))) ((snd_br ((snd_br ((snd_lf n467_5)) ((snd_lf n467_4)))) ((snd_br ((snd_lf n467_1)) ((snd_lf n467_0)))))))
end
section
variable {G : AG}
theorem n468_0 : Snd mt G 468 0 (oAload 0 1) := w_aload_n (hm := mm468) dX16_init_0
theorem n468_1 : Snd mt G 468 1 (oCall 1 (fI 466 1) 0 4 xOut) := s_callI (m' := 466) (n := 0) xsh_out (w_xok0 mm468) (w_cal mm468 mm466 pn_X15 (Nat.le_of_ble_eq_true rfl) (Nat.le_of_ble_eq_true rfl)) (fun h b as hn => w_run_IN (host := "LimbBenches") mm468 mm466 dX16_init_1 rfl rfl (List.mem_filter.mpr ⟨q1549, rfl⟩) q1550 q162 q1551 pa466 hn)
theorem n468_4 : Snd mt G 468 4 (oAload 0 5) := w_aload_n (hm := mm468) dX16_init_4
theorem n468_5 : Snd mt G 468 5 (oAload 1 6) := w_aload_n (hm := mm468) dX16_init_5
theorem n468_6 : Snd mt G 468 6 (oPutf [15] 0 (.object "LimbBenches$Cond") 9) := w_putfF (hm := mm468) dX16_init_6 (pfk1 (k := 0) (T := TX16) 14 (Nat.le_of_ble_eq_true rfl) vc_14 (Nat.le_of_ble_eq_true rfl) rfl rfl pd_X16_0 rfl q1553)
theorem n468_9 : Snd mt G 468 9 (oRetV) := w_vret (hm := mm468) dX16_init_9 rfl
theorem sj468 : ∀ pc, Snd mt G 468 pc (j468 pc) := fun pc => (snd_br ((snd_br ((snd_br ((snd_lf n468_9)) ((snd_lf n468_6)))) ((snd_lf n468_5)))) ((snd_br ((snd_br ((snd_lf n468_4)) ((snd_lf n468_1)))) ((snd_lf n468_0)))))
end
section
variable {G : AG}
theorem n469_0 : Snd mt G 469 0 (oAload 0 1) := w_aload_n (hm := mm469) dX17_holds_0
theorem n469_1 : Snd mt G 469 1 (oGetf [16] 1 4) := w_getf (hm := mm469) dX17_holds_1 (fok1 (k := 1) (T := TX17) 15 (Nat.le_of_ble_eq_true rfl) vc_15 (Nat.le_of_ble_eq_true rfl) q1564)
theorem n469_4 : Snd mt G 469 4 (oAload 1 5) := w_aload_n (hm := mm469) dX17_holds_4
theorem n469_5 : Snd mt G 469 5 (oCall 2 (fP [(10, 456, 2), (11, 458, 4), (12, 460, 2)]) 0 10 xOut) := s_callP (n := 1) (len := 5) xsh_out (w_xok0 mm469) (List.forall_mem_cons.mpr ⟨(w_cal mm469 mm456 pn_X10 (Nat.le_of_ble_eq_true rfl) (Nat.le_of_ble_eq_true rfl)), (List.forall_mem_cons.mpr ⟨(w_cal mm469 mm458 pn_X11 (Nat.le_of_ble_eq_true rfl) (Nat.le_of_ble_eq_true rfl)), (List.forall_mem_cons.mpr ⟨(w_cal mm469 mm460 pn_X12 (Nat.le_of_ble_eq_true rfl) (Nat.le_of_ble_eq_true rfl)), (fun z hz => nomatch hz)⟩)⟩)⟩) (List.forall_mem_cons.mpr ⟨(fun h b as hc hn => w_run_F (ci := 9) mm469 mm456 dX17_holds_5 (Or.inl hc) (Nat.le_of_ble_eq_true rfl) vc_9 (by decide) q783 q795 q793 q157 q797 pax_0 hn), (List.forall_mem_cons.mpr ⟨(fun h b as hc hn => w_run_F (ci := 10) mm469 mm458 dX17_holds_5 (Or.inl hc) (Nat.le_of_ble_eq_true rfl) vc_10 (by decide) q783 q801 q799 q158 q803 pax_0 hn), (List.forall_mem_cons.mpr ⟨(fun h b as hc hn => w_run_F (ci := 11) mm469 mm460 dX17_holds_5 (Or.inl hc) (Nat.le_of_ble_eq_true rfl) vc_11 (by decide) q783 q789 q787 q159 q791 pax_0 hn), (fun z hz => nomatch hz)⟩)⟩)⟩)
theorem n469_10 : Snd mt G 469 10 (oIstore 2 11) := w_istore_n (hm := mm469) dX17_holds_10 (Nat.le_of_ble_eq_true rfl)
theorem n469_11 : Snd mt G 469 11 (oAload 0 12) := w_aload_n (hm := mm469) dX17_holds_11
theorem n469_12 : Snd mt G 469 12 (oGetf [16] 2 15) := w_getf (hm := mm469) dX17_holds_12 (fok1 (k := 2) (T := TX17) 15 (Nat.le_of_ble_eq_true rfl) vc_15 (Nat.le_of_ble_eq_true rfl) q1565)
theorem n469_15 : Snd mt G 469 15 (oAload 1 16) := w_aload_n (hm := mm469) dX17_holds_15
theorem n469_16 : Snd mt G 469 16 (oCall 2 (fP [(10, 456, 2), (11, 458, 4), (12, 460, 2)]) 0 21 xOut) := s_callP (n := 1) (len := 5) xsh_out (w_xok0 mm469) (List.forall_mem_cons.mpr ⟨(w_cal mm469 mm456 pn_X10 (Nat.le_of_ble_eq_true rfl) (Nat.le_of_ble_eq_true rfl)), (List.forall_mem_cons.mpr ⟨(w_cal mm469 mm458 pn_X11 (Nat.le_of_ble_eq_true rfl) (Nat.le_of_ble_eq_true rfl)), (List.forall_mem_cons.mpr ⟨(w_cal mm469 mm460 pn_X12 (Nat.le_of_ble_eq_true rfl) (Nat.le_of_ble_eq_true rfl)), (fun z hz => nomatch hz)⟩)⟩)⟩) (List.forall_mem_cons.mpr ⟨(fun h b as hc hn => w_run_F (ci := 9) mm469 mm456 dX17_holds_16 (Or.inl hc) (Nat.le_of_ble_eq_true rfl) vc_9 (by decide) q783 q795 q793 q157 q797 pax_0 hn), (List.forall_mem_cons.mpr ⟨(fun h b as hc hn => w_run_F (ci := 10) mm469 mm458 dX17_holds_16 (Or.inl hc) (Nat.le_of_ble_eq_true rfl) vc_10 (by decide) q783 q801 q799 q158 q803 pax_0 hn), (List.forall_mem_cons.mpr ⟨(fun h b as hc hn => w_run_F (ci := 11) mm469 mm460 dX17_holds_16 (Or.inl hc) (Nat.le_of_ble_eq_true rfl) vc_11 (by decide) q783 q789 q787 q159 q791 pax_0 hn), (fun z hz => nomatch hz)⟩)⟩)⟩)
theorem n469_21 : Snd mt G 469 21 (oIstore 3 22) := w_istore_n (hm := mm469) dX17_holds_21 (Nat.le_of_ble_eq_true rfl)
theorem n469_22 : Snd mt G 469 22 (oAload 0 23) := w_aload_n (hm := mm469) dX17_holds_22
theorem n469_23 : Snd mt G 469 23 (oGetf [16] 0 26) := w_getf (hm := mm469) dX17_holds_23 (fok1 (k := 0) (T := TX17) 15 (Nat.le_of_ble_eq_true rfl) vc_15 (Nat.le_of_ble_eq_true rfl) q1563)
theorem n469_26 : Snd mt G 469 26 (oConst (.int 60) 28) := w_bipush (hm := mm469) dX17_holds_26 (by decide)
theorem n469_28 : Snd mt G 469 28 (oCmpEq 31 44) := w_icmp_ne (hm := mm469) dX17_holds_28 rfl
theorem n469_31 : Snd mt G 469 31 (oIload 2 32) := w_iload_n (hm := mm469) dX17_holds_31
theorem n469_32 : Snd mt G 469 32 (oIload 3 33) := w_iload_n (hm := mm469) dX17_holds_32
theorem n469_33 : Snd mt G 469 33 (oCmpGe 40 36) := w_icmp_ge (hm := mm469) dX17_holds_33 rfl
theorem n469_36 : Snd mt G 469 36 (oConst (.int 1) 37) := w_iconst (hm := mm469) dX17_holds_36 rfl
theorem n469_37 : Snd mt G 469 37 (oGoto 76) := w_goto (hm := mm469) dX17_holds_37 rfl
theorem n469_40 : Snd mt G 469 40 (oConst (.int 0) 41) := w_iconst (hm := mm469) dX17_holds_40 rfl
theorem n469_41 : Snd mt G 469 41 (oGoto 76) := w_goto (hm := mm469) dX17_holds_41 rfl
theorem n469_44 : Snd mt G 469 44 (oAload 0 45) := w_aload_n (hm := mm469) dX17_holds_44
theorem n469_45 : Snd mt G 469 45 (oGetf [16] 0 48) := w_getf (hm := mm469) dX17_holds_45 (fok1 (k := 0) (T := TX17) 15 (Nat.le_of_ble_eq_true rfl) vc_15 (Nat.le_of_ble_eq_true rfl) q1563)
theorem n469_48 : Snd mt G 469 48 (oConst (.int 62) 50) := w_bipush (hm := mm469) dX17_holds_48 (by decide)
theorem n469_50 : Snd mt G 469 50 (oCmpEq 53 66) := w_icmp_ne (hm := mm469) dX17_holds_50 rfl
theorem n469_53 : Snd mt G 469 53 (oIload 2 54) := w_iload_n (hm := mm469) dX17_holds_53
theorem n469_54 : Snd mt G 469 54 (oIload 3 55) := w_iload_n (hm := mm469) dX17_holds_54
theorem n469_55 : Snd mt G 469 55 (oCmpLe 62 58) := w_icmp_le (hm := mm469) dX17_holds_55 rfl
theorem n469_58 : Snd mt G 469 58 (oConst (.int 1) 59) := w_iconst (hm := mm469) dX17_holds_58 rfl
theorem n469_59 : Snd mt G 469 59 (oGoto 76) := w_goto (hm := mm469) dX17_holds_59 rfl
theorem n469_62 : Snd mt G 469 62 (oConst (.int 0) 63) := w_iconst (hm := mm469) dX17_holds_62 rfl
theorem n469_63 : Snd mt G 469 63 (oGoto 76) := w_goto (hm := mm469) dX17_holds_63 rfl
theorem n469_66 : Snd mt G 469 66 (oIload 2 67) := w_iload_n (hm := mm469) dX17_holds_66
theorem n469_67 : Snd mt G 469 67 (oIload 3 68) := w_iload_n (hm := mm469) dX17_holds_67
theorem n469_68 : Snd mt G 469 68 (oCmpEq 71 75) := w_icmp_ne (hm := mm469) dX17_holds_68 rfl
theorem n469_71 : Snd mt G 469 71 (oConst (.int 1) 72) := w_iconst (hm := mm469) dX17_holds_71 rfl
theorem n469_72 : Snd mt G 469 72 (oGoto 76) := w_goto (hm := mm469) dX17_holds_72 rfl
theorem n469_75 : Snd mt G 469 75 (oConst (.int 0) 76) := w_iconst (hm := mm469) dX17_holds_75 rfl
theorem n469_76 : Snd mt G 469 76 (oRetI .boolean) := w_zret (hm := mm469) dX17_holds_76 rfl
theorem sj469 : ∀ pc, Snd mt G 469 pc (j469 pc) := fun pc => (snd_br ((snd_br ((snd_br ((snd_br ((snd_br ((snd_br ((snd_lf n469_76)) ((snd_lf n469_75)))) ((snd_lf n469_72)))) ((snd_br ((snd_lf n469_71)) ((snd_lf n469_68)))))) ((snd_br ((snd_br ((snd_br ((snd_lf n469_67)) ((snd_lf n469_66)))) ((snd_lf n469_63)))) ((snd_br ((snd_lf n469_62)) ((snd_lf n469_59)))))))) ((snd_br ((snd_br ((snd_br ((snd_br ((snd_lf n469_58)) ((snd_lf n469_55)))) ((snd_lf n469_54)))) ((snd_br ((snd_lf n469_53)) ((snd_lf n469_50)))))) ((snd_br ((snd_br ((snd_br ((snd_lf n469_48)) ((snd_lf n469_45)))) ((snd_lf n469_44)))) ((snd_br ((snd_lf n469_41)) ((snd_lf n469_40)))))))))) ((snd_br ((snd_br ((snd_br ((snd_br ((snd_br ((snd_lf n469_37)) ((snd_lf n469_36)))) ((snd_lf n469_33)))) ((snd_br ((snd_lf n469_32)) ((snd_lf n469_31)))))) ((snd_br ((snd_br ((snd_br ((snd_lf n469_28)) ((snd_lf n469_26)))) ((snd_lf n469_23)))) ((snd_br ((snd_lf n469_22)) ((snd_lf n469_21)))))))) ((snd_br ((snd_br ((snd_br ((snd_br ((snd_lf n469_16)) ((snd_lf n469_15)))) ((snd_lf n469_12)))) ((snd_br ((snd_lf n469_11)) ((snd_lf n469_10)))))) ((snd_br ((snd_br ((snd_lf n469_5)) ((snd_lf n469_4)))) ((snd_br ((snd_lf n469_1)) ((snd_lf n469_0)))))))))))
end
section
variable {G : AG}
theorem n470_0 : Snd mt G 470 0 (oAload 0 1) := w_aload_n (hm := mm470) dX17_init_0
theorem n470_1 : Snd mt G 470 1 (oCall 1 (fI 466 1) 0 4 xOut) := s_callI (m' := 466) (n := 0) xsh_out (w_xok0 mm470) (w_cal mm470 mm466 pn_X15 (Nat.le_of_ble_eq_true rfl) (Nat.le_of_ble_eq_true rfl)) (fun h b as hn => w_run_IN (host := "LimbBenches") mm470 mm466 dX17_init_1 rfl rfl (List.mem_filter.mpr ⟨q1562, rfl⟩) q1550 q162 q1551 pa466 hn)
theorem n470_4 : Snd mt G 470 4 (oAload 0 5) := w_aload_n (hm := mm470) dX17_init_4
theorem n470_5 : Snd mt G 470 5 (oIload 1 6) := w_iload_n (hm := mm470) dX17_init_5
theorem n470_6 : Snd mt G 470 6 (oPutf [16] 0 .char 9) := w_putfF (hm := mm470) dX17_init_6 (pfk1 (k := 0) (T := TX17) 15 (Nat.le_of_ble_eq_true rfl) vc_15 (Nat.le_of_ble_eq_true rfl) rfl rfl pd_X17_0 rfl q1563)
theorem n470_9 : Snd mt G 470 9 (oAload 0 10) := w_aload_n (hm := mm470) dX17_init_9
theorem n470_10 : Snd mt G 470 10 (oAload 2 11) := w_aload_n (hm := mm470) dX17_init_10
theorem n470_11 : Snd mt G 470 11 (oPutf [16] 1 (.object "LimbBenches$Expr") 14) := w_putfF (hm := mm470) dX17_init_11 (pfk1 (k := 1) (T := TX17) 15 (Nat.le_of_ble_eq_true rfl) vc_15 (Nat.le_of_ble_eq_true rfl) rfl rfl pd_X17_1 rfl q1564)
theorem n470_14 : Snd mt G 470 14 (oAload 0 15) := w_aload_n (hm := mm470) dX17_init_14
theorem n470_15 : Snd mt G 470 15 (oAload 3 16) := w_aload_n (hm := mm470) dX17_init_15
theorem n470_16 : Snd mt G 470 16 (oPutf [16] 2 (.object "LimbBenches$Expr") 19) := w_putfF (hm := mm470) dX17_init_16 (pfk1 (k := 2) (T := TX17) 15 (Nat.le_of_ble_eq_true rfl) vc_15 (Nat.le_of_ble_eq_true rfl) rfl rfl pd_X17_2 rfl q1565)
theorem n470_19 : Snd mt G 470 19 (oRetV) := w_vret (hm := mm470) dX17_init_19 rfl
theorem sj470 : ∀ pc, Snd mt G 470 pc (j470 pc) := fun pc => (snd_br ((snd_br ((snd_br ((snd_br ((snd_lf n470_19)) ((snd_lf n470_16)))) ((snd_lf n470_15)))) ((snd_br ((snd_br ((snd_lf n470_14)) ((snd_lf n470_11)))) ((snd_lf n470_10)))))) ((snd_br ((snd_br ((snd_br ((snd_lf n470_9)) ((snd_lf n470_6)))) ((snd_lf n470_5)))) ((snd_br ((snd_br ((snd_lf n470_4)) ((snd_lf n470_1)))) ((snd_lf n470_0)))))))
end
section
variable {G : AG}
theorem n471_0 : Snd mt G 471 0 (oAload 0 1) := w_aload_n (hm := mm471) dX18_holds_0
theorem n471_1 : Snd mt G 471 1 (oGetf [17] 1 4) := w_getf (hm := mm471) dX18_holds_1 (fok1 (k := 1) (T := TX18) 16 (Nat.le_of_ble_eq_true rfl) vc_16 (Nat.le_of_ble_eq_true rfl) q1581)
theorem n471_4 : Snd mt G 471 4 (oAload 1 5) := w_aload_n (hm := mm471) dX18_holds_4
theorem n471_5 : Snd mt G 471 5 (oCall 2 (fP [(15, 467, 2), (16, 469, 4), (17, 471, 4)]) 1 8 xOut) := s_callP (n := 1) (len := 3) xsh_out (w_xok0 mm471) (List.forall_mem_cons.mpr ⟨(w_cal mm471 mm467 pn_X16 (Nat.le_of_ble_eq_true rfl) (Nat.le_of_ble_eq_true rfl)), (List.forall_mem_cons.mpr ⟨(w_cal mm471 mm469 pn_X17 (Nat.le_of_ble_eq_true rfl) (Nat.le_of_ble_eq_true rfl)), (List.forall_mem_cons.mpr ⟨(w_cal mm471 mm471 pn_X18 (Nat.le_of_ble_eq_true rfl) (Nat.le_of_ble_eq_true rfl)), (fun z hz => nomatch hz)⟩)⟩)⟩) (List.forall_mem_cons.mpr ⟨(fun h b as hc hn => w_run_U (owner := "LimbBenches$Cond") (ci := 14) mm471 mm467 dX18_holds_5 (Or.inl hc) (Nat.le_of_ble_eq_true rfl) vc_14 (Or.inr (Or.inr (List.mem_filter.mpr ⟨q774, rfl⟩))) q779 q775 q808 q812 q163 q809 ⟨by decide, by decide, by decide +kernel⟩ hn), (List.forall_mem_cons.mpr ⟨(fun h b as hc hn => w_run_U (owner := "LimbBenches$Cond") (ci := 15) mm471 mm469 dX18_holds_5 (Or.inl hc) (Nat.le_of_ble_eq_true rfl) vc_15 (Or.inr (Or.inr (List.mem_filter.mpr ⟨q774, rfl⟩))) q779 q775 q780 q811 q164 q781 ⟨by decide, by decide, by decide +kernel⟩ hn), (List.forall_mem_cons.mpr ⟨(fun h b as hc hn => w_run_U (owner := "LimbBenches$Cond") (ci := 16) mm471 mm471 dX18_holds_5 (Or.inl hc) (Nat.le_of_ble_eq_true rfl) vc_16 (Or.inr (Or.inr (List.mem_filter.mpr ⟨q774, rfl⟩))) q779 q775 q777 q776 q165 q778 ⟨by decide, by decide, by decide +kernel⟩ hn), (fun z hz => nomatch hz)⟩)⟩)⟩)
theorem n471_8 : Snd mt G 471 8 (oIstore 2 9) := w_istore_n (hm := mm471) dX18_holds_8 (Nat.le_of_ble_eq_true rfl)
theorem n471_9 : Snd mt G 471 9 (oAload 0 10) := w_aload_n (hm := mm471) dX18_holds_9
theorem n471_10 : Snd mt G 471 10 (oGetf [17] 2 13) := w_getf (hm := mm471) dX18_holds_10 (fok1 (k := 2) (T := TX18) 16 (Nat.le_of_ble_eq_true rfl) vc_16 (Nat.le_of_ble_eq_true rfl) q1582)
theorem n471_13 : Snd mt G 471 13 (oAload 1 14) := w_aload_n (hm := mm471) dX18_holds_13
theorem n471_14 : Snd mt G 471 14 (oCall 2 (fP [(15, 467, 2), (16, 469, 4), (17, 471, 4)]) 1 17 xOut) := s_callP (n := 1) (len := 3) xsh_out (w_xok0 mm471) (List.forall_mem_cons.mpr ⟨(w_cal mm471 mm467 pn_X16 (Nat.le_of_ble_eq_true rfl) (Nat.le_of_ble_eq_true rfl)), (List.forall_mem_cons.mpr ⟨(w_cal mm471 mm469 pn_X17 (Nat.le_of_ble_eq_true rfl) (Nat.le_of_ble_eq_true rfl)), (List.forall_mem_cons.mpr ⟨(w_cal mm471 mm471 pn_X18 (Nat.le_of_ble_eq_true rfl) (Nat.le_of_ble_eq_true rfl)), (fun z hz => nomatch hz)⟩)⟩)⟩) (List.forall_mem_cons.mpr ⟨(fun h b as hc hn => w_run_U (owner := "LimbBenches$Cond") (ci := 14) mm471 mm467 dX18_holds_14 (Or.inl hc) (Nat.le_of_ble_eq_true rfl) vc_14 (Or.inr (Or.inr (List.mem_filter.mpr ⟨q774, rfl⟩))) q779 q775 q808 q812 q163 q809 ⟨by decide, by decide, by decide +kernel⟩ hn), (List.forall_mem_cons.mpr ⟨(fun h b as hc hn => w_run_U (owner := "LimbBenches$Cond") (ci := 15) mm471 mm469 dX18_holds_14 (Or.inl hc) (Nat.le_of_ble_eq_true rfl) vc_15 (Or.inr (Or.inr (List.mem_filter.mpr ⟨q774, rfl⟩))) q779 q775 q780 q811 q164 q781 ⟨by decide, by decide, by decide +kernel⟩ hn), (List.forall_mem_cons.mpr ⟨(fun h b as hc hn => w_run_U (owner := "LimbBenches$Cond") (ci := 16) mm471 mm471 dX18_holds_14 (Or.inl hc) (Nat.le_of_ble_eq_true rfl) vc_16 (Or.inr (Or.inr (List.mem_filter.mpr ⟨q774, rfl⟩))) q779 q775 q777 q776 q165 q778 ⟨by decide, by decide, by decide +kernel⟩ hn), (fun z hz => nomatch hz)⟩)⟩)⟩)
theorem n471_17 : Snd mt G 471 17 (oIstore 3 18) := w_istore_n (hm := mm471) dX18_holds_17 (Nat.le_of_ble_eq_true rfl)
theorem n471_18 : Snd mt G 471 18 (oAload 0 19) := w_aload_n (hm := mm471) dX18_holds_18
theorem n471_19 : Snd mt G 471 19 (oGetf [17] 0 22) := w_getf (hm := mm471) dX18_holds_19 (fok1 (k := 0) (T := TX18) 16 (Nat.le_of_ble_eq_true rfl) vc_16 (Nat.le_of_ble_eq_true rfl) q1580)
theorem n471_22 : Snd mt G 471 22 (oIfEq 41 25) := w_if_eq (hm := mm471) dX18_holds_22 rfl
theorem n471_25 : Snd mt G 471 25 (oIload 2 26) := w_iload_n (hm := mm471) dX18_holds_25
theorem n471_26 : Snd mt G 471 26 (oIfEq 29 33) := w_if_ne (hm := mm471) dX18_holds_26 rfl
theorem n471_29 : Snd mt G 471 29 (oIload 3 30) := w_iload_n (hm := mm471) dX18_holds_29
theorem n471_30 : Snd mt G 471 30 (oIfEq 37 33) := w_if_eq (hm := mm471) dX18_holds_30 rfl
theorem n471_33 : Snd mt G 471 33 (oConst (.int 1) 34) := w_iconst (hm := mm471) dX18_holds_33 rfl
theorem n471_34 : Snd mt G 471 34 (oGoto 54) := w_goto (hm := mm471) dX18_holds_34 rfl
theorem n471_37 : Snd mt G 471 37 (oConst (.int 0) 38) := w_iconst (hm := mm471) dX18_holds_37 rfl
theorem n471_38 : Snd mt G 471 38 (oGoto 54) := w_goto (hm := mm471) dX18_holds_38 rfl
theorem n471_41 : Snd mt G 471 41 (oIload 2 42) := w_iload_n (hm := mm471) dX18_holds_41
theorem n471_42 : Snd mt G 471 42 (oIfEq 53 45) := w_if_eq (hm := mm471) dX18_holds_42 rfl
theorem n471_45 : Snd mt G 471 45 (oIload 3 46) := w_iload_n (hm := mm471) dX18_holds_45
theorem n471_46 : Snd mt G 471 46 (oIfEq 53 49) := w_if_eq (hm := mm471) dX18_holds_46 rfl
theorem n471_49 : Snd mt G 471 49 (oConst (.int 1) 50) := w_iconst (hm := mm471) dX18_holds_49 rfl
theorem n471_50 : Snd mt G 471 50 (oGoto 54) := w_goto (hm := mm471) dX18_holds_50 rfl
theorem n471_53 : Snd mt G 471 53 (oConst (.int 0) 54) := w_iconst (hm := mm471) dX18_holds_53 rfl
theorem n471_54 : Snd mt G 471 54 (oRetI .boolean) := w_zret (hm := mm471) dX18_holds_54 rfl
theorem sj471 : ∀ pc, Snd mt G 471 pc (j471 pc) := fun pc => (snd_br ((snd_br ((snd_br ((snd_br ((snd_br ((snd_lf n471_54)) ((snd_lf n471_53)))) ((snd_br ((snd_lf n471_50)) ((snd_lf n471_49)))))) ((snd_br ((snd_br ((snd_lf n471_46)) ((snd_lf n471_45)))) ((snd_br ((snd_lf n471_42)) ((snd_lf n471_41)))))))) ((snd_br ((snd_br ((snd_br ((snd_lf n471_38)) ((snd_lf n471_37)))) ((snd_br ((snd_lf n471_34)) ((snd_lf n471_33)))))) ((snd_br ((snd_br ((snd_lf n471_30)) ((snd_lf n471_29)))) ((snd_lf n471_26)))))))) ((snd_br ((snd_br ((snd_br ((snd_br ((snd_lf n471_25)) ((snd_lf n471_22)))) ((snd_br ((snd_lf n471_19)) ((snd_lf n471_18)))))) ((snd_br ((snd_br ((snd_lf n471_17)) ((snd_lf n471_14)))) ((snd_lf n471_13)))))) ((snd_br ((snd_br ((snd_br ((snd_lf n471_10)) ((snd_lf n471_9)))) ((snd_br ((snd_lf n471_8)) ((snd_lf n471_5)))))) ((snd_br ((snd_br ((snd_lf n471_4)) ((snd_lf n471_1)))) ((snd_lf n471_0)))))))))
end
section
variable {G : AG}
theorem n472_0 : Snd mt G 472 0 (oAload 0 1) := w_aload_n (hm := mm472) dX18_init_0
theorem n472_1 : Snd mt G 472 1 (oCall 1 (fI 466 1) 0 4 xOut) := s_callI (m' := 466) (n := 0) xsh_out (w_xok0 mm472) (w_cal mm472 mm466 pn_X15 (Nat.le_of_ble_eq_true rfl) (Nat.le_of_ble_eq_true rfl)) (fun h b as hn => w_run_IN (host := "LimbBenches") mm472 mm466 dX18_init_1 rfl rfl (List.mem_filter.mpr ⟨q1579, rfl⟩) q1550 q162 q1551 pa466 hn)
theorem n472_4 : Snd mt G 472 4 (oAload 0 5) := w_aload_n (hm := mm472) dX18_init_4
theorem n472_5 : Snd mt G 472 5 (oIload 1 6) := w_iload_n (hm := mm472) dX18_init_5
theorem n472_6 : Snd mt G 472 6 (oPutf [17] 0 .boolean 9) := w_putfF (hm := mm472) dX18_init_6 (pfk1 (k := 0) (T := TX18) 16 (Nat.le_of_ble_eq_true rfl) vc_16 (Nat.le_of_ble_eq_true rfl) rfl rfl pd_X18_0 rfl q1580)
theorem n472_9 : Snd mt G 472 9 (oAload 0 10) := w_aload_n (hm := mm472) dX18_init_9
theorem n472_10 : Snd mt G 472 10 (oAload 2 11) := w_aload_n (hm := mm472) dX18_init_10
theorem n472_11 : Snd mt G 472 11 (oPutf [17] 1 (.object "LimbBenches$Cond") 14) := w_putfF (hm := mm472) dX18_init_11 (pfk1 (k := 1) (T := TX18) 16 (Nat.le_of_ble_eq_true rfl) vc_16 (Nat.le_of_ble_eq_true rfl) rfl rfl pd_X18_1 rfl q1581)
theorem n472_14 : Snd mt G 472 14 (oAload 0 15) := w_aload_n (hm := mm472) dX18_init_14
theorem n472_15 : Snd mt G 472 15 (oAload 3 16) := w_aload_n (hm := mm472) dX18_init_15
theorem n472_16 : Snd mt G 472 16 (oPutf [17] 2 (.object "LimbBenches$Cond") 19) := w_putfF (hm := mm472) dX18_init_16 (pfk1 (k := 2) (T := TX18) 16 (Nat.le_of_ble_eq_true rfl) vc_16 (Nat.le_of_ble_eq_true rfl) rfl rfl pd_X18_2 rfl q1582)
theorem n472_19 : Snd mt G 472 19 (oRetV) := w_vret (hm := mm472) dX18_init_19 rfl
theorem sj472 : ∀ pc, Snd mt G 472 pc (j472 pc) := fun pc => (snd_br ((snd_br ((snd_br ((snd_br ((snd_lf n472_19)) ((snd_lf n472_16)))) ((snd_lf n472_15)))) ((snd_br ((snd_br ((snd_lf n472_14)) ((snd_lf n472_11)))) ((snd_lf n472_10)))))) ((snd_br ((snd_br ((snd_br ((snd_lf n472_9)) ((snd_lf n472_6)))) ((snd_lf n472_5)))) ((snd_br ((snd_br ((snd_lf n472_4)) ((snd_lf n472_1)))) ((snd_lf n472_0)))))))
end
section
variable {G : AG}
theorem n474_0 : Snd mt G 474 0 (oAload 0 1) := w_aload_n (hm := mm474) dX19_init_0
theorem n474_1 : Snd mt G 474 1 (oObjI 4) := w_objI (hm := mm474) dX19_init_1 (Nat.le_of_ble_eq_true rfl) q1628 q189 q190
theorem n474_4 : Snd mt G 474 4 (oAload 0 5) := w_aload_n (hm := mm474) dX19_init_4
theorem n474_5 : Snd mt G 474 5 (oConst (.int 4) 6) := w_iconst (hm := mm474) dX19_init_5 rfl
theorem n474_6 : Snd mt G 474 6 (oNewa 100 (.int 0) 8) := w_newa (hm := mm474) (kt := 0) dX19_init_6 (Nat.le_of_ble_eq_true rfl) at_0 rfl (fun C q => nomatch q) (Nat.le_of_ble_eq_true rfl) q619
theorem n474_8 : Snd mt G 474 8 (oPutf [18] 3 (.array .int) 11) := w_putfF (hm := mm474) dX19_init_8 (pfk1 (k := 3) (T := TX19) 17 (Nat.le_of_ble_eq_true rfl) vc_17 (Nat.le_of_ble_eq_true rfl) rfl rfl pd_X19_3 rfl q1635)
theorem n474_11 : Snd mt G 474 11 (oAload 0 12) := w_aload_n (hm := mm474) dX19_init_11
theorem n474_12 : Snd mt G 474 12 (oIload 1 13) := w_iload_n (hm := mm474) dX19_init_12
theorem n474_13 : Snd mt G 474 13 (oPutf [18] 0 .int 16) := w_putfF (hm := mm474) dX19_init_13 (pfk1 (k := 0) (T := TX19) 17 (Nat.le_of_ble_eq_true rfl) vc_17 (Nat.le_of_ble_eq_true rfl) rfl rfl pd_X19_0 rfl q1629)
theorem n474_16 : Snd mt G 474 16 (oAload 0 17) := w_aload_n (hm := mm474) dX19_init_16
theorem n474_17 : Snd mt G 474 17 (oIload 2 18) := w_iload_n (hm := mm474) dX19_init_17
theorem n474_18 : Snd mt G 474 18 (oPutf [18] 1 .int 21) := w_putfF (hm := mm474) dX19_init_18 (pfk1 (k := 1) (T := TX19) 17 (Nat.le_of_ble_eq_true rfl) vc_17 (Nat.le_of_ble_eq_true rfl) rfl rfl pd_X19_1 rfl q1631)
theorem n474_21 : Snd mt G 474 21 (oAload 0 22) := w_aload_n (hm := mm474) dX19_init_21
theorem n474_22 : Snd mt G 474 22 (oIload 3 23) := w_iload_n (hm := mm474) dX19_init_22
theorem n474_23 : Snd mt G 474 23 (oPutf [18] 2 .int 26) := w_putfF (hm := mm474) dX19_init_23 (pfk1 (k := 2) (T := TX19) 17 (Nat.le_of_ble_eq_true rfl) vc_17 (Nat.le_of_ble_eq_true rfl) rfl rfl pd_X19_2 rfl q1633)
theorem n474_26 : Snd mt G 474 26 (oIload 4 28) := w_iload (hm := mm474) dX19_init_26
theorem n474_28 : Snd mt G 474 28 (oIstore 5 30) := w_istore (hm := mm474) dX19_init_28 (Nat.le_of_ble_eq_true rfl)
theorem n474_30 : Snd mt G 474 30 (oConst (.int 3) 31) := w_iconst (hm := mm474) dX19_init_30 rfl
theorem n474_31 : Snd mt G 474 31 (oIstore 6 33) := w_istore (hm := mm474) dX19_init_31 (Nat.le_of_ble_eq_true rfl)
theorem n474_33 : Snd mt G 474 33 (oIload 6 35) := w_iload (hm := mm474) dX19_init_33
theorem n474_35 : Snd mt G 474 35 (oIfLt 63 38) := w_if_lt (hm := mm474) dX19_init_35 rfl
theorem n474_38 : Snd mt G 474 38 (oAload 0 39) := w_aload_n (hm := mm474) dX19_init_38
theorem n474_39 : Snd mt G 474 39 (oGetf [18] 3 42) := w_getf (hm := mm474) dX19_init_39 (fok1 (k := 3) (T := TX19) 17 (Nat.le_of_ble_eq_true rfl) vc_17 (Nat.le_of_ble_eq_true rfl) q1635)
theorem n474_42 : Snd mt G 474 42 (oIload 6 44) := w_iload (hm := mm474) dX19_init_42
theorem n474_44 : Snd mt G 474 44 (oIload 5 46) := w_iload (hm := mm474) dX19_init_44
theorem n474_46 : Snd mt G 474 46 (oConst (.int 100) 48) := w_bipush (hm := mm474) dX19_init_46 (by decide)
theorem n474_48 : Snd mt G 474 48 (oDiv (fun x y => x - x / y * y) 49) := w_irem (hm := mm474) dX19_init_48
theorem n474_49 : Snd mt G 474 49 (oIast [100] 50) := w_iastore (hm := mm474) (kt := 0) dX19_init_49 at_0 (Nat.le_of_ble_eq_true rfl) (List.forall_mem_cons.mpr ⟨rfl, (fun t ht => nomatch ht)⟩)
theorem n474_50 : Snd mt G 474 50 (oIload 5 52) := w_iload (hm := mm474) dX19_init_50
theorem n474_52 : Snd mt G 474 52 (oConst (.int 100) 54) := w_bipush (hm := mm474) dX19_init_52 (by decide)
theorem n474_54 : Snd mt G 474 54 (oDiv (fun x y => x / y) 55) := w_idiv (hm := mm474) dX19_init_54
theorem n474_55 : Snd mt G 474 55 (oIstore 5 57) := w_istore (hm := mm474) dX19_init_55 (Nat.le_of_ble_eq_true rfl)
theorem n474_57 : Snd mt G 474 57 (oIinc 6 (-1) 60) := w_iinc (hm := mm474) dX19_init_57 rfl (Nat.le_of_ble_eq_true rfl)
theorem n474_60 : Snd mt G 474 60 (oGoto 33) := w_goto (hm := mm474) dX19_init_60 rfl
theorem n474_63 : Snd mt G 474 63 (oRetV) := w_vret (hm := mm474) dX19_init_63 rfl
theorem sj474 : ∀ pc, Snd mt G 474 pc (j474 pc) := fun pc => (snd_br ((snd_br ((snd_br ((snd_br ((snd_br ((snd_br ((snd_lf n474_63)) ((snd_lf n474_60)))) ((snd_lf n474_57)))) ((snd_br ((snd_lf n474_55)) ((snd_lf n474_54)))))) ((snd_br ((snd_br ((snd_lf n474_52)) ((snd_lf n474_50)))) ((snd_br ((snd_lf n474_49)) ((snd_lf n474_48)))))))) ((snd_br ((snd_br ((snd_br ((snd_br ((snd_lf n474_46)) ((snd_lf n474_44)))) ((snd_lf n474_42)))) ((snd_br ((snd_lf n474_39)) ((snd_lf n474_38)))))) ((snd_br ((snd_br ((snd_lf n474_35)) ((snd_lf n474_33)))) ((snd_br ((snd_lf n474_31)) ((snd_lf n474_30)))))))))) ((snd_br ((snd_br ((snd_br ((snd_br ((snd_br ((snd_lf n474_28)) ((snd_lf n474_26)))) ((snd_lf n474_23)))) ((snd_br ((snd_lf n474_22)) ((snd_lf n474_21)))))) ((snd_br ((snd_br ((snd_lf n474_18)) ((snd_lf n474_17)))) ((snd_br ((snd_lf n474_16)) ((snd_lf n474_13)))))))) ((snd_br ((snd_br ((snd_br ((snd_lf n474_12)) ((snd_lf n474_11)))) ((snd_br ((snd_lf n474_8)) ((snd_lf n474_6)))))) ((snd_br ((snd_br ((snd_lf n474_5)) ((snd_lf n474_4)))) ((snd_br ((snd_lf n474_1)) ((snd_lf n474_0)))))))))))
end
section
variable {G : AG}
theorem n476_0 : Snd mt G 476 0 (oAload 0 1) := w_aload_n (hm := mm476) dX20_worn_0
theorem n476_1 : Snd mt G 476 1 (oIload 1 2) := w_iload_n (hm := mm476) dX20_worn_1
theorem n476_2 : Snd mt G 476 2 (oIload 2 3) := w_iload_n (hm := mm476) dX20_worn_2
theorem n476_3 : Snd mt G 476 3 (oAload 0 4) := w_aload_n (hm := mm476) dX20_worn_3
theorem n476_4 : Snd mt G 476 4 (oCall 1 (fV [19] 477 1) 0 7 xOut) := s_callV (m' := 477) (n := 0) xsh_out (w_xok0 mm476) (w_cal mm476 mm477 pn_X20 (Nat.le_of_ble_eq_true rfl) (Nat.le_of_ble_eq_true rfl)) (fun h b as hc hn => w_run_V (ci := 18) mm476 mm477 dX20_worn_4 (Or.inl (List.mem_singleton.mp hc)) (Nat.le_of_ble_eq_true rfl) vc_18 rfl q915 q916 q917 q169 q918 pa477 hn)
theorem n476_7 : Snd mt G 476 7 (oCall 4 (fV [19] 478 4) 0 10 xOut) := s_callV (m' := 478) (n := 3) xsh_out (w_xok0 mm476) (w_cal mm476 mm478 pn_X20 (Nat.le_of_ble_eq_true rfl) (Nat.le_of_ble_eq_true rfl)) (fun h b as hc hn => w_run_V (ci := 18) mm476 mm478 dX20_worn_7 (Or.inl (List.mem_singleton.mp hc)) (Nat.le_of_ble_eq_true rfl) vc_18 rfl q919 q920 q921 q169 q922 pa478 hn)
theorem n476_10 : Snd mt G 476 10 (oRetI .int) := w_iret (hm := mm476) dX20_worn_10 rfl
theorem sj476 : ∀ pc, Snd mt G 476 pc (j476 pc) := fun pc => (snd_br ((snd_br ((snd_br ((snd_lf n476_10)) ((snd_lf n476_7)))) ((snd_br ((snd_lf n476_4)) ((snd_lf n476_3)))))) ((snd_br ((snd_br ((snd_lf n476_2)) ((snd_lf n476_1)))) ((snd_lf n476_0)))))
end
section
variable {G : AG}
theorem n477_0 : Snd mt G 477 0 (oAload 0 1) := w_aload_n (hm := mm477) dX20_pace_0
theorem n477_1 : Snd mt G 477 1 (oGetf [19] 3 4) := w_getf (hm := mm477) dX20_pace_1 (fok1 (k := 3) (T := TX20) 18 (Nat.le_of_ble_eq_true rfl) vc_18 (Nat.le_of_ble_eq_true rfl) q1072)
theorem n477_4 : Snd mt G 477 4 (oConst (.int 1) 5) := w_iconst (hm := mm477) dX20_pace_4 rfl
theorem n477_5 : Snd mt G 477 5 (oCmpEq 8 17) := w_icmp_ne (hm := mm477) dX20_pace_5 rfl
theorem n477_8 : Snd mt G 477 8 (oConst (.int 2) 9) := w_iconst (hm := mm477) dX20_pace_8 rfl
theorem n477_9 : Snd mt G 477 9 (oAload 0 10) := w_aload_n (hm := mm477) dX20_pace_9
theorem n477_10 : Snd mt G 477 10 (oGetf [19] 2 13) := w_getf (hm := mm477) dX20_pace_10 (fok1 (k := 2) (T := TX20) 18 (Nat.le_of_ble_eq_true rfl) vc_18 (Nat.le_of_ble_eq_true rfl) q1070)
theorem n477_13 : Snd mt G 477 13 (oBin (fun x y => x * y) 14) := w_imul (hm := mm477) dX20_pace_13
theorem n477_14 : Snd mt G 477 14 (oGoto 21) := w_goto (hm := mm477) dX20_pace_14 rfl
theorem n477_17 : Snd mt G 477 17 (oAload 0 18) := w_aload_n (hm := mm477) dX20_pace_17
theorem n477_18 : Snd mt G 477 18 (oGetf [19] 2 21) := w_getf (hm := mm477) dX20_pace_18 (fok1 (k := 2) (T := TX20) 18 (Nat.le_of_ble_eq_true rfl) vc_18 (Nat.le_of_ble_eq_true rfl) q1070)
theorem n477_21 : Snd mt G 477 21 (oRetI .int) := w_iret (hm := mm477) dX20_pace_21 rfl
theorem sj477 : ∀ pc, Snd mt G 477 pc (j477 pc) := fun pc => (snd_br ((snd_br ((snd_br ((snd_br ((snd_lf n477_21)) ((snd_lf n477_18)))) ((snd_lf n477_17)))) ((snd_br ((snd_br ((snd_lf n477_14)) ((snd_lf n477_13)))) ((snd_lf n477_10)))))) ((snd_br ((snd_br ((snd_br ((snd_lf n477_9)) ((snd_lf n477_8)))) ((snd_lf n477_5)))) ((snd_br ((snd_br ((snd_lf n477_4)) ((snd_lf n477_1)))) ((snd_lf n477_0)))))))
end
section
variable {G : AG}
theorem n478_0 : Snd mt G 478 0 (oAload 0 1) := w_aload_n (hm := mm478) dX20_worn_2_0
theorem n478_1 : Snd mt G 478 1 (oGetf [19] 8 4) := w_getf (hm := mm478) dX20_worn_2_1 (fok1 (k := 8) (T := TX20) 18 (Nat.le_of_ble_eq_true rfl) vc_18 (Nat.le_of_ble_eq_true rfl) q1082)
theorem n478_4 : Snd mt G 478 4 (oIload 1 5) := w_iload_n (hm := mm478) dX20_worn_2_4
theorem n478_5 : Snd mt G 478 5 (oAld [104] 6) := w_aaload (hm := mm478) (kt := 4) dX20_worn_2_5 rfl at_4 (Nat.le_of_ble_eq_true rfl) (List.forall_mem_cons.mpr ⟨Or.inl rfl, (fun t ht => nomatch ht)⟩)
theorem n478_6 : Snd mt G 478 6 (oGetf [20] 3 9) := w_getfN (hm := mm478) dX20_worn_2_6 (fokn1 (k := 3) (T := TX21) 19 (Nat.le_of_ble_eq_true rfl) vc_19 (Nat.le_of_ble_eq_true rfl) q1837)
theorem n478_9 : Snd mt G 478 9 (oIload 3 10) := w_iload_n (hm := mm478) dX20_worn_2_9
theorem n478_10 : Snd mt G 478 10 (oIload 2 11) := w_iload_n (hm := mm478) dX20_worn_2_10
theorem n478_11 : Snd mt G 478 11 (oAload 0 12) := w_aload_n (hm := mm478) dX20_worn_2_11
theorem n478_12 : Snd mt G 478 12 (oGetf [19] 8 15) := w_getf (hm := mm478) dX20_worn_2_12 (fok1 (k := 8) (T := TX20) 18 (Nat.le_of_ble_eq_true rfl) vc_18 (Nat.le_of_ble_eq_true rfl) q1082)
theorem n478_15 : Snd mt G 478 15 (oIload 1 16) := w_iload_n (hm := mm478) dX20_worn_2_15
theorem n478_16 : Snd mt G 478 16 (oAld [104] 17) := w_aaload (hm := mm478) (kt := 4) dX20_worn_2_16 rfl at_4 (Nat.le_of_ble_eq_true rfl) (List.forall_mem_cons.mpr ⟨Or.inl rfl, (fun t ht => nomatch ht)⟩)
theorem n478_17 : Snd mt G 478 17 (oGetf [20] 2 20) := w_getfN (hm := mm478) dX20_worn_2_17 (fokn1 (k := 2) (T := TX21) 19 (Nat.le_of_ble_eq_true rfl) vc_19 (Nat.le_of_ble_eq_true rfl) q1834)
theorem n478_20 : Snd mt G 478 20 (oBin (fun x y => x - y) 21) := w_isub (hm := mm478) dX20_worn_2_20
theorem n478_21 : Snd mt G 478 21 (oBin (fun x y => x * y) 22) := w_imul (hm := mm478) dX20_worn_2_21
theorem n478_22 : Snd mt G 478 22 (oBin (fun x y => x + y) 23) := w_iadd (hm := mm478) dX20_worn_2_22
theorem n478_23 : Snd mt G 478 23 (oRetI .int) := w_iret (hm := mm478) dX20_worn_2_23 rfl
theorem sj478 : ∀ pc, Snd mt G 478 pc (j478 pc) := fun pc => (snd_br ((snd_br ((snd_br ((snd_br ((snd_lf n478_23)) ((snd_lf n478_22)))) ((snd_br ((snd_lf n478_21)) ((snd_lf n478_20)))))) ((snd_br ((snd_br ((snd_lf n478_17)) ((snd_lf n478_16)))) ((snd_br ((snd_lf n478_15)) ((snd_lf n478_12)))))))) ((snd_br ((snd_br ((snd_br ((snd_lf n478_11)) ((snd_lf n478_10)))) ((snd_br ((snd_lf n478_9)) ((snd_lf n478_6)))))) ((snd_br ((snd_br ((snd_lf n478_5)) ((snd_lf n478_4)))) ((snd_br ((snd_lf n478_1)) ((snd_lf n478_0)))))))))
end
section
variable {G : AG}
theorem n479_0 : Snd mt G 479 0 (oNew 19 12 nfX20 3) := w_new (hm := mm479) (ci := 18) (T9 := TX20) (ty := tyX20) dX20_like_0 (Nat.le_of_ble_eq_true rfl) vc_18 tyX20_ok (fun _ _ => rfl) q1058 q1059 q169
theorem n479_3 : Snd mt G 479 3 (oDup 4) := w_dup (hm := mm479) dX20_like_3
theorem n479_4 : Snd mt G 479 4 (oAload 0 5) := w_aload_n (hm := mm479) dX20_like_4
theorem n479_5 : Snd mt G 479 5 (oGetf [19] 0 8) := w_getf (hm := mm479) dX20_like_5 (fok1 (k := 0) (T := TX20) 18 (Nat.le_of_ble_eq_true rfl) vc_18 (Nat.le_of_ble_eq_true rfl) q1066)
theorem n479_8 : Snd mt G 479 8 (oAload 0 9) := w_aload_n (hm := mm479) dX20_like_8
theorem n479_9 : Snd mt G 479 9 (oGetf [19] 1 12) := w_getf (hm := mm479) dX20_like_9 (fok1 (k := 1) (T := TX20) 18 (Nat.le_of_ble_eq_true rfl) vc_18 (Nat.le_of_ble_eq_true rfl) q1068)
theorem n479_12 : Snd mt G 479 12 (oAload 0 13) := w_aload_n (hm := mm479) dX20_like_12
theorem n479_13 : Snd mt G 479 13 (oGetf [19] 7 16) := w_getf (hm := mm479) dX20_like_13 (fok1 (k := 7) (T := TX20) 18 (Nat.le_of_ble_eq_true rfl) vc_18 (Nat.le_of_ble_eq_true rfl) q1080)
theorem n479_16 : Snd mt G 479 16 (oAload 0 17) := w_aload_n (hm := mm479) dX20_like_16
theorem n479_17 : Snd mt G 479 17 (oGetf [19] 2 20) := w_getf (hm := mm479) dX20_like_17 (fok1 (k := 2) (T := TX20) 18 (Nat.le_of_ble_eq_true rfl) vc_18 (Nat.le_of_ble_eq_true rfl) q1070)
theorem n479_20 : Snd mt G 479 20 (oAload 0 21) := w_aload_n (hm := mm479) dX20_like_20
theorem n479_21 : Snd mt G 479 21 (oGetf [19] 3 24) := w_getf (hm := mm479) dX20_like_21 (fok1 (k := 3) (T := TX20) 18 (Nat.le_of_ble_eq_true rfl) vc_18 (Nat.le_of_ble_eq_true rfl) q1072)
theorem n479_24 : Snd mt G 479 24 (oConst (.int 0) 25) := w_iconst (hm := mm479) dX20_like_24 rfl
theorem n479_25 : Snd mt G 479 25 (oCall 7 (fI 480 8) 0 28 xOut) := s_callI (m' := 480) (n := 6) xsh_out (w_xok0 mm479) (w_cal mm479 mm480 pn_X20 (Nat.le_of_ble_eq_true rfl) (Nat.le_of_ble_eq_true rfl)) (fun h b as hn => w_run_I mm479 mm480 dX20_like_25 rfl rfl q1060 q1061 q169 q1062 pa480 hn)
theorem n479_28 : Snd mt G 479 28 (oAstore 1 29) := w_astore_n (hm := mm479) dX20_like_28 (Nat.le_of_ble_eq_true rfl)
theorem n479_29 : Snd mt G 479 29 (oAload 1 30) := w_aload_n (hm := mm479) dX20_like_29
theorem n479_30 : Snd mt G 479 30 (oAload 0 31) := w_aload_n (hm := mm479) dX20_like_30
theorem n479_31 : Snd mt G 479 31 (oGetf [19] 4 34) := w_getf (hm := mm479) dX20_like_31 (fok1 (k := 4) (T := TX20) 18 (Nat.le_of_ble_eq_true rfl) vc_18 (Nat.le_of_ble_eq_true rfl) q1074)
theorem n479_34 : Snd mt G 479 34 (oPutf [19] 4 .int 37) := w_putf (hm := mm479) dX20_like_34 (pok1 (k := 4) (T := TX20) 18 (Nat.le_of_ble_eq_true rfl) vc_18 (Nat.le_of_ble_eq_true rfl) rfl pd_X20_4 q1074)
theorem n479_37 : Snd mt G 479 37 (oAload 1 38) := w_aload_n (hm := mm479) dX20_like_37
theorem n479_38 : Snd mt G 479 38 (oAload 0 39) := w_aload_n (hm := mm479) dX20_like_38
theorem n479_39 : Snd mt G 479 39 (oGetf [19] 5 42) := w_getf (hm := mm479) dX20_like_39 (fok1 (k := 5) (T := TX20) 18 (Nat.le_of_ble_eq_true rfl) vc_18 (Nat.le_of_ble_eq_true rfl) q1076)
theorem n479_42 : Snd mt G 479 42 (oPutf [19] 5 .int 45) := w_putf (hm := mm479) dX20_like_42 (pok1 (k := 5) (T := TX20) 18 (Nat.le_of_ble_eq_true rfl) vc_18 (Nat.le_of_ble_eq_true rfl) rfl pd_X20_5 q1076)
theorem n479_45 : Snd mt G 479 45 (oAload 1 46) := w_aload_n (hm := mm479) dX20_like_45
theorem n479_46 : Snd mt G 479 46 (oAload 0 47) := w_aload_n (hm := mm479) dX20_like_46
theorem n479_47 : Snd mt G 479 47 (oGetf [19] 6 50) := w_getf (hm := mm479) dX20_like_47 (fok1 (k := 6) (T := TX20) 18 (Nat.le_of_ble_eq_true rfl) vc_18 (Nat.le_of_ble_eq_true rfl) q1078)
theorem n479_50 : Snd mt G 479 50 (oPutf [19] 6 .int 53) := w_putf (hm := mm479) dX20_like_50 (pok1 (k := 6) (T := TX20) 18 (Nat.le_of_ble_eq_true rfl) vc_18 (Nat.le_of_ble_eq_true rfl) rfl pd_X20_6 q1078)
theorem n479_53 : Snd mt G 479 53 (oConst (.int 0) 54) := w_iconst (hm := mm479) dX20_like_53 rfl
theorem n479_54 : Snd mt G 479 54 (oIstore 2 55) := w_istore_n (hm := mm479) dX20_like_54 (Nat.le_of_ble_eq_true rfl)
theorem n479_55 : Snd mt G 479 55 (oIload 2 56) := w_iload_n (hm := mm479) dX20_like_55
theorem n479_56 : Snd mt G 479 56 (oConst (.int 4) 57) := w_iconst (hm := mm479) dX20_like_56 rfl
theorem n479_57 : Snd mt G 479 57 (oCmpGe 78 60) := w_icmp_ge (hm := mm479) dX20_like_57 rfl
theorem n479_60 : Snd mt G 479 60 (oAload 1 61) := w_aload_n (hm := mm479) dX20_like_60
theorem n479_61 : Snd mt G 479 61 (oGetf [19] 8 64) := w_getf (hm := mm479) dX20_like_61 (fok1 (k := 8) (T := TX20) 18 (Nat.le_of_ble_eq_true rfl) vc_18 (Nat.le_of_ble_eq_true rfl) q1082)
theorem n479_64 : Snd mt G 479 64 (oIload 2 65) := w_iload_n (hm := mm479) dX20_like_64
theorem n479_65 : Snd mt G 479 65 (oAload 0 66) := w_aload_n (hm := mm479) dX20_like_65
theorem n479_66 : Snd mt G 479 66 (oGetf [19] 8 69) := w_getf (hm := mm479) dX20_like_66 (fok1 (k := 8) (T := TX20) 18 (Nat.le_of_ble_eq_true rfl) vc_18 (Nat.le_of_ble_eq_true rfl) q1082)
theorem n479_69 : Snd mt G 479 69 (oIload 2 70) := w_iload_n (hm := mm479) dX20_like_69
theorem n479_70 : Snd mt G 479 70 (oAld [104] 71) := w_aaload (hm := mm479) (kt := 4) dX20_like_70 rfl at_4 (Nat.le_of_ble_eq_true rfl) (List.forall_mem_cons.mpr ⟨Or.inl rfl, (fun t ht => nomatch ht)⟩)
theorem n479_71 : Snd mt G 479 71 (oAast [104] es4 72) := w_aastore (hm := mm479) (kt := 4) dX20_like_71 at_4 (Nat.le_of_ble_eq_true rfl) (List.forall_mem_cons.mpr ⟨rfl, (fun t ht => nomatch ht)⟩) es4_ok
theorem n479_72 : Snd mt G 479 72 (oIinc 2 1 75) := w_iinc (hm := mm479) dX20_like_72 rfl (Nat.le_of_ble_eq_true rfl)
theorem n479_75 : Snd mt G 479 75 (oGoto 55) := w_goto (hm := mm479) dX20_like_75 rfl
theorem n479_78 : Snd mt G 479 78 (oAload 0 79) := w_aload_n (hm := mm479) dX20_like_78
theorem n479_79 : Snd mt G 479 79 (oGetf [19] 9 82) := w_getf (hm := mm479) dX20_like_79 (fok1 (k := 9) (T := TX20) 18 (Nat.le_of_ble_eq_true rfl) vc_18 (Nat.le_of_ble_eq_true rfl) q1084)
theorem n479_82 : Snd mt G 479 82 (oConst (.int 0) 83) := w_iconst (hm := mm479) dX20_like_82 rfl
theorem n479_83 : Snd mt G 479 83 (oAload 1 84) := w_aload_n (hm := mm479) dX20_like_83
theorem n479_84 : Snd mt G 479 84 (oGetf [19] 9 87) := w_getf (hm := mm479) dX20_like_84 (fok1 (k := 9) (T := TX20) 18 (Nat.le_of_ble_eq_true rfl) vc_18 (Nat.le_of_ble_eq_true rfl) q1084)
theorem n479_87 : Snd mt G 479 87 (oConst (.int 0) 88) := w_iconst (hm := mm479) dX20_like_87 rfl
theorem n479_88 : Snd mt G 479 88 (oConst (.int 55) 90) := w_bipush (hm := mm479) dX20_like_88 (by decide)
theorem n479_90 : Snd mt G 479 90 (oCopy [100] [100] (ckTy .int) 93) := w_copy (hm := mm479) (kt := 0) dX20_like_90 (Nat.le_of_ble_eq_true rfl) at_0 (List.forall_mem_cons.mpr ⟨Or.inl rfl, (fun t ht => nomatch ht)⟩) (List.forall_mem_cons.mpr ⟨rfl, (fun t ht => nomatch ht)⟩) (fun s h H v _ _ e => ck_int s h H .int v e) (Nat.le_of_ble_eq_true rfl) q1115 q335 q334 q145
theorem n479_93 : Snd mt G 479 93 (oAload 0 94) := w_aload_n (hm := mm479) dX20_like_93
theorem n479_94 : Snd mt G 479 94 (oGetf [19] 10 97) := w_getf (hm := mm479) dX20_like_94 (fok1 (k := 10) (T := TX20) 18 (Nat.le_of_ble_eq_true rfl) vc_18 (Nat.le_of_ble_eq_true rfl) q1086)
theorem n479_97 : Snd mt G 479 97 (oConst (.int 0) 98) := w_iconst (hm := mm479) dX20_like_97 rfl
theorem n479_98 : Snd mt G 479 98 (oAload 1 99) := w_aload_n (hm := mm479) dX20_like_98
theorem n479_99 : Snd mt G 479 99 (oGetf [19] 10 102) := w_getf (hm := mm479) dX20_like_99 (fok1 (k := 10) (T := TX20) 18 (Nat.le_of_ble_eq_true rfl) vc_18 (Nat.le_of_ble_eq_true rfl) q1086)
theorem n479_102 : Snd mt G 479 102 (oConst (.int 0) 103) := w_iconst (hm := mm479) dX20_like_102 rfl
theorem n479_103 : Snd mt G 479 103 (oConst (.int 220) 106) := w_sipush (hm := mm479) dX20_like_103 (by decide)
theorem n479_106 : Snd mt G 479 106 (oCopy [100] [100] (ckTy .int) 109) := w_copy (hm := mm479) (kt := 0) dX20_like_106 (Nat.le_of_ble_eq_true rfl) at_0 (List.forall_mem_cons.mpr ⟨Or.inl rfl, (fun t ht => nomatch ht)⟩) (List.forall_mem_cons.mpr ⟨rfl, (fun t ht => nomatch ht)⟩) (fun s h H v _ _ e => ck_int s h H .int v e) (Nat.le_of_ble_eq_true rfl) q1115 q335 q334 q145
theorem n479_109 : Snd mt G 479 109 (oAload 0 110) := w_aload_n (hm := mm479) dX20_like_109
theorem n479_110 : Snd mt G 479 110 (oGetf [19] 11 113) := w_getf (hm := mm479) dX20_like_110 (fok1 (k := 11) (T := TX20) 18 (Nat.le_of_ble_eq_true rfl) vc_18 (Nat.le_of_ble_eq_true rfl) q1088)
theorem n479_113 : Snd mt G 479 113 (oConst (.int 0) 114) := w_iconst (hm := mm479) dX20_like_113 rfl
theorem n479_114 : Snd mt G 479 114 (oAload 1 115) := w_aload_n (hm := mm479) dX20_like_114
theorem n479_115 : Snd mt G 479 115 (oGetf [19] 11 118) := w_getf (hm := mm479) dX20_like_115 (fok1 (k := 11) (T := TX20) 18 (Nat.le_of_ble_eq_true rfl) vc_18 (Nat.le_of_ble_eq_true rfl) q1088)
theorem n479_118 : Snd mt G 479 118 (oConst (.int 0) 119) := w_iconst (hm := mm479) dX20_like_118 rfl
theorem n479_119 : Snd mt G 479 119 (oConst (.int 4) 120) := w_iconst (hm := mm479) dX20_like_119 rfl
theorem n479_120 : Snd mt G 479 120 (oCopy [100] [100] (ckTy .int) 123) := w_copy (hm := mm479) (kt := 0) dX20_like_120 (Nat.le_of_ble_eq_true rfl) at_0 (List.forall_mem_cons.mpr ⟨Or.inl rfl, (fun t ht => nomatch ht)⟩) (List.forall_mem_cons.mpr ⟨rfl, (fun t ht => nomatch ht)⟩) (fun s h H v _ _ e => ck_int s h H .int v e) (Nat.le_of_ble_eq_true rfl) q1115 q335 q334 q145
theorem n479_123 : Snd mt G 479 123 (oAload 1 124) := w_aload_n (hm := mm479) dX20_like_123
theorem n479_124 : Snd mt G 479 124 (oRetA) := w_aret (hm := mm479) dX20_like_124 rfl (Or.inl ⟨_, rfl⟩)
theorem sj479 : ∀ pc, Snd mt G 479 pc (j479 pc) := fun pc => (snd_br ((snd_br ((snd_br ((snd_br ((snd_br ((snd_br ((snd_br ((snd_lf n479_124)) ((snd_lf n479_123)))) ((snd_lf n479_120)))) ((snd_br ((snd_lf n479_119)) ((snd_lf n479_118)))))) ((snd_br ((snd_br ((snd_lf n479_115)) ((snd_lf n479_114)))) ((snd_br ((snd_lf n479_113)) ((snd_lf n479_110)))))))) ((snd_br ((snd_br ((snd_br ((snd_lf n479_109)) ((snd_lf n479_106)))) ((snd_br ((snd_lf n479_103)) ((snd_lf n479_102)))))) ((snd_br ((snd_br ((snd_lf n479_99)) ((snd_lf n479_98)))) ((snd_br ((snd_lf n479_97)) ((snd_lf n479_94)))))))))) ((snd_br ((snd_br ((snd_br ((snd_br ((snd_br ((snd_lf n479_93)) ((snd_lf n479_90)))) ((snd_lf n479_88)))) ((snd_br ((snd_lf n479_87)) ((snd_lf n479_84)))))) ((snd_br ((snd_br ((snd_lf n479_83)) ((snd_lf n479_82)))) ((snd_br ((snd_lf n479_79)) ((snd_lf n479_78)))))))) ((snd_br ((snd_br ((snd_br ((snd_lf n479_75)) ((snd_lf n479_72)))) ((snd_br ((snd_lf n479_71)) ((snd_lf n479_70)))))) ((snd_br ((snd_br ((snd_lf n479_69)) ((snd_lf n479_66)))) ((snd_br ((snd_lf n479_65)) ((snd_lf n479_64)))))))))))) ((snd_br ((snd_br ((snd_br ((snd_br ((snd_br ((snd_br ((snd_lf n479_61)) ((snd_lf n479_60)))) ((snd_lf n479_57)))) ((snd_br ((snd_lf n479_56)) ((snd_lf n479_55)))))) ((snd_br ((snd_br ((snd_lf n479_54)) ((snd_lf n479_53)))) ((snd_br ((snd_lf n479_50)) ((snd_lf n479_47)))))))) ((snd_br ((snd_br ((snd_br ((snd_lf n479_46)) ((snd_lf n479_45)))) ((snd_br ((snd_lf n479_42)) ((snd_lf n479_39)))))) ((snd_br ((snd_br ((snd_lf n479_38)) ((snd_lf n479_37)))) ((snd_br ((snd_lf n479_34)) ((snd_lf n479_31)))))))))) ((snd_br ((snd_br ((snd_br ((snd_br ((snd_br ((snd_lf n479_30)) ((snd_lf n479_29)))) ((snd_lf n479_28)))) ((snd_br ((snd_lf n479_25)) ((snd_lf n479_24)))))) ((snd_br ((snd_br ((snd_lf n479_21)) ((snd_lf n479_20)))) ((snd_br ((snd_lf n479_17)) ((snd_lf n479_16)))))))) ((snd_br ((snd_br ((snd_br ((snd_lf n479_13)) ((snd_lf n479_12)))) ((snd_br ((snd_lf n479_9)) ((snd_lf n479_8)))))) ((snd_br ((snd_br ((snd_lf n479_5)) ((snd_lf n479_4)))) ((snd_br ((snd_lf n479_3)) ((snd_lf n479_0)))))))))))))
end
section
variable {G : AG}
theorem n480_0 : Snd mt G 480 0 (oAload 0 1) := w_aload_n (hm := mm480) dX20_init_0
theorem n480_1 : Snd mt G 480 1 (oObjI 4) := w_objI (hm := mm480) dX20_init_1 (Nat.le_of_ble_eq_true rfl) q1063 q189 q190
theorem n480_4 : Snd mt G 480 4 (oAload 0 5) := w_aload_n (hm := mm480) dX20_init_4
theorem n480_5 : Snd mt G 480 5 (oConst (.int 4) 6) := w_iconst (hm := mm480) dX20_init_5 rfl
theorem n480_6 : Snd mt G 480 6 (oNewa 104 .null 9) := w_anew (hm := mm480) (kt := 4) dX20_init_6 (Nat.le_of_ble_eq_true rfl) at_4 q1064 (by decide)
theorem n480_9 : Snd mt G 480 9 (oPutf [19] 8 (.array (.object "LimbBenches$Part")) 12) := w_putfF (hm := mm480) dX20_init_9 (pfk1 (k := 8) (T := TX20) 18 (Nat.le_of_ble_eq_true rfl) vc_18 (Nat.le_of_ble_eq_true rfl) rfl rfl pd_X20_8 rfl q1082)
theorem n480_12 : Snd mt G 480 12 (oAload 0 13) := w_aload_n (hm := mm480) dX20_init_12
theorem n480_13 : Snd mt G 480 13 (oConst (.int 55) 15) := w_bipush (hm := mm480) dX20_init_13 (by decide)
theorem n480_15 : Snd mt G 480 15 (oNewa 100 (.int 0) 17) := w_newa (hm := mm480) (kt := 0) dX20_init_15 (Nat.le_of_ble_eq_true rfl) at_0 rfl (fun C q => nomatch q) (Nat.le_of_ble_eq_true rfl) q619
theorem n480_17 : Snd mt G 480 17 (oPutf [19] 9 (.array .int) 20) := w_putfF (hm := mm480) dX20_init_17 (pfk1 (k := 9) (T := TX20) 18 (Nat.le_of_ble_eq_true rfl) vc_18 (Nat.le_of_ble_eq_true rfl) rfl rfl pd_X20_9 rfl q1084)
theorem n480_20 : Snd mt G 480 20 (oAload 0 21) := w_aload_n (hm := mm480) dX20_init_20
theorem n480_21 : Snd mt G 480 21 (oConst (.int 220) 24) := w_sipush (hm := mm480) dX20_init_21 (by decide)
theorem n480_24 : Snd mt G 480 24 (oNewa 100 (.int 0) 26) := w_newa (hm := mm480) (kt := 0) dX20_init_24 (Nat.le_of_ble_eq_true rfl) at_0 rfl (fun C q => nomatch q) (Nat.le_of_ble_eq_true rfl) q619
theorem n480_26 : Snd mt G 480 26 (oPutf [19] 10 (.array .int) 29) := w_putfF (hm := mm480) dX20_init_26 (pfk1 (k := 10) (T := TX20) 18 (Nat.le_of_ble_eq_true rfl) vc_18 (Nat.le_of_ble_eq_true rfl) rfl rfl pd_X20_10 rfl q1086)
theorem n480_29 : Snd mt G 480 29 (oAload 0 30) := w_aload_n (hm := mm480) dX20_init_29
theorem n480_30 : Snd mt G 480 30 (oConst (.int 4) 31) := w_iconst (hm := mm480) dX20_init_30 rfl
theorem n480_31 : Snd mt G 480 31 (oNewa 100 (.int 0) 33) := w_newa (hm := mm480) (kt := 0) dX20_init_31 (Nat.le_of_ble_eq_true rfl) at_0 rfl (fun C q => nomatch q) (Nat.le_of_ble_eq_true rfl) q619
theorem n480_33 : Snd mt G 480 33 (oPutf [19] 11 (.array .int) 36) := w_putfF (hm := mm480) dX20_init_33 (pfk1 (k := 11) (T := TX20) 18 (Nat.le_of_ble_eq_true rfl) vc_18 (Nat.le_of_ble_eq_true rfl) rfl rfl pd_X20_11 rfl q1088)
theorem n480_36 : Snd mt G 480 36 (oConst (.int 0) 37) := w_iconst (hm := mm480) dX20_init_36 rfl
theorem n480_37 : Snd mt G 480 37 (oIstore 7 39) := w_istore (hm := mm480) dX20_init_37 (Nat.le_of_ble_eq_true rfl)
theorem n480_39 : Snd mt G 480 39 (oIload 7 41) := w_iload (hm := mm480) dX20_init_39
theorem n480_41 : Snd mt G 480 41 (oConst (.int 4) 42) := w_iconst (hm := mm480) dX20_init_41 rfl
theorem n480_42 : Snd mt G 480 42 (oCmpGe 60 45) := w_icmp_ge (hm := mm480) dX20_init_42 rfl
theorem n480_45 : Snd mt G 480 45 (oAload 0 46) := w_aload_n (hm := mm480) dX20_init_45
theorem n480_46 : Snd mt G 480 46 (oGetf [19] 11 49) := w_getf (hm := mm480) dX20_init_46 (fok1 (k := 11) (T := TX20) 18 (Nat.le_of_ble_eq_true rfl) vc_18 (Nat.le_of_ble_eq_true rfl) q1088)
theorem n480_49 : Snd mt G 480 49 (oIload 7 51) := w_iload (hm := mm480) dX20_init_49
theorem n480_51 : Snd mt G 480 51 (oIload 6 53) := w_iload (hm := mm480) dX20_init_51
theorem n480_53 : Snd mt G 480 53 (oIast [100] 54) := w_iastore (hm := mm480) (kt := 0) dX20_init_53 at_0 (Nat.le_of_ble_eq_true rfl) (List.forall_mem_cons.mpr ⟨rfl, (fun t ht => nomatch ht)⟩)
theorem n480_54 : Snd mt G 480 54 (oIinc 7 1 57) := w_iinc (hm := mm480) dX20_init_54 rfl (Nat.le_of_ble_eq_true rfl)
theorem n480_57 : Snd mt G 480 57 (oGoto 39) := w_goto (hm := mm480) dX20_init_57 rfl
theorem n480_60 : Snd mt G 480 60 (oAload 0 61) := w_aload_n (hm := mm480) dX20_init_60
theorem n480_61 : Snd mt G 480 61 (oIload 1 62) := w_iload_n (hm := mm480) dX20_init_61
theorem n480_62 : Snd mt G 480 62 (oPutf [19] 0 .int 65) := w_putf (hm := mm480) dX20_init_62 (pok1 (k := 0) (T := TX20) 18 (Nat.le_of_ble_eq_true rfl) vc_18 (Nat.le_of_ble_eq_true rfl) rfl pd_X20_0 q1066)
theorem n480_65 : Snd mt G 480 65 (oAload 0 66) := w_aload_n (hm := mm480) dX20_init_65
theorem n480_66 : Snd mt G 480 66 (oIload 2 67) := w_iload_n (hm := mm480) dX20_init_66
theorem n480_67 : Snd mt G 480 67 (oPutf [19] 1 .int 70) := w_putf (hm := mm480) dX20_init_67 (pok1 (k := 1) (T := TX20) 18 (Nat.le_of_ble_eq_true rfl) vc_18 (Nat.le_of_ble_eq_true rfl) rfl pd_X20_1 q1068)
theorem n480_70 : Snd mt G 480 70 (oAload 0 71) := w_aload_n (hm := mm480) dX20_init_70
theorem n480_71 : Snd mt G 480 71 (oIload 3 72) := w_iload_n (hm := mm480) dX20_init_71
theorem n480_72 : Snd mt G 480 72 (oPutf [19] 7 .int 75) := w_putfF (hm := mm480) dX20_init_72 (pfk1 (k := 7) (T := TX20) 18 (Nat.le_of_ble_eq_true rfl) vc_18 (Nat.le_of_ble_eq_true rfl) rfl rfl pd_X20_7 rfl q1080)
theorem n480_75 : Snd mt G 480 75 (oAload 0 76) := w_aload_n (hm := mm480) dX20_init_75
theorem n480_76 : Snd mt G 480 76 (oIload 4 78) := w_iload (hm := mm480) dX20_init_76
theorem n480_78 : Snd mt G 480 78 (oPutf [19] 2 .int 81) := w_putf (hm := mm480) dX20_init_78 (pok1 (k := 2) (T := TX20) 18 (Nat.le_of_ble_eq_true rfl) vc_18 (Nat.le_of_ble_eq_true rfl) rfl pd_X20_2 q1070)
theorem n480_81 : Snd mt G 480 81 (oAload 0 82) := w_aload_n (hm := mm480) dX20_init_81
theorem n480_82 : Snd mt G 480 82 (oIload 5 84) := w_iload (hm := mm480) dX20_init_82
theorem n480_84 : Snd mt G 480 84 (oPutf [19] 3 .int 87) := w_putf (hm := mm480) dX20_init_84 (pok1 (k := 3) (T := TX20) 18 (Nat.le_of_ble_eq_true rfl) vc_18 (Nat.le_of_ble_eq_true rfl) rfl pd_X20_3 q1072)
theorem n480_87 : Snd mt G 480 87 (oRetV) := w_vret (hm := mm480) dX20_init_87 rfl
theorem sj480 : ∀ pc, Snd mt G 480 pc (j480 pc) := fun pc => (snd_br ((snd_br ((snd_br ((snd_br ((snd_br ((snd_br ((snd_lf n480_87)) ((snd_lf n480_84)))) ((snd_lf n480_82)))) ((snd_br ((snd_br ((snd_lf n480_81)) ((snd_lf n480_78)))) ((snd_lf n480_76)))))) ((snd_br ((snd_br ((snd_br ((snd_lf n480_75)) ((snd_lf n480_72)))) ((snd_lf n480_71)))) ((snd_br ((snd_br ((snd_lf n480_70)) ((snd_lf n480_67)))) ((snd_lf n480_66)))))))) ((snd_br ((snd_br ((snd_br ((snd_br ((snd_lf n480_65)) ((snd_lf n480_62)))) ((snd_lf n480_61)))) ((snd_br ((snd_br ((snd_lf n480_60)) ((snd_lf n480_57)))) ((snd_lf n480_54)))))) ((snd_br ((snd_br ((snd_br ((snd_lf n480_53)) ((snd_lf n480_51)))) ((snd_lf n480_49)))) ((snd_br ((snd_lf n480_46)) ((snd_lf n480_45)))))))))) ((snd_br ((snd_br ((snd_br ((snd_br ((snd_br ((snd_lf n480_42)) ((snd_lf n480_41)))) ((snd_lf n480_39)))) ((snd_br ((snd_br ((snd_lf n480_37)) ((snd_lf n480_36)))) ((snd_lf n480_33)))))) ((snd_br ((snd_br ((snd_br ((snd_lf n480_31)) ((snd_lf n480_30)))) ((snd_lf n480_29)))) ((snd_br ((snd_br ((snd_lf n480_26)) ((snd_lf n480_24)))) ((snd_lf n480_21)))))))) ((snd_br ((snd_br ((snd_br ((snd_br ((snd_lf n480_20)) ((snd_lf n480_17)))) ((snd_lf n480_15)))) ((snd_br ((snd_br ((snd_lf n480_13)) ((snd_lf n480_12)))) ((snd_lf n480_9)))))) ((snd_br ((snd_br ((snd_br ((snd_lf n480_6)) ((snd_lf n480_5)))) ((snd_lf n480_4)))) ((snd_br ((snd_lf n480_1)) ((snd_lf n480_0)))))))))))
end
section
variable {G : AG}
theorem n481_0 : Snd mt G 481 0 (oAload 0 1) := w_aload_n (hm := mm481) dX20_size_0
theorem n481_1 : Snd mt G 481 1 (oGetf [19] 4 4) := w_getf (hm := mm481) dX20_size_1 (fok1 (k := 4) (T := TX20) 18 (Nat.le_of_ble_eq_true rfl) vc_18 (Nat.le_of_ble_eq_true rfl) q1074)
theorem n481_4 : Snd mt G 481 4 (oAload 0 5) := w_aload_n (hm := mm481) dX20_size_4
theorem n481_5 : Snd mt G 481 5 (oGetf [19] 5 8) := w_getf (hm := mm481) dX20_size_5 (fok1 (k := 5) (T := TX20) 18 (Nat.le_of_ble_eq_true rfl) vc_18 (Nat.le_of_ble_eq_true rfl) q1076)
theorem n481_8 : Snd mt G 481 8 (oIload 1 9) := w_iload_n (hm := mm481) dX20_size_8
theorem n481_9 : Snd mt G 481 9 (oAload 0 10) := w_aload_n (hm := mm481) dX20_size_9
theorem n481_10 : Snd mt G 481 10 (oGetf [19] 6 13) := w_getf (hm := mm481) dX20_size_10 (fok1 (k := 6) (T := TX20) 18 (Nat.le_of_ble_eq_true rfl) vc_18 (Nat.le_of_ble_eq_true rfl) q1078)
theorem n481_13 : Snd mt G 481 13 (oBin (fun x y => x - y) 14) := w_isub (hm := mm481) dX20_size_13
theorem n481_14 : Snd mt G 481 14 (oBin (fun x y => x * y) 15) := w_imul (hm := mm481) dX20_size_14
theorem n481_15 : Snd mt G 481 15 (oConst (.int 365) 18) := w_sipush (hm := mm481) dX20_size_15 (by decide)
theorem n481_18 : Snd mt G 481 18 (oDiv (fun x y => x / y) 19) := w_idiv (hm := mm481) dX20_size_18
theorem n481_19 : Snd mt G 481 19 (oBin (fun x y => x + y) 20) := w_iadd (hm := mm481) dX20_size_19
theorem n481_20 : Snd mt G 481 20 (oRetI .int) := w_iret (hm := mm481) dX20_size_20 rfl
theorem sj481 : ∀ pc, Snd mt G 481 pc (j481 pc) := fun pc => (snd_br ((snd_br ((snd_br ((snd_br ((snd_lf n481_20)) ((snd_lf n481_19)))) ((snd_br ((snd_lf n481_18)) ((snd_lf n481_15)))))) ((snd_br ((snd_br ((snd_lf n481_14)) ((snd_lf n481_13)))) ((snd_lf n481_10)))))) ((snd_br ((snd_br ((snd_br ((snd_lf n481_9)) ((snd_lf n481_8)))) ((snd_lf n481_5)))) ((snd_br ((snd_br ((snd_lf n481_4)) ((snd_lf n481_1)))) ((snd_lf n481_0)))))))
end
section
variable {G : AG}
theorem n486_0 : Snd mt G 486 0 (oAload 0 1) := w_aload_n (hm := mm486) dX21_init_0
theorem n486_1 : Snd mt G 486 1 (oObjI 4) := w_objI (hm := mm486) dX21_init_1 (Nat.le_of_ble_eq_true rfl) q1826 q189 q190
theorem n486_4 : Snd mt G 486 4 (oAload 0 5) := w_aload_n (hm := mm486) dX21_init_4
theorem n486_5 : Snd mt G 486 5 (oIload 1 6) := w_iload_n (hm := mm486) dX21_init_5
theorem n486_6 : Snd mt G 486 6 (oPutf [20] 0 .int 9) := w_putfF (hm := mm486) dX21_init_6 (pfk1 (k := 0) (T := TX21) 19 (Nat.le_of_ble_eq_true rfl) vc_19 (Nat.le_of_ble_eq_true rfl) rfl rfl pd_X21_0 rfl q1827)
theorem n486_9 : Snd mt G 486 9 (oAload 0 10) := w_aload_n (hm := mm486) dX21_init_9
theorem n486_10 : Snd mt G 486 10 (oIload 2 11) := w_iload_n (hm := mm486) dX21_init_10
theorem n486_11 : Snd mt G 486 11 (oPutf [20] 1 .int 14) := w_putfF (hm := mm486) dX21_init_11 (pfk1 (k := 1) (T := TX21) 19 (Nat.le_of_ble_eq_true rfl) vc_19 (Nat.le_of_ble_eq_true rfl) rfl rfl pd_X21_1 rfl q1830)
theorem n486_14 : Snd mt G 486 14 (oAload 0 15) := w_aload_n (hm := mm486) dX21_init_14
theorem n486_15 : Snd mt G 486 15 (oIload 3 16) := w_iload_n (hm := mm486) dX21_init_15
theorem n486_16 : Snd mt G 486 16 (oPutf [20] 2 .int 19) := w_putfF (hm := mm486) dX21_init_16 (pfk1 (k := 2) (T := TX21) 19 (Nat.le_of_ble_eq_true rfl) vc_19 (Nat.le_of_ble_eq_true rfl) rfl rfl pd_X21_2 rfl q1833)
theorem n486_19 : Snd mt G 486 19 (oAload 0 20) := w_aload_n (hm := mm486) dX21_init_19
theorem n486_20 : Snd mt G 486 20 (oIload 4 22) := w_iload (hm := mm486) dX21_init_20
theorem n486_22 : Snd mt G 486 22 (oPutf [20] 3 .int 25) := w_putfF (hm := mm486) dX21_init_22 (pfk1 (k := 3) (T := TX21) 19 (Nat.le_of_ble_eq_true rfl) vc_19 (Nat.le_of_ble_eq_true rfl) rfl rfl pd_X21_3 rfl q1836)
theorem n486_25 : Snd mt G 486 25 (oAload 0 26) := w_aload_n (hm := mm486) dX21_init_25
theorem n486_26 : Snd mt G 486 26 (oIload 5 28) := w_iload (hm := mm486) dX21_init_26
theorem n486_28 : Snd mt G 486 28 (oPutf [20] 4 .int 31) := w_putfF (hm := mm486) dX21_init_28 (pfk1 (k := 4) (T := TX21) 19 (Nat.le_of_ble_eq_true rfl) vc_19 (Nat.le_of_ble_eq_true rfl) rfl rfl pd_X21_4 rfl q1838)
theorem n486_31 : Snd mt G 486 31 (oAload 0 32) := w_aload_n (hm := mm486) dX21_init_31
theorem n486_32 : Snd mt G 486 32 (oIload 6 34) := w_iload (hm := mm486) dX21_init_32
theorem n486_34 : Snd mt G 486 34 (oPutf [20] 5 .int 37) := w_putfF (hm := mm486) dX21_init_34 (pfk1 (k := 5) (T := TX21) 19 (Nat.le_of_ble_eq_true rfl) vc_19 (Nat.le_of_ble_eq_true rfl) rfl rfl pd_X21_5 rfl q1840)
theorem n486_37 : Snd mt G 486 37 (oRetV) := w_vret (hm := mm486) dX21_init_37 rfl
theorem sj486 : ∀ pc, Snd mt G 486 pc (j486 pc) := fun pc => (snd_br ((snd_br ((snd_br ((snd_br ((snd_br ((snd_lf n486_37)) ((snd_lf n486_34)))) ((snd_lf n486_32)))) ((snd_br ((snd_br ((snd_lf n486_31)) ((snd_lf n486_28)))) ((snd_lf n486_26)))))) ((snd_br ((snd_br ((snd_br ((snd_lf n486_25)) ((snd_lf n486_22)))) ((snd_lf n486_20)))) ((snd_br ((snd_lf n486_19)) ((snd_lf n486_16)))))))) ((snd_br ((snd_br ((snd_br ((snd_br ((snd_lf n486_15)) ((snd_lf n486_14)))) ((snd_lf n486_11)))) ((snd_br ((snd_lf n486_10)) ((snd_lf n486_9)))))) ((snd_br ((snd_br ((snd_br ((snd_lf n486_6)) ((snd_lf n486_5)))) ((snd_lf n486_4)))) ((snd_br ((snd_lf n486_1)) ((snd_lf n486_0)))))))))
end
section
variable {G : AG}
theorem n487_0 : Snd mt G 487 0 (oAload 0 1) := w_aload_n (hm := mm487) dX22_init_0
theorem n487_1 : Snd mt G 487 1 (oObjI 4) := w_objI (hm := mm487) dX22_init_1 (Nat.le_of_ble_eq_true rfl) q1864 q189 q190
theorem n487_4 : Snd mt G 487 4 (oAload 0 5) := w_aload_n (hm := mm487) dX22_init_4
theorem n487_5 : Snd mt G 487 5 (oIload 1 6) := w_iload_n (hm := mm487) dX22_init_5
theorem n487_6 : Snd mt G 487 6 (oPutf [21] 0 .int 9) := w_putfF (hm := mm487) dX22_init_6 (pfk1 (k := 0) (T := TX22) 20 (Nat.le_of_ble_eq_true rfl) vc_20 (Nat.le_of_ble_eq_true rfl) rfl rfl pd_X22_0 rfl q1865)
theorem n487_9 : Snd mt G 487 9 (oAload 0 10) := w_aload_n (hm := mm487) dX22_init_9
theorem n487_10 : Snd mt G 487 10 (oIload 2 11) := w_iload_n (hm := mm487) dX22_init_10
theorem n487_11 : Snd mt G 487 11 (oPutf [21] 1 .int 14) := w_putfF (hm := mm487) dX22_init_11 (pfk1 (k := 1) (T := TX22) 20 (Nat.le_of_ble_eq_true rfl) vc_20 (Nat.le_of_ble_eq_true rfl) rfl rfl pd_X22_1 rfl q1867)
theorem n487_14 : Snd mt G 487 14 (oAload 0 15) := w_aload_n (hm := mm487) dX22_init_14
theorem n487_15 : Snd mt G 487 15 (oIload 3 16) := w_iload_n (hm := mm487) dX22_init_15
theorem n487_16 : Snd mt G 487 16 (oPutf [21] 2 .int 19) := w_putfF (hm := mm487) dX22_init_16 (pfk1 (k := 2) (T := TX22) 20 (Nat.le_of_ble_eq_true rfl) vc_20 (Nat.le_of_ble_eq_true rfl) rfl rfl pd_X22_2 rfl q1869)
theorem n487_19 : Snd mt G 487 19 (oRetV) := w_vret (hm := mm487) dX22_init_19 rfl
theorem sj487 : ∀ pc, Snd mt G 487 pc (j487 pc) := fun pc => (snd_br ((snd_br ((snd_br ((snd_br ((snd_lf n487_19)) ((snd_lf n487_16)))) ((snd_lf n487_15)))) ((snd_br ((snd_br ((snd_lf n487_14)) ((snd_lf n487_11)))) ((snd_lf n487_10)))))) ((snd_br ((snd_br ((snd_br ((snd_lf n487_9)) ((snd_lf n487_6)))) ((snd_lf n487_5)))) ((snd_br ((snd_br ((snd_lf n487_4)) ((snd_lf n487_1)))) ((snd_lf n487_0)))))))
end
section
variable {G : AG}
theorem n488_0 : Snd mt G 488 0 (oAload 0 1) := w_aload_n (hm := mm488) dX23_init_0
theorem n488_1 : Snd mt G 488 1 (oObjI 4) := w_objI (hm := mm488) dX23_init_1 (Nat.le_of_ble_eq_true rfl) q1990 q189 q190
theorem n488_4 : Snd mt G 488 4 (oAload 0 5) := w_aload_n (hm := mm488) dX23_init_4
theorem n488_5 : Snd mt G 488 5 (oIload 1 6) := w_iload_n (hm := mm488) dX23_init_5
theorem n488_6 : Snd mt G 488 6 (oPutf [22] 0 .int 9) := w_putfF (hm := mm488) dX23_init_6 (pfk1 (k := 0) (T := TX23) 21 (Nat.le_of_ble_eq_true rfl) vc_21 (Nat.le_of_ble_eq_true rfl) rfl rfl pd_X23_0 rfl q1991)
theorem n488_9 : Snd mt G 488 9 (oAload 0 10) := w_aload_n (hm := mm488) dX23_init_9
theorem n488_10 : Snd mt G 488 10 (oIload 2 11) := w_iload_n (hm := mm488) dX23_init_10
theorem n488_11 : Snd mt G 488 11 (oPutf [22] 1 .int 14) := w_putfF (hm := mm488) dX23_init_11 (pfk1 (k := 1) (T := TX23) 21 (Nat.le_of_ble_eq_true rfl) vc_21 (Nat.le_of_ble_eq_true rfl) rfl rfl pd_X23_1 rfl q1992)
theorem n488_14 : Snd mt G 488 14 (oAload 0 15) := w_aload_n (hm := mm488) dX23_init_14
theorem n488_15 : Snd mt G 488 15 (oIload 3 16) := w_iload_n (hm := mm488) dX23_init_15
theorem n488_16 : Snd mt G 488 16 (oPutf [22] 2 .int 19) := w_putfF (hm := mm488) dX23_init_16 (pfk1 (k := 2) (T := TX23) 21 (Nat.le_of_ble_eq_true rfl) vc_21 (Nat.le_of_ble_eq_true rfl) rfl rfl pd_X23_2 rfl q1994)
theorem n488_19 : Snd mt G 488 19 (oAload 0 20) := w_aload_n (hm := mm488) dX23_init_19
theorem n488_20 : Snd mt G 488 20 (oIload 4 22) := w_iload (hm := mm488) dX23_init_20
theorem n488_22 : Snd mt G 488 22 (oPutf [22] 3 .int 25) := w_putfF (hm := mm488) dX23_init_22 (pfk1 (k := 3) (T := TX23) 21 (Nat.le_of_ble_eq_true rfl) vc_21 (Nat.le_of_ble_eq_true rfl) rfl rfl pd_X23_3 rfl q1996)
theorem n488_25 : Snd mt G 488 25 (oRetV) := w_vret (hm := mm488) dX23_init_25 rfl
theorem sj488 : ∀ pc, Snd mt G 488 pc (j488 pc) := fun pc => (snd_br ((snd_br ((snd_br ((snd_br ((snd_lf n488_25)) ((snd_lf n488_22)))) ((snd_br ((snd_lf n488_20)) ((snd_lf n488_19)))))) ((snd_br ((snd_br ((snd_lf n488_16)) ((snd_lf n488_15)))) ((snd_br ((snd_lf n488_14)) ((snd_lf n488_11)))))))) ((snd_br ((snd_br ((snd_br ((snd_lf n488_10)) ((snd_lf n488_9)))) ((snd_br ((snd_lf n488_6)) ((snd_lf n488_5)))))) ((snd_br ((snd_br ((snd_lf n488_4)) ((snd_lf n488_1)))) ((snd_lf n488_0)))))))
end
section
variable {G : AG}
theorem n489_0 : Snd mt G 489 0 (oNew 23 6 nfX24 3) := w_new (hm := mm489) (ci := 22) (T9 := TX24) (ty := tyX24) dX24_like_0 (Nat.le_of_ble_eq_true rfl) vc_22 tyX24_ok (fun _ _ => rfl) q1125 q1126 q176
theorem n489_3 : Snd mt G 489 3 (oDup 4) := w_dup (hm := mm489) dX24_like_3
theorem n489_4 : Snd mt G 489 4 (oAload 0 5) := w_aload_n (hm := mm489) dX24_like_4
theorem n489_5 : Snd mt G 489 5 (oGetf [23] 0 8) := w_getf (hm := mm489) dX24_like_5 (fok1 (k := 0) (T := TX24) 22 (Nat.le_of_ble_eq_true rfl) vc_22 (Nat.le_of_ble_eq_true rfl) q1131)
theorem n489_8 : Snd mt G 489 8 (oCall 2 (fI 490 2) 0 11 xOut) := s_callI (m' := 490) (n := 1) xsh_out (w_xok0 mm489) (w_cal mm489 mm490 pn_X24 (Nat.le_of_ble_eq_true rfl) (Nat.le_of_ble_eq_true rfl)) (fun h b as hn => w_run_I mm489 mm490 dX24_like_8 rfl rfl q1127 q1128 q176 q1129 pa490 hn)
theorem n489_11 : Snd mt G 489 11 (oAstore 1 12) := w_astore_n (hm := mm489) dX24_like_11 (Nat.le_of_ble_eq_true rfl)
theorem n489_12 : Snd mt G 489 12 (oAload 1 13) := w_aload_n (hm := mm489) dX24_like_12
theorem n489_13 : Snd mt G 489 13 (oAload 0 14) := w_aload_n (hm := mm489) dX24_like_13
theorem n489_14 : Snd mt G 489 14 (oGetf [23] 1 17) := w_getf (hm := mm489) dX24_like_14 (fok1 (k := 1) (T := TX24) 22 (Nat.le_of_ble_eq_true rfl) vc_22 (Nat.le_of_ble_eq_true rfl) q1133)
theorem n489_17 : Snd mt G 489 17 (oPutf [23] 1 .int 20) := w_putf (hm := mm489) dX24_like_17 (pok1 (k := 1) (T := TX24) 22 (Nat.le_of_ble_eq_true rfl) vc_22 (Nat.le_of_ble_eq_true rfl) rfl pd_X24_1 q1133)
theorem n489_20 : Snd mt G 489 20 (oAload 1 21) := w_aload_n (hm := mm489) dX24_like_20
theorem n489_21 : Snd mt G 489 21 (oAload 0 22) := w_aload_n (hm := mm489) dX24_like_21
theorem n489_22 : Snd mt G 489 22 (oGetf [23] 2 25) := w_getf (hm := mm489) dX24_like_22 (fok1 (k := 2) (T := TX24) 22 (Nat.le_of_ble_eq_true rfl) vc_22 (Nat.le_of_ble_eq_true rfl) q1135)
theorem n489_25 : Snd mt G 489 25 (oPutf [23] 2 .int 28) := w_putf (hm := mm489) dX24_like_25 (pok1 (k := 2) (T := TX24) 22 (Nat.le_of_ble_eq_true rfl) vc_22 (Nat.le_of_ble_eq_true rfl) rfl pd_X24_2 q1135)
theorem n489_28 : Snd mt G 489 28 (oAload 1 29) := w_aload_n (hm := mm489) dX24_like_28
theorem n489_29 : Snd mt G 489 29 (oAload 0 30) := w_aload_n (hm := mm489) dX24_like_29
theorem n489_30 : Snd mt G 489 30 (oGetf [23] 3 33) := w_getf (hm := mm489) dX24_like_30 (fok1 (k := 3) (T := TX24) 22 (Nat.le_of_ble_eq_true rfl) vc_22 (Nat.le_of_ble_eq_true rfl) q1137)
theorem n489_33 : Snd mt G 489 33 (oPutf [23] 3 .int 36) := w_putf (hm := mm489) dX24_like_33 (pok1 (k := 3) (T := TX24) 22 (Nat.le_of_ble_eq_true rfl) vc_22 (Nat.le_of_ble_eq_true rfl) rfl pd_X24_3 q1137)
theorem n489_36 : Snd mt G 489 36 (oAload 1 37) := w_aload_n (hm := mm489) dX24_like_36
theorem n489_37 : Snd mt G 489 37 (oAload 0 38) := w_aload_n (hm := mm489) dX24_like_37
theorem n489_38 : Snd mt G 489 38 (oGetf [23] 4 41) := w_getf (hm := mm489) dX24_like_38 (fok1 (k := 4) (T := TX24) 22 (Nat.le_of_ble_eq_true rfl) vc_22 (Nat.le_of_ble_eq_true rfl) q1139)
theorem n489_41 : Snd mt G 489 41 (oPutf [23] 4 .int 44) := w_putf (hm := mm489) dX24_like_41 (pok1 (k := 4) (T := TX24) 22 (Nat.le_of_ble_eq_true rfl) vc_22 (Nat.le_of_ble_eq_true rfl) rfl pd_X24_4 q1139)
theorem n489_44 : Snd mt G 489 44 (oAload 1 45) := w_aload_n (hm := mm489) dX24_like_44
theorem n489_45 : Snd mt G 489 45 (oAload 0 46) := w_aload_n (hm := mm489) dX24_like_45
theorem n489_46 : Snd mt G 489 46 (oGetf [23] 5 49) := w_getf (hm := mm489) dX24_like_46 (fok1 (k := 5) (T := TX24) 22 (Nat.le_of_ble_eq_true rfl) vc_22 (Nat.le_of_ble_eq_true rfl) q1141)
theorem n489_49 : Snd mt G 489 49 (oPutf [23] 5 .int 52) := w_putf (hm := mm489) dX24_like_49 (pok1 (k := 5) (T := TX24) 22 (Nat.le_of_ble_eq_true rfl) vc_22 (Nat.le_of_ble_eq_true rfl) rfl pd_X24_5 q1141)
theorem n489_52 : Snd mt G 489 52 (oAload 1 53) := w_aload_n (hm := mm489) dX24_like_52
theorem n489_53 : Snd mt G 489 53 (oRetA) := w_aret (hm := mm489) dX24_like_53 rfl (Or.inl ⟨_, rfl⟩)
theorem sj489 : ∀ pc, Snd mt G 489 pc (j489 pc) := fun pc => (snd_br ((snd_br ((snd_br ((snd_br ((snd_br ((snd_lf n489_53)) ((snd_lf n489_52)))) ((snd_br ((snd_lf n489_49)) ((snd_lf n489_46)))))) ((snd_br ((snd_br ((snd_lf n489_45)) ((snd_lf n489_44)))) ((snd_lf n489_41)))))) ((snd_br ((snd_br ((snd_br ((snd_lf n489_38)) ((snd_lf n489_37)))) ((snd_br ((snd_lf n489_36)) ((snd_lf n489_33)))))) ((snd_br ((snd_br ((snd_lf n489_30)) ((snd_lf n489_29)))) ((snd_lf n489_28)))))))) ((snd_br ((snd_br ((snd_br ((snd_br ((snd_lf n489_25)) ((snd_lf n489_22)))) ((snd_br ((snd_lf n489_21)) ((snd_lf n489_20)))))) ((snd_br ((snd_br ((snd_lf n489_17)) ((snd_lf n489_14)))) ((snd_lf n489_13)))))) ((snd_br ((snd_br ((snd_br ((snd_lf n489_12)) ((snd_lf n489_11)))) ((snd_br ((snd_lf n489_8)) ((snd_lf n489_5)))))) ((snd_br ((snd_br ((snd_lf n489_4)) ((snd_lf n489_3)))) ((snd_lf n489_0)))))))))
end
section
variable {G : AG}
theorem n490_0 : Snd mt G 490 0 (oAload 0 1) := w_aload_n (hm := mm490) dX24_init_0
theorem n490_1 : Snd mt G 490 1 (oObjI 4) := w_objI (hm := mm490) dX24_init_1 (Nat.le_of_ble_eq_true rfl) q1130 q189 q190
theorem n490_4 : Snd mt G 490 4 (oAload 0 5) := w_aload_n (hm := mm490) dX24_init_4
theorem n490_5 : Snd mt G 490 5 (oIload 1 6) := w_iload_n (hm := mm490) dX24_init_5
theorem n490_6 : Snd mt G 490 6 (oPutf [23] 0 .int 9) := w_putfF (hm := mm490) dX24_init_6 (pfk1 (k := 0) (T := TX24) 22 (Nat.le_of_ble_eq_true rfl) vc_22 (Nat.le_of_ble_eq_true rfl) rfl rfl pd_X24_0 rfl q1131)
theorem n490_9 : Snd mt G 490 9 (oRetV) := w_vret (hm := mm490) dX24_init_9 rfl
theorem sj490 : ∀ pc, Snd mt G 490 pc (j490 pc) := fun pc => (snd_br ((snd_br ((snd_br ((snd_lf n490_9)) ((snd_lf n490_6)))) ((snd_lf n490_5)))) ((snd_br ((snd_br ((snd_lf n490_4)) ((snd_lf n490_1)))) ((snd_lf n490_0)))))
end
section
variable {G : AG}
theorem n491_0 : Snd mt G 491 0 (oAload 0 1) := w_aload_n (hm := mm491) dX24_late_0
theorem n491_1 : Snd mt G 491 1 (oAload 0 2) := w_aload_n (hm := mm491) dX24_late_1
theorem n491_2 : Snd mt G 491 2 (oGetf [23] 1 5) := w_getf (hm := mm491) dX24_late_2 (fok1 (k := 1) (T := TX24) 22 (Nat.le_of_ble_eq_true rfl) vc_22 (Nat.le_of_ble_eq_true rfl) q1133)
theorem n491_5 : Snd mt G 491 5 (oIfEq 8 12) := w_if_ne (hm := mm491) dX24_late_5 rfl
theorem n491_8 : Snd mt G 491 8 (oIload 1 9) := w_iload_n (hm := mm491) dX24_late_8
theorem n491_9 : Snd mt G 491 9 (oGoto 20) := w_goto (hm := mm491) dX24_late_9 rfl
theorem n491_12 : Snd mt G 491 12 (oAload 0 13) := w_aload_n (hm := mm491) dX24_late_12
theorem n491_13 : Snd mt G 491 13 (oGetf [23] 4 16) := w_getf (hm := mm491) dX24_late_13 (fok1 (k := 4) (T := TX24) 22 (Nat.le_of_ble_eq_true rfl) vc_22 (Nat.le_of_ble_eq_true rfl) q1139)
theorem n491_16 : Snd mt G 491 16 (oIload 1 17) := w_iload_n (hm := mm491) dX24_late_16
theorem n491_17 : Snd mt G 491 17 (oMath2 (fun x y => if y < x then y else x) 20) := w_mmin (hm := mm491) dX24_late_17 (Nat.le_of_ble_eq_true rfl) q2111 q331 q143 q332
theorem n491_20 : Snd mt G 491 20 (oPutf [23] 4 .int 23) := w_putf (hm := mm491) dX24_late_20 (pok1 (k := 4) (T := TX24) 22 (Nat.le_of_ble_eq_true rfl) vc_22 (Nat.le_of_ble_eq_true rfl) rfl pd_X24_4 q1139)
theorem n491_23 : Snd mt G 491 23 (oAload 0 24) := w_aload_n (hm := mm491) dX24_late_23
theorem n491_24 : Snd mt G 491 24 (oAload 0 25) := w_aload_n (hm := mm491) dX24_late_24
theorem n491_25 : Snd mt G 491 25 (oGetf [23] 1 28) := w_getf (hm := mm491) dX24_late_25 (fok1 (k := 1) (T := TX24) 22 (Nat.le_of_ble_eq_true rfl) vc_22 (Nat.le_of_ble_eq_true rfl) q1133)
theorem n491_28 : Snd mt G 491 28 (oIfEq 31 35) := w_if_ne (hm := mm491) dX24_late_28 rfl
theorem n491_31 : Snd mt G 491 31 (oIload 1 32) := w_iload_n (hm := mm491) dX24_late_31
theorem n491_32 : Snd mt G 491 32 (oGoto 43) := w_goto (hm := mm491) dX24_late_32 rfl
theorem n491_35 : Snd mt G 491 35 (oAload 0 36) := w_aload_n (hm := mm491) dX24_late_35
theorem n491_36 : Snd mt G 491 36 (oGetf [23] 5 39) := w_getf (hm := mm491) dX24_late_36 (fok1 (k := 5) (T := TX24) 22 (Nat.le_of_ble_eq_true rfl) vc_22 (Nat.le_of_ble_eq_true rfl) q1141)
theorem n491_39 : Snd mt G 491 39 (oIload 1 40) := w_iload_n (hm := mm491) dX24_late_39
theorem n491_40 : Snd mt G 491 40 (oMath2 (fun x y => if x < y then y else x) 43) := w_mmax (hm := mm491) dX24_late_40 (Nat.le_of_ble_eq_true rfl) q2112 q313 q143 q314
theorem n491_43 : Snd mt G 491 43 (oPutf [23] 5 .int 46) := w_putf (hm := mm491) dX24_late_43 (pok1 (k := 5) (T := TX24) 22 (Nat.le_of_ble_eq_true rfl) vc_22 (Nat.le_of_ble_eq_true rfl) rfl pd_X24_5 q1141)
theorem n491_46 : Snd mt G 491 46 (oAload 0 47) := w_aload_n (hm := mm491) dX24_late_46
theorem n491_47 : Snd mt G 491 47 (oDup 48) := w_dup (hm := mm491) dX24_late_47
theorem n491_48 : Snd mt G 491 48 (oGetf [23] 3 51) := w_getf (hm := mm491) dX24_late_48 (fok1 (k := 3) (T := TX24) 22 (Nat.le_of_ble_eq_true rfl) vc_22 (Nat.le_of_ble_eq_true rfl) q1137)
theorem n491_51 : Snd mt G 491 51 (oIload 1 52) := w_iload_n (hm := mm491) dX24_late_51
theorem n491_52 : Snd mt G 491 52 (oBin (fun x y => x + y) 53) := w_iadd (hm := mm491) dX24_late_52
theorem n491_53 : Snd mt G 491 53 (oPutf [23] 3 .int 56) := w_putf (hm := mm491) dX24_late_53 (pok1 (k := 3) (T := TX24) 22 (Nat.le_of_ble_eq_true rfl) vc_22 (Nat.le_of_ble_eq_true rfl) rfl pd_X24_3 q1137)
theorem n491_56 : Snd mt G 491 56 (oAload 0 57) := w_aload_n (hm := mm491) dX24_late_56
theorem n491_57 : Snd mt G 491 57 (oDup 58) := w_dup (hm := mm491) dX24_late_57
theorem n491_58 : Snd mt G 491 58 (oGetf [23] 1 61) := w_getf (hm := mm491) dX24_late_58 (fok1 (k := 1) (T := TX24) 22 (Nat.le_of_ble_eq_true rfl) vc_22 (Nat.le_of_ble_eq_true rfl) q1133)
theorem n491_61 : Snd mt G 491 61 (oConst (.int 1) 62) := w_iconst (hm := mm491) dX24_late_61 rfl
theorem n491_62 : Snd mt G 491 62 (oBin (fun x y => x + y) 63) := w_iadd (hm := mm491) dX24_late_62
theorem n491_63 : Snd mt G 491 63 (oPutf [23] 1 .int 66) := w_putf (hm := mm491) dX24_late_63 (pok1 (k := 1) (T := TX24) 22 (Nat.le_of_ble_eq_true rfl) vc_22 (Nat.le_of_ble_eq_true rfl) rfl pd_X24_1 q1133)
theorem n491_66 : Snd mt G 491 66 (oRetV) := w_vret (hm := mm491) dX24_late_66 rfl
theorem sj491 : ∀ pc, Snd mt G 491 pc (j491 pc) := fun pc => (snd_br ((snd_br ((snd_br ((snd_br ((snd_br ((snd_br ((snd_lf n491_66)) ((snd_lf n491_63)))) ((snd_lf n491_62)))) ((snd_br ((snd_lf n491_61)) ((snd_lf n491_58)))))) ((snd_br ((snd_br ((snd_lf n491_57)) ((snd_lf n491_56)))) ((snd_br ((snd_lf n491_53)) ((snd_lf n491_52)))))))) ((snd_br ((snd_br ((snd_br ((snd_br ((snd_lf n491_51)) ((snd_lf n491_48)))) ((snd_lf n491_47)))) ((snd_br ((snd_lf n491_46)) ((snd_lf n491_43)))))) ((snd_br ((snd_br ((snd_lf n491_40)) ((snd_lf n491_39)))) ((snd_br ((snd_lf n491_36)) ((snd_lf n491_35)))))))))) ((snd_br ((snd_br ((snd_br ((snd_br ((snd_br ((snd_lf n491_32)) ((snd_lf n491_31)))) ((snd_lf n491_28)))) ((snd_br ((snd_lf n491_25)) ((snd_lf n491_24)))))) ((snd_br ((snd_br ((snd_lf n491_23)) ((snd_lf n491_20)))) ((snd_br ((snd_lf n491_17)) ((snd_lf n491_16)))))))) ((snd_br ((snd_br ((snd_br ((snd_lf n491_13)) ((snd_lf n491_12)))) ((snd_br ((snd_lf n491_9)) ((snd_lf n491_8)))))) ((snd_br ((snd_br ((snd_lf n491_5)) ((snd_lf n491_2)))) ((snd_br ((snd_lf n491_1)) ((snd_lf n491_0)))))))))))
end
section
variable {G : AG}
theorem n492_0 : Snd mt G 492 0 (oAload 0 1) := w_aload_n (hm := mm492) dX25_init_0
theorem n492_1 : Snd mt G 492 1 (oObjI 4) := w_objI (hm := mm492) dX25_init_1 (Nat.le_of_ble_eq_true rfl) q2068 q189 q190
theorem n492_4 : Snd mt G 492 4 (oAload 0 5) := w_aload_n (hm := mm492) dX25_init_4
theorem n492_5 : Snd mt G 492 5 (oIload 1 6) := w_iload_n (hm := mm492) dX25_init_5
theorem n492_6 : Snd mt G 492 6 (oPutf [24] 0 .int 9) := w_putfF (hm := mm492) dX25_init_6 (pfk1 (k := 0) (T := TX25) 23 (Nat.le_of_ble_eq_true rfl) vc_23 (Nat.le_of_ble_eq_true rfl) rfl rfl pd_X25_0 rfl q2069)
theorem n492_9 : Snd mt G 492 9 (oAload 0 10) := w_aload_n (hm := mm492) dX25_init_9
theorem n492_10 : Snd mt G 492 10 (oIload 2 11) := w_iload_n (hm := mm492) dX25_init_10
theorem n492_11 : Snd mt G 492 11 (oPutf [24] 1 .int 14) := w_putfF (hm := mm492) dX25_init_11 (pfk1 (k := 1) (T := TX25) 23 (Nat.le_of_ble_eq_true rfl) vc_23 (Nat.le_of_ble_eq_true rfl) rfl rfl pd_X25_1 rfl q2071)
theorem n492_14 : Snd mt G 492 14 (oAload 0 15) := w_aload_n (hm := mm492) dX25_init_14
theorem n492_15 : Snd mt G 492 15 (oIload 3 16) := w_iload_n (hm := mm492) dX25_init_15
theorem n492_16 : Snd mt G 492 16 (oPutf [24] 2 .int 19) := w_putfF (hm := mm492) dX25_init_16 (pfk1 (k := 2) (T := TX25) 23 (Nat.le_of_ble_eq_true rfl) vc_23 (Nat.le_of_ble_eq_true rfl) rfl rfl pd_X25_2 rfl q2073)
theorem n492_19 : Snd mt G 492 19 (oAload 0 20) := w_aload_n (hm := mm492) dX25_init_19
theorem n492_20 : Snd mt G 492 20 (oIload 4 22) := w_iload (hm := mm492) dX25_init_20
theorem n492_22 : Snd mt G 492 22 (oPutf [24] 3 .boolean 25) := w_putfF (hm := mm492) dX25_init_22 (pfk1 (k := 3) (T := TX25) 23 (Nat.le_of_ble_eq_true rfl) vc_23 (Nat.le_of_ble_eq_true rfl) rfl rfl pd_X25_3 rfl q2075)
theorem n492_25 : Snd mt G 492 25 (oRetV) := w_vret (hm := mm492) dX25_init_25 rfl
theorem sj492 : ∀ pc, Snd mt G 492 pc (j492 pc) := fun pc => (snd_br ((snd_br ((snd_br ((snd_br ((snd_lf n492_25)) ((snd_lf n492_22)))) ((snd_br ((snd_lf n492_20)) ((snd_lf n492_19)))))) ((snd_br ((snd_br ((snd_lf n492_16)) ((snd_lf n492_15)))) ((snd_br ((snd_lf n492_14)) ((snd_lf n492_11)))))))) ((snd_br ((snd_br ((snd_br ((snd_lf n492_10)) ((snd_lf n492_9)))) ((snd_br ((snd_lf n492_6)) ((snd_lf n492_5)))))) ((snd_br ((snd_br ((snd_lf n492_4)) ((snd_lf n492_1)))) ((snd_lf n492_0)))))))
end
section
variable {G : AG}
theorem n493_0 : Snd mt G 493 0 (oNew 24 4 nfX25 3) := w_new (hm := mm493) (ci := 23) (T9 := TX25) (ty := tyX25) dX25_ended_0 (Nat.le_of_ble_eq_true rfl) vc_23 tyX25_ok (fun _ _ => rfl) q2101 q2064 q177
theorem n493_3 : Snd mt G 493 3 (oDup 4) := w_dup (hm := mm493) dX25_ended_3
theorem n493_4 : Snd mt G 493 4 (oAload 0 5) := w_aload_n (hm := mm493) dX25_ended_4
theorem n493_5 : Snd mt G 493 5 (oGetf [24] 0 8) := w_getf (hm := mm493) dX25_ended_5 (fok1 (k := 0) (T := TX25) 23 (Nat.le_of_ble_eq_true rfl) vc_23 (Nat.le_of_ble_eq_true rfl) q2069)
theorem n493_8 : Snd mt G 493 8 (oAload 0 9) := w_aload_n (hm := mm493) dX25_ended_8
theorem n493_9 : Snd mt G 493 9 (oGetf [24] 1 12) := w_getf (hm := mm493) dX25_ended_9 (fok1 (k := 1) (T := TX25) 23 (Nat.le_of_ble_eq_true rfl) vc_23 (Nat.le_of_ble_eq_true rfl) q2071)
theorem n493_12 : Snd mt G 493 12 (oAload 0 13) := w_aload_n (hm := mm493) dX25_ended_12
theorem n493_13 : Snd mt G 493 13 (oGetf [24] 2 16) := w_getf (hm := mm493) dX25_ended_13 (fok1 (k := 2) (T := TX25) 23 (Nat.le_of_ble_eq_true rfl) vc_23 (Nat.le_of_ble_eq_true rfl) q2073)
theorem n493_16 : Snd mt G 493 16 (oConst (.int 0) 17) := w_iconst (hm := mm493) dX25_ended_16 rfl
theorem n493_17 : Snd mt G 493 17 (oCall 5 (fI 492 5) 0 20 xOut) := s_callI (m' := 492) (n := 4) xsh_out (w_xok0 mm493) (w_cal mm493 mm492 pn_X25 (Nat.le_of_ble_eq_true rfl) (Nat.le_of_ble_eq_true rfl)) (fun h b as hn => w_run_I mm493 mm492 dX25_ended_17 rfl rfl q2102 q2066 q177 q2067 pa492 hn)
theorem n493_20 : Snd mt G 493 20 (oRetA) := w_aret (hm := mm493) dX25_ended_20 rfl (Or.inl ⟨_, rfl⟩)
theorem sj493 : ∀ pc, Snd mt G 493 pc (j493 pc) := fun pc => (snd_br ((snd_br ((snd_br ((snd_br ((snd_lf n493_20)) ((snd_lf n493_17)))) ((snd_lf n493_16)))) ((snd_br ((snd_br ((snd_lf n493_13)) ((snd_lf n493_12)))) ((snd_lf n493_9)))))) ((snd_br ((snd_br ((snd_br ((snd_lf n493_8)) ((snd_lf n493_5)))) ((snd_lf n493_4)))) ((snd_br ((snd_lf n493_3)) ((snd_lf n493_0)))))))
end
section
variable {G : AG}
theorem n494_0 : Snd mt G 494 0 (oAload 0 1) := w_aload_n (hm := mm494) dX26_init_0
theorem n494_1 : Snd mt G 494 1 (oObjI 4) := w_objI (hm := mm494) dX26_init_1 (Nat.le_of_ble_eq_true rfl) q2185 q189 q190
theorem n494_4 : Snd mt G 494 4 (oAload 0 5) := w_aload_n (hm := mm494) dX26_init_4
theorem n494_5 : Snd mt G 494 5 (oIload 1 6) := w_iload_n (hm := mm494) dX26_init_5
theorem n494_6 : Snd mt G 494 6 (oPutf [25] 0 .int 9) := w_putfF (hm := mm494) dX26_init_6 (pfk1 (k := 0) (T := TX26) 24 (Nat.le_of_ble_eq_true rfl) vc_24 (Nat.le_of_ble_eq_true rfl) rfl rfl pd_X26_0 rfl q2186)
theorem n494_9 : Snd mt G 494 9 (oAload 0 10) := w_aload_n (hm := mm494) dX26_init_9
theorem n494_10 : Snd mt G 494 10 (oIload 2 11) := w_iload_n (hm := mm494) dX26_init_10
theorem n494_11 : Snd mt G 494 11 (oPutf [25] 1 .int 14) := w_putfF (hm := mm494) dX26_init_11 (pfk1 (k := 1) (T := TX26) 24 (Nat.le_of_ble_eq_true rfl) vc_24 (Nat.le_of_ble_eq_true rfl) rfl rfl pd_X26_1 rfl q2188)
theorem n494_14 : Snd mt G 494 14 (oAload 0 15) := w_aload_n (hm := mm494) dX26_init_14
theorem n494_15 : Snd mt G 494 15 (oIload 3 16) := w_iload_n (hm := mm494) dX26_init_15
theorem n494_16 : Snd mt G 494 16 (oPutf [25] 2 .int 19) := w_putfF (hm := mm494) dX26_init_16 (pfk1 (k := 2) (T := TX26) 24 (Nat.le_of_ble_eq_true rfl) vc_24 (Nat.le_of_ble_eq_true rfl) rfl rfl pd_X26_2 rfl q2190)
theorem n494_19 : Snd mt G 494 19 (oRetV) := w_vret (hm := mm494) dX26_init_19 rfl
theorem sj494 : ∀ pc, Snd mt G 494 pc (j494 pc) := fun pc => (snd_br ((snd_br ((snd_br ((snd_br ((snd_lf n494_19)) ((snd_lf n494_16)))) ((snd_lf n494_15)))) ((snd_br ((snd_br ((snd_lf n494_14)) ((snd_lf n494_11)))) ((snd_lf n494_10)))))) ((snd_br ((snd_br ((snd_br ((snd_lf n494_9)) ((snd_lf n494_6)))) ((snd_lf n494_5)))) ((snd_br ((snd_br ((snd_lf n494_4)) ((snd_lf n494_1)))) ((snd_lf n494_0)))))))
end
section
variable {G : AG}
theorem n495_0 : Snd mt G 495 0 (oAload 0 1) := w_aload_n (hm := mm495) dX27_init_0
theorem n495_1 : Snd mt G 495 1 (oObjI 4) := w_objI (hm := mm495) dX27_init_1 (Nat.le_of_ble_eq_true rfl) q2316 q189 q190
theorem n495_4 : Snd mt G 495 4 (oAload 0 5) := w_aload_n (hm := mm495) dX27_init_4
theorem n495_5 : Snd mt G 495 5 (oIload 1 6) := w_iload_n (hm := mm495) dX27_init_5
theorem n495_6 : Snd mt G 495 6 (oPutf [26] 0 .int 9) := w_putfF (hm := mm495) dX27_init_6 (pfk1 (k := 0) (T := TX27) 25 (Nat.le_of_ble_eq_true rfl) vc_25 (Nat.le_of_ble_eq_true rfl) rfl rfl pd_X27_0 rfl q2317)
theorem n495_9 : Snd mt G 495 9 (oAload 0 10) := w_aload_n (hm := mm495) dX27_init_9
theorem n495_10 : Snd mt G 495 10 (oIload 2 11) := w_iload_n (hm := mm495) dX27_init_10
theorem n495_11 : Snd mt G 495 11 (oPutf [26] 1 .int 14) := w_putfF (hm := mm495) dX27_init_11 (pfk1 (k := 1) (T := TX27) 25 (Nat.le_of_ble_eq_true rfl) vc_25 (Nat.le_of_ble_eq_true rfl) rfl rfl pd_X27_1 rfl q2319)
theorem n495_14 : Snd mt G 495 14 (oRetV) := w_vret (hm := mm495) dX27_init_14 rfl
theorem sj495 : ∀ pc, Snd mt G 495 pc (j495 pc) := fun pc => (snd_br ((snd_br ((snd_br ((snd_br ((snd_lf n495_14)) ((snd_lf n495_11)))) ((snd_lf n495_10)))) ((snd_br ((snd_lf n495_9)) ((snd_lf n495_6)))))) ((snd_br ((snd_br ((snd_lf n495_5)) ((snd_lf n495_4)))) ((snd_br ((snd_lf n495_1)) ((snd_lf n495_0)))))))
end
section
variable {G : AG}
theorem n496_0 : Snd mt G 496 0 (oAload 0 1) := w_aload_n (hm := mm496) dX28_init_0
theorem n496_1 : Snd mt G 496 1 (oObjI 4) := w_objI (hm := mm496) dX28_init_1 (Nat.le_of_ble_eq_true rfl) q2340 q189 q190
theorem n496_4 : Snd mt G 496 4 (oAload 0 5) := w_aload_n (hm := mm496) dX28_init_4
theorem n496_5 : Snd mt G 496 5 (oIload 1 6) := w_iload_n (hm := mm496) dX28_init_5
theorem n496_6 : Snd mt G 496 6 (oPutf [27] 0 .int 9) := w_putfF (hm := mm496) dX28_init_6 (pfk1 (k := 0) (T := TX28) 26 (Nat.le_of_ble_eq_true rfl) vc_26 (Nat.le_of_ble_eq_true rfl) rfl rfl pd_X28_0 rfl q2341)
theorem n496_9 : Snd mt G 496 9 (oAload 0 10) := w_aload_n (hm := mm496) dX28_init_9
theorem n496_10 : Snd mt G 496 10 (oIload 2 11) := w_iload_n (hm := mm496) dX28_init_10
theorem n496_11 : Snd mt G 496 11 (oPutf [27] 1 .int 14) := w_putfF (hm := mm496) dX28_init_11 (pfk1 (k := 1) (T := TX28) 26 (Nat.le_of_ble_eq_true rfl) vc_26 (Nat.le_of_ble_eq_true rfl) rfl rfl pd_X28_1 rfl q2343)
theorem n496_14 : Snd mt G 496 14 (oRetV) := w_vret (hm := mm496) dX28_init_14 rfl
theorem sj496 : ∀ pc, Snd mt G 496 pc (j496 pc) := fun pc => (snd_br ((snd_br ((snd_br ((snd_br ((snd_lf n496_14)) ((snd_lf n496_11)))) ((snd_lf n496_10)))) ((snd_br ((snd_lf n496_9)) ((snd_lf n496_6)))))) ((snd_br ((snd_br ((snd_lf n496_5)) ((snd_lf n496_4)))) ((snd_br ((snd_lf n496_1)) ((snd_lf n496_0)))))))
end
section
variable {G : AG}
theorem n497_0 : Snd mt G 497 0 (oAload 0 1) := w_aload_n (hm := mm497) dX29_init_0
theorem n497_1 : Snd mt G 497 1 (oObjI 4) := w_objI (hm := mm497) dX29_init_1 (Nat.le_of_ble_eq_true rfl) q2369 q189 q190
theorem n497_4 : Snd mt G 497 4 (oAload 0 5) := w_aload_n (hm := mm497) dX29_init_4
theorem n497_5 : Snd mt G 497 5 (oIload 1 6) := w_iload_n (hm := mm497) dX29_init_5
theorem n497_6 : Snd mt G 497 6 (oPutf [28] 0 .int 9) := w_putfF (hm := mm497) dX29_init_6 (pfk1 (k := 0) (T := TX29) 27 (Nat.le_of_ble_eq_true rfl) vc_27 (Nat.le_of_ble_eq_true rfl) rfl rfl pd_X29_0 rfl q2370)
theorem n497_9 : Snd mt G 497 9 (oAload 0 10) := w_aload_n (hm := mm497) dX29_init_9
theorem n497_10 : Snd mt G 497 10 (oIload 2 11) := w_iload_n (hm := mm497) dX29_init_10
theorem n497_11 : Snd mt G 497 11 (oPutf [28] 1 .int 14) := w_putfF (hm := mm497) dX29_init_11 (pfk1 (k := 1) (T := TX29) 27 (Nat.le_of_ble_eq_true rfl) vc_27 (Nat.le_of_ble_eq_true rfl) rfl rfl pd_X29_1 rfl q2372)
theorem n497_14 : Snd mt G 497 14 (oAload 0 15) := w_aload_n (hm := mm497) dX29_init_14
theorem n497_15 : Snd mt G 497 15 (oIload 3 16) := w_iload_n (hm := mm497) dX29_init_15
theorem n497_16 : Snd mt G 497 16 (oPutf [28] 2 .int 19) := w_putfF (hm := mm497) dX29_init_16 (pfk1 (k := 2) (T := TX29) 27 (Nat.le_of_ble_eq_true rfl) vc_27 (Nat.le_of_ble_eq_true rfl) rfl rfl pd_X29_2 rfl q2374)
theorem n497_19 : Snd mt G 497 19 (oRetV) := w_vret (hm := mm497) dX29_init_19 rfl
theorem sj497 : ∀ pc, Snd mt G 497 pc (j497 pc) := fun pc => (snd_br ((snd_br ((snd_br ((snd_br ((snd_lf n497_19)) ((snd_lf n497_16)))) ((snd_lf n497_15)))) ((snd_br ((snd_br ((snd_lf n497_14)) ((snd_lf n497_11)))) ((snd_lf n497_10)))))) ((snd_br ((snd_br ((snd_br ((snd_lf n497_9)) ((snd_lf n497_6)))) ((snd_lf n497_5)))) ((snd_br ((snd_br ((snd_lf n497_4)) ((snd_lf n497_1)))) ((snd_lf n497_0)))))))
end
