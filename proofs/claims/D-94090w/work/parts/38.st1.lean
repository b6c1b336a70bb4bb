/-! every instruction is sound (by gen3.py) -/
set_option maxRecDepth 100000
section
variable {G : AG}
theorem n326_0 : Snd mt G 326 0 (oAload 0 1) := w_aload_n (hm := mm326) dX3_badFit_0
theorem n326_1 : Snd mt G 326 1 (oAload 0 2) := w_aload_n (hm := mm326) dX3_badFit_1
theorem n326_2 : Snd mt G 326 2 (oIload 1 3) := w_iload_n (hm := mm326) dX3_badFit_2
theorem n326_3 : Snd mt G 326 3 (oCall 2 (fV [4] 316 2) 0 6 xOut) := s_callV (m' := 316) (n := 1) xsh_out (w_xok0 mm326) (w_cal mm326 mm316 pn_X3 (Nat.le_of_ble_eq_true rfl) (Nat.le_of_ble_eq_true rfl)) (fun h b as hc hn => w_run_V (ci := 3) mm326 mm316 dX3_badFit_3 (Or.inl (List.mem_singleton.mp hc)) (Nat.le_of_ble_eq_true rfl) vc_3 rfl q2758 q2760 qs84 q150 q2761 pa316 hn)
theorem n326_6 : Snd mt G 326 6 (oIfEq 9 13) := w_if_ne (hm := mm326) dX3_badFit_6 rfl
theorem n326_9 : Snd mt G 326 9 (oConst (.int 1) 10) := w_iconst (hm := mm326) dX3_badFit_9 rfl
theorem n326_10 : Snd mt G 326 10 (oGoto 14) := w_goto (hm := mm326) dX3_badFit_10 rfl
theorem n326_13 : Snd mt G 326 13 (oConst (.int 0) 14) := w_iconst (hm := mm326) dX3_badFit_13 rfl
theorem n326_14 : Snd mt G 326 14 (oConst (.int 1) 15) := w_iconst (hm := mm326) dX3_badFit_14 rfl
theorem n326_15 : Snd mt G 326 15 (oCall 3 (fV [4] 285 3) 0 18 xOut) := s_callV (m' := 285) (n := 2) xsh_out (w_xok0 mm326) (w_cal mm326 mm285 pn_X3 (Nat.le_of_ble_eq_true rfl) (Nat.le_of_ble_eq_true rfl)) (fun h b as hc hn => w_run_V (ci := 3) mm326 mm285 dX3_badFit_15 (Or.inl (List.mem_singleton.mp hc)) (Nat.le_of_ble_eq_true rfl) vc_3 rfl q2634 q2636 qs62 q150 q2637 pa285 hn)
theorem n326_18 : Snd mt G 326 18 (oIfEq 21 66) := w_if_ne (hm := mm326) dX3_badFit_18 rfl
theorem n326_21 : Snd mt G 326 21 (oAload 0 22) := w_aload_n (hm := mm326) dX3_badFit_21
theorem n326_22 : Snd mt G 326 22 (oAload 0 23) := w_aload_n (hm := mm326) dX3_badFit_22
theorem n326_23 : Snd mt G 326 23 (oIload 2 24) := w_iload_n (hm := mm326) dX3_badFit_23
theorem n326_24 : Snd mt G 326 24 (oCall 2 (fV [4] 323 2) 0 27 xOut) := s_callV (m' := 323) (n := 1) xsh_out (w_xok0 mm326) (w_cal mm326 mm323 pn_X3 (Nat.le_of_ble_eq_true rfl) (Nat.le_of_ble_eq_true rfl)) (fun h b as hc hn => w_run_V (ci := 3) mm326 mm323 dX3_badFit_24 (Or.inl (List.mem_singleton.mp hc)) (Nat.le_of_ble_eq_true rfl) vc_3 rfl q2786 q2788 qs87 q150 q2789 pa323 hn)
theorem n326_27 : Snd mt G 326 27 (oIfEq 30 34) := w_if_ne (hm := mm326) dX3_badFit_27 rfl
theorem n326_30 : Snd mt G 326 30 (oConst (.int 1) 31) := w_iconst (hm := mm326) dX3_badFit_30 rfl
theorem n326_31 : Snd mt G 326 31 (oGoto 35) := w_goto (hm := mm326) dX3_badFit_31 rfl
theorem n326_34 : Snd mt G 326 34 (oConst (.int 0) 35) := w_iconst (hm := mm326) dX3_badFit_34 rfl
theorem n326_35 : Snd mt G 326 35 (oConst (.int 2) 36) := w_iconst (hm := mm326) dX3_badFit_35 rfl
theorem n326_36 : Snd mt G 326 36 (oCall 3 (fV [4] 285 3) 0 39 xOut) := s_callV (m' := 285) (n := 2) xsh_out (w_xok0 mm326) (w_cal mm326 mm285 pn_X3 (Nat.le_of_ble_eq_true rfl) (Nat.le_of_ble_eq_true rfl)) (fun h b as hc hn => w_run_V (ci := 3) mm326 mm285 dX3_badFit_36 (Or.inl (List.mem_singleton.mp hc)) (Nat.le_of_ble_eq_true rfl) vc_3 rfl q2634 q2636 qs62 q150 q2637 pa285 hn)
theorem n326_39 : Snd mt G 326 39 (oIfEq 42 66) := w_if_ne (hm := mm326) dX3_badFit_39 rfl
theorem n326_42 : Snd mt G 326 42 (oAload 0 43) := w_aload_n (hm := mm326) dX3_badFit_42
theorem n326_43 : Snd mt G 326 43 (oIload 3 44) := w_iload_n (hm := mm326) dX3_badFit_43
theorem n326_44 : Snd mt G 326 44 (oConst (.int 0) 45) := w_iconst (hm := mm326) dX3_badFit_44 rfl
theorem n326_45 : Snd mt G 326 45 (oConst (.int 9999) 48) := w_sipush (hm := mm326) dX3_badFit_45 (by decide)
theorem n326_48 : Snd mt G 326 48 (oCall 3 (fS 284 3) 0 51 xOut) := s_callS (m' := 284) (n := 3) xsh_out (w_xok0 mm326) (w_cal mm326 mm284 pn_X3 (Nat.le_of_ble_eq_true rfl) (Nat.le_of_ble_eq_true rfl)) (fun h as hn => w_run_S mm326 mm284 dX3_badFit_48 q2631 q2632 q150 q2633 pa284 hn)
theorem n326_51 : Snd mt G 326 51 (oIfEq 54 58) := w_if_ne (hm := mm326) dX3_badFit_51 rfl
theorem n326_54 : Snd mt G 326 54 (oConst (.int 1) 55) := w_iconst (hm := mm326) dX3_badFit_54 rfl
theorem n326_55 : Snd mt G 326 55 (oGoto 59) := w_goto (hm := mm326) dX3_badFit_55 rfl
theorem n326_58 : Snd mt G 326 58 (oConst (.int 0) 59) := w_iconst (hm := mm326) dX3_badFit_58 rfl
theorem n326_59 : Snd mt G 326 59 (oConst (.int 3) 60) := w_iconst (hm := mm326) dX3_badFit_59 rfl
theorem n326_60 : Snd mt G 326 60 (oCall 3 (fV [4] 285 3) 0 63 xOut) := s_callV (m' := 285) (n := 2) xsh_out (w_xok0 mm326) (w_cal mm326 mm285 pn_X3 (Nat.le_of_ble_eq_true rfl) (Nat.le_of_ble_eq_true rfl)) (fun h b as hc hn => w_run_V (ci := 3) mm326 mm285 dX3_badFit_60 (Or.inl (List.mem_singleton.mp hc)) (Nat.le_of_ble_eq_true rfl) vc_3 rfl q2634 q2636 qs62 q150 q2637 pa285 hn)
theorem n326_63 : Snd mt G 326 63 (oIfEq 70 66) := w_if_eq (hm := mm326) dX3_badFit_63 rfl
theorem n326_66 : Snd mt G 326 66 (oConst (.int 1) 67) := w_iconst (hm := mm326) dX3_badFit_66 rfl
theorem n326_67 : Snd mt G 326 67 (oGoto 71) := w_goto (hm := mm326) dX3_badFit_67 rfl
theorem n326_70 : Snd mt G 326 70 (oConst (.int 0) 71) := w_iconst (hm := mm326) dX3_badFit_70 rfl
theorem n326_71 : Snd mt G 326 71 (oRetI .boolean) := w_zret (hm := mm326) dX3_badFit_71 rfl
theorem sj326 : ∀ pc, Snd mt G 326 pc (j326 pc) := fun pc => (snd_br ((snd_br ((snd_br ((snd_br ((snd_br ((snd_br ((snd_lf n326_71)) ((snd_lf n326_70)))) ((snd_lf n326_67)))) ((snd_br ((snd_lf n326_66)) ((snd_lf n326_63)))))) ((snd_br ((snd_br ((snd_br ((snd_lf n326_60)) ((snd_lf n326_59)))) ((snd_lf n326_58)))) ((snd_br ((snd_lf n326_55)) ((snd_lf n326_54)))))))) ((snd_br ((snd_br ((snd_br ((snd_br ((snd_lf n326_51)) ((snd_lf n326_48)))) ((snd_lf n326_45)))) ((snd_br ((snd_lf n326_44)) ((snd_lf n326_43)))))) ((snd_br ((snd_br ((snd_lf n326_42)) ((snd_lf n326_39)))) ((snd_br ((snd_lf n326_36)) ((snd_lf n326_35)))))))))) ((snd_br ((snd_br ((snd_br ((snd_br ((snd_br ((snd_lf n326_34)) ((snd_lf n326_31)))) ((snd_lf n326_30)))) ((snd_br ((snd_lf n326_27)) ((snd_lf n326_24)))))) ((snd_br ((snd_br ((snd_br ((snd_lf n326_23)) ((snd_lf n326_22)))) ((snd_lf n326_21)))) ((snd_br ((snd_lf n326_18)) ((snd_lf n326_15)))))))) ((snd_br ((snd_br ((snd_br ((snd_br ((snd_lf n326_14)) ((snd_lf n326_13)))) ((snd_lf n326_10)))) ((snd_br ((snd_lf n326_9)) ((snd_lf n326_6)))))) ((snd_br ((snd_br ((snd_lf n326_3)) ((snd_lf n326_2)))) ((snd_br ((snd_lf n326_1)) ((snd_lf n326_0)))))))))))
end
section
variable {G : AG}
theorem n327_0 : Snd mt G 327 0 (oAload 0 1) := w_aload_n (hm := mm327) dX3_hinders_0
theorem n327_1 : Snd mt G 327 1 (oGetf [4] 45 4) := w_getf (hm := mm327) dX3_hinders_1 (fok1 (k := 45) (T := TX3) 3 (Nat.le_of_ble_eq_true rfl) vc_3 (Nat.le_of_ble_eq_true rfl) q2450)
theorem n327_4 : Snd mt G 327 4 (oIload 2 5) := w_iload_n (hm := mm327) dX3_hinders_4
theorem n327_5 : Snd mt G 327 5 (oAld [106] 6) := w_aaload (hm := mm327) (kt := 6) dX3_hinders_5 rfl at_6 (Nat.le_of_ble_eq_true rfl) (List.forall_mem_cons.mpr ⟨Or.inl rfl, (fun t ht => nomatch ht)⟩)
theorem n327_6 : Snd mt G 327 6 (oConst (.int 2) 7) := w_iconst (hm := mm327) dX3_hinders_6 rfl
theorem n327_7 : Snd mt G 327 7 (oAld [100] 8) := w_iaload (hm := mm327) (kt := 0) dX3_hinders_7 at_0 (Nat.le_of_ble_eq_true rfl) (List.forall_mem_cons.mpr ⟨Or.inl rfl, (fun t ht => nomatch ht)⟩)
theorem n327_8 : Snd mt G 327 8 (oAload 0 9) := w_aload_n (hm := mm327) dX3_hinders_8
theorem n327_9 : Snd mt G 327 9 (oGetf [4] 46 12) := w_getf (hm := mm327) dX3_hinders_9 (fok1 (k := 46) (T := TX3) 3 (Nat.le_of_ble_eq_true rfl) vc_3 (Nat.le_of_ble_eq_true rfl) q2451)
theorem n327_12 : Snd mt G 327 12 (oIload 1 13) := w_iload_n (hm := mm327) dX3_hinders_12
theorem n327_13 : Snd mt G 327 13 (oAld [106] 14) := w_aaload (hm := mm327) (kt := 6) dX3_hinders_13 rfl at_6 (Nat.le_of_ble_eq_true rfl) (List.forall_mem_cons.mpr ⟨Or.inl rfl, (fun t ht => nomatch ht)⟩)
theorem n327_14 : Snd mt G 327 14 (oConst (.int 0) 15) := w_iconst (hm := mm327) dX3_hinders_14 rfl
theorem n327_15 : Snd mt G 327 15 (oAld [100] 16) := w_iaload (hm := mm327) (kt := 0) dX3_hinders_15 at_0 (Nat.le_of_ble_eq_true rfl) (List.forall_mem_cons.mpr ⟨Or.inl rfl, (fun t ht => nomatch ht)⟩)
theorem n327_16 : Snd mt G 327 16 (oCmpGe 21 19) := w_icmp_ge (hm := mm327) dX3_hinders_16 rfl
theorem n327_19 : Snd mt G 327 19 (oConst (.int (-1)) 20) := w_iconst (hm := mm327) dX3_hinders_19 rfl
theorem n327_20 : Snd mt G 327 20 (oRetI .int) := w_iret (hm := mm327) dX3_hinders_20 rfl
theorem n327_21 : Snd mt G 327 21 (oAload 0 22) := w_aload_n (hm := mm327) dX3_hinders_21
theorem n327_22 : Snd mt G 327 22 (oIload 1 23) := w_iload_n (hm := mm327) dX3_hinders_22
theorem n327_23 : Snd mt G 327 23 (oCall 2 (fV [4] 324 2) 0 26 xOut) := s_callV (m' := 324) (n := 1) xsh_out (w_xok0 mm327) (w_cal mm327 mm324 pn_X3 (Nat.le_of_ble_eq_true rfl) (Nat.le_of_ble_eq_true rfl)) (fun h b as hc hn => w_run_V (ci := 3) mm327 mm324 dX3_hinders_23 (Or.inl (List.mem_singleton.mp hc)) (Nat.le_of_ble_eq_true rfl) vc_3 rfl q2790 q2792 qs88 q150 q2793 pa324 hn)
theorem n327_26 : Snd mt G 327 26 (oAload 0 27) := w_aload_n (hm := mm327) dX3_hinders_26
theorem n327_27 : Snd mt G 327 27 (oIload 1 28) := w_iload_n (hm := mm327) dX3_hinders_27
theorem n327_28 : Snd mt G 327 28 (oIload 2 29) := w_iload_n (hm := mm327) dX3_hinders_28
theorem n327_29 : Snd mt G 327 29 (oCall 3 (fV [4] 328 4) 0 32 xOut) := s_callV (m' := 328) (n := 2) xsh_out (w_xok0 mm327) (w_cal mm327 mm328 pn_X3 (Nat.le_of_ble_eq_true rfl) (Nat.le_of_ble_eq_true rfl)) (fun h b as hc hn => w_run_V (ci := 3) mm327 mm328 dX3_hinders_29 (Or.inl (List.mem_singleton.mp hc)) (Nat.le_of_ble_eq_true rfl) vc_3 rfl q2806 q2808 qs91 q150 q2809 pa328 hn)
theorem n327_32 : Snd mt G 327 32 (oIfEq 40 35) := w_if_eq (hm := mm327) dX3_hinders_32 rfl
theorem n327_35 : Snd mt G 327 35 (oConst (.int (-2)) 37) := w_bipush (hm := mm327) dX3_hinders_35 (by decide)
theorem n327_37 : Snd mt G 327 37 (oGoto 41) := w_goto (hm := mm327) dX3_hinders_37 rfl
theorem n327_40 : Snd mt G 327 40 (oConst (.int 0) 41) := w_iconst (hm := mm327) dX3_hinders_40 rfl
theorem n327_41 : Snd mt G 327 41 (oRetI .int) := w_iret (hm := mm327) dX3_hinders_41 rfl
theorem sj327 : ∀ pc, Snd mt G 327 pc (j327 pc) := fun pc => (snd_br ((snd_br ((snd_br ((snd_br ((snd_br ((snd_lf n327_41)) ((snd_lf n327_40)))) ((snd_br ((snd_lf n327_37)) ((snd_lf n327_35)))))) ((snd_br ((snd_br ((snd_lf n327_32)) ((snd_lf n327_29)))) ((snd_lf n327_28)))))) ((snd_br ((snd_br ((snd_br ((snd_lf n327_27)) ((snd_lf n327_26)))) ((snd_br ((snd_lf n327_23)) ((snd_lf n327_22)))))) ((snd_br ((snd_br ((snd_lf n327_21)) ((snd_lf n327_20)))) ((snd_lf n327_19)))))))) ((snd_br ((snd_br ((snd_br ((snd_br ((snd_lf n327_16)) ((snd_lf n327_15)))) ((snd_br ((snd_lf n327_14)) ((snd_lf n327_13)))))) ((snd_br ((snd_br ((snd_lf n327_12)) ((snd_lf n327_9)))) ((snd_lf n327_8)))))) ((snd_br ((snd_br ((snd_br ((snd_lf n327_7)) ((snd_lf n327_6)))) ((snd_lf n327_5)))) ((snd_br ((snd_br ((snd_lf n327_4)) ((snd_lf n327_1)))) ((snd_lf n327_0)))))))))
end
section
variable {G : AG}
theorem n328_0 : Snd mt G 328 0 (oConst (.int 0) 1) := w_iconst (hm := mm328) dX3_isBarredThere_0 rfl
theorem n328_1 : Snd mt G 328 1 (oIstore 3 2) := w_istore_n (hm := mm328) dX3_isBarredThere_1 (Nat.le_of_ble_eq_true rfl)
theorem n328_2 : Snd mt G 328 2 (oIload 3 3) := w_iload_n (hm := mm328) dX3_isBarredThere_2
theorem n328_3 : Snd mt G 328 3 (oConst (.int 4) 4) := w_iconst (hm := mm328) dX3_isBarredThere_3 rfl
theorem n328_4 : Snd mt G 328 4 (oCmpGe 57 7) := w_icmp_ge (hm := mm328) dX3_isBarredThere_4 rfl
theorem n328_7 : Snd mt G 328 7 (oIload 3 8) := w_iload_n (hm := mm328) dX3_isBarredThere_7
theorem n328_8 : Snd mt G 328 8 (oAload 0 9) := w_aload_n (hm := mm328) dX3_isBarredThere_8
theorem n328_9 : Snd mt G 328 9 (oGetf [4] 45 12) := w_getf (hm := mm328) dX3_isBarredThere_9 (fok1 (k := 45) (T := TX3) 3 (Nat.le_of_ble_eq_true rfl) vc_3 (Nat.le_of_ble_eq_true rfl) q2450)
theorem n328_12 : Snd mt G 328 12 (oIload 2 13) := w_iload_n (hm := mm328) dX3_isBarredThere_12
theorem n328_13 : Snd mt G 328 13 (oAld [106] 14) := w_aaload (hm := mm328) (kt := 6) dX3_isBarredThere_13 rfl at_6 (Nat.le_of_ble_eq_true rfl) (List.forall_mem_cons.mpr ⟨Or.inl rfl, (fun t ht => nomatch ht)⟩)
theorem n328_14 : Snd mt G 328 14 (oConst (.int 0) 15) := w_iconst (hm := mm328) dX3_isBarredThere_14 rfl
theorem n328_15 : Snd mt G 328 15 (oAld [100] 16) := w_iaload (hm := mm328) (kt := 0) dX3_isBarredThere_15 at_0 (Nat.le_of_ble_eq_true rfl) (List.forall_mem_cons.mpr ⟨Or.inl rfl, (fun t ht => nomatch ht)⟩)
theorem n328_16 : Snd mt G 328 16 (oCmpEq 51 19) := w_icmp_eq (hm := mm328) dX3_isBarredThere_16 rfl
theorem n328_19 : Snd mt G 328 19 (oAload 0 20) := w_aload_n (hm := mm328) dX3_isBarredThere_19
theorem n328_20 : Snd mt G 328 20 (oIload 1 21) := w_iload_n (hm := mm328) dX3_isBarredThere_20
theorem n328_21 : Snd mt G 328 21 (oIload 3 22) := w_iload_n (hm := mm328) dX3_isBarredThere_21
theorem n328_22 : Snd mt G 328 22 (oCall 3 (fV [4] 329 3) 0 25 xOut) := s_callV (m' := 329) (n := 2) xsh_out (w_xok0 mm328) (w_cal mm328 mm329 pn_X3 (Nat.le_of_ble_eq_true rfl) (Nat.le_of_ble_eq_true rfl)) (fun h b as hc hn => w_run_V (ci := 3) mm328 mm329 dX3_isBarredThere_22 (Or.inl (List.mem_singleton.mp hc)) (Nat.le_of_ble_eq_true rfl) vc_3 rfl q2810 q2812 qs92 q150 q2813 pa329 hn)
theorem n328_25 : Snd mt G 328 25 (oIfEq 51 28) := w_if_eq (hm := mm328) dX3_isBarredThere_25 rfl
theorem n328_28 : Snd mt G 328 28 (oAload 0 29) := w_aload_n (hm := mm328) dX3_isBarredThere_28
theorem n328_29 : Snd mt G 328 29 (oGetf [4] 17 32) := w_getf (hm := mm328) dX3_isBarredThere_29 (fok1 (k := 17) (T := TX3) 3 (Nat.le_of_ble_eq_true rfl) vc_3 (Nat.le_of_ble_eq_true rfl) q2422)
theorem n328_32 : Snd mt G 328 32 (oIload 2 33) := w_iload_n (hm := mm328) dX3_isBarredThere_32
theorem n328_33 : Snd mt G 328 33 (oAld [100] 34) := w_iaload (hm := mm328) (kt := 0) dX3_isBarredThere_33 at_0 (Nat.le_of_ble_eq_true rfl) (List.forall_mem_cons.mpr ⟨Or.inl rfl, (fun t ht => nomatch ht)⟩)
theorem n328_34 : Snd mt G 328 34 (oAload 0 35) := w_aload_n (hm := mm328) dX3_isBarredThere_34
theorem n328_35 : Snd mt G 328 35 (oIload 1 36) := w_iload_n (hm := mm328) dX3_isBarredThere_35
theorem n328_36 : Snd mt G 328 36 (oIload 3 37) := w_iload_n (hm := mm328) dX3_isBarredThere_36
theorem n328_37 : Snd mt G 328 37 (oCall 3 (fV [4] 330 3) 0 40 xOut) := s_callV (m' := 330) (n := 2) xsh_out (w_xok0 mm328) (w_cal mm328 mm330 pn_X3 (Nat.le_of_ble_eq_true rfl) (Nat.le_of_ble_eq_true rfl)) (fun h b as hc hn => w_run_V (ci := 3) mm328 mm330 dX3_isBarredThere_37 (Or.inl (List.mem_singleton.mp hc)) (Nat.le_of_ble_eq_true rfl) vc_3 rfl q2814 q2816 qs93 q150 q2817 pa330 hn)
theorem n328_40 : Snd mt G 328 40 (oConst (.int 0) 41) := w_iconst (hm := mm328) dX3_isBarredThere_40 rfl
theorem n328_41 : Snd mt G 328 41 (oAld [100] 42) := w_iaload (hm := mm328) (kt := 0) dX3_isBarredThere_41 at_0 (Nat.le_of_ble_eq_true rfl) (List.forall_mem_cons.mpr ⟨Or.inl rfl, (fun t ht => nomatch ht)⟩)
theorem n328_42 : Snd mt G 328 42 (oBin (fun x y => x >>> (y &&& 31)) 43) := w_ishr (hm := mm328) dX3_isBarredThere_42
theorem n328_43 : Snd mt G 328 43 (oConst (.int 1) 44) := w_iconst (hm := mm328) dX3_isBarredThere_43 rfl
theorem n328_44 : Snd mt G 328 44 (oBin (fun x y => x &&& y) 45) := w_iand (hm := mm328) dX3_isBarredThere_44
theorem n328_45 : Snd mt G 328 45 (oConst (.int 1) 46) := w_iconst (hm := mm328) dX3_isBarredThere_45 rfl
theorem n328_46 : Snd mt G 328 46 (oCmpEq 49 51) := w_icmp_ne (hm := mm328) dX3_isBarredThere_46 rfl
theorem n328_49 : Snd mt G 328 49 (oConst (.int 1) 50) := w_iconst (hm := mm328) dX3_isBarredThere_49 rfl
theorem n328_50 : Snd mt G 328 50 (oRetI .boolean) := w_zret (hm := mm328) dX3_isBarredThere_50 rfl
theorem n328_51 : Snd mt G 328 51 (oIinc 3 1 54) := w_iinc (hm := mm328) dX3_isBarredThere_51 rfl (Nat.le_of_ble_eq_true rfl)
theorem n328_54 : Snd mt G 328 54 (oGoto 2) := w_goto (hm := mm328) dX3_isBarredThere_54 rfl
theorem n328_57 : Snd mt G 328 57 (oConst (.int 0) 58) := w_iconst (hm := mm328) dX3_isBarredThere_57 rfl
theorem n328_58 : Snd mt G 328 58 (oRetI .boolean) := w_zret (hm := mm328) dX3_isBarredThere_58 rfl
theorem sj328 : ∀ pc, Snd mt G 328 pc (j328 pc) := fun pc => (snd_br ((snd_br ((snd_br ((snd_br ((snd_br ((snd_br ((snd_lf n328_58)) ((snd_lf n328_57)))) ((snd_lf n328_54)))) ((snd_br ((snd_lf n328_51)) ((snd_lf n328_50)))))) ((snd_br ((snd_br ((snd_br ((snd_lf n328_49)) ((snd_lf n328_46)))) ((snd_lf n328_45)))) ((snd_br ((snd_lf n328_44)) ((snd_lf n328_43)))))))) ((snd_br ((snd_br ((snd_br ((snd_br ((snd_lf n328_42)) ((snd_lf n328_41)))) ((snd_lf n328_40)))) ((snd_br ((snd_lf n328_37)) ((snd_lf n328_36)))))) ((snd_br ((snd_br ((snd_br ((snd_lf n328_35)) ((snd_lf n328_34)))) ((snd_lf n328_33)))) ((snd_br ((snd_lf n328_32)) ((snd_lf n328_29)))))))))) ((snd_br ((snd_br ((snd_br ((snd_br ((snd_br ((snd_lf n328_28)) ((snd_lf n328_25)))) ((snd_lf n328_22)))) ((snd_br ((snd_lf n328_21)) ((snd_lf n328_20)))))) ((snd_br ((snd_br ((snd_br ((snd_lf n328_19)) ((snd_lf n328_16)))) ((snd_lf n328_15)))) ((snd_br ((snd_lf n328_14)) ((snd_lf n328_13)))))))) ((snd_br ((snd_br ((snd_br ((snd_br ((snd_lf n328_12)) ((snd_lf n328_9)))) ((snd_lf n328_8)))) ((snd_br ((snd_lf n328_7)) ((snd_lf n328_4)))))) ((snd_br ((snd_br ((snd_lf n328_3)) ((snd_lf n328_2)))) ((snd_br ((snd_lf n328_1)) ((snd_lf n328_0)))))))))))
end
section
variable {G : AG}
theorem n329_0 : Snd mt G 329 0 (oAload 0 1) := w_aload_n (hm := mm329) dX3_has_0
theorem n329_1 : Snd mt G 329 1 (oGetf [4] 47 4) := w_getf (hm := mm329) dX3_has_1 (fok1 (k := 47) (T := TX3) 3 (Nat.le_of_ble_eq_true rfl) vc_3 (Nat.le_of_ble_eq_true rfl) q2452)
theorem n329_4 : Snd mt G 329 4 (oConst (.int 4) 5) := w_iconst (hm := mm329) dX3_has_4 rfl
theorem n329_5 : Snd mt G 329 5 (oIload 1 6) := w_iload_n (hm := mm329) dX3_has_5
theorem n329_6 : Snd mt G 329 6 (oBin (fun x y => x * y) 7) := w_imul (hm := mm329) dX3_has_6
theorem n329_7 : Snd mt G 329 7 (oIload 2 8) := w_iload_n (hm := mm329) dX3_has_7
theorem n329_8 : Snd mt G 329 8 (oBin (fun x y => x + y) 9) := w_iadd (hm := mm329) dX3_has_8
theorem n329_9 : Snd mt G 329 9 (oAld [100] 10) := w_iaload (hm := mm329) (kt := 0) dX3_has_9 at_0 (Nat.le_of_ble_eq_true rfl) (List.forall_mem_cons.mpr ⟨Or.inl rfl, (fun t ht => nomatch ht)⟩)
theorem n329_10 : Snd mt G 329 10 (oConst (.int (-1)) 11) := w_iconst (hm := mm329) dX3_has_10 rfl
theorem n329_11 : Snd mt G 329 11 (oCmpEq 18 14) := w_icmp_eq (hm := mm329) dX3_has_11 rfl
theorem n329_14 : Snd mt G 329 14 (oConst (.int 1) 15) := w_iconst (hm := mm329) dX3_has_14 rfl
theorem n329_15 : Snd mt G 329 15 (oGoto 19) := w_goto (hm := mm329) dX3_has_15 rfl
theorem n329_18 : Snd mt G 329 18 (oConst (.int 0) 19) := w_iconst (hm := mm329) dX3_has_18 rfl
theorem n329_19 : Snd mt G 329 19 (oRetI .boolean) := w_zret (hm := mm329) dX3_has_19 rfl
theorem sj329 : ∀ pc, Snd mt G 329 pc (j329 pc) := fun pc => (snd_br ((snd_br ((snd_br ((snd_br ((snd_lf n329_19)) ((snd_lf n329_18)))) ((snd_br ((snd_lf n329_15)) ((snd_lf n329_14)))))) ((snd_br ((snd_br ((snd_lf n329_11)) ((snd_lf n329_10)))) ((snd_lf n329_9)))))) ((snd_br ((snd_br ((snd_br ((snd_lf n329_8)) ((snd_lf n329_7)))) ((snd_br ((snd_lf n329_6)) ((snd_lf n329_5)))))) ((snd_br ((snd_br ((snd_lf n329_4)) ((snd_lf n329_1)))) ((snd_lf n329_0)))))))
end
section
variable {G : AG}
theorem n330_0 : Snd mt G 330 0 (oAload 0 1) := w_aload_n (hm := mm330) dX3_fittingOf_0
theorem n330_1 : Snd mt G 330 1 (oGetf [4] 49 4) := w_getf (hm := mm330) dX3_fittingOf_1 (fok1 (k := 49) (T := TX3) 3 (Nat.le_of_ble_eq_true rfl) vc_3 (Nat.le_of_ble_eq_true rfl) q2454)
theorem n330_4 : Snd mt G 330 4 (oAload 0 5) := w_aload_n (hm := mm330) dX3_fittingOf_4
theorem n330_5 : Snd mt G 330 5 (oGetf [4] 47 8) := w_getf (hm := mm330) dX3_fittingOf_5 (fok1 (k := 47) (T := TX3) 3 (Nat.le_of_ble_eq_true rfl) vc_3 (Nat.le_of_ble_eq_true rfl) q2452)
theorem n330_8 : Snd mt G 330 8 (oConst (.int 4) 9) := w_iconst (hm := mm330) dX3_fittingOf_8 rfl
theorem n330_9 : Snd mt G 330 9 (oIload 1 10) := w_iload_n (hm := mm330) dX3_fittingOf_9
theorem n330_10 : Snd mt G 330 10 (oBin (fun x y => x * y) 11) := w_imul (hm := mm330) dX3_fittingOf_10
theorem n330_11 : Snd mt G 330 11 (oIload 2 12) := w_iload_n (hm := mm330) dX3_fittingOf_11
theorem n330_12 : Snd mt G 330 12 (oBin (fun x y => x + y) 13) := w_iadd (hm := mm330) dX3_fittingOf_12
theorem n330_13 : Snd mt G 330 13 (oAld [100] 14) := w_iaload (hm := mm330) (kt := 0) dX3_fittingOf_13 at_0 (Nat.le_of_ble_eq_true rfl) (List.forall_mem_cons.mpr ⟨Or.inl rfl, (fun t ht => nomatch ht)⟩)
theorem n330_14 : Snd mt G 330 14 (oAld [106] 15) := w_aaload (hm := mm330) (kt := 6) dX3_fittingOf_14 rfl at_6 (Nat.le_of_ble_eq_true rfl) (List.forall_mem_cons.mpr ⟨Or.inl rfl, (fun t ht => nomatch ht)⟩)
theorem n330_15 : Snd mt G 330 15 (oRetA) := w_aret (hm := mm330) dX3_fittingOf_15 rfl (Or.inr ⟨_, rfl⟩)
theorem sj330 : ∀ pc, Snd mt G 330 pc (j330 pc) := fun pc => (snd_br ((snd_br ((snd_br ((snd_br ((snd_lf n330_15)) ((snd_lf n330_14)))) ((snd_lf n330_13)))) ((snd_br ((snd_br ((snd_lf n330_12)) ((snd_lf n330_11)))) ((snd_lf n330_10)))))) ((snd_br ((snd_br ((snd_br ((snd_lf n330_9)) ((snd_lf n330_8)))) ((snd_lf n330_5)))) ((snd_br ((snd_br ((snd_lf n330_4)) ((snd_lf n330_1)))) ((snd_lf n330_0)))))))
end
section
variable {G : AG}
theorem n331_0 : Snd mt G 331 0 (oAload 0 1) := w_aload_n (hm := mm331) dX3_fitsIt_0
theorem n331_1 : Snd mt G 331 1 (oIload 1 2) := w_iload_n (hm := mm331) dX3_fitsIt_1
theorem n331_2 : Snd mt G 331 2 (oIload 2 3) := w_iload_n (hm := mm331) dX3_fitsIt_2
theorem n331_3 : Snd mt G 331 3 (oIload 3 4) := w_iload_n (hm := mm331) dX3_fitsIt_3
theorem n331_4 : Snd mt G 331 4 (oConst (.int 0) 5) := w_iconst (hm := mm331) dX3_fitsIt_4 rfl
theorem n331_5 : Snd mt G 331 5 (oCall 5 (fV [4] 332 6) 0 8 xOut) := s_callV (m' := 332) (n := 4) xsh_out (w_xok0 mm331) (w_cal mm331 mm332 pn_X3 (Nat.le_of_ble_eq_true rfl) (Nat.le_of_ble_eq_true rfl)) (fun h b as hc hn => w_run_V (ci := 3) mm331 mm332 dX3_fitsIt_5 (Or.inl (List.mem_singleton.mp hc)) (Nat.le_of_ble_eq_true rfl) vc_3 rfl q2822 q2824 qs95 q150 q2825 pa332 hn)
theorem n331_8 : Snd mt G 331 8 (oAload 0 9) := w_aload_n (hm := mm331) dX3_fitsIt_8
theorem n331_9 : Snd mt G 331 9 (oGetf [4] 55 12) := w_getf (hm := mm331) dX3_fitsIt_9 (fok1 (k := 55) (T := TX3) 3 (Nat.le_of_ble_eq_true rfl) vc_3 (Nat.le_of_ble_eq_true rfl) q2460)
theorem n331_12 : Snd mt G 331 12 (oIload 1 13) := w_iload_n (hm := mm331) dX3_fitsIt_12
theorem n331_13 : Snd mt G 331 13 (oAld [106] 14) := w_aaload (hm := mm331) (kt := 6) dX3_fitsIt_13 rfl at_6 (Nat.le_of_ble_eq_true rfl) (List.forall_mem_cons.mpr ⟨Or.inl rfl, (fun t ht => nomatch ht)⟩)
theorem n331_14 : Snd mt G 331 14 (oAload 0 15) := w_aload_n (hm := mm331) dX3_fitsIt_14
theorem n331_15 : Snd mt G 331 15 (oGetf [4] 27 18) := w_getf (hm := mm331) dX3_fitsIt_15 (fok1 (k := 27) (T := TX3) 3 (Nat.le_of_ble_eq_true rfl) vc_3 (Nat.le_of_ble_eq_true rfl) q2432)
theorem n331_18 : Snd mt G 331 18 (oConst (.int 365) 21) := w_sipush (hm := mm331) dX3_fitsIt_18 (by decide)
theorem n331_21 : Snd mt G 331 21 (oDiv (fun x y => x / y) 22) := w_idiv (hm := mm331) dX3_fitsIt_21
theorem n331_22 : Snd mt G 331 22 (oDup2 23) := w_dup2 (hm := mm331) dX3_fitsIt_22
theorem n331_23 : Snd mt G 331 23 (oAld [100] 24) := w_iaload (hm := mm331) (kt := 0) dX3_fitsIt_23 at_0 (Nat.le_of_ble_eq_true rfl) (List.forall_mem_cons.mpr ⟨Or.inl rfl, (fun t ht => nomatch ht)⟩)
theorem n331_24 : Snd mt G 331 24 (oAload 0 25) := w_aload_n (hm := mm331) dX3_fitsIt_24
theorem n331_25 : Snd mt G 331 25 (oGetf [4] 45 28) := w_getf (hm := mm331) dX3_fitsIt_25 (fok1 (k := 45) (T := TX3) 3 (Nat.le_of_ble_eq_true rfl) vc_3 (Nat.le_of_ble_eq_true rfl) q2450)
theorem n331_28 : Snd mt G 331 28 (oIload 2 29) := w_iload_n (hm := mm331) dX3_fitsIt_28
theorem n331_29 : Snd mt G 331 29 (oAld [106] 30) := w_aaload (hm := mm331) (kt := 6) dX3_fitsIt_29 rfl at_6 (Nat.le_of_ble_eq_true rfl) (List.forall_mem_cons.mpr ⟨Or.inl rfl, (fun t ht => nomatch ht)⟩)
theorem n331_30 : Snd mt G 331 30 (oConst (.int 1) 31) := w_iconst (hm := mm331) dX3_fitsIt_30 rfl
theorem n331_31 : Snd mt G 331 31 (oAld [100] 32) := w_iaload (hm := mm331) (kt := 0) dX3_fitsIt_31 at_0 (Nat.le_of_ble_eq_true rfl) (List.forall_mem_cons.mpr ⟨Or.inl rfl, (fun t ht => nomatch ht)⟩)
theorem n331_32 : Snd mt G 331 32 (oBin (fun x y => x + y) 33) := w_iadd (hm := mm331) dX3_fitsIt_32
theorem n331_33 : Snd mt G 331 33 (oIast [100] 34) := w_iastore (hm := mm331) (kt := 0) dX3_fitsIt_33 at_0 (Nat.le_of_ble_eq_true rfl) (List.forall_mem_cons.mpr ⟨rfl, (fun t ht => nomatch ht)⟩)
theorem n331_34 : Snd mt G 331 34 (oAload 0 35) := w_aload_n (hm := mm331) dX3_fitsIt_34
theorem n331_35 : Snd mt G 331 35 (oGetf [4] 55 38) := w_getf (hm := mm331) dX3_fitsIt_35 (fok1 (k := 55) (T := TX3) 3 (Nat.le_of_ble_eq_true rfl) vc_3 (Nat.le_of_ble_eq_true rfl) q2460)
theorem n331_38 : Snd mt G 331 38 (oIload 1 39) := w_iload_n (hm := mm331) dX3_fitsIt_38
theorem n331_39 : Snd mt G 331 39 (oAld [106] 40) := w_aaload (hm := mm331) (kt := 6) dX3_fitsIt_39 rfl at_6 (Nat.le_of_ble_eq_true rfl) (List.forall_mem_cons.mpr ⟨Or.inl rfl, (fun t ht => nomatch ht)⟩)
theorem n331_40 : Snd mt G 331 40 (oAload 0 41) := w_aload_n (hm := mm331) dX3_fitsIt_40
theorem n331_41 : Snd mt G 331 41 (oGetf [4] 27 44) := w_getf (hm := mm331) dX3_fitsIt_41 (fok1 (k := 27) (T := TX3) 3 (Nat.le_of_ble_eq_true rfl) vc_3 (Nat.le_of_ble_eq_true rfl) q2432)
theorem n331_44 : Snd mt G 331 44 (oConst (.int 365) 47) := w_sipush (hm := mm331) dX3_fitsIt_44 (by decide)
theorem n331_47 : Snd mt G 331 47 (oDiv (fun x y => x / y) 48) := w_idiv (hm := mm331) dX3_fitsIt_47
theorem n331_48 : Snd mt G 331 48 (oAld [100] 49) := w_iaload (hm := mm331) (kt := 0) dX3_fitsIt_48 at_0 (Nat.le_of_ble_eq_true rfl) (List.forall_mem_cons.mpr ⟨Or.inl rfl, (fun t ht => nomatch ht)⟩)
theorem n331_49 : Snd mt G 331 49 (oRetI .int) := w_iret (hm := mm331) dX3_fitsIt_49 rfl
theorem sj331 : ∀ pc, Snd mt G 331 pc (j331 pc) := fun pc => (snd_br ((snd_br ((snd_br ((snd_br ((snd_br ((snd_br ((snd_lf n331_49)) ((snd_lf n331_48)))) ((snd_lf n331_47)))) ((snd_br ((snd_lf n331_44)) ((snd_lf n331_41)))))) ((snd_br ((snd_br ((snd_lf n331_40)) ((snd_lf n331_39)))) ((snd_br ((snd_lf n331_38)) ((snd_lf n331_35)))))))) ((snd_br ((snd_br ((snd_br ((snd_lf n331_34)) ((snd_lf n331_33)))) ((snd_br ((snd_lf n331_32)) ((snd_lf n331_31)))))) ((snd_br ((snd_br ((snd_lf n331_30)) ((snd_lf n331_29)))) ((snd_br ((snd_lf n331_28)) ((snd_lf n331_25)))))))))) ((snd_br ((snd_br ((snd_br ((snd_br ((snd_br ((snd_lf n331_24)) ((snd_lf n331_23)))) ((snd_lf n331_22)))) ((snd_br ((snd_lf n331_21)) ((snd_lf n331_18)))))) ((snd_br ((snd_br ((snd_lf n331_15)) ((snd_lf n331_14)))) ((snd_br ((snd_lf n331_13)) ((snd_lf n331_12)))))))) ((snd_br ((snd_br ((snd_br ((snd_lf n331_9)) ((snd_lf n331_8)))) ((snd_br ((snd_lf n331_5)) ((snd_lf n331_4)))))) ((snd_br ((snd_br ((snd_lf n331_3)) ((snd_lf n331_2)))) ((snd_br ((snd_lf n331_1)) ((snd_lf n331_0)))))))))))
end
section
variable {G : AG}
theorem n332_0 : Snd mt G 332 0 (oAload 0 1) := w_aload_n (hm := mm332) dX3_puts_0
theorem n332_1 : Snd mt G 332 1 (oGetf [4] 49 4) := w_getf (hm := mm332) dX3_puts_1 (fok1 (k := 49) (T := TX3) 3 (Nat.le_of_ble_eq_true rfl) vc_3 (Nat.le_of_ble_eq_true rfl) q2454)
theorem n332_4 : Snd mt G 332 4 (oAload 0 5) := w_aload_n (hm := mm332) dX3_puts_4
theorem n332_5 : Snd mt G 332 5 (oGetf [4] 40 8) := w_getf (hm := mm332) dX3_puts_5 (fok1 (k := 40) (T := TX3) 3 (Nat.le_of_ble_eq_true rfl) vc_3 (Nat.le_of_ble_eq_true rfl) q2445)
theorem n332_8 : Snd mt G 332 8 (oAld [106] 9) := w_aaload (hm := mm332) (kt := 6) dX3_puts_8 rfl at_6 (Nat.le_of_ble_eq_true rfl) (List.forall_mem_cons.mpr ⟨Or.inl rfl, (fun t ht => nomatch ht)⟩)
theorem n332_9 : Snd mt G 332 9 (oAstore 5 11) := w_astore (hm := mm332) dX3_puts_9 (Nat.le_of_ble_eq_true rfl)
theorem n332_11 : Snd mt G 332 11 (oAload 5 13) := w_aload (hm := mm332) dX3_puts_11
theorem n332_13 : Snd mt G 332 13 (oConst (.int 0) 14) := w_iconst (hm := mm332) dX3_puts_13 rfl
theorem n332_14 : Snd mt G 332 14 (oIload 2 15) := w_iload_n (hm := mm332) dX3_puts_14
theorem n332_15 : Snd mt G 332 15 (oIast [100] 16) := w_iastore (hm := mm332) (kt := 0) dX3_puts_15 at_0 (Nat.le_of_ble_eq_true rfl) (List.forall_mem_cons.mpr ⟨rfl, (fun t ht => nomatch ht)⟩)
theorem n332_16 : Snd mt G 332 16 (oAload 5 18) := w_aload (hm := mm332) dX3_puts_16
theorem n332_18 : Snd mt G 332 18 (oConst (.int 1) 19) := w_iconst (hm := mm332) dX3_puts_18 rfl
theorem n332_19 : Snd mt G 332 19 (oIload 3 20) := w_iload_n (hm := mm332) dX3_puts_19
theorem n332_20 : Snd mt G 332 20 (oIast [100] 21) := w_iastore (hm := mm332) (kt := 0) dX3_puts_20 at_0 (Nat.le_of_ble_eq_true rfl) (List.forall_mem_cons.mpr ⟨rfl, (fun t ht => nomatch ht)⟩)
theorem n332_21 : Snd mt G 332 21 (oAload 5 23) := w_aload (hm := mm332) dX3_puts_21
theorem n332_23 : Snd mt G 332 23 (oConst (.int 2) 24) := w_iconst (hm := mm332) dX3_puts_23 rfl
theorem n332_24 : Snd mt G 332 24 (oAload 0 25) := w_aload_n (hm := mm332) dX3_puts_24
theorem n332_25 : Snd mt G 332 25 (oGetf [4] 27 28) := w_getf (hm := mm332) dX3_puts_25 (fok1 (k := 27) (T := TX3) 3 (Nat.le_of_ble_eq_true rfl) vc_3 (Nat.le_of_ble_eq_true rfl) q2432)
theorem n332_28 : Snd mt G 332 28 (oIast [100] 29) := w_iastore (hm := mm332) (kt := 0) dX3_puts_28 at_0 (Nat.le_of_ble_eq_true rfl) (List.forall_mem_cons.mpr ⟨rfl, (fun t ht => nomatch ht)⟩)
theorem n332_29 : Snd mt G 332 29 (oAload 5 31) := w_aload (hm := mm332) dX3_puts_29
theorem n332_31 : Snd mt G 332 31 (oConst (.int 3) 32) := w_iconst (hm := mm332) dX3_puts_31 rfl
theorem n332_32 : Snd mt G 332 32 (oIload 4 34) := w_iload (hm := mm332) dX3_puts_32
theorem n332_34 : Snd mt G 332 34 (oIast [100] 35) := w_iastore (hm := mm332) (kt := 0) dX3_puts_34 at_0 (Nat.le_of_ble_eq_true rfl) (List.forall_mem_cons.mpr ⟨rfl, (fun t ht => nomatch ht)⟩)
theorem n332_35 : Snd mt G 332 35 (oAload 5 37) := w_aload (hm := mm332) dX3_puts_35
theorem n332_37 : Snd mt G 332 37 (oConst (.int 4) 38) := w_iconst (hm := mm332) dX3_puts_37 rfl
theorem n332_38 : Snd mt G 332 38 (oAload 0 39) := w_aload_n (hm := mm332) dX3_puts_38
theorem n332_39 : Snd mt G 332 39 (oIload 1 40) := w_iload_n (hm := mm332) dX3_puts_39
theorem n332_40 : Snd mt G 332 40 (oAload 0 41) := w_aload_n (hm := mm332) dX3_puts_40
theorem n332_41 : Snd mt G 332 41 (oGetf [4] 27 44) := w_getf (hm := mm332) dX3_puts_41 (fok1 (k := 27) (T := TX3) 3 (Nat.le_of_ble_eq_true rfl) vc_3 (Nat.le_of_ble_eq_true rfl) q2432)
theorem n332_44 : Snd mt G 332 44 (oCall 3 (fV [4] 317 3) 0 47 xOut) := s_callV (m' := 317) (n := 2) xsh_out (w_xok0 mm332) (w_cal mm332 mm317 pn_X3 (Nat.le_of_ble_eq_true rfl) (Nat.le_of_ble_eq_true rfl)) (fun h b as hc hn => w_run_V (ci := 3) mm332 mm317 dX3_puts_44 (Or.inl (List.mem_singleton.mp hc)) (Nat.le_of_ble_eq_true rfl) vc_3 rfl q2762 q2764 qs85 q150 q2765 pa317 hn)
theorem n332_47 : Snd mt G 332 47 (oIast [100] 48) := w_iastore (hm := mm332) (kt := 0) dX3_puts_47 at_0 (Nat.le_of_ble_eq_true rfl) (List.forall_mem_cons.mpr ⟨rfl, (fun t ht => nomatch ht)⟩)
theorem n332_48 : Snd mt G 332 48 (oAload 5 50) := w_aload (hm := mm332) dX3_puts_48
theorem n332_50 : Snd mt G 332 50 (oConst (.int 5) 51) := w_iconst (hm := mm332) dX3_puts_50 rfl
theorem n332_51 : Snd mt G 332 51 (oIload 1 52) := w_iload_n (hm := mm332) dX3_puts_51
theorem n332_52 : Snd mt G 332 52 (oIast [100] 53) := w_iastore (hm := mm332) (kt := 0) dX3_puts_52 at_0 (Nat.le_of_ble_eq_true rfl) (List.forall_mem_cons.mpr ⟨rfl, (fun t ht => nomatch ht)⟩)
theorem n332_53 : Snd mt G 332 53 (oAload 5 55) := w_aload (hm := mm332) dX3_puts_53
theorem n332_55 : Snd mt G 332 55 (oConst (.int 6) 57) := w_bipush (hm := mm332) dX3_puts_55 (by decide)
theorem n332_57 : Snd mt G 332 57 (oAload 0 58) := w_aload_n (hm := mm332) dX3_puts_57
theorem n332_58 : Snd mt G 332 58 (oGetf [4] 45 61) := w_getf (hm := mm332) dX3_puts_58 (fok1 (k := 45) (T := TX3) 3 (Nat.le_of_ble_eq_true rfl) vc_3 (Nat.le_of_ble_eq_true rfl) q2450)
theorem n332_61 : Snd mt G 332 61 (oIload 2 62) := w_iload_n (hm := mm332) dX3_puts_61
theorem n332_62 : Snd mt G 332 62 (oAld [106] 63) := w_aaload (hm := mm332) (kt := 6) dX3_puts_62 rfl at_6 (Nat.le_of_ble_eq_true rfl) (List.forall_mem_cons.mpr ⟨Or.inl rfl, (fun t ht => nomatch ht)⟩)
theorem n332_63 : Snd mt G 332 63 (oConst (.int 0) 64) := w_iconst (hm := mm332) dX3_puts_63 rfl
theorem n332_64 : Snd mt G 332 64 (oAld [100] 65) := w_iaload (hm := mm332) (kt := 0) dX3_puts_64 at_0 (Nat.le_of_ble_eq_true rfl) (List.forall_mem_cons.mpr ⟨Or.inl rfl, (fun t ht => nomatch ht)⟩)
theorem n332_65 : Snd mt G 332 65 (oIast [100] 66) := w_iastore (hm := mm332) (kt := 0) dX3_puts_65 at_0 (Nat.le_of_ble_eq_true rfl) (List.forall_mem_cons.mpr ⟨rfl, (fun t ht => nomatch ht)⟩)
theorem n332_66 : Snd mt G 332 66 (oAload 5 68) := w_aload (hm := mm332) dX3_puts_66
theorem n332_68 : Snd mt G 332 68 (oConst (.int 7) 70) := w_bipush (hm := mm332) dX3_puts_68 (by decide)
theorem n332_70 : Snd mt G 332 70 (oAload 0 71) := w_aload_n (hm := mm332) dX3_puts_70
theorem n332_71 : Snd mt G 332 71 (oGetf [4] 41 74) := w_getf (hm := mm332) dX3_puts_71 (fok1 (k := 41) (T := TX3) 3 (Nat.le_of_ble_eq_true rfl) vc_3 (Nat.le_of_ble_eq_true rfl) q2446)
theorem n332_74 : Snd mt G 332 74 (oIast [100] 75) := w_iastore (hm := mm332) (kt := 0) dX3_puts_74 at_0 (Nat.le_of_ble_eq_true rfl) (List.forall_mem_cons.mpr ⟨rfl, (fun t ht => nomatch ht)⟩)
theorem n332_75 : Snd mt G 332 75 (oAload 5 77) := w_aload (hm := mm332) dX3_puts_75
theorem n332_77 : Snd mt G 332 77 (oConst (.int 8) 79) := w_bipush (hm := mm332) dX3_puts_77 (by decide)
theorem n332_79 : Snd mt G 332 79 (oConst (.int (-1)) 80) := w_iconst (hm := mm332) dX3_puts_79 rfl
theorem n332_80 : Snd mt G 332 80 (oIast [100] 81) := w_iastore (hm := mm332) (kt := 0) dX3_puts_80 at_0 (Nat.le_of_ble_eq_true rfl) (List.forall_mem_cons.mpr ⟨rfl, (fun t ht => nomatch ht)⟩)
theorem n332_81 : Snd mt G 332 81 (oAload 0 82) := w_aload_n (hm := mm332) dX3_puts_81
theorem n332_82 : Snd mt G 332 82 (oGetf [4] 47 85) := w_getf (hm := mm332) dX3_puts_82 (fok1 (k := 47) (T := TX3) 3 (Nat.le_of_ble_eq_true rfl) vc_3 (Nat.le_of_ble_eq_true rfl) q2452)
theorem n332_85 : Snd mt G 332 85 (oConst (.int 4) 86) := w_iconst (hm := mm332) dX3_puts_85 rfl
theorem n332_86 : Snd mt G 332 86 (oIload 1 87) := w_iload_n (hm := mm332) dX3_puts_86
theorem n332_87 : Snd mt G 332 87 (oBin (fun x y => x * y) 88) := w_imul (hm := mm332) dX3_puts_87
theorem n332_88 : Snd mt G 332 88 (oAload 0 89) := w_aload_n (hm := mm332) dX3_puts_88
theorem n332_89 : Snd mt G 332 89 (oGetf [4] 45 92) := w_getf (hm := mm332) dX3_puts_89 (fok1 (k := 45) (T := TX3) 3 (Nat.le_of_ble_eq_true rfl) vc_3 (Nat.le_of_ble_eq_true rfl) q2450)
theorem n332_92 : Snd mt G 332 92 (oIload 2 93) := w_iload_n (hm := mm332) dX3_puts_92
theorem n332_93 : Snd mt G 332 93 (oAld [106] 94) := w_aaload (hm := mm332) (kt := 6) dX3_puts_93 rfl at_6 (Nat.le_of_ble_eq_true rfl) (List.forall_mem_cons.mpr ⟨Or.inl rfl, (fun t ht => nomatch ht)⟩)
theorem n332_94 : Snd mt G 332 94 (oConst (.int 0) 95) := w_iconst (hm := mm332) dX3_puts_94 rfl
theorem n332_95 : Snd mt G 332 95 (oAld [100] 96) := w_iaload (hm := mm332) (kt := 0) dX3_puts_95 at_0 (Nat.le_of_ble_eq_true rfl) (List.forall_mem_cons.mpr ⟨Or.inl rfl, (fun t ht => nomatch ht)⟩)
theorem n332_96 : Snd mt G 332 96 (oBin (fun x y => x + y) 97) := w_iadd (hm := mm332) dX3_puts_96
theorem n332_97 : Snd mt G 332 97 (oAload 0 98) := w_aload_n (hm := mm332) dX3_puts_97
theorem n332_98 : Snd mt G 332 98 (oGetf [4] 40 101) := w_getf (hm := mm332) dX3_puts_98 (fok1 (k := 40) (T := TX3) 3 (Nat.le_of_ble_eq_true rfl) vc_3 (Nat.le_of_ble_eq_true rfl) q2445)
theorem n332_101 : Snd mt G 332 101 (oIast [100] 102) := w_iastore (hm := mm332) (kt := 0) dX3_puts_101 at_0 (Nat.le_of_ble_eq_true rfl) (List.forall_mem_cons.mpr ⟨rfl, (fun t ht => nomatch ht)⟩)
theorem n332_102 : Snd mt G 332 102 (oAload 0 103) := w_aload_n (hm := mm332) dX3_puts_102
theorem n332_103 : Snd mt G 332 103 (oDup 104) := w_dup (hm := mm332) dX3_puts_103
theorem n332_104 : Snd mt G 332 104 (oGetf [4] 40 107) := w_getf (hm := mm332) dX3_puts_104 (fok1 (k := 40) (T := TX3) 3 (Nat.le_of_ble_eq_true rfl) vc_3 (Nat.le_of_ble_eq_true rfl) q2445)
theorem n332_107 : Snd mt G 332 107 (oConst (.int 1) 108) := w_iconst (hm := mm332) dX3_puts_107 rfl
theorem n332_108 : Snd mt G 332 108 (oBin (fun x y => x + y) 109) := w_iadd (hm := mm332) dX3_puts_108
theorem n332_109 : Snd mt G 332 109 (oPutf [4] 40 .int 112) := w_putf (hm := mm332) dX3_puts_109 (pok1 (k := 40) (T := TX3) 3 (Nat.le_of_ble_eq_true rfl) vc_3 (Nat.le_of_ble_eq_true rfl) rfl pd_X3_40 q2445)
theorem n332_112 : Snd mt G 332 112 (oRetV) := w_vret (hm := mm332) dX3_puts_112 rfl
theorem sj332 : ∀ pc, Snd mt G 332 pc (j332 pc) := fun pc => (snd_br ((snd_br ((snd_br ((snd_br ((snd_br ((snd_br ((snd_br ((snd_lf n332_112)) ((snd_lf n332_109)))) ((snd_lf n332_108)))) ((snd_br ((snd_lf n332_107)) ((snd_lf n332_104)))))) ((snd_br ((snd_br ((snd_br ((snd_lf n332_103)) ((snd_lf n332_102)))) ((snd_lf n332_101)))) ((snd_br ((snd_lf n332_98)) ((snd_lf n332_97)))))))) ((snd_br ((snd_br ((snd_br ((snd_br ((snd_lf n332_96)) ((snd_lf n332_95)))) ((snd_lf n332_94)))) ((snd_br ((snd_lf n332_93)) ((snd_lf n332_92)))))) ((snd_br ((snd_br ((snd_lf n332_89)) ((snd_lf n332_88)))) ((snd_br ((snd_lf n332_87)) ((snd_lf n332_86)))))))))) ((snd_br ((snd_br ((snd_br ((snd_br ((snd_br ((snd_lf n332_85)) ((snd_lf n332_82)))) ((snd_lf n332_81)))) ((snd_br ((snd_lf n332_80)) ((snd_lf n332_79)))))) ((snd_br ((snd_br ((snd_br ((snd_lf n332_77)) ((snd_lf n332_75)))) ((snd_lf n332_74)))) ((snd_br ((snd_lf n332_71)) ((snd_lf n332_70)))))))) ((snd_br ((snd_br ((snd_br ((snd_br ((snd_lf n332_68)) ((snd_lf n332_66)))) ((snd_lf n332_65)))) ((snd_br ((snd_lf n332_64)) ((snd_lf n332_63)))))) ((snd_br ((snd_br ((snd_lf n332_62)) ((snd_lf n332_61)))) ((snd_br ((snd_lf n332_58)) ((snd_lf n332_57)))))))))))) ((snd_br ((snd_br ((snd_br ((snd_br ((snd_br ((snd_br ((snd_lf n332_55)) ((snd_lf n332_53)))) ((snd_lf n332_52)))) ((snd_br ((snd_lf n332_51)) ((snd_lf n332_50)))))) ((snd_br ((snd_br ((snd_br ((snd_lf n332_48)) ((snd_lf n332_47)))) ((snd_lf n332_44)))) ((snd_br ((snd_lf n332_41)) ((snd_lf n332_40)))))))) ((snd_br ((snd_br ((snd_br ((snd_br ((snd_lf n332_39)) ((snd_lf n332_38)))) ((snd_lf n332_37)))) ((snd_br ((snd_lf n332_35)) ((snd_lf n332_34)))))) ((snd_br ((snd_br ((snd_lf n332_32)) ((snd_lf n332_31)))) ((snd_br ((snd_lf n332_29)) ((snd_lf n332_28)))))))))) ((snd_br ((snd_br ((snd_br ((snd_br ((snd_br ((snd_lf n332_25)) ((snd_lf n332_24)))) ((snd_lf n332_23)))) ((snd_br ((snd_lf n332_21)) ((snd_lf n332_20)))))) ((snd_br ((snd_br ((snd_lf n332_19)) ((snd_lf n332_18)))) ((snd_br ((snd_lf n332_16)) ((snd_lf n332_15)))))))) ((snd_br ((snd_br ((snd_br ((snd_br ((snd_lf n332_14)) ((snd_lf n332_13)))) ((snd_lf n332_11)))) ((snd_br ((snd_lf n332_9)) ((snd_lf n332_8)))))) ((snd_br ((snd_br ((snd_lf n332_5)) ((snd_lf n332_4)))) ((snd_br ((snd_lf n332_1)) ((snd_lf n332_0)))))))))))))
end
section
variable {G : AG}
theorem n333_0 : Snd mt G 333 0 (oAload 0 1) := w_aload_n (hm := mm333) dX3_take_0
theorem n333_1 : Snd mt G 333 1 (oConst (.int 0) 2) := w_iconst (hm := mm333) dX3_take_1 rfl
theorem n333_2 : Snd mt G 333 2 (oPutf [4] 0 .int 5) := w_putf (hm := mm333) dX3_take_2 (pok1 (k := 0) (T := TX3) 3 (Nat.le_of_ble_eq_true rfl) vc_3 (Nat.le_of_ble_eq_true rfl) rfl pd_X3_0 q2405)
theorem n333_5 : Snd mt G 333 5 (oAload 0 6) := w_aload_n (hm := mm333) dX3_take_5
theorem n333_6 : Snd mt G 333 6 (oIload 1 7) := w_iload_n (hm := mm333) dX3_take_6
theorem n333_7 : Snd mt G 333 7 (oIload 2 8) := w_iload_n (hm := mm333) dX3_take_7
theorem n333_8 : Snd mt G 333 8 (oIload 3 9) := w_iload_n (hm := mm333) dX3_take_8
theorem n333_9 : Snd mt G 333 9 (oCall 4 (fV [4] 326 4) 0 12 xOut) := s_callV (m' := 326) (n := 3) xsh_out (w_xok0 mm333) (w_cal mm333 mm326 pn_X3 (Nat.le_of_ble_eq_true rfl) (Nat.le_of_ble_eq_true rfl)) (fun h b as hc hn => w_run_V (ci := 3) mm333 mm326 dX3_take_9 (Or.inl (List.mem_singleton.mp hc)) (Nat.le_of_ble_eq_true rfl) vc_3 rfl q2798 q2800 qs89 q150 q2801 pa326 hn)
theorem n333_12 : Snd mt G 333 12 (oIfEq 17 15) := w_if_eq (hm := mm333) dX3_take_12 rfl
theorem n333_15 : Snd mt G 333 15 (oConst (.int 0) 16) := w_iconst (hm := mm333) dX3_take_15 rfl
theorem n333_16 : Snd mt G 333 16 (oRetI .int) := w_iret (hm := mm333) dX3_take_16 rfl
theorem n333_17 : Snd mt G 333 17 (oAload 0 18) := w_aload_n (hm := mm333) dX3_take_17
theorem n333_18 : Snd mt G 333 18 (oIload 1 19) := w_iload_n (hm := mm333) dX3_take_18
theorem n333_19 : Snd mt G 333 19 (oIload 2 20) := w_iload_n (hm := mm333) dX3_take_19
theorem n333_20 : Snd mt G 333 20 (oCall 3 (fV [4] 327 3) 0 23 xOut) := s_callV (m' := 327) (n := 2) xsh_out (w_xok0 mm333) (w_cal mm333 mm327 pn_X3 (Nat.le_of_ble_eq_true rfl) (Nat.le_of_ble_eq_true rfl)) (fun h b as hc hn => w_run_V (ci := 3) mm333 mm327 dX3_take_20 (Or.inl (List.mem_singleton.mp hc)) (Nat.le_of_ble_eq_true rfl) vc_3 rfl q2802 q2804 qs90 q150 q2805 pa327 hn)
theorem n333_23 : Snd mt G 333 23 (oIstore 4 25) := w_istore (hm := mm333) dX3_take_23 (Nat.le_of_ble_eq_true rfl)
theorem n333_25 : Snd mt G 333 25 (oIload 4 27) := w_iload (hm := mm333) dX3_take_25
theorem n333_27 : Snd mt G 333 27 (oIfGe 33 30) := w_if_ge (hm := mm333) dX3_take_27 rfl
theorem n333_30 : Snd mt G 333 30 (oIload 4 32) := w_iload (hm := mm333) dX3_take_30
theorem n333_32 : Snd mt G 333 32 (oRetI .int) := w_iret (hm := mm333) dX3_take_32 rfl
theorem n333_33 : Snd mt G 333 33 (oAload 0 34) := w_aload_n (hm := mm333) dX3_take_33
theorem n333_34 : Snd mt G 333 34 (oGetf [4] 52 37) := w_getf (hm := mm333) dX3_take_34 (fok1 (k := 52) (T := TX3) 3 (Nat.le_of_ble_eq_true rfl) vc_3 (Nat.le_of_ble_eq_true rfl) q2457)
theorem n333_37 : Snd mt G 333 37 (oIload 2 38) := w_iload_n (hm := mm333) dX3_take_37
theorem n333_38 : Snd mt G 333 38 (oAld [100] 39) := w_iaload (hm := mm333) (kt := 0) dX3_take_38 at_0 (Nat.le_of_ble_eq_true rfl) (List.forall_mem_cons.mpr ⟨Or.inl rfl, (fun t ht => nomatch ht)⟩)
theorem n333_39 : Snd mt G 333 39 (oIfEq 42 45) := w_if_ne (hm := mm333) dX3_take_39 rfl
theorem n333_42 : Snd mt G 333 42 (oConst (.int (-3)) 44) := w_bipush (hm := mm333) dX3_take_42 (by decide)
theorem n333_44 : Snd mt G 333 44 (oRetI .int) := w_iret (hm := mm333) dX3_take_44 rfl
theorem n333_45 : Snd mt G 333 45 (oAload 0 46) := w_aload_n (hm := mm333) dX3_take_45
theorem n333_46 : Snd mt G 333 46 (oGetf [4] 40 49) := w_getf (hm := mm333) dX3_take_46 (fok1 (k := 40) (T := TX3) 3 (Nat.le_of_ble_eq_true rfl) vc_3 (Nat.le_of_ble_eq_true rfl) q2445)
theorem n333_49 : Snd mt G 333 49 (oConst (.int 200) 52) := w_sipush (hm := mm333) dX3_take_49 (by decide)
theorem n333_52 : Snd mt G 333 52 (oCmpEq 55 58) := w_icmp_ne (hm := mm333) dX3_take_52 rfl
theorem n333_55 : Snd mt G 333 55 (oConst (.int (-4)) 57) := w_bipush (hm := mm333) dX3_take_55 (by decide)
theorem n333_57 : Snd mt G 333 57 (oRetI .int) := w_iret (hm := mm333) dX3_take_57 rfl
theorem n333_58 : Snd mt G 333 58 (oAload 0 59) := w_aload_n (hm := mm333) dX3_take_58
theorem n333_59 : Snd mt G 333 59 (oGetf [4] 52 62) := w_getf (hm := mm333) dX3_take_59 (fok1 (k := 52) (T := TX3) 3 (Nat.le_of_ble_eq_true rfl) vc_3 (Nat.le_of_ble_eq_true rfl) q2457)
theorem n333_62 : Snd mt G 333 62 (oIload 2 63) := w_iload_n (hm := mm333) dX3_take_62
theorem n333_63 : Snd mt G 333 63 (oDup2 64) := w_dup2 (hm := mm333) dX3_take_63
theorem n333_64 : Snd mt G 333 64 (oAld [100] 65) := w_iaload (hm := mm333) (kt := 0) dX3_take_64 at_0 (Nat.le_of_ble_eq_true rfl) (List.forall_mem_cons.mpr ⟨Or.inl rfl, (fun t ht => nomatch ht)⟩)
theorem n333_65 : Snd mt G 333 65 (oConst (.int 1) 66) := w_iconst (hm := mm333) dX3_take_65 rfl
theorem n333_66 : Snd mt G 333 66 (oBin (fun x y => x - y) 67) := w_isub (hm := mm333) dX3_take_66
theorem n333_67 : Snd mt G 333 67 (oIast [100] 68) := w_iastore (hm := mm333) (kt := 0) dX3_take_67 at_0 (Nat.le_of_ble_eq_true rfl) (List.forall_mem_cons.mpr ⟨rfl, (fun t ht => nomatch ht)⟩)
theorem n333_68 : Snd mt G 333 68 (oAload 0 69) := w_aload_n (hm := mm333) dX3_take_68
theorem n333_69 : Snd mt G 333 69 (oIload 1 70) := w_iload_n (hm := mm333) dX3_take_69
theorem n333_70 : Snd mt G 333 70 (oIload 2 71) := w_iload_n (hm := mm333) dX3_take_70
theorem n333_71 : Snd mt G 333 71 (oIload 3 72) := w_iload_n (hm := mm333) dX3_take_71
theorem n333_72 : Snd mt G 333 72 (oCall 4 (fV [4] 331 4) 0 75 xOut) := s_callV (m' := 331) (n := 3) xsh_out (w_xok0 mm333) (w_cal mm333 mm331 pn_X3 (Nat.le_of_ble_eq_true rfl) (Nat.le_of_ble_eq_true rfl)) (fun h b as hc hn => w_run_V (ci := 3) mm333 mm331 dX3_take_72 (Or.inl (List.mem_singleton.mp hc)) (Nat.le_of_ble_eq_true rfl) vc_3 rfl q2818 q2820 qs94 q150 q2821 pa331 hn)
theorem n333_75 : Snd mt G 333 75 (oRetI .int) := w_iret (hm := mm333) dX3_take_75 rfl
theorem sj333 : ∀ pc, Snd mt G 333 pc (j333 pc) := fun pc => (snd_br ((snd_br ((snd_br ((snd_br ((snd_br ((snd_br ((snd_lf n333_75)) ((snd_lf n333_72)))) ((snd_lf n333_71)))) ((snd_br ((snd_br ((snd_lf n333_70)) ((snd_lf n333_69)))) ((snd_lf n333_68)))))) ((snd_br ((snd_br ((snd_br ((snd_lf n333_67)) ((snd_lf n333_66)))) ((snd_lf n333_65)))) ((snd_br ((snd_br ((snd_lf n333_64)) ((snd_lf n333_63)))) ((snd_lf n333_62)))))))) ((snd_br ((snd_br ((snd_br ((snd_br ((snd_lf n333_59)) ((snd_lf n333_58)))) ((snd_lf n333_57)))) ((snd_br ((snd_br ((snd_lf n333_55)) ((snd_lf n333_52)))) ((snd_lf n333_49)))))) ((snd_br ((snd_br ((snd_br ((snd_lf n333_46)) ((snd_lf n333_45)))) ((snd_lf n333_44)))) ((snd_br ((snd_br ((snd_lf n333_42)) ((snd_lf n333_39)))) ((snd_lf n333_38)))))))))) ((snd_br ((snd_br ((snd_br ((snd_br ((snd_br ((snd_lf n333_37)) ((snd_lf n333_34)))) ((snd_lf n333_33)))) ((snd_br ((snd_br ((snd_lf n333_32)) ((snd_lf n333_30)))) ((snd_lf n333_27)))))) ((snd_br ((snd_br ((snd_br ((snd_lf n333_25)) ((snd_lf n333_23)))) ((snd_lf n333_20)))) ((snd_br ((snd_br ((snd_lf n333_19)) ((snd_lf n333_18)))) ((snd_lf n333_17)))))))) ((snd_br ((snd_br ((snd_br ((snd_br ((snd_lf n333_16)) ((snd_lf n333_15)))) ((snd_lf n333_12)))) ((snd_br ((snd_br ((snd_lf n333_9)) ((snd_lf n333_8)))) ((snd_lf n333_7)))))) ((snd_br ((snd_br ((snd_br ((snd_lf n333_6)) ((snd_lf n333_5)))) ((snd_lf n333_2)))) ((snd_br ((snd_lf n333_1)) ((snd_lf n333_0)))))))))))
end
section
variable {G : AG}
theorem n334_0 : Snd mt G 334 0 (oAload 0 1) := w_aload_n (hm := mm334) dX3_part_0
theorem n334_1 : Snd mt G 334 1 (oConst (.int 0) 2) := w_iconst (hm := mm334) dX3_part_1 rfl
theorem n334_2 : Snd mt G 334 2 (oPutf [4] 0 .int 5) := w_putf (hm := mm334) dX3_part_2 (pok1 (k := 0) (T := TX3) 3 (Nat.le_of_ble_eq_true rfl) vc_3 (Nat.le_of_ble_eq_true rfl) rfl pd_X3_0 q2405)
theorem n334_5 : Snd mt G 334 5 (oAload 0 6) := w_aload_n (hm := mm334) dX3_part_5
theorem n334_6 : Snd mt G 334 6 (oAload 0 7) := w_aload_n (hm := mm334) dX3_part_6
theorem n334_7 : Snd mt G 334 7 (oIload 1 8) := w_iload_n (hm := mm334) dX3_part_7
theorem n334_8 : Snd mt G 334 8 (oCall 2 (fV [4] 316 2) 0 11 xOut) := s_callV (m' := 316) (n := 1) xsh_out (w_xok0 mm334) (w_cal mm334 mm316 pn_X3 (Nat.le_of_ble_eq_true rfl) (Nat.le_of_ble_eq_true rfl)) (fun h b as hc hn => w_run_V (ci := 3) mm334 mm316 dX3_part_8 (Or.inl (List.mem_singleton.mp hc)) (Nat.le_of_ble_eq_true rfl) vc_3 rfl q2758 q2760 qs84 q150 q2761 pa316 hn)
theorem n334_11 : Snd mt G 334 11 (oIfEq 14 18) := w_if_ne (hm := mm334) dX3_part_11 rfl
theorem n334_14 : Snd mt G 334 14 (oConst (.int 1) 15) := w_iconst (hm := mm334) dX3_part_14 rfl
theorem n334_15 : Snd mt G 334 15 (oGoto 19) := w_goto (hm := mm334) dX3_part_15 rfl
theorem n334_18 : Snd mt G 334 18 (oConst (.int 0) 19) := w_iconst (hm := mm334) dX3_part_18 rfl
theorem n334_19 : Snd mt G 334 19 (oConst (.int 1) 20) := w_iconst (hm := mm334) dX3_part_19 rfl
theorem n334_20 : Snd mt G 334 20 (oCall 3 (fV [4] 285 3) 0 23 xOut) := s_callV (m' := 285) (n := 2) xsh_out (w_xok0 mm334) (w_cal mm334 mm285 pn_X3 (Nat.le_of_ble_eq_true rfl) (Nat.le_of_ble_eq_true rfl)) (fun h b as hc hn => w_run_V (ci := 3) mm334 mm285 dX3_part_20 (Or.inl (List.mem_singleton.mp hc)) (Nat.le_of_ble_eq_true rfl) vc_3 rfl q2634 q2636 qs62 q150 q2637 pa285 hn)
theorem n334_23 : Snd mt G 334 23 (oIfEq 26 57) := w_if_ne (hm := mm334) dX3_part_23 rfl
theorem n334_26 : Snd mt G 334 26 (oAload 0 27) := w_aload_n (hm := mm334) dX3_part_26
theorem n334_27 : Snd mt G 334 27 (oIload 2 28) := w_iload_n (hm := mm334) dX3_part_27
theorem n334_28 : Snd mt G 334 28 (oConst (.int 0) 29) := w_iconst (hm := mm334) dX3_part_28 rfl
theorem n334_29 : Snd mt G 334 29 (oConst (.int 3) 30) := w_iconst (hm := mm334) dX3_part_29 rfl
theorem n334_30 : Snd mt G 334 30 (oCall 3 (fS 284 3) 0 33 xOut) := s_callS (m' := 284) (n := 3) xsh_out (w_xok0 mm334) (w_cal mm334 mm284 pn_X3 (Nat.le_of_ble_eq_true rfl) (Nat.le_of_ble_eq_true rfl)) (fun h as hn => w_run_S mm334 mm284 dX3_part_30 q2631 q2632 q150 q2633 pa284 hn)
theorem n334_33 : Snd mt G 334 33 (oIfEq 45 36) := w_if_eq (hm := mm334) dX3_part_33 rfl
theorem n334_36 : Snd mt G 334 36 (oIload 3 37) := w_iload_n (hm := mm334) dX3_part_36
theorem n334_37 : Snd mt G 334 37 (oConst (.int 0) 38) := w_iconst (hm := mm334) dX3_part_37 rfl
theorem n334_38 : Snd mt G 334 38 (oConst (.int 4) 39) := w_iconst (hm := mm334) dX3_part_38 rfl
theorem n334_39 : Snd mt G 334 39 (oCall 3 (fS 284 3) 0 42 xOut) := s_callS (m' := 284) (n := 3) xsh_out (w_xok0 mm334) (w_cal mm334 mm284 pn_X3 (Nat.le_of_ble_eq_true rfl) (Nat.le_of_ble_eq_true rfl)) (fun h as hn => w_run_S mm334 mm284 dX3_part_39 q2631 q2632 q150 q2633 pa284 hn)
theorem n334_42 : Snd mt G 334 42 (oIfEq 45 49) := w_if_ne (hm := mm334) dX3_part_42 rfl
theorem n334_45 : Snd mt G 334 45 (oConst (.int 1) 46) := w_iconst (hm := mm334) dX3_part_45 rfl
theorem n334_46 : Snd mt G 334 46 (oGoto 50) := w_goto (hm := mm334) dX3_part_46 rfl
theorem n334_49 : Snd mt G 334 49 (oConst (.int 0) 50) := w_iconst (hm := mm334) dX3_part_49 rfl
theorem n334_50 : Snd mt G 334 50 (oConst (.int 2) 51) := w_iconst (hm := mm334) dX3_part_50 rfl
theorem n334_51 : Snd mt G 334 51 (oCall 3 (fV [4] 285 3) 0 54 xOut) := s_callV (m' := 285) (n := 2) xsh_out (w_xok0 mm334) (w_cal mm334 mm285 pn_X3 (Nat.le_of_ble_eq_true rfl) (Nat.le_of_ble_eq_true rfl)) (fun h b as hc hn => w_run_V (ci := 3) mm334 mm285 dX3_part_51 (Or.inl (List.mem_singleton.mp hc)) (Nat.le_of_ble_eq_true rfl) vc_3 rfl q2634 q2636 qs62 q150 q2637 pa285 hn)
theorem n334_54 : Snd mt G 334 54 (oIfEq 59 57) := w_if_eq (hm := mm334) dX3_part_54 rfl
theorem n334_57 : Snd mt G 334 57 (oConst (.int 0) 58) := w_iconst (hm := mm334) dX3_part_57 rfl
theorem n334_58 : Snd mt G 334 58 (oRetI .int) := w_iret (hm := mm334) dX3_part_58 rfl
theorem n334_59 : Snd mt G 334 59 (oAload 0 60) := w_aload_n (hm := mm334) dX3_part_59
theorem n334_60 : Snd mt G 334 60 (oIload 1 61) := w_iload_n (hm := mm334) dX3_part_60
theorem n334_61 : Snd mt G 334 61 (oIload 2 62) := w_iload_n (hm := mm334) dX3_part_61
theorem n334_62 : Snd mt G 334 62 (oCall 3 (fV [4] 329 3) 0 65 xOut) := s_callV (m' := 329) (n := 2) xsh_out (w_xok0 mm334) (w_cal mm334 mm329 pn_X3 (Nat.le_of_ble_eq_true rfl) (Nat.le_of_ble_eq_true rfl)) (fun h b as hc hn => w_run_V (ci := 3) mm334 mm329 dX3_part_62 (Or.inl (List.mem_singleton.mp hc)) (Nat.le_of_ble_eq_true rfl) vc_3 rfl q2810 q2812 qs92 q150 q2813 pa329 hn)
theorem n334_65 : Snd mt G 334 65 (oIfEq 68 70) := w_if_ne (hm := mm334) dX3_part_65 rfl
theorem n334_68 : Snd mt G 334 68 (oConst (.int (-1)) 69) := w_iconst (hm := mm334) dX3_part_68 rfl
theorem n334_69 : Snd mt G 334 69 (oRetI .int) := w_iret (hm := mm334) dX3_part_69 rfl
theorem n334_70 : Snd mt G 334 70 (oAload 0 71) := w_aload_n (hm := mm334) dX3_part_70
theorem n334_71 : Snd mt G 334 71 (oIload 1 72) := w_iload_n (hm := mm334) dX3_part_71
theorem n334_72 : Snd mt G 334 72 (oCall 2 (fV [4] 324 2) 0 75 xOut) := s_callV (m' := 324) (n := 1) xsh_out (w_xok0 mm334) (w_cal mm334 mm324 pn_X3 (Nat.le_of_ble_eq_true rfl) (Nat.le_of_ble_eq_true rfl)) (fun h b as hc hn => w_run_V (ci := 3) mm334 mm324 dX3_part_72 (Or.inl (List.mem_singleton.mp hc)) (Nat.le_of_ble_eq_true rfl) vc_3 rfl q2790 q2792 qs88 q150 q2793 pa324 hn)
theorem n334_75 : Snd mt G 334 75 (oIload 3 76) := w_iload_n (hm := mm334) dX3_part_75
theorem n334_76 : Snd mt G 334 76 (oConst (.int 3) 77) := w_iconst (hm := mm334) dX3_part_76 rfl
theorem n334_77 : Snd mt G 334 77 (oCmpGe 91 80) := w_icmp_ge (hm := mm334) dX3_part_77 rfl
theorem n334_80 : Snd mt G 334 80 (oAload 0 81) := w_aload_n (hm := mm334) dX3_part_80
theorem n334_81 : Snd mt G 334 81 (oIload 1 82) := w_iload_n (hm := mm334) dX3_part_81
theorem n334_82 : Snd mt G 334 82 (oIload 2 83) := w_iload_n (hm := mm334) dX3_part_82
theorem n334_83 : Snd mt G 334 83 (oCall 3 (fV [4] 330 3) 0 86 xOut) := s_callV (m' := 330) (n := 2) xsh_out (w_xok0 mm334) (w_cal mm334 mm330 pn_X3 (Nat.le_of_ble_eq_true rfl) (Nat.le_of_ble_eq_true rfl)) (fun h b as hc hn => w_run_V (ci := 3) mm334 mm330 dX3_part_83 (Or.inl (List.mem_singleton.mp hc)) (Nat.le_of_ble_eq_true rfl) vc_3 rfl q2814 q2816 qs93 q150 q2817 pa330 hn)
theorem n334_86 : Snd mt G 334 86 (oIload 3 87) := w_iload_n (hm := mm334) dX3_part_86
theorem n334_87 : Snd mt G 334 87 (oAld [100] 88) := w_iaload (hm := mm334) (kt := 0) dX3_part_87 at_0 (Nat.le_of_ble_eq_true rfl) (List.forall_mem_cons.mpr ⟨Or.inl rfl, (fun t ht => nomatch ht)⟩)
theorem n334_88 : Snd mt G 334 88 (oGoto 116) := w_goto (hm := mm334) dX3_part_88 rfl
theorem n334_91 : Snd mt G 334 91 (oIload 3 92) := w_iload_n (hm := mm334) dX3_part_91
theorem n334_92 : Snd mt G 334 92 (oConst (.int 3) 93) := w_iconst (hm := mm334) dX3_part_92 rfl
theorem n334_93 : Snd mt G 334 93 (oCmpEq 96 105) := w_icmp_ne (hm := mm334) dX3_part_93 rfl
theorem n334_96 : Snd mt G 334 96 (oAload 0 97) := w_aload_n (hm := mm334) dX3_part_96
theorem n334_97 : Snd mt G 334 97 (oIload 1 98) := w_iload_n (hm := mm334) dX3_part_97
theorem n334_98 : Snd mt G 334 98 (oIload 2 99) := w_iload_n (hm := mm334) dX3_part_98
theorem n334_99 : Snd mt G 334 99 (oCall 3 (fV [4] 335 3) 0 102 xOut) := s_callV (m' := 335) (n := 2) xsh_out (w_xok0 mm334) (w_cal mm334 mm335 pn_X3 (Nat.le_of_ble_eq_true rfl) (Nat.le_of_ble_eq_true rfl)) (fun h b as hc hn => w_run_V (ci := 3) mm334 mm335 dX3_part_99 (Or.inl (List.mem_singleton.mp hc)) (Nat.le_of_ble_eq_true rfl) vc_3 rfl q2834 q2836 qs96 q150 q2837 pa335 hn)
theorem n334_102 : Snd mt G 334 102 (oGoto 116) := w_goto (hm := mm334) dX3_part_102 rfl
theorem n334_105 : Snd mt G 334 105 (oAload 0 106) := w_aload_n (hm := mm334) dX3_part_105
theorem n334_106 : Snd mt G 334 106 (oIload 1 107) := w_iload_n (hm := mm334) dX3_part_106
theorem n334_107 : Snd mt G 334 107 (oIload 2 108) := w_iload_n (hm := mm334) dX3_part_107
theorem n334_108 : Snd mt G 334 108 (oAload 0 109) := w_aload_n (hm := mm334) dX3_part_108
theorem n334_109 : Snd mt G 334 109 (oIload 1 110) := w_iload_n (hm := mm334) dX3_part_109
theorem n334_110 : Snd mt G 334 110 (oCall 2 (fV [4] 336 2) 0 113 xOut) := s_callV (m' := 336) (n := 1) xsh_out (w_xok0 mm334) (w_cal mm334 mm336 pn_X3 (Nat.le_of_ble_eq_true rfl) (Nat.le_of_ble_eq_true rfl)) (fun h b as hc hn => w_run_V (ci := 3) mm334 mm336 dX3_part_110 (Or.inl (List.mem_singleton.mp hc)) (Nat.le_of_ble_eq_true rfl) vc_3 rfl q2838 q2840 qs97 q150 q2841 pa336 hn)
theorem n334_113 : Snd mt G 334 113 (oCall 4 (fV [4] 338 5) 0 116 xOut) := s_callV (m' := 338) (n := 3) xsh_out (w_xok0 mm334) (w_cal mm334 mm338 pn_X3 (Nat.le_of_ble_eq_true rfl) (Nat.le_of_ble_eq_true rfl)) (fun h b as hc hn => w_run_V (ci := 3) mm334 mm338 dX3_part_113 (Or.inl (List.mem_singleton.mp hc)) (Nat.le_of_ble_eq_true rfl) vc_3 rfl q2846 q2848 qs99 q150 q2849 pa338 hn)
theorem n334_116 : Snd mt G 334 116 (oRetI .int) := w_iret (hm := mm334) dX3_part_116 rfl
theorem sj334 : ∀ pc, Snd mt G 334 pc (j334 pc) := fun pc => (snd_br ((snd_br ((snd_br ((snd_br ((snd_br ((snd_br ((snd_br ((snd_lf n334_116)) ((snd_lf n334_113)))) ((snd_lf n334_110)))) ((snd_br ((snd_lf n334_109)) ((snd_lf n334_108)))))) ((snd_br ((snd_br ((snd_lf n334_107)) ((snd_lf n334_106)))) ((snd_br ((snd_lf n334_105)) ((snd_lf n334_102)))))))) ((snd_br ((snd_br ((snd_br ((snd_br ((snd_lf n334_99)) ((snd_lf n334_98)))) ((snd_lf n334_97)))) ((snd_br ((snd_lf n334_96)) ((snd_lf n334_93)))))) ((snd_br ((snd_br ((snd_lf n334_92)) ((snd_lf n334_91)))) ((snd_br ((snd_lf n334_88)) ((snd_lf n334_87)))))))))) ((snd_br ((snd_br ((snd_br ((snd_br ((snd_br ((snd_lf n334_86)) ((snd_lf n334_83)))) ((snd_lf n334_82)))) ((snd_br ((snd_lf n334_81)) ((snd_lf n334_80)))))) ((snd_br ((snd_br ((snd_lf n334_77)) ((snd_lf n334_76)))) ((snd_br ((snd_lf n334_75)) ((snd_lf n334_72)))))))) ((snd_br ((snd_br ((snd_br ((snd_lf n334_71)) ((snd_lf n334_70)))) ((snd_br ((snd_lf n334_69)) ((snd_lf n334_68)))))) ((snd_br ((snd_br ((snd_lf n334_65)) ((snd_lf n334_62)))) ((snd_br ((snd_lf n334_61)) ((snd_lf n334_60)))))))))))) ((snd_br ((snd_br ((snd_br ((snd_br ((snd_br ((snd_br ((snd_lf n334_59)) ((snd_lf n334_58)))) ((snd_lf n334_57)))) ((snd_br ((snd_lf n334_54)) ((snd_lf n334_51)))))) ((snd_br ((snd_br ((snd_lf n334_50)) ((snd_lf n334_49)))) ((snd_br ((snd_lf n334_46)) ((snd_lf n334_45)))))))) ((snd_br ((snd_br ((snd_br ((snd_lf n334_42)) ((snd_lf n334_39)))) ((snd_br ((snd_lf n334_38)) ((snd_lf n334_37)))))) ((snd_br ((snd_br ((snd_lf n334_36)) ((snd_lf n334_33)))) ((snd_br ((snd_lf n334_30)) ((snd_lf n334_29)))))))))) ((snd_br ((snd_br ((snd_br ((snd_br ((snd_br ((snd_lf n334_28)) ((snd_lf n334_27)))) ((snd_lf n334_26)))) ((snd_br ((snd_lf n334_23)) ((snd_lf n334_20)))))) ((snd_br ((snd_br ((snd_lf n334_19)) ((snd_lf n334_18)))) ((snd_br ((snd_lf n334_15)) ((snd_lf n334_14)))))))) ((snd_br ((snd_br ((snd_br ((snd_lf n334_11)) ((snd_lf n334_8)))) ((snd_br ((snd_lf n334_7)) ((snd_lf n334_6)))))) ((snd_br ((snd_br ((snd_lf n334_5)) ((snd_lf n334_2)))) ((snd_br ((snd_lf n334_1)) ((snd_lf n334_0)))))))))))))
end
section
variable {G : AG}
theorem n335_0 : Snd mt G 335 0 (oAload 0 1) := w_aload_n (hm := mm335) dX3_wornOf_0
theorem n335_1 : Snd mt G 335 1 (oAload 0 2) := w_aload_n (hm := mm335) dX3_wornOf_1
theorem n335_2 : Snd mt G 335 2 (oIload 1 3) := w_iload_n (hm := mm335) dX3_wornOf_2
theorem n335_3 : Snd mt G 335 3 (oIload 2 4) := w_iload_n (hm := mm335) dX3_wornOf_3
theorem n335_4 : Snd mt G 335 4 (oCall 3 (fV [4] 330 3) 0 7 xOut) := s_callV (m' := 330) (n := 2) xsh_out (w_xok0 mm335) (w_cal mm335 mm330 pn_X3 (Nat.le_of_ble_eq_true rfl) (Nat.le_of_ble_eq_true rfl)) (fun h b as hc hn => w_run_V (ci := 3) mm335 mm330 dX3_wornOf_4 (Or.inl (List.mem_singleton.mp hc)) (Nat.le_of_ble_eq_true rfl) vc_3 rfl q2814 q2816 qs93 q150 q2817 pa330 hn)
theorem n335_7 : Snd mt G 335 7 (oAload 0 8) := w_aload_n (hm := mm335) dX3_wornOf_7
theorem n335_8 : Snd mt G 335 8 (oIload 1 9) := w_iload_n (hm := mm335) dX3_wornOf_8
theorem n335_9 : Snd mt G 335 9 (oCall 2 (fV [4] 336 2) 0 12 xOut) := s_callV (m' := 336) (n := 1) xsh_out (w_xok0 mm335) (w_cal mm335 mm336 pn_X3 (Nat.le_of_ble_eq_true rfl) (Nat.le_of_ble_eq_true rfl)) (fun h b as hc hn => w_run_V (ci := 3) mm335 mm336 dX3_wornOf_9 (Or.inl (List.mem_singleton.mp hc)) (Nat.le_of_ble_eq_true rfl) vc_3 rfl q2838 q2840 qs97 q150 q2841 pa336 hn)
theorem n335_12 : Snd mt G 335 12 (oAload 0 13) := w_aload_n (hm := mm335) dX3_wornOf_12
theorem n335_13 : Snd mt G 335 13 (oGetf [4] 27 16) := w_getf (hm := mm335) dX3_wornOf_13 (fok1 (k := 27) (T := TX3) 3 (Nat.le_of_ble_eq_true rfl) vc_3 (Nat.le_of_ble_eq_true rfl) q2432)
theorem n335_16 : Snd mt G 335 16 (oCall 4 (fV [4] 337 4) 0 19 xOut) := s_callV (m' := 337) (n := 3) xsh_out (w_xok0 mm335) (w_cal mm335 mm337 pn_X3 (Nat.le_of_ble_eq_true rfl) (Nat.le_of_ble_eq_true rfl)) (fun h b as hc hn => w_run_V (ci := 3) mm335 mm337 dX3_wornOf_16 (Or.inl (List.mem_singleton.mp hc)) (Nat.le_of_ble_eq_true rfl) vc_3 rfl q2842 q2844 qs98 q150 q2845 pa337 hn)
theorem n335_19 : Snd mt G 335 19 (oRetI .int) := w_iret (hm := mm335) dX3_wornOf_19 rfl
theorem sj335 : ∀ pc, Snd mt G 335 pc (j335 pc) := fun pc => (snd_br ((snd_br ((snd_br ((snd_br ((snd_lf n335_19)) ((snd_lf n335_16)))) ((snd_lf n335_13)))) ((snd_br ((snd_br ((snd_lf n335_12)) ((snd_lf n335_9)))) ((snd_lf n335_8)))))) ((snd_br ((snd_br ((snd_br ((snd_lf n335_7)) ((snd_lf n335_4)))) ((snd_lf n335_3)))) ((snd_br ((snd_br ((snd_lf n335_2)) ((snd_lf n335_1)))) ((snd_lf n335_0)))))))
end
section
variable {G : AG}
theorem n336_0 : Snd mt G 336 0 (oAload 0 1) := w_aload_n (hm := mm336) dX3_rate_0
theorem n336_1 : Snd mt G 336 1 (oGetf [4] 46 4) := w_getf (hm := mm336) dX3_rate_1 (fok1 (k := 46) (T := TX3) 3 (Nat.le_of_ble_eq_true rfl) vc_3 (Nat.le_of_ble_eq_true rfl) q2451)
theorem n336_4 : Snd mt G 336 4 (oIload 1 5) := w_iload_n (hm := mm336) dX3_rate_4
theorem n336_5 : Snd mt G 336 5 (oAld [106] 6) := w_aaload (hm := mm336) (kt := 6) dX3_rate_5 rfl at_6 (Nat.le_of_ble_eq_true rfl) (List.forall_mem_cons.mpr ⟨Or.inl rfl, (fun t ht => nomatch ht)⟩)
theorem n336_6 : Snd mt G 336 6 (oConst (.int 3) 7) := w_iconst (hm := mm336) dX3_rate_6 rfl
theorem n336_7 : Snd mt G 336 7 (oAld [100] 8) := w_iaload (hm := mm336) (kt := 0) dX3_rate_7 at_0 (Nat.le_of_ble_eq_true rfl) (List.forall_mem_cons.mpr ⟨Or.inl rfl, (fun t ht => nomatch ht)⟩)
theorem n336_8 : Snd mt G 336 8 (oConst (.int 1) 9) := w_iconst (hm := mm336) dX3_rate_8 rfl
theorem n336_9 : Snd mt G 336 9 (oAload 0 10) := w_aload_n (hm := mm336) dX3_rate_9
theorem n336_10 : Snd mt G 336 10 (oGetf [4] 46 13) := w_getf (hm := mm336) dX3_rate_10 (fok1 (k := 46) (T := TX3) 3 (Nat.le_of_ble_eq_true rfl) vc_3 (Nat.le_of_ble_eq_true rfl) q2451)
theorem n336_13 : Snd mt G 336 13 (oIload 1 14) := w_iload_n (hm := mm336) dX3_rate_13
theorem n336_14 : Snd mt G 336 14 (oAld [106] 15) := w_aaload (hm := mm336) (kt := 6) dX3_rate_14 rfl at_6 (Nat.le_of_ble_eq_true rfl) (List.forall_mem_cons.mpr ⟨Or.inl rfl, (fun t ht => nomatch ht)⟩)
theorem n336_15 : Snd mt G 336 15 (oConst (.int 4) 16) := w_iconst (hm := mm336) dX3_rate_15 rfl
theorem n336_16 : Snd mt G 336 16 (oAld [100] 17) := w_iaload (hm := mm336) (kt := 0) dX3_rate_16 at_0 (Nat.le_of_ble_eq_true rfl) (List.forall_mem_cons.mpr ⟨Or.inl rfl, (fun t ht => nomatch ht)⟩)
theorem n336_17 : Snd mt G 336 17 (oBin (fun x y => x + y) 18) := w_iadd (hm := mm336) dX3_rate_17
theorem n336_18 : Snd mt G 336 18 (oBin (fun x y => x * y) 19) := w_imul (hm := mm336) dX3_rate_18
theorem n336_19 : Snd mt G 336 19 (oRetI .int) := w_iret (hm := mm336) dX3_rate_19 rfl
theorem sj336 : ∀ pc, Snd mt G 336 pc (j336 pc) := fun pc => (snd_br ((snd_br ((snd_br ((snd_br ((snd_lf n336_19)) ((snd_lf n336_18)))) ((snd_br ((snd_lf n336_17)) ((snd_lf n336_16)))))) ((snd_br ((snd_br ((snd_lf n336_15)) ((snd_lf n336_14)))) ((snd_br ((snd_lf n336_13)) ((snd_lf n336_10)))))))) ((snd_br ((snd_br ((snd_br ((snd_lf n336_9)) ((snd_lf n336_8)))) ((snd_br ((snd_lf n336_7)) ((snd_lf n336_6)))))) ((snd_br ((snd_br ((snd_lf n336_5)) ((snd_lf n336_4)))) ((snd_br ((snd_lf n336_1)) ((snd_lf n336_0)))))))))
end
section
variable {G : AG}
theorem n337_0 : Snd mt G 337 0 (oAload 1 1) := w_aload_n (hm := mm337) dX3_wornBy_0
theorem n337_1 : Snd mt G 337 1 (oConst (.int 3) 2) := w_iconst (hm := mm337) dX3_wornBy_1 rfl
theorem n337_2 : Snd mt G 337 2 (oAld [100] 3) := w_iaload (hm := mm337) (kt := 0) dX3_wornBy_2 at_0 (Nat.le_of_ble_eq_true rfl) (List.forall_mem_cons.mpr ⟨Or.inl rfl, (fun t ht => nomatch ht)⟩)
theorem n337_3 : Snd mt G 337 3 (oIload 2 4) := w_iload_n (hm := mm337) dX3_wornBy_3
theorem n337_4 : Snd mt G 337 4 (oIload 3 5) := w_iload_n (hm := mm337) dX3_wornBy_4
theorem n337_5 : Snd mt G 337 5 (oAload 1 6) := w_aload_n (hm := mm337) dX3_wornBy_5
theorem n337_6 : Snd mt G 337 6 (oConst (.int 2) 7) := w_iconst (hm := mm337) dX3_wornBy_6 rfl
theorem n337_7 : Snd mt G 337 7 (oAld [100] 8) := w_iaload (hm := mm337) (kt := 0) dX3_wornBy_7 at_0 (Nat.le_of_ble_eq_true rfl) (List.forall_mem_cons.mpr ⟨Or.inl rfl, (fun t ht => nomatch ht)⟩)
theorem n337_8 : Snd mt G 337 8 (oBin (fun x y => x - y) 9) := w_isub (hm := mm337) dX3_wornBy_8
theorem n337_9 : Snd mt G 337 9 (oBin (fun x y => x * y) 10) := w_imul (hm := mm337) dX3_wornBy_9
theorem n337_10 : Snd mt G 337 10 (oBin (fun x y => x + y) 11) := w_iadd (hm := mm337) dX3_wornBy_10
theorem n337_11 : Snd mt G 337 11 (oRetI .int) := w_iret (hm := mm337) dX3_wornBy_11 rfl
theorem sj337 : ∀ pc, Snd mt G 337 pc (j337 pc) := fun pc => (snd_br ((snd_br ((snd_br ((snd_br ((snd_lf n337_11)) ((snd_lf n337_10)))) ((snd_lf n337_9)))) ((snd_br ((snd_br ((snd_lf n337_8)) ((snd_lf n337_7)))) ((snd_lf n337_6)))))) ((snd_br ((snd_br ((snd_br ((snd_lf n337_5)) ((snd_lf n337_4)))) ((snd_lf n337_3)))) ((snd_br ((snd_br ((snd_lf n337_2)) ((snd_lf n337_1)))) ((snd_lf n337_0)))))))
end
section
variable {G : AG}
theorem n338_0 : Snd mt G 338 0 (oAload 0 1) := w_aload_n (hm := mm338) dX3_dueBy_0
theorem n338_1 : Snd mt G 338 1 (oGetf [4] 18 4) := w_getf (hm := mm338) dX3_dueBy_1 (fok1 (k := 18) (T := TX3) 3 (Nat.le_of_ble_eq_true rfl) vc_3 (Nat.le_of_ble_eq_true rfl) q2423)
theorem n338_4 : Snd mt G 338 4 (oIload 2 5) := w_iload_n (hm := mm338) dX3_dueBy_4
theorem n338_5 : Snd mt G 338 5 (oAld [100] 6) := w_iaload (hm := mm338) (kt := 0) dX3_dueBy_5 at_0 (Nat.le_of_ble_eq_true rfl) (List.forall_mem_cons.mpr ⟨Or.inl rfl, (fun t ht => nomatch ht)⟩)
theorem n338_6 : Snd mt G 338 6 (oConst (.int (-1)) 7) := w_iconst (hm := mm338) dX3_dueBy_6 rfl
theorem n338_7 : Snd mt G 338 7 (oCmpEq 10 12) := w_icmp_ne (hm := mm338) dX3_dueBy_7 rfl
theorem n338_10 : Snd mt G 338 10 (oConst (.int (-1)) 11) := w_iconst (hm := mm338) dX3_dueBy_10 rfl
theorem n338_11 : Snd mt G 338 11 (oRetI .int) := w_iret (hm := mm338) dX3_dueBy_11 rfl
theorem n338_12 : Snd mt G 338 12 (oAload 0 13) := w_aload_n (hm := mm338) dX3_dueBy_12
theorem n338_13 : Snd mt G 338 13 (oGetf [4] 27 16) := w_getf (hm := mm338) dX3_dueBy_13 (fok1 (k := 27) (T := TX3) 3 (Nat.le_of_ble_eq_true rfl) vc_3 (Nat.le_of_ble_eq_true rfl) q2432)
theorem n338_16 : Snd mt G 338 16 (oIstore 4 18) := w_istore (hm := mm338) dX3_dueBy_16 (Nat.le_of_ble_eq_true rfl)
theorem n338_18 : Snd mt G 338 18 (oIload 4 20) := w_iload (hm := mm338) dX3_dueBy_18
theorem n338_20 : Snd mt G 338 20 (oConst (.int 20000) 23) := w_sipush (hm := mm338) dX3_dueBy_20 (by decide)
theorem n338_23 : Snd mt G 338 23 (oCmpGt 60 26) := w_icmp_gt (hm := mm338) dX3_dueBy_23 rfl
theorem n338_26 : Snd mt G 338 26 (oAload 0 27) := w_aload_n (hm := mm338) dX3_dueBy_26
theorem n338_27 : Snd mt G 338 27 (oAload 0 28) := w_aload_n (hm := mm338) dX3_dueBy_27
theorem n338_28 : Snd mt G 338 28 (oIload 1 29) := w_iload_n (hm := mm338) dX3_dueBy_28
theorem n338_29 : Snd mt G 338 29 (oIload 2 30) := w_iload_n (hm := mm338) dX3_dueBy_29
theorem n338_30 : Snd mt G 338 30 (oCall 3 (fV [4] 330 3) 0 33 xOut) := s_callV (m' := 330) (n := 2) xsh_out (w_xok0 mm338) (w_cal mm338 mm330 pn_X3 (Nat.le_of_ble_eq_true rfl) (Nat.le_of_ble_eq_true rfl)) (fun h b as hc hn => w_run_V (ci := 3) mm338 mm330 dX3_dueBy_30 (Or.inl (List.mem_singleton.mp hc)) (Nat.le_of_ble_eq_true rfl) vc_3 rfl q2814 q2816 qs93 q150 q2817 pa330 hn)
theorem n338_33 : Snd mt G 338 33 (oIload 3 34) := w_iload_n (hm := mm338) dX3_dueBy_33
theorem n338_34 : Snd mt G 338 34 (oIload 4 36) := w_iload (hm := mm338) dX3_dueBy_34
theorem n338_36 : Snd mt G 338 36 (oCall 4 (fV [4] 337 4) 0 39 xOut) := s_callV (m' := 337) (n := 3) xsh_out (w_xok0 mm338) (w_cal mm338 mm337 pn_X3 (Nat.le_of_ble_eq_true rfl) (Nat.le_of_ble_eq_true rfl)) (fun h b as hc hn => w_run_V (ci := 3) mm338 mm337 dX3_dueBy_36 (Or.inl (List.mem_singleton.mp hc)) (Nat.le_of_ble_eq_true rfl) vc_3 rfl q2842 q2844 qs98 q150 q2845 pa337 hn)
theorem n338_39 : Snd mt G 338 39 (oConst (.int 10) 41) := w_bipush (hm := mm338) dX3_dueBy_39 (by decide)
theorem n338_41 : Snd mt G 338 41 (oAload 0 42) := w_aload_n (hm := mm338) dX3_dueBy_41
theorem n338_42 : Snd mt G 338 42 (oGetf [4] 18 45) := w_getf (hm := mm338) dX3_dueBy_42 (fok1 (k := 18) (T := TX3) 3 (Nat.le_of_ble_eq_true rfl) vc_3 (Nat.le_of_ble_eq_true rfl) q2423)
theorem n338_45 : Snd mt G 338 45 (oIload 2 46) := w_iload_n (hm := mm338) dX3_dueBy_45
theorem n338_46 : Snd mt G 338 46 (oAld [100] 47) := w_iaload (hm := mm338) (kt := 0) dX3_dueBy_46 at_0 (Nat.le_of_ble_eq_true rfl) (List.forall_mem_cons.mpr ⟨Or.inl rfl, (fun t ht => nomatch ht)⟩)
theorem n338_47 : Snd mt G 338 47 (oBin (fun x y => x * y) 48) := w_imul (hm := mm338) dX3_dueBy_47
theorem n338_48 : Snd mt G 338 48 (oCmpLt 54 51) := w_icmp_lt (hm := mm338) dX3_dueBy_48 rfl
theorem n338_51 : Snd mt G 338 51 (oIload 4 53) := w_iload (hm := mm338) dX3_dueBy_51
theorem n338_53 : Snd mt G 338 53 (oRetI .int) := w_iret (hm := mm338) dX3_dueBy_53 rfl
theorem n338_54 : Snd mt G 338 54 (oIinc 4 1 57) := w_iinc (hm := mm338) dX3_dueBy_54 rfl (Nat.le_of_ble_eq_true rfl)
theorem n338_57 : Snd mt G 338 57 (oGoto 18) := w_goto (hm := mm338) dX3_dueBy_57 rfl
theorem n338_60 : Snd mt G 338 60 (oConst (.int (-1)) 61) := w_iconst (hm := mm338) dX3_dueBy_60 rfl
theorem n338_61 : Snd mt G 338 61 (oRetI .int) := w_iret (hm := mm338) dX3_dueBy_61 rfl
theorem sj338 : ∀ pc, Snd mt G 338 pc (j338 pc) := fun pc => (snd_br ((snd_br ((snd_br ((snd_br ((snd_br ((snd_br ((snd_lf n338_61)) ((snd_lf n338_60)))) ((snd_lf n338_57)))) ((snd_br ((snd_lf n338_54)) ((snd_lf n338_53)))))) ((snd_br ((snd_br ((snd_lf n338_51)) ((snd_lf n338_48)))) ((snd_br ((snd_lf n338_47)) ((snd_lf n338_46)))))))) ((snd_br ((snd_br ((snd_br ((snd_br ((snd_lf n338_45)) ((snd_lf n338_42)))) ((snd_lf n338_41)))) ((snd_br ((snd_lf n338_39)) ((snd_lf n338_36)))))) ((snd_br ((snd_br ((snd_lf n338_34)) ((snd_lf n338_33)))) ((snd_br ((snd_lf n338_30)) ((snd_lf n338_29)))))))))) ((snd_br ((snd_br ((snd_br ((snd_br ((snd_br ((snd_lf n338_28)) ((snd_lf n338_27)))) ((snd_lf n338_26)))) ((snd_br ((snd_lf n338_23)) ((snd_lf n338_20)))))) ((snd_br ((snd_br ((snd_lf n338_18)) ((snd_lf n338_16)))) ((snd_br ((snd_lf n338_13)) ((snd_lf n338_12)))))))) ((snd_br ((snd_br ((snd_br ((snd_lf n338_11)) ((snd_lf n338_10)))) ((snd_br ((snd_lf n338_7)) ((snd_lf n338_6)))))) ((snd_br ((snd_br ((snd_lf n338_5)) ((snd_lf n338_4)))) ((snd_br ((snd_lf n338_1)) ((snd_lf n338_0)))))))))))
end
section
variable {G : AG}
theorem n339_0 : Snd mt G 339 0 (oAload 0 1) := w_aload_n (hm := mm339) dX3_beside_0
theorem n339_1 : Snd mt G 339 1 (oConst (.int 0) 2) := w_iconst (hm := mm339) dX3_beside_1 rfl
theorem n339_2 : Snd mt G 339 2 (oPutf [4] 0 .int 5) := w_putf (hm := mm339) dX3_beside_2 (pok1 (k := 0) (T := TX3) 3 (Nat.le_of_ble_eq_true rfl) vc_3 (Nat.le_of_ble_eq_true rfl) rfl pd_X3_0 q2405)
theorem n339_5 : Snd mt G 339 5 (oAload 0 6) := w_aload_n (hm := mm339) dX3_beside_5
theorem n339_6 : Snd mt G 339 6 (oAload 0 7) := w_aload_n (hm := mm339) dX3_beside_6
theorem n339_7 : Snd mt G 339 7 (oIload 1 8) := w_iload_n (hm := mm339) dX3_beside_7
theorem n339_8 : Snd mt G 339 8 (oCall 2 (fV [4] 316 2) 0 11 xOut) := s_callV (m' := 316) (n := 1) xsh_out (w_xok0 mm339) (w_cal mm339 mm316 pn_X3 (Nat.le_of_ble_eq_true rfl) (Nat.le_of_ble_eq_true rfl)) (fun h b as hc hn => w_run_V (ci := 3) mm339 mm316 dX3_beside_8 (Or.inl (List.mem_singleton.mp hc)) (Nat.le_of_ble_eq_true rfl) vc_3 rfl q2758 q2760 qs84 q150 q2761 pa316 hn)
theorem n339_11 : Snd mt G 339 11 (oIfEq 14 18) := w_if_ne (hm := mm339) dX3_beside_11 rfl
theorem n339_14 : Snd mt G 339 14 (oConst (.int 1) 15) := w_iconst (hm := mm339) dX3_beside_14 rfl
theorem n339_15 : Snd mt G 339 15 (oGoto 19) := w_goto (hm := mm339) dX3_beside_15 rfl
theorem n339_18 : Snd mt G 339 18 (oConst (.int 0) 19) := w_iconst (hm := mm339) dX3_beside_18 rfl
theorem n339_19 : Snd mt G 339 19 (oConst (.int 1) 20) := w_iconst (hm := mm339) dX3_beside_19 rfl
theorem n339_20 : Snd mt G 339 20 (oCall 3 (fV [4] 285 3) 0 23 xOut) := s_callV (m' := 285) (n := 2) xsh_out (w_xok0 mm339) (w_cal mm339 mm285 pn_X3 (Nat.le_of_ble_eq_true rfl) (Nat.le_of_ble_eq_true rfl)) (fun h b as hc hn => w_run_V (ci := 3) mm339 mm285 dX3_beside_20 (Or.inl (List.mem_singleton.mp hc)) (Nat.le_of_ble_eq_true rfl) vc_3 rfl q2634 q2636 qs62 q150 q2637 pa285 hn)
theorem n339_23 : Snd mt G 339 23 (oIfEq 26 48) := w_if_ne (hm := mm339) dX3_beside_23 rfl
theorem n339_26 : Snd mt G 339 26 (oAload 0 27) := w_aload_n (hm := mm339) dX3_beside_26
theorem n339_27 : Snd mt G 339 27 (oIload 2 28) := w_iload_n (hm := mm339) dX3_beside_27
theorem n339_28 : Snd mt G 339 28 (oConst (.int 0) 29) := w_iconst (hm := mm339) dX3_beside_28 rfl
theorem n339_29 : Snd mt G 339 29 (oConst (.int 3) 30) := w_iconst (hm := mm339) dX3_beside_29 rfl
theorem n339_30 : Snd mt G 339 30 (oCall 3 (fS 284 3) 0 33 xOut) := s_callS (m' := 284) (n := 3) xsh_out (w_xok0 mm339) (w_cal mm339 mm284 pn_X3 (Nat.le_of_ble_eq_true rfl) (Nat.le_of_ble_eq_true rfl)) (fun h as hn => w_run_S mm339 mm284 dX3_beside_30 q2631 q2632 q150 q2633 pa284 hn)
theorem n339_33 : Snd mt G 339 33 (oIfEq 36 40) := w_if_ne (hm := mm339) dX3_beside_33 rfl
theorem n339_36 : Snd mt G 339 36 (oConst (.int 1) 37) := w_iconst (hm := mm339) dX3_beside_36 rfl
theorem n339_37 : Snd mt G 339 37 (oGoto 41) := w_goto (hm := mm339) dX3_beside_37 rfl
theorem n339_40 : Snd mt G 339 40 (oConst (.int 0) 41) := w_iconst (hm := mm339) dX3_beside_40 rfl
theorem n339_41 : Snd mt G 339 41 (oConst (.int 2) 42) := w_iconst (hm := mm339) dX3_beside_41 rfl
theorem n339_42 : Snd mt G 339 42 (oCall 3 (fV [4] 285 3) 0 45 xOut) := s_callV (m' := 285) (n := 2) xsh_out (w_xok0 mm339) (w_cal mm339 mm285 pn_X3 (Nat.le_of_ble_eq_true rfl) (Nat.le_of_ble_eq_true rfl)) (fun h b as hc hn => w_run_V (ci := 3) mm339 mm285 dX3_beside_42 (Or.inl (List.mem_singleton.mp hc)) (Nat.le_of_ble_eq_true rfl) vc_3 rfl q2634 q2636 qs62 q150 q2637 pa285 hn)
theorem n339_45 : Snd mt G 339 45 (oIfEq 50 48) := w_if_eq (hm := mm339) dX3_beside_45 rfl
theorem n339_48 : Snd mt G 339 48 (oConst (.int 0) 49) := w_iconst (hm := mm339) dX3_beside_48 rfl
theorem n339_49 : Snd mt G 339 49 (oRetI .int) := w_iret (hm := mm339) dX3_beside_49 rfl
theorem n339_50 : Snd mt G 339 50 (oAload 0 51) := w_aload_n (hm := mm339) dX3_beside_50
theorem n339_51 : Snd mt G 339 51 (oIload 1 52) := w_iload_n (hm := mm339) dX3_beside_51
theorem n339_52 : Snd mt G 339 52 (oIload 2 53) := w_iload_n (hm := mm339) dX3_beside_52
theorem n339_53 : Snd mt G 339 53 (oCall 3 (fV [4] 329 3) 0 56 xOut) := s_callV (m' := 329) (n := 2) xsh_out (w_xok0 mm339) (w_cal mm339 mm329 pn_X3 (Nat.le_of_ble_eq_true rfl) (Nat.le_of_ble_eq_true rfl)) (fun h b as hc hn => w_run_V (ci := 3) mm339 mm329 dX3_beside_53 (Or.inl (List.mem_singleton.mp hc)) (Nat.le_of_ble_eq_true rfl) vc_3 rfl q2810 q2812 qs92 q150 q2813 pa329 hn)
theorem n339_56 : Snd mt G 339 56 (oIfEq 59 61) := w_if_ne (hm := mm339) dX3_beside_56 rfl
theorem n339_59 : Snd mt G 339 59 (oConst (.int (-1)) 60) := w_iconst (hm := mm339) dX3_beside_59 rfl
theorem n339_60 : Snd mt G 339 60 (oRetI .int) := w_iret (hm := mm339) dX3_beside_60 rfl
theorem n339_61 : Snd mt G 339 61 (oAload 0 62) := w_aload_n (hm := mm339) dX3_beside_61
theorem n339_62 : Snd mt G 339 62 (oIload 1 63) := w_iload_n (hm := mm339) dX3_beside_62
theorem n339_63 : Snd mt G 339 63 (oCall 2 (fV [4] 324 2) 0 66 xOut) := s_callV (m' := 324) (n := 1) xsh_out (w_xok0 mm339) (w_cal mm339 mm324 pn_X3 (Nat.le_of_ble_eq_true rfl) (Nat.le_of_ble_eq_true rfl)) (fun h b as hc hn => w_run_V (ci := 3) mm339 mm324 dX3_beside_63 (Or.inl (List.mem_singleton.mp hc)) (Nat.le_of_ble_eq_true rfl) vc_3 rfl q2790 q2792 qs88 q150 q2793 pa324 hn)
theorem n339_66 : Snd mt G 339 66 (oAload 0 67) := w_aload_n (hm := mm339) dX3_beside_66
theorem n339_67 : Snd mt G 339 67 (oIload 1 68) := w_iload_n (hm := mm339) dX3_beside_67
theorem n339_68 : Snd mt G 339 68 (oIload 2 69) := w_iload_n (hm := mm339) dX3_beside_68
theorem n339_69 : Snd mt G 339 69 (oAload 0 70) := w_aload_n (hm := mm339) dX3_beside_69
theorem n339_70 : Snd mt G 339 70 (oGetf [4] 46 73) := w_getf (hm := mm339) dX3_beside_70 (fok1 (k := 46) (T := TX3) 3 (Nat.le_of_ble_eq_true rfl) vc_3 (Nat.le_of_ble_eq_true rfl) q2451)
theorem n339_73 : Snd mt G 339 73 (oIload 1 74) := w_iload_n (hm := mm339) dX3_beside_73
theorem n339_74 : Snd mt G 339 74 (oAld [106] 75) := w_aaload (hm := mm339) (kt := 6) dX3_beside_74 rfl at_6 (Nat.le_of_ble_eq_true rfl) (List.forall_mem_cons.mpr ⟨Or.inl rfl, (fun t ht => nomatch ht)⟩)
theorem n339_75 : Snd mt G 339 75 (oConst (.int 3) 76) := w_iconst (hm := mm339) dX3_beside_75 rfl
theorem n339_76 : Snd mt G 339 76 (oAld [100] 77) := w_iaload (hm := mm339) (kt := 0) dX3_beside_76 at_0 (Nat.le_of_ble_eq_true rfl) (List.forall_mem_cons.mpr ⟨Or.inl rfl, (fun t ht => nomatch ht)⟩)
theorem n339_77 : Snd mt G 339 77 (oCall 4 (fV [4] 338 5) 0 80 xOut) := s_callV (m' := 338) (n := 3) xsh_out (w_xok0 mm339) (w_cal mm339 mm338 pn_X3 (Nat.le_of_ble_eq_true rfl) (Nat.le_of_ble_eq_true rfl)) (fun h b as hc hn => w_run_V (ci := 3) mm339 mm338 dX3_beside_77 (Or.inl (List.mem_singleton.mp hc)) (Nat.le_of_ble_eq_true rfl) vc_3 rfl q2846 q2848 qs99 q150 q2849 pa338 hn)
theorem n339_80 : Snd mt G 339 80 (oIstore 3 81) := w_istore_n (hm := mm339) dX3_beside_80 (Nat.le_of_ble_eq_true rfl)
theorem n339_81 : Snd mt G 339 81 (oAload 0 82) := w_aload_n (hm := mm339) dX3_beside_81
theorem n339_82 : Snd mt G 339 82 (oIload 1 83) := w_iload_n (hm := mm339) dX3_beside_82
theorem n339_83 : Snd mt G 339 83 (oIload 2 84) := w_iload_n (hm := mm339) dX3_beside_83
theorem n339_84 : Snd mt G 339 84 (oConst (.int 2) 85) := w_iconst (hm := mm339) dX3_beside_84 rfl
theorem n339_85 : Snd mt G 339 85 (oAload 0 86) := w_aload_n (hm := mm339) dX3_beside_85
theorem n339_86 : Snd mt G 339 86 (oGetf [4] 46 89) := w_getf (hm := mm339) dX3_beside_86 (fok1 (k := 46) (T := TX3) 3 (Nat.le_of_ble_eq_true rfl) vc_3 (Nat.le_of_ble_eq_true rfl) q2451)
theorem n339_89 : Snd mt G 339 89 (oIload 1 90) := w_iload_n (hm := mm339) dX3_beside_89
theorem n339_90 : Snd mt G 339 90 (oAld [106] 91) := w_aaload (hm := mm339) (kt := 6) dX3_beside_90 rfl at_6 (Nat.le_of_ble_eq_true rfl) (List.forall_mem_cons.mpr ⟨Or.inl rfl, (fun t ht => nomatch ht)⟩)
theorem n339_91 : Snd mt G 339 91 (oConst (.int 3) 92) := w_iconst (hm := mm339) dX3_beside_91 rfl
theorem n339_92 : Snd mt G 339 92 (oAld [100] 93) := w_iaload (hm := mm339) (kt := 0) dX3_beside_92 at_0 (Nat.le_of_ble_eq_true rfl) (List.forall_mem_cons.mpr ⟨Or.inl rfl, (fun t ht => nomatch ht)⟩)
theorem n339_93 : Snd mt G 339 93 (oBin (fun x y => x * y) 94) := w_imul (hm := mm339) dX3_beside_93
theorem n339_94 : Snd mt G 339 94 (oCall 4 (fV [4] 338 5) 0 97 xOut) := s_callV (m' := 338) (n := 3) xsh_out (w_xok0 mm339) (w_cal mm339 mm338 pn_X3 (Nat.le_of_ble_eq_true rfl) (Nat.le_of_ble_eq_true rfl)) (fun h b as hc hn => w_run_V (ci := 3) mm339 mm338 dX3_beside_94 (Or.inl (List.mem_singleton.mp hc)) (Nat.le_of_ble_eq_true rfl) vc_3 rfl q2846 q2848 qs99 q150 q2849 pa338 hn)
theorem n339_97 : Snd mt G 339 97 (oIstore 4 99) := w_istore (hm := mm339) dX3_beside_97 (Nat.le_of_ble_eq_true rfl)
theorem n339_99 : Snd mt G 339 99 (oIload 3 100) := w_iload_n (hm := mm339) dX3_beside_99
theorem n339_100 : Snd mt G 339 100 (oConst (.int (-1)) 101) := w_iconst (hm := mm339) dX3_beside_100 rfl
theorem n339_101 : Snd mt G 339 101 (oCmpEq 110 104) := w_icmp_eq (hm := mm339) dX3_beside_101 rfl
theorem n339_104 : Snd mt G 339 104 (oIload 4 106) := w_iload (hm := mm339) dX3_beside_104
theorem n339_106 : Snd mt G 339 106 (oConst (.int (-1)) 107) := w_iconst (hm := mm339) dX3_beside_106 rfl
theorem n339_107 : Snd mt G 339 107 (oCmpEq 110 114) := w_icmp_ne (hm := mm339) dX3_beside_107 rfl
theorem n339_110 : Snd mt G 339 110 (oConst (.int (-1)) 111) := w_iconst (hm := mm339) dX3_beside_110 rfl
theorem n339_111 : Snd mt G 339 111 (oGoto 118) := w_goto (hm := mm339) dX3_beside_111 rfl
theorem n339_114 : Snd mt G 339 114 (oIload 3 115) := w_iload_n (hm := mm339) dX3_beside_114
theorem n339_115 : Snd mt G 339 115 (oIload 4 117) := w_iload (hm := mm339) dX3_beside_115
theorem n339_117 : Snd mt G 339 117 (oBin (fun x y => x - y) 118) := w_isub (hm := mm339) dX3_beside_117
theorem n339_118 : Snd mt G 339 118 (oRetI .int) := w_iret (hm := mm339) dX3_beside_118 rfl
theorem sj339 : ∀ pc, Snd mt G 339 pc (j339 pc) := fun pc => (snd_br ((snd_br ((snd_br ((snd_br ((snd_br ((snd_br ((snd_br ((snd_lf n339_118)) ((snd_lf n339_117)))) ((snd_lf n339_115)))) ((snd_br ((snd_lf n339_114)) ((snd_lf n339_111)))))) ((snd_br ((snd_br ((snd_br ((snd_lf n339_110)) ((snd_lf n339_107)))) ((snd_lf n339_106)))) ((snd_br ((snd_lf n339_104)) ((snd_lf n339_101)))))))) ((snd_br ((snd_br ((snd_br ((snd_br ((snd_lf n339_100)) ((snd_lf n339_99)))) ((snd_lf n339_97)))) ((snd_br ((snd_lf n339_94)) ((snd_lf n339_93)))))) ((snd_br ((snd_br ((snd_lf n339_92)) ((snd_lf n339_91)))) ((snd_br ((snd_lf n339_90)) ((snd_lf n339_89)))))))))) ((snd_br ((snd_br ((snd_br ((snd_br ((snd_br ((snd_lf n339_86)) ((snd_lf n339_85)))) ((snd_lf n339_84)))) ((snd_br ((snd_lf n339_83)) ((snd_lf n339_82)))))) ((snd_br ((snd_br ((snd_lf n339_81)) ((snd_lf n339_80)))) ((snd_br ((snd_lf n339_77)) ((snd_lf n339_76)))))))) ((snd_br ((snd_br ((snd_br ((snd_br ((snd_lf n339_75)) ((snd_lf n339_74)))) ((snd_lf n339_73)))) ((snd_br ((snd_lf n339_70)) ((snd_lf n339_69)))))) ((snd_br ((snd_br ((snd_lf n339_68)) ((snd_lf n339_67)))) ((snd_br ((snd_lf n339_66)) ((snd_lf n339_63)))))))))))) ((snd_br ((snd_br ((snd_br ((snd_br ((snd_br ((snd_br ((snd_lf n339_62)) ((snd_lf n339_61)))) ((snd_lf n339_60)))) ((snd_br ((snd_lf n339_59)) ((snd_lf n339_56)))))) ((snd_br ((snd_br ((snd_br ((snd_lf n339_53)) ((snd_lf n339_52)))) ((snd_lf n339_51)))) ((snd_br ((snd_lf n339_50)) ((snd_lf n339_49)))))))) ((snd_br ((snd_br ((snd_br ((snd_br ((snd_lf n339_48)) ((snd_lf n339_45)))) ((snd_lf n339_42)))) ((snd_br ((snd_lf n339_41)) ((snd_lf n339_40)))))) ((snd_br ((snd_br ((snd_lf n339_37)) ((snd_lf n339_36)))) ((snd_br ((snd_lf n339_33)) ((snd_lf n339_30)))))))))) ((snd_br ((snd_br ((snd_br ((snd_br ((snd_br ((snd_lf n339_29)) ((snd_lf n339_28)))) ((snd_lf n339_27)))) ((snd_br ((snd_lf n339_26)) ((snd_lf n339_23)))))) ((snd_br ((snd_br ((snd_lf n339_20)) ((snd_lf n339_19)))) ((snd_br ((snd_lf n339_18)) ((snd_lf n339_15)))))))) ((snd_br ((snd_br ((snd_br ((snd_br ((snd_lf n339_14)) ((snd_lf n339_11)))) ((snd_lf n339_8)))) ((snd_br ((snd_lf n339_7)) ((snd_lf n339_6)))))) ((snd_br ((snd_br ((snd_lf n339_5)) ((snd_lf n339_2)))) ((snd_br ((snd_lf n339_1)) ((snd_lf n339_0)))))))))))))
end
section
variable {G : AG}
theorem n340_0 : Snd mt G 340 0 (oAload 0 1) := w_aload_n (hm := mm340) dX3_fits_0
theorem n340_1 : Snd mt G 340 1 (oConst (.int 0) 2) := w_iconst (hm := mm340) dX3_fits_1 rfl
theorem n340_2 : Snd mt G 340 2 (oPutf [4] 0 .int 5) := w_putf (hm := mm340) dX3_fits_2 (pok1 (k := 0) (T := TX3) 3 (Nat.le_of_ble_eq_true rfl) vc_3 (Nat.le_of_ble_eq_true rfl) rfl pd_X3_0 q2405)
theorem n340_5 : Snd mt G 340 5 (oAload 0 6) := w_aload_n (hm := mm340) dX3_fits_5
theorem n340_6 : Snd mt G 340 6 (oAload 0 7) := w_aload_n (hm := mm340) dX3_fits_6
theorem n340_7 : Snd mt G 340 7 (oIload 1 8) := w_iload_n (hm := mm340) dX3_fits_7
theorem n340_8 : Snd mt G 340 8 (oCall 2 (fV [4] 316 2) 0 11 xOut) := s_callV (m' := 316) (n := 1) xsh_out (w_xok0 mm340) (w_cal mm340 mm316 pn_X3 (Nat.le_of_ble_eq_true rfl) (Nat.le_of_ble_eq_true rfl)) (fun h b as hc hn => w_run_V (ci := 3) mm340 mm316 dX3_fits_8 (Or.inl (List.mem_singleton.mp hc)) (Nat.le_of_ble_eq_true rfl) vc_3 rfl q2758 q2760 qs84 q150 q2761 pa316 hn)
theorem n340_11 : Snd mt G 340 11 (oIfEq 14 18) := w_if_ne (hm := mm340) dX3_fits_11 rfl
theorem n340_14 : Snd mt G 340 14 (oConst (.int 1) 15) := w_iconst (hm := mm340) dX3_fits_14 rfl
theorem n340_15 : Snd mt G 340 15 (oGoto 19) := w_goto (hm := mm340) dX3_fits_15 rfl
theorem n340_18 : Snd mt G 340 18 (oConst (.int 0) 19) := w_iconst (hm := mm340) dX3_fits_18 rfl
theorem n340_19 : Snd mt G 340 19 (oConst (.int 1) 20) := w_iconst (hm := mm340) dX3_fits_19 rfl
theorem n340_20 : Snd mt G 340 20 (oCall 3 (fV [4] 285 3) 0 23 xOut) := s_callV (m' := 285) (n := 2) xsh_out (w_xok0 mm340) (w_cal mm340 mm285 pn_X3 (Nat.le_of_ble_eq_true rfl) (Nat.le_of_ble_eq_true rfl)) (fun h b as hc hn => w_run_V (ci := 3) mm340 mm285 dX3_fits_20 (Or.inl (List.mem_singleton.mp hc)) (Nat.le_of_ble_eq_true rfl) vc_3 rfl q2634 q2636 qs62 q150 q2637 pa285 hn)
theorem n340_23 : Snd mt G 340 23 (oIfEq 26 58) := w_if_ne (hm := mm340) dX3_fits_23 rfl
theorem n340_26 : Snd mt G 340 26 (oAload 0 27) := w_aload_n (hm := mm340) dX3_fits_26
theorem n340_27 : Snd mt G 340 27 (oIload 2 28) := w_iload_n (hm := mm340) dX3_fits_27
theorem n340_28 : Snd mt G 340 28 (oConst (.int 0) 29) := w_iconst (hm := mm340) dX3_fits_28 rfl
theorem n340_29 : Snd mt G 340 29 (oConst (.int 3) 30) := w_iconst (hm := mm340) dX3_fits_29 rfl
theorem n340_30 : Snd mt G 340 30 (oCall 3 (fS 284 3) 0 33 xOut) := s_callS (m' := 284) (n := 3) xsh_out (w_xok0 mm340) (w_cal mm340 mm284 pn_X3 (Nat.le_of_ble_eq_true rfl) (Nat.le_of_ble_eq_true rfl)) (fun h as hn => w_run_S mm340 mm284 dX3_fits_30 q2631 q2632 q150 q2633 pa284 hn)
theorem n340_33 : Snd mt G 340 33 (oIfEq 46 36) := w_if_eq (hm := mm340) dX3_fits_33 rfl
theorem n340_36 : Snd mt G 340 36 (oIload 3 37) := w_iload_n (hm := mm340) dX3_fits_36
theorem n340_37 : Snd mt G 340 37 (oConst (.int 0) 38) := w_iconst (hm := mm340) dX3_fits_37 rfl
theorem n340_38 : Snd mt G 340 38 (oConst (.int 54) 40) := w_bipush (hm := mm340) dX3_fits_38 (by decide)
theorem n340_40 : Snd mt G 340 40 (oCall 3 (fS 284 3) 0 43 xOut) := s_callS (m' := 284) (n := 3) xsh_out (w_xok0 mm340) (w_cal mm340 mm284 pn_X3 (Nat.le_of_ble_eq_true rfl) (Nat.le_of_ble_eq_true rfl)) (fun h as hn => w_run_S mm340 mm284 dX3_fits_40 q2631 q2632 q150 q2633 pa284 hn)
theorem n340_43 : Snd mt G 340 43 (oIfEq 46 50) := w_if_ne (hm := mm340) dX3_fits_43 rfl
theorem n340_46 : Snd mt G 340 46 (oConst (.int 1) 47) := w_iconst (hm := mm340) dX3_fits_46 rfl
theorem n340_47 : Snd mt G 340 47 (oGoto 51) := w_goto (hm := mm340) dX3_fits_47 rfl
theorem n340_50 : Snd mt G 340 50 (oConst (.int 0) 51) := w_iconst (hm := mm340) dX3_fits_50 rfl
theorem n340_51 : Snd mt G 340 51 (oConst (.int 2) 52) := w_iconst (hm := mm340) dX3_fits_51 rfl
theorem n340_52 : Snd mt G 340 52 (oCall 3 (fV [4] 285 3) 0 55 xOut) := s_callV (m' := 285) (n := 2) xsh_out (w_xok0 mm340) (w_cal mm340 mm285 pn_X3 (Nat.le_of_ble_eq_true rfl) (Nat.le_of_ble_eq_true rfl)) (fun h b as hc hn => w_run_V (ci := 3) mm340 mm285 dX3_fits_52 (Or.inl (List.mem_singleton.mp hc)) (Nat.le_of_ble_eq_true rfl) vc_3 rfl q2634 q2636 qs62 q150 q2637 pa285 hn)
theorem n340_55 : Snd mt G 340 55 (oIfEq 60 58) := w_if_eq (hm := mm340) dX3_fits_55 rfl
theorem n340_58 : Snd mt G 340 58 (oConst (.int 0) 59) := w_iconst (hm := mm340) dX3_fits_58 rfl
theorem n340_59 : Snd mt G 340 59 (oRetI .int) := w_iret (hm := mm340) dX3_fits_59 rfl
theorem n340_60 : Snd mt G 340 60 (oConst (.int 0) 61) := w_iconst (hm := mm340) dX3_fits_60 rfl
theorem n340_61 : Snd mt G 340 61 (oIstore 4 63) := w_istore (hm := mm340) dX3_fits_61 (Nat.le_of_ble_eq_true rfl)
theorem n340_63 : Snd mt G 340 63 (oConst (.int 0) 64) := w_iconst (hm := mm340) dX3_fits_63 rfl
theorem n340_64 : Snd mt G 340 64 (oIstore 5 66) := w_istore (hm := mm340) dX3_fits_64 (Nat.le_of_ble_eq_true rfl)
theorem n340_66 : Snd mt G 340 66 (oIload 5 68) := w_iload (hm := mm340) dX3_fits_66
theorem n340_68 : Snd mt G 340 68 (oAload 0 69) := w_aload_n (hm := mm340) dX3_fits_68
theorem n340_69 : Snd mt G 340 69 (oGetf [4] 40 72) := w_getf (hm := mm340) dX3_fits_69 (fok1 (k := 40) (T := TX3) 3 (Nat.le_of_ble_eq_true rfl) vc_3 (Nat.le_of_ble_eq_true rfl) q2445)
theorem n340_72 : Snd mt G 340 72 (oCmpGe 135 75) := w_icmp_ge (hm := mm340) dX3_fits_72 rfl
theorem n340_75 : Snd mt G 340 75 (oIload 4 77) := w_iload (hm := mm340) dX3_fits_75
theorem n340_77 : Snd mt G 340 77 (oAload 0 78) := w_aload_n (hm := mm340) dX3_fits_77
theorem n340_78 : Snd mt G 340 78 (oGetf [4] 49 81) := w_getf (hm := mm340) dX3_fits_78 (fok1 (k := 49) (T := TX3) 3 (Nat.le_of_ble_eq_true rfl) vc_3 (Nat.le_of_ble_eq_true rfl) q2454)
theorem n340_81 : Snd mt G 340 81 (oIload 5 83) := w_iload (hm := mm340) dX3_fits_81
theorem n340_83 : Snd mt G 340 83 (oAld [106] 84) := w_aaload (hm := mm340) (kt := 6) dX3_fits_83 rfl at_6 (Nat.le_of_ble_eq_true rfl) (List.forall_mem_cons.mpr ⟨Or.inl rfl, (fun t ht => nomatch ht)⟩)
theorem n340_84 : Snd mt G 340 84 (oConst (.int 5) 85) := w_iconst (hm := mm340) dX3_fits_84 rfl
theorem n340_85 : Snd mt G 340 85 (oAld [100] 86) := w_iaload (hm := mm340) (kt := 0) dX3_fits_85 at_0 (Nat.le_of_ble_eq_true rfl) (List.forall_mem_cons.mpr ⟨Or.inl rfl, (fun t ht => nomatch ht)⟩)
theorem n340_86 : Snd mt G 340 86 (oIload 1 87) := w_iload_n (hm := mm340) dX3_fits_86
theorem n340_87 : Snd mt G 340 87 (oCmpEq 90 125) := w_icmp_ne (hm := mm340) dX3_fits_87 rfl
theorem n340_90 : Snd mt G 340 90 (oAload 0 91) := w_aload_n (hm := mm340) dX3_fits_90
theorem n340_91 : Snd mt G 340 91 (oGetf [4] 49 94) := w_getf (hm := mm340) dX3_fits_91 (fok1 (k := 49) (T := TX3) 3 (Nat.le_of_ble_eq_true rfl) vc_3 (Nat.le_of_ble_eq_true rfl) q2454)
theorem n340_94 : Snd mt G 340 94 (oIload 5 96) := w_iload (hm := mm340) dX3_fits_94
theorem n340_96 : Snd mt G 340 96 (oAld [106] 97) := w_aaload (hm := mm340) (kt := 6) dX3_fits_96 rfl at_6 (Nat.le_of_ble_eq_true rfl) (List.forall_mem_cons.mpr ⟨Or.inl rfl, (fun t ht => nomatch ht)⟩)
theorem n340_97 : Snd mt G 340 97 (oConst (.int 6) 99) := w_bipush (hm := mm340) dX3_fits_97 (by decide)
theorem n340_99 : Snd mt G 340 99 (oAld [100] 100) := w_iaload (hm := mm340) (kt := 0) dX3_fits_99 at_0 (Nat.le_of_ble_eq_true rfl) (List.forall_mem_cons.mpr ⟨Or.inl rfl, (fun t ht => nomatch ht)⟩)
theorem n340_100 : Snd mt G 340 100 (oIload 2 101) := w_iload_n (hm := mm340) dX3_fits_100
theorem n340_101 : Snd mt G 340 101 (oCmpEq 104 125) := w_icmp_ne (hm := mm340) dX3_fits_101 rfl
theorem n340_104 : Snd mt G 340 104 (oAload 0 105) := w_aload_n (hm := mm340) dX3_fits_104
theorem n340_105 : Snd mt G 340 105 (oGetf [4] 49 108) := w_getf (hm := mm340) dX3_fits_105 (fok1 (k := 49) (T := TX3) 3 (Nat.le_of_ble_eq_true rfl) vc_3 (Nat.le_of_ble_eq_true rfl) q2454)
theorem n340_108 : Snd mt G 340 108 (oIload 5 110) := w_iload (hm := mm340) dX3_fits_108
theorem n340_110 : Snd mt G 340 110 (oAld [106] 111) := w_aaload (hm := mm340) (kt := 6) dX3_fits_110 rfl at_6 (Nat.le_of_ble_eq_true rfl) (List.forall_mem_cons.mpr ⟨Or.inl rfl, (fun t ht => nomatch ht)⟩)
theorem n340_111 : Snd mt G 340 111 (oConst (.int 2) 112) := w_iconst (hm := mm340) dX3_fits_111 rfl
theorem n340_112 : Snd mt G 340 112 (oAld [100] 113) := w_iaload (hm := mm340) (kt := 0) dX3_fits_112 at_0 (Nat.le_of_ble_eq_true rfl) (List.forall_mem_cons.mpr ⟨Or.inl rfl, (fun t ht => nomatch ht)⟩)
theorem n340_113 : Snd mt G 340 113 (oConst (.int 365) 116) := w_sipush (hm := mm340) dX3_fits_113 (by decide)
theorem n340_116 : Snd mt G 340 116 (oDiv (fun x y => x / y) 117) := w_idiv (hm := mm340) dX3_fits_116
theorem n340_117 : Snd mt G 340 117 (oIload 3 118) := w_iload_n (hm := mm340) dX3_fits_117
theorem n340_118 : Snd mt G 340 118 (oCmpEq 121 125) := w_icmp_ne (hm := mm340) dX3_fits_118 rfl
theorem n340_121 : Snd mt G 340 121 (oConst (.int 1) 122) := w_iconst (hm := mm340) dX3_fits_121 rfl
theorem n340_122 : Snd mt G 340 122 (oGoto 126) := w_goto (hm := mm340) dX3_fits_122 rfl
theorem n340_125 : Snd mt G 340 125 (oConst (.int 0) 126) := w_iconst (hm := mm340) dX3_fits_125 rfl
theorem n340_126 : Snd mt G 340 126 (oBin (fun x y => x + y) 127) := w_iadd (hm := mm340) dX3_fits_126
theorem n340_127 : Snd mt G 340 127 (oIstore 4 129) := w_istore (hm := mm340) dX3_fits_127 (Nat.le_of_ble_eq_true rfl)
theorem n340_129 : Snd mt G 340 129 (oIinc 5 1 132) := w_iinc (hm := mm340) dX3_fits_129 rfl (Nat.le_of_ble_eq_true rfl)
theorem n340_132 : Snd mt G 340 132 (oGoto 66) := w_goto (hm := mm340) dX3_fits_132 rfl
theorem n340_135 : Snd mt G 340 135 (oIload 4 137) := w_iload (hm := mm340) dX3_fits_135
theorem n340_137 : Snd mt G 340 137 (oRetI .int) := w_iret (hm := mm340) dX3_fits_137 rfl
theorem sj340 : ∀ pc, Snd mt G 340 pc (j340 pc) := fun pc => (snd_br ((snd_br ((snd_br ((snd_br ((snd_br ((snd_br ((snd_br ((snd_lf n340_137)) ((snd_lf n340_135)))) ((snd_lf n340_132)))) ((snd_br ((snd_lf n340_129)) ((snd_lf n340_127)))))) ((snd_br ((snd_br ((snd_br ((snd_lf n340_126)) ((snd_lf n340_125)))) ((snd_lf n340_122)))) ((snd_br ((snd_lf n340_121)) ((snd_lf n340_118)))))))) ((snd_br ((snd_br ((snd_br ((snd_br ((snd_lf n340_117)) ((snd_lf n340_116)))) ((snd_lf n340_113)))) ((snd_br ((snd_lf n340_112)) ((snd_lf n340_111)))))) ((snd_br ((snd_br ((snd_br ((snd_lf n340_110)) ((snd_lf n340_108)))) ((snd_lf n340_105)))) ((snd_br ((snd_lf n340_104)) ((snd_lf n340_101)))))))))) ((snd_br ((snd_br ((snd_br ((snd_br ((snd_br ((snd_lf n340_100)) ((snd_lf n340_99)))) ((snd_lf n340_97)))) ((snd_br ((snd_lf n340_96)) ((snd_lf n340_94)))))) ((snd_br ((snd_br ((snd_br ((snd_lf n340_91)) ((snd_lf n340_90)))) ((snd_lf n340_87)))) ((snd_br ((snd_lf n340_86)) ((snd_lf n340_85)))))))) ((snd_br ((snd_br ((snd_br ((snd_br ((snd_lf n340_84)) ((snd_lf n340_83)))) ((snd_lf n340_81)))) ((snd_br ((snd_lf n340_78)) ((snd_lf n340_77)))))) ((snd_br ((snd_br ((snd_lf n340_75)) ((snd_lf n340_72)))) ((snd_br ((snd_lf n340_69)) ((snd_lf n340_68)))))))))))) ((snd_br ((snd_br ((snd_br ((snd_br ((snd_br ((snd_br ((snd_lf n340_66)) ((snd_lf n340_64)))) ((snd_lf n340_63)))) ((snd_br ((snd_lf n340_61)) ((snd_lf n340_60)))))) ((snd_br ((snd_br ((snd_br ((snd_lf n340_59)) ((snd_lf n340_58)))) ((snd_lf n340_55)))) ((snd_br ((snd_lf n340_52)) ((snd_lf n340_51)))))))) ((snd_br ((snd_br ((snd_br ((snd_br ((snd_lf n340_50)) ((snd_lf n340_47)))) ((snd_lf n340_46)))) ((snd_br ((snd_lf n340_43)) ((snd_lf n340_40)))))) ((snd_br ((snd_br ((snd_lf n340_38)) ((snd_lf n340_37)))) ((snd_br ((snd_lf n340_36)) ((snd_lf n340_33)))))))))) ((snd_br ((snd_br ((snd_br ((snd_br ((snd_br ((snd_lf n340_30)) ((snd_lf n340_29)))) ((snd_lf n340_28)))) ((snd_br ((snd_lf n340_27)) ((snd_lf n340_26)))))) ((snd_br ((snd_br ((snd_br ((snd_lf n340_23)) ((snd_lf n340_20)))) ((snd_lf n340_19)))) ((snd_br ((snd_lf n340_18)) ((snd_lf n340_15)))))))) ((snd_br ((snd_br ((snd_br ((snd_br ((snd_lf n340_14)) ((snd_lf n340_11)))) ((snd_lf n340_8)))) ((snd_br ((snd_lf n340_7)) ((snd_lf n340_6)))))) ((snd_br ((snd_br ((snd_lf n340_5)) ((snd_lf n340_2)))) ((snd_br ((snd_lf n340_1)) ((snd_lf n340_0)))))))))))))
end
section
variable {G : AG}
theorem n341_0 : Snd mt G 341 0 (oAload 0 1) := w_aload_n (hm := mm341) dX3_reuse_0
theorem n341_1 : Snd mt G 341 1 (oConst (.int 0) 2) := w_iconst (hm := mm341) dX3_reuse_1 rfl
theorem n341_2 : Snd mt G 341 2 (oPutf [4] 0 .int 5) := w_putf (hm := mm341) dX3_reuse_2 (pok1 (k := 0) (T := TX3) 3 (Nat.le_of_ble_eq_true rfl) vc_3 (Nat.le_of_ble_eq_true rfl) rfl pd_X3_0 q2405)
theorem n341_5 : Snd mt G 341 5 (oAload 0 6) := w_aload_n (hm := mm341) dX3_reuse_5
theorem n341_6 : Snd mt G 341 6 (oAload 0 7) := w_aload_n (hm := mm341) dX3_reuse_6
theorem n341_7 : Snd mt G 341 7 (oIload 1 8) := w_iload_n (hm := mm341) dX3_reuse_7
theorem n341_8 : Snd mt G 341 8 (oCall 2 (fV [4] 316 2) 0 11 xOut) := s_callV (m' := 316) (n := 1) xsh_out (w_xok0 mm341) (w_cal mm341 mm316 pn_X3 (Nat.le_of_ble_eq_true rfl) (Nat.le_of_ble_eq_true rfl)) (fun h b as hc hn => w_run_V (ci := 3) mm341 mm316 dX3_reuse_8 (Or.inl (List.mem_singleton.mp hc)) (Nat.le_of_ble_eq_true rfl) vc_3 rfl q2758 q2760 qs84 q150 q2761 pa316 hn)
theorem n341_11 : Snd mt G 341 11 (oIfEq 22 14) := w_if_eq (hm := mm341) dX3_reuse_11 rfl
theorem n341_14 : Snd mt G 341 14 (oAload 0 15) := w_aload_n (hm := mm341) dX3_reuse_14
theorem n341_15 : Snd mt G 341 15 (oIload 2 16) := w_iload_n (hm := mm341) dX3_reuse_15
theorem n341_16 : Snd mt G 341 16 (oCall 2 (fV [4] 316 2) 0 19 xOut) := s_callV (m' := 316) (n := 1) xsh_out (w_xok0 mm341) (w_cal mm341 mm316 pn_X3 (Nat.le_of_ble_eq_true rfl) (Nat.le_of_ble_eq_true rfl)) (fun h b as hc hn => w_run_V (ci := 3) mm341 mm316 dX3_reuse_16 (Or.inl (List.mem_singleton.mp hc)) (Nat.le_of_ble_eq_true rfl) vc_3 rfl q2758 q2760 qs84 q150 q2761 pa316 hn)
theorem n341_19 : Snd mt G 341 19 (oIfEq 22 26) := w_if_ne (hm := mm341) dX3_reuse_19 rfl
theorem n341_22 : Snd mt G 341 22 (oConst (.int 1) 23) := w_iconst (hm := mm341) dX3_reuse_22 rfl
theorem n341_23 : Snd mt G 341 23 (oGoto 27) := w_goto (hm := mm341) dX3_reuse_23 rfl
theorem n341_26 : Snd mt G 341 26 (oConst (.int 0) 27) := w_iconst (hm := mm341) dX3_reuse_26 rfl
theorem n341_27 : Snd mt G 341 27 (oConst (.int 1) 28) := w_iconst (hm := mm341) dX3_reuse_27 rfl
theorem n341_28 : Snd mt G 341 28 (oCall 3 (fV [4] 285 3) 0 31 xOut) := s_callV (m' := 285) (n := 2) xsh_out (w_xok0 mm341) (w_cal mm341 mm285 pn_X3 (Nat.le_of_ble_eq_true rfl) (Nat.le_of_ble_eq_true rfl)) (fun h b as hc hn => w_run_V (ci := 3) mm341 mm285 dX3_reuse_28 (Or.inl (List.mem_singleton.mp hc)) (Nat.le_of_ble_eq_true rfl) vc_3 rfl q2634 q2636 qs62 q150 q2637 pa285 hn)
theorem n341_31 : Snd mt G 341 31 (oIfEq 34 61) := w_if_ne (hm := mm341) dX3_reuse_31 rfl
theorem n341_34 : Snd mt G 341 34 (oAload 0 35) := w_aload_n (hm := mm341) dX3_reuse_34
theorem n341_35 : Snd mt G 341 35 (oIload 3 36) := w_iload_n (hm := mm341) dX3_reuse_35
theorem n341_36 : Snd mt G 341 36 (oConst (.int 0) 37) := w_iconst (hm := mm341) dX3_reuse_36 rfl
theorem n341_37 : Snd mt G 341 37 (oConst (.int 3) 38) := w_iconst (hm := mm341) dX3_reuse_37 rfl
theorem n341_38 : Snd mt G 341 38 (oCall 3 (fS 284 3) 0 41 xOut) := s_callS (m' := 284) (n := 3) xsh_out (w_xok0 mm341) (w_cal mm341 mm284 pn_X3 (Nat.le_of_ble_eq_true rfl) (Nat.le_of_ble_eq_true rfl)) (fun h as hn => w_run_S mm341 mm284 dX3_reuse_38 q2631 q2632 q150 q2633 pa284 hn)
theorem n341_41 : Snd mt G 341 41 (oIfEq 49 44) := w_if_eq (hm := mm341) dX3_reuse_41 rfl
theorem n341_44 : Snd mt G 341 44 (oIload 1 45) := w_iload_n (hm := mm341) dX3_reuse_44
theorem n341_45 : Snd mt G 341 45 (oIload 2 46) := w_iload_n (hm := mm341) dX3_reuse_45
theorem n341_46 : Snd mt G 341 46 (oCmpEq 49 53) := w_icmp_ne (hm := mm341) dX3_reuse_46 rfl
theorem n341_49 : Snd mt G 341 49 (oConst (.int 1) 50) := w_iconst (hm := mm341) dX3_reuse_49 rfl
theorem n341_50 : Snd mt G 341 50 (oGoto 54) := w_goto (hm := mm341) dX3_reuse_50 rfl
theorem n341_53 : Snd mt G 341 53 (oConst (.int 0) 54) := w_iconst (hm := mm341) dX3_reuse_53 rfl
theorem n341_54 : Snd mt G 341 54 (oConst (.int 2) 55) := w_iconst (hm := mm341) dX3_reuse_54 rfl
theorem n341_55 : Snd mt G 341 55 (oCall 3 (fV [4] 285 3) 0 58 xOut) := s_callV (m' := 285) (n := 2) xsh_out (w_xok0 mm341) (w_cal mm341 mm285 pn_X3 (Nat.le_of_ble_eq_true rfl) (Nat.le_of_ble_eq_true rfl)) (fun h b as hc hn => w_run_V (ci := 3) mm341 mm285 dX3_reuse_55 (Or.inl (List.mem_singleton.mp hc)) (Nat.le_of_ble_eq_true rfl) vc_3 rfl q2634 q2636 qs62 q150 q2637 pa285 hn)
theorem n341_58 : Snd mt G 341 58 (oIfEq 63 61) := w_if_eq (hm := mm341) dX3_reuse_58 rfl
theorem n341_61 : Snd mt G 341 61 (oConst (.int 0) 62) := w_iconst (hm := mm341) dX3_reuse_61 rfl
theorem n341_62 : Snd mt G 341 62 (oRetI .int) := w_iret (hm := mm341) dX3_reuse_62 rfl
theorem n341_63 : Snd mt G 341 63 (oAload 0 64) := w_aload_n (hm := mm341) dX3_reuse_63
theorem n341_64 : Snd mt G 341 64 (oIload 1 65) := w_iload_n (hm := mm341) dX3_reuse_64
theorem n341_65 : Snd mt G 341 65 (oIload 3 66) := w_iload_n (hm := mm341) dX3_reuse_65
theorem n341_66 : Snd mt G 341 66 (oCall 3 (fV [4] 329 3) 0 69 xOut) := s_callV (m' := 329) (n := 2) xsh_out (w_xok0 mm341) (w_cal mm341 mm329 pn_X3 (Nat.le_of_ble_eq_true rfl) (Nat.le_of_ble_eq_true rfl)) (fun h b as hc hn => w_run_V (ci := 3) mm341 mm329 dX3_reuse_66 (Or.inl (List.mem_singleton.mp hc)) (Nat.le_of_ble_eq_true rfl) vc_3 rfl q2810 q2812 qs92 q150 q2813 pa329 hn)
theorem n341_69 : Snd mt G 341 69 (oIfEq 72 74) := w_if_ne (hm := mm341) dX3_reuse_69 rfl
theorem n341_72 : Snd mt G 341 72 (oConst (.int (-1)) 73) := w_iconst (hm := mm341) dX3_reuse_72 rfl
theorem n341_73 : Snd mt G 341 73 (oRetI .int) := w_iret (hm := mm341) dX3_reuse_73 rfl
theorem n341_74 : Snd mt G 341 74 (oAload 0 75) := w_aload_n (hm := mm341) dX3_reuse_74
theorem n341_75 : Snd mt G 341 75 (oIload 1 76) := w_iload_n (hm := mm341) dX3_reuse_75
theorem n341_76 : Snd mt G 341 76 (oIload 3 77) := w_iload_n (hm := mm341) dX3_reuse_76
theorem n341_77 : Snd mt G 341 77 (oCall 3 (fV [4] 330 3) 0 80 xOut) := s_callV (m' := 330) (n := 2) xsh_out (w_xok0 mm341) (w_cal mm341 mm330 pn_X3 (Nat.le_of_ble_eq_true rfl) (Nat.le_of_ble_eq_true rfl)) (fun h b as hc hn => w_run_V (ci := 3) mm341 mm330 dX3_reuse_77 (Or.inl (List.mem_singleton.mp hc)) (Nat.le_of_ble_eq_true rfl) vc_3 rfl q2814 q2816 qs93 q150 q2817 pa330 hn)
theorem n341_80 : Snd mt G 341 80 (oAstore 4 82) := w_astore (hm := mm341) dX3_reuse_80 (Nat.le_of_ble_eq_true rfl)
theorem n341_82 : Snd mt G 341 82 (oAload 0 83) := w_aload_n (hm := mm341) dX3_reuse_82
theorem n341_83 : Snd mt G 341 83 (oIload 2 84) := w_iload_n (hm := mm341) dX3_reuse_83
theorem n341_84 : Snd mt G 341 84 (oAload 4 86) := w_aload (hm := mm341) dX3_reuse_84
theorem n341_86 : Snd mt G 341 86 (oConst (.int 0) 87) := w_iconst (hm := mm341) dX3_reuse_86 rfl
theorem n341_87 : Snd mt G 341 87 (oAld [100] 88) := w_iaload (hm := mm341) (kt := 0) dX3_reuse_87 at_0 (Nat.le_of_ble_eq_true rfl) (List.forall_mem_cons.mpr ⟨Or.inl rfl, (fun t ht => nomatch ht)⟩)
theorem n341_88 : Snd mt G 341 88 (oCall 3 (fV [4] 327 3) 0 91 xOut) := s_callV (m' := 327) (n := 2) xsh_out (w_xok0 mm341) (w_cal mm341 mm327 pn_X3 (Nat.le_of_ble_eq_true rfl) (Nat.le_of_ble_eq_true rfl)) (fun h b as hc hn => w_run_V (ci := 3) mm341 mm327 dX3_reuse_88 (Or.inl (List.mem_singleton.mp hc)) (Nat.le_of_ble_eq_true rfl) vc_3 rfl q2802 q2804 qs90 q150 q2805 pa327 hn)
theorem n341_91 : Snd mt G 341 91 (oIstore 5 93) := w_istore (hm := mm341) dX3_reuse_91 (Nat.le_of_ble_eq_true rfl)
theorem n341_93 : Snd mt G 341 93 (oAload 0 94) := w_aload_n (hm := mm341) dX3_reuse_93
theorem n341_94 : Snd mt G 341 94 (oIload 1 95) := w_iload_n (hm := mm341) dX3_reuse_94
theorem n341_95 : Snd mt G 341 95 (oIload 3 96) := w_iload_n (hm := mm341) dX3_reuse_95
theorem n341_96 : Snd mt G 341 96 (oCall 3 (fV [4] 335 3) 0 99 xOut) := s_callV (m' := 335) (n := 2) xsh_out (w_xok0 mm341) (w_cal mm341 mm335 pn_X3 (Nat.le_of_ble_eq_true rfl) (Nat.le_of_ble_eq_true rfl)) (fun h b as hc hn => w_run_V (ci := 3) mm341 mm335 dX3_reuse_96 (Or.inl (List.mem_singleton.mp hc)) (Nat.le_of_ble_eq_true rfl) vc_3 rfl q2834 q2836 qs96 q150 q2837 pa335 hn)
theorem n341_99 : Snd mt G 341 99 (oIstore 6 101) := w_istore (hm := mm341) dX3_reuse_99 (Nat.le_of_ble_eq_true rfl)
theorem n341_101 : Snd mt G 341 101 (oIload 5 103) := w_iload (hm := mm341) dX3_reuse_101
theorem n341_103 : Snd mt G 341 103 (oIfGe 111 106) := w_if_ge (hm := mm341) dX3_reuse_103 rfl
theorem n341_106 : Snd mt G 341 106 (oIload 5 108) := w_iload (hm := mm341) dX3_reuse_106
theorem n341_108 : Snd mt G 341 108 (oConst (.int 1) 109) := w_iconst (hm := mm341) dX3_reuse_108 rfl
theorem n341_109 : Snd mt G 341 109 (oBin (fun x y => x - y) 110) := w_isub (hm := mm341) dX3_reuse_109
theorem n341_110 : Snd mt G 341 110 (oRetI .int) := w_iret (hm := mm341) dX3_reuse_110 rfl
theorem n341_111 : Snd mt G 341 111 (oAload 0 112) := w_aload_n (hm := mm341) dX3_reuse_111
theorem n341_112 : Snd mt G 341 112 (oGetf [4] 19 115) := w_getf (hm := mm341) dX3_reuse_112 (fok1 (k := 19) (T := TX3) 3 (Nat.le_of_ble_eq_true rfl) vc_3 (Nat.le_of_ble_eq_true rfl) q2424)
theorem n341_115 : Snd mt G 341 115 (oIload 3 116) := w_iload_n (hm := mm341) dX3_reuse_115
theorem n341_116 : Snd mt G 341 116 (oAld [100] 117) := w_iaload (hm := mm341) (kt := 0) dX3_reuse_116 at_0 (Nat.le_of_ble_eq_true rfl) (List.forall_mem_cons.mpr ⟨Or.inl rfl, (fun t ht => nomatch ht)⟩)
theorem n341_117 : Snd mt G 341 117 (oConst (.int (-1)) 118) := w_iconst (hm := mm341) dX3_reuse_117 rfl
theorem n341_118 : Snd mt G 341 118 (oCmpEq 138 121) := w_icmp_eq (hm := mm341) dX3_reuse_118 rfl
theorem n341_121 : Snd mt G 341 121 (oIload 6 123) := w_iload (hm := mm341) dX3_reuse_121
theorem n341_123 : Snd mt G 341 123 (oConst (.int 10) 125) := w_bipush (hm := mm341) dX3_reuse_123 (by decide)
theorem n341_125 : Snd mt G 341 125 (oAload 0 126) := w_aload_n (hm := mm341) dX3_reuse_125
theorem n341_126 : Snd mt G 341 126 (oGetf [4] 19 129) := w_getf (hm := mm341) dX3_reuse_126 (fok1 (k := 19) (T := TX3) 3 (Nat.le_of_ble_eq_true rfl) vc_3 (Nat.le_of_ble_eq_true rfl) q2424)
theorem n341_129 : Snd mt G 341 129 (oIload 3 130) := w_iload_n (hm := mm341) dX3_reuse_129
theorem n341_130 : Snd mt G 341 130 (oAld [100] 131) := w_iaload (hm := mm341) (kt := 0) dX3_reuse_130 at_0 (Nat.le_of_ble_eq_true rfl) (List.forall_mem_cons.mpr ⟨Or.inl rfl, (fun t ht => nomatch ht)⟩)
theorem n341_131 : Snd mt G 341 131 (oBin (fun x y => x * y) 132) := w_imul (hm := mm341) dX3_reuse_131
theorem n341_132 : Snd mt G 341 132 (oCmpLt 138 135) := w_icmp_lt (hm := mm341) dX3_reuse_132 rfl
theorem n341_135 : Snd mt G 341 135 (oConst (.int (-4)) 137) := w_bipush (hm := mm341) dX3_reuse_135 (by decide)
theorem n341_137 : Snd mt G 341 137 (oRetI .int) := w_iret (hm := mm341) dX3_reuse_137 rfl
theorem n341_138 : Snd mt G 341 138 (oAload 0 139) := w_aload_n (hm := mm341) dX3_reuse_138
theorem n341_139 : Snd mt G 341 139 (oGetf [4] 40 142) := w_getf (hm := mm341) dX3_reuse_139 (fok1 (k := 40) (T := TX3) 3 (Nat.le_of_ble_eq_true rfl) vc_3 (Nat.le_of_ble_eq_true rfl) q2445)
theorem n341_142 : Snd mt G 341 142 (oConst (.int 200) 145) := w_sipush (hm := mm341) dX3_reuse_142 (by decide)
theorem n341_145 : Snd mt G 341 145 (oCmpEq 148 151) := w_icmp_ne (hm := mm341) dX3_reuse_145 rfl
theorem n341_148 : Snd mt G 341 148 (oConst (.int (-5)) 150) := w_bipush (hm := mm341) dX3_reuse_148 (by decide)
theorem n341_150 : Snd mt G 341 150 (oRetI .int) := w_iret (hm := mm341) dX3_reuse_150 rfl
theorem n341_151 : Snd mt G 341 151 (oAload 0 152) := w_aload_n (hm := mm341) dX3_reuse_151
theorem n341_152 : Snd mt G 341 152 (oIload 2 153) := w_iload_n (hm := mm341) dX3_reuse_152
theorem n341_153 : Snd mt G 341 153 (oAload 4 155) := w_aload (hm := mm341) dX3_reuse_153
theorem n341_155 : Snd mt G 341 155 (oConst (.int 0) 156) := w_iconst (hm := mm341) dX3_reuse_155 rfl
theorem n341_156 : Snd mt G 341 156 (oAld [100] 157) := w_iaload (hm := mm341) (kt := 0) dX3_reuse_156 at_0 (Nat.le_of_ble_eq_true rfl) (List.forall_mem_cons.mpr ⟨Or.inl rfl, (fun t ht => nomatch ht)⟩)
theorem n341_157 : Snd mt G 341 157 (oAload 4 159) := w_aload (hm := mm341) dX3_reuse_157
theorem n341_159 : Snd mt G 341 159 (oConst (.int 1) 160) := w_iconst (hm := mm341) dX3_reuse_159 rfl
theorem n341_160 : Snd mt G 341 160 (oAld [100] 161) := w_iaload (hm := mm341) (kt := 0) dX3_reuse_160 at_0 (Nat.le_of_ble_eq_true rfl) (List.forall_mem_cons.mpr ⟨Or.inl rfl, (fun t ht => nomatch ht)⟩)
theorem n341_161 : Snd mt G 341 161 (oIload 6 163) := w_iload (hm := mm341) dX3_reuse_161
theorem n341_163 : Snd mt G 341 163 (oCall 5 (fV [4] 332 6) 0 166 xOut) := s_callV (m' := 332) (n := 4) xsh_out (w_xok0 mm341) (w_cal mm341 mm332 pn_X3 (Nat.le_of_ble_eq_true rfl) (Nat.le_of_ble_eq_true rfl)) (fun h b as hc hn => w_run_V (ci := 3) mm341 mm332 dX3_reuse_163 (Or.inl (List.mem_singleton.mp hc)) (Nat.le_of_ble_eq_true rfl) vc_3 rfl q2822 q2824 qs95 q150 q2825 pa332 hn)
theorem n341_166 : Snd mt G 341 166 (oAload 0 167) := w_aload_n (hm := mm341) dX3_reuse_166
theorem n341_167 : Snd mt G 341 167 (oGetf [4] 47 170) := w_getf (hm := mm341) dX3_reuse_167 (fok1 (k := 47) (T := TX3) 3 (Nat.le_of_ble_eq_true rfl) vc_3 (Nat.le_of_ble_eq_true rfl) q2452)
theorem n341_170 : Snd mt G 341 170 (oConst (.int 4) 171) := w_iconst (hm := mm341) dX3_reuse_170 rfl
theorem n341_171 : Snd mt G 341 171 (oIload 1 172) := w_iload_n (hm := mm341) dX3_reuse_171
theorem n341_172 : Snd mt G 341 172 (oBin (fun x y => x * y) 173) := w_imul (hm := mm341) dX3_reuse_172
theorem n341_173 : Snd mt G 341 173 (oIload 3 174) := w_iload_n (hm := mm341) dX3_reuse_173
theorem n341_174 : Snd mt G 341 174 (oBin (fun x y => x + y) 175) := w_iadd (hm := mm341) dX3_reuse_174
theorem n341_175 : Snd mt G 341 175 (oConst (.int (-1)) 176) := w_iconst (hm := mm341) dX3_reuse_175 rfl
theorem n341_176 : Snd mt G 341 176 (oIast [100] 177) := w_iastore (hm := mm341) (kt := 0) dX3_reuse_176 at_0 (Nat.le_of_ble_eq_true rfl) (List.forall_mem_cons.mpr ⟨rfl, (fun t ht => nomatch ht)⟩)
theorem n341_177 : Snd mt G 341 177 (oAload 0 178) := w_aload_n (hm := mm341) dX3_reuse_177
theorem n341_178 : Snd mt G 341 178 (oGetf [4] 48 181) := w_getf (hm := mm341) dX3_reuse_178 (fok1 (k := 48) (T := TX3) 3 (Nat.le_of_ble_eq_true rfl) vc_3 (Nat.le_of_ble_eq_true rfl) q2453)
theorem n341_181 : Snd mt G 341 181 (oConst (.int 4) 182) := w_iconst (hm := mm341) dX3_reuse_181 rfl
theorem n341_182 : Snd mt G 341 182 (oIload 1 183) := w_iload_n (hm := mm341) dX3_reuse_182
theorem n341_183 : Snd mt G 341 183 (oBin (fun x y => x * y) 184) := w_imul (hm := mm341) dX3_reuse_183
theorem n341_184 : Snd mt G 341 184 (oIload 3 185) := w_iload_n (hm := mm341) dX3_reuse_184
theorem n341_185 : Snd mt G 341 185 (oBin (fun x y => x + y) 186) := w_iadd (hm := mm341) dX3_reuse_185
theorem n341_186 : Snd mt G 341 186 (oAload 0 187) := w_aload_n (hm := mm341) dX3_reuse_186
theorem n341_187 : Snd mt G 341 187 (oGetf [4] 27 190) := w_getf (hm := mm341) dX3_reuse_187 (fok1 (k := 27) (T := TX3) 3 (Nat.le_of_ble_eq_true rfl) vc_3 (Nat.le_of_ble_eq_true rfl) q2432)
theorem n341_190 : Snd mt G 341 190 (oIast [100] 191) := w_iastore (hm := mm341) (kt := 0) dX3_reuse_190 at_0 (Nat.le_of_ble_eq_true rfl) (List.forall_mem_cons.mpr ⟨rfl, (fun t ht => nomatch ht)⟩)
theorem n341_191 : Snd mt G 341 191 (oIload 6 193) := w_iload (hm := mm341) dX3_reuse_191
theorem n341_193 : Snd mt G 341 193 (oRetI .int) := w_iret (hm := mm341) dX3_reuse_193 rfl
theorem sj341 : ∀ pc, Snd mt G 341 pc (j341 pc) := fun pc => (snd_br ((snd_br ((snd_br ((snd_br ((snd_br ((snd_br ((snd_br ((snd_lf n341_193)) ((snd_lf n341_191)))) ((snd_br ((snd_lf n341_190)) ((snd_lf n341_187)))))) ((snd_br ((snd_br ((snd_lf n341_186)) ((snd_lf n341_185)))) ((snd_br ((snd_lf n341_184)) ((snd_lf n341_183)))))))) ((snd_br ((snd_br ((snd_br ((snd_lf n341_182)) ((snd_lf n341_181)))) ((snd_br ((snd_lf n341_178)) ((snd_lf n341_177)))))) ((snd_br ((snd_br ((snd_lf n341_176)) ((snd_lf n341_175)))) ((snd_lf n341_174)))))))) ((snd_br ((snd_br ((snd_br ((snd_br ((snd_lf n341_173)) ((snd_lf n341_172)))) ((snd_br ((snd_lf n341_171)) ((snd_lf n341_170)))))) ((snd_br ((snd_br ((snd_lf n341_167)) ((snd_lf n341_166)))) ((snd_br ((snd_lf n341_163)) ((snd_lf n341_161)))))))) ((snd_br ((snd_br ((snd_br ((snd_lf n341_160)) ((snd_lf n341_159)))) ((snd_br ((snd_lf n341_157)) ((snd_lf n341_156)))))) ((snd_br ((snd_br ((snd_lf n341_155)) ((snd_lf n341_153)))) ((snd_lf n341_152)))))))))) ((snd_br ((snd_br ((snd_br ((snd_br ((snd_br ((snd_lf n341_151)) ((snd_lf n341_150)))) ((snd_br ((snd_lf n341_148)) ((snd_lf n341_145)))))) ((snd_br ((snd_br ((snd_lf n341_142)) ((snd_lf n341_139)))) ((snd_br ((snd_lf n341_138)) ((snd_lf n341_137)))))))) ((snd_br ((snd_br ((snd_br ((snd_lf n341_135)) ((snd_lf n341_132)))) ((snd_br ((snd_lf n341_131)) ((snd_lf n341_130)))))) ((snd_br ((snd_br ((snd_lf n341_129)) ((snd_lf n341_126)))) ((snd_lf n341_125)))))))) ((snd_br ((snd_br ((snd_br ((snd_br ((snd_lf n341_123)) ((snd_lf n341_121)))) ((snd_br ((snd_lf n341_118)) ((snd_lf n341_117)))))) ((snd_br ((snd_br ((snd_lf n341_116)) ((snd_lf n341_115)))) ((snd_lf n341_112)))))) ((snd_br ((snd_br ((snd_br ((snd_lf n341_111)) ((snd_lf n341_110)))) ((snd_br ((snd_lf n341_109)) ((snd_lf n341_108)))))) ((snd_br ((snd_br ((snd_lf n341_106)) ((snd_lf n341_103)))) ((snd_lf n341_101)))))))))))) ((snd_br ((snd_br ((snd_br ((snd_br ((snd_br ((snd_br ((snd_lf n341_99)) ((snd_lf n341_96)))) ((snd_br ((snd_lf n341_95)) ((snd_lf n341_94)))))) ((snd_br ((snd_br ((snd_lf n341_93)) ((snd_lf n341_91)))) ((snd_br ((snd_lf n341_88)) ((snd_lf n341_87)))))))) ((snd_br ((snd_br ((snd_br ((snd_lf n341_86)) ((snd_lf n341_84)))) ((snd_br ((snd_lf n341_83)) ((snd_lf n341_82)))))) ((snd_br ((snd_br ((snd_lf n341_80)) ((snd_lf n341_77)))) ((snd_lf n341_76)))))))) ((snd_br ((snd_br ((snd_br ((snd_br ((snd_lf n341_75)) ((snd_lf n341_74)))) ((snd_br ((snd_lf n341_73)) ((snd_lf n341_72)))))) ((snd_br ((snd_br ((snd_lf n341_69)) ((snd_lf n341_66)))) ((snd_br ((snd_lf n341_65)) ((snd_lf n341_64)))))))) ((snd_br ((snd_br ((snd_br ((snd_lf n341_63)) ((snd_lf n341_62)))) ((snd_br ((snd_lf n341_61)) ((snd_lf n341_58)))))) ((snd_br ((snd_br ((snd_lf n341_55)) ((snd_lf n341_54)))) ((snd_lf n341_53)))))))))) ((snd_br ((snd_br ((snd_br ((snd_br ((snd_br ((snd_lf n341_50)) ((snd_lf n341_49)))) ((snd_br ((snd_lf n341_46)) ((snd_lf n341_45)))))) ((snd_br ((snd_br ((snd_lf n341_44)) ((snd_lf n341_41)))) ((snd_br ((snd_lf n341_38)) ((snd_lf n341_37)))))))) ((snd_br ((snd_br ((snd_br ((snd_lf n341_36)) ((snd_lf n341_35)))) ((snd_br ((snd_lf n341_34)) ((snd_lf n341_31)))))) ((snd_br ((snd_br ((snd_lf n341_28)) ((snd_lf n341_27)))) ((snd_lf n341_26)))))))) ((snd_br ((snd_br ((snd_br ((snd_br ((snd_lf n341_23)) ((snd_lf n341_22)))) ((snd_br ((snd_lf n341_19)) ((snd_lf n341_16)))))) ((snd_br ((snd_br ((snd_lf n341_15)) ((snd_lf n341_14)))) ((snd_lf n341_11)))))) ((snd_br ((snd_br ((snd_br ((snd_lf n341_8)) ((snd_lf n341_7)))) ((snd_br ((snd_lf n341_6)) ((snd_lf n341_5)))))) ((snd_br ((snd_br ((snd_lf n341_2)) ((snd_lf n341_1)))) ((snd_lf n341_0)))))))))))))
end
section
variable {G : AG}
theorem n342_0 : Snd mt G 342 0 (oAload 0 1) := w_aload_n (hm := mm342) dX3_next_0
theorem n342_1 : Snd mt G 342 1 (oConst (.int 0) 2) := w_iconst (hm := mm342) dX3_next_1 rfl
theorem n342_2 : Snd mt G 342 2 (oPutf [4] 0 .int 5) := w_putf (hm := mm342) dX3_next_2 (pok1 (k := 0) (T := TX3) 3 (Nat.le_of_ble_eq_true rfl) vc_3 (Nat.le_of_ble_eq_true rfl) rfl pd_X3_0 q2405)
theorem n342_5 : Snd mt G 342 5 (oAload 0 6) := w_aload_n (hm := mm342) dX3_next_5
theorem n342_6 : Snd mt G 342 6 (oAload 0 7) := w_aload_n (hm := mm342) dX3_next_6
theorem n342_7 : Snd mt G 342 7 (oIload 1 8) := w_iload_n (hm := mm342) dX3_next_7
theorem n342_8 : Snd mt G 342 8 (oCall 2 (fV [4] 316 2) 0 11 xOut) := s_callV (m' := 316) (n := 1) xsh_out (w_xok0 mm342) (w_cal mm342 mm316 pn_X3 (Nat.le_of_ble_eq_true rfl) (Nat.le_of_ble_eq_true rfl)) (fun h b as hc hn => w_run_V (ci := 3) mm342 mm316 dX3_next_8 (Or.inl (List.mem_singleton.mp hc)) (Nat.le_of_ble_eq_true rfl) vc_3 rfl q2758 q2760 qs84 q150 q2761 pa316 hn)
theorem n342_11 : Snd mt G 342 11 (oIfEq 14 18) := w_if_ne (hm := mm342) dX3_next_11 rfl
theorem n342_14 : Snd mt G 342 14 (oConst (.int 1) 15) := w_iconst (hm := mm342) dX3_next_14 rfl
theorem n342_15 : Snd mt G 342 15 (oGoto 19) := w_goto (hm := mm342) dX3_next_15 rfl
theorem n342_18 : Snd mt G 342 18 (oConst (.int 0) 19) := w_iconst (hm := mm342) dX3_next_18 rfl
theorem n342_19 : Snd mt G 342 19 (oConst (.int 1) 20) := w_iconst (hm := mm342) dX3_next_19 rfl
theorem n342_20 : Snd mt G 342 20 (oCall 3 (fV [4] 285 3) 0 23 xOut) := s_callV (m' := 285) (n := 2) xsh_out (w_xok0 mm342) (w_cal mm342 mm285 pn_X3 (Nat.le_of_ble_eq_true rfl) (Nat.le_of_ble_eq_true rfl)) (fun h b as hc hn => w_run_V (ci := 3) mm342 mm285 dX3_next_20 (Or.inl (List.mem_singleton.mp hc)) (Nat.le_of_ble_eq_true rfl) vc_3 rfl q2634 q2636 qs62 q150 q2637 pa285 hn)
theorem n342_23 : Snd mt G 342 23 (oIfEq 26 49) := w_if_ne (hm := mm342) dX3_next_23 rfl
theorem n342_26 : Snd mt G 342 26 (oAload 0 27) := w_aload_n (hm := mm342) dX3_next_26
theorem n342_27 : Snd mt G 342 27 (oIload 2 28) := w_iload_n (hm := mm342) dX3_next_27
theorem n342_28 : Snd mt G 342 28 (oConst (.int 0) 29) := w_iconst (hm := mm342) dX3_next_28 rfl
theorem n342_29 : Snd mt G 342 29 (oConst (.int 99) 31) := w_bipush (hm := mm342) dX3_next_29 (by decide)
theorem n342_31 : Snd mt G 342 31 (oCall 3 (fS 284 3) 0 34 xOut) := s_callS (m' := 284) (n := 3) xsh_out (w_xok0 mm342) (w_cal mm342 mm284 pn_X3 (Nat.le_of_ble_eq_true rfl) (Nat.le_of_ble_eq_true rfl)) (fun h as hn => w_run_S mm342 mm284 dX3_next_31 q2631 q2632 q150 q2633 pa284 hn)
theorem n342_34 : Snd mt G 342 34 (oIfEq 37 41) := w_if_ne (hm := mm342) dX3_next_34 rfl
theorem n342_37 : Snd mt G 342 37 (oConst (.int 1) 38) := w_iconst (hm := mm342) dX3_next_37 rfl
theorem n342_38 : Snd mt G 342 38 (oGoto 42) := w_goto (hm := mm342) dX3_next_38 rfl
theorem n342_41 : Snd mt G 342 41 (oConst (.int 0) 42) := w_iconst (hm := mm342) dX3_next_41 rfl
theorem n342_42 : Snd mt G 342 42 (oConst (.int 2) 43) := w_iconst (hm := mm342) dX3_next_42 rfl
theorem n342_43 : Snd mt G 342 43 (oCall 3 (fV [4] 285 3) 0 46 xOut) := s_callV (m' := 285) (n := 2) xsh_out (w_xok0 mm342) (w_cal mm342 mm285 pn_X3 (Nat.le_of_ble_eq_true rfl) (Nat.le_of_ble_eq_true rfl)) (fun h b as hc hn => w_run_V (ci := 3) mm342 mm285 dX3_next_43 (Or.inl (List.mem_singleton.mp hc)) (Nat.le_of_ble_eq_true rfl) vc_3 rfl q2634 q2636 qs62 q150 q2637 pa285 hn)
theorem n342_46 : Snd mt G 342 46 (oIfEq 51 49) := w_if_eq (hm := mm342) dX3_next_46 rfl
theorem n342_49 : Snd mt G 342 49 (oConst (.int 0) 50) := w_iconst (hm := mm342) dX3_next_49 rfl
theorem n342_50 : Snd mt G 342 50 (oRetI .int) := w_iret (hm := mm342) dX3_next_50 rfl
theorem n342_51 : Snd mt G 342 51 (oAload 0 52) := w_aload_n (hm := mm342) dX3_next_51
theorem n342_52 : Snd mt G 342 52 (oIload 1 53) := w_iload_n (hm := mm342) dX3_next_52
theorem n342_53 : Snd mt G 342 53 (oConst (.int 2) 54) := w_iconst (hm := mm342) dX3_next_53 rfl
theorem n342_54 : Snd mt G 342 54 (oCall 3 (fV [4] 329 3) 0 57 xOut) := s_callV (m' := 329) (n := 2) xsh_out (w_xok0 mm342) (w_cal mm342 mm329 pn_X3 (Nat.le_of_ble_eq_true rfl) (Nat.le_of_ble_eq_true rfl)) (fun h b as hc hn => w_run_V (ci := 3) mm342 mm329 dX3_next_54 (Or.inl (List.mem_singleton.mp hc)) (Nat.le_of_ble_eq_true rfl) vc_3 rfl q2810 q2812 qs92 q150 q2813 pa329 hn)
theorem n342_57 : Snd mt G 342 57 (oIfEq 60 62) := w_if_ne (hm := mm342) dX3_next_57 rfl
theorem n342_60 : Snd mt G 342 60 (oConst (.int (-1)) 61) := w_iconst (hm := mm342) dX3_next_60 rfl
theorem n342_61 : Snd mt G 342 61 (oRetI .int) := w_iret (hm := mm342) dX3_next_61 rfl
theorem n342_62 : Snd mt G 342 62 (oAload 0 63) := w_aload_n (hm := mm342) dX3_next_62
theorem n342_63 : Snd mt G 342 63 (oGetf [4] 27 66) := w_getf (hm := mm342) dX3_next_63 (fok1 (k := 27) (T := TX3) 3 (Nat.le_of_ble_eq_true rfl) vc_3 (Nat.le_of_ble_eq_true rfl) q2432)
theorem n342_66 : Snd mt G 342 66 (oIstore 3 67) := w_istore_n (hm := mm342) dX3_next_66 (Nat.le_of_ble_eq_true rfl)
theorem n342_67 : Snd mt G 342 67 (oIload 3 68) := w_iload_n (hm := mm342) dX3_next_67
theorem n342_68 : Snd mt G 342 68 (oConst (.int 20000) 71) := w_sipush (hm := mm342) dX3_next_68 (by decide)
theorem n342_71 : Snd mt G 342 71 (oCmpGt 105 74) := w_icmp_gt (hm := mm342) dX3_next_71 rfl
theorem n342_74 : Snd mt G 342 74 (oAload 0 75) := w_aload_n (hm := mm342) dX3_next_74
theorem n342_75 : Snd mt G 342 75 (oIload 1 76) := w_iload_n (hm := mm342) dX3_next_75
theorem n342_76 : Snd mt G 342 76 (oIload 3 77) := w_iload_n (hm := mm342) dX3_next_76
theorem n342_77 : Snd mt G 342 77 (oCall 3 (fV [4] 317 3) 0 80 xOut) := s_callV (m' := 317) (n := 2) xsh_out (w_xok0 mm342) (w_cal mm342 mm317 pn_X3 (Nat.le_of_ble_eq_true rfl) (Nat.le_of_ble_eq_true rfl)) (fun h b as hc hn => w_run_V (ci := 3) mm342 mm317 dX3_next_77 (Or.inl (List.mem_singleton.mp hc)) (Nat.le_of_ble_eq_true rfl) vc_3 rfl q2762 q2764 qs85 q150 q2765 pa317 hn)
theorem n342_80 : Snd mt G 342 80 (oAload 0 81) := w_aload_n (hm := mm342) dX3_next_80
theorem n342_81 : Snd mt G 342 81 (oIload 1 82) := w_iload_n (hm := mm342) dX3_next_81
theorem n342_82 : Snd mt G 342 82 (oConst (.int 2) 83) := w_iconst (hm := mm342) dX3_next_82 rfl
theorem n342_83 : Snd mt G 342 83 (oCall 3 (fV [4] 330 3) 0 86 xOut) := s_callV (m' := 330) (n := 2) xsh_out (w_xok0 mm342) (w_cal mm342 mm330 pn_X3 (Nat.le_of_ble_eq_true rfl) (Nat.le_of_ble_eq_true rfl)) (fun h b as hc hn => w_run_V (ci := 3) mm342 mm330 dX3_next_83 (Or.inl (List.mem_singleton.mp hc)) (Nat.le_of_ble_eq_true rfl) vc_3 rfl q2814 q2816 qs93 q150 q2817 pa330 hn)
theorem n342_86 : Snd mt G 342 86 (oConst (.int 4) 87) := w_iconst (hm := mm342) dX3_next_86 rfl
theorem n342_87 : Snd mt G 342 87 (oAld [100] 88) := w_iaload (hm := mm342) (kt := 0) dX3_next_87 at_0 (Nat.le_of_ble_eq_true rfl) (List.forall_mem_cons.mpr ⟨Or.inl rfl, (fun t ht => nomatch ht)⟩)
theorem n342_88 : Snd mt G 342 88 (oBin (fun x y => x - y) 89) := w_isub (hm := mm342) dX3_next_88
theorem n342_89 : Snd mt G 342 89 (oUn (fun x => .long x.toInt64) 90) := w_i2l (hm := mm342) dX3_next_89
theorem n342_90 : Snd mt G 342 90 (oIload 2 91) := w_iload_n (hm := mm342) dX3_next_90
theorem n342_91 : Snd mt G 342 91 (oCall 2 (fS 343 3) 0 94 xOut) := s_callS (m' := 343) (n := 2) xsh_out (w_xok0 mm342) (w_cal mm342 mm343 pn_X3 (Nat.le_of_ble_eq_true rfl) (Nat.le_of_ble_eq_true rfl)) (fun h as hn => w_run_S mm342 mm343 dX3_next_91 q2866 q2867 q150 q2868 pa343 hn)
theorem n342_94 : Snd mt G 342 94 (oIfEq 99 97) := w_if_eq (hm := mm342) dX3_next_94 rfl
theorem n342_97 : Snd mt G 342 97 (oIload 3 98) := w_iload_n (hm := mm342) dX3_next_97
theorem n342_98 : Snd mt G 342 98 (oRetI .int) := w_iret (hm := mm342) dX3_next_98 rfl
theorem n342_99 : Snd mt G 342 99 (oIinc 3 1 102) := w_iinc (hm := mm342) dX3_next_99 rfl (Nat.le_of_ble_eq_true rfl)
theorem n342_102 : Snd mt G 342 102 (oGoto 67) := w_goto (hm := mm342) dX3_next_102 rfl
theorem n342_105 : Snd mt G 342 105 (oConst (.int (-1)) 106) := w_iconst (hm := mm342) dX3_next_105 rfl
theorem n342_106 : Snd mt G 342 106 (oRetI .int) := w_iret (hm := mm342) dX3_next_106 rfl
theorem sj342 : ∀ pc, Snd mt G 342 pc (j342 pc) := fun pc => (snd_br ((snd_br ((snd_br ((snd_br ((snd_br ((snd_br ((snd_lf n342_106)) ((snd_lf n342_105)))) ((snd_br ((snd_lf n342_102)) ((snd_lf n342_99)))))) ((snd_br ((snd_br ((snd_lf n342_98)) ((snd_lf n342_97)))) ((snd_br ((snd_lf n342_94)) ((snd_lf n342_91)))))))) ((snd_br ((snd_br ((snd_br ((snd_lf n342_90)) ((snd_lf n342_89)))) ((snd_br ((snd_lf n342_88)) ((snd_lf n342_87)))))) ((snd_br ((snd_br ((snd_lf n342_86)) ((snd_lf n342_83)))) ((snd_br ((snd_lf n342_82)) ((snd_lf n342_81)))))))))) ((snd_br ((snd_br ((snd_br ((snd_br ((snd_lf n342_80)) ((snd_lf n342_77)))) ((snd_br ((snd_lf n342_76)) ((snd_lf n342_75)))))) ((snd_br ((snd_br ((snd_lf n342_74)) ((snd_lf n342_71)))) ((snd_br ((snd_lf n342_68)) ((snd_lf n342_67)))))))) ((snd_br ((snd_br ((snd_br ((snd_lf n342_66)) ((snd_lf n342_63)))) ((snd_br ((snd_lf n342_62)) ((snd_lf n342_61)))))) ((snd_br ((snd_br ((snd_lf n342_60)) ((snd_lf n342_57)))) ((snd_lf n342_54)))))))))) ((snd_br ((snd_br ((snd_br ((snd_br ((snd_br ((snd_lf n342_53)) ((snd_lf n342_52)))) ((snd_br ((snd_lf n342_51)) ((snd_lf n342_50)))))) ((snd_br ((snd_br ((snd_lf n342_49)) ((snd_lf n342_46)))) ((snd_br ((snd_lf n342_43)) ((snd_lf n342_42)))))))) ((snd_br ((snd_br ((snd_br ((snd_lf n342_41)) ((snd_lf n342_38)))) ((snd_br ((snd_lf n342_37)) ((snd_lf n342_34)))))) ((snd_br ((snd_br ((snd_lf n342_31)) ((snd_lf n342_29)))) ((snd_br ((snd_lf n342_28)) ((snd_lf n342_27)))))))))) ((snd_br ((snd_br ((snd_br ((snd_br ((snd_lf n342_26)) ((snd_lf n342_23)))) ((snd_br ((snd_lf n342_20)) ((snd_lf n342_19)))))) ((snd_br ((snd_br ((snd_lf n342_18)) ((snd_lf n342_15)))) ((snd_br ((snd_lf n342_14)) ((snd_lf n342_11)))))))) ((snd_br ((snd_br ((snd_br ((snd_lf n342_8)) ((snd_lf n342_7)))) ((snd_br ((snd_lf n342_6)) ((snd_lf n342_5)))))) ((snd_br ((snd_br ((snd_lf n342_2)) ((snd_lf n342_1)))) ((snd_lf n342_0)))))))))))
end
section
variable {G : AG}
theorem n343_0 : Snd mt G 343 0 (oLload 0 1) := w_lload_n (hm := mm343) dX3_isBeyond_0
theorem n343_1 : Snd mt G 343 1 (oIload 2 2) := w_iload_n (hm := mm343) dX3_isBeyond_1
theorem n343_2 : Snd mt G 343 2 (oUn (fun x => .long x.toInt64) 3) := w_i2l (hm := mm343) dX3_isBeyond_2
theorem n343_3 : Snd mt G 343 3 (oLbin (fun x y => .int (lg_cmp x y)) 4) := w_lcmp (hm := mm343) dX3_isBeyond_3
theorem n343_4 : Snd mt G 343 4 (oIfGt 15 7) := w_if_gt (hm := mm343) dX3_isBeyond_4 rfl
theorem n343_7 : Snd mt G 343 7 (oLload 0 8) := w_lload_n (hm := mm343) dX3_isBeyond_7
theorem n343_8 : Snd mt G 343 8 (oLun (fun x => .long (-x)) 9) := w_lneg (hm := mm343) dX3_isBeyond_8
theorem n343_9 : Snd mt G 343 9 (oIload 2 10) := w_iload_n (hm := mm343) dX3_isBeyond_9
theorem n343_10 : Snd mt G 343 10 (oUn (fun x => .long x.toInt64) 11) := w_i2l (hm := mm343) dX3_isBeyond_10
theorem n343_11 : Snd mt G 343 11 (oLbin (fun x y => .int (lg_cmp x y)) 12) := w_lcmp (hm := mm343) dX3_isBeyond_11
theorem n343_12 : Snd mt G 343 12 (oIfLe 19 15) := w_if_le (hm := mm343) dX3_isBeyond_12 rfl
theorem n343_15 : Snd mt G 343 15 (oConst (.int 1) 16) := w_iconst (hm := mm343) dX3_isBeyond_15 rfl
theorem n343_16 : Snd mt G 343 16 (oGoto 20) := w_goto (hm := mm343) dX3_isBeyond_16 rfl
theorem n343_19 : Snd mt G 343 19 (oConst (.int 0) 20) := w_iconst (hm := mm343) dX3_isBeyond_19 rfl
theorem n343_20 : Snd mt G 343 20 (oRetI .boolean) := w_zret (hm := mm343) dX3_isBeyond_20 rfl
theorem sj343 : ∀ pc, Snd mt G 343 pc (j343 pc) := fun pc => (snd_br ((snd_br ((snd_br ((snd_br ((snd_lf n343_20)) ((snd_lf n343_19)))) ((snd_br ((snd_lf n343_16)) ((snd_lf n343_15)))))) ((snd_br ((snd_br ((snd_lf n343_12)) ((snd_lf n343_11)))) ((snd_br ((snd_lf n343_10)) ((snd_lf n343_9)))))))) ((snd_br ((snd_br ((snd_br ((snd_lf n343_8)) ((snd_lf n343_7)))) ((snd_br ((snd_lf n343_4)) ((snd_lf n343_3)))))) ((snd_br ((snd_br ((snd_lf n343_2)) ((snd_lf n343_1)))) ((snd_lf n343_0)))))))
end
section
variable {G : AG}
theorem n344_0 : Snd mt G 344 0 (oAload 0 1) := w_aload_n (hm := mm344) dX3_lacks_0
theorem n344_1 : Snd mt G 344 1 (oConst (.int 0) 2) := w_iconst (hm := mm344) dX3_lacks_1 rfl
theorem n344_2 : Snd mt G 344 2 (oPutf [4] 0 .int 5) := w_putf (hm := mm344) dX3_lacks_2 (pok1 (k := 0) (T := TX3) 3 (Nat.le_of_ble_eq_true rfl) vc_3 (Nat.le_of_ble_eq_true rfl) rfl pd_X3_0 q2405)
theorem n344_5 : Snd mt G 344 5 (oAload 0 6) := w_aload_n (hm := mm344) dX3_lacks_5
theorem n344_6 : Snd mt G 344 6 (oAload 0 7) := w_aload_n (hm := mm344) dX3_lacks_6
theorem n344_7 : Snd mt G 344 7 (oIload 1 8) := w_iload_n (hm := mm344) dX3_lacks_7
theorem n344_8 : Snd mt G 344 8 (oCall 2 (fV [4] 316 2) 0 11 xOut) := s_callV (m' := 316) (n := 1) xsh_out (w_xok0 mm344) (w_cal mm344 mm316 pn_X3 (Nat.le_of_ble_eq_true rfl) (Nat.le_of_ble_eq_true rfl)) (fun h b as hc hn => w_run_V (ci := 3) mm344 mm316 dX3_lacks_8 (Or.inl (List.mem_singleton.mp hc)) (Nat.le_of_ble_eq_true rfl) vc_3 rfl q2758 q2760 qs84 q150 q2761 pa316 hn)
theorem n344_11 : Snd mt G 344 11 (oIfEq 14 18) := w_if_ne (hm := mm344) dX3_lacks_11 rfl
theorem n344_14 : Snd mt G 344 14 (oConst (.int 1) 15) := w_iconst (hm := mm344) dX3_lacks_14 rfl
theorem n344_15 : Snd mt G 344 15 (oGoto 19) := w_goto (hm := mm344) dX3_lacks_15 rfl
theorem n344_18 : Snd mt G 344 18 (oConst (.int 0) 19) := w_iconst (hm := mm344) dX3_lacks_18 rfl
theorem n344_19 : Snd mt G 344 19 (oConst (.int 1) 20) := w_iconst (hm := mm344) dX3_lacks_19 rfl
theorem n344_20 : Snd mt G 344 20 (oCall 3 (fV [4] 285 3) 0 23 xOut) := s_callV (m' := 285) (n := 2) xsh_out (w_xok0 mm344) (w_cal mm344 mm285 pn_X3 (Nat.le_of_ble_eq_true rfl) (Nat.le_of_ble_eq_true rfl)) (fun h b as hc hn => w_run_V (ci := 3) mm344 mm285 dX3_lacks_20 (Or.inl (List.mem_singleton.mp hc)) (Nat.le_of_ble_eq_true rfl) vc_3 rfl q2634 q2636 qs62 q150 q2637 pa285 hn)
theorem n344_23 : Snd mt G 344 23 (oIfEq 26 48) := w_if_ne (hm := mm344) dX3_lacks_23 rfl
theorem n344_26 : Snd mt G 344 26 (oAload 0 27) := w_aload_n (hm := mm344) dX3_lacks_26
theorem n344_27 : Snd mt G 344 27 (oIload 2 28) := w_iload_n (hm := mm344) dX3_lacks_27
theorem n344_28 : Snd mt G 344 28 (oConst (.int 0) 29) := w_iconst (hm := mm344) dX3_lacks_28 rfl
theorem n344_29 : Snd mt G 344 29 (oConst (.int 1) 30) := w_iconst (hm := mm344) dX3_lacks_29 rfl
theorem n344_30 : Snd mt G 344 30 (oCall 3 (fS 284 3) 0 33 xOut) := s_callS (m' := 284) (n := 3) xsh_out (w_xok0 mm344) (w_cal mm344 mm284 pn_X3 (Nat.le_of_ble_eq_true rfl) (Nat.le_of_ble_eq_true rfl)) (fun h as hn => w_run_S mm344 mm284 dX3_lacks_30 q2631 q2632 q150 q2633 pa284 hn)
theorem n344_33 : Snd mt G 344 33 (oIfEq 36 40) := w_if_ne (hm := mm344) dX3_lacks_33 rfl
theorem n344_36 : Snd mt G 344 36 (oConst (.int 1) 37) := w_iconst (hm := mm344) dX3_lacks_36 rfl
theorem n344_37 : Snd mt G 344 37 (oGoto 41) := w_goto (hm := mm344) dX3_lacks_37 rfl
theorem n344_40 : Snd mt G 344 40 (oConst (.int 0) 41) := w_iconst (hm := mm344) dX3_lacks_40 rfl
theorem n344_41 : Snd mt G 344 41 (oConst (.int 2) 42) := w_iconst (hm := mm344) dX3_lacks_41 rfl
theorem n344_42 : Snd mt G 344 42 (oCall 3 (fV [4] 285 3) 0 45 xOut) := s_callV (m' := 285) (n := 2) xsh_out (w_xok0 mm344) (w_cal mm344 mm285 pn_X3 (Nat.le_of_ble_eq_true rfl) (Nat.le_of_ble_eq_true rfl)) (fun h b as hc hn => w_run_V (ci := 3) mm344 mm285 dX3_lacks_42 (Or.inl (List.mem_singleton.mp hc)) (Nat.le_of_ble_eq_true rfl) vc_3 rfl q2634 q2636 qs62 q150 q2637 pa285 hn)
theorem n344_45 : Snd mt G 344 45 (oIfEq 50 48) := w_if_eq (hm := mm344) dX3_lacks_45 rfl
theorem n344_48 : Snd mt G 344 48 (oConst (.int 0) 49) := w_iconst (hm := mm344) dX3_lacks_48 rfl
theorem n344_49 : Snd mt G 344 49 (oRetI .int) := w_iret (hm := mm344) dX3_lacks_49 rfl
theorem n344_50 : Snd mt G 344 50 (oAload 0 51) := w_aload_n (hm := mm344) dX3_lacks_50
theorem n344_51 : Snd mt G 344 51 (oIload 1 52) := w_iload_n (hm := mm344) dX3_lacks_51
theorem n344_52 : Snd mt G 344 52 (oCall 2 (fV [4] 324 2) 0 55 xOut) := s_callV (m' := 324) (n := 1) xsh_out (w_xok0 mm344) (w_cal mm344 mm324 pn_X3 (Nat.le_of_ble_eq_true rfl) (Nat.le_of_ble_eq_true rfl)) (fun h b as hc hn => w_run_V (ci := 3) mm344 mm324 dX3_lacks_52 (Or.inl (List.mem_singleton.mp hc)) (Nat.le_of_ble_eq_true rfl) vc_3 rfl q2790 q2792 qs88 q150 q2793 pa324 hn)
theorem n344_55 : Snd mt G 344 55 (oIload 2 56) := w_iload_n (hm := mm344) dX3_lacks_55
theorem n344_56 : Snd mt G 344 56 (oIfEq 59 67) := w_if_ne (hm := mm344) dX3_lacks_56 rfl
theorem n344_59 : Snd mt G 344 59 (oAload 0 60) := w_aload_n (hm := mm344) dX3_lacks_59
theorem n344_60 : Snd mt G 344 60 (oIload 1 61) := w_iload_n (hm := mm344) dX3_lacks_60
theorem n344_61 : Snd mt G 344 61 (oCall 2 (fV [4] 345 4) 0 64 xOut) := s_callV (m' := 345) (n := 1) xsh_out (w_xok0 mm344) (w_cal mm344 mm345 pn_X3 (Nat.le_of_ble_eq_true rfl) (Nat.le_of_ble_eq_true rfl)) (fun h b as hc hn => w_run_V (ci := 3) mm344 mm345 dX3_lacks_61 (Or.inl (List.mem_singleton.mp hc)) (Nat.le_of_ble_eq_true rfl) vc_3 rfl q2873 q2875 qs100 q150 q2876 pa345 hn)
theorem n344_64 : Snd mt G 344 64 (oGoto 77) := w_goto (hm := mm344) dX3_lacks_64 rfl
theorem n344_67 : Snd mt G 344 67 (oAload 0 68) := w_aload_n (hm := mm344) dX3_lacks_67
theorem n344_68 : Snd mt G 344 68 (oIload 1 69) := w_iload_n (hm := mm344) dX3_lacks_68
theorem n344_69 : Snd mt G 344 69 (oAload 0 70) := w_aload_n (hm := mm344) dX3_lacks_69
theorem n344_70 : Snd mt G 344 70 (oIload 1 71) := w_iload_n (hm := mm344) dX3_lacks_70
theorem n344_71 : Snd mt G 344 71 (oCall 2 (fV [4] 345 4) 0 74 xOut) := s_callV (m' := 345) (n := 1) xsh_out (w_xok0 mm344) (w_cal mm344 mm345 pn_X3 (Nat.le_of_ble_eq_true rfl) (Nat.le_of_ble_eq_true rfl)) (fun h b as hc hn => w_run_V (ci := 3) mm344 mm345 dX3_lacks_71 (Or.inl (List.mem_singleton.mp hc)) (Nat.le_of_ble_eq_true rfl) vc_3 rfl q2873 q2875 qs100 q150 q2876 pa345 hn)
theorem n344_74 : Snd mt G 344 74 (oCall 3 (fV [4] 346 5) 0 77 xOut) := s_callV (m' := 346) (n := 2) xsh_out (w_xok0 mm344) (w_cal mm344 mm346 pn_X3 (Nat.le_of_ble_eq_true rfl) (Nat.le_of_ble_eq_true rfl)) (fun h b as hc hn => w_run_V (ci := 3) mm344 mm346 dX3_lacks_74 (Or.inl (List.mem_singleton.mp hc)) (Nat.le_of_ble_eq_true rfl) vc_3 rfl q2877 q2879 qs101 q150 q2880 pa346 hn)
theorem n344_77 : Snd mt G 344 77 (oRetI .int) := w_iret (hm := mm344) dX3_lacks_77 rfl
theorem sj344 : ∀ pc, Snd mt G 344 pc (j344 pc) := fun pc => (snd_br ((snd_br ((snd_br ((snd_br ((snd_br ((snd_br ((snd_lf n344_77)) ((snd_lf n344_74)))) ((snd_lf n344_71)))) ((snd_br ((snd_br ((snd_lf n344_70)) ((snd_lf n344_69)))) ((snd_lf n344_68)))))) ((snd_br ((snd_br ((snd_br ((snd_lf n344_67)) ((snd_lf n344_64)))) ((snd_lf n344_61)))) ((snd_br ((snd_lf n344_60)) ((snd_lf n344_59)))))))) ((snd_br ((snd_br ((snd_br ((snd_br ((snd_lf n344_56)) ((snd_lf n344_55)))) ((snd_lf n344_52)))) ((snd_br ((snd_br ((snd_lf n344_51)) ((snd_lf n344_50)))) ((snd_lf n344_49)))))) ((snd_br ((snd_br ((snd_br ((snd_lf n344_48)) ((snd_lf n344_45)))) ((snd_lf n344_42)))) ((snd_br ((snd_lf n344_41)) ((snd_lf n344_40)))))))))) ((snd_br ((snd_br ((snd_br ((snd_br ((snd_br ((snd_lf n344_37)) ((snd_lf n344_36)))) ((snd_lf n344_33)))) ((snd_br ((snd_br ((snd_lf n344_30)) ((snd_lf n344_29)))) ((snd_lf n344_28)))))) ((snd_br ((snd_br ((snd_br ((snd_lf n344_27)) ((snd_lf n344_26)))) ((snd_lf n344_23)))) ((snd_br ((snd_lf n344_20)) ((snd_lf n344_19)))))))) ((snd_br ((snd_br ((snd_br ((snd_br ((snd_lf n344_18)) ((snd_lf n344_15)))) ((snd_lf n344_14)))) ((snd_br ((snd_br ((snd_lf n344_11)) ((snd_lf n344_8)))) ((snd_lf n344_7)))))) ((snd_br ((snd_br ((snd_br ((snd_lf n344_6)) ((snd_lf n344_5)))) ((snd_lf n344_2)))) ((snd_br ((snd_lf n344_1)) ((snd_lf n344_0)))))))))))
end
section
variable {G : AG}
theorem n345_0 : Snd mt G 345 0 (oConst (.int 0) 1) := w_iconst (hm := mm345) dX3_lacking_0 rfl
theorem n345_1 : Snd mt G 345 1 (oIstore 2 2) := w_istore_n (hm := mm345) dX3_lacking_1 (Nat.le_of_ble_eq_true rfl)
theorem n345_2 : Snd mt G 345 2 (oConst (.int 0) 3) := w_iconst (hm := mm345) dX3_lacking_2 rfl
theorem n345_3 : Snd mt G 345 3 (oIstore 3 4) := w_istore_n (hm := mm345) dX3_lacking_3 (Nat.le_of_ble_eq_true rfl)
theorem n345_4 : Snd mt G 345 4 (oIload 3 5) := w_iload_n (hm := mm345) dX3_lacking_4
theorem n345_5 : Snd mt G 345 5 (oConst (.int 4) 6) := w_iconst (hm := mm345) dX3_lacking_5 rfl
theorem n345_6 : Snd mt G 345 6 (oCmpGe 46 9) := w_icmp_ge (hm := mm345) dX3_lacking_6 rfl
theorem n345_9 : Snd mt G 345 9 (oIload 2 10) := w_iload_n (hm := mm345) dX3_lacking_9
theorem n345_10 : Snd mt G 345 10 (oAload 0 11) := w_aload_n (hm := mm345) dX3_lacking_10
theorem n345_11 : Snd mt G 345 11 (oGetf [4] 21 14) := w_getf (hm := mm345) dX3_lacking_11 (fok1 (k := 21) (T := TX3) 3 (Nat.le_of_ble_eq_true rfl) vc_3 (Nat.le_of_ble_eq_true rfl) q2426)
theorem n345_14 : Snd mt G 345 14 (oIload 3 15) := w_iload_n (hm := mm345) dX3_lacking_14
theorem n345_15 : Snd mt G 345 15 (oBin (fun x y => x >>> (y &&& 31)) 16) := w_ishr (hm := mm345) dX3_lacking_15
theorem n345_16 : Snd mt G 345 16 (oConst (.int 1) 17) := w_iconst (hm := mm345) dX3_lacking_16 rfl
theorem n345_17 : Snd mt G 345 17 (oBin (fun x y => x &&& y) 18) := w_iand (hm := mm345) dX3_lacking_17
theorem n345_18 : Snd mt G 345 18 (oConst (.int 1) 19) := w_iconst (hm := mm345) dX3_lacking_18 rfl
theorem n345_19 : Snd mt G 345 19 (oCmpEq 22 37) := w_icmp_ne (hm := mm345) dX3_lacking_19 rfl
theorem n345_22 : Snd mt G 345 22 (oAload 0 23) := w_aload_n (hm := mm345) dX3_lacking_22
theorem n345_23 : Snd mt G 345 23 (oIload 1 24) := w_iload_n (hm := mm345) dX3_lacking_23
theorem n345_24 : Snd mt G 345 24 (oIload 3 25) := w_iload_n (hm := mm345) dX3_lacking_24
theorem n345_25 : Snd mt G 345 25 (oCall 3 (fV [4] 329 3) 0 28 xOut) := s_callV (m' := 329) (n := 2) xsh_out (w_xok0 mm345) (w_cal mm345 mm329 pn_X3 (Nat.le_of_ble_eq_true rfl) (Nat.le_of_ble_eq_true rfl)) (fun h b as hc hn => w_run_V (ci := 3) mm345 mm329 dX3_lacking_25 (Or.inl (List.mem_singleton.mp hc)) (Nat.le_of_ble_eq_true rfl) vc_3 rfl q2810 q2812 qs92 q150 q2813 pa329 hn)
theorem n345_28 : Snd mt G 345 28 (oIfEq 31 37) := w_if_ne (hm := mm345) dX3_lacking_28 rfl
theorem n345_31 : Snd mt G 345 31 (oConst (.int 1) 32) := w_iconst (hm := mm345) dX3_lacking_31 rfl
theorem n345_32 : Snd mt G 345 32 (oIload 3 33) := w_iload_n (hm := mm345) dX3_lacking_32
theorem n345_33 : Snd mt G 345 33 (oBin (fun x y => x <<< (y &&& 31)) 34) := w_ishl (hm := mm345) dX3_lacking_33
theorem n345_34 : Snd mt G 345 34 (oGoto 38) := w_goto (hm := mm345) dX3_lacking_34 rfl
theorem n345_37 : Snd mt G 345 37 (oConst (.int 0) 38) := w_iconst (hm := mm345) dX3_lacking_37 rfl
theorem n345_38 : Snd mt G 345 38 (oBin (fun x y => x ||| y) 39) := w_ior (hm := mm345) dX3_lacking_38
theorem n345_39 : Snd mt G 345 39 (oIstore 2 40) := w_istore_n (hm := mm345) dX3_lacking_39 (Nat.le_of_ble_eq_true rfl)
theorem n345_40 : Snd mt G 345 40 (oIinc 3 1 43) := w_iinc (hm := mm345) dX3_lacking_40 rfl (Nat.le_of_ble_eq_true rfl)
theorem n345_43 : Snd mt G 345 43 (oGoto 4) := w_goto (hm := mm345) dX3_lacking_43 rfl
theorem n345_46 : Snd mt G 345 46 (oIload 2 47) := w_iload_n (hm := mm345) dX3_lacking_46
theorem n345_47 : Snd mt G 345 47 (oRetI .int) := w_iret (hm := mm345) dX3_lacking_47 rfl
theorem sj345 : ∀ pc, Snd mt G 345 pc (j345 pc) := fun pc => (snd_br ((snd_br ((snd_br ((snd_br ((snd_br ((snd_lf n345_47)) ((snd_lf n345_46)))) ((snd_br ((snd_lf n345_43)) ((snd_lf n345_40)))))) ((snd_br ((snd_br ((snd_lf n345_39)) ((snd_lf n345_38)))) ((snd_br ((snd_lf n345_37)) ((snd_lf n345_34)))))))) ((snd_br ((snd_br ((snd_br ((snd_lf n345_33)) ((snd_lf n345_32)))) ((snd_br ((snd_lf n345_31)) ((snd_lf n345_28)))))) ((snd_br ((snd_br ((snd_lf n345_25)) ((snd_lf n345_24)))) ((snd_br ((snd_lf n345_23)) ((snd_lf n345_22)))))))))) ((snd_br ((snd_br ((snd_br ((snd_br ((snd_lf n345_19)) ((snd_lf n345_18)))) ((snd_br ((snd_lf n345_17)) ((snd_lf n345_16)))))) ((snd_br ((snd_br ((snd_lf n345_15)) ((snd_lf n345_14)))) ((snd_br ((snd_lf n345_11)) ((snd_lf n345_10)))))))) ((snd_br ((snd_br ((snd_br ((snd_lf n345_9)) ((snd_lf n345_6)))) ((snd_br ((snd_lf n345_5)) ((snd_lf n345_4)))))) ((snd_br ((snd_br ((snd_lf n345_3)) ((snd_lf n345_2)))) ((snd_br ((snd_lf n345_1)) ((snd_lf n345_0)))))))))))
end
section
variable {G : AG}
theorem n346_0 : Snd mt G 346 0 (oConst (.int 0) 1) := w_iconst (hm := mm346) dX3_waited_0 rfl
theorem n346_1 : Snd mt G 346 1 (oIstore 3 2) := w_istore_n (hm := mm346) dX3_waited_1 (Nat.le_of_ble_eq_true rfl)
theorem n346_2 : Snd mt G 346 2 (oConst (.int 0) 3) := w_iconst (hm := mm346) dX3_waited_2 rfl
theorem n346_3 : Snd mt G 346 3 (oIstore 4 5) := w_istore (hm := mm346) dX3_waited_3 (Nat.le_of_ble_eq_true rfl)
theorem n346_5 : Snd mt G 346 5 (oIload 4 7) := w_iload (hm := mm346) dX3_waited_5
theorem n346_7 : Snd mt G 346 7 (oConst (.int 4) 8) := w_iconst (hm := mm346) dX3_waited_7 rfl
theorem n346_8 : Snd mt G 346 8 (oCmpGe 52 11) := w_icmp_ge (hm := mm346) dX3_waited_8 rfl
theorem n346_11 : Snd mt G 346 11 (oIload 2 12) := w_iload_n (hm := mm346) dX3_waited_11
theorem n346_12 : Snd mt G 346 12 (oIload 4 14) := w_iload (hm := mm346) dX3_waited_12
theorem n346_14 : Snd mt G 346 14 (oBin (fun x y => x >>> (y &&& 31)) 15) := w_ishr (hm := mm346) dX3_waited_14
theorem n346_15 : Snd mt G 346 15 (oConst (.int 1) 16) := w_iconst (hm := mm346) dX3_waited_15 rfl
theorem n346_16 : Snd mt G 346 16 (oBin (fun x y => x &&& y) 17) := w_iand (hm := mm346) dX3_waited_16
theorem n346_17 : Snd mt G 346 17 (oConst (.int 1) 18) := w_iconst (hm := mm346) dX3_waited_17 rfl
theorem n346_18 : Snd mt G 346 18 (oCmpEq 21 44) := w_icmp_ne (hm := mm346) dX3_waited_18 rfl
theorem n346_21 : Snd mt G 346 21 (oIload 3 22) := w_iload_n (hm := mm346) dX3_waited_21
theorem n346_22 : Snd mt G 346 22 (oAload 0 23) := w_aload_n (hm := mm346) dX3_waited_22
theorem n346_23 : Snd mt G 346 23 (oGetf [4] 27 26) := w_getf (hm := mm346) dX3_waited_23 (fok1 (k := 27) (T := TX3) 3 (Nat.le_of_ble_eq_true rfl) vc_3 (Nat.le_of_ble_eq_true rfl) q2432)
theorem n346_26 : Snd mt G 346 26 (oAload 0 27) := w_aload_n (hm := mm346) dX3_waited_26
theorem n346_27 : Snd mt G 346 27 (oGetf [4] 48 30) := w_getf (hm := mm346) dX3_waited_27 (fok1 (k := 48) (T := TX3) 3 (Nat.le_of_ble_eq_true rfl) vc_3 (Nat.le_of_ble_eq_true rfl) q2453)
theorem n346_30 : Snd mt G 346 30 (oConst (.int 4) 31) := w_iconst (hm := mm346) dX3_waited_30 rfl
theorem n346_31 : Snd mt G 346 31 (oIload 1 32) := w_iload_n (hm := mm346) dX3_waited_31
theorem n346_32 : Snd mt G 346 32 (oBin (fun x y => x * y) 33) := w_imul (hm := mm346) dX3_waited_32
theorem n346_33 : Snd mt G 346 33 (oIload 4 35) := w_iload (hm := mm346) dX3_waited_33
theorem n346_35 : Snd mt G 346 35 (oBin (fun x y => x + y) 36) := w_iadd (hm := mm346) dX3_waited_35
theorem n346_36 : Snd mt G 346 36 (oAld [100] 37) := w_iaload (hm := mm346) (kt := 0) dX3_waited_36 at_0 (Nat.le_of_ble_eq_true rfl) (List.forall_mem_cons.mpr ⟨Or.inl rfl, (fun t ht => nomatch ht)⟩)
theorem n346_37 : Snd mt G 346 37 (oBin (fun x y => x - y) 38) := w_isub (hm := mm346) dX3_waited_37
theorem n346_38 : Snd mt G 346 38 (oCall 2 (fS 347 2) 0 41 xOut) := s_callS (m' := 347) (n := 2) xsh_out (w_xok0 mm346) (w_cal mm346 mm347 pn_X3 (Nat.le_of_ble_eq_true rfl) (Nat.le_of_ble_eq_true rfl)) (fun h as hn => w_run_S mm346 mm347 dX3_waited_38 q2881 q2882 q150 q2883 pa347 hn)
theorem n346_41 : Snd mt G 346 41 (oGoto 45) := w_goto (hm := mm346) dX3_waited_41 rfl
theorem n346_44 : Snd mt G 346 44 (oIload 3 45) := w_iload_n (hm := mm346) dX3_waited_44
theorem n346_45 : Snd mt G 346 45 (oIstore 3 46) := w_istore_n (hm := mm346) dX3_waited_45 (Nat.le_of_ble_eq_true rfl)
theorem n346_46 : Snd mt G 346 46 (oIinc 4 1 49) := w_iinc (hm := mm346) dX3_waited_46 rfl (Nat.le_of_ble_eq_true rfl)
theorem n346_49 : Snd mt G 346 49 (oGoto 5) := w_goto (hm := mm346) dX3_waited_49 rfl
theorem n346_52 : Snd mt G 346 52 (oIload 3 53) := w_iload_n (hm := mm346) dX3_waited_52
theorem n346_53 : Snd mt G 346 53 (oRetI .int) := w_iret (hm := mm346) dX3_waited_53 rfl
theorem sj346 : ∀ pc, Snd mt G 346 pc (j346 pc) := fun pc => (snd_br ((snd_br ((snd_br ((snd_br ((snd_br ((snd_br ((snd_lf n346_53)) ((snd_lf n346_52)))) ((snd_lf n346_49)))) ((snd_br ((snd_lf n346_46)) ((snd_lf n346_45)))))) ((snd_br ((snd_br ((snd_lf n346_44)) ((snd_lf n346_41)))) ((snd_br ((snd_lf n346_38)) ((snd_lf n346_37)))))))) ((snd_br ((snd_br ((snd_br ((snd_lf n346_36)) ((snd_lf n346_35)))) ((snd_br ((snd_lf n346_33)) ((snd_lf n346_32)))))) ((snd_br ((snd_br ((snd_lf n346_31)) ((snd_lf n346_30)))) ((snd_br ((snd_lf n346_27)) ((snd_lf n346_26)))))))))) ((snd_br ((snd_br ((snd_br ((snd_br ((snd_br ((snd_lf n346_23)) ((snd_lf n346_22)))) ((snd_lf n346_21)))) ((snd_br ((snd_lf n346_18)) ((snd_lf n346_17)))))) ((snd_br ((snd_br ((snd_lf n346_16)) ((snd_lf n346_15)))) ((snd_br ((snd_lf n346_14)) ((snd_lf n346_12)))))))) ((snd_br ((snd_br ((snd_br ((snd_lf n346_11)) ((snd_lf n346_8)))) ((snd_br ((snd_lf n346_7)) ((snd_lf n346_5)))))) ((snd_br ((snd_br ((snd_lf n346_3)) ((snd_lf n346_2)))) ((snd_br ((snd_lf n346_1)) ((snd_lf n346_0)))))))))))
end
section
variable {G : AG}
theorem n347_0 : Snd mt G 347 0 (oIload 0 1) := w_iload_n (hm := mm347) dX3_more_0
theorem n347_1 : Snd mt G 347 1 (oIload 1 2) := w_iload_n (hm := mm347) dX3_more_1
theorem n347_2 : Snd mt G 347 2 (oCmpLe 9 5) := w_icmp_le (hm := mm347) dX3_more_2 rfl
theorem n347_5 : Snd mt G 347 5 (oIload 0 6) := w_iload_n (hm := mm347) dX3_more_5
theorem n347_6 : Snd mt G 347 6 (oGoto 10) := w_goto (hm := mm347) dX3_more_6 rfl
theorem n347_9 : Snd mt G 347 9 (oIload 1 10) := w_iload_n (hm := mm347) dX3_more_9
theorem n347_10 : Snd mt G 347 10 (oRetI .int) := w_iret (hm := mm347) dX3_more_10 rfl
theorem sj347 : ∀ pc, Snd mt G 347 pc (j347 pc) := fun pc => (snd_br ((snd_br ((snd_br ((snd_lf n347_10)) ((snd_lf n347_9)))) ((snd_br ((snd_lf n347_6)) ((snd_lf n347_5)))))) ((snd_br ((snd_br ((snd_lf n347_2)) ((snd_lf n347_1)))) ((snd_lf n347_0)))))
end
section
variable {G : AG}
theorem n348_0 : Snd mt G 348 0 (oAload 0 1) := w_aload_n (hm := mm348) dX3_beyond_0
theorem n348_1 : Snd mt G 348 1 (oConst (.int 0) 2) := w_iconst (hm := mm348) dX3_beyond_1 rfl
theorem n348_2 : Snd mt G 348 2 (oPutf [4] 0 .int 5) := w_putf (hm := mm348) dX3_beyond_2 (pok1 (k := 0) (T := TX3) 3 (Nat.le_of_ble_eq_true rfl) vc_3 (Nat.le_of_ble_eq_true rfl) rfl pd_X3_0 q2405)
theorem n348_5 : Snd mt G 348 5 (oConst (.int 0) 6) := w_iconst (hm := mm348) dX3_beyond_5 rfl
theorem n348_6 : Snd mt G 348 6 (oIstore 1 7) := w_istore_n (hm := mm348) dX3_beyond_6 (Nat.le_of_ble_eq_true rfl)
theorem n348_7 : Snd mt G 348 7 (oConst (.int 0) 8) := w_iconst (hm := mm348) dX3_beyond_7 rfl
theorem n348_8 : Snd mt G 348 8 (oIstore 2 9) := w_istore_n (hm := mm348) dX3_beyond_8 (Nat.le_of_ble_eq_true rfl)
theorem n348_9 : Snd mt G 348 9 (oIload 2 10) := w_iload_n (hm := mm348) dX3_beyond_9
theorem n348_10 : Snd mt G 348 10 (oAload 0 11) := w_aload_n (hm := mm348) dX3_beyond_10
theorem n348_11 : Snd mt G 348 11 (oGetf [4] 29 14) := w_getf (hm := mm348) dX3_beyond_11 (fok1 (k := 29) (T := TX3) 3 (Nat.le_of_ble_eq_true rfl) vc_3 (Nat.le_of_ble_eq_true rfl) q2434)
theorem n348_14 : Snd mt G 348 14 (oCmpGe 41 17) := w_icmp_ge (hm := mm348) dX3_beyond_14 rfl
theorem n348_17 : Snd mt G 348 17 (oIload 1 18) := w_iload_n (hm := mm348) dX3_beyond_17
theorem n348_18 : Snd mt G 348 18 (oAload 0 19) := w_aload_n (hm := mm348) dX3_beyond_18
theorem n348_19 : Snd mt G 348 19 (oIload 2 20) := w_iload_n (hm := mm348) dX3_beyond_19
theorem n348_20 : Snd mt G 348 20 (oCall 2 (fV [4] 349 3) 0 23 xOut) := s_callV (m' := 349) (n := 1) xsh_out (w_xok0 mm348) (w_cal mm348 mm349 pn_X3 (Nat.le_of_ble_eq_true rfl) (Nat.le_of_ble_eq_true rfl)) (fun h b as hc hn => w_run_V (ci := 3) mm348 mm349 dX3_beyond_20 (Or.inl (List.mem_singleton.mp hc)) (Nat.le_of_ble_eq_true rfl) vc_3 rfl q2888 q2890 qs102 q150 q2891 pa349 hn)
theorem n348_23 : Snd mt G 348 23 (oIfLe 32 26) := w_if_le (hm := mm348) dX3_beyond_23 rfl
theorem n348_26 : Snd mt G 348 26 (oConst (.int 1) 27) := w_iconst (hm := mm348) dX3_beyond_26 rfl
theorem n348_27 : Snd mt G 348 27 (oIload 2 28) := w_iload_n (hm := mm348) dX3_beyond_27
theorem n348_28 : Snd mt G 348 28 (oBin (fun x y => x <<< (y &&& 31)) 29) := w_ishl (hm := mm348) dX3_beyond_28
theorem n348_29 : Snd mt G 348 29 (oGoto 33) := w_goto (hm := mm348) dX3_beyond_29 rfl
theorem n348_32 : Snd mt G 348 32 (oConst (.int 0) 33) := w_iconst (hm := mm348) dX3_beyond_32 rfl
theorem n348_33 : Snd mt G 348 33 (oBin (fun x y => x ||| y) 34) := w_ior (hm := mm348) dX3_beyond_33
theorem n348_34 : Snd mt G 348 34 (oIstore 1 35) := w_istore_n (hm := mm348) dX3_beyond_34 (Nat.le_of_ble_eq_true rfl)
theorem n348_35 : Snd mt G 348 35 (oIinc 2 1 38) := w_iinc (hm := mm348) dX3_beyond_35 rfl (Nat.le_of_ble_eq_true rfl)
theorem n348_38 : Snd mt G 348 38 (oGoto 9) := w_goto (hm := mm348) dX3_beyond_38 rfl
theorem n348_41 : Snd mt G 348 41 (oIload 1 42) := w_iload_n (hm := mm348) dX3_beyond_41
theorem n348_42 : Snd mt G 348 42 (oRetI .int) := w_iret (hm := mm348) dX3_beyond_42 rfl
theorem sj348 : ∀ pc, Snd mt G 348 pc (j348 pc) := fun pc => (snd_br ((snd_br ((snd_br ((snd_br ((snd_br ((snd_lf n348_42)) ((snd_lf n348_41)))) ((snd_br ((snd_lf n348_38)) ((snd_lf n348_35)))))) ((snd_br ((snd_br ((snd_lf n348_34)) ((snd_lf n348_33)))) ((snd_lf n348_32)))))) ((snd_br ((snd_br ((snd_br ((snd_lf n348_29)) ((snd_lf n348_28)))) ((snd_br ((snd_lf n348_27)) ((snd_lf n348_26)))))) ((snd_br ((snd_br ((snd_lf n348_23)) ((snd_lf n348_20)))) ((snd_lf n348_19)))))))) ((snd_br ((snd_br ((snd_br ((snd_br ((snd_lf n348_18)) ((snd_lf n348_17)))) ((snd_br ((snd_lf n348_14)) ((snd_lf n348_11)))))) ((snd_br ((snd_br ((snd_lf n348_10)) ((snd_lf n348_9)))) ((snd_lf n348_8)))))) ((snd_br ((snd_br ((snd_br ((snd_lf n348_7)) ((snd_lf n348_6)))) ((snd_lf n348_5)))) ((snd_br ((snd_br ((snd_lf n348_2)) ((snd_lf n348_1)))) ((snd_lf n348_0)))))))))
end
section
variable {G : AG}
theorem n349_0 : Snd mt G 349 0 (oAload 0 1) := w_aload_n (hm := mm349) dX3_longer_0
theorem n349_1 : Snd mt G 349 1 (oIload 1 2) := w_iload_n (hm := mm349) dX3_longer_1
theorem n349_2 : Snd mt G 349 2 (oCall 2 (fV [4] 324 2) 0 5 xOut) := s_callV (m' := 324) (n := 1) xsh_out (w_xok0 mm349) (w_cal mm349 mm324 pn_X3 (Nat.le_of_ble_eq_true rfl) (Nat.le_of_ble_eq_true rfl)) (fun h b as hc hn => w_run_V (ci := 3) mm349 mm324 dX3_longer_2 (Or.inl (List.mem_singleton.mp hc)) (Nat.le_of_ble_eq_true rfl) vc_3 rfl q2790 q2792 qs88 q150 q2793 pa324 hn)
theorem n349_5 : Snd mt G 349 5 (oAload 0 6) := w_aload_n (hm := mm349) dX3_longer_5
theorem n349_6 : Snd mt G 349 6 (oIload 1 7) := w_iload_n (hm := mm349) dX3_longer_6
theorem n349_7 : Snd mt G 349 7 (oAload 0 8) := w_aload_n (hm := mm349) dX3_longer_7
theorem n349_8 : Snd mt G 349 8 (oIload 1 9) := w_iload_n (hm := mm349) dX3_longer_8
theorem n349_9 : Snd mt G 349 9 (oCall 2 (fV [4] 345 4) 0 12 xOut) := s_callV (m' := 345) (n := 1) xsh_out (w_xok0 mm349) (w_cal mm349 mm345 pn_X3 (Nat.le_of_ble_eq_true rfl) (Nat.le_of_ble_eq_true rfl)) (fun h b as hc hn => w_run_V (ci := 3) mm349 mm345 dX3_longer_9 (Or.inl (List.mem_singleton.mp hc)) (Nat.le_of_ble_eq_true rfl) vc_3 rfl q2873 q2875 qs100 q150 q2876 pa345 hn)
theorem n349_12 : Snd mt G 349 12 (oCall 3 (fV [4] 346 5) 0 15 xOut) := s_callV (m' := 346) (n := 2) xsh_out (w_xok0 mm349) (w_cal mm349 mm346 pn_X3 (Nat.le_of_ble_eq_true rfl) (Nat.le_of_ble_eq_true rfl)) (fun h b as hc hn => w_run_V (ci := 3) mm349 mm346 dX3_longer_12 (Or.inl (List.mem_singleton.mp hc)) (Nat.le_of_ble_eq_true rfl) vc_3 rfl q2877 q2879 qs101 q150 q2880 pa346 hn)
theorem n349_15 : Snd mt G 349 15 (oIstore 2 16) := w_istore_n (hm := mm349) dX3_longer_15 (Nat.le_of_ble_eq_true rfl)
theorem n349_16 : Snd mt G 349 16 (oAload 0 17) := w_aload_n (hm := mm349) dX3_longer_16
theorem n349_17 : Snd mt G 349 17 (oGetf [4] 22 20) := w_getf (hm := mm349) dX3_longer_17 (fok1 (k := 22) (T := TX3) 3 (Nat.le_of_ble_eq_true rfl) vc_3 (Nat.le_of_ble_eq_true rfl) q2427)
theorem n349_20 : Snd mt G 349 20 (oConst (.int (-1)) 21) := w_iconst (hm := mm349) dX3_longer_20 rfl
theorem n349_21 : Snd mt G 349 21 (oCmpEq 32 24) := w_icmp_eq (hm := mm349) dX3_longer_21 rfl
theorem n349_24 : Snd mt G 349 24 (oIload 2 25) := w_iload_n (hm := mm349) dX3_longer_24
theorem n349_25 : Snd mt G 349 25 (oAload 0 26) := w_aload_n (hm := mm349) dX3_longer_25
theorem n349_26 : Snd mt G 349 26 (oGetf [4] 22 29) := w_getf (hm := mm349) dX3_longer_26 (fok1 (k := 22) (T := TX3) 3 (Nat.le_of_ble_eq_true rfl) vc_3 (Nat.le_of_ble_eq_true rfl) q2427)
theorem n349_29 : Snd mt G 349 29 (oCmpGt 36 32) := w_icmp_gt (hm := mm349) dX3_longer_29 rfl
theorem n349_32 : Snd mt G 349 32 (oConst (.int 0) 33) := w_iconst (hm := mm349) dX3_longer_32 rfl
theorem n349_33 : Snd mt G 349 33 (oGoto 42) := w_goto (hm := mm349) dX3_longer_33 rfl
theorem n349_36 : Snd mt G 349 36 (oIload 2 37) := w_iload_n (hm := mm349) dX3_longer_36
theorem n349_37 : Snd mt G 349 37 (oAload 0 38) := w_aload_n (hm := mm349) dX3_longer_37
theorem n349_38 : Snd mt G 349 38 (oGetf [4] 22 41) := w_getf (hm := mm349) dX3_longer_38 (fok1 (k := 22) (T := TX3) 3 (Nat.le_of_ble_eq_true rfl) vc_3 (Nat.le_of_ble_eq_true rfl) q2427)
theorem n349_41 : Snd mt G 349 41 (oBin (fun x y => x - y) 42) := w_isub (hm := mm349) dX3_longer_41
theorem n349_42 : Snd mt G 349 42 (oRetI .int) := w_iret (hm := mm349) dX3_longer_42 rfl
theorem sj349 : ∀ pc, Snd mt G 349 pc (j349 pc) := fun pc => (snd_br ((snd_br ((snd_br ((snd_br ((snd_br ((snd_lf n349_42)) ((snd_lf n349_41)))) ((snd_br ((snd_lf n349_38)) ((snd_lf n349_37)))))) ((snd_br ((snd_br ((snd_lf n349_36)) ((snd_lf n349_33)))) ((snd_lf n349_32)))))) ((snd_br ((snd_br ((snd_br ((snd_lf n349_29)) ((snd_lf n349_26)))) ((snd_lf n349_25)))) ((snd_br ((snd_br ((snd_lf n349_24)) ((snd_lf n349_21)))) ((snd_lf n349_20)))))))) ((snd_br ((snd_br ((snd_br ((snd_br ((snd_lf n349_17)) ((snd_lf n349_16)))) ((snd_lf n349_15)))) ((snd_br ((snd_br ((snd_lf n349_12)) ((snd_lf n349_9)))) ((snd_lf n349_8)))))) ((snd_br ((snd_br ((snd_br ((snd_lf n349_7)) ((snd_lf n349_6)))) ((snd_lf n349_5)))) ((snd_br ((snd_br ((snd_lf n349_2)) ((snd_lf n349_1)))) ((snd_lf n349_0)))))))))
end
section
variable {G : AG}
theorem n350_0 : Snd mt G 350 0 (oAload 0 1) := w_aload_n (hm := mm350) dX3_served_0
theorem n350_1 : Snd mt G 350 1 (oConst (.int 0) 2) := w_iconst (hm := mm350) dX3_served_1 rfl
theorem n350_2 : Snd mt G 350 2 (oPutf [4] 0 .int 5) := w_putf (hm := mm350) dX3_served_2 (pok1 (k := 0) (T := TX3) 3 (Nat.le_of_ble_eq_true rfl) vc_3 (Nat.le_of_ble_eq_true rfl) rfl pd_X3_0 q2405)
theorem n350_5 : Snd mt G 350 5 (oConst (.int 0) 6) := w_iconst (hm := mm350) dX3_served_5 rfl
theorem n350_6 : Snd mt G 350 6 (oIstore 2 7) := w_istore_n (hm := mm350) dX3_served_6 (Nat.le_of_ble_eq_true rfl)
theorem n350_7 : Snd mt G 350 7 (oIload 2 8) := w_iload_n (hm := mm350) dX3_served_7
theorem n350_8 : Snd mt G 350 8 (oAload 0 9) := w_aload_n (hm := mm350) dX3_served_8
theorem n350_9 : Snd mt G 350 9 (oGetf [4] 29 12) := w_getf (hm := mm350) dX3_served_9 (fok1 (k := 29) (T := TX3) 3 (Nat.le_of_ble_eq_true rfl) vc_3 (Nat.le_of_ble_eq_true rfl) q2434)
theorem n350_12 : Snd mt G 350 12 (oCmpGe 96 15) := w_icmp_ge (hm := mm350) dX3_served_12 rfl
theorem n350_15 : Snd mt G 350 15 (oConst (.int 0) 16) := w_iconst (hm := mm350) dX3_served_15 rfl
theorem n350_16 : Snd mt G 350 16 (oIstore 3 17) := w_istore_n (hm := mm350) dX3_served_16 (Nat.le_of_ble_eq_true rfl)
theorem n350_17 : Snd mt G 350 17 (oAload 0 18) := w_aload_n (hm := mm350) dX3_served_17
theorem n350_18 : Snd mt G 350 18 (oIload 2 19) := w_iload_n (hm := mm350) dX3_served_18
theorem n350_19 : Snd mt G 350 19 (oCall 2 (fV [4] 349 3) 0 22 xOut) := s_callV (m' := 349) (n := 1) xsh_out (w_xok0 mm350) (w_cal mm350 mm349 pn_X3 (Nat.le_of_ble_eq_true rfl) (Nat.le_of_ble_eq_true rfl)) (fun h b as hc hn => w_run_V (ci := 3) mm350 mm349 dX3_served_19 (Or.inl (List.mem_singleton.mp hc)) (Nat.le_of_ble_eq_true rfl) vc_3 rfl q2888 q2890 qs102 q150 q2891 pa349 hn)
theorem n350_22 : Snd mt G 350 22 (oIstore 4 24) := w_istore (hm := mm350) dX3_served_22 (Nat.le_of_ble_eq_true rfl)
theorem n350_24 : Snd mt G 350 24 (oConst (.int 0) 25) := w_iconst (hm := mm350) dX3_served_24 rfl
theorem n350_25 : Snd mt G 350 25 (oIstore 5 27) := w_istore (hm := mm350) dX3_served_25 (Nat.le_of_ble_eq_true rfl)
theorem n350_27 : Snd mt G 350 27 (oIload 5 29) := w_iload (hm := mm350) dX3_served_27
theorem n350_29 : Snd mt G 350 29 (oAload 0 30) := w_aload_n (hm := mm350) dX3_served_29
theorem n350_30 : Snd mt G 350 30 (oGetf [4] 29 33) := w_getf (hm := mm350) dX3_served_30 (fok1 (k := 29) (T := TX3) 3 (Nat.le_of_ble_eq_true rfl) vc_3 (Nat.le_of_ble_eq_true rfl) q2434)
theorem n350_33 : Snd mt G 350 33 (oCmpGe 78 36) := w_icmp_ge (hm := mm350) dX3_served_33 rfl
theorem n350_36 : Snd mt G 350 36 (oIload 3 37) := w_iload_n (hm := mm350) dX3_served_36
theorem n350_37 : Snd mt G 350 37 (oAload 0 38) := w_aload_n (hm := mm350) dX3_served_37
theorem n350_38 : Snd mt G 350 38 (oIload 5 40) := w_iload (hm := mm350) dX3_served_38
theorem n350_40 : Snd mt G 350 40 (oCall 2 (fV [4] 349 3) 0 43 xOut) := s_callV (m' := 349) (n := 1) xsh_out (w_xok0 mm350) (w_cal mm350 mm349 pn_X3 (Nat.le_of_ble_eq_true rfl) (Nat.le_of_ble_eq_true rfl)) (fun h b as hc hn => w_run_V (ci := 3) mm350 mm349 dX3_served_40 (Or.inl (List.mem_singleton.mp hc)) (Nat.le_of_ble_eq_true rfl) vc_3 rfl q2888 q2890 qs102 q150 q2891 pa349 hn)
theorem n350_43 : Snd mt G 350 43 (oIload 4 45) := w_iload (hm := mm350) dX3_served_43
theorem n350_45 : Snd mt G 350 45 (oCmpGt 65 48) := w_icmp_gt (hm := mm350) dX3_served_45 rfl
theorem n350_48 : Snd mt G 350 48 (oIload 5 50) := w_iload (hm := mm350) dX3_served_48
theorem n350_50 : Snd mt G 350 50 (oIload 2 51) := w_iload_n (hm := mm350) dX3_served_50
theorem n350_51 : Snd mt G 350 51 (oCmpGe 69 54) := w_icmp_ge (hm := mm350) dX3_served_51 rfl
theorem n350_54 : Snd mt G 350 54 (oAload 0 55) := w_aload_n (hm := mm350) dX3_served_54
theorem n350_55 : Snd mt G 350 55 (oIload 5 57) := w_iload (hm := mm350) dX3_served_55
theorem n350_57 : Snd mt G 350 57 (oCall 2 (fV [4] 349 3) 0 60 xOut) := s_callV (m' := 349) (n := 1) xsh_out (w_xok0 mm350) (w_cal mm350 mm349 pn_X3 (Nat.le_of_ble_eq_true rfl) (Nat.le_of_ble_eq_true rfl)) (fun h b as hc hn => w_run_V (ci := 3) mm350 mm349 dX3_served_57 (Or.inl (List.mem_singleton.mp hc)) (Nat.le_of_ble_eq_true rfl) vc_3 rfl q2888 q2890 qs102 q150 q2891 pa349 hn)
theorem n350_60 : Snd mt G 350 60 (oIload 4 62) := w_iload (hm := mm350) dX3_served_60
theorem n350_62 : Snd mt G 350 62 (oCmpEq 65 69) := w_icmp_ne (hm := mm350) dX3_served_62 rfl
theorem n350_65 : Snd mt G 350 65 (oConst (.int 1) 66) := w_iconst (hm := mm350) dX3_served_65 rfl
theorem n350_66 : Snd mt G 350 66 (oGoto 70) := w_goto (hm := mm350) dX3_served_66 rfl
theorem n350_69 : Snd mt G 350 69 (oConst (.int 0) 70) := w_iconst (hm := mm350) dX3_served_69 rfl
theorem n350_70 : Snd mt G 350 70 (oBin (fun x y => x + y) 71) := w_iadd (hm := mm350) dX3_served_70
theorem n350_71 : Snd mt G 350 71 (oIstore 3 72) := w_istore_n (hm := mm350) dX3_served_71 (Nat.le_of_ble_eq_true rfl)
theorem n350_72 : Snd mt G 350 72 (oIinc 5 1 75) := w_iinc (hm := mm350) dX3_served_72 rfl (Nat.le_of_ble_eq_true rfl)
theorem n350_75 : Snd mt G 350 75 (oGoto 27) := w_goto (hm := mm350) dX3_served_75 rfl
theorem n350_78 : Snd mt G 350 78 (oIload 4 80) := w_iload (hm := mm350) dX3_served_78
theorem n350_80 : Snd mt G 350 80 (oIfLe 90 83) := w_if_le (hm := mm350) dX3_served_80 rfl
theorem n350_83 : Snd mt G 350 83 (oIload 3 84) := w_iload_n (hm := mm350) dX3_served_83
theorem n350_84 : Snd mt G 350 84 (oIload 1 85) := w_iload_n (hm := mm350) dX3_served_84
theorem n350_85 : Snd mt G 350 85 (oCmpEq 88 90) := w_icmp_ne (hm := mm350) dX3_served_85 rfl
theorem n350_88 : Snd mt G 350 88 (oIload 2 89) := w_iload_n (hm := mm350) dX3_served_88
theorem n350_89 : Snd mt G 350 89 (oRetI .int) := w_iret (hm := mm350) dX3_served_89 rfl
theorem n350_90 : Snd mt G 350 90 (oIinc 2 1 93) := w_iinc (hm := mm350) dX3_served_90 rfl (Nat.le_of_ble_eq_true rfl)
theorem n350_93 : Snd mt G 350 93 (oGoto 7) := w_goto (hm := mm350) dX3_served_93 rfl
theorem n350_96 : Snd mt G 350 96 (oConst (.int (-1)) 97) := w_iconst (hm := mm350) dX3_served_96 rfl
theorem n350_97 : Snd mt G 350 97 (oRetI .int) := w_iret (hm := mm350) dX3_served_97 rfl
theorem sj350 : ∀ pc, Snd mt G 350 pc (j350 pc) := fun pc => (snd_br ((snd_br ((snd_br ((snd_br ((snd_br ((snd_br ((snd_lf n350_97)) ((snd_lf n350_96)))) ((snd_br ((snd_lf n350_93)) ((snd_lf n350_90)))))) ((snd_br ((snd_br ((snd_lf n350_89)) ((snd_lf n350_88)))) ((snd_lf n350_85)))))) ((snd_br ((snd_br ((snd_br ((snd_lf n350_84)) ((snd_lf n350_83)))) ((snd_br ((snd_lf n350_80)) ((snd_lf n350_78)))))) ((snd_br ((snd_br ((snd_lf n350_75)) ((snd_lf n350_72)))) ((snd_lf n350_71)))))))) ((snd_br ((snd_br ((snd_br ((snd_br ((snd_lf n350_70)) ((snd_lf n350_69)))) ((snd_br ((snd_lf n350_66)) ((snd_lf n350_65)))))) ((snd_br ((snd_br ((snd_lf n350_62)) ((snd_lf n350_60)))) ((snd_lf n350_57)))))) ((snd_br ((snd_br ((snd_br ((snd_lf n350_55)) ((snd_lf n350_54)))) ((snd_lf n350_51)))) ((snd_br ((snd_br ((snd_lf n350_50)) ((snd_lf n350_48)))) ((snd_lf n350_45)))))))))) ((snd_br ((snd_br ((snd_br ((snd_br ((snd_br ((snd_lf n350_43)) ((snd_lf n350_40)))) ((snd_br ((snd_lf n350_38)) ((snd_lf n350_37)))))) ((snd_br ((snd_br ((snd_lf n350_36)) ((snd_lf n350_33)))) ((snd_lf n350_30)))))) ((snd_br ((snd_br ((snd_br ((snd_lf n350_29)) ((snd_lf n350_27)))) ((snd_lf n350_25)))) ((snd_br ((snd_br ((snd_lf n350_24)) ((snd_lf n350_22)))) ((snd_lf n350_19)))))))) ((snd_br ((snd_br ((snd_br ((snd_br ((snd_lf n350_18)) ((snd_lf n350_17)))) ((snd_br ((snd_lf n350_16)) ((snd_lf n350_15)))))) ((snd_br ((snd_br ((snd_lf n350_12)) ((snd_lf n350_9)))) ((snd_lf n350_8)))))) ((snd_br ((snd_br ((snd_br ((snd_lf n350_7)) ((snd_lf n350_6)))) ((snd_lf n350_5)))) ((snd_br ((snd_br ((snd_lf n350_2)) ((snd_lf n350_1)))) ((snd_lf n350_0)))))))))))
end
section
variable {G : AG}
theorem n351_0 : Snd mt G 351 0 (oAload 0 1) := w_aload_n (hm := mm351) dX3_choice_0
theorem n351_1 : Snd mt G 351 1 (oConst (.int 0) 2) := w_iconst (hm := mm351) dX3_choice_1 rfl
theorem n351_2 : Snd mt G 351 2 (oPutf [4] 0 .int 5) := w_putf (hm := mm351) dX3_choice_2 (pok1 (k := 0) (T := TX3) 3 (Nat.le_of_ble_eq_true rfl) vc_3 (Nat.le_of_ble_eq_true rfl) rfl pd_X3_0 q2405)
theorem n351_5 : Snd mt G 351 5 (oAload 0 6) := w_aload_n (hm := mm351) dX3_choice_5
theorem n351_6 : Snd mt G 351 6 (oAload 0 7) := w_aload_n (hm := mm351) dX3_choice_6
theorem n351_7 : Snd mt G 351 7 (oIload 1 8) := w_iload_n (hm := mm351) dX3_choice_7
theorem n351_8 : Snd mt G 351 8 (oCall 2 (fV [4] 316 2) 0 11 xOut) := s_callV (m' := 316) (n := 1) xsh_out (w_xok0 mm351) (w_cal mm351 mm316 pn_X3 (Nat.le_of_ble_eq_true rfl) (Nat.le_of_ble_eq_true rfl)) (fun h b as hc hn => w_run_V (ci := 3) mm351 mm316 dX3_choice_8 (Or.inl (List.mem_singleton.mp hc)) (Nat.le_of_ble_eq_true rfl) vc_3 rfl q2758 q2760 qs84 q150 q2761 pa316 hn)
theorem n351_11 : Snd mt G 351 11 (oIfEq 14 18) := w_if_ne (hm := mm351) dX3_choice_11 rfl
theorem n351_14 : Snd mt G 351 14 (oConst (.int 1) 15) := w_iconst (hm := mm351) dX3_choice_14 rfl
theorem n351_15 : Snd mt G 351 15 (oGoto 19) := w_goto (hm := mm351) dX3_choice_15 rfl
theorem n351_18 : Snd mt G 351 18 (oConst (.int 0) 19) := w_iconst (hm := mm351) dX3_choice_18 rfl
theorem n351_19 : Snd mt G 351 19 (oConst (.int 1) 20) := w_iconst (hm := mm351) dX3_choice_19 rfl
theorem n351_20 : Snd mt G 351 20 (oCall 3 (fV [4] 285 3) 0 23 xOut) := s_callV (m' := 285) (n := 2) xsh_out (w_xok0 mm351) (w_cal mm351 mm285 pn_X3 (Nat.le_of_ble_eq_true rfl) (Nat.le_of_ble_eq_true rfl)) (fun h b as hc hn => w_run_V (ci := 3) mm351 mm285 dX3_choice_20 (Or.inl (List.mem_singleton.mp hc)) (Nat.le_of_ble_eq_true rfl) vc_3 rfl q2634 q2636 qs62 q150 q2637 pa285 hn)
theorem n351_23 : Snd mt G 351 23 (oIfEq 26 48) := w_if_ne (hm := mm351) dX3_choice_23 rfl
theorem n351_26 : Snd mt G 351 26 (oAload 0 27) := w_aload_n (hm := mm351) dX3_choice_26
theorem n351_27 : Snd mt G 351 27 (oIload 2 28) := w_iload_n (hm := mm351) dX3_choice_27
theorem n351_28 : Snd mt G 351 28 (oConst (.int 0) 29) := w_iconst (hm := mm351) dX3_choice_28 rfl
theorem n351_29 : Snd mt G 351 29 (oConst (.int 3) 30) := w_iconst (hm := mm351) dX3_choice_29 rfl
theorem n351_30 : Snd mt G 351 30 (oCall 3 (fS 284 3) 0 33 xOut) := s_callS (m' := 284) (n := 3) xsh_out (w_xok0 mm351) (w_cal mm351 mm284 pn_X3 (Nat.le_of_ble_eq_true rfl) (Nat.le_of_ble_eq_true rfl)) (fun h as hn => w_run_S mm351 mm284 dX3_choice_30 q2631 q2632 q150 q2633 pa284 hn)
theorem n351_33 : Snd mt G 351 33 (oIfEq 36 40) := w_if_ne (hm := mm351) dX3_choice_33 rfl
theorem n351_36 : Snd mt G 351 36 (oConst (.int 1) 37) := w_iconst (hm := mm351) dX3_choice_36 rfl
theorem n351_37 : Snd mt G 351 37 (oGoto 41) := w_goto (hm := mm351) dX3_choice_37 rfl
theorem n351_40 : Snd mt G 351 40 (oConst (.int 0) 41) := w_iconst (hm := mm351) dX3_choice_40 rfl
theorem n351_41 : Snd mt G 351 41 (oConst (.int 2) 42) := w_iconst (hm := mm351) dX3_choice_41 rfl
theorem n351_42 : Snd mt G 351 42 (oCall 3 (fV [4] 285 3) 0 45 xOut) := s_callV (m' := 285) (n := 2) xsh_out (w_xok0 mm351) (w_cal mm351 mm285 pn_X3 (Nat.le_of_ble_eq_true rfl) (Nat.le_of_ble_eq_true rfl)) (fun h b as hc hn => w_run_V (ci := 3) mm351 mm285 dX3_choice_42 (Or.inl (List.mem_singleton.mp hc)) (Nat.le_of_ble_eq_true rfl) vc_3 rfl q2634 q2636 qs62 q150 q2637 pa285 hn)
theorem n351_45 : Snd mt G 351 45 (oIfEq 50 48) := w_if_eq (hm := mm351) dX3_choice_45 rfl
theorem n351_48 : Snd mt G 351 48 (oConst (.int 0) 49) := w_iconst (hm := mm351) dX3_choice_48 rfl
theorem n351_49 : Snd mt G 351 49 (oRetI .int) := w_iret (hm := mm351) dX3_choice_49 rfl
theorem n351_50 : Snd mt G 351 50 (oAload 0 51) := w_aload_n (hm := mm351) dX3_choice_50
theorem n351_51 : Snd mt G 351 51 (oIload 1 52) := w_iload_n (hm := mm351) dX3_choice_51
theorem n351_52 : Snd mt G 351 52 (oCall 2 (fV [4] 352 2) 0 55 xOut) := s_callV (m' := 352) (n := 1) xsh_out (w_xok0 mm351) (w_cal mm351 mm352 pn_X3 (Nat.le_of_ble_eq_true rfl) (Nat.le_of_ble_eq_true rfl)) (fun h b as hc hn => w_run_V (ci := 3) mm351 mm352 dX3_choice_52 (Or.inl (List.mem_singleton.mp hc)) (Nat.le_of_ble_eq_true rfl) vc_3 rfl q2900 q2902 qs103 q150 q2903 pa352 hn)
theorem n351_55 : Snd mt G 351 55 (oIfEq 67 58) := w_if_eq (hm := mm351) dX3_choice_55 rfl
theorem n351_58 : Snd mt G 351 58 (oAload 0 59) := w_aload_n (hm := mm351) dX3_choice_58
theorem n351_59 : Snd mt G 351 59 (oGetf [4] 63 62) := w_getf (hm := mm351) dX3_choice_59 (fok1 (k := 63) (T := TX3) 3 (Nat.le_of_ble_eq_true rfl) vc_3 (Nat.le_of_ble_eq_true rfl) q2468)
theorem n351_62 : Snd mt G 351 62 (oIload 2 63) := w_iload_n (hm := mm351) dX3_choice_62
theorem n351_63 : Snd mt G 351 63 (oAld [100] 64) := w_iaload (hm := mm351) (kt := 0) dX3_choice_63 at_0 (Nat.le_of_ble_eq_true rfl) (List.forall_mem_cons.mpr ⟨Or.inl rfl, (fun t ht => nomatch ht)⟩)
theorem n351_64 : Snd mt G 351 64 (oGoto 69) := w_goto (hm := mm351) dX3_choice_64 rfl
theorem n351_67 : Snd mt G 351 67 (oConst (.int (-2)) 69) := w_bipush (hm := mm351) dX3_choice_67 (by decide)
theorem n351_69 : Snd mt G 351 69 (oRetI .int) := w_iret (hm := mm351) dX3_choice_69 rfl
theorem sj351 : ∀ pc, Snd mt G 351 pc (j351 pc) := fun pc => (snd_br ((snd_br ((snd_br ((snd_br ((snd_br ((snd_br ((snd_lf n351_69)) ((snd_lf n351_67)))) ((snd_lf n351_64)))) ((snd_br ((snd_lf n351_63)) ((snd_lf n351_62)))))) ((snd_br ((snd_br ((snd_br ((snd_lf n351_59)) ((snd_lf n351_58)))) ((snd_lf n351_55)))) ((snd_br ((snd_lf n351_52)) ((snd_lf n351_51)))))))) ((snd_br ((snd_br ((snd_br ((snd_br ((snd_lf n351_50)) ((snd_lf n351_49)))) ((snd_lf n351_48)))) ((snd_br ((snd_lf n351_45)) ((snd_lf n351_42)))))) ((snd_br ((snd_br ((snd_br ((snd_lf n351_41)) ((snd_lf n351_40)))) ((snd_lf n351_37)))) ((snd_br ((snd_lf n351_36)) ((snd_lf n351_33)))))))))) ((snd_br ((snd_br ((snd_br ((snd_br ((snd_br ((snd_lf n351_30)) ((snd_lf n351_29)))) ((snd_lf n351_28)))) ((snd_br ((snd_lf n351_27)) ((snd_lf n351_26)))))) ((snd_br ((snd_br ((snd_br ((snd_lf n351_23)) ((snd_lf n351_20)))) ((snd_lf n351_19)))) ((snd_br ((snd_lf n351_18)) ((snd_lf n351_15)))))))) ((snd_br ((snd_br ((snd_br ((snd_br ((snd_lf n351_14)) ((snd_lf n351_11)))) ((snd_lf n351_8)))) ((snd_br ((snd_lf n351_7)) ((snd_lf n351_6)))))) ((snd_br ((snd_br ((snd_lf n351_5)) ((snd_lf n351_2)))) ((snd_br ((snd_lf n351_1)) ((snd_lf n351_0)))))))))))
end
section
variable {G : AG}
theorem n352_0 : Snd mt G 352 0 (oAload 0 1) := w_aload_n (hm := mm352) dX3_findChoice_0
theorem n352_1 : Snd mt G 352 1 (oIload 1 2) := w_iload_n (hm := mm352) dX3_findChoice_1
theorem n352_2 : Snd mt G 352 2 (oCall 2 (fV [4] 324 2) 0 5 xOut) := s_callV (m' := 324) (n := 1) xsh_out (w_xok0 mm352) (w_cal mm352 mm324 pn_X3 (Nat.le_of_ble_eq_true rfl) (Nat.le_of_ble_eq_true rfl)) (fun h b as hc hn => w_run_V (ci := 3) mm352 mm324 dX3_findChoice_2 (Or.inl (List.mem_singleton.mp hc)) (Nat.le_of_ble_eq_true rfl) vc_3 rfl q2790 q2792 qs88 q150 q2793 pa324 hn)
theorem n352_5 : Snd mt G 352 5 (oAload 0 6) := w_aload_n (hm := mm352) dX3_findChoice_5
theorem n352_6 : Snd mt G 352 6 (oConst (.int (-1)) 7) := w_iconst (hm := mm352) dX3_findChoice_6 rfl
theorem n352_7 : Snd mt G 352 7 (oPutf [4] 65 .int 10) := w_putf (hm := mm352) dX3_findChoice_7 (pok1 (k := 65) (T := TX3) 3 (Nat.le_of_ble_eq_true rfl) vc_3 (Nat.le_of_ble_eq_true rfl) rfl pd_X3_65 q2470)
theorem n352_10 : Snd mt G 352 10 (oAload 0 11) := w_aload_n (hm := mm352) dX3_findChoice_10
theorem n352_11 : Snd mt G 352 11 (oConst (.int 0) 12) := w_iconst (hm := mm352) dX3_findChoice_11 rfl
theorem n352_12 : Snd mt G 352 12 (oPutf [4] 66 .int 15) := w_putf (hm := mm352) dX3_findChoice_12 (pok1 (k := 66) (T := TX3) 3 (Nat.le_of_ble_eq_true rfl) vc_3 (Nat.le_of_ble_eq_true rfl) rfl pd_X3_66 q2471)
theorem n352_15 : Snd mt G 352 15 (oAload 0 16) := w_aload_n (hm := mm352) dX3_findChoice_15
theorem n352_16 : Snd mt G 352 16 (oConst (.int 0) 17) := w_iconst (hm := mm352) dX3_findChoice_16 rfl
theorem n352_17 : Snd mt G 352 17 (oIload 1 18) := w_iload_n (hm := mm352) dX3_findChoice_17
theorem n352_18 : Snd mt G 352 18 (oCall 3 (fV [4] 353 6) 0 21 xOut) := s_callV (m' := 353) (n := 2) xsh_out (w_xok0 mm352) (w_cal mm352 mm353 pn_X3 (Nat.le_of_ble_eq_true rfl) (Nat.le_of_ble_eq_true rfl)) (fun h b as hc hn => w_run_V (ci := 3) mm352 mm353 dX3_findChoice_18 (Or.inl (List.mem_singleton.mp hc)) (Nat.le_of_ble_eq_true rfl) vc_3 rfl q2904 q2906 qs104 q150 q2907 pa353 hn)
theorem n352_21 : Snd mt G 352 21 (oAload 0 22) := w_aload_n (hm := mm352) dX3_findChoice_21
theorem n352_22 : Snd mt G 352 22 (oGetf [4] 65 25) := w_getf (hm := mm352) dX3_findChoice_22 (fok1 (k := 65) (T := TX3) 3 (Nat.le_of_ble_eq_true rfl) vc_3 (Nat.le_of_ble_eq_true rfl) q2470)
theorem n352_25 : Snd mt G 352 25 (oConst (.int (-1)) 26) := w_iconst (hm := mm352) dX3_findChoice_25 rfl
theorem n352_26 : Snd mt G 352 26 (oCmpEq 33 29) := w_icmp_eq (hm := mm352) dX3_findChoice_26 rfl
theorem n352_29 : Snd mt G 352 29 (oConst (.int 1) 30) := w_iconst (hm := mm352) dX3_findChoice_29 rfl
theorem n352_30 : Snd mt G 352 30 (oGoto 34) := w_goto (hm := mm352) dX3_findChoice_30 rfl
theorem n352_33 : Snd mt G 352 33 (oConst (.int 0) 34) := w_iconst (hm := mm352) dX3_findChoice_33 rfl
theorem n352_34 : Snd mt G 352 34 (oRetI .boolean) := w_zret (hm := mm352) dX3_findChoice_34 rfl
theorem sj352 : ∀ pc, Snd mt G 352 pc (j352 pc) := fun pc => (snd_br ((snd_br ((snd_br ((snd_br ((snd_br ((snd_lf n352_34)) ((snd_lf n352_33)))) ((snd_lf n352_30)))) ((snd_br ((snd_br ((snd_lf n352_29)) ((snd_lf n352_26)))) ((snd_lf n352_25)))))) ((snd_br ((snd_br ((snd_br ((snd_lf n352_22)) ((snd_lf n352_21)))) ((snd_lf n352_18)))) ((snd_br ((snd_lf n352_17)) ((snd_lf n352_16)))))))) ((snd_br ((snd_br ((snd_br ((snd_br ((snd_lf n352_15)) ((snd_lf n352_12)))) ((snd_lf n352_11)))) ((snd_br ((snd_lf n352_10)) ((snd_lf n352_7)))))) ((snd_br ((snd_br ((snd_br ((snd_lf n352_6)) ((snd_lf n352_5)))) ((snd_lf n352_2)))) ((snd_br ((snd_lf n352_1)) ((snd_lf n352_0)))))))))
end
section
variable {G : AG}
theorem n353_0 : Snd mt G 353 0 (oIload 1 1) := w_iload_n (hm := mm353) dX3_chooses_0
theorem n353_1 : Snd mt G 353 1 (oConst (.int 4) 2) := w_iconst (hm := mm353) dX3_chooses_1 rfl
theorem n353_2 : Snd mt G 353 2 (oCmpEq 5 183) := w_icmp_ne (hm := mm353) dX3_chooses_2 rfl
theorem n353_5 : Snd mt G 353 5 (oConst (.int 0) 6) := w_iconst (hm := mm353) dX3_chooses_5 rfl
theorem n353_6 : Snd mt G 353 6 (oIstore 3 7) := w_istore_n (hm := mm353) dX3_chooses_6 (Nat.le_of_ble_eq_true rfl)
theorem n353_7 : Snd mt G 353 7 (oConst (.int 0) 8) := w_iconst (hm := mm353) dX3_chooses_7 rfl
theorem n353_8 : Snd mt G 353 8 (oIstore 4 10) := w_istore (hm := mm353) dX3_chooses_8 (Nat.le_of_ble_eq_true rfl)
theorem n353_10 : Snd mt G 353 10 (oConst (.int 0) 11) := w_iconst (hm := mm353) dX3_chooses_10 rfl
theorem n353_11 : Snd mt G 353 11 (oIstore 5 13) := w_istore (hm := mm353) dX3_chooses_11 (Nat.le_of_ble_eq_true rfl)
theorem n353_13 : Snd mt G 353 13 (oIload 5 15) := w_iload (hm := mm353) dX3_chooses_13
theorem n353_15 : Snd mt G 353 15 (oConst (.int 4) 16) := w_iconst (hm := mm353) dX3_chooses_15 rfl
theorem n353_16 : Snd mt G 353 16 (oCmpGe 100 19) := w_icmp_ge (hm := mm353) dX3_chooses_16 rfl
theorem n353_19 : Snd mt G 353 19 (oIload 3 20) := w_iload_n (hm := mm353) dX3_chooses_19
theorem n353_20 : Snd mt G 353 20 (oAload 0 21) := w_aload_n (hm := mm353) dX3_chooses_20
theorem n353_21 : Snd mt G 353 21 (oGetf [4] 64 24) := w_getf (hm := mm353) dX3_chooses_21 (fok1 (k := 64) (T := TX3) 3 (Nat.le_of_ble_eq_true rfl) vc_3 (Nat.le_of_ble_eq_true rfl) q2469)
theorem n353_24 : Snd mt G 353 24 (oIload 5 26) := w_iload (hm := mm353) dX3_chooses_24
theorem n353_26 : Snd mt G 353 26 (oAld [100] 27) := w_iaload (hm := mm353) (kt := 0) dX3_chooses_26 at_0 (Nat.le_of_ble_eq_true rfl) (List.forall_mem_cons.mpr ⟨Or.inl rfl, (fun t ht => nomatch ht)⟩)
theorem n353_27 : Snd mt G 353 27 (oConst (.int (-1)) 28) := w_iconst (hm := mm353) dX3_chooses_27 rfl
theorem n353_28 : Snd mt G 353 28 (oCmpEq 31 35) := w_icmp_ne (hm := mm353) dX3_chooses_28 rfl
theorem n353_31 : Snd mt G 353 31 (oConst (.int 0) 32) := w_iconst (hm := mm353) dX3_chooses_31 rfl
theorem n353_32 : Snd mt G 353 32 (oGoto 58) := w_goto (hm := mm353) dX3_chooses_32 rfl
theorem n353_35 : Snd mt G 353 35 (oAload 0 36) := w_aload_n (hm := mm353) dX3_chooses_35
theorem n353_36 : Snd mt G 353 36 (oGetf [4] 45 39) := w_getf (hm := mm353) dX3_chooses_36 (fok1 (k := 45) (T := TX3) 3 (Nat.le_of_ble_eq_true rfl) vc_3 (Nat.le_of_ble_eq_true rfl) q2450)
theorem n353_39 : Snd mt G 353 39 (oAload 0 40) := w_aload_n (hm := mm353) dX3_chooses_39
theorem n353_40 : Snd mt G 353 40 (oGetf [4] 64 43) := w_getf (hm := mm353) dX3_chooses_40 (fok1 (k := 64) (T := TX3) 3 (Nat.le_of_ble_eq_true rfl) vc_3 (Nat.le_of_ble_eq_true rfl) q2469)
theorem n353_43 : Snd mt G 353 43 (oIload 5 45) := w_iload (hm := mm353) dX3_chooses_43
theorem n353_45 : Snd mt G 353 45 (oAld [100] 46) := w_iaload (hm := mm353) (kt := 0) dX3_chooses_45 at_0 (Nat.le_of_ble_eq_true rfl) (List.forall_mem_cons.mpr ⟨Or.inl rfl, (fun t ht => nomatch ht)⟩)
theorem n353_46 : Snd mt G 353 46 (oAld [106] 47) := w_aaload (hm := mm353) (kt := 6) dX3_chooses_46 rfl at_6 (Nat.le_of_ble_eq_true rfl) (List.forall_mem_cons.mpr ⟨Or.inl rfl, (fun t ht => nomatch ht)⟩)
theorem n353_47 : Snd mt G 353 47 (oConst (.int 3) 48) := w_iconst (hm := mm353) dX3_chooses_47 rfl
theorem n353_48 : Snd mt G 353 48 (oAload 0 49) := w_aload_n (hm := mm353) dX3_chooses_48
theorem n353_49 : Snd mt G 353 49 (oGetf [4] 46 52) := w_getf (hm := mm353) dX3_chooses_49 (fok1 (k := 46) (T := TX3) 3 (Nat.le_of_ble_eq_true rfl) vc_3 (Nat.le_of_ble_eq_true rfl) q2451)
theorem n353_52 : Snd mt G 353 52 (oIload 2 53) := w_iload_n (hm := mm353) dX3_chooses_52
theorem n353_53 : Snd mt G 353 53 (oAld [106] 54) := w_aaload (hm := mm353) (kt := 6) dX3_chooses_53 rfl at_6 (Nat.le_of_ble_eq_true rfl) (List.forall_mem_cons.mpr ⟨Or.inl rfl, (fun t ht => nomatch ht)⟩)
theorem n353_54 : Snd mt G 353 54 (oConst (.int 1) 55) := w_iconst (hm := mm353) dX3_chooses_54 rfl
theorem n353_55 : Snd mt G 353 55 (oAld [100] 56) := w_iaload (hm := mm353) (kt := 0) dX3_chooses_55 at_0 (Nat.le_of_ble_eq_true rfl) (List.forall_mem_cons.mpr ⟨Or.inl rfl, (fun t ht => nomatch ht)⟩)
theorem n353_56 : Snd mt G 353 56 (oBin (fun x y => x + y) 57) := w_iadd (hm := mm353) dX3_chooses_56
theorem n353_57 : Snd mt G 353 57 (oAld [100] 58) := w_iaload (hm := mm353) (kt := 0) dX3_chooses_57 at_0 (Nat.le_of_ble_eq_true rfl) (List.forall_mem_cons.mpr ⟨Or.inl rfl, (fun t ht => nomatch ht)⟩)
theorem n353_58 : Snd mt G 353 58 (oBin (fun x y => x + y) 59) := w_iadd (hm := mm353) dX3_chooses_58
theorem n353_59 : Snd mt G 353 59 (oIstore 3 60) := w_istore_n (hm := mm353) dX3_chooses_59 (Nat.le_of_ble_eq_true rfl)
theorem n353_60 : Snd mt G 353 60 (oIload 4 62) := w_iload (hm := mm353) dX3_chooses_60
theorem n353_62 : Snd mt G 353 62 (oAload 0 63) := w_aload_n (hm := mm353) dX3_chooses_62
theorem n353_63 : Snd mt G 353 63 (oGetf [4] 64 66) := w_getf (hm := mm353) dX3_chooses_63 (fok1 (k := 64) (T := TX3) 3 (Nat.le_of_ble_eq_true rfl) vc_3 (Nat.le_of_ble_eq_true rfl) q2469)
theorem n353_66 : Snd mt G 353 66 (oIload 5 68) := w_iload (hm := mm353) dX3_chooses_66
theorem n353_68 : Snd mt G 353 68 (oAld [100] 69) := w_iaload (hm := mm353) (kt := 0) dX3_chooses_68 at_0 (Nat.le_of_ble_eq_true rfl) (List.forall_mem_cons.mpr ⟨Or.inl rfl, (fun t ht => nomatch ht)⟩)
theorem n353_69 : Snd mt G 353 69 (oConst (.int (-1)) 70) := w_iconst (hm := mm353) dX3_chooses_69 rfl
theorem n353_70 : Snd mt G 353 70 (oCmpEq 73 77) := w_icmp_ne (hm := mm353) dX3_chooses_70 rfl
theorem n353_73 : Snd mt G 353 73 (oConst (.int 0) 74) := w_iconst (hm := mm353) dX3_chooses_73 rfl
theorem n353_74 : Snd mt G 353 74 (oGoto 91) := w_goto (hm := mm353) dX3_chooses_74 rfl
theorem n353_77 : Snd mt G 353 77 (oAload 0 78) := w_aload_n (hm := mm353) dX3_chooses_77
theorem n353_78 : Snd mt G 353 78 (oGetf [4] 45 81) := w_getf (hm := mm353) dX3_chooses_78 (fok1 (k := 45) (T := TX3) 3 (Nat.le_of_ble_eq_true rfl) vc_3 (Nat.le_of_ble_eq_true rfl) q2450)
theorem n353_81 : Snd mt G 353 81 (oAload 0 82) := w_aload_n (hm := mm353) dX3_chooses_81
theorem n353_82 : Snd mt G 353 82 (oGetf [4] 64 85) := w_getf (hm := mm353) dX3_chooses_82 (fok1 (k := 64) (T := TX3) 3 (Nat.le_of_ble_eq_true rfl) vc_3 (Nat.le_of_ble_eq_true rfl) q2469)
theorem n353_85 : Snd mt G 353 85 (oIload 5 87) := w_iload (hm := mm353) dX3_chooses_85
theorem n353_87 : Snd mt G 353 87 (oAld [100] 88) := w_iaload (hm := mm353) (kt := 0) dX3_chooses_87 at_0 (Nat.le_of_ble_eq_true rfl) (List.forall_mem_cons.mpr ⟨Or.inl rfl, (fun t ht => nomatch ht)⟩)
theorem n353_88 : Snd mt G 353 88 (oAld [106] 89) := w_aaload (hm := mm353) (kt := 6) dX3_chooses_88 rfl at_6 (Nat.le_of_ble_eq_true rfl) (List.forall_mem_cons.mpr ⟨Or.inl rfl, (fun t ht => nomatch ht)⟩)
theorem n353_89 : Snd mt G 353 89 (oConst (.int 1) 90) := w_iconst (hm := mm353) dX3_chooses_89 rfl
theorem n353_90 : Snd mt G 353 90 (oAld [100] 91) := w_iaload (hm := mm353) (kt := 0) dX3_chooses_90 at_0 (Nat.le_of_ble_eq_true rfl) (List.forall_mem_cons.mpr ⟨Or.inl rfl, (fun t ht => nomatch ht)⟩)
theorem n353_91 : Snd mt G 353 91 (oBin (fun x y => x + y) 92) := w_iadd (hm := mm353) dX3_chooses_91
theorem n353_92 : Snd mt G 353 92 (oIstore 4 94) := w_istore (hm := mm353) dX3_chooses_92 (Nat.le_of_ble_eq_true rfl)
theorem n353_94 : Snd mt G 353 94 (oIinc 5 1 97) := w_iinc (hm := mm353) dX3_chooses_94 rfl (Nat.le_of_ble_eq_true rfl)
theorem n353_97 : Snd mt G 353 97 (oGoto 13) := w_goto (hm := mm353) dX3_chooses_97 rfl
theorem n353_100 : Snd mt G 353 100 (oIload 4 102) := w_iload (hm := mm353) dX3_chooses_100
theorem n353_102 : Snd mt G 353 102 (oAload 0 103) := w_aload_n (hm := mm353) dX3_chooses_102
theorem n353_103 : Snd mt G 353 103 (oGetf [4] 20 106) := w_getf (hm := mm353) dX3_chooses_103 (fok1 (k := 20) (T := TX3) 3 (Nat.le_of_ble_eq_true rfl) vc_3 (Nat.le_of_ble_eq_true rfl) q2425)
theorem n353_106 : Snd mt G 353 106 (oAload 0 107) := w_aload_n (hm := mm353) dX3_chooses_106
theorem n353_107 : Snd mt G 353 107 (oGetf [4] 16 110) := w_getf (hm := mm353) dX3_chooses_107 (fok1 (k := 16) (T := TX3) 3 (Nat.le_of_ble_eq_true rfl) vc_3 (Nat.le_of_ble_eq_true rfl) q2421)
theorem n353_110 : Snd mt G 353 110 (oConst (.int 5) 111) := w_iconst (hm := mm353) dX3_chooses_110 rfl
theorem n353_111 : Snd mt G 353 111 (oAld [100] 112) := w_iaload (hm := mm353) (kt := 0) dX3_chooses_111 at_0 (Nat.le_of_ble_eq_true rfl) (List.forall_mem_cons.mpr ⟨Or.inl rfl, (fun t ht => nomatch ht)⟩)
theorem n353_112 : Snd mt G 353 112 (oBin (fun x y => x - y) 113) := w_isub (hm := mm353) dX3_chooses_112
theorem n353_113 : Snd mt G 353 113 (oCmpGt 141 116) := w_icmp_gt (hm := mm353) dX3_chooses_113 rfl
theorem n353_116 : Snd mt G 353 116 (oAload 0 117) := w_aload_n (hm := mm353) dX3_chooses_116
theorem n353_117 : Snd mt G 353 117 (oGetf [4] 65 120) := w_getf (hm := mm353) dX3_chooses_117 (fok1 (k := 65) (T := TX3) 3 (Nat.le_of_ble_eq_true rfl) vc_3 (Nat.le_of_ble_eq_true rfl) q2470)
theorem n353_120 : Snd mt G 353 120 (oIload 3 121) := w_iload_n (hm := mm353) dX3_chooses_120
theorem n353_121 : Snd mt G 353 121 (oCmpGt 141 124) := w_icmp_gt (hm := mm353) dX3_chooses_121 rfl
theorem n353_124 : Snd mt G 353 124 (oAload 0 125) := w_aload_n (hm := mm353) dX3_chooses_124
theorem n353_125 : Snd mt G 353 125 (oGetf [4] 65 128) := w_getf (hm := mm353) dX3_chooses_125 (fok1 (k := 65) (T := TX3) 3 (Nat.le_of_ble_eq_true rfl) vc_3 (Nat.le_of_ble_eq_true rfl) q2470)
theorem n353_128 : Snd mt G 353 128 (oIload 3 129) := w_iload_n (hm := mm353) dX3_chooses_128
theorem n353_129 : Snd mt G 353 129 (oCmpEq 132 142) := w_icmp_ne (hm := mm353) dX3_chooses_129 rfl
theorem n353_132 : Snd mt G 353 132 (oAload 0 133) := w_aload_n (hm := mm353) dX3_chooses_132
theorem n353_133 : Snd mt G 353 133 (oGetf [4] 66 136) := w_getf (hm := mm353) dX3_chooses_133 (fok1 (k := 66) (T := TX3) 3 (Nat.le_of_ble_eq_true rfl) vc_3 (Nat.le_of_ble_eq_true rfl) q2471)
theorem n353_136 : Snd mt G 353 136 (oIload 4 138) := w_iload (hm := mm353) dX3_chooses_136
theorem n353_138 : Snd mt G 353 138 (oCmpGt 142 141) := w_icmp_gt (hm := mm353) dX3_chooses_138 rfl
theorem n353_141 : Snd mt G 353 141 (oRetV) := w_vret (hm := mm353) dX3_chooses_141 rfl
theorem n353_142 : Snd mt G 353 142 (oAload 0 143) := w_aload_n (hm := mm353) dX3_chooses_142
theorem n353_143 : Snd mt G 353 143 (oIload 3 144) := w_iload_n (hm := mm353) dX3_chooses_143
theorem n353_144 : Snd mt G 353 144 (oPutf [4] 65 .int 147) := w_putf (hm := mm353) dX3_chooses_144 (pok1 (k := 65) (T := TX3) 3 (Nat.le_of_ble_eq_true rfl) vc_3 (Nat.le_of_ble_eq_true rfl) rfl pd_X3_65 q2470)
theorem n353_147 : Snd mt G 353 147 (oAload 0 148) := w_aload_n (hm := mm353) dX3_chooses_147
theorem n353_148 : Snd mt G 353 148 (oIload 4 150) := w_iload (hm := mm353) dX3_chooses_148
theorem n353_150 : Snd mt G 353 150 (oPutf [4] 66 .int 153) := w_putf (hm := mm353) dX3_chooses_150 (pok1 (k := 66) (T := TX3) 3 (Nat.le_of_ble_eq_true rfl) vc_3 (Nat.le_of_ble_eq_true rfl) rfl pd_X3_66 q2471)
theorem n353_153 : Snd mt G 353 153 (oConst (.int 0) 154) := w_iconst (hm := mm353) dX3_chooses_153 rfl
theorem n353_154 : Snd mt G 353 154 (oIstore 5 156) := w_istore (hm := mm353) dX3_chooses_154 (Nat.le_of_ble_eq_true rfl)
theorem n353_156 : Snd mt G 353 156 (oIload 5 158) := w_iload (hm := mm353) dX3_chooses_156
theorem n353_158 : Snd mt G 353 158 (oConst (.int 4) 159) := w_iconst (hm := mm353) dX3_chooses_158 rfl
theorem n353_159 : Snd mt G 353 159 (oCmpGe 182 162) := w_icmp_ge (hm := mm353) dX3_chooses_159 rfl
theorem n353_162 : Snd mt G 353 162 (oAload 0 163) := w_aload_n (hm := mm353) dX3_chooses_162
theorem n353_163 : Snd mt G 353 163 (oGetf [4] 63 166) := w_getf (hm := mm353) dX3_chooses_163 (fok1 (k := 63) (T := TX3) 3 (Nat.le_of_ble_eq_true rfl) vc_3 (Nat.le_of_ble_eq_true rfl) q2468)
theorem n353_166 : Snd mt G 353 166 (oIload 5 168) := w_iload (hm := mm353) dX3_chooses_166
theorem n353_168 : Snd mt G 353 168 (oAload 0 169) := w_aload_n (hm := mm353) dX3_chooses_168
theorem n353_169 : Snd mt G 353 169 (oGetf [4] 64 172) := w_getf (hm := mm353) dX3_chooses_169 (fok1 (k := 64) (T := TX3) 3 (Nat.le_of_ble_eq_true rfl) vc_3 (Nat.le_of_ble_eq_true rfl) q2469)
theorem n353_172 : Snd mt G 353 172 (oIload 5 174) := w_iload (hm := mm353) dX3_chooses_172
theorem n353_174 : Snd mt G 353 174 (oAld [100] 175) := w_iaload (hm := mm353) (kt := 0) dX3_chooses_174 at_0 (Nat.le_of_ble_eq_true rfl) (List.forall_mem_cons.mpr ⟨Or.inl rfl, (fun t ht => nomatch ht)⟩)
theorem n353_175 : Snd mt G 353 175 (oIast [100] 176) := w_iastore (hm := mm353) (kt := 0) dX3_chooses_175 at_0 (Nat.le_of_ble_eq_true rfl) (List.forall_mem_cons.mpr ⟨rfl, (fun t ht => nomatch ht)⟩)
theorem n353_176 : Snd mt G 353 176 (oIinc 5 1 179) := w_iinc (hm := mm353) dX3_chooses_176 rfl (Nat.le_of_ble_eq_true rfl)
theorem n353_179 : Snd mt G 353 179 (oGoto 156) := w_goto (hm := mm353) dX3_chooses_179 rfl
theorem n353_182 : Snd mt G 353 182 (oRetV) := w_vret (hm := mm353) dX3_chooses_182 rfl
theorem n353_183 : Snd mt G 353 183 (oAload 0 184) := w_aload_n (hm := mm353) dX3_chooses_183
theorem n353_184 : Snd mt G 353 184 (oGetf [4] 64 187) := w_getf (hm := mm353) dX3_chooses_184 (fok1 (k := 64) (T := TX3) 3 (Nat.le_of_ble_eq_true rfl) vc_3 (Nat.le_of_ble_eq_true rfl) q2469)
theorem n353_187 : Snd mt G 353 187 (oIload 1 188) := w_iload_n (hm := mm353) dX3_chooses_187
theorem n353_188 : Snd mt G 353 188 (oConst (.int (-1)) 189) := w_iconst (hm := mm353) dX3_chooses_188 rfl
theorem n353_189 : Snd mt G 353 189 (oIast [100] 190) := w_iastore (hm := mm353) (kt := 0) dX3_chooses_189 at_0 (Nat.le_of_ble_eq_true rfl) (List.forall_mem_cons.mpr ⟨rfl, (fun t ht => nomatch ht)⟩)
theorem n353_190 : Snd mt G 353 190 (oAload 0 191) := w_aload_n (hm := mm353) dX3_chooses_190
theorem n353_191 : Snd mt G 353 191 (oGetf [4] 21 194) := w_getf (hm := mm353) dX3_chooses_191 (fok1 (k := 21) (T := TX3) 3 (Nat.le_of_ble_eq_true rfl) vc_3 (Nat.le_of_ble_eq_true rfl) q2426)
theorem n353_194 : Snd mt G 353 194 (oIload 1 195) := w_iload_n (hm := mm353) dX3_chooses_194
theorem n353_195 : Snd mt G 353 195 (oBin (fun x y => x >>> (y &&& 31)) 196) := w_ishr (hm := mm353) dX3_chooses_195
theorem n353_196 : Snd mt G 353 196 (oConst (.int 1) 197) := w_iconst (hm := mm353) dX3_chooses_196 rfl
theorem n353_197 : Snd mt G 353 197 (oBin (fun x y => x &&& y) 198) := w_iand (hm := mm353) dX3_chooses_197
theorem n353_198 : Snd mt G 353 198 (oIfEq 201 210) := w_if_ne (hm := mm353) dX3_chooses_198 rfl
theorem n353_201 : Snd mt G 353 201 (oAload 0 202) := w_aload_n (hm := mm353) dX3_chooses_201
theorem n353_202 : Snd mt G 353 202 (oIload 1 203) := w_iload_n (hm := mm353) dX3_chooses_202
theorem n353_203 : Snd mt G 353 203 (oConst (.int 1) 204) := w_iconst (hm := mm353) dX3_chooses_203 rfl
theorem n353_204 : Snd mt G 353 204 (oBin (fun x y => x + y) 205) := w_iadd (hm := mm353) dX3_chooses_204
theorem n353_205 : Snd mt G 353 205 (oIload 2 206) := w_iload_n (hm := mm353) dX3_chooses_205
theorem n353_206 : Snd mt G 353 206 (oCall 3 (fV [4] 353 6) 1 209 xOut) := s_callV (m' := 353) (n := 2) xsh_out (w_xok0 mm353) (w_cal mm353 mm353 pn_X3 (Nat.le_of_ble_eq_true rfl) (Nat.le_of_ble_eq_true rfl)) (fun h b as hc hn => w_run_V (ci := 3) mm353 mm353 dX3_chooses_206 (Or.inl (List.mem_singleton.mp hc)) (Nat.le_of_ble_eq_true rfl) vc_3 rfl q2904 q2906 qs104 q150 q2907 pa353 hn)
theorem n353_209 : Snd mt G 353 209 (oRetV) := w_vret (hm := mm353) dX3_chooses_209 rfl
theorem n353_210 : Snd mt G 353 210 (oConst (.int 0) 211) := w_iconst (hm := mm353) dX3_chooses_210 rfl
theorem n353_211 : Snd mt G 353 211 (oIstore 3 212) := w_istore_n (hm := mm353) dX3_chooses_211 (Nat.le_of_ble_eq_true rfl)
theorem n353_212 : Snd mt G 353 212 (oIload 3 213) := w_iload_n (hm := mm353) dX3_chooses_212
theorem n353_213 : Snd mt G 353 213 (oAload 0 214) := w_aload_n (hm := mm353) dX3_chooses_213
theorem n353_214 : Snd mt G 353 214 (oGetf [4] 28 217) := w_getf (hm := mm353) dX3_chooses_214 (fok1 (k := 28) (T := TX3) 3 (Nat.le_of_ble_eq_true rfl) vc_3 (Nat.le_of_ble_eq_true rfl) q2433)
theorem n353_217 : Snd mt G 353 217 (oCmpGe 340 220) := w_icmp_ge (hm := mm353) dX3_chooses_217 rfl
theorem n353_220 : Snd mt G 353 220 (oAload 0 221) := w_aload_n (hm := mm353) dX3_chooses_220
theorem n353_221 : Snd mt G 353 221 (oGetf [4] 45 224) := w_getf (hm := mm353) dX3_chooses_221 (fok1 (k := 45) (T := TX3) 3 (Nat.le_of_ble_eq_true rfl) vc_3 (Nat.le_of_ble_eq_true rfl) q2450)
theorem n353_224 : Snd mt G 353 224 (oIload 3 225) := w_iload_n (hm := mm353) dX3_chooses_224
theorem n353_225 : Snd mt G 353 225 (oAld [106] 226) := w_aaload (hm := mm353) (kt := 6) dX3_chooses_225 rfl at_6 (Nat.le_of_ble_eq_true rfl) (List.forall_mem_cons.mpr ⟨Or.inl rfl, (fun t ht => nomatch ht)⟩)
theorem n353_226 : Snd mt G 353 226 (oConst (.int 0) 227) := w_iconst (hm := mm353) dX3_chooses_226 rfl
theorem n353_227 : Snd mt G 353 227 (oAld [100] 228) := w_iaload (hm := mm353) (kt := 0) dX3_chooses_227 at_0 (Nat.le_of_ble_eq_true rfl) (List.forall_mem_cons.mpr ⟨Or.inl rfl, (fun t ht => nomatch ht)⟩)
theorem n353_228 : Snd mt G 353 228 (oIload 1 229) := w_iload_n (hm := mm353) dX3_chooses_228
theorem n353_229 : Snd mt G 353 229 (oCmpEq 232 334) := w_icmp_ne (hm := mm353) dX3_chooses_229 rfl
theorem n353_232 : Snd mt G 353 232 (oAload 0 233) := w_aload_n (hm := mm353) dX3_chooses_232
theorem n353_233 : Snd mt G 353 233 (oGetf [4] 45 236) := w_getf (hm := mm353) dX3_chooses_233 (fok1 (k := 45) (T := TX3) 3 (Nat.le_of_ble_eq_true rfl) vc_3 (Nat.le_of_ble_eq_true rfl) q2450)
theorem n353_236 : Snd mt G 353 236 (oIload 3 237) := w_iload_n (hm := mm353) dX3_chooses_236
theorem n353_237 : Snd mt G 353 237 (oAld [106] 238) := w_aaload (hm := mm353) (kt := 6) dX3_chooses_237 rfl at_6 (Nat.le_of_ble_eq_true rfl) (List.forall_mem_cons.mpr ⟨Or.inl rfl, (fun t ht => nomatch ht)⟩)
theorem n353_238 : Snd mt G 353 238 (oConst (.int 2) 239) := w_iconst (hm := mm353) dX3_chooses_238 rfl
theorem n353_239 : Snd mt G 353 239 (oAld [100] 240) := w_iaload (hm := mm353) (kt := 0) dX3_chooses_239 at_0 (Nat.le_of_ble_eq_true rfl) (List.forall_mem_cons.mpr ⟨Or.inl rfl, (fun t ht => nomatch ht)⟩)
theorem n353_240 : Snd mt G 353 240 (oAload 0 241) := w_aload_n (hm := mm353) dX3_chooses_240
theorem n353_241 : Snd mt G 353 241 (oGetf [4] 46 244) := w_getf (hm := mm353) dX3_chooses_241 (fok1 (k := 46) (T := TX3) 3 (Nat.le_of_ble_eq_true rfl) vc_3 (Nat.le_of_ble_eq_true rfl) q2451)
theorem n353_244 : Snd mt G 353 244 (oIload 2 245) := w_iload_n (hm := mm353) dX3_chooses_244
theorem n353_245 : Snd mt G 353 245 (oAld [106] 246) := w_aaload (hm := mm353) (kt := 6) dX3_chooses_245 rfl at_6 (Nat.le_of_ble_eq_true rfl) (List.forall_mem_cons.mpr ⟨Or.inl rfl, (fun t ht => nomatch ht)⟩)
theorem n353_246 : Snd mt G 353 246 (oConst (.int 0) 247) := w_iconst (hm := mm353) dX3_chooses_246 rfl
theorem n353_247 : Snd mt G 353 247 (oAld [100] 248) := w_iaload (hm := mm353) (kt := 0) dX3_chooses_247 at_0 (Nat.le_of_ble_eq_true rfl) (List.forall_mem_cons.mpr ⟨Or.inl rfl, (fun t ht => nomatch ht)⟩)
theorem n353_248 : Snd mt G 353 248 (oCmpGe 254 251) := w_icmp_ge (hm := mm353) dX3_chooses_248 rfl
theorem n353_251 : Snd mt G 353 251 (oGoto 334) := w_goto (hm := mm353) dX3_chooses_251 rfl
theorem n353_254 : Snd mt G 353 254 (oConst (.int 1) 255) := w_iconst (hm := mm353) dX3_chooses_254 rfl
theorem n353_255 : Snd mt G 353 255 (oIstore 4 257) := w_istore (hm := mm353) dX3_chooses_255 (Nat.le_of_ble_eq_true rfl)
theorem n353_257 : Snd mt G 353 257 (oConst (.int 0) 258) := w_iconst (hm := mm353) dX3_chooses_257 rfl
theorem n353_258 : Snd mt G 353 258 (oIstore 5 260) := w_istore (hm := mm353) dX3_chooses_258 (Nat.le_of_ble_eq_true rfl)
theorem n353_260 : Snd mt G 353 260 (oIload 5 262) := w_iload (hm := mm353) dX3_chooses_260
theorem n353_262 : Snd mt G 353 262 (oIload 1 263) := w_iload_n (hm := mm353) dX3_chooses_262
theorem n353_263 : Snd mt G 353 263 (oCmpGe 314 266) := w_icmp_ge (hm := mm353) dX3_chooses_263 rfl
theorem n353_266 : Snd mt G 353 266 (oIload 4 268) := w_iload (hm := mm353) dX3_chooses_266
theorem n353_268 : Snd mt G 353 268 (oIfEq 305 271) := w_if_eq (hm := mm353) dX3_chooses_268 rfl
theorem n353_271 : Snd mt G 353 271 (oAload 0 272) := w_aload_n (hm := mm353) dX3_chooses_271
theorem n353_272 : Snd mt G 353 272 (oGetf [4] 64 275) := w_getf (hm := mm353) dX3_chooses_272 (fok1 (k := 64) (T := TX3) 3 (Nat.le_of_ble_eq_true rfl) vc_3 (Nat.le_of_ble_eq_true rfl) q2469)
theorem n353_275 : Snd mt G 353 275 (oIload 5 277) := w_iload (hm := mm353) dX3_chooses_275
theorem n353_277 : Snd mt G 353 277 (oAld [100] 278) := w_iaload (hm := mm353) (kt := 0) dX3_chooses_277 at_0 (Nat.le_of_ble_eq_true rfl) (List.forall_mem_cons.mpr ⟨Or.inl rfl, (fun t ht => nomatch ht)⟩)
theorem n353_278 : Snd mt G 353 278 (oConst (.int (-1)) 279) := w_iconst (hm := mm353) dX3_chooses_278 rfl
theorem n353_279 : Snd mt G 353 279 (oCmpEq 301 282) := w_icmp_eq (hm := mm353) dX3_chooses_279 rfl
theorem n353_282 : Snd mt G 353 282 (oAload 0 283) := w_aload_n (hm := mm353) dX3_chooses_282
theorem n353_283 : Snd mt G 353 283 (oGetf [4] 17 286) := w_getf (hm := mm353) dX3_chooses_283 (fok1 (k := 17) (T := TX3) 3 (Nat.le_of_ble_eq_true rfl) vc_3 (Nat.le_of_ble_eq_true rfl) q2422)
theorem n353_286 : Snd mt G 353 286 (oIload 3 287) := w_iload_n (hm := mm353) dX3_chooses_286
theorem n353_287 : Snd mt G 353 287 (oAld [100] 288) := w_iaload (hm := mm353) (kt := 0) dX3_chooses_287 at_0 (Nat.le_of_ble_eq_true rfl) (List.forall_mem_cons.mpr ⟨Or.inl rfl, (fun t ht => nomatch ht)⟩)
theorem n353_288 : Snd mt G 353 288 (oAload 0 289) := w_aload_n (hm := mm353) dX3_chooses_288
theorem n353_289 : Snd mt G 353 289 (oGetf [4] 64 292) := w_getf (hm := mm353) dX3_chooses_289 (fok1 (k := 64) (T := TX3) 3 (Nat.le_of_ble_eq_true rfl) vc_3 (Nat.le_of_ble_eq_true rfl) q2469)
theorem n353_292 : Snd mt G 353 292 (oIload 5 294) := w_iload (hm := mm353) dX3_chooses_292
theorem n353_294 : Snd mt G 353 294 (oAld [100] 295) := w_iaload (hm := mm353) (kt := 0) dX3_chooses_294 at_0 (Nat.le_of_ble_eq_true rfl) (List.forall_mem_cons.mpr ⟨Or.inl rfl, (fun t ht => nomatch ht)⟩)
theorem n353_295 : Snd mt G 353 295 (oBin (fun x y => x >>> (y &&& 31)) 296) := w_ishr (hm := mm353) dX3_chooses_295
theorem n353_296 : Snd mt G 353 296 (oConst (.int 1) 297) := w_iconst (hm := mm353) dX3_chooses_296 rfl
theorem n353_297 : Snd mt G 353 297 (oBin (fun x y => x &&& y) 298) := w_iand (hm := mm353) dX3_chooses_297
theorem n353_298 : Snd mt G 353 298 (oIfEq 301 305) := w_if_ne (hm := mm353) dX3_chooses_298 rfl
theorem n353_301 : Snd mt G 353 301 (oConst (.int 1) 302) := w_iconst (hm := mm353) dX3_chooses_301 rfl
theorem n353_302 : Snd mt G 353 302 (oGoto 306) := w_goto (hm := mm353) dX3_chooses_302 rfl
theorem n353_305 : Snd mt G 353 305 (oConst (.int 0) 306) := w_iconst (hm := mm353) dX3_chooses_305 rfl
theorem n353_306 : Snd mt G 353 306 (oIstore 4 308) := w_istore (hm := mm353) dX3_chooses_306 (Nat.le_of_ble_eq_true rfl)
theorem n353_308 : Snd mt G 353 308 (oIinc 5 1 311) := w_iinc (hm := mm353) dX3_chooses_308 rfl (Nat.le_of_ble_eq_true rfl)
theorem n353_311 : Snd mt G 353 311 (oGoto 260) := w_goto (hm := mm353) dX3_chooses_311 rfl
theorem n353_314 : Snd mt G 353 314 (oAload 0 315) := w_aload_n (hm := mm353) dX3_chooses_314
theorem n353_315 : Snd mt G 353 315 (oGetf [4] 64 318) := w_getf (hm := mm353) dX3_chooses_315 (fok1 (k := 64) (T := TX3) 3 (Nat.le_of_ble_eq_true rfl) vc_3 (Nat.le_of_ble_eq_true rfl) q2469)
theorem n353_318 : Snd mt G 353 318 (oIload 1 319) := w_iload_n (hm := mm353) dX3_chooses_318
theorem n353_319 : Snd mt G 353 319 (oIload 3 320) := w_iload_n (hm := mm353) dX3_chooses_319
theorem n353_320 : Snd mt G 353 320 (oIast [100] 321) := w_iastore (hm := mm353) (kt := 0) dX3_chooses_320 at_0 (Nat.le_of_ble_eq_true rfl) (List.forall_mem_cons.mpr ⟨rfl, (fun t ht => nomatch ht)⟩)
theorem n353_321 : Snd mt G 353 321 (oIload 4 323) := w_iload (hm := mm353) dX3_chooses_321
theorem n353_323 : Snd mt G 353 323 (oIfEq 334 326) := w_if_eq (hm := mm353) dX3_chooses_323 rfl
theorem n353_326 : Snd mt G 353 326 (oAload 0 327) := w_aload_n (hm := mm353) dX3_chooses_326
theorem n353_327 : Snd mt G 353 327 (oIload 1 328) := w_iload_n (hm := mm353) dX3_chooses_327
theorem n353_328 : Snd mt G 353 328 (oConst (.int 1) 329) := w_iconst (hm := mm353) dX3_chooses_328 rfl
theorem n353_329 : Snd mt G 353 329 (oBin (fun x y => x + y) 330) := w_iadd (hm := mm353) dX3_chooses_329
theorem n353_330 : Snd mt G 353 330 (oIload 2 331) := w_iload_n (hm := mm353) dX3_chooses_330
theorem n353_331 : Snd mt G 353 331 (oCall 3 (fV [4] 353 6) 1 334 xOut) := s_callV (m' := 353) (n := 2) xsh_out (w_xok0 mm353) (w_cal mm353 mm353 pn_X3 (Nat.le_of_ble_eq_true rfl) (Nat.le_of_ble_eq_true rfl)) (fun h b as hc hn => w_run_V (ci := 3) mm353 mm353 dX3_chooses_331 (Or.inl (List.mem_singleton.mp hc)) (Nat.le_of_ble_eq_true rfl) vc_3 rfl q2904 q2906 qs104 q150 q2907 pa353 hn)
theorem n353_334 : Snd mt G 353 334 (oIinc 3 1 337) := w_iinc (hm := mm353) dX3_chooses_334 rfl (Nat.le_of_ble_eq_true rfl)
theorem n353_337 : Snd mt G 353 337 (oGoto 212) := w_goto (hm := mm353) dX3_chooses_337 rfl
theorem n353_340 : Snd mt G 353 340 (oAload 0 341) := w_aload_n (hm := mm353) dX3_chooses_340
theorem n353_341 : Snd mt G 353 341 (oGetf [4] 64 344) := w_getf (hm := mm353) dX3_chooses_341 (fok1 (k := 64) (T := TX3) 3 (Nat.le_of_ble_eq_true rfl) vc_3 (Nat.le_of_ble_eq_true rfl) q2469)
theorem n353_344 : Snd mt G 353 344 (oIload 1 345) := w_iload_n (hm := mm353) dX3_chooses_344
theorem n353_345 : Snd mt G 353 345 (oConst (.int (-1)) 346) := w_iconst (hm := mm353) dX3_chooses_345 rfl
theorem n353_346 : Snd mt G 353 346 (oIast [100] 347) := w_iastore (hm := mm353) (kt := 0) dX3_chooses_346 at_0 (Nat.le_of_ble_eq_true rfl) (List.forall_mem_cons.mpr ⟨rfl, (fun t ht => nomatch ht)⟩)
theorem n353_347 : Snd mt G 353 347 (oRetV) := w_vret (hm := mm353) dX3_chooses_347 rfl
theorem sj353 : ∀ pc, Snd mt G 353 pc (j353 pc) := fun pc => (snd_br ((snd_br ((snd_br ((snd_br ((snd_br ((snd_br ((snd_br ((snd_br ((snd_lf n353_347)) ((snd_lf n353_346)))) ((snd_br ((snd_lf n353_345)) ((snd_lf n353_344)))))) ((snd_br ((snd_br ((snd_lf n353_341)) ((snd_lf n353_340)))) ((snd_lf n353_337)))))) ((snd_br ((snd_br ((snd_br ((snd_lf n353_334)) ((snd_lf n353_331)))) ((snd_lf n353_330)))) ((snd_br ((snd_br ((snd_lf n353_329)) ((snd_lf n353_328)))) ((snd_lf n353_327)))))))) ((snd_br ((snd_br ((snd_br ((snd_br ((snd_lf n353_326)) ((snd_lf n353_323)))) ((snd_br ((snd_lf n353_321)) ((snd_lf n353_320)))))) ((snd_br ((snd_br ((snd_lf n353_319)) ((snd_lf n353_318)))) ((snd_lf n353_315)))))) ((snd_br ((snd_br ((snd_br ((snd_lf n353_314)) ((snd_lf n353_311)))) ((snd_lf n353_308)))) ((snd_br ((snd_br ((snd_lf n353_306)) ((snd_lf n353_305)))) ((snd_lf n353_302)))))))))) ((snd_br ((snd_br ((snd_br ((snd_br ((snd_br ((snd_lf n353_301)) ((snd_lf n353_298)))) ((snd_br ((snd_lf n353_297)) ((snd_lf n353_296)))))) ((snd_br ((snd_br ((snd_lf n353_295)) ((snd_lf n353_294)))) ((snd_lf n353_292)))))) ((snd_br ((snd_br ((snd_br ((snd_lf n353_289)) ((snd_lf n353_288)))) ((snd_lf n353_287)))) ((snd_br ((snd_br ((snd_lf n353_286)) ((snd_lf n353_283)))) ((snd_lf n353_282)))))))) ((snd_br ((snd_br ((snd_br ((snd_br ((snd_lf n353_279)) ((snd_lf n353_278)))) ((snd_br ((snd_lf n353_277)) ((snd_lf n353_275)))))) ((snd_br ((snd_br ((snd_lf n353_272)) ((snd_lf n353_271)))) ((snd_lf n353_268)))))) ((snd_br ((snd_br ((snd_br ((snd_lf n353_266)) ((snd_lf n353_263)))) ((snd_lf n353_262)))) ((snd_br ((snd_br ((snd_lf n353_260)) ((snd_lf n353_258)))) ((snd_lf n353_257)))))))))))) ((snd_br ((snd_br ((snd_br ((snd_br ((snd_br ((snd_br ((snd_lf n353_255)) ((snd_lf n353_254)))) ((snd_br ((snd_lf n353_251)) ((snd_lf n353_248)))))) ((snd_br ((snd_br ((snd_lf n353_247)) ((snd_lf n353_246)))) ((snd_lf n353_245)))))) ((snd_br ((snd_br ((snd_br ((snd_lf n353_244)) ((snd_lf n353_241)))) ((snd_lf n353_240)))) ((snd_br ((snd_br ((snd_lf n353_239)) ((snd_lf n353_238)))) ((snd_lf n353_237)))))))) ((snd_br ((snd_br ((snd_br ((snd_br ((snd_lf n353_236)) ((snd_lf n353_233)))) ((snd_br ((snd_lf n353_232)) ((snd_lf n353_229)))))) ((snd_br ((snd_br ((snd_lf n353_228)) ((snd_lf n353_227)))) ((snd_lf n353_226)))))) ((snd_br ((snd_br ((snd_br ((snd_lf n353_225)) ((snd_lf n353_224)))) ((snd_lf n353_221)))) ((snd_br ((snd_br ((snd_lf n353_220)) ((snd_lf n353_217)))) ((snd_lf n353_214)))))))))) ((snd_br ((snd_br ((snd_br ((snd_br ((snd_br ((snd_lf n353_213)) ((snd_lf n353_212)))) ((snd_br ((snd_lf n353_211)) ((snd_lf n353_210)))))) ((snd_br ((snd_br ((snd_lf n353_209)) ((snd_lf n353_206)))) ((snd_lf n353_205)))))) ((snd_br ((snd_br ((snd_br ((snd_lf n353_204)) ((snd_lf n353_203)))) ((snd_lf n353_202)))) ((snd_br ((snd_br ((snd_lf n353_201)) ((snd_lf n353_198)))) ((snd_lf n353_197)))))))) ((snd_br ((snd_br ((snd_br ((snd_br ((snd_lf n353_196)) ((snd_lf n353_195)))) ((snd_lf n353_194)))) ((snd_br ((snd_br ((snd_lf n353_191)) ((snd_lf n353_190)))) ((snd_lf n353_189)))))) ((snd_br ((snd_br ((snd_br ((snd_lf n353_188)) ((snd_lf n353_187)))) ((snd_lf n353_184)))) ((snd_br ((snd_br ((snd_lf n353_183)) ((snd_lf n353_182)))) ((snd_lf n353_179)))))))))))))) ((snd_br ((snd_br ((snd_br ((snd_br ((snd_br ((snd_br ((snd_br ((snd_lf n353_176)) ((snd_lf n353_175)))) ((snd_br ((snd_lf n353_174)) ((snd_lf n353_172)))))) ((snd_br ((snd_br ((snd_lf n353_169)) ((snd_lf n353_168)))) ((snd_lf n353_166)))))) ((snd_br ((snd_br ((snd_br ((snd_lf n353_163)) ((snd_lf n353_162)))) ((snd_lf n353_159)))) ((snd_br ((snd_br ((snd_lf n353_158)) ((snd_lf n353_156)))) ((snd_lf n353_154)))))))) ((snd_br ((snd_br ((snd_br ((snd_br ((snd_lf n353_153)) ((snd_lf n353_150)))) ((snd_br ((snd_lf n353_148)) ((snd_lf n353_147)))))) ((snd_br ((snd_br ((snd_lf n353_144)) ((snd_lf n353_143)))) ((snd_lf n353_142)))))) ((snd_br ((snd_br ((snd_br ((snd_lf n353_141)) ((snd_lf n353_138)))) ((snd_lf n353_136)))) ((snd_br ((snd_br ((snd_lf n353_133)) ((snd_lf n353_132)))) ((snd_lf n353_129)))))))))) ((snd_br ((snd_br ((snd_br ((snd_br ((snd_br ((snd_lf n353_128)) ((snd_lf n353_125)))) ((snd_br ((snd_lf n353_124)) ((snd_lf n353_121)))))) ((snd_br ((snd_br ((snd_lf n353_120)) ((snd_lf n353_117)))) ((snd_lf n353_116)))))) ((snd_br ((snd_br ((snd_br ((snd_lf n353_113)) ((snd_lf n353_112)))) ((snd_lf n353_111)))) ((snd_br ((snd_br ((snd_lf n353_110)) ((snd_lf n353_107)))) ((snd_lf n353_106)))))))) ((snd_br ((snd_br ((snd_br ((snd_br ((snd_lf n353_103)) ((snd_lf n353_102)))) ((snd_br ((snd_lf n353_100)) ((snd_lf n353_97)))))) ((snd_br ((snd_br ((snd_lf n353_94)) ((snd_lf n353_92)))) ((snd_lf n353_91)))))) ((snd_br ((snd_br ((snd_br ((snd_lf n353_90)) ((snd_lf n353_89)))) ((snd_lf n353_88)))) ((snd_br ((snd_br ((snd_lf n353_87)) ((snd_lf n353_85)))) ((snd_lf n353_82)))))))))))) ((snd_br ((snd_br ((snd_br ((snd_br ((snd_br ((snd_br ((snd_lf n353_81)) ((snd_lf n353_78)))) ((snd_br ((snd_lf n353_77)) ((snd_lf n353_74)))))) ((snd_br ((snd_br ((snd_lf n353_73)) ((snd_lf n353_70)))) ((snd_lf n353_69)))))) ((snd_br ((snd_br ((snd_br ((snd_lf n353_68)) ((snd_lf n353_66)))) ((snd_lf n353_63)))) ((snd_br ((snd_br ((snd_lf n353_62)) ((snd_lf n353_60)))) ((snd_lf n353_59)))))))) ((snd_br ((snd_br ((snd_br ((snd_br ((snd_lf n353_58)) ((snd_lf n353_57)))) ((snd_br ((snd_lf n353_56)) ((snd_lf n353_55)))))) ((snd_br ((snd_br ((snd_lf n353_54)) ((snd_lf n353_53)))) ((snd_lf n353_52)))))) ((snd_br ((snd_br ((snd_br ((snd_lf n353_49)) ((snd_lf n353_48)))) ((snd_lf n353_47)))) ((snd_br ((snd_br ((snd_lf n353_46)) ((snd_lf n353_45)))) ((snd_lf n353_43)))))))))) ((snd_br ((snd_br ((snd_br ((snd_br ((snd_br ((snd_lf n353_40)) ((snd_lf n353_39)))) ((snd_br ((snd_lf n353_36)) ((snd_lf n353_35)))))) ((snd_br ((snd_br ((snd_lf n353_32)) ((snd_lf n353_31)))) ((snd_lf n353_28)))))) ((snd_br ((snd_br ((snd_br ((snd_lf n353_27)) ((snd_lf n353_26)))) ((snd_lf n353_24)))) ((snd_br ((snd_br ((snd_lf n353_21)) ((snd_lf n353_20)))) ((snd_lf n353_19)))))))) ((snd_br ((snd_br ((snd_br ((snd_br ((snd_lf n353_16)) ((snd_lf n353_15)))) ((snd_lf n353_13)))) ((snd_br ((snd_br ((snd_lf n353_11)) ((snd_lf n353_10)))) ((snd_lf n353_8)))))) ((snd_br ((snd_br ((snd_br ((snd_lf n353_7)) ((snd_lf n353_6)))) ((snd_lf n353_5)))) ((snd_br ((snd_br ((snd_lf n353_2)) ((snd_lf n353_1)))) ((snd_lf n353_0)))))))))))))))
end
section
variable {G : AG}
theorem n354_0 : Snd mt G 354 0 (oAload 0 1) := w_aload_n (hm := mm354) dX3_choose_0
theorem n354_1 : Snd mt G 354 1 (oConst (.int 0) 2) := w_iconst (hm := mm354) dX3_choose_1 rfl
theorem n354_2 : Snd mt G 354 2 (oPutf [4] 0 .int 5) := w_putf (hm := mm354) dX3_choose_2 (pok1 (k := 0) (T := TX3) 3 (Nat.le_of_ble_eq_true rfl) vc_3 (Nat.le_of_ble_eq_true rfl) rfl pd_X3_0 q2405)
theorem n354_5 : Snd mt G 354 5 (oAload 0 6) := w_aload_n (hm := mm354) dX3_choose_5
theorem n354_6 : Snd mt G 354 6 (oAload 0 7) := w_aload_n (hm := mm354) dX3_choose_6
theorem n354_7 : Snd mt G 354 7 (oIload 1 8) := w_iload_n (hm := mm354) dX3_choose_7
theorem n354_8 : Snd mt G 354 8 (oCall 2 (fV [4] 316 2) 0 11 xOut) := s_callV (m' := 316) (n := 1) xsh_out (w_xok0 mm354) (w_cal mm354 mm316 pn_X3 (Nat.le_of_ble_eq_true rfl) (Nat.le_of_ble_eq_true rfl)) (fun h b as hc hn => w_run_V (ci := 3) mm354 mm316 dX3_choose_8 (Or.inl (List.mem_singleton.mp hc)) (Nat.le_of_ble_eq_true rfl) vc_3 rfl q2758 q2760 qs84 q150 q2761 pa316 hn)
theorem n354_11 : Snd mt G 354 11 (oIfEq 14 18) := w_if_ne (hm := mm354) dX3_choose_11 rfl
theorem n354_14 : Snd mt G 354 14 (oConst (.int 1) 15) := w_iconst (hm := mm354) dX3_choose_14 rfl
theorem n354_15 : Snd mt G 354 15 (oGoto 19) := w_goto (hm := mm354) dX3_choose_15 rfl
theorem n354_18 : Snd mt G 354 18 (oConst (.int 0) 19) := w_iconst (hm := mm354) dX3_choose_18 rfl
theorem n354_19 : Snd mt G 354 19 (oConst (.int 1) 20) := w_iconst (hm := mm354) dX3_choose_19 rfl
theorem n354_20 : Snd mt G 354 20 (oCall 3 (fV [4] 285 3) 0 23 xOut) := s_callV (m' := 285) (n := 2) xsh_out (w_xok0 mm354) (w_cal mm354 mm285 pn_X3 (Nat.le_of_ble_eq_true rfl) (Nat.le_of_ble_eq_true rfl)) (fun h b as hc hn => w_run_V (ci := 3) mm354 mm285 dX3_choose_20 (Or.inl (List.mem_singleton.mp hc)) (Nat.le_of_ble_eq_true rfl) vc_3 rfl q2634 q2636 qs62 q150 q2637 pa285 hn)
theorem n354_23 : Snd mt G 354 23 (oIfEq 26 48) := w_if_ne (hm := mm354) dX3_choose_23 rfl
theorem n354_26 : Snd mt G 354 26 (oAload 0 27) := w_aload_n (hm := mm354) dX3_choose_26
theorem n354_27 : Snd mt G 354 27 (oIload 2 28) := w_iload_n (hm := mm354) dX3_choose_27
theorem n354_28 : Snd mt G 354 28 (oConst (.int 0) 29) := w_iconst (hm := mm354) dX3_choose_28 rfl
theorem n354_29 : Snd mt G 354 29 (oConst (.int 1) 30) := w_iconst (hm := mm354) dX3_choose_29 rfl
theorem n354_30 : Snd mt G 354 30 (oCall 3 (fS 284 3) 0 33 xOut) := s_callS (m' := 284) (n := 3) xsh_out (w_xok0 mm354) (w_cal mm354 mm284 pn_X3 (Nat.le_of_ble_eq_true rfl) (Nat.le_of_ble_eq_true rfl)) (fun h as hn => w_run_S mm354 mm284 dX3_choose_30 q2631 q2632 q150 q2633 pa284 hn)
theorem n354_33 : Snd mt G 354 33 (oIfEq 36 40) := w_if_ne (hm := mm354) dX3_choose_33 rfl
theorem n354_36 : Snd mt G 354 36 (oConst (.int 1) 37) := w_iconst (hm := mm354) dX3_choose_36 rfl
theorem n354_37 : Snd mt G 354 37 (oGoto 41) := w_goto (hm := mm354) dX3_choose_37 rfl
theorem n354_40 : Snd mt G 354 40 (oConst (.int 0) 41) := w_iconst (hm := mm354) dX3_choose_40 rfl
theorem n354_41 : Snd mt G 354 41 (oConst (.int 2) 42) := w_iconst (hm := mm354) dX3_choose_41 rfl
theorem n354_42 : Snd mt G 354 42 (oCall 3 (fV [4] 285 3) 0 45 xOut) := s_callV (m' := 285) (n := 2) xsh_out (w_xok0 mm354) (w_cal mm354 mm285 pn_X3 (Nat.le_of_ble_eq_true rfl) (Nat.le_of_ble_eq_true rfl)) (fun h b as hc hn => w_run_V (ci := 3) mm354 mm285 dX3_choose_42 (Or.inl (List.mem_singleton.mp hc)) (Nat.le_of_ble_eq_true rfl) vc_3 rfl q2634 q2636 qs62 q150 q2637 pa285 hn)
theorem n354_45 : Snd mt G 354 45 (oIfEq 50 48) := w_if_eq (hm := mm354) dX3_choose_45 rfl
theorem n354_48 : Snd mt G 354 48 (oConst (.int 0) 49) := w_iconst (hm := mm354) dX3_choose_48 rfl
theorem n354_49 : Snd mt G 354 49 (oRetI .int) := w_iret (hm := mm354) dX3_choose_49 rfl
theorem n354_50 : Snd mt G 354 50 (oAload 0 51) := w_aload_n (hm := mm354) dX3_choose_50
theorem n354_51 : Snd mt G 354 51 (oIload 1 52) := w_iload_n (hm := mm354) dX3_choose_51
theorem n354_52 : Snd mt G 354 52 (oCall 2 (fV [4] 352 2) 0 55 xOut) := s_callV (m' := 352) (n := 1) xsh_out (w_xok0 mm354) (w_cal mm354 mm352 pn_X3 (Nat.le_of_ble_eq_true rfl) (Nat.le_of_ble_eq_true rfl)) (fun h b as hc hn => w_run_V (ci := 3) mm354 mm352 dX3_choose_52 (Or.inl (List.mem_singleton.mp hc)) (Nat.le_of_ble_eq_true rfl) vc_3 rfl q2900 q2902 qs103 q150 q2903 pa352 hn)
theorem n354_55 : Snd mt G 354 55 (oIfEq 58 63) := w_if_ne (hm := mm354) dX3_choose_55 rfl
theorem n354_58 : Snd mt G 354 58 (oConst (.int (-2)) 60) := w_bipush (hm := mm354) dX3_choose_58 (by decide)
theorem n354_60 : Snd mt G 354 60 (oGoto 78) := w_goto (hm := mm354) dX3_choose_60 rfl
theorem n354_63 : Snd mt G 354 63 (oIload 2 64) := w_iload_n (hm := mm354) dX3_choose_63
theorem n354_64 : Snd mt G 354 64 (oIfEq 67 74) := w_if_ne (hm := mm354) dX3_choose_64 rfl
theorem n354_67 : Snd mt G 354 67 (oAload 0 68) := w_aload_n (hm := mm354) dX3_choose_67
theorem n354_68 : Snd mt G 354 68 (oGetf [4] 65 71) := w_getf (hm := mm354) dX3_choose_68 (fok1 (k := 65) (T := TX3) 3 (Nat.le_of_ble_eq_true rfl) vc_3 (Nat.le_of_ble_eq_true rfl) q2470)
theorem n354_71 : Snd mt G 354 71 (oGoto 78) := w_goto (hm := mm354) dX3_choose_71 rfl
theorem n354_74 : Snd mt G 354 74 (oAload 0 75) := w_aload_n (hm := mm354) dX3_choose_74
theorem n354_75 : Snd mt G 354 75 (oGetf [4] 66 78) := w_getf (hm := mm354) dX3_choose_75 (fok1 (k := 66) (T := TX3) 3 (Nat.le_of_ble_eq_true rfl) vc_3 (Nat.le_of_ble_eq_true rfl) q2471)
theorem n354_78 : Snd mt G 354 78 (oRetI .int) := w_iret (hm := mm354) dX3_choose_78 rfl
theorem sj354 : ∀ pc, Snd mt G 354 pc (j354 pc) := fun pc => (snd_br ((snd_br ((snd_br ((snd_br ((snd_br ((snd_br ((snd_lf n354_78)) ((snd_lf n354_75)))) ((snd_lf n354_74)))) ((snd_br ((snd_br ((snd_lf n354_71)) ((snd_lf n354_68)))) ((snd_lf n354_67)))))) ((snd_br ((snd_br ((snd_br ((snd_lf n354_64)) ((snd_lf n354_63)))) ((snd_lf n354_60)))) ((snd_br ((snd_lf n354_58)) ((snd_lf n354_55)))))))) ((snd_br ((snd_br ((snd_br ((snd_br ((snd_lf n354_52)) ((snd_lf n354_51)))) ((snd_lf n354_50)))) ((snd_br ((snd_lf n354_49)) ((snd_lf n354_48)))))) ((snd_br ((snd_br ((snd_br ((snd_lf n354_45)) ((snd_lf n354_42)))) ((snd_lf n354_41)))) ((snd_br ((snd_lf n354_40)) ((snd_lf n354_37)))))))))) ((snd_br ((snd_br ((snd_br ((snd_br ((snd_br ((snd_lf n354_36)) ((snd_lf n354_33)))) ((snd_lf n354_30)))) ((snd_br ((snd_br ((snd_lf n354_29)) ((snd_lf n354_28)))) ((snd_lf n354_27)))))) ((snd_br ((snd_br ((snd_br ((snd_lf n354_26)) ((snd_lf n354_23)))) ((snd_lf n354_20)))) ((snd_br ((snd_lf n354_19)) ((snd_lf n354_18)))))))) ((snd_br ((snd_br ((snd_br ((snd_br ((snd_lf n354_15)) ((snd_lf n354_14)))) ((snd_lf n354_11)))) ((snd_br ((snd_lf n354_8)) ((snd_lf n354_7)))))) ((snd_br ((snd_br ((snd_br ((snd_lf n354_6)) ((snd_lf n354_5)))) ((snd_lf n354_2)))) ((snd_br ((snd_lf n354_1)) ((snd_lf n354_0)))))))))))
end
section
variable {G : AG}
theorem n355_0 : Snd mt G 355 0 (oAload 0 1) := w_aload_n (hm := mm355) dX3_clause_0
theorem n355_1 : Snd mt G 355 1 (oConst (.int 0) 2) := w_iconst (hm := mm355) dX3_clause_1 rfl
theorem n355_2 : Snd mt G 355 2 (oPutf [4] 0 .int 5) := w_putf (hm := mm355) dX3_clause_2 (pok1 (k := 0) (T := TX3) 3 (Nat.le_of_ble_eq_true rfl) vc_3 (Nat.le_of_ble_eq_true rfl) rfl pd_X3_0 q2405)
theorem n355_5 : Snd mt G 355 5 (oAload 0 6) := w_aload_n (hm := mm355) dX3_clause_5
theorem n355_6 : Snd mt G 355 6 (oAload 0 7) := w_aload_n (hm := mm355) dX3_clause_6
theorem n355_7 : Snd mt G 355 7 (oIload 1 8) := w_iload_n (hm := mm355) dX3_clause_7
theorem n355_8 : Snd mt G 355 8 (oCall 2 (fV [4] 316 2) 0 11 xOut) := s_callV (m' := 316) (n := 1) xsh_out (w_xok0 mm355) (w_cal mm355 mm316 pn_X3 (Nat.le_of_ble_eq_true rfl) (Nat.le_of_ble_eq_true rfl)) (fun h b as hc hn => w_run_V (ci := 3) mm355 mm316 dX3_clause_8 (Or.inl (List.mem_singleton.mp hc)) (Nat.le_of_ble_eq_true rfl) vc_3 rfl q2758 q2760 qs84 q150 q2761 pa316 hn)
theorem n355_11 : Snd mt G 355 11 (oIfEq 14 18) := w_if_ne (hm := mm355) dX3_clause_11 rfl
theorem n355_14 : Snd mt G 355 14 (oConst (.int 1) 15) := w_iconst (hm := mm355) dX3_clause_14 rfl
theorem n355_15 : Snd mt G 355 15 (oGoto 19) := w_goto (hm := mm355) dX3_clause_15 rfl
theorem n355_18 : Snd mt G 355 18 (oConst (.int 0) 19) := w_iconst (hm := mm355) dX3_clause_18 rfl
theorem n355_19 : Snd mt G 355 19 (oConst (.int 1) 20) := w_iconst (hm := mm355) dX3_clause_19 rfl
theorem n355_20 : Snd mt G 355 20 (oCall 3 (fV [4] 285 3) 0 23 xOut) := s_callV (m' := 285) (n := 2) xsh_out (w_xok0 mm355) (w_cal mm355 mm285 pn_X3 (Nat.le_of_ble_eq_true rfl) (Nat.le_of_ble_eq_true rfl)) (fun h b as hc hn => w_run_V (ci := 3) mm355 mm285 dX3_clause_20 (Or.inl (List.mem_singleton.mp hc)) (Nat.le_of_ble_eq_true rfl) vc_3 rfl q2634 q2636 qs62 q150 q2637 pa285 hn)
theorem n355_23 : Snd mt G 355 23 (oIfEq 26 50) := w_if_ne (hm := mm355) dX3_clause_23 rfl
theorem n355_26 : Snd mt G 355 26 (oAload 0 27) := w_aload_n (hm := mm355) dX3_clause_26
theorem n355_27 : Snd mt G 355 27 (oIload 2 28) := w_iload_n (hm := mm355) dX3_clause_27
theorem n355_28 : Snd mt G 355 28 (oConst (.int 0) 29) := w_iconst (hm := mm355) dX3_clause_28 rfl
theorem n355_29 : Snd mt G 355 29 (oConst (.int 4095) 32) := w_sipush (hm := mm355) dX3_clause_29 (by decide)
theorem n355_32 : Snd mt G 355 32 (oCall 3 (fS 284 3) 0 35 xOut) := s_callS (m' := 284) (n := 3) xsh_out (w_xok0 mm355) (w_cal mm355 mm284 pn_X3 (Nat.le_of_ble_eq_true rfl) (Nat.le_of_ble_eq_true rfl)) (fun h as hn => w_run_S mm355 mm284 dX3_clause_32 q2631 q2632 q150 q2633 pa284 hn)
theorem n355_35 : Snd mt G 355 35 (oIfEq 38 42) := w_if_ne (hm := mm355) dX3_clause_35 rfl
theorem n355_38 : Snd mt G 355 38 (oConst (.int 1) 39) := w_iconst (hm := mm355) dX3_clause_38 rfl
theorem n355_39 : Snd mt G 355 39 (oGoto 43) := w_goto (hm := mm355) dX3_clause_39 rfl
theorem n355_42 : Snd mt G 355 42 (oConst (.int 0) 43) := w_iconst (hm := mm355) dX3_clause_42 rfl
theorem n355_43 : Snd mt G 355 43 (oConst (.int 2) 44) := w_iconst (hm := mm355) dX3_clause_43 rfl
theorem n355_44 : Snd mt G 355 44 (oCall 3 (fV [4] 285 3) 0 47 xOut) := s_callV (m' := 285) (n := 2) xsh_out (w_xok0 mm355) (w_cal mm355 mm285 pn_X3 (Nat.le_of_ble_eq_true rfl) (Nat.le_of_ble_eq_true rfl)) (fun h b as hc hn => w_run_V (ci := 3) mm355 mm285 dX3_clause_44 (Or.inl (List.mem_singleton.mp hc)) (Nat.le_of_ble_eq_true rfl) vc_3 rfl q2634 q2636 qs62 q150 q2637 pa285 hn)
theorem n355_47 : Snd mt G 355 47 (oIfEq 52 50) := w_if_eq (hm := mm355) dX3_clause_47 rfl
theorem n355_50 : Snd mt G 355 50 (oConst (.int 0) 51) := w_iconst (hm := mm355) dX3_clause_50 rfl
theorem n355_51 : Snd mt G 355 51 (oRetI .int) := w_iret (hm := mm355) dX3_clause_51 rfl
theorem n355_52 : Snd mt G 355 52 (oAload 0 53) := w_aload_n (hm := mm355) dX3_clause_52
theorem n355_53 : Snd mt G 355 53 (oIload 2 54) := w_iload_n (hm := mm355) dX3_clause_53
theorem n355_54 : Snd mt G 355 54 (oPutf [4] 23 .int 57) := w_putf (hm := mm355) dX3_clause_54 (pok1 (k := 23) (T := TX3) 3 (Nat.le_of_ble_eq_true rfl) vc_3 (Nat.le_of_ble_eq_true rfl) rfl pd_X3_23 q2428)
theorem n355_57 : Snd mt G 355 57 (oAload 0 58) := w_aload_n (hm := mm355) dX3_clause_57
theorem n355_58 : Snd mt G 355 58 (oIload 1 59) := w_iload_n (hm := mm355) dX3_clause_58
theorem n355_59 : Snd mt G 355 59 (oCall 2 (fV [4] 324 2) 0 62 xOut) := s_callV (m' := 324) (n := 1) xsh_out (w_xok0 mm355) (w_cal mm355 mm324 pn_X3 (Nat.le_of_ble_eq_true rfl) (Nat.le_of_ble_eq_true rfl)) (fun h b as hc hn => w_run_V (ci := 3) mm355 mm324 dX3_clause_59 (Or.inl (List.mem_singleton.mp hc)) (Nat.le_of_ble_eq_true rfl) vc_3 rfl q2790 q2792 qs88 q150 q2793 pa324 hn)
theorem n355_62 : Snd mt G 355 62 (oAload 0 63) := w_aload_n (hm := mm355) dX3_clause_62
theorem n355_63 : Snd mt G 355 63 (oConst (.int 0) 64) := w_iconst (hm := mm355) dX3_clause_63 rfl
theorem n355_64 : Snd mt G 355 64 (oPutf [4] 23 .int 67) := w_putf (hm := mm355) dX3_clause_64 (pok1 (k := 23) (T := TX3) 3 (Nat.le_of_ble_eq_true rfl) vc_3 (Nat.le_of_ble_eq_true rfl) rfl pd_X3_23 q2428)
theorem n355_67 : Snd mt G 355 67 (oAload 0 68) := w_aload_n (hm := mm355) dX3_clause_67
theorem n355_68 : Snd mt G 355 68 (oGetf [4] 24 71) := w_getf (hm := mm355) dX3_clause_68 (fok1 (k := 24) (T := TX3) 3 (Nat.le_of_ble_eq_true rfl) vc_3 (Nat.le_of_ble_eq_true rfl) q2429)
theorem n355_71 : Snd mt G 355 71 (oRetI .int) := w_iret (hm := mm355) dX3_clause_71 rfl
theorem sj355 : ∀ pc, Snd mt G 355 pc (j355 pc) := fun pc => (snd_br ((snd_br ((snd_br ((snd_br ((snd_br ((snd_br ((snd_lf n355_71)) ((snd_lf n355_68)))) ((snd_lf n355_67)))) ((snd_br ((snd_lf n355_64)) ((snd_lf n355_63)))))) ((snd_br ((snd_br ((snd_br ((snd_lf n355_62)) ((snd_lf n355_59)))) ((snd_lf n355_58)))) ((snd_br ((snd_lf n355_57)) ((snd_lf n355_54)))))))) ((snd_br ((snd_br ((snd_br ((snd_br ((snd_lf n355_53)) ((snd_lf n355_52)))) ((snd_lf n355_51)))) ((snd_br ((snd_lf n355_50)) ((snd_lf n355_47)))))) ((snd_br ((snd_br ((snd_br ((snd_lf n355_44)) ((snd_lf n355_43)))) ((snd_lf n355_42)))) ((snd_br ((snd_lf n355_39)) ((snd_lf n355_38)))))))))) ((snd_br ((snd_br ((snd_br ((snd_br ((snd_br ((snd_lf n355_35)) ((snd_lf n355_32)))) ((snd_lf n355_29)))) ((snd_br ((snd_lf n355_28)) ((snd_lf n355_27)))))) ((snd_br ((snd_br ((snd_br ((snd_lf n355_26)) ((snd_lf n355_23)))) ((snd_lf n355_20)))) ((snd_br ((snd_lf n355_19)) ((snd_lf n355_18)))))))) ((snd_br ((snd_br ((snd_br ((snd_br ((snd_lf n355_15)) ((snd_lf n355_14)))) ((snd_lf n355_11)))) ((snd_br ((snd_lf n355_8)) ((snd_lf n355_7)))))) ((snd_br ((snd_br ((snd_br ((snd_lf n355_6)) ((snd_lf n355_5)))) ((snd_lf n355_2)))) ((snd_br ((snd_lf n355_1)) ((snd_lf n355_0)))))))))))
end
section
variable {G : AG}
theorem n356_0 : Snd mt G 356 0 (oAload 0 1) := w_aload_n (hm := mm356) dX3_job_0
theorem n356_1 : Snd mt G 356 1 (oConst (.int 0) 2) := w_iconst (hm := mm356) dX3_job_1 rfl
theorem n356_2 : Snd mt G 356 2 (oPutf [4] 0 .int 5) := w_putf (hm := mm356) dX3_job_2 (pok1 (k := 0) (T := TX3) 3 (Nat.le_of_ble_eq_true rfl) vc_3 (Nat.le_of_ble_eq_true rfl) rfl pd_X3_0 q2405)
theorem n356_5 : Snd mt G 356 5 (oAload 0 6) := w_aload_n (hm := mm356) dX3_job_5
theorem n356_6 : Snd mt G 356 6 (oAload 0 7) := w_aload_n (hm := mm356) dX3_job_6
theorem n356_7 : Snd mt G 356 7 (oIload 1 8) := w_iload_n (hm := mm356) dX3_job_7
theorem n356_8 : Snd mt G 356 8 (oCall 2 (fV [4] 316 2) 0 11 xOut) := s_callV (m' := 316) (n := 1) xsh_out (w_xok0 mm356) (w_cal mm356 mm316 pn_X3 (Nat.le_of_ble_eq_true rfl) (Nat.le_of_ble_eq_true rfl)) (fun h b as hc hn => w_run_V (ci := 3) mm356 mm316 dX3_job_8 (Or.inl (List.mem_singleton.mp hc)) (Nat.le_of_ble_eq_true rfl) vc_3 rfl q2758 q2760 qs84 q150 q2761 pa316 hn)
theorem n356_11 : Snd mt G 356 11 (oIfEq 14 18) := w_if_ne (hm := mm356) dX3_job_11 rfl
theorem n356_14 : Snd mt G 356 14 (oConst (.int 1) 15) := w_iconst (hm := mm356) dX3_job_14 rfl
theorem n356_15 : Snd mt G 356 15 (oGoto 19) := w_goto (hm := mm356) dX3_job_15 rfl
theorem n356_18 : Snd mt G 356 18 (oConst (.int 0) 19) := w_iconst (hm := mm356) dX3_job_18 rfl
theorem n356_19 : Snd mt G 356 19 (oConst (.int 1) 20) := w_iconst (hm := mm356) dX3_job_19 rfl
theorem n356_20 : Snd mt G 356 20 (oCall 3 (fV [4] 285 3) 0 23 xOut) := s_callV (m' := 285) (n := 2) xsh_out (w_xok0 mm356) (w_cal mm356 mm285 pn_X3 (Nat.le_of_ble_eq_true rfl) (Nat.le_of_ble_eq_true rfl)) (fun h b as hc hn => w_run_V (ci := 3) mm356 mm285 dX3_job_20 (Or.inl (List.mem_singleton.mp hc)) (Nat.le_of_ble_eq_true rfl) vc_3 rfl q2634 q2636 qs62 q150 q2637 pa285 hn)
theorem n356_23 : Snd mt G 356 23 (oIfEq 26 71) := w_if_ne (hm := mm356) dX3_job_23 rfl
theorem n356_26 : Snd mt G 356 26 (oAload 0 27) := w_aload_n (hm := mm356) dX3_job_26
theorem n356_27 : Snd mt G 356 27 (oIload 2 28) := w_iload_n (hm := mm356) dX3_job_27
theorem n356_28 : Snd mt G 356 28 (oConst (.int 1) 29) := w_iconst (hm := mm356) dX3_job_28 rfl
theorem n356_29 : Snd mt G 356 29 (oConst (.int 99) 31) := w_bipush (hm := mm356) dX3_job_29 (by decide)
theorem n356_31 : Snd mt G 356 31 (oCall 3 (fS 284 3) 0 34 xOut) := s_callS (m' := 284) (n := 3) xsh_out (w_xok0 mm356) (w_cal mm356 mm284 pn_X3 (Nat.le_of_ble_eq_true rfl) (Nat.le_of_ble_eq_true rfl)) (fun h as hn => w_run_S mm356 mm284 dX3_job_31 q2631 q2632 q150 q2633 pa284 hn)
theorem n356_34 : Snd mt G 356 34 (oIfEq 59 37) := w_if_eq (hm := mm356) dX3_job_34 rfl
theorem n356_37 : Snd mt G 356 37 (oIload 3 38) := w_iload_n (hm := mm356) dX3_job_37
theorem n356_38 : Snd mt G 356 38 (oConst (.int 0) 39) := w_iconst (hm := mm356) dX3_job_38 rfl
theorem n356_39 : Snd mt G 356 39 (oConst (.int 99) 41) := w_bipush (hm := mm356) dX3_job_39 (by decide)
theorem n356_41 : Snd mt G 356 41 (oCall 3 (fS 284 3) 0 44 xOut) := s_callS (m' := 284) (n := 3) xsh_out (w_xok0 mm356) (w_cal mm356 mm284 pn_X3 (Nat.le_of_ble_eq_true rfl) (Nat.le_of_ble_eq_true rfl)) (fun h as hn => w_run_S mm356 mm284 dX3_job_41 q2631 q2632 q150 q2633 pa284 hn)
theorem n356_44 : Snd mt G 356 44 (oIfEq 59 47) := w_if_eq (hm := mm356) dX3_job_44 rfl
theorem n356_47 : Snd mt G 356 47 (oIload 4 49) := w_iload (hm := mm356) dX3_job_47
theorem n356_49 : Snd mt G 356 49 (oConst (.int 0) 50) := w_iconst (hm := mm356) dX3_job_49 rfl
theorem n356_50 : Snd mt G 356 50 (oConst (.int 999) 53) := w_sipush (hm := mm356) dX3_job_50 (by decide)
theorem n356_53 : Snd mt G 356 53 (oCall 3 (fS 284 3) 0 56 xOut) := s_callS (m' := 284) (n := 3) xsh_out (w_xok0 mm356) (w_cal mm356 mm284 pn_X3 (Nat.le_of_ble_eq_true rfl) (Nat.le_of_ble_eq_true rfl)) (fun h as hn => w_run_S mm356 mm284 dX3_job_53 q2631 q2632 q150 q2633 pa284 hn)
theorem n356_56 : Snd mt G 356 56 (oIfEq 59 63) := w_if_ne (hm := mm356) dX3_job_56 rfl
theorem n356_59 : Snd mt G 356 59 (oConst (.int 1) 60) := w_iconst (hm := mm356) dX3_job_59 rfl
theorem n356_60 : Snd mt G 356 60 (oGoto 64) := w_goto (hm := mm356) dX3_job_60 rfl
theorem n356_63 : Snd mt G 356 63 (oConst (.int 0) 64) := w_iconst (hm := mm356) dX3_job_63 rfl
theorem n356_64 : Snd mt G 356 64 (oConst (.int 2) 65) := w_iconst (hm := mm356) dX3_job_64 rfl
theorem n356_65 : Snd mt G 356 65 (oCall 3 (fV [4] 285 3) 0 68 xOut) := s_callV (m' := 285) (n := 2) xsh_out (w_xok0 mm356) (w_cal mm356 mm285 pn_X3 (Nat.le_of_ble_eq_true rfl) (Nat.le_of_ble_eq_true rfl)) (fun h b as hc hn => w_run_V (ci := 3) mm356 mm285 dX3_job_65 (Or.inl (List.mem_singleton.mp hc)) (Nat.le_of_ble_eq_true rfl) vc_3 rfl q2634 q2636 qs62 q150 q2637 pa285 hn)
theorem n356_68 : Snd mt G 356 68 (oIfEq 73 71) := w_if_eq (hm := mm356) dX3_job_68 rfl
theorem n356_71 : Snd mt G 356 71 (oConst (.int 0) 72) := w_iconst (hm := mm356) dX3_job_71 rfl
theorem n356_72 : Snd mt G 356 72 (oRetI .int) := w_iret (hm := mm356) dX3_job_72 rfl
theorem n356_73 : Snd mt G 356 73 (oAload 0 74) := w_aload_n (hm := mm356) dX3_job_73
theorem n356_74 : Snd mt G 356 74 (oGetf [4] 30 77) := w_getf (hm := mm356) dX3_job_74 (fok1 (k := 30) (T := TX3) 3 (Nat.le_of_ble_eq_true rfl) vc_3 (Nat.le_of_ble_eq_true rfl) q2435)
theorem n356_77 : Snd mt G 356 77 (oConst (.int 7) 79) := w_bipush (hm := mm356) dX3_job_77 (by decide)
theorem n356_79 : Snd mt G 356 79 (oCmpEq 82 84) := w_icmp_ne (hm := mm356) dX3_job_79 rfl
theorem n356_82 : Snd mt G 356 82 (oConst (.int (-1)) 83) := w_iconst (hm := mm356) dX3_job_82 rfl
theorem n356_83 : Snd mt G 356 83 (oRetI .int) := w_iret (hm := mm356) dX3_job_83 rfl
theorem n356_84 : Snd mt G 356 84 (oAload 0 85) := w_aload_n (hm := mm356) dX3_job_84
theorem n356_85 : Snd mt G 356 85 (oGetf [4] 56 88) := w_getf (hm := mm356) dX3_job_85 (fok1 (k := 56) (T := TX3) 3 (Nat.le_of_ble_eq_true rfl) vc_3 (Nat.le_of_ble_eq_true rfl) q2461)
theorem n356_88 : Snd mt G 356 88 (oAload 0 89) := w_aload_n (hm := mm356) dX3_job_88
theorem n356_89 : Snd mt G 356 89 (oGetf [4] 30 92) := w_getf (hm := mm356) dX3_job_89 (fok1 (k := 30) (T := TX3) 3 (Nat.le_of_ble_eq_true rfl) vc_3 (Nat.le_of_ble_eq_true rfl) q2435)
theorem n356_92 : Snd mt G 356 92 (oAld [106] 93) := w_aaload (hm := mm356) (kt := 6) dX3_job_92 rfl at_6 (Nat.le_of_ble_eq_true rfl) (List.forall_mem_cons.mpr ⟨Or.inl rfl, (fun t ht => nomatch ht)⟩)
theorem n356_93 : Snd mt G 356 93 (oConst (.int 0) 94) := w_iconst (hm := mm356) dX3_job_93 rfl
theorem n356_94 : Snd mt G 356 94 (oIload 1 95) := w_iload_n (hm := mm356) dX3_job_94
theorem n356_95 : Snd mt G 356 95 (oIast [100] 96) := w_iastore (hm := mm356) (kt := 0) dX3_job_95 at_0 (Nat.le_of_ble_eq_true rfl) (List.forall_mem_cons.mpr ⟨rfl, (fun t ht => nomatch ht)⟩)
theorem n356_96 : Snd mt G 356 96 (oAload 0 97) := w_aload_n (hm := mm356) dX3_job_96
theorem n356_97 : Snd mt G 356 97 (oGetf [4] 56 100) := w_getf (hm := mm356) dX3_job_97 (fok1 (k := 56) (T := TX3) 3 (Nat.le_of_ble_eq_true rfl) vc_3 (Nat.le_of_ble_eq_true rfl) q2461)
theorem n356_100 : Snd mt G 356 100 (oAload 0 101) := w_aload_n (hm := mm356) dX3_job_100
theorem n356_101 : Snd mt G 356 101 (oGetf [4] 30 104) := w_getf (hm := mm356) dX3_job_101 (fok1 (k := 30) (T := TX3) 3 (Nat.le_of_ble_eq_true rfl) vc_3 (Nat.le_of_ble_eq_true rfl) q2435)
theorem n356_104 : Snd mt G 356 104 (oAld [106] 105) := w_aaload (hm := mm356) (kt := 6) dX3_job_104 rfl at_6 (Nat.le_of_ble_eq_true rfl) (List.forall_mem_cons.mpr ⟨Or.inl rfl, (fun t ht => nomatch ht)⟩)
theorem n356_105 : Snd mt G 356 105 (oConst (.int 1) 106) := w_iconst (hm := mm356) dX3_job_105 rfl
theorem n356_106 : Snd mt G 356 106 (oIload 2 107) := w_iload_n (hm := mm356) dX3_job_106
theorem n356_107 : Snd mt G 356 107 (oIast [100] 108) := w_iastore (hm := mm356) (kt := 0) dX3_job_107 at_0 (Nat.le_of_ble_eq_true rfl) (List.forall_mem_cons.mpr ⟨rfl, (fun t ht => nomatch ht)⟩)
theorem n356_108 : Snd mt G 356 108 (oAload 0 109) := w_aload_n (hm := mm356) dX3_job_108
theorem n356_109 : Snd mt G 356 109 (oGetf [4] 56 112) := w_getf (hm := mm356) dX3_job_109 (fok1 (k := 56) (T := TX3) 3 (Nat.le_of_ble_eq_true rfl) vc_3 (Nat.le_of_ble_eq_true rfl) q2461)
theorem n356_112 : Snd mt G 356 112 (oAload 0 113) := w_aload_n (hm := mm356) dX3_job_112
theorem n356_113 : Snd mt G 356 113 (oGetf [4] 30 116) := w_getf (hm := mm356) dX3_job_113 (fok1 (k := 30) (T := TX3) 3 (Nat.le_of_ble_eq_true rfl) vc_3 (Nat.le_of_ble_eq_true rfl) q2435)
theorem n356_116 : Snd mt G 356 116 (oAld [106] 117) := w_aaload (hm := mm356) (kt := 6) dX3_job_116 rfl at_6 (Nat.le_of_ble_eq_true rfl) (List.forall_mem_cons.mpr ⟨Or.inl rfl, (fun t ht => nomatch ht)⟩)
theorem n356_117 : Snd mt G 356 117 (oConst (.int 2) 118) := w_iconst (hm := mm356) dX3_job_117 rfl
theorem n356_118 : Snd mt G 356 118 (oIload 3 119) := w_iload_n (hm := mm356) dX3_job_118
theorem n356_119 : Snd mt G 356 119 (oIast [100] 120) := w_iastore (hm := mm356) (kt := 0) dX3_job_119 at_0 (Nat.le_of_ble_eq_true rfl) (List.forall_mem_cons.mpr ⟨rfl, (fun t ht => nomatch ht)⟩)
theorem n356_120 : Snd mt G 356 120 (oAload 0 121) := w_aload_n (hm := mm356) dX3_job_120
theorem n356_121 : Snd mt G 356 121 (oGetf [4] 56 124) := w_getf (hm := mm356) dX3_job_121 (fok1 (k := 56) (T := TX3) 3 (Nat.le_of_ble_eq_true rfl) vc_3 (Nat.le_of_ble_eq_true rfl) q2461)
theorem n356_124 : Snd mt G 356 124 (oAload 0 125) := w_aload_n (hm := mm356) dX3_job_124
theorem n356_125 : Snd mt G 356 125 (oGetf [4] 30 128) := w_getf (hm := mm356) dX3_job_125 (fok1 (k := 30) (T := TX3) 3 (Nat.le_of_ble_eq_true rfl) vc_3 (Nat.le_of_ble_eq_true rfl) q2435)
theorem n356_128 : Snd mt G 356 128 (oAld [106] 129) := w_aaload (hm := mm356) (kt := 6) dX3_job_128 rfl at_6 (Nat.le_of_ble_eq_true rfl) (List.forall_mem_cons.mpr ⟨Or.inl rfl, (fun t ht => nomatch ht)⟩)
theorem n356_129 : Snd mt G 356 129 (oConst (.int 3) 130) := w_iconst (hm := mm356) dX3_job_129 rfl
theorem n356_130 : Snd mt G 356 130 (oIload 4 132) := w_iload (hm := mm356) dX3_job_130
theorem n356_132 : Snd mt G 356 132 (oIast [100] 133) := w_iastore (hm := mm356) (kt := 0) dX3_job_132 at_0 (Nat.le_of_ble_eq_true rfl) (List.forall_mem_cons.mpr ⟨rfl, (fun t ht => nomatch ht)⟩)
theorem n356_133 : Snd mt G 356 133 (oAload 0 134) := w_aload_n (hm := mm356) dX3_job_133
theorem n356_134 : Snd mt G 356 134 (oDup 135) := w_dup (hm := mm356) dX3_job_134
theorem n356_135 : Snd mt G 356 135 (oGetf [4] 30 138) := w_getf (hm := mm356) dX3_job_135 (fok1 (k := 30) (T := TX3) 3 (Nat.le_of_ble_eq_true rfl) vc_3 (Nat.le_of_ble_eq_true rfl) q2435)
theorem n356_138 : Snd mt G 356 138 (oConst (.int 1) 139) := w_iconst (hm := mm356) dX3_job_138 rfl
theorem n356_139 : Snd mt G 356 139 (oBin (fun x y => x + y) 140) := w_iadd (hm := mm356) dX3_job_139
theorem n356_140 : Snd mt G 356 140 (oPutf [4] 30 .int 143) := w_putf (hm := mm356) dX3_job_140 (pok1 (k := 30) (T := TX3) 3 (Nat.le_of_ble_eq_true rfl) vc_3 (Nat.le_of_ble_eq_true rfl) rfl pd_X3_30 q2435)
theorem n356_143 : Snd mt G 356 143 (oAload 0 144) := w_aload_n (hm := mm356) dX3_job_143
theorem n356_144 : Snd mt G 356 144 (oGetf [4] 30 147) := w_getf (hm := mm356) dX3_job_144 (fok1 (k := 30) (T := TX3) 3 (Nat.le_of_ble_eq_true rfl) vc_3 (Nat.le_of_ble_eq_true rfl) q2435)
theorem n356_147 : Snd mt G 356 147 (oConst (.int 1) 148) := w_iconst (hm := mm356) dX3_job_147 rfl
theorem n356_148 : Snd mt G 356 148 (oBin (fun x y => x - y) 149) := w_isub (hm := mm356) dX3_job_148
theorem n356_149 : Snd mt G 356 149 (oRetI .int) := w_iret (hm := mm356) dX3_job_149 rfl
theorem sj356 : ∀ pc, Snd mt G 356 pc (j356 pc) := fun pc => (snd_br ((snd_br ((snd_br ((snd_br ((snd_br ((snd_br ((snd_br ((snd_lf n356_149)) ((snd_lf n356_148)))) ((snd_lf n356_147)))) ((snd_br ((snd_br ((snd_lf n356_144)) ((snd_lf n356_143)))) ((snd_lf n356_140)))))) ((snd_br ((snd_br ((snd_br ((snd_lf n356_139)) ((snd_lf n356_138)))) ((snd_lf n356_135)))) ((snd_br ((snd_lf n356_134)) ((snd_lf n356_133)))))))) ((snd_br ((snd_br ((snd_br ((snd_br ((snd_lf n356_132)) ((snd_lf n356_130)))) ((snd_lf n356_129)))) ((snd_br ((snd_br ((snd_lf n356_128)) ((snd_lf n356_125)))) ((snd_lf n356_124)))))) ((snd_br ((snd_br ((snd_br ((snd_lf n356_121)) ((snd_lf n356_120)))) ((snd_lf n356_119)))) ((snd_br ((snd_lf n356_118)) ((snd_lf n356_117)))))))))) ((snd_br ((snd_br ((snd_br ((snd_br ((snd_br ((snd_lf n356_116)) ((snd_lf n356_113)))) ((snd_lf n356_112)))) ((snd_br ((snd_br ((snd_lf n356_109)) ((snd_lf n356_108)))) ((snd_lf n356_107)))))) ((snd_br ((snd_br ((snd_br ((snd_lf n356_106)) ((snd_lf n356_105)))) ((snd_lf n356_104)))) ((snd_br ((snd_lf n356_101)) ((snd_lf n356_100)))))))) ((snd_br ((snd_br ((snd_br ((snd_br ((snd_lf n356_97)) ((snd_lf n356_96)))) ((snd_lf n356_95)))) ((snd_br ((snd_br ((snd_lf n356_94)) ((snd_lf n356_93)))) ((snd_lf n356_92)))))) ((snd_br ((snd_br ((snd_br ((snd_lf n356_89)) ((snd_lf n356_88)))) ((snd_lf n356_85)))) ((snd_br ((snd_lf n356_84)) ((snd_lf n356_83)))))))))))) ((snd_br ((snd_br ((snd_br ((snd_br ((snd_br ((snd_br ((snd_lf n356_82)) ((snd_lf n356_79)))) ((snd_lf n356_77)))) ((snd_br ((snd_br ((snd_lf n356_74)) ((snd_lf n356_73)))) ((snd_lf n356_72)))))) ((snd_br ((snd_br ((snd_br ((snd_lf n356_71)) ((snd_lf n356_68)))) ((snd_lf n356_65)))) ((snd_br ((snd_lf n356_64)) ((snd_lf n356_63)))))))) ((snd_br ((snd_br ((snd_br ((snd_br ((snd_lf n356_60)) ((snd_lf n356_59)))) ((snd_lf n356_56)))) ((snd_br ((snd_br ((snd_lf n356_53)) ((snd_lf n356_50)))) ((snd_lf n356_49)))))) ((snd_br ((snd_br ((snd_br ((snd_lf n356_47)) ((snd_lf n356_44)))) ((snd_lf n356_41)))) ((snd_br ((snd_lf n356_39)) ((snd_lf n356_38)))))))))) ((snd_br ((snd_br ((snd_br ((snd_br ((snd_br ((snd_lf n356_37)) ((snd_lf n356_34)))) ((snd_lf n356_31)))) ((snd_br ((snd_br ((snd_lf n356_29)) ((snd_lf n356_28)))) ((snd_lf n356_27)))))) ((snd_br ((snd_br ((snd_br ((snd_lf n356_26)) ((snd_lf n356_23)))) ((snd_lf n356_20)))) ((snd_br ((snd_lf n356_19)) ((snd_lf n356_18)))))))) ((snd_br ((snd_br ((snd_br ((snd_br ((snd_lf n356_15)) ((snd_lf n356_14)))) ((snd_lf n356_11)))) ((snd_br ((snd_lf n356_8)) ((snd_lf n356_7)))))) ((snd_br ((snd_br ((snd_br ((snd_lf n356_6)) ((snd_lf n356_5)))) ((snd_lf n356_2)))) ((snd_br ((snd_lf n356_1)) ((snd_lf n356_0)))))))))))))
end
section
variable {G : AG}
theorem n357_0 : Snd mt G 357 0 (oAload 0 1) := w_aload_n (hm := mm357) dX3_benches_0
theorem n357_1 : Snd mt G 357 1 (oConst (.int 0) 2) := w_iconst (hm := mm357) dX3_benches_1 rfl
theorem n357_2 : Snd mt G 357 2 (oPutf [4] 0 .int 5) := w_putf (hm := mm357) dX3_benches_2 (pok1 (k := 0) (T := TX3) 3 (Nat.le_of_ble_eq_true rfl) vc_3 (Nat.le_of_ble_eq_true rfl) rfl pd_X3_0 q2405)
theorem n357_5 : Snd mt G 357 5 (oAload 0 6) := w_aload_n (hm := mm357) dX3_benches_5
theorem n357_6 : Snd mt G 357 6 (oIload 1 7) := w_iload_n (hm := mm357) dX3_benches_6
theorem n357_7 : Snd mt G 357 7 (oConst (.int 1) 8) := w_iconst (hm := mm357) dX3_benches_7 rfl
theorem n357_8 : Snd mt G 357 8 (oConst (.int 2) 9) := w_iconst (hm := mm357) dX3_benches_8 rfl
theorem n357_9 : Snd mt G 357 9 (oCall 3 (fS 284 3) 0 12 xOut) := s_callS (m' := 284) (n := 3) xsh_out (w_xok0 mm357) (w_cal mm357 mm284 pn_X3 (Nat.le_of_ble_eq_true rfl) (Nat.le_of_ble_eq_true rfl)) (fun h as hn => w_run_S mm357 mm284 dX3_benches_9 q2631 q2632 q150 q2633 pa284 hn)
theorem n357_12 : Snd mt G 357 12 (oIfEq 15 19) := w_if_ne (hm := mm357) dX3_benches_12 rfl
theorem n357_15 : Snd mt G 357 15 (oConst (.int 1) 16) := w_iconst (hm := mm357) dX3_benches_15 rfl
theorem n357_16 : Snd mt G 357 16 (oGoto 20) := w_goto (hm := mm357) dX3_benches_16 rfl
theorem n357_19 : Snd mt G 357 19 (oConst (.int 0) 20) := w_iconst (hm := mm357) dX3_benches_19 rfl
theorem n357_20 : Snd mt G 357 20 (oConst (.int 1) 21) := w_iconst (hm := mm357) dX3_benches_20 rfl
theorem n357_21 : Snd mt G 357 21 (oCall 3 (fV [4] 285 3) 0 24 xOut) := s_callV (m' := 285) (n := 2) xsh_out (w_xok0 mm357) (w_cal mm357 mm285 pn_X3 (Nat.le_of_ble_eq_true rfl) (Nat.le_of_ble_eq_true rfl)) (fun h b as hc hn => w_run_V (ci := 3) mm357 mm285 dX3_benches_21 (Or.inl (List.mem_singleton.mp hc)) (Nat.le_of_ble_eq_true rfl) vc_3 rfl q2634 q2636 qs62 q150 q2637 pa285 hn)
theorem n357_24 : Snd mt G 357 24 (oIfEq 29 27) := w_if_eq (hm := mm357) dX3_benches_24 rfl
theorem n357_27 : Snd mt G 357 27 (oConst (.int 0) 28) := w_iconst (hm := mm357) dX3_benches_27 rfl
theorem n357_28 : Snd mt G 357 28 (oRetI .int) := w_iret (hm := mm357) dX3_benches_28 rfl
theorem n357_29 : Snd mt G 357 29 (oAload 0 30) := w_aload_n (hm := mm357) dX3_benches_29
theorem n357_30 : Snd mt G 357 30 (oGetf [4] 37 33) := w_getf (hm := mm357) dX3_benches_30 (fok1 (k := 37) (T := TX3) 3 (Nat.le_of_ble_eq_true rfl) vc_3 (Nat.le_of_ble_eq_true rfl) q2442)
theorem n357_33 : Snd mt G 357 33 (oIstore 2 34) := w_istore_n (hm := mm357) dX3_benches_33 (Nat.le_of_ble_eq_true rfl)
theorem n357_34 : Snd mt G 357 34 (oAload 0 35) := w_aload_n (hm := mm357) dX3_benches_34
theorem n357_35 : Snd mt G 357 35 (oIload 1 36) := w_iload_n (hm := mm357) dX3_benches_35
theorem n357_36 : Snd mt G 357 36 (oPutf [4] 37 .int 39) := w_putf (hm := mm357) dX3_benches_36 (pok1 (k := 37) (T := TX3) 3 (Nat.le_of_ble_eq_true rfl) vc_3 (Nat.le_of_ble_eq_true rfl) rfl pd_X3_37 q2442)
theorem n357_39 : Snd mt G 357 39 (oIload 2 40) := w_iload_n (hm := mm357) dX3_benches_39
theorem n357_40 : Snd mt G 357 40 (oRetI .int) := w_iret (hm := mm357) dX3_benches_40 rfl
theorem sj357 : ∀ pc, Snd mt G 357 pc (j357 pc) := fun pc => (snd_br ((snd_br ((snd_br ((snd_br ((snd_br ((snd_lf n357_40)) ((snd_lf n357_39)))) ((snd_br ((snd_lf n357_36)) ((snd_lf n357_35)))))) ((snd_br ((snd_br ((snd_lf n357_34)) ((snd_lf n357_33)))) ((snd_lf n357_30)))))) ((snd_br ((snd_br ((snd_br ((snd_lf n357_29)) ((snd_lf n357_28)))) ((snd_lf n357_27)))) ((snd_br ((snd_br ((snd_lf n357_24)) ((snd_lf n357_21)))) ((snd_lf n357_20)))))))) ((snd_br ((snd_br ((snd_br ((snd_br ((snd_lf n357_19)) ((snd_lf n357_16)))) ((snd_lf n357_15)))) ((snd_br ((snd_br ((snd_lf n357_12)) ((snd_lf n357_9)))) ((snd_lf n357_8)))))) ((snd_br ((snd_br ((snd_br ((snd_lf n357_7)) ((snd_lf n357_6)))) ((snd_lf n357_5)))) ((snd_br ((snd_br ((snd_lf n357_2)) ((snd_lf n357_1)))) ((snd_lf n357_0)))))))))
end
section
variable {G : AG}
theorem n358_0 : Snd mt G 358 0 (oAload 0 1) := w_aload_n (hm := mm358) dX3_cost_0
theorem n358_1 : Snd mt G 358 1 (oConst (.int 0) 2) := w_iconst (hm := mm358) dX3_cost_1 rfl
theorem n358_2 : Snd mt G 358 2 (oPutf [4] 0 .int 5) := w_putf (hm := mm358) dX3_cost_2 (pok1 (k := 0) (T := TX3) 3 (Nat.le_of_ble_eq_true rfl) vc_3 (Nat.le_of_ble_eq_true rfl) rfl pd_X3_0 q2405)
theorem n358_5 : Snd mt G 358 5 (oIload 1 6) := w_iload_n (hm := mm358) dX3_cost_5
theorem n358_6 : Snd mt G 358 6 (oIstore 2 7) := w_istore_n (hm := mm358) dX3_cost_6 (Nat.le_of_ble_eq_true rfl)
theorem n358_7 : Snd mt G 358 7 (oConst (.int 0) 8) := w_iconst (hm := mm358) dX3_cost_7 rfl
theorem n358_8 : Snd mt G 358 8 (oIstore 3 9) := w_istore_n (hm := mm358) dX3_cost_8 (Nat.le_of_ble_eq_true rfl)
theorem n358_9 : Snd mt G 358 9 (oAload 0 10) := w_aload_n (hm := mm358) dX3_cost_9
theorem n358_10 : Snd mt G 358 10 (oGetf [4] 30 13) := w_getf (hm := mm358) dX3_cost_10 (fok1 (k := 30) (T := TX3) 3 (Nat.le_of_ble_eq_true rfl) vc_3 (Nat.le_of_ble_eq_true rfl) q2435)
theorem n358_13 : Snd mt G 358 13 (oConst (.int 1) 14) := w_iconst (hm := mm358) dX3_cost_13 rfl
theorem n358_14 : Snd mt G 358 14 (oBin (fun x y => x - y) 15) := w_isub (hm := mm358) dX3_cost_14
theorem n358_15 : Snd mt G 358 15 (oIstore 4 17) := w_istore (hm := mm358) dX3_cost_15 (Nat.le_of_ble_eq_true rfl)
theorem n358_17 : Snd mt G 358 17 (oIload 4 19) := w_iload (hm := mm358) dX3_cost_17
theorem n358_19 : Snd mt G 358 19 (oIfLt 60 22) := w_if_lt (hm := mm358) dX3_cost_19 rfl
theorem n358_22 : Snd mt G 358 22 (oIload 2 23) := w_iload_n (hm := mm358) dX3_cost_22
theorem n358_23 : Snd mt G 358 23 (oIfLt 60 26) := w_if_lt (hm := mm358) dX3_cost_23 rfl
theorem n358_26 : Snd mt G 358 26 (oAload 0 27) := w_aload_n (hm := mm358) dX3_cost_26
theorem n358_27 : Snd mt G 358 27 (oGetf [4] 61 30) := w_getf (hm := mm358) dX3_cost_27 (fok1 (k := 61) (T := TX3) 3 (Nat.le_of_ble_eq_true rfl) vc_3 (Nat.le_of_ble_eq_true rfl) q2466)
theorem n358_30 : Snd mt G 358 30 (oIload 4 32) := w_iload (hm := mm358) dX3_cost_30
theorem n358_32 : Snd mt G 358 32 (oIload 2 33) := w_iload_n (hm := mm358) dX3_cost_32
theorem n358_33 : Snd mt G 358 33 (oConst (.int 7) 35) := w_bipush (hm := mm358) dX3_cost_33 (by decide)
theorem n358_35 : Snd mt G 358 35 (oDiv (fun x y => x - x / y * y) 36) := w_irem (hm := mm358) dX3_cost_35
theorem n358_36 : Snd mt G 358 36 (oIast [100] 37) := w_iastore (hm := mm358) (kt := 0) dX3_cost_36 at_0 (Nat.le_of_ble_eq_true rfl) (List.forall_mem_cons.mpr ⟨rfl, (fun t ht => nomatch ht)⟩)
theorem n358_37 : Snd mt G 358 37 (oIload 3 38) := w_iload_n (hm := mm358) dX3_cost_37
theorem n358_38 : Snd mt G 358 38 (oConst (.int 1) 39) := w_iconst (hm := mm358) dX3_cost_38 rfl
theorem n358_39 : Snd mt G 358 39 (oAload 0 40) := w_aload_n (hm := mm358) dX3_cost_39
theorem n358_40 : Snd mt G 358 40 (oGetf [4] 61 43) := w_getf (hm := mm358) dX3_cost_40 (fok1 (k := 61) (T := TX3) 3 (Nat.le_of_ble_eq_true rfl) vc_3 (Nat.le_of_ble_eq_true rfl) q2466)
theorem n358_43 : Snd mt G 358 43 (oIload 4 45) := w_iload (hm := mm358) dX3_cost_43
theorem n358_45 : Snd mt G 358 45 (oAld [100] 46) := w_iaload (hm := mm358) (kt := 0) dX3_cost_45 at_0 (Nat.le_of_ble_eq_true rfl) (List.forall_mem_cons.mpr ⟨Or.inl rfl, (fun t ht => nomatch ht)⟩)
theorem n358_46 : Snd mt G 358 46 (oBin (fun x y => x <<< (y &&& 31)) 47) := w_ishl (hm := mm358) dX3_cost_46
theorem n358_47 : Snd mt G 358 47 (oBin (fun x y => x ||| y) 48) := w_ior (hm := mm358) dX3_cost_47
theorem n358_48 : Snd mt G 358 48 (oIstore 3 49) := w_istore_n (hm := mm358) dX3_cost_48 (Nat.le_of_ble_eq_true rfl)
theorem n358_49 : Snd mt G 358 49 (oIload 2 50) := w_iload_n (hm := mm358) dX3_cost_49
theorem n358_50 : Snd mt G 358 50 (oConst (.int 7) 52) := w_bipush (hm := mm358) dX3_cost_50 (by decide)
theorem n358_52 : Snd mt G 358 52 (oDiv (fun x y => x / y) 53) := w_idiv (hm := mm358) dX3_cost_52
theorem n358_53 : Snd mt G 358 53 (oIstore 2 54) := w_istore_n (hm := mm358) dX3_cost_53 (Nat.le_of_ble_eq_true rfl)
theorem n358_54 : Snd mt G 358 54 (oIinc 4 (-1) 57) := w_iinc (hm := mm358) dX3_cost_54 rfl (Nat.le_of_ble_eq_true rfl)
theorem n358_57 : Snd mt G 358 57 (oGoto 17) := w_goto (hm := mm358) dX3_cost_57 rfl
theorem n358_60 : Snd mt G 358 60 (oAload 0 61) := w_aload_n (hm := mm358) dX3_cost_60
theorem n358_61 : Snd mt G 358 61 (oIload 2 62) := w_iload_n (hm := mm358) dX3_cost_61
theorem n358_62 : Snd mt G 358 62 (oIfEq 65 77) := w_if_ne (hm := mm358) dX3_cost_62 rfl
theorem n358_65 : Snd mt G 358 65 (oIload 3 66) := w_iload_n (hm := mm358) dX3_cost_65
theorem n358_66 : Snd mt G 358 66 (oConst (.int 1) 67) := w_iconst (hm := mm358) dX3_cost_66 rfl
theorem n358_67 : Snd mt G 358 67 (oAload 0 68) := w_aload_n (hm := mm358) dX3_cost_67
theorem n358_68 : Snd mt G 358 68 (oGetf [4] 30 71) := w_getf (hm := mm358) dX3_cost_68 (fok1 (k := 30) (T := TX3) 3 (Nat.le_of_ble_eq_true rfl) vc_3 (Nat.le_of_ble_eq_true rfl) q2435)
theorem n358_71 : Snd mt G 358 71 (oBin (fun x y => x <<< (y &&& 31)) 72) := w_ishl (hm := mm358) dX3_cost_71
theorem n358_72 : Snd mt G 358 72 (oConst (.int 1) 73) := w_iconst (hm := mm358) dX3_cost_72 rfl
theorem n358_73 : Snd mt G 358 73 (oBin (fun x y => x - y) 74) := w_isub (hm := mm358) dX3_cost_73
theorem n358_74 : Snd mt G 358 74 (oCmpEq 81 77) := w_icmp_eq (hm := mm358) dX3_cost_74 rfl
theorem n358_77 : Snd mt G 358 77 (oConst (.int 1) 78) := w_iconst (hm := mm358) dX3_cost_77 rfl
theorem n358_78 : Snd mt G 358 78 (oGoto 82) := w_goto (hm := mm358) dX3_cost_78 rfl
theorem n358_81 : Snd mt G 358 81 (oConst (.int 0) 82) := w_iconst (hm := mm358) dX3_cost_81 rfl
theorem n358_82 : Snd mt G 358 82 (oConst (.int 1) 83) := w_iconst (hm := mm358) dX3_cost_82 rfl
theorem n358_83 : Snd mt G 358 83 (oCall 3 (fV [4] 285 3) 0 86 xOut) := s_callV (m' := 285) (n := 2) xsh_out (w_xok0 mm358) (w_cal mm358 mm285 pn_X3 (Nat.le_of_ble_eq_true rfl) (Nat.le_of_ble_eq_true rfl)) (fun h b as hc hn => w_run_V (ci := 3) mm358 mm285 dX3_cost_83 (Or.inl (List.mem_singleton.mp hc)) (Nat.le_of_ble_eq_true rfl) vc_3 rfl q2634 q2636 qs62 q150 q2637 pa285 hn)
theorem n358_86 : Snd mt G 358 86 (oIfEq 91 89) := w_if_eq (hm := mm358) dX3_cost_86 rfl
theorem n358_89 : Snd mt G 358 89 (oConst (.int 0) 90) := w_iconst (hm := mm358) dX3_cost_89 rfl
theorem n358_90 : Snd mt G 358 90 (oRetI .int) := w_iret (hm := mm358) dX3_cost_90 rfl
theorem n358_91 : Snd mt G 358 91 (oAload 0 92) := w_aload_n (hm := mm358) dX3_cost_91
theorem n358_92 : Snd mt G 358 92 (oAload 0 93) := w_aload_n (hm := mm358) dX3_cost_92
theorem n358_93 : Snd mt G 358 93 (oGetf [4] 61 96) := w_getf (hm := mm358) dX3_cost_93 (fok1 (k := 61) (T := TX3) 3 (Nat.le_of_ble_eq_true rfl) vc_3 (Nat.le_of_ble_eq_true rfl) q2466)
theorem n358_96 : Snd mt G 358 96 (oConst (.int (-1)) 97) := w_iconst (hm := mm358) dX3_cost_96 rfl
theorem n358_97 : Snd mt G 358 97 (oCall 3 (fV [4] 359 10) 0 100 xOut) := s_callV (m' := 359) (n := 2) xsh_out (w_xok0 mm358) (w_cal mm358 mm359 pn_X3 (Nat.le_of_ble_eq_true rfl) (Nat.le_of_ble_eq_true rfl)) (fun h b as hc hn => w_run_V (ci := 3) mm358 mm359 dX3_cost_97 (Or.inl (List.mem_singleton.mp hc)) (Nat.le_of_ble_eq_true rfl) vc_3 rfl q2928 q2930 qs105 q150 q2931 pa359 hn)
theorem n358_100 : Snd mt G 358 100 (oRetI .int) := w_iret (hm := mm358) dX3_cost_100 rfl
theorem sj358 : ∀ pc, Snd mt G 358 pc (j358 pc) := fun pc => (snd_br ((snd_br ((snd_br ((snd_br ((snd_br ((snd_br ((snd_lf n358_100)) ((snd_lf n358_97)))) ((snd_br ((snd_lf n358_96)) ((snd_lf n358_93)))))) ((snd_br ((snd_br ((snd_lf n358_92)) ((snd_lf n358_91)))) ((snd_br ((snd_lf n358_90)) ((snd_lf n358_89)))))))) ((snd_br ((snd_br ((snd_br ((snd_lf n358_86)) ((snd_lf n358_83)))) ((snd_br ((snd_lf n358_82)) ((snd_lf n358_81)))))) ((snd_br ((snd_br ((snd_lf n358_78)) ((snd_lf n358_77)))) ((snd_br ((snd_lf n358_74)) ((snd_lf n358_73)))))))))) ((snd_br ((snd_br ((snd_br ((snd_br ((snd_lf n358_72)) ((snd_lf n358_71)))) ((snd_br ((snd_lf n358_68)) ((snd_lf n358_67)))))) ((snd_br ((snd_br ((snd_lf n358_66)) ((snd_lf n358_65)))) ((snd_br ((snd_lf n358_62)) ((snd_lf n358_61)))))))) ((snd_br ((snd_br ((snd_br ((snd_lf n358_60)) ((snd_lf n358_57)))) ((snd_br ((snd_lf n358_54)) ((snd_lf n358_53)))))) ((snd_br ((snd_br ((snd_lf n358_52)) ((snd_lf n358_50)))) ((snd_br ((snd_lf n358_49)) ((snd_lf n358_48)))))))))))) ((snd_br ((snd_br ((snd_br ((snd_br ((snd_br ((snd_lf n358_47)) ((snd_lf n358_46)))) ((snd_br ((snd_lf n358_45)) ((snd_lf n358_43)))))) ((snd_br ((snd_br ((snd_lf n358_40)) ((snd_lf n358_39)))) ((snd_br ((snd_lf n358_38)) ((snd_lf n358_37)))))))) ((snd_br ((snd_br ((snd_br ((snd_lf n358_36)) ((snd_lf n358_35)))) ((snd_br ((snd_lf n358_33)) ((snd_lf n358_32)))))) ((snd_br ((snd_br ((snd_lf n358_30)) ((snd_lf n358_27)))) ((snd_br ((snd_lf n358_26)) ((snd_lf n358_23)))))))))) ((snd_br ((snd_br ((snd_br ((snd_br ((snd_lf n358_22)) ((snd_lf n358_19)))) ((snd_br ((snd_lf n358_17)) ((snd_lf n358_15)))))) ((snd_br ((snd_br ((snd_lf n358_14)) ((snd_lf n358_13)))) ((snd_br ((snd_lf n358_10)) ((snd_lf n358_9)))))))) ((snd_br ((snd_br ((snd_br ((snd_lf n358_8)) ((snd_lf n358_7)))) ((snd_br ((snd_lf n358_6)) ((snd_lf n358_5)))))) ((snd_br ((snd_br ((snd_lf n358_2)) ((snd_lf n358_1)))) ((snd_lf n358_0)))))))))))
end
section
variable {G : AG}
theorem n359_0 : Snd mt G 359 0 (oConst (.int 0) 1) := w_iconst (hm := mm359) dX3_runs_0 rfl
theorem n359_1 : Snd mt G 359 1 (oIstore 3 2) := w_istore_n (hm := mm359) dX3_runs_1 (Nat.le_of_ble_eq_true rfl)
theorem n359_2 : Snd mt G 359 2 (oConst (.int 0) 3) := w_iconst (hm := mm359) dX3_runs_2 rfl
theorem n359_3 : Snd mt G 359 3 (oIstore 4 5) := w_istore (hm := mm359) dX3_runs_3 (Nat.le_of_ble_eq_true rfl)
theorem n359_5 : Snd mt G 359 5 (oConst (.int 0) 6) := w_iconst (hm := mm359) dX3_runs_5 rfl
theorem n359_6 : Snd mt G 359 6 (oIstore 5 8) := w_istore (hm := mm359) dX3_runs_6 (Nat.le_of_ble_eq_true rfl)
theorem n359_8 : Snd mt G 359 8 (oConst (.int 0) 9) := w_iconst (hm := mm359) dX3_runs_8 rfl
theorem n359_9 : Snd mt G 359 9 (oIstore 6 11) := w_istore (hm := mm359) dX3_runs_9 (Nat.le_of_ble_eq_true rfl)
theorem n359_11 : Snd mt G 359 11 (oIload 6 13) := w_iload (hm := mm359) dX3_runs_11
theorem n359_13 : Snd mt G 359 13 (oAload 0 14) := w_aload_n (hm := mm359) dX3_runs_13
theorem n359_14 : Snd mt G 359 14 (oGetf [4] 30 17) := w_getf (hm := mm359) dX3_runs_14 (fok1 (k := 30) (T := TX3) 3 (Nat.le_of_ble_eq_true rfl) vc_3 (Nat.le_of_ble_eq_true rfl) q2435)
theorem n359_17 : Snd mt G 359 17 (oCmpGe 132 20) := w_icmp_ge (hm := mm359) dX3_runs_17 rfl
theorem n359_20 : Snd mt G 359 20 (oAload 0 21) := w_aload_n (hm := mm359) dX3_runs_20
theorem n359_21 : Snd mt G 359 21 (oGetf [4] 56 24) := w_getf (hm := mm359) dX3_runs_21 (fok1 (k := 56) (T := TX3) 3 (Nat.le_of_ble_eq_true rfl) vc_3 (Nat.le_of_ble_eq_true rfl) q2461)
theorem n359_24 : Snd mt G 359 24 (oAload 1 25) := w_aload_n (hm := mm359) dX3_runs_24
theorem n359_25 : Snd mt G 359 25 (oIload 6 27) := w_iload (hm := mm359) dX3_runs_25
theorem n359_27 : Snd mt G 359 27 (oAld [100] 28) := w_iaload (hm := mm359) (kt := 0) dX3_runs_27 at_0 (Nat.le_of_ble_eq_true rfl) (List.forall_mem_cons.mpr ⟨Or.inl rfl, (fun t ht => nomatch ht)⟩)
theorem n359_28 : Snd mt G 359 28 (oAld [106] 29) := w_aaload (hm := mm359) (kt := 6) dX3_runs_28 rfl at_6 (Nat.le_of_ble_eq_true rfl) (List.forall_mem_cons.mpr ⟨Or.inl rfl, (fun t ht => nomatch ht)⟩)
theorem n359_29 : Snd mt G 359 29 (oAstore 7 31) := w_astore (hm := mm359) dX3_runs_29 (Nat.le_of_ble_eq_true rfl)
theorem n359_31 : Snd mt G 359 31 (oAload 0 32) := w_aload_n (hm := mm359) dX3_runs_31
theorem n359_32 : Snd mt G 359 32 (oGetf [4] 37 35) := w_getf (hm := mm359) dX3_runs_32 (fok1 (k := 37) (T := TX3) 3 (Nat.le_of_ble_eq_true rfl) vc_3 (Nat.le_of_ble_eq_true rfl) q2442)
theorem n359_35 : Snd mt G 359 35 (oConst (.int 1) 36) := w_iconst (hm := mm359) dX3_runs_35 rfl
theorem n359_36 : Snd mt G 359 36 (oCmpEq 45 39) := w_icmp_eq (hm := mm359) dX3_runs_36 rfl
theorem n359_39 : Snd mt G 359 39 (oIload 3 40) := w_iload_n (hm := mm359) dX3_runs_39
theorem n359_40 : Snd mt G 359 40 (oIload 4 42) := w_iload (hm := mm359) dX3_runs_40
theorem n359_42 : Snd mt G 359 42 (oCmpGt 49 45) := w_icmp_gt (hm := mm359) dX3_runs_42 rfl
theorem n359_45 : Snd mt G 359 45 (oConst (.int 1) 46) := w_iconst (hm := mm359) dX3_runs_45 rfl
theorem n359_46 : Snd mt G 359 46 (oGoto 50) := w_goto (hm := mm359) dX3_runs_46 rfl
theorem n359_49 : Snd mt G 359 49 (oConst (.int 0) 50) := w_iconst (hm := mm359) dX3_runs_49 rfl
theorem n359_50 : Snd mt G 359 50 (oIstore 8 52) := w_istore (hm := mm359) dX3_runs_50 (Nat.le_of_ble_eq_true rfl)
theorem n359_52 : Snd mt G 359 52 (oIload 8 54) := w_iload (hm := mm359) dX3_runs_52
theorem n359_54 : Snd mt G 359 54 (oIfEq 61 57) := w_if_eq (hm := mm359) dX3_runs_54 rfl
theorem n359_57 : Snd mt G 359 57 (oIload 3 58) := w_iload_n (hm := mm359) dX3_runs_57
theorem n359_58 : Snd mt G 359 58 (oGoto 63) := w_goto (hm := mm359) dX3_runs_58 rfl
theorem n359_61 : Snd mt G 359 61 (oIload 4 63) := w_iload (hm := mm359) dX3_runs_61
theorem n359_63 : Snd mt G 359 63 (oAload 7 65) := w_aload (hm := mm359) dX3_runs_63
theorem n359_65 : Snd mt G 359 65 (oConst (.int 3) 66) := w_iconst (hm := mm359) dX3_runs_65 rfl
theorem n359_66 : Snd mt G 359 66 (oAld [100] 67) := w_iaload (hm := mm359) (kt := 0) dX3_runs_66 at_0 (Nat.le_of_ble_eq_true rfl) (List.forall_mem_cons.mpr ⟨Or.inl rfl, (fun t ht => nomatch ht)⟩)
theorem n359_67 : Snd mt G 359 67 (oCall 2 (fS 347 2) 0 70 xOut) := s_callS (m' := 347) (n := 2) xsh_out (w_xok0 mm359) (w_cal mm359 mm347 pn_X3 (Nat.le_of_ble_eq_true rfl) (Nat.le_of_ble_eq_true rfl)) (fun h as hn => w_run_S mm359 mm347 dX3_runs_67 q2881 q2882 q150 q2883 pa347 hn)
theorem n359_70 : Snd mt G 359 70 (oAload 7 72) := w_aload (hm := mm359) dX3_runs_70
theorem n359_72 : Snd mt G 359 72 (oConst (.int 1) 73) := w_iconst (hm := mm359) dX3_runs_72 rfl
theorem n359_73 : Snd mt G 359 73 (oAld [100] 74) := w_iaload (hm := mm359) (kt := 0) dX3_runs_73 at_0 (Nat.le_of_ble_eq_true rfl) (List.forall_mem_cons.mpr ⟨Or.inl rfl, (fun t ht => nomatch ht)⟩)
theorem n359_74 : Snd mt G 359 74 (oBin (fun x y => x + y) 75) := w_iadd (hm := mm359) dX3_runs_74
theorem n359_75 : Snd mt G 359 75 (oIstore 9 77) := w_istore (hm := mm359) dX3_runs_75 (Nat.le_of_ble_eq_true rfl)
theorem n359_77 : Snd mt G 359 77 (oIload 8 79) := w_iload (hm := mm359) dX3_runs_77
theorem n359_79 : Snd mt G 359 79 (oIfEq 87 82) := w_if_eq (hm := mm359) dX3_runs_79 rfl
theorem n359_82 : Snd mt G 359 82 (oIload 9 84) := w_iload (hm := mm359) dX3_runs_82
theorem n359_84 : Snd mt G 359 84 (oGoto 88) := w_goto (hm := mm359) dX3_runs_84 rfl
theorem n359_87 : Snd mt G 359 87 (oIload 3 88) := w_iload_n (hm := mm359) dX3_runs_87
theorem n359_88 : Snd mt G 359 88 (oIstore 3 89) := w_istore_n (hm := mm359) dX3_runs_88 (Nat.le_of_ble_eq_true rfl)
theorem n359_89 : Snd mt G 359 89 (oIload 8 91) := w_iload (hm := mm359) dX3_runs_89
theorem n359_91 : Snd mt G 359 91 (oIfEq 99 94) := w_if_eq (hm := mm359) dX3_runs_91 rfl
theorem n359_94 : Snd mt G 359 94 (oIload 4 96) := w_iload (hm := mm359) dX3_runs_94
theorem n359_96 : Snd mt G 359 96 (oGoto 101) := w_goto (hm := mm359) dX3_runs_96 rfl
theorem n359_99 : Snd mt G 359 99 (oIload 9 101) := w_iload (hm := mm359) dX3_runs_99
theorem n359_101 : Snd mt G 359 101 (oIstore 4 103) := w_istore (hm := mm359) dX3_runs_101 (Nat.le_of_ble_eq_true rfl)
theorem n359_103 : Snd mt G 359 103 (oIload 5 105) := w_iload (hm := mm359) dX3_runs_103
theorem n359_105 : Snd mt G 359 105 (oAload 7 107) := w_aload (hm := mm359) dX3_runs_105
theorem n359_107 : Snd mt G 359 107 (oConst (.int 2) 108) := w_iconst (hm := mm359) dX3_runs_107 rfl
theorem n359_108 : Snd mt G 359 108 (oAld [100] 109) := w_iaload (hm := mm359) (kt := 0) dX3_runs_108 at_0 (Nat.le_of_ble_eq_true rfl) (List.forall_mem_cons.mpr ⟨Or.inl rfl, (fun t ht => nomatch ht)⟩)
theorem n359_109 : Snd mt G 359 109 (oIload 9 111) := w_iload (hm := mm359) dX3_runs_109
theorem n359_111 : Snd mt G 359 111 (oBin (fun x y => x * y) 112) := w_imul (hm := mm359) dX3_runs_111
theorem n359_112 : Snd mt G 359 112 (oBin (fun x y => x + y) 113) := w_iadd (hm := mm359) dX3_runs_112
theorem n359_113 : Snd mt G 359 113 (oIstore 5 115) := w_istore (hm := mm359) dX3_runs_113 (Nat.le_of_ble_eq_true rfl)
theorem n359_115 : Snd mt G 359 115 (oAload 1 116) := w_aload_n (hm := mm359) dX3_runs_115
theorem n359_116 : Snd mt G 359 116 (oIload 6 118) := w_iload (hm := mm359) dX3_runs_116
theorem n359_118 : Snd mt G 359 118 (oAld [100] 119) := w_iaload (hm := mm359) (kt := 0) dX3_runs_118 at_0 (Nat.le_of_ble_eq_true rfl) (List.forall_mem_cons.mpr ⟨Or.inl rfl, (fun t ht => nomatch ht)⟩)
theorem n359_119 : Snd mt G 359 119 (oIload 2 120) := w_iload_n (hm := mm359) dX3_runs_119
theorem n359_120 : Snd mt G 359 120 (oCmpEq 123 126) := w_icmp_ne (hm := mm359) dX3_runs_120 rfl
theorem n359_123 : Snd mt G 359 123 (oIload 9 125) := w_iload (hm := mm359) dX3_runs_123
theorem n359_125 : Snd mt G 359 125 (oRetI .int) := w_iret (hm := mm359) dX3_runs_125 rfl
theorem n359_126 : Snd mt G 359 126 (oIinc 6 1 129) := w_iinc (hm := mm359) dX3_runs_126 rfl (Nat.le_of_ble_eq_true rfl)
theorem n359_129 : Snd mt G 359 129 (oGoto 11) := w_goto (hm := mm359) dX3_runs_129 rfl
theorem n359_132 : Snd mt G 359 132 (oIload 5 134) := w_iload (hm := mm359) dX3_runs_132
theorem n359_134 : Snd mt G 359 134 (oRetI .int) := w_iret (hm := mm359) dX3_runs_134 rfl
theorem sj359 : ∀ pc, Snd mt G 359 pc (j359 pc) := fun pc => (snd_br ((snd_br ((snd_br ((snd_br ((snd_br ((snd_br ((snd_br ((snd_lf n359_134)) ((snd_lf n359_132)))) ((snd_lf n359_129)))) ((snd_br ((snd_lf n359_126)) ((snd_lf n359_125)))))) ((snd_br ((snd_br ((snd_br ((snd_lf n359_123)) ((snd_lf n359_120)))) ((snd_lf n359_119)))) ((snd_br ((snd_lf n359_118)) ((snd_lf n359_116)))))))) ((snd_br ((snd_br ((snd_br ((snd_br ((snd_lf n359_115)) ((snd_lf n359_113)))) ((snd_lf n359_112)))) ((snd_br ((snd_lf n359_111)) ((snd_lf n359_109)))))) ((snd_br ((snd_br ((snd_lf n359_108)) ((snd_lf n359_107)))) ((snd_br ((snd_lf n359_105)) ((snd_lf n359_103)))))))))) ((snd_br ((snd_br ((snd_br ((snd_br ((snd_br ((snd_lf n359_101)) ((snd_lf n359_99)))) ((snd_lf n359_96)))) ((snd_br ((snd_lf n359_94)) ((snd_lf n359_91)))))) ((snd_br ((snd_br ((snd_br ((snd_lf n359_89)) ((snd_lf n359_88)))) ((snd_lf n359_87)))) ((snd_br ((snd_lf n359_84)) ((snd_lf n359_82)))))))) ((snd_br ((snd_br ((snd_br ((snd_br ((snd_lf n359_79)) ((snd_lf n359_77)))) ((snd_lf n359_75)))) ((snd_br ((snd_lf n359_74)) ((snd_lf n359_73)))))) ((snd_br ((snd_br ((snd_lf n359_72)) ((snd_lf n359_70)))) ((snd_br ((snd_lf n359_67)) ((snd_lf n359_66)))))))))))) ((snd_br ((snd_br ((snd_br ((snd_br ((snd_br ((snd_br ((snd_lf n359_65)) ((snd_lf n359_63)))) ((snd_lf n359_61)))) ((snd_br ((snd_lf n359_58)) ((snd_lf n359_57)))))) ((snd_br ((snd_br ((snd_br ((snd_lf n359_54)) ((snd_lf n359_52)))) ((snd_lf n359_50)))) ((snd_br ((snd_lf n359_49)) ((snd_lf n359_46)))))))) ((snd_br ((snd_br ((snd_br ((snd_br ((snd_lf n359_45)) ((snd_lf n359_42)))) ((snd_lf n359_40)))) ((snd_br ((snd_lf n359_39)) ((snd_lf n359_36)))))) ((snd_br ((snd_br ((snd_lf n359_35)) ((snd_lf n359_32)))) ((snd_br ((snd_lf n359_31)) ((snd_lf n359_29)))))))))) ((snd_br ((snd_br ((snd_br ((snd_br ((snd_br ((snd_lf n359_28)) ((snd_lf n359_27)))) ((snd_lf n359_25)))) ((snd_br ((snd_lf n359_24)) ((snd_lf n359_21)))))) ((snd_br ((snd_br ((snd_lf n359_20)) ((snd_lf n359_17)))) ((snd_br ((snd_lf n359_14)) ((snd_lf n359_13)))))))) ((snd_br ((snd_br ((snd_br ((snd_br ((snd_lf n359_11)) ((snd_lf n359_9)))) ((snd_lf n359_8)))) ((snd_br ((snd_lf n359_6)) ((snd_lf n359_5)))))) ((snd_br ((snd_br ((snd_lf n359_3)) ((snd_lf n359_2)))) ((snd_br ((snd_lf n359_1)) ((snd_lf n359_0)))))))))))))
end
section
variable {G : AG}
theorem n360_0 : Snd mt G 360 0 (oAload 0 1) := w_aload_n (hm := mm360) dX3_best_0
theorem n360_1 : Snd mt G 360 1 (oConst (.int 0) 2) := w_iconst (hm := mm360) dX3_best_1 rfl
theorem n360_2 : Snd mt G 360 2 (oPutf [4] 0 .int 5) := w_putf (hm := mm360) dX3_best_2 (pok1 (k := 0) (T := TX3) 3 (Nat.le_of_ble_eq_true rfl) vc_3 (Nat.le_of_ble_eq_true rfl) rfl pd_X3_0 q2405)
theorem n360_5 : Snd mt G 360 5 (oAload 0 6) := w_aload_n (hm := mm360) dX3_best_5
theorem n360_6 : Snd mt G 360 6 (oCall 1 (fV [4] 361 1) 0 9 xOut) := s_callV (m' := 361) (n := 0) xsh_out (w_xok0 mm360) (w_cal mm360 mm361 pn_X3 (Nat.le_of_ble_eq_true rfl) (Nat.le_of_ble_eq_true rfl)) (fun h b as hc hn => w_run_V (ci := 3) mm360 mm361 dX3_best_6 (Or.inl (List.mem_singleton.mp hc)) (Nat.le_of_ble_eq_true rfl) vc_3 rfl q2936 q2938 qs106 q150 q2939 pa361 hn)
theorem n360_9 : Snd mt G 360 9 (oConst (.int 0) 10) := w_iconst (hm := mm360) dX3_best_9 rfl
theorem n360_10 : Snd mt G 360 10 (oIstore 1 11) := w_istore_n (hm := mm360) dX3_best_10 (Nat.le_of_ble_eq_true rfl)
theorem n360_11 : Snd mt G 360 11 (oConst (.int 0) 12) := w_iconst (hm := mm360) dX3_best_11 rfl
theorem n360_12 : Snd mt G 360 12 (oIstore 2 13) := w_istore_n (hm := mm360) dX3_best_12 (Nat.le_of_ble_eq_true rfl)
theorem n360_13 : Snd mt G 360 13 (oIload 2 14) := w_iload_n (hm := mm360) dX3_best_13
theorem n360_14 : Snd mt G 360 14 (oAload 0 15) := w_aload_n (hm := mm360) dX3_best_14
theorem n360_15 : Snd mt G 360 15 (oGetf [4] 30 18) := w_getf (hm := mm360) dX3_best_15 (fok1 (k := 30) (T := TX3) 3 (Nat.le_of_ble_eq_true rfl) vc_3 (Nat.le_of_ble_eq_true rfl) q2435)
theorem n360_18 : Snd mt G 360 18 (oCmpGe 39 21) := w_icmp_ge (hm := mm360) dX3_best_18 rfl
theorem n360_21 : Snd mt G 360 21 (oConst (.int 7) 23) := w_bipush (hm := mm360) dX3_best_21 (by decide)
theorem n360_23 : Snd mt G 360 23 (oIload 1 24) := w_iload_n (hm := mm360) dX3_best_23
theorem n360_24 : Snd mt G 360 24 (oBin (fun x y => x * y) 25) := w_imul (hm := mm360) dX3_best_24
theorem n360_25 : Snd mt G 360 25 (oAload 0 26) := w_aload_n (hm := mm360) dX3_best_25
theorem n360_26 : Snd mt G 360 26 (oGetf [4] 60 29) := w_getf (hm := mm360) dX3_best_26 (fok1 (k := 60) (T := TX3) 3 (Nat.le_of_ble_eq_true rfl) vc_3 (Nat.le_of_ble_eq_true rfl) q2465)
theorem n360_29 : Snd mt G 360 29 (oIload 2 30) := w_iload_n (hm := mm360) dX3_best_29
theorem n360_30 : Snd mt G 360 30 (oAld [100] 31) := w_iaload (hm := mm360) (kt := 0) dX3_best_30 at_0 (Nat.le_of_ble_eq_true rfl) (List.forall_mem_cons.mpr ⟨Or.inl rfl, (fun t ht => nomatch ht)⟩)
theorem n360_31 : Snd mt G 360 31 (oBin (fun x y => x + y) 32) := w_iadd (hm := mm360) dX3_best_31
theorem n360_32 : Snd mt G 360 32 (oIstore 1 33) := w_istore_n (hm := mm360) dX3_best_32 (Nat.le_of_ble_eq_true rfl)
theorem n360_33 : Snd mt G 360 33 (oIinc 2 1 36) := w_iinc (hm := mm360) dX3_best_33 rfl (Nat.le_of_ble_eq_true rfl)
theorem n360_36 : Snd mt G 360 36 (oGoto 13) := w_goto (hm := mm360) dX3_best_36 rfl
theorem n360_39 : Snd mt G 360 39 (oIload 1 40) := w_iload_n (hm := mm360) dX3_best_39
theorem n360_40 : Snd mt G 360 40 (oRetI .int) := w_iret (hm := mm360) dX3_best_40 rfl
theorem sj360 : ∀ pc, Snd mt G 360 pc (j360 pc) := fun pc => (snd_br ((snd_br ((snd_br ((snd_br ((snd_br ((snd_lf n360_40)) ((snd_lf n360_39)))) ((snd_br ((snd_lf n360_36)) ((snd_lf n360_33)))))) ((snd_br ((snd_br ((snd_lf n360_32)) ((snd_lf n360_31)))) ((snd_lf n360_30)))))) ((snd_br ((snd_br ((snd_br ((snd_lf n360_29)) ((snd_lf n360_26)))) ((snd_lf n360_25)))) ((snd_br ((snd_br ((snd_lf n360_24)) ((snd_lf n360_23)))) ((snd_lf n360_21)))))))) ((snd_br ((snd_br ((snd_br ((snd_br ((snd_lf n360_18)) ((snd_lf n360_15)))) ((snd_br ((snd_lf n360_14)) ((snd_lf n360_13)))))) ((snd_br ((snd_br ((snd_lf n360_12)) ((snd_lf n360_11)))) ((snd_lf n360_10)))))) ((snd_br ((snd_br ((snd_br ((snd_lf n360_9)) ((snd_lf n360_6)))) ((snd_lf n360_5)))) ((snd_br ((snd_br ((snd_lf n360_2)) ((snd_lf n360_1)))) ((snd_lf n360_0)))))))))
end
section
variable {G : AG}
theorem n361_0 : Snd mt G 361 0 (oAload 0 1) := w_aload_n (hm := mm361) dX3_findBest_0
theorem n361_1 : Snd mt G 361 1 (oConst (.int (-1)) 2) := w_iconst (hm := mm361) dX3_findBest_1 rfl
theorem n361_2 : Snd mt G 361 2 (oPutf [4] 62 .int 5) := w_putf (hm := mm361) dX3_findBest_2 (pok1 (k := 62) (T := TX3) 3 (Nat.le_of_ble_eq_true rfl) vc_3 (Nat.le_of_ble_eq_true rfl) rfl pd_X3_62 q2467)
theorem n361_5 : Snd mt G 361 5 (oAload 0 6) := w_aload_n (hm := mm361) dX3_findBest_5
theorem n361_6 : Snd mt G 361 6 (oConst (.int 0) 7) := w_iconst (hm := mm361) dX3_findBest_6 rfl
theorem n361_7 : Snd mt G 361 7 (oConst (.int 0) 8) := w_iconst (hm := mm361) dX3_findBest_7 rfl
theorem n361_8 : Snd mt G 361 8 (oCall 3 (fV [4] 362 5) 0 11 xOut) := s_callV (m' := 362) (n := 2) xsh_out (w_xok0 mm361) (w_cal mm361 mm362 pn_X3 (Nat.le_of_ble_eq_true rfl) (Nat.le_of_ble_eq_true rfl)) (fun h b as hc hn => w_run_V (ci := 3) mm361 mm362 dX3_findBest_8 (Or.inl (List.mem_singleton.mp hc)) (Nat.le_of_ble_eq_true rfl) vc_3 rfl q2940 q2942 qs107 q150 q2943 pa362 hn)
theorem n361_11 : Snd mt G 361 11 (oRetV) := w_vret (hm := mm361) dX3_findBest_11 rfl
theorem sj361 : ∀ pc, Snd mt G 361 pc (j361 pc) := fun pc => (snd_br ((snd_br ((snd_br ((snd_lf n361_11)) ((snd_lf n361_8)))) ((snd_br ((snd_lf n361_7)) ((snd_lf n361_6)))))) ((snd_br ((snd_br ((snd_lf n361_5)) ((snd_lf n361_2)))) ((snd_br ((snd_lf n361_1)) ((snd_lf n361_0)))))))
end
section
variable {G : AG}
theorem n362_0 : Snd mt G 362 0 (oIload 1 1) := w_iload_n (hm := mm362) dX3_orders_0
theorem n362_1 : Snd mt G 362 1 (oAload 0 2) := w_aload_n (hm := mm362) dX3_orders_1
theorem n362_2 : Snd mt G 362 2 (oGetf [4] 30 5) := w_getf (hm := mm362) dX3_orders_2 (fok1 (k := 30) (T := TX3) 3 (Nat.le_of_ble_eq_true rfl) vc_3 (Nat.le_of_ble_eq_true rfl) q2435)
theorem n362_5 : Snd mt G 362 5 (oCmpEq 8 73) := w_icmp_ne (hm := mm362) dX3_orders_5 rfl
theorem n362_8 : Snd mt G 362 8 (oAload 0 9) := w_aload_n (hm := mm362) dX3_orders_8
theorem n362_9 : Snd mt G 362 9 (oAload 0 10) := w_aload_n (hm := mm362) dX3_orders_9
theorem n362_10 : Snd mt G 362 10 (oGetf [4] 61 13) := w_getf (hm := mm362) dX3_orders_10 (fok1 (k := 61) (T := TX3) 3 (Nat.le_of_ble_eq_true rfl) vc_3 (Nat.le_of_ble_eq_true rfl) q2466)
theorem n362_13 : Snd mt G 362 13 (oConst (.int (-1)) 14) := w_iconst (hm := mm362) dX3_orders_13 rfl
theorem n362_14 : Snd mt G 362 14 (oCall 3 (fV [4] 359 10) 0 17 xOut) := s_callV (m' := 359) (n := 2) xsh_out (w_xok0 mm362) (w_cal mm362 mm359 pn_X3 (Nat.le_of_ble_eq_true rfl) (Nat.le_of_ble_eq_true rfl)) (fun h b as hc hn => w_run_V (ci := 3) mm362 mm359 dX3_orders_14 (Or.inl (List.mem_singleton.mp hc)) (Nat.le_of_ble_eq_true rfl) vc_3 rfl q2928 q2930 qs105 q150 q2931 pa359 hn)
theorem n362_17 : Snd mt G 362 17 (oIstore 3 18) := w_istore_n (hm := mm362) dX3_orders_17 (Nat.le_of_ble_eq_true rfl)
theorem n362_18 : Snd mt G 362 18 (oAload 0 19) := w_aload_n (hm := mm362) dX3_orders_18
theorem n362_19 : Snd mt G 362 19 (oGetf [4] 62 22) := w_getf (hm := mm362) dX3_orders_19 (fok1 (k := 62) (T := TX3) 3 (Nat.le_of_ble_eq_true rfl) vc_3 (Nat.le_of_ble_eq_true rfl) q2467)
theorem n362_22 : Snd mt G 362 22 (oConst (.int (-1)) 23) := w_iconst (hm := mm362) dX3_orders_22 rfl
theorem n362_23 : Snd mt G 362 23 (oCmpEq 35 26) := w_icmp_eq (hm := mm362) dX3_orders_23 rfl
theorem n362_26 : Snd mt G 362 26 (oIload 3 27) := w_iload_n (hm := mm362) dX3_orders_26
theorem n362_27 : Snd mt G 362 27 (oAload 0 28) := w_aload_n (hm := mm362) dX3_orders_27
theorem n362_28 : Snd mt G 362 28 (oGetf [4] 62 31) := w_getf (hm := mm362) dX3_orders_28 (fok1 (k := 62) (T := TX3) 3 (Nat.le_of_ble_eq_true rfl) vc_3 (Nat.le_of_ble_eq_true rfl) q2467)
theorem n362_31 : Snd mt G 362 31 (oCmpLt 35 34) := w_icmp_lt (hm := mm362) dX3_orders_31 rfl
theorem n362_34 : Snd mt G 362 34 (oRetV) := w_vret (hm := mm362) dX3_orders_34 rfl
theorem n362_35 : Snd mt G 362 35 (oAload 0 36) := w_aload_n (hm := mm362) dX3_orders_35
theorem n362_36 : Snd mt G 362 36 (oIload 3 37) := w_iload_n (hm := mm362) dX3_orders_36
theorem n362_37 : Snd mt G 362 37 (oPutf [4] 62 .int 40) := w_putf (hm := mm362) dX3_orders_37 (pok1 (k := 62) (T := TX3) 3 (Nat.le_of_ble_eq_true rfl) vc_3 (Nat.le_of_ble_eq_true rfl) rfl pd_X3_62 q2467)
theorem n362_40 : Snd mt G 362 40 (oConst (.int 0) 41) := w_iconst (hm := mm362) dX3_orders_40 rfl
theorem n362_41 : Snd mt G 362 41 (oIstore 4 43) := w_istore (hm := mm362) dX3_orders_41 (Nat.le_of_ble_eq_true rfl)
theorem n362_43 : Snd mt G 362 43 (oIload 4 45) := w_iload (hm := mm362) dX3_orders_43
theorem n362_45 : Snd mt G 362 45 (oAload 0 46) := w_aload_n (hm := mm362) dX3_orders_45
theorem n362_46 : Snd mt G 362 46 (oGetf [4] 30 49) := w_getf (hm := mm362) dX3_orders_46 (fok1 (k := 30) (T := TX3) 3 (Nat.le_of_ble_eq_true rfl) vc_3 (Nat.le_of_ble_eq_true rfl) q2435)
theorem n362_49 : Snd mt G 362 49 (oCmpGe 72 52) := w_icmp_ge (hm := mm362) dX3_orders_49 rfl
theorem n362_52 : Snd mt G 362 52 (oAload 0 53) := w_aload_n (hm := mm362) dX3_orders_52
theorem n362_53 : Snd mt G 362 53 (oGetf [4] 60 56) := w_getf (hm := mm362) dX3_orders_53 (fok1 (k := 60) (T := TX3) 3 (Nat.le_of_ble_eq_true rfl) vc_3 (Nat.le_of_ble_eq_true rfl) q2465)
theorem n362_56 : Snd mt G 362 56 (oIload 4 58) := w_iload (hm := mm362) dX3_orders_56
theorem n362_58 : Snd mt G 362 58 (oAload 0 59) := w_aload_n (hm := mm362) dX3_orders_58
theorem n362_59 : Snd mt G 362 59 (oGetf [4] 61 62) := w_getf (hm := mm362) dX3_orders_59 (fok1 (k := 61) (T := TX3) 3 (Nat.le_of_ble_eq_true rfl) vc_3 (Nat.le_of_ble_eq_true rfl) q2466)
theorem n362_62 : Snd mt G 362 62 (oIload 4 64) := w_iload (hm := mm362) dX3_orders_62
theorem n362_64 : Snd mt G 362 64 (oAld [100] 65) := w_iaload (hm := mm362) (kt := 0) dX3_orders_64 at_0 (Nat.le_of_ble_eq_true rfl) (List.forall_mem_cons.mpr ⟨Or.inl rfl, (fun t ht => nomatch ht)⟩)
theorem n362_65 : Snd mt G 362 65 (oIast [100] 66) := w_iastore (hm := mm362) (kt := 0) dX3_orders_65 at_0 (Nat.le_of_ble_eq_true rfl) (List.forall_mem_cons.mpr ⟨rfl, (fun t ht => nomatch ht)⟩)
theorem n362_66 : Snd mt G 362 66 (oIinc 4 1 69) := w_iinc (hm := mm362) dX3_orders_66 rfl (Nat.le_of_ble_eq_true rfl)
theorem n362_69 : Snd mt G 362 69 (oGoto 43) := w_goto (hm := mm362) dX3_orders_69 rfl
theorem n362_72 : Snd mt G 362 72 (oRetV) := w_vret (hm := mm362) dX3_orders_72 rfl
theorem n362_73 : Snd mt G 362 73 (oConst (.int 0) 74) := w_iconst (hm := mm362) dX3_orders_73 rfl
theorem n362_74 : Snd mt G 362 74 (oIstore 3 75) := w_istore_n (hm := mm362) dX3_orders_74 (Nat.le_of_ble_eq_true rfl)
theorem n362_75 : Snd mt G 362 75 (oIload 3 76) := w_iload_n (hm := mm362) dX3_orders_75
theorem n362_76 : Snd mt G 362 76 (oAload 0 77) := w_aload_n (hm := mm362) dX3_orders_76
theorem n362_77 : Snd mt G 362 77 (oGetf [4] 30 80) := w_getf (hm := mm362) dX3_orders_77 (fok1 (k := 30) (T := TX3) 3 (Nat.le_of_ble_eq_true rfl) vc_3 (Nat.le_of_ble_eq_true rfl) q2435)
theorem n362_80 : Snd mt G 362 80 (oCmpGe 120 83) := w_icmp_ge (hm := mm362) dX3_orders_80 rfl
theorem n362_83 : Snd mt G 362 83 (oIload 2 84) := w_iload_n (hm := mm362) dX3_orders_83
theorem n362_84 : Snd mt G 362 84 (oIload 3 85) := w_iload_n (hm := mm362) dX3_orders_84
theorem n362_85 : Snd mt G 362 85 (oBin (fun x y => x >>> (y &&& 31)) 86) := w_ishr (hm := mm362) dX3_orders_85
theorem n362_86 : Snd mt G 362 86 (oConst (.int 1) 87) := w_iconst (hm := mm362) dX3_orders_86 rfl
theorem n362_87 : Snd mt G 362 87 (oBin (fun x y => x &&& y) 88) := w_iand (hm := mm362) dX3_orders_87
theorem n362_88 : Snd mt G 362 88 (oConst (.int 1) 89) := w_iconst (hm := mm362) dX3_orders_88 rfl
theorem n362_89 : Snd mt G 362 89 (oCmpEq 92 95) := w_icmp_ne (hm := mm362) dX3_orders_89 rfl
theorem n362_92 : Snd mt G 362 92 (oGoto 114) := w_goto (hm := mm362) dX3_orders_92 rfl
theorem n362_95 : Snd mt G 362 95 (oAload 0 96) := w_aload_n (hm := mm362) dX3_orders_95
theorem n362_96 : Snd mt G 362 96 (oGetf [4] 61 99) := w_getf (hm := mm362) dX3_orders_96 (fok1 (k := 61) (T := TX3) 3 (Nat.le_of_ble_eq_true rfl) vc_3 (Nat.le_of_ble_eq_true rfl) q2466)
theorem n362_99 : Snd mt G 362 99 (oIload 1 100) := w_iload_n (hm := mm362) dX3_orders_99
theorem n362_100 : Snd mt G 362 100 (oIload 3 101) := w_iload_n (hm := mm362) dX3_orders_100
theorem n362_101 : Snd mt G 362 101 (oIast [100] 102) := w_iastore (hm := mm362) (kt := 0) dX3_orders_101 at_0 (Nat.le_of_ble_eq_true rfl) (List.forall_mem_cons.mpr ⟨rfl, (fun t ht => nomatch ht)⟩)
theorem n362_102 : Snd mt G 362 102 (oAload 0 103) := w_aload_n (hm := mm362) dX3_orders_102
theorem n362_103 : Snd mt G 362 103 (oIload 1 104) := w_iload_n (hm := mm362) dX3_orders_103
theorem n362_104 : Snd mt G 362 104 (oConst (.int 1) 105) := w_iconst (hm := mm362) dX3_orders_104 rfl
theorem n362_105 : Snd mt G 362 105 (oBin (fun x y => x + y) 106) := w_iadd (hm := mm362) dX3_orders_105
theorem n362_106 : Snd mt G 362 106 (oIload 2 107) := w_iload_n (hm := mm362) dX3_orders_106
theorem n362_107 : Snd mt G 362 107 (oConst (.int 1) 108) := w_iconst (hm := mm362) dX3_orders_107 rfl
theorem n362_108 : Snd mt G 362 108 (oIload 3 109) := w_iload_n (hm := mm362) dX3_orders_108
theorem n362_109 : Snd mt G 362 109 (oBin (fun x y => x <<< (y &&& 31)) 110) := w_ishl (hm := mm362) dX3_orders_109
theorem n362_110 : Snd mt G 362 110 (oBin (fun x y => x ||| y) 111) := w_ior (hm := mm362) dX3_orders_110
theorem n362_111 : Snd mt G 362 111 (oCall 3 (fV [4] 362 5) 1 114 xOut) := s_callV (m' := 362) (n := 2) xsh_out (w_xok0 mm362) (w_cal mm362 mm362 pn_X3 (Nat.le_of_ble_eq_true rfl) (Nat.le_of_ble_eq_true rfl)) (fun h b as hc hn => w_run_V (ci := 3) mm362 mm362 dX3_orders_111 (Or.inl (List.mem_singleton.mp hc)) (Nat.le_of_ble_eq_true rfl) vc_3 rfl q2940 q2942 qs107 q150 q2943 pa362 hn)
theorem n362_114 : Snd mt G 362 114 (oIinc 3 1 117) := w_iinc (hm := mm362) dX3_orders_114 rfl (Nat.le_of_ble_eq_true rfl)
theorem n362_117 : Snd mt G 362 117 (oGoto 75) := w_goto (hm := mm362) dX3_orders_117 rfl
theorem n362_120 : Snd mt G 362 120 (oRetV) := w_vret (hm := mm362) dX3_orders_120 rfl
theorem sj362 : ∀ pc, Snd mt G 362 pc (j362 pc) := fun pc => (snd_br ((snd_br ((snd_br ((snd_br ((snd_br ((snd_br ((snd_br ((snd_lf n362_120)) ((snd_lf n362_117)))) ((snd_lf n362_114)))) ((snd_br ((snd_lf n362_111)) ((snd_lf n362_110)))))) ((snd_br ((snd_br ((snd_lf n362_109)) ((snd_lf n362_108)))) ((snd_br ((snd_lf n362_107)) ((snd_lf n362_106)))))))) ((snd_br ((snd_br ((snd_br ((snd_br ((snd_lf n362_105)) ((snd_lf n362_104)))) ((snd_lf n362_103)))) ((snd_br ((snd_lf n362_102)) ((snd_lf n362_101)))))) ((snd_br ((snd_br ((snd_lf n362_100)) ((snd_lf n362_99)))) ((snd_br ((snd_lf n362_96)) ((snd_lf n362_95)))))))))) ((snd_br ((snd_br ((snd_br ((snd_br ((snd_br ((snd_lf n362_92)) ((snd_lf n362_89)))) ((snd_lf n362_88)))) ((snd_br ((snd_lf n362_87)) ((snd_lf n362_86)))))) ((snd_br ((snd_br ((snd_lf n362_85)) ((snd_lf n362_84)))) ((snd_br ((snd_lf n362_83)) ((snd_lf n362_80)))))))) ((snd_br ((snd_br ((snd_br ((snd_br ((snd_lf n362_77)) ((snd_lf n362_76)))) ((snd_lf n362_75)))) ((snd_br ((snd_lf n362_74)) ((snd_lf n362_73)))))) ((snd_br ((snd_br ((snd_lf n362_72)) ((snd_lf n362_69)))) ((snd_br ((snd_lf n362_66)) ((snd_lf n362_65)))))))))))) ((snd_br ((snd_br ((snd_br ((snd_br ((snd_br ((snd_br ((snd_lf n362_64)) ((snd_lf n362_62)))) ((snd_lf n362_59)))) ((snd_br ((snd_lf n362_58)) ((snd_lf n362_56)))))) ((snd_br ((snd_br ((snd_lf n362_53)) ((snd_lf n362_52)))) ((snd_br ((snd_lf n362_49)) ((snd_lf n362_46)))))))) ((snd_br ((snd_br ((snd_br ((snd_br ((snd_lf n362_45)) ((snd_lf n362_43)))) ((snd_lf n362_41)))) ((snd_br ((snd_lf n362_40)) ((snd_lf n362_37)))))) ((snd_br ((snd_br ((snd_lf n362_36)) ((snd_lf n362_35)))) ((snd_br ((snd_lf n362_34)) ((snd_lf n362_31)))))))))) ((snd_br ((snd_br ((snd_br ((snd_br ((snd_br ((snd_lf n362_28)) ((snd_lf n362_27)))) ((snd_lf n362_26)))) ((snd_br ((snd_lf n362_23)) ((snd_lf n362_22)))))) ((snd_br ((snd_br ((snd_lf n362_19)) ((snd_lf n362_18)))) ((snd_br ((snd_lf n362_17)) ((snd_lf n362_14)))))))) ((snd_br ((snd_br ((snd_br ((snd_lf n362_13)) ((snd_lf n362_10)))) ((snd_br ((snd_lf n362_9)) ((snd_lf n362_8)))))) ((snd_br ((snd_br ((snd_lf n362_5)) ((snd_lf n362_2)))) ((snd_br ((snd_lf n362_1)) ((snd_lf n362_0)))))))))))))
end
section
variable {G : AG}
theorem n363_0 : Snd mt G 363 0 (oAload 0 1) := w_aload_n (hm := mm363) dX3_delay_0
theorem n363_1 : Snd mt G 363 1 (oConst (.int 0) 2) := w_iconst (hm := mm363) dX3_delay_1 rfl
theorem n363_2 : Snd mt G 363 2 (oPutf [4] 0 .int 5) := w_putf (hm := mm363) dX3_delay_2 (pok1 (k := 0) (T := TX3) 3 (Nat.le_of_ble_eq_true rfl) vc_3 (Nat.le_of_ble_eq_true rfl) rfl pd_X3_0 q2405)
theorem n363_5 : Snd mt G 363 5 (oAload 0 6) := w_aload_n (hm := mm363) dX3_delay_5
theorem n363_6 : Snd mt G 363 6 (oAload 0 7) := w_aload_n (hm := mm363) dX3_delay_6
theorem n363_7 : Snd mt G 363 7 (oIload 1 8) := w_iload_n (hm := mm363) dX3_delay_7
theorem n363_8 : Snd mt G 363 8 (oCall 2 (fV [4] 364 2) 0 11 xOut) := s_callV (m' := 364) (n := 1) xsh_out (w_xok0 mm363) (w_cal mm363 mm364 pn_X3 (Nat.le_of_ble_eq_true rfl) (Nat.le_of_ble_eq_true rfl)) (fun h b as hc hn => w_run_V (ci := 3) mm363 mm364 dX3_delay_8 (Or.inl (List.mem_singleton.mp hc)) (Nat.le_of_ble_eq_true rfl) vc_3 rfl q2948 q2950 qs108 q150 q2951 pa364 hn)
theorem n363_11 : Snd mt G 363 11 (oIfEq 14 18) := w_if_ne (hm := mm363) dX3_delay_11 rfl
theorem n363_14 : Snd mt G 363 14 (oConst (.int 1) 15) := w_iconst (hm := mm363) dX3_delay_14 rfl
theorem n363_15 : Snd mt G 363 15 (oGoto 19) := w_goto (hm := mm363) dX3_delay_15 rfl
theorem n363_18 : Snd mt G 363 18 (oConst (.int 0) 19) := w_iconst (hm := mm363) dX3_delay_18 rfl
theorem n363_19 : Snd mt G 363 19 (oConst (.int 1) 20) := w_iconst (hm := mm363) dX3_delay_19 rfl
theorem n363_20 : Snd mt G 363 20 (oCall 3 (fV [4] 285 3) 0 23 xOut) := s_callV (m' := 285) (n := 2) xsh_out (w_xok0 mm363) (w_cal mm363 mm285 pn_X3 (Nat.le_of_ble_eq_true rfl) (Nat.le_of_ble_eq_true rfl)) (fun h b as hc hn => w_run_V (ci := 3) mm363 mm285 dX3_delay_20 (Or.inl (List.mem_singleton.mp hc)) (Nat.le_of_ble_eq_true rfl) vc_3 rfl q2634 q2636 qs62 q150 q2637 pa285 hn)
theorem n363_23 : Snd mt G 363 23 (oIfEq 26 50) := w_if_ne (hm := mm363) dX3_delay_23 rfl
theorem n363_26 : Snd mt G 363 26 (oAload 0 27) := w_aload_n (hm := mm363) dX3_delay_26
theorem n363_27 : Snd mt G 363 27 (oIload 2 28) := w_iload_n (hm := mm363) dX3_delay_27
theorem n363_28 : Snd mt G 363 28 (oConst (.int 0) 29) := w_iconst (hm := mm363) dX3_delay_28 rfl
theorem n363_29 : Snd mt G 363 29 (oConst (.int 999) 32) := w_sipush (hm := mm363) dX3_delay_29 (by decide)
theorem n363_32 : Snd mt G 363 32 (oCall 3 (fS 284 3) 0 35 xOut) := s_callS (m' := 284) (n := 3) xsh_out (w_xok0 mm363) (w_cal mm363 mm284 pn_X3 (Nat.le_of_ble_eq_true rfl) (Nat.le_of_ble_eq_true rfl)) (fun h as hn => w_run_S mm363 mm284 dX3_delay_32 q2631 q2632 q150 q2633 pa284 hn)
theorem n363_35 : Snd mt G 363 35 (oIfEq 38 42) := w_if_ne (hm := mm363) dX3_delay_35 rfl
theorem n363_38 : Snd mt G 363 38 (oConst (.int 1) 39) := w_iconst (hm := mm363) dX3_delay_38 rfl
theorem n363_39 : Snd mt G 363 39 (oGoto 43) := w_goto (hm := mm363) dX3_delay_39 rfl
theorem n363_42 : Snd mt G 363 42 (oConst (.int 0) 43) := w_iconst (hm := mm363) dX3_delay_42 rfl
theorem n363_43 : Snd mt G 363 43 (oConst (.int 2) 44) := w_iconst (hm := mm363) dX3_delay_43 rfl
theorem n363_44 : Snd mt G 363 44 (oCall 3 (fV [4] 285 3) 0 47 xOut) := s_callV (m' := 285) (n := 2) xsh_out (w_xok0 mm363) (w_cal mm363 mm285 pn_X3 (Nat.le_of_ble_eq_true rfl) (Nat.le_of_ble_eq_true rfl)) (fun h b as hc hn => w_run_V (ci := 3) mm363 mm285 dX3_delay_44 (Or.inl (List.mem_singleton.mp hc)) (Nat.le_of_ble_eq_true rfl) vc_3 rfl q2634 q2636 qs62 q150 q2637 pa285 hn)
theorem n363_47 : Snd mt G 363 47 (oIfEq 52 50) := w_if_eq (hm := mm363) dX3_delay_47 rfl
theorem n363_50 : Snd mt G 363 50 (oConst (.int 0) 51) := w_iconst (hm := mm363) dX3_delay_50 rfl
theorem n363_51 : Snd mt G 363 51 (oRetI .int) := w_iret (hm := mm363) dX3_delay_51 rfl
theorem n363_52 : Snd mt G 363 52 (oAload 0 53) := w_aload_n (hm := mm363) dX3_delay_52
theorem n363_53 : Snd mt G 363 53 (oCall 1 (fV [4] 361 1) 0 56 xOut) := s_callV (m' := 361) (n := 0) xsh_out (w_xok0 mm363) (w_cal mm363 mm361 pn_X3 (Nat.le_of_ble_eq_true rfl) (Nat.le_of_ble_eq_true rfl)) (fun h b as hc hn => w_run_V (ci := 3) mm363 mm361 dX3_delay_53 (Or.inl (List.mem_singleton.mp hc)) (Nat.le_of_ble_eq_true rfl) vc_3 rfl q2936 q2938 qs106 q150 q2939 pa361 hn)
theorem n363_56 : Snd mt G 363 56 (oAload 0 57) := w_aload_n (hm := mm363) dX3_delay_56
theorem n363_57 : Snd mt G 363 57 (oGetf [4] 62 60) := w_getf (hm := mm363) dX3_delay_57 (fok1 (k := 62) (T := TX3) 3 (Nat.le_of_ble_eq_true rfl) vc_3 (Nat.le_of_ble_eq_true rfl) q2467)
theorem n363_60 : Snd mt G 363 60 (oIstore 3 61) := w_istore_n (hm := mm363) dX3_delay_60 (Nat.le_of_ble_eq_true rfl)
theorem n363_61 : Snd mt G 363 61 (oAload 0 62) := w_aload_n (hm := mm363) dX3_delay_61
theorem n363_62 : Snd mt G 363 62 (oGetf [4] 56 65) := w_getf (hm := mm363) dX3_delay_62 (fok1 (k := 56) (T := TX3) 3 (Nat.le_of_ble_eq_true rfl) vc_3 (Nat.le_of_ble_eq_true rfl) q2461)
theorem n363_65 : Snd mt G 363 65 (oIload 1 66) := w_iload_n (hm := mm363) dX3_delay_65
theorem n363_66 : Snd mt G 363 66 (oAld [106] 67) := w_aaload (hm := mm363) (kt := 6) dX3_delay_66 rfl at_6 (Nat.le_of_ble_eq_true rfl) (List.forall_mem_cons.mpr ⟨Or.inl rfl, (fun t ht => nomatch ht)⟩)
theorem n363_67 : Snd mt G 363 67 (oConst (.int 3) 68) := w_iconst (hm := mm363) dX3_delay_67 rfl
theorem n363_68 : Snd mt G 363 68 (oDup2 69) := w_dup2 (hm := mm363) dX3_delay_68
theorem n363_69 : Snd mt G 363 69 (oAld [100] 70) := w_iaload (hm := mm363) (kt := 0) dX3_delay_69 at_0 (Nat.le_of_ble_eq_true rfl) (List.forall_mem_cons.mpr ⟨Or.inl rfl, (fun t ht => nomatch ht)⟩)
theorem n363_70 : Snd mt G 363 70 (oIload 2 71) := w_iload_n (hm := mm363) dX3_delay_70
theorem n363_71 : Snd mt G 363 71 (oBin (fun x y => x + y) 72) := w_iadd (hm := mm363) dX3_delay_71
theorem n363_72 : Snd mt G 363 72 (oIast [100] 73) := w_iastore (hm := mm363) (kt := 0) dX3_delay_72 at_0 (Nat.le_of_ble_eq_true rfl) (List.forall_mem_cons.mpr ⟨rfl, (fun t ht => nomatch ht)⟩)
theorem n363_73 : Snd mt G 363 73 (oAload 0 74) := w_aload_n (hm := mm363) dX3_delay_73
theorem n363_74 : Snd mt G 363 74 (oCall 1 (fV [4] 361 1) 0 77 xOut) := s_callV (m' := 361) (n := 0) xsh_out (w_xok0 mm363) (w_cal mm363 mm361 pn_X3 (Nat.le_of_ble_eq_true rfl) (Nat.le_of_ble_eq_true rfl)) (fun h b as hc hn => w_run_V (ci := 3) mm363 mm361 dX3_delay_74 (Or.inl (List.mem_singleton.mp hc)) (Nat.le_of_ble_eq_true rfl) vc_3 rfl q2936 q2938 qs106 q150 q2939 pa361 hn)
theorem n363_77 : Snd mt G 363 77 (oAload 0 78) := w_aload_n (hm := mm363) dX3_delay_77
theorem n363_78 : Snd mt G 363 78 (oGetf [4] 56 81) := w_getf (hm := mm363) dX3_delay_78 (fok1 (k := 56) (T := TX3) 3 (Nat.le_of_ble_eq_true rfl) vc_3 (Nat.le_of_ble_eq_true rfl) q2461)
theorem n363_81 : Snd mt G 363 81 (oIload 1 82) := w_iload_n (hm := mm363) dX3_delay_81
theorem n363_82 : Snd mt G 363 82 (oAld [106] 83) := w_aaload (hm := mm363) (kt := 6) dX3_delay_82 rfl at_6 (Nat.le_of_ble_eq_true rfl) (List.forall_mem_cons.mpr ⟨Or.inl rfl, (fun t ht => nomatch ht)⟩)
theorem n363_83 : Snd mt G 363 83 (oConst (.int 3) 84) := w_iconst (hm := mm363) dX3_delay_83 rfl
theorem n363_84 : Snd mt G 363 84 (oDup2 85) := w_dup2 (hm := mm363) dX3_delay_84
theorem n363_85 : Snd mt G 363 85 (oAld [100] 86) := w_iaload (hm := mm363) (kt := 0) dX3_delay_85 at_0 (Nat.le_of_ble_eq_true rfl) (List.forall_mem_cons.mpr ⟨Or.inl rfl, (fun t ht => nomatch ht)⟩)
theorem n363_86 : Snd mt G 363 86 (oIload 2 87) := w_iload_n (hm := mm363) dX3_delay_86
theorem n363_87 : Snd mt G 363 87 (oBin (fun x y => x - y) 88) := w_isub (hm := mm363) dX3_delay_87
theorem n363_88 : Snd mt G 363 88 (oIast [100] 89) := w_iastore (hm := mm363) (kt := 0) dX3_delay_88 at_0 (Nat.le_of_ble_eq_true rfl) (List.forall_mem_cons.mpr ⟨rfl, (fun t ht => nomatch ht)⟩)
theorem n363_89 : Snd mt G 363 89 (oAload 0 90) := w_aload_n (hm := mm363) dX3_delay_89
theorem n363_90 : Snd mt G 363 90 (oGetf [4] 62 93) := w_getf (hm := mm363) dX3_delay_90 (fok1 (k := 62) (T := TX3) 3 (Nat.le_of_ble_eq_true rfl) vc_3 (Nat.le_of_ble_eq_true rfl) q2467)
theorem n363_93 : Snd mt G 363 93 (oIload 3 94) := w_iload_n (hm := mm363) dX3_delay_93
theorem n363_94 : Snd mt G 363 94 (oBin (fun x y => x - y) 95) := w_isub (hm := mm363) dX3_delay_94
theorem n363_95 : Snd mt G 363 95 (oRetI .int) := w_iret (hm := mm363) dX3_delay_95 rfl
theorem sj363 : ∀ pc, Snd mt G 363 pc (j363 pc) := fun pc => (snd_br ((snd_br ((snd_br ((snd_br ((snd_br ((snd_br ((snd_lf n363_95)) ((snd_lf n363_94)))) ((snd_br ((snd_lf n363_93)) ((snd_lf n363_90)))))) ((snd_br ((snd_br ((snd_lf n363_89)) ((snd_lf n363_88)))) ((snd_br ((snd_lf n363_87)) ((snd_lf n363_86)))))))) ((snd_br ((snd_br ((snd_br ((snd_lf n363_85)) ((snd_lf n363_84)))) ((snd_br ((snd_lf n363_83)) ((snd_lf n363_82)))))) ((snd_br ((snd_br ((snd_lf n363_81)) ((snd_lf n363_78)))) ((snd_lf n363_77)))))))) ((snd_br ((snd_br ((snd_br ((snd_br ((snd_lf n363_74)) ((snd_lf n363_73)))) ((snd_br ((snd_lf n363_72)) ((snd_lf n363_71)))))) ((snd_br ((snd_br ((snd_lf n363_70)) ((snd_lf n363_69)))) ((snd_br ((snd_lf n363_68)) ((snd_lf n363_67)))))))) ((snd_br ((snd_br ((snd_br ((snd_lf n363_66)) ((snd_lf n363_65)))) ((snd_br ((snd_lf n363_62)) ((snd_lf n363_61)))))) ((snd_br ((snd_br ((snd_lf n363_60)) ((snd_lf n363_57)))) ((snd_lf n363_56)))))))))) ((snd_br ((snd_br ((snd_br ((snd_br ((snd_br ((snd_lf n363_53)) ((snd_lf n363_52)))) ((snd_br ((snd_lf n363_51)) ((snd_lf n363_50)))))) ((snd_br ((snd_br ((snd_lf n363_47)) ((snd_lf n363_44)))) ((snd_br ((snd_lf n363_43)) ((snd_lf n363_42)))))))) ((snd_br ((snd_br ((snd_br ((snd_lf n363_39)) ((snd_lf n363_38)))) ((snd_br ((snd_lf n363_35)) ((snd_lf n363_32)))))) ((snd_br ((snd_br ((snd_lf n363_29)) ((snd_lf n363_28)))) ((snd_lf n363_27)))))))) ((snd_br ((snd_br ((snd_br ((snd_br ((snd_lf n363_26)) ((snd_lf n363_23)))) ((snd_br ((snd_lf n363_20)) ((snd_lf n363_19)))))) ((snd_br ((snd_br ((snd_lf n363_18)) ((snd_lf n363_15)))) ((snd_br ((snd_lf n363_14)) ((snd_lf n363_11)))))))) ((snd_br ((snd_br ((snd_br ((snd_lf n363_8)) ((snd_lf n363_7)))) ((snd_br ((snd_lf n363_6)) ((snd_lf n363_5)))))) ((snd_br ((snd_br ((snd_lf n363_2)) ((snd_lf n363_1)))) ((snd_lf n363_0)))))))))))
end
section
variable {G : AG}
theorem n364_0 : Snd mt G 364 0 (oIload 1 1) := w_iload_n (hm := mm364) dX3_isJob_0
theorem n364_1 : Snd mt G 364 1 (oConst (.int 0) 2) := w_iconst (hm := mm364) dX3_isJob_1 rfl
theorem n364_2 : Snd mt G 364 2 (oAload 0 3) := w_aload_n (hm := mm364) dX3_isJob_2
theorem n364_3 : Snd mt G 364 3 (oGetf [4] 30 6) := w_getf (hm := mm364) dX3_isJob_3 (fok1 (k := 30) (T := TX3) 3 (Nat.le_of_ble_eq_true rfl) vc_3 (Nat.le_of_ble_eq_true rfl) q2435)
theorem n364_6 : Snd mt G 364 6 (oConst (.int 1) 7) := w_iconst (hm := mm364) dX3_isJob_6 rfl
theorem n364_7 : Snd mt G 364 7 (oBin (fun x y => x - y) 8) := w_isub (hm := mm364) dX3_isJob_7
theorem n364_8 : Snd mt G 364 8 (oCall 3 (fS 284 3) 0 11 xOut) := s_callS (m' := 284) (n := 3) xsh_out (w_xok0 mm364) (w_cal mm364 mm284 pn_X3 (Nat.le_of_ble_eq_true rfl) (Nat.le_of_ble_eq_true rfl)) (fun h as hn => w_run_S mm364 mm284 dX3_isJob_8 q2631 q2632 q150 q2633 pa284 hn)
theorem n364_11 : Snd mt G 364 11 (oRetI .boolean) := w_zret (hm := mm364) dX3_isJob_11 rfl
theorem sj364 : ∀ pc, Snd mt G 364 pc (j364 pc) := fun pc => (snd_br ((snd_br ((snd_br ((snd_lf n364_11)) ((snd_lf n364_8)))) ((snd_br ((snd_lf n364_7)) ((snd_lf n364_6)))))) ((snd_br ((snd_br ((snd_lf n364_3)) ((snd_lf n364_2)))) ((snd_br ((snd_lf n364_1)) ((snd_lf n364_0)))))))
end
section
variable {G : AG}
theorem n365_0 : Snd mt G 365 0 (oAload 0 1) := w_aload_n (hm := mm365) dX3_done_0
theorem n365_1 : Snd mt G 365 1 (oConst (.int 0) 2) := w_iconst (hm := mm365) dX3_done_1 rfl
theorem n365_2 : Snd mt G 365 2 (oPutf [4] 0 .int 5) := w_putf (hm := mm365) dX3_done_2 (pok1 (k := 0) (T := TX3) 3 (Nat.le_of_ble_eq_true rfl) vc_3 (Nat.le_of_ble_eq_true rfl) rfl pd_X3_0 q2405)
theorem n365_5 : Snd mt G 365 5 (oAload 0 6) := w_aload_n (hm := mm365) dX3_done_5
theorem n365_6 : Snd mt G 365 6 (oAload 0 7) := w_aload_n (hm := mm365) dX3_done_6
theorem n365_7 : Snd mt G 365 7 (oIload 1 8) := w_iload_n (hm := mm365) dX3_done_7
theorem n365_8 : Snd mt G 365 8 (oCall 2 (fV [4] 364 2) 0 11 xOut) := s_callV (m' := 364) (n := 1) xsh_out (w_xok0 mm365) (w_cal mm365 mm364 pn_X3 (Nat.le_of_ble_eq_true rfl) (Nat.le_of_ble_eq_true rfl)) (fun h b as hc hn => w_run_V (ci := 3) mm365 mm364 dX3_done_8 (Or.inl (List.mem_singleton.mp hc)) (Nat.le_of_ble_eq_true rfl) vc_3 rfl q2948 q2950 qs108 q150 q2951 pa364 hn)
theorem n365_11 : Snd mt G 365 11 (oIfEq 14 18) := w_if_ne (hm := mm365) dX3_done_11 rfl
theorem n365_14 : Snd mt G 365 14 (oConst (.int 1) 15) := w_iconst (hm := mm365) dX3_done_14 rfl
theorem n365_15 : Snd mt G 365 15 (oGoto 19) := w_goto (hm := mm365) dX3_done_15 rfl
theorem n365_18 : Snd mt G 365 18 (oConst (.int 0) 19) := w_iconst (hm := mm365) dX3_done_18 rfl
theorem n365_19 : Snd mt G 365 19 (oConst (.int 1) 20) := w_iconst (hm := mm365) dX3_done_19 rfl
theorem n365_20 : Snd mt G 365 20 (oCall 3 (fV [4] 285 3) 0 23 xOut) := s_callV (m' := 285) (n := 2) xsh_out (w_xok0 mm365) (w_cal mm365 mm285 pn_X3 (Nat.le_of_ble_eq_true rfl) (Nat.le_of_ble_eq_true rfl)) (fun h b as hc hn => w_run_V (ci := 3) mm365 mm285 dX3_done_20 (Or.inl (List.mem_singleton.mp hc)) (Nat.le_of_ble_eq_true rfl) vc_3 rfl q2634 q2636 qs62 q150 q2637 pa285 hn)
theorem n365_23 : Snd mt G 365 23 (oIfEq 28 26) := w_if_eq (hm := mm365) dX3_done_23 rfl
theorem n365_26 : Snd mt G 365 26 (oConst (.int 0) 27) := w_iconst (hm := mm365) dX3_done_26 rfl
theorem n365_27 : Snd mt G 365 27 (oRetI .int) := w_iret (hm := mm365) dX3_done_27 rfl
theorem n365_28 : Snd mt G 365 28 (oAload 0 29) := w_aload_n (hm := mm365) dX3_done_28
theorem n365_29 : Snd mt G 365 29 (oCall 1 (fV [4] 361 1) 0 32 xOut) := s_callV (m' := 361) (n := 0) xsh_out (w_xok0 mm365) (w_cal mm365 mm361 pn_X3 (Nat.le_of_ble_eq_true rfl) (Nat.le_of_ble_eq_true rfl)) (fun h b as hc hn => w_run_V (ci := 3) mm365 mm361 dX3_done_29 (Or.inl (List.mem_singleton.mp hc)) (Nat.le_of_ble_eq_true rfl) vc_3 rfl q2936 q2938 qs106 q150 q2939 pa361 hn)
theorem n365_32 : Snd mt G 365 32 (oAload 0 33) := w_aload_n (hm := mm365) dX3_done_32
theorem n365_33 : Snd mt G 365 33 (oAload 0 34) := w_aload_n (hm := mm365) dX3_done_33
theorem n365_34 : Snd mt G 365 34 (oGetf [4] 60 37) := w_getf (hm := mm365) dX3_done_34 (fok1 (k := 60) (T := TX3) 3 (Nat.le_of_ble_eq_true rfl) vc_3 (Nat.le_of_ble_eq_true rfl) q2465)
theorem n365_37 : Snd mt G 365 37 (oIload 1 38) := w_iload_n (hm := mm365) dX3_done_37
theorem n365_38 : Snd mt G 365 38 (oCall 3 (fV [4] 359 10) 0 41 xOut) := s_callV (m' := 359) (n := 2) xsh_out (w_xok0 mm365) (w_cal mm365 mm359 pn_X3 (Nat.le_of_ble_eq_true rfl) (Nat.le_of_ble_eq_true rfl)) (fun h b as hc hn => w_run_V (ci := 3) mm365 mm359 dX3_done_38 (Or.inl (List.mem_singleton.mp hc)) (Nat.le_of_ble_eq_true rfl) vc_3 rfl q2928 q2930 qs105 q150 q2931 pa359 hn)
theorem n365_41 : Snd mt G 365 41 (oRetI .int) := w_iret (hm := mm365) dX3_done_41 rfl
theorem sj365 : ∀ pc, Snd mt G 365 pc (j365 pc) := fun pc => (snd_br ((snd_br ((snd_br ((snd_br ((snd_br ((snd_lf n365_41)) ((snd_lf n365_38)))) ((snd_lf n365_37)))) ((snd_br ((snd_br ((snd_lf n365_34)) ((snd_lf n365_33)))) ((snd_lf n365_32)))))) ((snd_br ((snd_br ((snd_br ((snd_lf n365_29)) ((snd_lf n365_28)))) ((snd_lf n365_27)))) ((snd_br ((snd_br ((snd_lf n365_26)) ((snd_lf n365_23)))) ((snd_lf n365_20)))))))) ((snd_br ((snd_br ((snd_br ((snd_br ((snd_lf n365_19)) ((snd_lf n365_18)))) ((snd_lf n365_15)))) ((snd_br ((snd_br ((snd_lf n365_14)) ((snd_lf n365_11)))) ((snd_lf n365_8)))))) ((snd_br ((snd_br ((snd_br ((snd_lf n365_7)) ((snd_lf n365_6)))) ((snd_lf n365_5)))) ((snd_br ((snd_br ((snd_lf n365_2)) ((snd_lf n365_1)))) ((snd_lf n365_0)))))))))
end
section
variable {G : AG}
theorem n366_0 : Snd mt G 366 0 (oAload 0 1) := w_aload_n (hm := mm366) dX3_maker_0
theorem n366_1 : Snd mt G 366 1 (oConst (.int 0) 2) := w_iconst (hm := mm366) dX3_maker_1 rfl
theorem n366_2 : Snd mt G 366 2 (oPutf [4] 0 .int 5) := w_putf (hm := mm366) dX3_maker_2 (pok1 (k := 0) (T := TX3) 3 (Nat.le_of_ble_eq_true rfl) vc_3 (Nat.le_of_ble_eq_true rfl) rfl pd_X3_0 q2405)
theorem n366_5 : Snd mt G 366 5 (oAload 0 6) := w_aload_n (hm := mm366) dX3_maker_5
theorem n366_6 : Snd mt G 366 6 (oIload 1 7) := w_iload_n (hm := mm366) dX3_maker_6
theorem n366_7 : Snd mt G 366 7 (oConst (.int 1) 8) := w_iconst (hm := mm366) dX3_maker_7 rfl
theorem n366_8 : Snd mt G 366 8 (oConst (.int 200) 11) := w_sipush (hm := mm366) dX3_maker_8 (by decide)
theorem n366_11 : Snd mt G 366 11 (oCall 3 (fS 284 3) 0 14 xOut) := s_callS (m' := 284) (n := 3) xsh_out (w_xok0 mm366) (w_cal mm366 mm284 pn_X3 (Nat.le_of_ble_eq_true rfl) (Nat.le_of_ble_eq_true rfl)) (fun h as hn => w_run_S mm366 mm284 dX3_maker_11 q2631 q2632 q150 q2633 pa284 hn)
theorem n366_14 : Snd mt G 366 14 (oIfEq 17 21) := w_if_ne (hm := mm366) dX3_maker_14 rfl
theorem n366_17 : Snd mt G 366 17 (oConst (.int 1) 18) := w_iconst (hm := mm366) dX3_maker_17 rfl
theorem n366_18 : Snd mt G 366 18 (oGoto 22) := w_goto (hm := mm366) dX3_maker_18 rfl
theorem n366_21 : Snd mt G 366 21 (oConst (.int 0) 22) := w_iconst (hm := mm366) dX3_maker_21 rfl
theorem n366_22 : Snd mt G 366 22 (oConst (.int 1) 23) := w_iconst (hm := mm366) dX3_maker_22 rfl
theorem n366_23 : Snd mt G 366 23 (oCall 3 (fV [4] 285 3) 0 26 xOut) := s_callV (m' := 285) (n := 2) xsh_out (w_xok0 mm366) (w_cal mm366 mm285 pn_X3 (Nat.le_of_ble_eq_true rfl) (Nat.le_of_ble_eq_true rfl)) (fun h b as hc hn => w_run_V (ci := 3) mm366 mm285 dX3_maker_23 (Or.inl (List.mem_singleton.mp hc)) (Nat.le_of_ble_eq_true rfl) vc_3 rfl q2634 q2636 qs62 q150 q2637 pa285 hn)
theorem n366_26 : Snd mt G 366 26 (oIfEq 31 29) := w_if_eq (hm := mm366) dX3_maker_26 rfl
theorem n366_29 : Snd mt G 366 29 (oConst (.int 0) 30) := w_iconst (hm := mm366) dX3_maker_29 rfl
theorem n366_30 : Snd mt G 366 30 (oRetI .int) := w_iret (hm := mm366) dX3_maker_30 rfl
theorem n366_31 : Snd mt G 366 31 (oAload 0 32) := w_aload_n (hm := mm366) dX3_maker_31
theorem n366_32 : Snd mt G 366 32 (oGetf [4] 38 35) := w_getf (hm := mm366) dX3_maker_32 (fok1 (k := 38) (T := TX3) 3 (Nat.le_of_ble_eq_true rfl) vc_3 (Nat.le_of_ble_eq_true rfl) q2443)
theorem n366_35 : Snd mt G 366 35 (oConst (.int 4) 36) := w_iconst (hm := mm366) dX3_maker_35 rfl
theorem n366_36 : Snd mt G 366 36 (oCmpEq 39 41) := w_icmp_ne (hm := mm366) dX3_maker_36 rfl
theorem n366_39 : Snd mt G 366 39 (oConst (.int (-1)) 40) := w_iconst (hm := mm366) dX3_maker_39 rfl
theorem n366_40 : Snd mt G 366 40 (oRetI .int) := w_iret (hm := mm366) dX3_maker_40 rfl
theorem n366_41 : Snd mt G 366 41 (oAload 0 42) := w_aload_n (hm := mm366) dX3_maker_41
theorem n366_42 : Snd mt G 366 42 (oGetf [4] 51 45) := w_getf (hm := mm366) dX3_maker_42 (fok1 (k := 51) (T := TX3) 3 (Nat.le_of_ble_eq_true rfl) vc_3 (Nat.le_of_ble_eq_true rfl) q2456)
theorem n366_45 : Snd mt G 366 45 (oAload 0 46) := w_aload_n (hm := mm366) dX3_maker_45
theorem n366_46 : Snd mt G 366 46 (oGetf [4] 38 49) := w_getf (hm := mm366) dX3_maker_46 (fok1 (k := 38) (T := TX3) 3 (Nat.le_of_ble_eq_true rfl) vc_3 (Nat.le_of_ble_eq_true rfl) q2443)
theorem n366_49 : Snd mt G 366 49 (oIload 1 50) := w_iload_n (hm := mm366) dX3_maker_49
theorem n366_50 : Snd mt G 366 50 (oIast [100] 51) := w_iastore (hm := mm366) (kt := 0) dX3_maker_50 at_0 (Nat.le_of_ble_eq_true rfl) (List.forall_mem_cons.mpr ⟨rfl, (fun t ht => nomatch ht)⟩)
theorem n366_51 : Snd mt G 366 51 (oAload 0 52) := w_aload_n (hm := mm366) dX3_maker_51
theorem n366_52 : Snd mt G 366 52 (oDup 53) := w_dup (hm := mm366) dX3_maker_52
theorem n366_53 : Snd mt G 366 53 (oGetf [4] 38 56) := w_getf (hm := mm366) dX3_maker_53 (fok1 (k := 38) (T := TX3) 3 (Nat.le_of_ble_eq_true rfl) vc_3 (Nat.le_of_ble_eq_true rfl) q2443)
theorem n366_56 : Snd mt G 366 56 (oConst (.int 1) 57) := w_iconst (hm := mm366) dX3_maker_56 rfl
theorem n366_57 : Snd mt G 366 57 (oBin (fun x y => x + y) 58) := w_iadd (hm := mm366) dX3_maker_57
theorem n366_58 : Snd mt G 366 58 (oPutf [4] 38 .int 61) := w_putf (hm := mm366) dX3_maker_58 (pok1 (k := 38) (T := TX3) 3 (Nat.le_of_ble_eq_true rfl) vc_3 (Nat.le_of_ble_eq_true rfl) rfl pd_X3_38 q2443)
theorem n366_61 : Snd mt G 366 61 (oAload 0 62) := w_aload_n (hm := mm366) dX3_maker_61
theorem n366_62 : Snd mt G 366 62 (oGetf [4] 38 65) := w_getf (hm := mm366) dX3_maker_62 (fok1 (k := 38) (T := TX3) 3 (Nat.le_of_ble_eq_true rfl) vc_3 (Nat.le_of_ble_eq_true rfl) q2443)
theorem n366_65 : Snd mt G 366 65 (oConst (.int 1) 66) := w_iconst (hm := mm366) dX3_maker_65 rfl
theorem n366_66 : Snd mt G 366 66 (oBin (fun x y => x - y) 67) := w_isub (hm := mm366) dX3_maker_66
theorem n366_67 : Snd mt G 366 67 (oRetI .int) := w_iret (hm := mm366) dX3_maker_67 rfl
theorem sj366 : ∀ pc, Snd mt G 366 pc (j366 pc) := fun pc => (snd_br ((snd_br ((snd_br ((snd_br ((snd_br ((snd_br ((snd_lf n366_67)) ((snd_lf n366_66)))) ((snd_lf n366_65)))) ((snd_br ((snd_lf n366_62)) ((snd_lf n366_61)))))) ((snd_br ((snd_br ((snd_br ((snd_lf n366_58)) ((snd_lf n366_57)))) ((snd_lf n366_56)))) ((snd_br ((snd_lf n366_53)) ((snd_lf n366_52)))))))) ((snd_br ((snd_br ((snd_br ((snd_br ((snd_lf n366_51)) ((snd_lf n366_50)))) ((snd_lf n366_49)))) ((snd_br ((snd_lf n366_46)) ((snd_lf n366_45)))))) ((snd_br ((snd_br ((snd_br ((snd_lf n366_42)) ((snd_lf n366_41)))) ((snd_lf n366_40)))) ((snd_br ((snd_lf n366_39)) ((snd_lf n366_36)))))))))) ((snd_br ((snd_br ((snd_br ((snd_br ((snd_br ((snd_lf n366_35)) ((snd_lf n366_32)))) ((snd_lf n366_31)))) ((snd_br ((snd_lf n366_30)) ((snd_lf n366_29)))))) ((snd_br ((snd_br ((snd_br ((snd_lf n366_26)) ((snd_lf n366_23)))) ((snd_lf n366_22)))) ((snd_br ((snd_lf n366_21)) ((snd_lf n366_18)))))))) ((snd_br ((snd_br ((snd_br ((snd_br ((snd_lf n366_17)) ((snd_lf n366_14)))) ((snd_lf n366_11)))) ((snd_br ((snd_lf n366_8)) ((snd_lf n366_7)))))) ((snd_br ((snd_br ((snd_br ((snd_lf n366_6)) ((snd_lf n366_5)))) ((snd_lf n366_2)))) ((snd_br ((snd_lf n366_1)) ((snd_lf n366_0)))))))))))
end
section
variable {G : AG}
theorem n367_0 : Snd mt G 367 0 (oAload 0 1) := w_aload_n (hm := mm367) dX3_order_0
theorem n367_1 : Snd mt G 367 1 (oConst (.int 0) 2) := w_iconst (hm := mm367) dX3_order_1 rfl
theorem n367_2 : Snd mt G 367 2 (oPutf [4] 0 .int 5) := w_putf (hm := mm367) dX3_order_2 (pok1 (k := 0) (T := TX3) 3 (Nat.le_of_ble_eq_true rfl) vc_3 (Nat.le_of_ble_eq_true rfl) rfl pd_X3_0 q2405)
theorem n367_5 : Snd mt G 367 5 (oAload 0 6) := w_aload_n (hm := mm367) dX3_order_5
theorem n367_6 : Snd mt G 367 6 (oAload 0 7) := w_aload_n (hm := mm367) dX3_order_6
theorem n367_7 : Snd mt G 367 7 (oIload 1 8) := w_iload_n (hm := mm367) dX3_order_7
theorem n367_8 : Snd mt G 367 8 (oCall 2 (fV [4] 368 2) 0 11 xOut) := s_callV (m' := 368) (n := 1) xsh_out (w_xok0 mm367) (w_cal mm367 mm368 pn_X3 (Nat.le_of_ble_eq_true rfl) (Nat.le_of_ble_eq_true rfl)) (fun h b as hc hn => w_run_V (ci := 3) mm367 mm368 dX3_order_8 (Or.inl (List.mem_singleton.mp hc)) (Nat.le_of_ble_eq_true rfl) vc_3 rfl q2964 q2966 qs109 q150 q2967 pa368 hn)
theorem n367_11 : Snd mt G 367 11 (oIfEq 14 18) := w_if_ne (hm := mm367) dX3_order_11 rfl
theorem n367_14 : Snd mt G 367 14 (oConst (.int 1) 15) := w_iconst (hm := mm367) dX3_order_14 rfl
theorem n367_15 : Snd mt G 367 15 (oGoto 19) := w_goto (hm := mm367) dX3_order_15 rfl
theorem n367_18 : Snd mt G 367 18 (oConst (.int 0) 19) := w_iconst (hm := mm367) dX3_order_18 rfl
theorem n367_19 : Snd mt G 367 19 (oConst (.int 1) 20) := w_iconst (hm := mm367) dX3_order_19 rfl
theorem n367_20 : Snd mt G 367 20 (oCall 3 (fV [4] 285 3) 0 23 xOut) := s_callV (m' := 285) (n := 2) xsh_out (w_xok0 mm367) (w_cal mm367 mm285 pn_X3 (Nat.le_of_ble_eq_true rfl) (Nat.le_of_ble_eq_true rfl)) (fun h b as hc hn => w_run_V (ci := 3) mm367 mm285 dX3_order_20 (Or.inl (List.mem_singleton.mp hc)) (Nat.le_of_ble_eq_true rfl) vc_3 rfl q2634 q2636 qs62 q150 q2637 pa285 hn)
theorem n367_23 : Snd mt G 367 23 (oIfEq 26 47) := w_if_ne (hm := mm367) dX3_order_23 rfl
theorem n367_26 : Snd mt G 367 26 (oAload 0 27) := w_aload_n (hm := mm367) dX3_order_26
theorem n367_27 : Snd mt G 367 27 (oAload 0 28) := w_aload_n (hm := mm367) dX3_order_27
theorem n367_28 : Snd mt G 367 28 (oIload 2 29) := w_iload_n (hm := mm367) dX3_order_28
theorem n367_29 : Snd mt G 367 29 (oCall 2 (fV [4] 323 2) 0 32 xOut) := s_callV (m' := 323) (n := 1) xsh_out (w_xok0 mm367) (w_cal mm367 mm323 pn_X3 (Nat.le_of_ble_eq_true rfl) (Nat.le_of_ble_eq_true rfl)) (fun h b as hc hn => w_run_V (ci := 3) mm367 mm323 dX3_order_29 (Or.inl (List.mem_singleton.mp hc)) (Nat.le_of_ble_eq_true rfl) vc_3 rfl q2786 q2788 qs87 q150 q2789 pa323 hn)
theorem n367_32 : Snd mt G 367 32 (oIfEq 35 39) := w_if_ne (hm := mm367) dX3_order_32 rfl
theorem n367_35 : Snd mt G 367 35 (oConst (.int 1) 36) := w_iconst (hm := mm367) dX3_order_35 rfl
theorem n367_36 : Snd mt G 367 36 (oGoto 40) := w_goto (hm := mm367) dX3_order_36 rfl
theorem n367_39 : Snd mt G 367 39 (oConst (.int 0) 40) := w_iconst (hm := mm367) dX3_order_39 rfl
theorem n367_40 : Snd mt G 367 40 (oConst (.int 2) 41) := w_iconst (hm := mm367) dX3_order_40 rfl
theorem n367_41 : Snd mt G 367 41 (oCall 3 (fV [4] 285 3) 0 44 xOut) := s_callV (m' := 285) (n := 2) xsh_out (w_xok0 mm367) (w_cal mm367 mm285 pn_X3 (Nat.le_of_ble_eq_true rfl) (Nat.le_of_ble_eq_true rfl)) (fun h b as hc hn => w_run_V (ci := 3) mm367 mm285 dX3_order_41 (Or.inl (List.mem_singleton.mp hc)) (Nat.le_of_ble_eq_true rfl) vc_3 rfl q2634 q2636 qs62 q150 q2637 pa285 hn)
theorem n367_44 : Snd mt G 367 44 (oIfEq 49 47) := w_if_eq (hm := mm367) dX3_order_44 rfl
theorem n367_47 : Snd mt G 367 47 (oConst (.int 0) 48) := w_iconst (hm := mm367) dX3_order_47 rfl
theorem n367_48 : Snd mt G 367 48 (oRetI .int) := w_iret (hm := mm367) dX3_order_48 rfl
theorem n367_49 : Snd mt G 367 49 (oAload 0 50) := w_aload_n (hm := mm367) dX3_order_49
theorem n367_50 : Snd mt G 367 50 (oGetf [4] 39 53) := w_getf (hm := mm367) dX3_order_50 (fok1 (k := 39) (T := TX3) 3 (Nat.le_of_ble_eq_true rfl) vc_3 (Nat.le_of_ble_eq_true rfl) q2444)
theorem n367_53 : Snd mt G 367 53 (oConst (.int 20) 55) := w_bipush (hm := mm367) dX3_order_53 (by decide)
theorem n367_55 : Snd mt G 367 55 (oCmpEq 58 60) := w_icmp_ne (hm := mm367) dX3_order_55 rfl
theorem n367_58 : Snd mt G 367 58 (oConst (.int (-1)) 59) := w_iconst (hm := mm367) dX3_order_58 rfl
theorem n367_59 : Snd mt G 367 59 (oRetI .int) := w_iret (hm := mm367) dX3_order_59 rfl
theorem n367_60 : Snd mt G 367 60 (oAload 0 61) := w_aload_n (hm := mm367) dX3_order_60
theorem n367_61 : Snd mt G 367 61 (oGetf [4] 50 64) := w_getf (hm := mm367) dX3_order_61 (fok1 (k := 50) (T := TX3) 3 (Nat.le_of_ble_eq_true rfl) vc_3 (Nat.le_of_ble_eq_true rfl) q2455)
theorem n367_64 : Snd mt G 367 64 (oAload 0 65) := w_aload_n (hm := mm367) dX3_order_64
theorem n367_65 : Snd mt G 367 65 (oGetf [4] 39 68) := w_getf (hm := mm367) dX3_order_65 (fok1 (k := 39) (T := TX3) 3 (Nat.le_of_ble_eq_true rfl) vc_3 (Nat.le_of_ble_eq_true rfl) q2444)
theorem n367_68 : Snd mt G 367 68 (oAld [106] 69) := w_aaload (hm := mm367) (kt := 6) dX3_order_68 rfl at_6 (Nat.le_of_ble_eq_true rfl) (List.forall_mem_cons.mpr ⟨Or.inl rfl, (fun t ht => nomatch ht)⟩)
theorem n367_69 : Snd mt G 367 69 (oConst (.int 0) 70) := w_iconst (hm := mm367) dX3_order_69 rfl
theorem n367_70 : Snd mt G 367 70 (oIload 1 71) := w_iload_n (hm := mm367) dX3_order_70
theorem n367_71 : Snd mt G 367 71 (oIast [100] 72) := w_iastore (hm := mm367) (kt := 0) dX3_order_71 at_0 (Nat.le_of_ble_eq_true rfl) (List.forall_mem_cons.mpr ⟨rfl, (fun t ht => nomatch ht)⟩)
theorem n367_72 : Snd mt G 367 72 (oAload 0 73) := w_aload_n (hm := mm367) dX3_order_72
theorem n367_73 : Snd mt G 367 73 (oGetf [4] 50 76) := w_getf (hm := mm367) dX3_order_73 (fok1 (k := 50) (T := TX3) 3 (Nat.le_of_ble_eq_true rfl) vc_3 (Nat.le_of_ble_eq_true rfl) q2455)
theorem n367_76 : Snd mt G 367 76 (oAload 0 77) := w_aload_n (hm := mm367) dX3_order_76
theorem n367_77 : Snd mt G 367 77 (oGetf [4] 39 80) := w_getf (hm := mm367) dX3_order_77 (fok1 (k := 39) (T := TX3) 3 (Nat.le_of_ble_eq_true rfl) vc_3 (Nat.le_of_ble_eq_true rfl) q2444)
theorem n367_80 : Snd mt G 367 80 (oAld [106] 81) := w_aaload (hm := mm367) (kt := 6) dX3_order_80 rfl at_6 (Nat.le_of_ble_eq_true rfl) (List.forall_mem_cons.mpr ⟨Or.inl rfl, (fun t ht => nomatch ht)⟩)
theorem n367_81 : Snd mt G 367 81 (oConst (.int 1) 82) := w_iconst (hm := mm367) dX3_order_81 rfl
theorem n367_82 : Snd mt G 367 82 (oIload 2 83) := w_iload_n (hm := mm367) dX3_order_82
theorem n367_83 : Snd mt G 367 83 (oIast [100] 84) := w_iastore (hm := mm367) (kt := 0) dX3_order_83 at_0 (Nat.le_of_ble_eq_true rfl) (List.forall_mem_cons.mpr ⟨rfl, (fun t ht => nomatch ht)⟩)
theorem n367_84 : Snd mt G 367 84 (oAload 0 85) := w_aload_n (hm := mm367) dX3_order_84
theorem n367_85 : Snd mt G 367 85 (oGetf [4] 50 88) := w_getf (hm := mm367) dX3_order_85 (fok1 (k := 50) (T := TX3) 3 (Nat.le_of_ble_eq_true rfl) vc_3 (Nat.le_of_ble_eq_true rfl) q2455)
theorem n367_88 : Snd mt G 367 88 (oAload 0 89) := w_aload_n (hm := mm367) dX3_order_88
theorem n367_89 : Snd mt G 367 89 (oGetf [4] 39 92) := w_getf (hm := mm367) dX3_order_89 (fok1 (k := 39) (T := TX3) 3 (Nat.le_of_ble_eq_true rfl) vc_3 (Nat.le_of_ble_eq_true rfl) q2444)
theorem n367_92 : Snd mt G 367 92 (oAld [106] 93) := w_aaload (hm := mm367) (kt := 6) dX3_order_92 rfl at_6 (Nat.le_of_ble_eq_true rfl) (List.forall_mem_cons.mpr ⟨Or.inl rfl, (fun t ht => nomatch ht)⟩)
theorem n367_93 : Snd mt G 367 93 (oConst (.int 2) 94) := w_iconst (hm := mm367) dX3_order_93 rfl
theorem n367_94 : Snd mt G 367 94 (oAload 0 95) := w_aload_n (hm := mm367) dX3_order_94
theorem n367_95 : Snd mt G 367 95 (oGetf [4] 27 98) := w_getf (hm := mm367) dX3_order_95 (fok1 (k := 27) (T := TX3) 3 (Nat.le_of_ble_eq_true rfl) vc_3 (Nat.le_of_ble_eq_true rfl) q2432)
theorem n367_98 : Snd mt G 367 98 (oAload 0 99) := w_aload_n (hm := mm367) dX3_order_98
theorem n367_99 : Snd mt G 367 99 (oGetf [4] 51 102) := w_getf (hm := mm367) dX3_order_99 (fok1 (k := 51) (T := TX3) 3 (Nat.le_of_ble_eq_true rfl) vc_3 (Nat.le_of_ble_eq_true rfl) q2456)
theorem n367_102 : Snd mt G 367 102 (oIload 1 103) := w_iload_n (hm := mm367) dX3_order_102
theorem n367_103 : Snd mt G 367 103 (oAld [100] 104) := w_iaload (hm := mm367) (kt := 0) dX3_order_103 at_0 (Nat.le_of_ble_eq_true rfl) (List.forall_mem_cons.mpr ⟨Or.inl rfl, (fun t ht => nomatch ht)⟩)
theorem n367_104 : Snd mt G 367 104 (oBin (fun x y => x + y) 105) := w_iadd (hm := mm367) dX3_order_104
theorem n367_105 : Snd mt G 367 105 (oIast [100] 106) := w_iastore (hm := mm367) (kt := 0) dX3_order_105 at_0 (Nat.le_of_ble_eq_true rfl) (List.forall_mem_cons.mpr ⟨rfl, (fun t ht => nomatch ht)⟩)
theorem n367_106 : Snd mt G 367 106 (oAload 0 107) := w_aload_n (hm := mm367) dX3_order_106
theorem n367_107 : Snd mt G 367 107 (oGetf [4] 50 110) := w_getf (hm := mm367) dX3_order_107 (fok1 (k := 50) (T := TX3) 3 (Nat.le_of_ble_eq_true rfl) vc_3 (Nat.le_of_ble_eq_true rfl) q2455)
theorem n367_110 : Snd mt G 367 110 (oAload 0 111) := w_aload_n (hm := mm367) dX3_order_110
theorem n367_111 : Snd mt G 367 111 (oGetf [4] 39 114) := w_getf (hm := mm367) dX3_order_111 (fok1 (k := 39) (T := TX3) 3 (Nat.le_of_ble_eq_true rfl) vc_3 (Nat.le_of_ble_eq_true rfl) q2444)
theorem n367_114 : Snd mt G 367 114 (oAld [106] 115) := w_aaload (hm := mm367) (kt := 6) dX3_order_114 rfl at_6 (Nat.le_of_ble_eq_true rfl) (List.forall_mem_cons.mpr ⟨Or.inl rfl, (fun t ht => nomatch ht)⟩)
theorem n367_115 : Snd mt G 367 115 (oConst (.int 3) 116) := w_iconst (hm := mm367) dX3_order_115 rfl
theorem n367_116 : Snd mt G 367 116 (oConst (.int 0) 117) := w_iconst (hm := mm367) dX3_order_116 rfl
theorem n367_117 : Snd mt G 367 117 (oIast [100] 118) := w_iastore (hm := mm367) (kt := 0) dX3_order_117 at_0 (Nat.le_of_ble_eq_true rfl) (List.forall_mem_cons.mpr ⟨rfl, (fun t ht => nomatch ht)⟩)
theorem n367_118 : Snd mt G 367 118 (oAload 0 119) := w_aload_n (hm := mm367) dX3_order_118
theorem n367_119 : Snd mt G 367 119 (oGetf [4] 50 122) := w_getf (hm := mm367) dX3_order_119 (fok1 (k := 50) (T := TX3) 3 (Nat.le_of_ble_eq_true rfl) vc_3 (Nat.le_of_ble_eq_true rfl) q2455)
theorem n367_122 : Snd mt G 367 122 (oAload 0 123) := w_aload_n (hm := mm367) dX3_order_122
theorem n367_123 : Snd mt G 367 123 (oGetf [4] 39 126) := w_getf (hm := mm367) dX3_order_123 (fok1 (k := 39) (T := TX3) 3 (Nat.le_of_ble_eq_true rfl) vc_3 (Nat.le_of_ble_eq_true rfl) q2444)
theorem n367_126 : Snd mt G 367 126 (oAld [106] 127) := w_aaload (hm := mm367) (kt := 6) dX3_order_126 rfl at_6 (Nat.le_of_ble_eq_true rfl) (List.forall_mem_cons.mpr ⟨Or.inl rfl, (fun t ht => nomatch ht)⟩)
theorem n367_127 : Snd mt G 367 127 (oConst (.int 4) 128) := w_iconst (hm := mm367) dX3_order_127 rfl
theorem n367_128 : Snd mt G 367 128 (oConst (.int 0) 129) := w_iconst (hm := mm367) dX3_order_128 rfl
theorem n367_129 : Snd mt G 367 129 (oIast [100] 130) := w_iastore (hm := mm367) (kt := 0) dX3_order_129 at_0 (Nat.le_of_ble_eq_true rfl) (List.forall_mem_cons.mpr ⟨rfl, (fun t ht => nomatch ht)⟩)
theorem n367_130 : Snd mt G 367 130 (oAload 0 131) := w_aload_n (hm := mm367) dX3_order_130
theorem n367_131 : Snd mt G 367 131 (oDup 132) := w_dup (hm := mm367) dX3_order_131
theorem n367_132 : Snd mt G 367 132 (oGetf [4] 39 135) := w_getf (hm := mm367) dX3_order_132 (fok1 (k := 39) (T := TX3) 3 (Nat.le_of_ble_eq_true rfl) vc_3 (Nat.le_of_ble_eq_true rfl) q2444)
theorem n367_135 : Snd mt G 367 135 (oConst (.int 1) 136) := w_iconst (hm := mm367) dX3_order_135 rfl
theorem n367_136 : Snd mt G 367 136 (oBin (fun x y => x + y) 137) := w_iadd (hm := mm367) dX3_order_136
theorem n367_137 : Snd mt G 367 137 (oPutf [4] 39 .int 140) := w_putf (hm := mm367) dX3_order_137 (pok1 (k := 39) (T := TX3) 3 (Nat.le_of_ble_eq_true rfl) vc_3 (Nat.le_of_ble_eq_true rfl) rfl pd_X3_39 q2444)
theorem n367_140 : Snd mt G 367 140 (oAload 0 141) := w_aload_n (hm := mm367) dX3_order_140
theorem n367_141 : Snd mt G 367 141 (oGetf [4] 39 144) := w_getf (hm := mm367) dX3_order_141 (fok1 (k := 39) (T := TX3) 3 (Nat.le_of_ble_eq_true rfl) vc_3 (Nat.le_of_ble_eq_true rfl) q2444)
theorem n367_144 : Snd mt G 367 144 (oConst (.int 1) 145) := w_iconst (hm := mm367) dX3_order_144 rfl
theorem n367_145 : Snd mt G 367 145 (oBin (fun x y => x - y) 146) := w_isub (hm := mm367) dX3_order_145
theorem n367_146 : Snd mt G 367 146 (oRetI .int) := w_iret (hm := mm367) dX3_order_146 rfl
theorem sj367 : ∀ pc, Snd mt G 367 pc (j367 pc) := fun pc => (snd_br ((snd_br ((snd_br ((snd_br ((snd_br ((snd_br ((snd_br ((snd_lf n367_146)) ((snd_lf n367_145)))) ((snd_lf n367_144)))) ((snd_br ((snd_br ((snd_lf n367_141)) ((snd_lf n367_140)))) ((snd_lf n367_137)))))) ((snd_br ((snd_br ((snd_br ((snd_lf n367_136)) ((snd_lf n367_135)))) ((snd_lf n367_132)))) ((snd_br ((snd_br ((snd_lf n367_131)) ((snd_lf n367_130)))) ((snd_lf n367_129)))))))) ((snd_br ((snd_br ((snd_br ((snd_br ((snd_lf n367_128)) ((snd_lf n367_127)))) ((snd_lf n367_126)))) ((snd_br ((snd_br ((snd_lf n367_123)) ((snd_lf n367_122)))) ((snd_lf n367_119)))))) ((snd_br ((snd_br ((snd_br ((snd_lf n367_118)) ((snd_lf n367_117)))) ((snd_lf n367_116)))) ((snd_br ((snd_lf n367_115)) ((snd_lf n367_114)))))))))) ((snd_br ((snd_br ((snd_br ((snd_br ((snd_br ((snd_lf n367_111)) ((snd_lf n367_110)))) ((snd_lf n367_107)))) ((snd_br ((snd_br ((snd_lf n367_106)) ((snd_lf n367_105)))) ((snd_lf n367_104)))))) ((snd_br ((snd_br ((snd_br ((snd_lf n367_103)) ((snd_lf n367_102)))) ((snd_lf n367_99)))) ((snd_br ((snd_lf n367_98)) ((snd_lf n367_95)))))))) ((snd_br ((snd_br ((snd_br ((snd_br ((snd_lf n367_94)) ((snd_lf n367_93)))) ((snd_lf n367_92)))) ((snd_br ((snd_br ((snd_lf n367_89)) ((snd_lf n367_88)))) ((snd_lf n367_85)))))) ((snd_br ((snd_br ((snd_br ((snd_lf n367_84)) ((snd_lf n367_83)))) ((snd_lf n367_82)))) ((snd_br ((snd_lf n367_81)) ((snd_lf n367_80)))))))))))) ((snd_br ((snd_br ((snd_br ((snd_br ((snd_br ((snd_br ((snd_lf n367_77)) ((snd_lf n367_76)))) ((snd_lf n367_73)))) ((snd_br ((snd_br ((snd_lf n367_72)) ((snd_lf n367_71)))) ((snd_lf n367_70)))))) ((snd_br ((snd_br ((snd_br ((snd_lf n367_69)) ((snd_lf n367_68)))) ((snd_lf n367_65)))) ((snd_br ((snd_br ((snd_lf n367_64)) ((snd_lf n367_61)))) ((snd_lf n367_60)))))))) ((snd_br ((snd_br ((snd_br ((snd_br ((snd_lf n367_59)) ((snd_lf n367_58)))) ((snd_lf n367_55)))) ((snd_br ((snd_br ((snd_lf n367_53)) ((snd_lf n367_50)))) ((snd_lf n367_49)))))) ((snd_br ((snd_br ((snd_br ((snd_lf n367_48)) ((snd_lf n367_47)))) ((snd_lf n367_44)))) ((snd_br ((snd_lf n367_41)) ((snd_lf n367_40)))))))))) ((snd_br ((snd_br ((snd_br ((snd_br ((snd_br ((snd_lf n367_39)) ((snd_lf n367_36)))) ((snd_lf n367_35)))) ((snd_br ((snd_br ((snd_lf n367_32)) ((snd_lf n367_29)))) ((snd_lf n367_28)))))) ((snd_br ((snd_br ((snd_br ((snd_lf n367_27)) ((snd_lf n367_26)))) ((snd_lf n367_23)))) ((snd_br ((snd_lf n367_20)) ((snd_lf n367_19)))))))) ((snd_br ((snd_br ((snd_br ((snd_br ((snd_lf n367_18)) ((snd_lf n367_15)))) ((snd_lf n367_14)))) ((snd_br ((snd_br ((snd_lf n367_11)) ((snd_lf n367_8)))) ((snd_lf n367_7)))))) ((snd_br ((snd_br ((snd_br ((snd_lf n367_6)) ((snd_lf n367_5)))) ((snd_lf n367_2)))) ((snd_br ((snd_lf n367_1)) ((snd_lf n367_0)))))))))))))
end
section
variable {G : AG}
theorem n368_0 : Snd mt G 368 0 (oIload 1 1) := w_iload_n (hm := mm368) dX3_isMaker_0
theorem n368_1 : Snd mt G 368 1 (oConst (.int 0) 2) := w_iconst (hm := mm368) dX3_isMaker_1 rfl
theorem n368_2 : Snd mt G 368 2 (oAload 0 3) := w_aload_n (hm := mm368) dX3_isMaker_2
theorem n368_3 : Snd mt G 368 3 (oGetf [4] 38 6) := w_getf (hm := mm368) dX3_isMaker_3 (fok1 (k := 38) (T := TX3) 3 (Nat.le_of_ble_eq_true rfl) vc_3 (Nat.le_of_ble_eq_true rfl) q2443)
theorem n368_6 : Snd mt G 368 6 (oConst (.int 1) 7) := w_iconst (hm := mm368) dX3_isMaker_6 rfl
theorem n368_7 : Snd mt G 368 7 (oBin (fun x y => x - y) 8) := w_isub (hm := mm368) dX3_isMaker_7
theorem n368_8 : Snd mt G 368 8 (oCall 3 (fS 284 3) 0 11 xOut) := s_callS (m' := 284) (n := 3) xsh_out (w_xok0 mm368) (w_cal mm368 mm284 pn_X3 (Nat.le_of_ble_eq_true rfl) (Nat.le_of_ble_eq_true rfl)) (fun h as hn => w_run_S mm368 mm284 dX3_isMaker_8 q2631 q2632 q150 q2633 pa284 hn)
theorem n368_11 : Snd mt G 368 11 (oRetI .boolean) := w_zret (hm := mm368) dX3_isMaker_11 rfl
theorem sj368 : ∀ pc, Snd mt G 368 pc (j368 pc) := fun pc => (snd_br ((snd_br ((snd_br ((snd_lf n368_11)) ((snd_lf n368_8)))) ((snd_br ((snd_lf n368_7)) ((snd_lf n368_6)))))) ((snd_br ((snd_br ((snd_lf n368_3)) ((snd_lf n368_2)))) ((snd_br ((snd_lf n368_1)) ((snd_lf n368_0)))))))
end
section
variable {G : AG}
theorem n369_0 : Snd mt G 369 0 (oAload 0 1) := w_aload_n (hm := mm369) dX3_arrive_0
theorem n369_1 : Snd mt G 369 1 (oConst (.int 0) 2) := w_iconst (hm := mm369) dX3_arrive_1 rfl
theorem n369_2 : Snd mt G 369 2 (oPutf [4] 0 .int 5) := w_putf (hm := mm369) dX3_arrive_2 (pok1 (k := 0) (T := TX3) 3 (Nat.le_of_ble_eq_true rfl) vc_3 (Nat.le_of_ble_eq_true rfl) rfl pd_X3_0 q2405)
theorem n369_5 : Snd mt G 369 5 (oAload 0 6) := w_aload_n (hm := mm369) dX3_arrive_5
theorem n369_6 : Snd mt G 369 6 (oAload 0 7) := w_aload_n (hm := mm369) dX3_arrive_6
theorem n369_7 : Snd mt G 369 7 (oIload 1 8) := w_iload_n (hm := mm369) dX3_arrive_7
theorem n369_8 : Snd mt G 369 8 (oCall 2 (fV [4] 370 2) 0 11 xOut) := s_callV (m' := 370) (n := 1) xsh_out (w_xok0 mm369) (w_cal mm369 mm370 pn_X3 (Nat.le_of_ble_eq_true rfl) (Nat.le_of_ble_eq_true rfl)) (fun h b as hc hn => w_run_V (ci := 3) mm369 mm370 dX3_arrive_8 (Or.inl (List.mem_singleton.mp hc)) (Nat.le_of_ble_eq_true rfl) vc_3 rfl q2972 q2974 qs110 q150 q2975 pa370 hn)
theorem n369_11 : Snd mt G 369 11 (oIfEq 14 18) := w_if_ne (hm := mm369) dX3_arrive_11 rfl
theorem n369_14 : Snd mt G 369 14 (oConst (.int 1) 15) := w_iconst (hm := mm369) dX3_arrive_14 rfl
theorem n369_15 : Snd mt G 369 15 (oGoto 19) := w_goto (hm := mm369) dX3_arrive_15 rfl
theorem n369_18 : Snd mt G 369 18 (oConst (.int 0) 19) := w_iconst (hm := mm369) dX3_arrive_18 rfl
theorem n369_19 : Snd mt G 369 19 (oConst (.int 1) 20) := w_iconst (hm := mm369) dX3_arrive_19 rfl
theorem n369_20 : Snd mt G 369 20 (oCall 3 (fV [4] 285 3) 0 23 xOut) := s_callV (m' := 285) (n := 2) xsh_out (w_xok0 mm369) (w_cal mm369 mm285 pn_X3 (Nat.le_of_ble_eq_true rfl) (Nat.le_of_ble_eq_true rfl)) (fun h b as hc hn => w_run_V (ci := 3) mm369 mm285 dX3_arrive_20 (Or.inl (List.mem_singleton.mp hc)) (Nat.le_of_ble_eq_true rfl) vc_3 rfl q2634 q2636 qs62 q150 q2637 pa285 hn)
theorem n369_23 : Snd mt G 369 23 (oIfEq 28 26) := w_if_eq (hm := mm369) dX3_arrive_23 rfl
theorem n369_26 : Snd mt G 369 26 (oConst (.int 0) 27) := w_iconst (hm := mm369) dX3_arrive_26 rfl
theorem n369_27 : Snd mt G 369 27 (oRetI .int) := w_iret (hm := mm369) dX3_arrive_27 rfl
theorem n369_28 : Snd mt G 369 28 (oAload 0 29) := w_aload_n (hm := mm369) dX3_arrive_28
theorem n369_29 : Snd mt G 369 29 (oGetf [4] 50 32) := w_getf (hm := mm369) dX3_arrive_29 (fok1 (k := 50) (T := TX3) 3 (Nat.le_of_ble_eq_true rfl) vc_3 (Nat.le_of_ble_eq_true rfl) q2455)
theorem n369_32 : Snd mt G 369 32 (oIload 1 33) := w_iload_n (hm := mm369) dX3_arrive_32
theorem n369_33 : Snd mt G 369 33 (oAld [106] 34) := w_aaload (hm := mm369) (kt := 6) dX3_arrive_33 rfl at_6 (Nat.le_of_ble_eq_true rfl) (List.forall_mem_cons.mpr ⟨Or.inl rfl, (fun t ht => nomatch ht)⟩)
theorem n369_34 : Snd mt G 369 34 (oConst (.int 3) 35) := w_iconst (hm := mm369) dX3_arrive_34 rfl
theorem n369_35 : Snd mt G 369 35 (oAld [100] 36) := w_iaload (hm := mm369) (kt := 0) dX3_arrive_35 at_0 (Nat.le_of_ble_eq_true rfl) (List.forall_mem_cons.mpr ⟨Or.inl rfl, (fun t ht => nomatch ht)⟩)
theorem n369_36 : Snd mt G 369 36 (oIfEq 43 39) := w_if_eq (hm := mm369) dX3_arrive_36 rfl
theorem n369_39 : Snd mt G 369 39 (oConst (.int (-1000)) 42) := w_sipush (hm := mm369) dX3_arrive_39 (by decide)
theorem n369_42 : Snd mt G 369 42 (oRetI .int) := w_iret (hm := mm369) dX3_arrive_42 rfl
theorem n369_43 : Snd mt G 369 43 (oAload 0 44) := w_aload_n (hm := mm369) dX3_arrive_43
theorem n369_44 : Snd mt G 369 44 (oGetf [4] 50 47) := w_getf (hm := mm369) dX3_arrive_44 (fok1 (k := 50) (T := TX3) 3 (Nat.le_of_ble_eq_true rfl) vc_3 (Nat.le_of_ble_eq_true rfl) q2455)
theorem n369_47 : Snd mt G 369 47 (oIload 1 48) := w_iload_n (hm := mm369) dX3_arrive_47
theorem n369_48 : Snd mt G 369 48 (oAld [106] 49) := w_aaload (hm := mm369) (kt := 6) dX3_arrive_48 rfl at_6 (Nat.le_of_ble_eq_true rfl) (List.forall_mem_cons.mpr ⟨Or.inl rfl, (fun t ht => nomatch ht)⟩)
theorem n369_49 : Snd mt G 369 49 (oConst (.int 3) 50) := w_iconst (hm := mm369) dX3_arrive_49 rfl
theorem n369_50 : Snd mt G 369 50 (oConst (.int 1) 51) := w_iconst (hm := mm369) dX3_arrive_50 rfl
theorem n369_51 : Snd mt G 369 51 (oIast [100] 52) := w_iastore (hm := mm369) (kt := 0) dX3_arrive_51 at_0 (Nat.le_of_ble_eq_true rfl) (List.forall_mem_cons.mpr ⟨rfl, (fun t ht => nomatch ht)⟩)
theorem n369_52 : Snd mt G 369 52 (oAload 0 53) := w_aload_n (hm := mm369) dX3_arrive_52
theorem n369_53 : Snd mt G 369 53 (oGetf [4] 50 56) := w_getf (hm := mm369) dX3_arrive_53 (fok1 (k := 50) (T := TX3) 3 (Nat.le_of_ble_eq_true rfl) vc_3 (Nat.le_of_ble_eq_true rfl) q2455)
theorem n369_56 : Snd mt G 369 56 (oIload 1 57) := w_iload_n (hm := mm369) dX3_arrive_56
theorem n369_57 : Snd mt G 369 57 (oAld [106] 58) := w_aaload (hm := mm369) (kt := 6) dX3_arrive_57 rfl at_6 (Nat.le_of_ble_eq_true rfl) (List.forall_mem_cons.mpr ⟨Or.inl rfl, (fun t ht => nomatch ht)⟩)
theorem n369_58 : Snd mt G 369 58 (oConst (.int 4) 59) := w_iconst (hm := mm369) dX3_arrive_58 rfl
theorem n369_59 : Snd mt G 369 59 (oAload 0 60) := w_aload_n (hm := mm369) dX3_arrive_59
theorem n369_60 : Snd mt G 369 60 (oGetf [4] 27 63) := w_getf (hm := mm369) dX3_arrive_60 (fok1 (k := 27) (T := TX3) 3 (Nat.le_of_ble_eq_true rfl) vc_3 (Nat.le_of_ble_eq_true rfl) q2432)
theorem n369_63 : Snd mt G 369 63 (oAload 0 64) := w_aload_n (hm := mm369) dX3_arrive_63
theorem n369_64 : Snd mt G 369 64 (oGetf [4] 50 67) := w_getf (hm := mm369) dX3_arrive_64 (fok1 (k := 50) (T := TX3) 3 (Nat.le_of_ble_eq_true rfl) vc_3 (Nat.le_of_ble_eq_true rfl) q2455)
theorem n369_67 : Snd mt G 369 67 (oIload 1 68) := w_iload_n (hm := mm369) dX3_arrive_67
theorem n369_68 : Snd mt G 369 68 (oAld [106] 69) := w_aaload (hm := mm369) (kt := 6) dX3_arrive_68 rfl at_6 (Nat.le_of_ble_eq_true rfl) (List.forall_mem_cons.mpr ⟨Or.inl rfl, (fun t ht => nomatch ht)⟩)
theorem n369_69 : Snd mt G 369 69 (oConst (.int 2) 70) := w_iconst (hm := mm369) dX3_arrive_69 rfl
theorem n369_70 : Snd mt G 369 70 (oAld [100] 71) := w_iaload (hm := mm369) (kt := 0) dX3_arrive_70 at_0 (Nat.le_of_ble_eq_true rfl) (List.forall_mem_cons.mpr ⟨Or.inl rfl, (fun t ht => nomatch ht)⟩)
theorem n369_71 : Snd mt G 369 71 (oBin (fun x y => x - y) 72) := w_isub (hm := mm369) dX3_arrive_71
theorem n369_72 : Snd mt G 369 72 (oIast [100] 73) := w_iastore (hm := mm369) (kt := 0) dX3_arrive_72 at_0 (Nat.le_of_ble_eq_true rfl) (List.forall_mem_cons.mpr ⟨rfl, (fun t ht => nomatch ht)⟩)
theorem n369_73 : Snd mt G 369 73 (oAload 0 74) := w_aload_n (hm := mm369) dX3_arrive_73
theorem n369_74 : Snd mt G 369 74 (oGetf [4] 52 77) := w_getf (hm := mm369) dX3_arrive_74 (fok1 (k := 52) (T := TX3) 3 (Nat.le_of_ble_eq_true rfl) vc_3 (Nat.le_of_ble_eq_true rfl) q2457)
theorem n369_77 : Snd mt G 369 77 (oAload 0 78) := w_aload_n (hm := mm369) dX3_arrive_77
theorem n369_78 : Snd mt G 369 78 (oGetf [4] 50 81) := w_getf (hm := mm369) dX3_arrive_78 (fok1 (k := 50) (T := TX3) 3 (Nat.le_of_ble_eq_true rfl) vc_3 (Nat.le_of_ble_eq_true rfl) q2455)
theorem n369_81 : Snd mt G 369 81 (oIload 1 82) := w_iload_n (hm := mm369) dX3_arrive_81
theorem n369_82 : Snd mt G 369 82 (oAld [106] 83) := w_aaload (hm := mm369) (kt := 6) dX3_arrive_82 rfl at_6 (Nat.le_of_ble_eq_true rfl) (List.forall_mem_cons.mpr ⟨Or.inl rfl, (fun t ht => nomatch ht)⟩)
theorem n369_83 : Snd mt G 369 83 (oConst (.int 1) 84) := w_iconst (hm := mm369) dX3_arrive_83 rfl
theorem n369_84 : Snd mt G 369 84 (oAld [100] 85) := w_iaload (hm := mm369) (kt := 0) dX3_arrive_84 at_0 (Nat.le_of_ble_eq_true rfl) (List.forall_mem_cons.mpr ⟨Or.inl rfl, (fun t ht => nomatch ht)⟩)
theorem n369_85 : Snd mt G 369 85 (oDup2 86) := w_dup2 (hm := mm369) dX3_arrive_85
theorem n369_86 : Snd mt G 369 86 (oAld [100] 87) := w_iaload (hm := mm369) (kt := 0) dX3_arrive_86 at_0 (Nat.le_of_ble_eq_true rfl) (List.forall_mem_cons.mpr ⟨Or.inl rfl, (fun t ht => nomatch ht)⟩)
theorem n369_87 : Snd mt G 369 87 (oConst (.int 1) 88) := w_iconst (hm := mm369) dX3_arrive_87 rfl
theorem n369_88 : Snd mt G 369 88 (oBin (fun x y => x + y) 89) := w_iadd (hm := mm369) dX3_arrive_88
theorem n369_89 : Snd mt G 369 89 (oIast [100] 90) := w_iastore (hm := mm369) (kt := 0) dX3_arrive_89 at_0 (Nat.le_of_ble_eq_true rfl) (List.forall_mem_cons.mpr ⟨rfl, (fun t ht => nomatch ht)⟩)
theorem n369_90 : Snd mt G 369 90 (oAload 0 91) := w_aload_n (hm := mm369) dX3_arrive_90
theorem n369_91 : Snd mt G 369 91 (oGetf [4] 50 94) := w_getf (hm := mm369) dX3_arrive_91 (fok1 (k := 50) (T := TX3) 3 (Nat.le_of_ble_eq_true rfl) vc_3 (Nat.le_of_ble_eq_true rfl) q2455)
theorem n369_94 : Snd mt G 369 94 (oIload 1 95) := w_iload_n (hm := mm369) dX3_arrive_94
theorem n369_95 : Snd mt G 369 95 (oAld [106] 96) := w_aaload (hm := mm369) (kt := 6) dX3_arrive_95 rfl at_6 (Nat.le_of_ble_eq_true rfl) (List.forall_mem_cons.mpr ⟨Or.inl rfl, (fun t ht => nomatch ht)⟩)
theorem n369_96 : Snd mt G 369 96 (oConst (.int 4) 97) := w_iconst (hm := mm369) dX3_arrive_96 rfl
theorem n369_97 : Snd mt G 369 97 (oAld [100] 98) := w_iaload (hm := mm369) (kt := 0) dX3_arrive_97 at_0 (Nat.le_of_ble_eq_true rfl) (List.forall_mem_cons.mpr ⟨Or.inl rfl, (fun t ht => nomatch ht)⟩)
theorem n369_98 : Snd mt G 369 98 (oRetI .int) := w_iret (hm := mm369) dX3_arrive_98 rfl
theorem sj369 : ∀ pc, Snd mt G 369 pc (j369 pc) := fun pc => (snd_br ((snd_br ((snd_br ((snd_br ((snd_br ((snd_br ((snd_br ((snd_lf n369_98)) ((snd_lf n369_97)))) ((snd_lf n369_96)))) ((snd_br ((snd_lf n369_95)) ((snd_lf n369_94)))))) ((snd_br ((snd_br ((snd_lf n369_91)) ((snd_lf n369_90)))) ((snd_br ((snd_lf n369_89)) ((snd_lf n369_88)))))))) ((snd_br ((snd_br ((snd_br ((snd_lf n369_87)) ((snd_lf n369_86)))) ((snd_br ((snd_lf n369_85)) ((snd_lf n369_84)))))) ((snd_br ((snd_br ((snd_lf n369_83)) ((snd_lf n369_82)))) ((snd_br ((snd_lf n369_81)) ((snd_lf n369_78)))))))))) ((snd_br ((snd_br ((snd_br ((snd_br ((snd_br ((snd_lf n369_77)) ((snd_lf n369_74)))) ((snd_lf n369_73)))) ((snd_br ((snd_lf n369_72)) ((snd_lf n369_71)))))) ((snd_br ((snd_br ((snd_lf n369_70)) ((snd_lf n369_69)))) ((snd_br ((snd_lf n369_68)) ((snd_lf n369_67)))))))) ((snd_br ((snd_br ((snd_br ((snd_lf n369_64)) ((snd_lf n369_63)))) ((snd_br ((snd_lf n369_60)) ((snd_lf n369_59)))))) ((snd_br ((snd_br ((snd_lf n369_58)) ((snd_lf n369_57)))) ((snd_br ((snd_lf n369_56)) ((snd_lf n369_53)))))))))))) ((snd_br ((snd_br ((snd_br ((snd_br ((snd_br ((snd_br ((snd_lf n369_52)) ((snd_lf n369_51)))) ((snd_lf n369_50)))) ((snd_br ((snd_lf n369_49)) ((snd_lf n369_48)))))) ((snd_br ((snd_br ((snd_lf n369_47)) ((snd_lf n369_44)))) ((snd_br ((snd_lf n369_43)) ((snd_lf n369_42)))))))) ((snd_br ((snd_br ((snd_br ((snd_lf n369_39)) ((snd_lf n369_36)))) ((snd_br ((snd_lf n369_35)) ((snd_lf n369_34)))))) ((snd_br ((snd_br ((snd_lf n369_33)) ((snd_lf n369_32)))) ((snd_br ((snd_lf n369_29)) ((snd_lf n369_28)))))))))) ((snd_br ((snd_br ((snd_br ((snd_br ((snd_lf n369_27)) ((snd_lf n369_26)))) ((snd_br ((snd_lf n369_23)) ((snd_lf n369_20)))))) ((snd_br ((snd_br ((snd_lf n369_19)) ((snd_lf n369_18)))) ((snd_br ((snd_lf n369_15)) ((snd_lf n369_14)))))))) ((snd_br ((snd_br ((snd_br ((snd_lf n369_11)) ((snd_lf n369_8)))) ((snd_br ((snd_lf n369_7)) ((snd_lf n369_6)))))) ((snd_br ((snd_br ((snd_lf n369_5)) ((snd_lf n369_2)))) ((snd_br ((snd_lf n369_1)) ((snd_lf n369_0)))))))))))))
end
section
variable {G : AG}
theorem n370_0 : Snd mt G 370 0 (oIload 1 1) := w_iload_n (hm := mm370) dX3_isThing_0
theorem n370_1 : Snd mt G 370 1 (oConst (.int 0) 2) := w_iconst (hm := mm370) dX3_isThing_1 rfl
theorem n370_2 : Snd mt G 370 2 (oAload 0 3) := w_aload_n (hm := mm370) dX3_isThing_2
theorem n370_3 : Snd mt G 370 3 (oGetf [4] 39 6) := w_getf (hm := mm370) dX3_isThing_3 (fok1 (k := 39) (T := TX3) 3 (Nat.le_of_ble_eq_true rfl) vc_3 (Nat.le_of_ble_eq_true rfl) q2444)
theorem n370_6 : Snd mt G 370 6 (oConst (.int 1) 7) := w_iconst (hm := mm370) dX3_isThing_6 rfl
theorem n370_7 : Snd mt G 370 7 (oBin (fun x y => x - y) 8) := w_isub (hm := mm370) dX3_isThing_7
theorem n370_8 : Snd mt G 370 8 (oCall 3 (fS 284 3) 0 11 xOut) := s_callS (m' := 284) (n := 3) xsh_out (w_xok0 mm370) (w_cal mm370 mm284 pn_X3 (Nat.le_of_ble_eq_true rfl) (Nat.le_of_ble_eq_true rfl)) (fun h as hn => w_run_S mm370 mm284 dX3_isThing_8 q2631 q2632 q150 q2633 pa284 hn)
theorem n370_11 : Snd mt G 370 11 (oRetI .boolean) := w_zret (hm := mm370) dX3_isThing_11 rfl
theorem sj370 : ∀ pc, Snd mt G 370 pc (j370 pc) := fun pc => (snd_br ((snd_br ((snd_br ((snd_lf n370_11)) ((snd_lf n370_8)))) ((snd_br ((snd_lf n370_7)) ((snd_lf n370_6)))))) ((snd_br ((snd_br ((snd_lf n370_3)) ((snd_lf n370_2)))) ((snd_br ((snd_lf n370_1)) ((snd_lf n370_0)))))))
end
section
variable {G : AG}
theorem n371_0 : Snd mt G 371 0 (oAload 0 1) := w_aload_n (hm := mm371) dX3_lose_0
theorem n371_1 : Snd mt G 371 1 (oConst (.int 0) 2) := w_iconst (hm := mm371) dX3_lose_1 rfl
theorem n371_2 : Snd mt G 371 2 (oPutf [4] 0 .int 5) := w_putf (hm := mm371) dX3_lose_2 (pok1 (k := 0) (T := TX3) 3 (Nat.le_of_ble_eq_true rfl) vc_3 (Nat.le_of_ble_eq_true rfl) rfl pd_X3_0 q2405)
theorem n371_5 : Snd mt G 371 5 (oAload 0 6) := w_aload_n (hm := mm371) dX3_lose_5
theorem n371_6 : Snd mt G 371 6 (oAload 0 7) := w_aload_n (hm := mm371) dX3_lose_6
theorem n371_7 : Snd mt G 371 7 (oIload 1 8) := w_iload_n (hm := mm371) dX3_lose_7
theorem n371_8 : Snd mt G 371 8 (oCall 2 (fV [4] 370 2) 0 11 xOut) := s_callV (m' := 370) (n := 1) xsh_out (w_xok0 mm371) (w_cal mm371 mm370 pn_X3 (Nat.le_of_ble_eq_true rfl) (Nat.le_of_ble_eq_true rfl)) (fun h b as hc hn => w_run_V (ci := 3) mm371 mm370 dX3_lose_8 (Or.inl (List.mem_singleton.mp hc)) (Nat.le_of_ble_eq_true rfl) vc_3 rfl q2972 q2974 qs110 q150 q2975 pa370 hn)
theorem n371_11 : Snd mt G 371 11 (oIfEq 14 18) := w_if_ne (hm := mm371) dX3_lose_11 rfl
theorem n371_14 : Snd mt G 371 14 (oConst (.int 1) 15) := w_iconst (hm := mm371) dX3_lose_14 rfl
theorem n371_15 : Snd mt G 371 15 (oGoto 19) := w_goto (hm := mm371) dX3_lose_15 rfl
theorem n371_18 : Snd mt G 371 18 (oConst (.int 0) 19) := w_iconst (hm := mm371) dX3_lose_18 rfl
theorem n371_19 : Snd mt G 371 19 (oConst (.int 1) 20) := w_iconst (hm := mm371) dX3_lose_19 rfl
theorem n371_20 : Snd mt G 371 20 (oCall 3 (fV [4] 285 3) 0 23 xOut) := s_callV (m' := 285) (n := 2) xsh_out (w_xok0 mm371) (w_cal mm371 mm285 pn_X3 (Nat.le_of_ble_eq_true rfl) (Nat.le_of_ble_eq_true rfl)) (fun h b as hc hn => w_run_V (ci := 3) mm371 mm285 dX3_lose_20 (Or.inl (List.mem_singleton.mp hc)) (Nat.le_of_ble_eq_true rfl) vc_3 rfl q2634 q2636 qs62 q150 q2637 pa285 hn)
theorem n371_23 : Snd mt G 371 23 (oIfEq 28 26) := w_if_eq (hm := mm371) dX3_lose_23 rfl
theorem n371_26 : Snd mt G 371 26 (oConst (.int 0) 27) := w_iconst (hm := mm371) dX3_lose_26 rfl
theorem n371_27 : Snd mt G 371 27 (oRetI .int) := w_iret (hm := mm371) dX3_lose_27 rfl
theorem n371_28 : Snd mt G 371 28 (oAload 0 29) := w_aload_n (hm := mm371) dX3_lose_28
theorem n371_29 : Snd mt G 371 29 (oGetf [4] 50 32) := w_getf (hm := mm371) dX3_lose_29 (fok1 (k := 50) (T := TX3) 3 (Nat.le_of_ble_eq_true rfl) vc_3 (Nat.le_of_ble_eq_true rfl) q2455)
theorem n371_32 : Snd mt G 371 32 (oIload 1 33) := w_iload_n (hm := mm371) dX3_lose_32
theorem n371_33 : Snd mt G 371 33 (oAld [106] 34) := w_aaload (hm := mm371) (kt := 6) dX3_lose_33 rfl at_6 (Nat.le_of_ble_eq_true rfl) (List.forall_mem_cons.mpr ⟨Or.inl rfl, (fun t ht => nomatch ht)⟩)
theorem n371_34 : Snd mt G 371 34 (oConst (.int 3) 35) := w_iconst (hm := mm371) dX3_lose_34 rfl
theorem n371_35 : Snd mt G 371 35 (oAld [100] 36) := w_iaload (hm := mm371) (kt := 0) dX3_lose_35 at_0 (Nat.le_of_ble_eq_true rfl) (List.forall_mem_cons.mpr ⟨Or.inl rfl, (fun t ht => nomatch ht)⟩)
theorem n371_36 : Snd mt G 371 36 (oIfEq 41 39) := w_if_eq (hm := mm371) dX3_lose_36 rfl
theorem n371_39 : Snd mt G 371 39 (oConst (.int 0) 40) := w_iconst (hm := mm371) dX3_lose_39 rfl
theorem n371_40 : Snd mt G 371 40 (oRetI .int) := w_iret (hm := mm371) dX3_lose_40 rfl
theorem n371_41 : Snd mt G 371 41 (oAload 0 42) := w_aload_n (hm := mm371) dX3_lose_41
theorem n371_42 : Snd mt G 371 42 (oGetf [4] 50 45) := w_getf (hm := mm371) dX3_lose_42 (fok1 (k := 50) (T := TX3) 3 (Nat.le_of_ble_eq_true rfl) vc_3 (Nat.le_of_ble_eq_true rfl) q2455)
theorem n371_45 : Snd mt G 371 45 (oIload 1 46) := w_iload_n (hm := mm371) dX3_lose_45
theorem n371_46 : Snd mt G 371 46 (oAld [106] 47) := w_aaload (hm := mm371) (kt := 6) dX3_lose_46 rfl at_6 (Nat.le_of_ble_eq_true rfl) (List.forall_mem_cons.mpr ⟨Or.inl rfl, (fun t ht => nomatch ht)⟩)
theorem n371_47 : Snd mt G 371 47 (oConst (.int 3) 48) := w_iconst (hm := mm371) dX3_lose_47 rfl
theorem n371_48 : Snd mt G 371 48 (oConst (.int 2) 49) := w_iconst (hm := mm371) dX3_lose_48 rfl
theorem n371_49 : Snd mt G 371 49 (oIast [100] 50) := w_iastore (hm := mm371) (kt := 0) dX3_lose_49 at_0 (Nat.le_of_ble_eq_true rfl) (List.forall_mem_cons.mpr ⟨rfl, (fun t ht => nomatch ht)⟩)
theorem n371_50 : Snd mt G 371 50 (oConst (.int 1) 51) := w_iconst (hm := mm371) dX3_lose_50 rfl
theorem n371_51 : Snd mt G 371 51 (oRetI .int) := w_iret (hm := mm371) dX3_lose_51 rfl
theorem sj371 : ∀ pc, Snd mt G 371 pc (j371 pc) := fun pc => (snd_br ((snd_br ((snd_br ((snd_br ((snd_br ((snd_br ((snd_lf n371_51)) ((snd_lf n371_50)))) ((snd_lf n371_49)))) ((snd_br ((snd_lf n371_48)) ((snd_lf n371_47)))))) ((snd_br ((snd_br ((snd_lf n371_46)) ((snd_lf n371_45)))) ((snd_br ((snd_lf n371_42)) ((snd_lf n371_41)))))))) ((snd_br ((snd_br ((snd_br ((snd_lf n371_40)) ((snd_lf n371_39)))) ((snd_br ((snd_lf n371_36)) ((snd_lf n371_35)))))) ((snd_br ((snd_br ((snd_lf n371_34)) ((snd_lf n371_33)))) ((snd_br ((snd_lf n371_32)) ((snd_lf n371_29)))))))))) ((snd_br ((snd_br ((snd_br ((snd_br ((snd_br ((snd_lf n371_28)) ((snd_lf n371_27)))) ((snd_lf n371_26)))) ((snd_br ((snd_lf n371_23)) ((snd_lf n371_20)))))) ((snd_br ((snd_br ((snd_lf n371_19)) ((snd_lf n371_18)))) ((snd_br ((snd_lf n371_15)) ((snd_lf n371_14)))))))) ((snd_br ((snd_br ((snd_br ((snd_lf n371_11)) ((snd_lf n371_8)))) ((snd_br ((snd_lf n371_7)) ((snd_lf n371_6)))))) ((snd_br ((snd_br ((snd_lf n371_5)) ((snd_lf n371_2)))) ((snd_br ((snd_lf n371_1)) ((snd_lf n371_0)))))))))))
end
section
variable {G : AG}
theorem n372_0 : Snd mt G 372 0 (oAload 0 1) := w_aload_n (hm := mm372) dX3_forecast_0
theorem n372_1 : Snd mt G 372 1 (oConst (.int 0) 2) := w_iconst (hm := mm372) dX3_forecast_1 rfl
theorem n372_2 : Snd mt G 372 2 (oPutf [4] 0 .int 5) := w_putf (hm := mm372) dX3_forecast_2 (pok1 (k := 0) (T := TX3) 3 (Nat.le_of_ble_eq_true rfl) vc_3 (Nat.le_of_ble_eq_true rfl) rfl pd_X3_0 q2405)
theorem n372_5 : Snd mt G 372 5 (oAload 0 6) := w_aload_n (hm := mm372) dX3_forecast_5
theorem n372_6 : Snd mt G 372 6 (oAload 0 7) := w_aload_n (hm := mm372) dX3_forecast_6
theorem n372_7 : Snd mt G 372 7 (oIload 1 8) := w_iload_n (hm := mm372) dX3_forecast_7
theorem n372_8 : Snd mt G 372 8 (oCall 2 (fV [4] 370 2) 0 11 xOut) := s_callV (m' := 370) (n := 1) xsh_out (w_xok0 mm372) (w_cal mm372 mm370 pn_X3 (Nat.le_of_ble_eq_true rfl) (Nat.le_of_ble_eq_true rfl)) (fun h b as hc hn => w_run_V (ci := 3) mm372 mm370 dX3_forecast_8 (Or.inl (List.mem_singleton.mp hc)) (Nat.le_of_ble_eq_true rfl) vc_3 rfl q2972 q2974 qs110 q150 q2975 pa370 hn)
theorem n372_11 : Snd mt G 372 11 (oIfEq 14 18) := w_if_ne (hm := mm372) dX3_forecast_11 rfl
theorem n372_14 : Snd mt G 372 14 (oConst (.int 1) 15) := w_iconst (hm := mm372) dX3_forecast_14 rfl
theorem n372_15 : Snd mt G 372 15 (oGoto 19) := w_goto (hm := mm372) dX3_forecast_15 rfl
theorem n372_18 : Snd mt G 372 18 (oConst (.int 0) 19) := w_iconst (hm := mm372) dX3_forecast_18 rfl
theorem n372_19 : Snd mt G 372 19 (oConst (.int 1) 20) := w_iconst (hm := mm372) dX3_forecast_19 rfl
theorem n372_20 : Snd mt G 372 20 (oCall 3 (fV [4] 285 3) 0 23 xOut) := s_callV (m' := 285) (n := 2) xsh_out (w_xok0 mm372) (w_cal mm372 mm285 pn_X3 (Nat.le_of_ble_eq_true rfl) (Nat.le_of_ble_eq_true rfl)) (fun h b as hc hn => w_run_V (ci := 3) mm372 mm285 dX3_forecast_20 (Or.inl (List.mem_singleton.mp hc)) (Nat.le_of_ble_eq_true rfl) vc_3 rfl q2634 q2636 qs62 q150 q2637 pa285 hn)
theorem n372_23 : Snd mt G 372 23 (oIfEq 28 26) := w_if_eq (hm := mm372) dX3_forecast_23 rfl
theorem n372_26 : Snd mt G 372 26 (oConst (.int 0) 27) := w_iconst (hm := mm372) dX3_forecast_26 rfl
theorem n372_27 : Snd mt G 372 27 (oRetI .int) := w_iret (hm := mm372) dX3_forecast_27 rfl
theorem n372_28 : Snd mt G 372 28 (oAload 0 29) := w_aload_n (hm := mm372) dX3_forecast_28
theorem n372_29 : Snd mt G 372 29 (oGetf [4] 50 32) := w_getf (hm := mm372) dX3_forecast_29 (fok1 (k := 50) (T := TX3) 3 (Nat.le_of_ble_eq_true rfl) vc_3 (Nat.le_of_ble_eq_true rfl) q2455)
theorem n372_32 : Snd mt G 372 32 (oIload 1 33) := w_iload_n (hm := mm372) dX3_forecast_32
theorem n372_33 : Snd mt G 372 33 (oAld [106] 34) := w_aaload (hm := mm372) (kt := 6) dX3_forecast_33 rfl at_6 (Nat.le_of_ble_eq_true rfl) (List.forall_mem_cons.mpr ⟨Or.inl rfl, (fun t ht => nomatch ht)⟩)
theorem n372_34 : Snd mt G 372 34 (oConst (.int 3) 35) := w_iconst (hm := mm372) dX3_forecast_34 rfl
theorem n372_35 : Snd mt G 372 35 (oAld [100] 36) := w_iaload (hm := mm372) (kt := 0) dX3_forecast_35 at_0 (Nat.le_of_ble_eq_true rfl) (List.forall_mem_cons.mpr ⟨Or.inl rfl, (fun t ht => nomatch ht)⟩)
theorem n372_36 : Snd mt G 372 36 (oIfEq 43 39) := w_if_eq (hm := mm372) dX3_forecast_36 rfl
theorem n372_39 : Snd mt G 372 39 (oConst (.int (-1)) 40) := w_iconst (hm := mm372) dX3_forecast_39 rfl
theorem n372_40 : Snd mt G 372 40 (oGoto 72) := w_goto (hm := mm372) dX3_forecast_40 rfl
theorem n372_43 : Snd mt G 372 43 (oAload 0 44) := w_aload_n (hm := mm372) dX3_forecast_43
theorem n372_44 : Snd mt G 372 44 (oGetf [4] 27 47) := w_getf (hm := mm372) dX3_forecast_44 (fok1 (k := 27) (T := TX3) 3 (Nat.le_of_ble_eq_true rfl) vc_3 (Nat.le_of_ble_eq_true rfl) q2432)
theorem n372_47 : Snd mt G 372 47 (oAload 0 48) := w_aload_n (hm := mm372) dX3_forecast_47
theorem n372_48 : Snd mt G 372 48 (oGetf [4] 50 51) := w_getf (hm := mm372) dX3_forecast_48 (fok1 (k := 50) (T := TX3) 3 (Nat.le_of_ble_eq_true rfl) vc_3 (Nat.le_of_ble_eq_true rfl) q2455)
theorem n372_51 : Snd mt G 372 51 (oIload 1 52) := w_iload_n (hm := mm372) dX3_forecast_51
theorem n372_52 : Snd mt G 372 52 (oAld [106] 53) := w_aaload (hm := mm372) (kt := 6) dX3_forecast_52 rfl at_6 (Nat.le_of_ble_eq_true rfl) (List.forall_mem_cons.mpr ⟨Or.inl rfl, (fun t ht => nomatch ht)⟩)
theorem n372_53 : Snd mt G 372 53 (oConst (.int 2) 54) := w_iconst (hm := mm372) dX3_forecast_53 rfl
theorem n372_54 : Snd mt G 372 54 (oAld [100] 55) := w_iaload (hm := mm372) (kt := 0) dX3_forecast_54 at_0 (Nat.le_of_ble_eq_true rfl) (List.forall_mem_cons.mpr ⟨Or.inl rfl, (fun t ht => nomatch ht)⟩)
theorem n372_55 : Snd mt G 372 55 (oAload 0 56) := w_aload_n (hm := mm372) dX3_forecast_55
theorem n372_56 : Snd mt G 372 56 (oAload 0 57) := w_aload_n (hm := mm372) dX3_forecast_56
theorem n372_57 : Snd mt G 372 57 (oGetf [4] 50 60) := w_getf (hm := mm372) dX3_forecast_57 (fok1 (k := 50) (T := TX3) 3 (Nat.le_of_ble_eq_true rfl) vc_3 (Nat.le_of_ble_eq_true rfl) q2455)
theorem n372_60 : Snd mt G 372 60 (oIload 1 61) := w_iload_n (hm := mm372) dX3_forecast_60
theorem n372_61 : Snd mt G 372 61 (oAld [106] 62) := w_aaload (hm := mm372) (kt := 6) dX3_forecast_61 rfl at_6 (Nat.le_of_ble_eq_true rfl) (List.forall_mem_cons.mpr ⟨Or.inl rfl, (fun t ht => nomatch ht)⟩)
theorem n372_62 : Snd mt G 372 62 (oConst (.int 0) 63) := w_iconst (hm := mm372) dX3_forecast_62 rfl
theorem n372_63 : Snd mt G 372 63 (oAld [100] 64) := w_iaload (hm := mm372) (kt := 0) dX3_forecast_63 at_0 (Nat.le_of_ble_eq_true rfl) (List.forall_mem_cons.mpr ⟨Or.inl rfl, (fun t ht => nomatch ht)⟩)
theorem n372_64 : Snd mt G 372 64 (oIload 2 65) := w_iload_n (hm := mm372) dX3_forecast_64
theorem n372_65 : Snd mt G 372 65 (oCall 3 (fV [4] 373 6) 0 68 xOut) := s_callV (m' := 373) (n := 2) xsh_out (w_xok0 mm372) (w_cal mm372 mm373 pn_X3 (Nat.le_of_ble_eq_true rfl) (Nat.le_of_ble_eq_true rfl)) (fun h b as hc hn => w_run_V (ci := 3) mm372 mm373 dX3_forecast_65 (Or.inl (List.mem_singleton.mp hc)) (Nat.le_of_ble_eq_true rfl) vc_3 rfl q2984 q2986 qs111 q150 q2987 pa373 hn)
theorem n372_68 : Snd mt G 372 68 (oBin (fun x y => x + y) 69) := w_iadd (hm := mm372) dX3_forecast_68
theorem n372_69 : Snd mt G 372 69 (oCall 2 (fS 347 2) 0 72 xOut) := s_callS (m' := 347) (n := 2) xsh_out (w_xok0 mm372) (w_cal mm372 mm347 pn_X3 (Nat.le_of_ble_eq_true rfl) (Nat.le_of_ble_eq_true rfl)) (fun h as hn => w_run_S mm372 mm347 dX3_forecast_69 q2881 q2882 q150 q2883 pa347 hn)
theorem n372_72 : Snd mt G 372 72 (oRetI .int) := w_iret (hm := mm372) dX3_forecast_72 rfl
theorem sj372 : ∀ pc, Snd mt G 372 pc (j372 pc) := fun pc => (snd_br ((snd_br ((snd_br ((snd_br ((snd_br ((snd_br ((snd_lf n372_72)) ((snd_lf n372_69)))) ((snd_lf n372_68)))) ((snd_br ((snd_br ((snd_lf n372_65)) ((snd_lf n372_64)))) ((snd_lf n372_63)))))) ((snd_br ((snd_br ((snd_br ((snd_lf n372_62)) ((snd_lf n372_61)))) ((snd_lf n372_60)))) ((snd_br ((snd_br ((snd_lf n372_57)) ((snd_lf n372_56)))) ((snd_lf n372_55)))))))) ((snd_br ((snd_br ((snd_br ((snd_br ((snd_lf n372_54)) ((snd_lf n372_53)))) ((snd_lf n372_52)))) ((snd_br ((snd_br ((snd_lf n372_51)) ((snd_lf n372_48)))) ((snd_lf n372_47)))))) ((snd_br ((snd_br ((snd_br ((snd_lf n372_44)) ((snd_lf n372_43)))) ((snd_lf n372_40)))) ((snd_br ((snd_lf n372_39)) ((snd_lf n372_36)))))))))) ((snd_br ((snd_br ((snd_br ((snd_br ((snd_br ((snd_lf n372_35)) ((snd_lf n372_34)))) ((snd_lf n372_33)))) ((snd_br ((snd_br ((snd_lf n372_32)) ((snd_lf n372_29)))) ((snd_lf n372_28)))))) ((snd_br ((snd_br ((snd_br ((snd_lf n372_27)) ((snd_lf n372_26)))) ((snd_lf n372_23)))) ((snd_br ((snd_lf n372_20)) ((snd_lf n372_19)))))))) ((snd_br ((snd_br ((snd_br ((snd_br ((snd_lf n372_18)) ((snd_lf n372_15)))) ((snd_lf n372_14)))) ((snd_br ((snd_br ((snd_lf n372_11)) ((snd_lf n372_8)))) ((snd_lf n372_7)))))) ((snd_br ((snd_br ((snd_br ((snd_lf n372_6)) ((snd_lf n372_5)))) ((snd_lf n372_2)))) ((snd_br ((snd_lf n372_1)) ((snd_lf n372_0)))))))))))
end
section
variable {G : AG}
theorem n373_0 : Snd mt G 373 0 (oConst (.int 0) 1) := w_iconst (hm := mm373) dX3_lateness_0 rfl
theorem n373_1 : Snd mt G 373 1 (oIstore 3 2) := w_istore_n (hm := mm373) dX3_lateness_1 (Nat.le_of_ble_eq_true rfl)
theorem n373_2 : Snd mt G 373 2 (oConst (.int 0) 3) := w_iconst (hm := mm373) dX3_lateness_2 rfl
theorem n373_3 : Snd mt G 373 3 (oIstore 4 5) := w_istore (hm := mm373) dX3_lateness_3 (Nat.le_of_ble_eq_true rfl)
theorem n373_5 : Snd mt G 373 5 (oConst (.int 0) 6) := w_iconst (hm := mm373) dX3_lateness_5 rfl
theorem n373_6 : Snd mt G 373 6 (oIstore 5 8) := w_istore (hm := mm373) dX3_lateness_6 (Nat.le_of_ble_eq_true rfl)
theorem n373_8 : Snd mt G 373 8 (oIload 5 10) := w_iload (hm := mm373) dX3_lateness_8
theorem n373_10 : Snd mt G 373 10 (oAload 0 11) := w_aload_n (hm := mm373) dX3_lateness_10
theorem n373_11 : Snd mt G 373 11 (oGetf [4] 39 14) := w_getf (hm := mm373) dX3_lateness_11 (fok1 (k := 39) (T := TX3) 3 (Nat.le_of_ble_eq_true rfl) vc_3 (Nat.le_of_ble_eq_true rfl) q2444)
theorem n373_14 : Snd mt G 373 14 (oCmpGe 103 17) := w_icmp_ge (hm := mm373) dX3_lateness_14 rfl
theorem n373_17 : Snd mt G 373 17 (oAload 0 18) := w_aload_n (hm := mm373) dX3_lateness_17
theorem n373_18 : Snd mt G 373 18 (oGetf [4] 50 21) := w_getf (hm := mm373) dX3_lateness_18 (fok1 (k := 50) (T := TX3) 3 (Nat.le_of_ble_eq_true rfl) vc_3 (Nat.le_of_ble_eq_true rfl) q2455)
theorem n373_21 : Snd mt G 373 21 (oIload 5 23) := w_iload (hm := mm373) dX3_lateness_21
theorem n373_23 : Snd mt G 373 23 (oAld [106] 24) := w_aaload (hm := mm373) (kt := 6) dX3_lateness_23 rfl at_6 (Nat.le_of_ble_eq_true rfl) (List.forall_mem_cons.mpr ⟨Or.inl rfl, (fun t ht => nomatch ht)⟩)
theorem n373_24 : Snd mt G 373 24 (oConst (.int 0) 25) := w_iconst (hm := mm373) dX3_lateness_24 rfl
theorem n373_25 : Snd mt G 373 25 (oAld [100] 26) := w_iaload (hm := mm373) (kt := 0) dX3_lateness_25 at_0 (Nat.le_of_ble_eq_true rfl) (List.forall_mem_cons.mpr ⟨Or.inl rfl, (fun t ht => nomatch ht)⟩)
theorem n373_26 : Snd mt G 373 26 (oIload 1 27) := w_iload_n (hm := mm373) dX3_lateness_26
theorem n373_27 : Snd mt G 373 27 (oCmpEq 30 97) := w_icmp_ne (hm := mm373) dX3_lateness_27 rfl
theorem n373_30 : Snd mt G 373 30 (oAload 0 31) := w_aload_n (hm := mm373) dX3_lateness_30
theorem n373_31 : Snd mt G 373 31 (oGetf [4] 50 34) := w_getf (hm := mm373) dX3_lateness_31 (fok1 (k := 50) (T := TX3) 3 (Nat.le_of_ble_eq_true rfl) vc_3 (Nat.le_of_ble_eq_true rfl) q2455)
theorem n373_34 : Snd mt G 373 34 (oIload 5 36) := w_iload (hm := mm373) dX3_lateness_34
theorem n373_36 : Snd mt G 373 36 (oAld [106] 37) := w_aaload (hm := mm373) (kt := 6) dX3_lateness_36 rfl at_6 (Nat.le_of_ble_eq_true rfl) (List.forall_mem_cons.mpr ⟨Or.inl rfl, (fun t ht => nomatch ht)⟩)
theorem n373_37 : Snd mt G 373 37 (oConst (.int 3) 38) := w_iconst (hm := mm373) dX3_lateness_37 rfl
theorem n373_38 : Snd mt G 373 38 (oAld [100] 39) := w_iaload (hm := mm373) (kt := 0) dX3_lateness_38 at_0 (Nat.le_of_ble_eq_true rfl) (List.forall_mem_cons.mpr ⟨Or.inl rfl, (fun t ht => nomatch ht)⟩)
theorem n373_39 : Snd mt G 373 39 (oConst (.int 1) 40) := w_iconst (hm := mm373) dX3_lateness_39 rfl
theorem n373_40 : Snd mt G 373 40 (oCmpEq 46 43) := w_icmp_eq (hm := mm373) dX3_lateness_40 rfl
theorem n373_43 : Snd mt G 373 43 (oGoto 97) := w_goto (hm := mm373) dX3_lateness_43 rfl
theorem n373_46 : Snd mt G 373 46 (oIload 4 48) := w_iload (hm := mm373) dX3_lateness_46
theorem n373_48 : Snd mt G 373 48 (oIfEq 84 51) := w_if_eq (hm := mm373) dX3_lateness_48 rfl
theorem n373_51 : Snd mt G 373 51 (oIload 2 52) := w_iload_n (hm := mm373) dX3_lateness_51
theorem n373_52 : Snd mt G 373 52 (oIfEq 71 55) := w_if_eq (hm := mm373) dX3_lateness_52 rfl
theorem n373_55 : Snd mt G 373 55 (oAload 0 56) := w_aload_n (hm := mm373) dX3_lateness_55
theorem n373_56 : Snd mt G 373 56 (oGetf [4] 50 59) := w_getf (hm := mm373) dX3_lateness_56 (fok1 (k := 50) (T := TX3) 3 (Nat.le_of_ble_eq_true rfl) vc_3 (Nat.le_of_ble_eq_true rfl) q2455)
theorem n373_59 : Snd mt G 373 59 (oIload 5 61) := w_iload (hm := mm373) dX3_lateness_59
theorem n373_61 : Snd mt G 373 61 (oAld [106] 62) := w_aaload (hm := mm373) (kt := 6) dX3_lateness_61 rfl at_6 (Nat.le_of_ble_eq_true rfl) (List.forall_mem_cons.mpr ⟨Or.inl rfl, (fun t ht => nomatch ht)⟩)
theorem n373_62 : Snd mt G 373 62 (oConst (.int 4) 63) := w_iconst (hm := mm373) dX3_lateness_62 rfl
theorem n373_63 : Snd mt G 373 63 (oAld [100] 64) := w_iaload (hm := mm373) (kt := 0) dX3_lateness_63 at_0 (Nat.le_of_ble_eq_true rfl) (List.forall_mem_cons.mpr ⟨Or.inl rfl, (fun t ht => nomatch ht)⟩)
theorem n373_64 : Snd mt G 373 64 (oIload 3 65) := w_iload_n (hm := mm373) dX3_lateness_64
theorem n373_65 : Snd mt G 373 65 (oCmpLe 94 68) := w_icmp_le (hm := mm373) dX3_lateness_65 rfl
theorem n373_68 : Snd mt G 373 68 (oGoto 84) := w_goto (hm := mm373) dX3_lateness_68 rfl
theorem n373_71 : Snd mt G 373 71 (oAload 0 72) := w_aload_n (hm := mm373) dX3_lateness_71
theorem n373_72 : Snd mt G 373 72 (oGetf [4] 50 75) := w_getf (hm := mm373) dX3_lateness_72 (fok1 (k := 50) (T := TX3) 3 (Nat.le_of_ble_eq_true rfl) vc_3 (Nat.le_of_ble_eq_true rfl) q2455)
theorem n373_75 : Snd mt G 373 75 (oIload 5 77) := w_iload (hm := mm373) dX3_lateness_75
theorem n373_77 : Snd mt G 373 77 (oAld [106] 78) := w_aaload (hm := mm373) (kt := 6) dX3_lateness_77 rfl at_6 (Nat.le_of_ble_eq_true rfl) (List.forall_mem_cons.mpr ⟨Or.inl rfl, (fun t ht => nomatch ht)⟩)
theorem n373_78 : Snd mt G 373 78 (oConst (.int 4) 79) := w_iconst (hm := mm373) dX3_lateness_78 rfl
theorem n373_79 : Snd mt G 373 79 (oAld [100] 80) := w_iaload (hm := mm373) (kt := 0) dX3_lateness_79 at_0 (Nat.le_of_ble_eq_true rfl) (List.forall_mem_cons.mpr ⟨Or.inl rfl, (fun t ht => nomatch ht)⟩)
theorem n373_80 : Snd mt G 373 80 (oIload 3 81) := w_iload_n (hm := mm373) dX3_lateness_80
theorem n373_81 : Snd mt G 373 81 (oCmpGe 94 84) := w_icmp_ge (hm := mm373) dX3_lateness_81 rfl
theorem n373_84 : Snd mt G 373 84 (oAload 0 85) := w_aload_n (hm := mm373) dX3_lateness_84
theorem n373_85 : Snd mt G 373 85 (oGetf [4] 50 88) := w_getf (hm := mm373) dX3_lateness_85 (fok1 (k := 50) (T := TX3) 3 (Nat.le_of_ble_eq_true rfl) vc_3 (Nat.le_of_ble_eq_true rfl) q2455)
theorem n373_88 : Snd mt G 373 88 (oIload 5 90) := w_iload (hm := mm373) dX3_lateness_88
theorem n373_90 : Snd mt G 373 90 (oAld [106] 91) := w_aaload (hm := mm373) (kt := 6) dX3_lateness_90 rfl at_6 (Nat.le_of_ble_eq_true rfl) (List.forall_mem_cons.mpr ⟨Or.inl rfl, (fun t ht => nomatch ht)⟩)
theorem n373_91 : Snd mt G 373 91 (oConst (.int 4) 92) := w_iconst (hm := mm373) dX3_lateness_91 rfl
theorem n373_92 : Snd mt G 373 92 (oAld [100] 93) := w_iaload (hm := mm373) (kt := 0) dX3_lateness_92 at_0 (Nat.le_of_ble_eq_true rfl) (List.forall_mem_cons.mpr ⟨Or.inl rfl, (fun t ht => nomatch ht)⟩)
theorem n373_93 : Snd mt G 373 93 (oIstore 3 94) := w_istore_n (hm := mm373) dX3_lateness_93 (Nat.le_of_ble_eq_true rfl)
theorem n373_94 : Snd mt G 373 94 (oConst (.int 1) 95) := w_iconst (hm := mm373) dX3_lateness_94 rfl
theorem n373_95 : Snd mt G 373 95 (oIstore 4 97) := w_istore (hm := mm373) dX3_lateness_95 (Nat.le_of_ble_eq_true rfl)
theorem n373_97 : Snd mt G 373 97 (oIinc 5 1 100) := w_iinc (hm := mm373) dX3_lateness_97 rfl (Nat.le_of_ble_eq_true rfl)
theorem n373_100 : Snd mt G 373 100 (oGoto 8) := w_goto (hm := mm373) dX3_lateness_100 rfl
theorem n373_103 : Snd mt G 373 103 (oIload 3 104) := w_iload_n (hm := mm373) dX3_lateness_103
theorem n373_104 : Snd mt G 373 104 (oRetI .int) := w_iret (hm := mm373) dX3_lateness_104 rfl
theorem sj373 : ∀ pc, Snd mt G 373 pc (j373 pc) := fun pc => (snd_br ((snd_br ((snd_br ((snd_br ((snd_br ((snd_br ((snd_lf n373_104)) ((snd_lf n373_103)))) ((snd_br ((snd_lf n373_100)) ((snd_lf n373_97)))))) ((snd_br ((snd_br ((snd_lf n373_95)) ((snd_lf n373_94)))) ((snd_br ((snd_lf n373_93)) ((snd_lf n373_92)))))))) ((snd_br ((snd_br ((snd_br ((snd_lf n373_91)) ((snd_lf n373_90)))) ((snd_br ((snd_lf n373_88)) ((snd_lf n373_85)))))) ((snd_br ((snd_br ((snd_lf n373_84)) ((snd_lf n373_81)))) ((snd_br ((snd_lf n373_80)) ((snd_lf n373_79)))))))))) ((snd_br ((snd_br ((snd_br ((snd_br ((snd_lf n373_78)) ((snd_lf n373_77)))) ((snd_br ((snd_lf n373_75)) ((snd_lf n373_72)))))) ((snd_br ((snd_br ((snd_lf n373_71)) ((snd_lf n373_68)))) ((snd_br ((snd_lf n373_65)) ((snd_lf n373_64)))))))) ((snd_br ((snd_br ((snd_br ((snd_lf n373_63)) ((snd_lf n373_62)))) ((snd_br ((snd_lf n373_61)) ((snd_lf n373_59)))))) ((snd_br ((snd_br ((snd_lf n373_56)) ((snd_lf n373_55)))) ((snd_lf n373_52)))))))))) ((snd_br ((snd_br ((snd_br ((snd_br ((snd_br ((snd_lf n373_51)) ((snd_lf n373_48)))) ((snd_br ((snd_lf n373_46)) ((snd_lf n373_43)))))) ((snd_br ((snd_br ((snd_lf n373_40)) ((snd_lf n373_39)))) ((snd_br ((snd_lf n373_38)) ((snd_lf n373_37)))))))) ((snd_br ((snd_br ((snd_br ((snd_lf n373_36)) ((snd_lf n373_34)))) ((snd_br ((snd_lf n373_31)) ((snd_lf n373_30)))))) ((snd_br ((snd_br ((snd_lf n373_27)) ((snd_lf n373_26)))) ((snd_lf n373_25)))))))) ((snd_br ((snd_br ((snd_br ((snd_br ((snd_lf n373_24)) ((snd_lf n373_23)))) ((snd_br ((snd_lf n373_21)) ((snd_lf n373_18)))))) ((snd_br ((snd_br ((snd_lf n373_17)) ((snd_lf n373_14)))) ((snd_br ((snd_lf n373_11)) ((snd_lf n373_10)))))))) ((snd_br ((snd_br ((snd_br ((snd_lf n373_8)) ((snd_lf n373_6)))) ((snd_br ((snd_lf n373_5)) ((snd_lf n373_3)))))) ((snd_br ((snd_br ((snd_lf n373_2)) ((snd_lf n373_1)))) ((snd_lf n373_0)))))))))))
end
section
variable {G : AG}
theorem n374_0 : Snd mt G 374 0 (oAload 0 1) := w_aload_n (hm := mm374) dX3_late_0
theorem n374_1 : Snd mt G 374 1 (oConst (.int 0) 2) := w_iconst (hm := mm374) dX3_late_1 rfl
theorem n374_2 : Snd mt G 374 2 (oPutf [4] 0 .int 5) := w_putf (hm := mm374) dX3_late_2 (pok1 (k := 0) (T := TX3) 3 (Nat.le_of_ble_eq_true rfl) vc_3 (Nat.le_of_ble_eq_true rfl) rfl pd_X3_0 q2405)
theorem n374_5 : Snd mt G 374 5 (oAload 0 6) := w_aload_n (hm := mm374) dX3_late_5
theorem n374_6 : Snd mt G 374 6 (oAload 0 7) := w_aload_n (hm := mm374) dX3_late_6
theorem n374_7 : Snd mt G 374 7 (oIload 1 8) := w_iload_n (hm := mm374) dX3_late_7
theorem n374_8 : Snd mt G 374 8 (oCall 2 (fV [4] 368 2) 0 11 xOut) := s_callV (m' := 368) (n := 1) xsh_out (w_xok0 mm374) (w_cal mm374 mm368 pn_X3 (Nat.le_of_ble_eq_true rfl) (Nat.le_of_ble_eq_true rfl)) (fun h b as hc hn => w_run_V (ci := 3) mm374 mm368 dX3_late_8 (Or.inl (List.mem_singleton.mp hc)) (Nat.le_of_ble_eq_true rfl) vc_3 rfl q2964 q2966 qs109 q150 q2967 pa368 hn)
theorem n374_11 : Snd mt G 374 11 (oIfEq 14 18) := w_if_ne (hm := mm374) dX3_late_11 rfl
theorem n374_14 : Snd mt G 374 14 (oConst (.int 1) 15) := w_iconst (hm := mm374) dX3_late_14 rfl
theorem n374_15 : Snd mt G 374 15 (oGoto 19) := w_goto (hm := mm374) dX3_late_15 rfl
theorem n374_18 : Snd mt G 374 18 (oConst (.int 0) 19) := w_iconst (hm := mm374) dX3_late_18 rfl
theorem n374_19 : Snd mt G 374 19 (oConst (.int 1) 20) := w_iconst (hm := mm374) dX3_late_19 rfl
theorem n374_20 : Snd mt G 374 20 (oCall 3 (fV [4] 285 3) 0 23 xOut) := s_callV (m' := 285) (n := 2) xsh_out (w_xok0 mm374) (w_cal mm374 mm285 pn_X3 (Nat.le_of_ble_eq_true rfl) (Nat.le_of_ble_eq_true rfl)) (fun h b as hc hn => w_run_V (ci := 3) mm374 mm285 dX3_late_20 (Or.inl (List.mem_singleton.mp hc)) (Nat.le_of_ble_eq_true rfl) vc_3 rfl q2634 q2636 qs62 q150 q2637 pa285 hn)
theorem n374_23 : Snd mt G 374 23 (oIfEq 26 49) := w_if_ne (hm := mm374) dX3_late_23 rfl
theorem n374_26 : Snd mt G 374 26 (oAload 0 27) := w_aload_n (hm := mm374) dX3_late_26
theorem n374_27 : Snd mt G 374 27 (oIload 2 28) := w_iload_n (hm := mm374) dX3_late_27
theorem n374_28 : Snd mt G 374 28 (oConst (.int 0) 29) := w_iconst (hm := mm374) dX3_late_28 rfl
theorem n374_29 : Snd mt G 374 29 (oConst (.int 6) 31) := w_bipush (hm := mm374) dX3_late_29 (by decide)
theorem n374_31 : Snd mt G 374 31 (oCall 3 (fS 284 3) 0 34 xOut) := s_callS (m' := 284) (n := 3) xsh_out (w_xok0 mm374) (w_cal mm374 mm284 pn_X3 (Nat.le_of_ble_eq_true rfl) (Nat.le_of_ble_eq_true rfl)) (fun h as hn => w_run_S mm374 mm284 dX3_late_31 q2631 q2632 q150 q2633 pa284 hn)
theorem n374_34 : Snd mt G 374 34 (oIfEq 37 41) := w_if_ne (hm := mm374) dX3_late_34 rfl
theorem n374_37 : Snd mt G 374 37 (oConst (.int 1) 38) := w_iconst (hm := mm374) dX3_late_37 rfl
theorem n374_38 : Snd mt G 374 38 (oGoto 42) := w_goto (hm := mm374) dX3_late_38 rfl
theorem n374_41 : Snd mt G 374 41 (oConst (.int 0) 42) := w_iconst (hm := mm374) dX3_late_41 rfl
theorem n374_42 : Snd mt G 374 42 (oConst (.int 2) 43) := w_iconst (hm := mm374) dX3_late_42 rfl
theorem n374_43 : Snd mt G 374 43 (oCall 3 (fV [4] 285 3) 0 46 xOut) := s_callV (m' := 285) (n := 2) xsh_out (w_xok0 mm374) (w_cal mm374 mm285 pn_X3 (Nat.le_of_ble_eq_true rfl) (Nat.le_of_ble_eq_true rfl)) (fun h b as hc hn => w_run_V (ci := 3) mm374 mm285 dX3_late_43 (Or.inl (List.mem_singleton.mp hc)) (Nat.le_of_ble_eq_true rfl) vc_3 rfl q2634 q2636 qs62 q150 q2637 pa285 hn)
theorem n374_46 : Snd mt G 374 46 (oIfEq 51 49) := w_if_eq (hm := mm374) dX3_late_46 rfl
theorem n374_49 : Snd mt G 374 49 (oConst (.int 0) 50) := w_iconst (hm := mm374) dX3_late_49 rfl
theorem n374_50 : Snd mt G 374 50 (oRetI .int) := w_iret (hm := mm374) dX3_late_50 rfl
theorem n374_51 : Snd mt G 374 51 (oIload 2 52) := w_iload_n (hm := mm374) dX3_late_51
theorem n374_52 : Snd mt G 374 52 (oIfEq 55 62) := w_if_ne (hm := mm374) dX3_late_52 rfl
theorem n374_55 : Snd mt G 374 55 (oAload 0 56) := w_aload_n (hm := mm374) dX3_late_55
theorem n374_56 : Snd mt G 374 56 (oGetf [4] 51 59) := w_getf (hm := mm374) dX3_late_56 (fok1 (k := 51) (T := TX3) 3 (Nat.le_of_ble_eq_true rfl) vc_3 (Nat.le_of_ble_eq_true rfl) q2456)
theorem n374_59 : Snd mt G 374 59 (oIload 1 60) := w_iload_n (hm := mm374) dX3_late_59
theorem n374_60 : Snd mt G 374 60 (oAld [100] 61) := w_iaload (hm := mm374) (kt := 0) dX3_late_60 at_0 (Nat.le_of_ble_eq_true rfl) (List.forall_mem_cons.mpr ⟨Or.inl rfl, (fun t ht => nomatch ht)⟩)
theorem n374_61 : Snd mt G 374 61 (oRetI .int) := w_iret (hm := mm374) dX3_late_61 rfl
theorem n374_62 : Snd mt G 374 62 (oIload 2 63) := w_iload_n (hm := mm374) dX3_late_62
theorem n374_63 : Snd mt G 374 63 (oConst (.int 4) 64) := w_iconst (hm := mm374) dX3_late_63 rfl
theorem n374_64 : Snd mt G 374 64 (oCmpLe 84 67) := w_icmp_le (hm := mm374) dX3_late_64 rfl
theorem n374_67 : Snd mt G 374 67 (oAload 0 68) := w_aload_n (hm := mm374) dX3_late_67
theorem n374_68 : Snd mt G 374 68 (oIload 1 69) := w_iload_n (hm := mm374) dX3_late_68
theorem n374_69 : Snd mt G 374 69 (oIload 2 70) := w_iload_n (hm := mm374) dX3_late_69
theorem n374_70 : Snd mt G 374 70 (oConst (.int 6) 72) := w_bipush (hm := mm374) dX3_late_70 (by decide)
theorem n374_72 : Snd mt G 374 72 (oCmpEq 75 79) := w_icmp_ne (hm := mm374) dX3_late_72 rfl
theorem n374_75 : Snd mt G 374 75 (oConst (.int 1) 76) := w_iconst (hm := mm374) dX3_late_75 rfl
theorem n374_76 : Snd mt G 374 76 (oGoto 80) := w_goto (hm := mm374) dX3_late_76 rfl
theorem n374_79 : Snd mt G 374 79 (oConst (.int 0) 80) := w_iconst (hm := mm374) dX3_late_79 rfl
theorem n374_80 : Snd mt G 374 80 (oCall 3 (fV [4] 373 6) 0 83 xOut) := s_callV (m' := 373) (n := 2) xsh_out (w_xok0 mm374) (w_cal mm374 mm373 pn_X3 (Nat.le_of_ble_eq_true rfl) (Nat.le_of_ble_eq_true rfl)) (fun h b as hc hn => w_run_V (ci := 3) mm374 mm373 dX3_late_80 (Or.inl (List.mem_singleton.mp hc)) (Nat.le_of_ble_eq_true rfl) vc_3 rfl q2984 q2986 qs111 q150 q2987 pa373 hn)
theorem n374_83 : Snd mt G 374 83 (oRetI .int) := w_iret (hm := mm374) dX3_late_83 rfl
theorem n374_84 : Snd mt G 374 84 (oConst (.int 0) 85) := w_iconst (hm := mm374) dX3_late_84 rfl
theorem n374_85 : Snd mt G 374 85 (oIstore 3 86) := w_istore_n (hm := mm374) dX3_late_85 (Nat.le_of_ble_eq_true rfl)
theorem n374_86 : Snd mt G 374 86 (oConst (.int 0) 87) := w_iconst (hm := mm374) dX3_late_86 rfl
theorem n374_87 : Snd mt G 374 87 (oIstore 4 89) := w_istore (hm := mm374) dX3_late_87 (Nat.le_of_ble_eq_true rfl)
theorem n374_89 : Snd mt G 374 89 (oIload 4 91) := w_iload (hm := mm374) dX3_late_89
theorem n374_91 : Snd mt G 374 91 (oAload 0 92) := w_aload_n (hm := mm374) dX3_late_91
theorem n374_92 : Snd mt G 374 92 (oGetf [4] 39 95) := w_getf (hm := mm374) dX3_late_92 (fok1 (k := 39) (T := TX3) 3 (Nat.le_of_ble_eq_true rfl) vc_3 (Nat.le_of_ble_eq_true rfl) q2444)
theorem n374_95 : Snd mt G 374 95 (oCmpGe 161 98) := w_icmp_ge (hm := mm374) dX3_late_95 rfl
theorem n374_98 : Snd mt G 374 98 (oIload 3 99) := w_iload_n (hm := mm374) dX3_late_98
theorem n374_99 : Snd mt G 374 99 (oAload 0 100) := w_aload_n (hm := mm374) dX3_late_99
theorem n374_100 : Snd mt G 374 100 (oGetf [4] 50 103) := w_getf (hm := mm374) dX3_late_100 (fok1 (k := 50) (T := TX3) 3 (Nat.le_of_ble_eq_true rfl) vc_3 (Nat.le_of_ble_eq_true rfl) q2455)
theorem n374_103 : Snd mt G 374 103 (oIload 4 105) := w_iload (hm := mm374) dX3_late_103
theorem n374_105 : Snd mt G 374 105 (oAld [106] 106) := w_aaload (hm := mm374) (kt := 6) dX3_late_105 rfl at_6 (Nat.le_of_ble_eq_true rfl) (List.forall_mem_cons.mpr ⟨Or.inl rfl, (fun t ht => nomatch ht)⟩)
theorem n374_106 : Snd mt G 374 106 (oConst (.int 0) 107) := w_iconst (hm := mm374) dX3_late_106 rfl
theorem n374_107 : Snd mt G 374 107 (oAld [100] 108) := w_iaload (hm := mm374) (kt := 0) dX3_late_107 at_0 (Nat.le_of_ble_eq_true rfl) (List.forall_mem_cons.mpr ⟨Or.inl rfl, (fun t ht => nomatch ht)⟩)
theorem n374_108 : Snd mt G 374 108 (oIload 1 109) := w_iload_n (hm := mm374) dX3_late_108
theorem n374_109 : Snd mt G 374 109 (oCmpEq 116 112) := w_icmp_eq (hm := mm374) dX3_late_109 rfl
theorem n374_112 : Snd mt G 374 112 (oConst (.int 0) 113) := w_iconst (hm := mm374) dX3_late_112 rfl
theorem n374_113 : Snd mt G 374 113 (oGoto 153) := w_goto (hm := mm374) dX3_late_113 rfl
theorem n374_116 : Snd mt G 374 116 (oIload 2 117) := w_iload_n (hm := mm374) dX3_late_116
theorem n374_117 : Snd mt G 374 117 (oConst (.int 4) 118) := w_iconst (hm := mm374) dX3_late_117 rfl
theorem n374_118 : Snd mt G 374 118 (oCmpEq 121 133) := w_icmp_ne (hm := mm374) dX3_late_118 rfl
theorem n374_121 : Snd mt G 374 121 (oAload 0 122) := w_aload_n (hm := mm374) dX3_late_121
theorem n374_122 : Snd mt G 374 122 (oGetf [4] 50 125) := w_getf (hm := mm374) dX3_late_122 (fok1 (k := 50) (T := TX3) 3 (Nat.le_of_ble_eq_true rfl) vc_3 (Nat.le_of_ble_eq_true rfl) q2455)
theorem n374_125 : Snd mt G 374 125 (oIload 4 127) := w_iload (hm := mm374) dX3_late_125
theorem n374_127 : Snd mt G 374 127 (oAld [106] 128) := w_aaload (hm := mm374) (kt := 6) dX3_late_127 rfl at_6 (Nat.le_of_ble_eq_true rfl) (List.forall_mem_cons.mpr ⟨Or.inl rfl, (fun t ht => nomatch ht)⟩)
theorem n374_128 : Snd mt G 374 128 (oConst (.int 4) 129) := w_iconst (hm := mm374) dX3_late_128 rfl
theorem n374_129 : Snd mt G 374 129 (oAld [100] 130) := w_iaload (hm := mm374) (kt := 0) dX3_late_129 at_0 (Nat.le_of_ble_eq_true rfl) (List.forall_mem_cons.mpr ⟨Or.inl rfl, (fun t ht => nomatch ht)⟩)
theorem n374_130 : Snd mt G 374 130 (oGoto 153) := w_goto (hm := mm374) dX3_late_130 rfl
theorem n374_133 : Snd mt G 374 133 (oAload 0 134) := w_aload_n (hm := mm374) dX3_late_133
theorem n374_134 : Snd mt G 374 134 (oGetf [4] 50 137) := w_getf (hm := mm374) dX3_late_134 (fok1 (k := 50) (T := TX3) 3 (Nat.le_of_ble_eq_true rfl) vc_3 (Nat.le_of_ble_eq_true rfl) q2455)
theorem n374_137 : Snd mt G 374 137 (oIload 4 139) := w_iload (hm := mm374) dX3_late_137
theorem n374_139 : Snd mt G 374 139 (oAld [106] 140) := w_aaload (hm := mm374) (kt := 6) dX3_late_139 rfl at_6 (Nat.le_of_ble_eq_true rfl) (List.forall_mem_cons.mpr ⟨Or.inl rfl, (fun t ht => nomatch ht)⟩)
theorem n374_140 : Snd mt G 374 140 (oConst (.int 3) 141) := w_iconst (hm := mm374) dX3_late_140 rfl
theorem n374_141 : Snd mt G 374 141 (oAld [100] 142) := w_iaload (hm := mm374) (kt := 0) dX3_late_141 at_0 (Nat.le_of_ble_eq_true rfl) (List.forall_mem_cons.mpr ⟨Or.inl rfl, (fun t ht => nomatch ht)⟩)
theorem n374_142 : Snd mt G 374 142 (oIload 2 143) := w_iload_n (hm := mm374) dX3_late_142
theorem n374_143 : Snd mt G 374 143 (oConst (.int 1) 144) := w_iconst (hm := mm374) dX3_late_143 rfl
theorem n374_144 : Snd mt G 374 144 (oBin (fun x y => x - y) 145) := w_isub (hm := mm374) dX3_late_144
theorem n374_145 : Snd mt G 374 145 (oCmpEq 148 152) := w_icmp_ne (hm := mm374) dX3_late_145 rfl
theorem n374_148 : Snd mt G 374 148 (oConst (.int 1) 149) := w_iconst (hm := mm374) dX3_late_148 rfl
theorem n374_149 : Snd mt G 374 149 (oGoto 153) := w_goto (hm := mm374) dX3_late_149 rfl
theorem n374_152 : Snd mt G 374 152 (oConst (.int 0) 153) := w_iconst (hm := mm374) dX3_late_152 rfl
theorem n374_153 : Snd mt G 374 153 (oBin (fun x y => x + y) 154) := w_iadd (hm := mm374) dX3_late_153
theorem n374_154 : Snd mt G 374 154 (oIstore 3 155) := w_istore_n (hm := mm374) dX3_late_154 (Nat.le_of_ble_eq_true rfl)
theorem n374_155 : Snd mt G 374 155 (oIinc 4 1 158) := w_iinc (hm := mm374) dX3_late_155 rfl (Nat.le_of_ble_eq_true rfl)
theorem n374_158 : Snd mt G 374 158 (oGoto 89) := w_goto (hm := mm374) dX3_late_158 rfl
theorem n374_161 : Snd mt G 374 161 (oIload 3 162) := w_iload_n (hm := mm374) dX3_late_161
theorem n374_162 : Snd mt G 374 162 (oRetI .int) := w_iret (hm := mm374) dX3_late_162 rfl
theorem sj374 : ∀ pc, Snd mt G 374 pc (j374 pc) := fun pc => (snd_br ((snd_br ((snd_br ((snd_br ((snd_br ((snd_br ((snd_br ((snd_lf n374_162)) ((snd_lf n374_161)))) ((snd_lf n374_158)))) ((snd_br ((snd_br ((snd_lf n374_155)) ((snd_lf n374_154)))) ((snd_lf n374_153)))))) ((snd_br ((snd_br ((snd_br ((snd_lf n374_152)) ((snd_lf n374_149)))) ((snd_lf n374_148)))) ((snd_br ((snd_br ((snd_lf n374_145)) ((snd_lf n374_144)))) ((snd_lf n374_143)))))))) ((snd_br ((snd_br ((snd_br ((snd_br ((snd_lf n374_142)) ((snd_lf n374_141)))) ((snd_lf n374_140)))) ((snd_br ((snd_br ((snd_lf n374_139)) ((snd_lf n374_137)))) ((snd_lf n374_134)))))) ((snd_br ((snd_br ((snd_br ((snd_lf n374_133)) ((snd_lf n374_130)))) ((snd_lf n374_129)))) ((snd_br ((snd_br ((snd_lf n374_128)) ((snd_lf n374_127)))) ((snd_lf n374_125)))))))))) ((snd_br ((snd_br ((snd_br ((snd_br ((snd_br ((snd_lf n374_122)) ((snd_lf n374_121)))) ((snd_lf n374_118)))) ((snd_br ((snd_br ((snd_lf n374_117)) ((snd_lf n374_116)))) ((snd_lf n374_113)))))) ((snd_br ((snd_br ((snd_br ((snd_lf n374_112)) ((snd_lf n374_109)))) ((snd_lf n374_108)))) ((snd_br ((snd_br ((snd_lf n374_107)) ((snd_lf n374_106)))) ((snd_lf n374_105)))))))) ((snd_br ((snd_br ((snd_br ((snd_br ((snd_lf n374_103)) ((snd_lf n374_100)))) ((snd_lf n374_99)))) ((snd_br ((snd_br ((snd_lf n374_98)) ((snd_lf n374_95)))) ((snd_lf n374_92)))))) ((snd_br ((snd_br ((snd_br ((snd_lf n374_91)) ((snd_lf n374_89)))) ((snd_lf n374_87)))) ((snd_br ((snd_br ((snd_lf n374_86)) ((snd_lf n374_85)))) ((snd_lf n374_84)))))))))))) ((snd_br ((snd_br ((snd_br ((snd_br ((snd_br ((snd_br ((snd_lf n374_83)) ((snd_lf n374_80)))) ((snd_lf n374_79)))) ((snd_br ((snd_br ((snd_lf n374_76)) ((snd_lf n374_75)))) ((snd_lf n374_72)))))) ((snd_br ((snd_br ((snd_br ((snd_lf n374_70)) ((snd_lf n374_69)))) ((snd_lf n374_68)))) ((snd_br ((snd_br ((snd_lf n374_67)) ((snd_lf n374_64)))) ((snd_lf n374_63)))))))) ((snd_br ((snd_br ((snd_br ((snd_br ((snd_lf n374_62)) ((snd_lf n374_61)))) ((snd_lf n374_60)))) ((snd_br ((snd_br ((snd_lf n374_59)) ((snd_lf n374_56)))) ((snd_lf n374_55)))))) ((snd_br ((snd_br ((snd_br ((snd_lf n374_52)) ((snd_lf n374_51)))) ((snd_lf n374_50)))) ((snd_br ((snd_br ((snd_lf n374_49)) ((snd_lf n374_46)))) ((snd_lf n374_43)))))))))) ((snd_br ((snd_br ((snd_br ((snd_br ((snd_br ((snd_lf n374_42)) ((snd_lf n374_41)))) ((snd_lf n374_38)))) ((snd_br ((snd_br ((snd_lf n374_37)) ((snd_lf n374_34)))) ((snd_lf n374_31)))))) ((snd_br ((snd_br ((snd_br ((snd_lf n374_29)) ((snd_lf n374_28)))) ((snd_lf n374_27)))) ((snd_br ((snd_br ((snd_lf n374_26)) ((snd_lf n374_23)))) ((snd_lf n374_20)))))))) ((snd_br ((snd_br ((snd_br ((snd_br ((snd_lf n374_19)) ((snd_lf n374_18)))) ((snd_lf n374_15)))) ((snd_br ((snd_br ((snd_lf n374_14)) ((snd_lf n374_11)))) ((snd_lf n374_8)))))) ((snd_br ((snd_br ((snd_br ((snd_lf n374_7)) ((snd_lf n374_6)))) ((snd_lf n374_5)))) ((snd_br ((snd_br ((snd_lf n374_2)) ((snd_lf n374_1)))) ((snd_lf n374_0)))))))))))))
end
section
variable {G : AG}
theorem n375_0 : Snd mt G 375 0 (oAload 0 1) := w_aload_n (hm := mm375) dX3_stock_0
theorem n375_1 : Snd mt G 375 1 (oConst (.int 0) 2) := w_iconst (hm := mm375) dX3_stock_1 rfl
theorem n375_2 : Snd mt G 375 2 (oPutf [4] 0 .int 5) := w_putf (hm := mm375) dX3_stock_2 (pok1 (k := 0) (T := TX3) 3 (Nat.le_of_ble_eq_true rfl) vc_3 (Nat.le_of_ble_eq_true rfl) rfl pd_X3_0 q2405)
theorem n375_5 : Snd mt G 375 5 (oAload 0 6) := w_aload_n (hm := mm375) dX3_stock_5
theorem n375_6 : Snd mt G 375 6 (oAload 0 7) := w_aload_n (hm := mm375) dX3_stock_6
theorem n375_7 : Snd mt G 375 7 (oIload 1 8) := w_iload_n (hm := mm375) dX3_stock_7
theorem n375_8 : Snd mt G 375 8 (oCall 2 (fV [4] 323 2) 0 11 xOut) := s_callV (m' := 323) (n := 1) xsh_out (w_xok0 mm375) (w_cal mm375 mm323 pn_X3 (Nat.le_of_ble_eq_true rfl) (Nat.le_of_ble_eq_true rfl)) (fun h b as hc hn => w_run_V (ci := 3) mm375 mm323 dX3_stock_8 (Or.inl (List.mem_singleton.mp hc)) (Nat.le_of_ble_eq_true rfl) vc_3 rfl q2786 q2788 qs87 q150 q2789 pa323 hn)
theorem n375_11 : Snd mt G 375 11 (oIfEq 14 18) := w_if_ne (hm := mm375) dX3_stock_11 rfl
theorem n375_14 : Snd mt G 375 14 (oConst (.int 1) 15) := w_iconst (hm := mm375) dX3_stock_14 rfl
theorem n375_15 : Snd mt G 375 15 (oGoto 19) := w_goto (hm := mm375) dX3_stock_15 rfl
theorem n375_18 : Snd mt G 375 18 (oConst (.int 0) 19) := w_iconst (hm := mm375) dX3_stock_18 rfl
theorem n375_19 : Snd mt G 375 19 (oConst (.int 1) 20) := w_iconst (hm := mm375) dX3_stock_19 rfl
theorem n375_20 : Snd mt G 375 20 (oCall 3 (fV [4] 285 3) 0 23 xOut) := s_callV (m' := 285) (n := 2) xsh_out (w_xok0 mm375) (w_cal mm375 mm285 pn_X3 (Nat.le_of_ble_eq_true rfl) (Nat.le_of_ble_eq_true rfl)) (fun h b as hc hn => w_run_V (ci := 3) mm375 mm285 dX3_stock_20 (Or.inl (List.mem_singleton.mp hc)) (Nat.le_of_ble_eq_true rfl) vc_3 rfl q2634 q2636 qs62 q150 q2637 pa285 hn)
theorem n375_23 : Snd mt G 375 23 (oIfEq 28 26) := w_if_eq (hm := mm375) dX3_stock_23 rfl
theorem n375_26 : Snd mt G 375 26 (oConst (.int 0) 27) := w_iconst (hm := mm375) dX3_stock_26 rfl
theorem n375_27 : Snd mt G 375 27 (oRetI .int) := w_iret (hm := mm375) dX3_stock_27 rfl
theorem n375_28 : Snd mt G 375 28 (oAload 0 29) := w_aload_n (hm := mm375) dX3_stock_28
theorem n375_29 : Snd mt G 375 29 (oGetf [4] 52 32) := w_getf (hm := mm375) dX3_stock_29 (fok1 (k := 52) (T := TX3) 3 (Nat.le_of_ble_eq_true rfl) vc_3 (Nat.le_of_ble_eq_true rfl) q2457)
theorem n375_32 : Snd mt G 375 32 (oIload 1 33) := w_iload_n (hm := mm375) dX3_stock_32
theorem n375_33 : Snd mt G 375 33 (oAld [100] 34) := w_iaload (hm := mm375) (kt := 0) dX3_stock_33 at_0 (Nat.le_of_ble_eq_true rfl) (List.forall_mem_cons.mpr ⟨Or.inl rfl, (fun t ht => nomatch ht)⟩)
theorem n375_34 : Snd mt G 375 34 (oRetI .int) := w_iret (hm := mm375) dX3_stock_34 rfl
theorem sj375 : ∀ pc, Snd mt G 375 pc (j375 pc) := fun pc => (snd_br ((snd_br ((snd_br ((snd_br ((snd_br ((snd_lf n375_34)) ((snd_lf n375_33)))) ((snd_lf n375_32)))) ((snd_br ((snd_br ((snd_lf n375_29)) ((snd_lf n375_28)))) ((snd_lf n375_27)))))) ((snd_br ((snd_br ((snd_br ((snd_lf n375_26)) ((snd_lf n375_23)))) ((snd_lf n375_20)))) ((snd_br ((snd_lf n375_19)) ((snd_lf n375_18)))))))) ((snd_br ((snd_br ((snd_br ((snd_br ((snd_lf n375_15)) ((snd_lf n375_14)))) ((snd_lf n375_11)))) ((snd_br ((snd_lf n375_8)) ((snd_lf n375_7)))))) ((snd_br ((snd_br ((snd_br ((snd_lf n375_6)) ((snd_lf n375_5)))) ((snd_lf n375_2)))) ((snd_br ((snd_lf n375_1)) ((snd_lf n375_0)))))))))
end
section
variable {G : AG}
theorem n376_0 : Snd mt G 376 0 (oAload 0 1) := w_aload_n (hm := mm376) dX3_spare_0
theorem n376_1 : Snd mt G 376 1 (oConst (.int 0) 2) := w_iconst (hm := mm376) dX3_spare_1 rfl
theorem n376_2 : Snd mt G 376 2 (oPutf [4] 0 .int 5) := w_putf (hm := mm376) dX3_spare_2 (pok1 (k := 0) (T := TX3) 3 (Nat.le_of_ble_eq_true rfl) vc_3 (Nat.le_of_ble_eq_true rfl) rfl pd_X3_0 q2405)
theorem n376_5 : Snd mt G 376 5 (oAload 0 6) := w_aload_n (hm := mm376) dX3_spare_5
theorem n376_6 : Snd mt G 376 6 (oAload 0 7) := w_aload_n (hm := mm376) dX3_spare_6
theorem n376_7 : Snd mt G 376 7 (oIload 1 8) := w_iload_n (hm := mm376) dX3_spare_7
theorem n376_8 : Snd mt G 376 8 (oCall 2 (fV [4] 323 2) 0 11 xOut) := s_callV (m' := 323) (n := 1) xsh_out (w_xok0 mm376) (w_cal mm376 mm323 pn_X3 (Nat.le_of_ble_eq_true rfl) (Nat.le_of_ble_eq_true rfl)) (fun h b as hc hn => w_run_V (ci := 3) mm376 mm323 dX3_spare_8 (Or.inl (List.mem_singleton.mp hc)) (Nat.le_of_ble_eq_true rfl) vc_3 rfl q2786 q2788 qs87 q150 q2789 pa323 hn)
theorem n376_11 : Snd mt G 376 11 (oIfEq 14 18) := w_if_ne (hm := mm376) dX3_spare_11 rfl
theorem n376_14 : Snd mt G 376 14 (oConst (.int 1) 15) := w_iconst (hm := mm376) dX3_spare_14 rfl
theorem n376_15 : Snd mt G 376 15 (oGoto 19) := w_goto (hm := mm376) dX3_spare_15 rfl
theorem n376_18 : Snd mt G 376 18 (oConst (.int 0) 19) := w_iconst (hm := mm376) dX3_spare_18 rfl
theorem n376_19 : Snd mt G 376 19 (oConst (.int 1) 20) := w_iconst (hm := mm376) dX3_spare_19 rfl
theorem n376_20 : Snd mt G 376 20 (oCall 3 (fV [4] 285 3) 0 23 xOut) := s_callV (m' := 285) (n := 2) xsh_out (w_xok0 mm376) (w_cal mm376 mm285 pn_X3 (Nat.le_of_ble_eq_true rfl) (Nat.le_of_ble_eq_true rfl)) (fun h b as hc hn => w_run_V (ci := 3) mm376 mm285 dX3_spare_20 (Or.inl (List.mem_singleton.mp hc)) (Nat.le_of_ble_eq_true rfl) vc_3 rfl q2634 q2636 qs62 q150 q2637 pa285 hn)
theorem n376_23 : Snd mt G 376 23 (oIfEq 28 26) := w_if_eq (hm := mm376) dX3_spare_23 rfl
theorem n376_26 : Snd mt G 376 26 (oConst (.int 0) 27) := w_iconst (hm := mm376) dX3_spare_26 rfl
theorem n376_27 : Snd mt G 376 27 (oRetI .int) := w_iret (hm := mm376) dX3_spare_27 rfl
theorem n376_28 : Snd mt G 376 28 (oAload 0 29) := w_aload_n (hm := mm376) dX3_spare_28
theorem n376_29 : Snd mt G 376 29 (oGetf [4] 31 32) := w_getf (hm := mm376) dX3_spare_29 (fok1 (k := 31) (T := TX3) 3 (Nat.le_of_ble_eq_true rfl) vc_3 (Nat.le_of_ble_eq_true rfl) q2436)
theorem n376_32 : Snd mt G 376 32 (oConst (.int 6) 34) := w_bipush (hm := mm376) dX3_spare_32 (by decide)
theorem n376_34 : Snd mt G 376 34 (oCmpEq 37 39) := w_icmp_ne (hm := mm376) dX3_spare_34 rfl
theorem n376_37 : Snd mt G 376 37 (oConst (.int (-1)) 38) := w_iconst (hm := mm376) dX3_spare_37 rfl
theorem n376_38 : Snd mt G 376 38 (oRetI .int) := w_iret (hm := mm376) dX3_spare_38 rfl
theorem n376_39 : Snd mt G 376 39 (oAload 0 40) := w_aload_n (hm := mm376) dX3_spare_39
theorem n376_40 : Snd mt G 376 40 (oGetf [4] 59 43) := w_getf (hm := mm376) dX3_spare_40 (fok1 (k := 59) (T := TX3) 3 (Nat.le_of_ble_eq_true rfl) vc_3 (Nat.le_of_ble_eq_true rfl) q2464)
theorem n376_43 : Snd mt G 376 43 (oAload 0 44) := w_aload_n (hm := mm376) dX3_spare_43
theorem n376_44 : Snd mt G 376 44 (oGetf [4] 31 47) := w_getf (hm := mm376) dX3_spare_44 (fok1 (k := 31) (T := TX3) 3 (Nat.le_of_ble_eq_true rfl) vc_3 (Nat.le_of_ble_eq_true rfl) q2436)
theorem n376_47 : Snd mt G 376 47 (oIload 1 48) := w_iload_n (hm := mm376) dX3_spare_47
theorem n376_48 : Snd mt G 376 48 (oIast [100] 49) := w_iastore (hm := mm376) (kt := 0) dX3_spare_48 at_0 (Nat.le_of_ble_eq_true rfl) (List.forall_mem_cons.mpr ⟨rfl, (fun t ht => nomatch ht)⟩)
theorem n376_49 : Snd mt G 376 49 (oAload 0 50) := w_aload_n (hm := mm376) dX3_spare_49
theorem n376_50 : Snd mt G 376 50 (oDup 51) := w_dup (hm := mm376) dX3_spare_50
theorem n376_51 : Snd mt G 376 51 (oGetf [4] 31 54) := w_getf (hm := mm376) dX3_spare_51 (fok1 (k := 31) (T := TX3) 3 (Nat.le_of_ble_eq_true rfl) vc_3 (Nat.le_of_ble_eq_true rfl) q2436)
theorem n376_54 : Snd mt G 376 54 (oConst (.int 1) 55) := w_iconst (hm := mm376) dX3_spare_54 rfl
theorem n376_55 : Snd mt G 376 55 (oBin (fun x y => x + y) 56) := w_iadd (hm := mm376) dX3_spare_55
theorem n376_56 : Snd mt G 376 56 (oPutf [4] 31 .int 59) := w_putf (hm := mm376) dX3_spare_56 (pok1 (k := 31) (T := TX3) 3 (Nat.le_of_ble_eq_true rfl) vc_3 (Nat.le_of_ble_eq_true rfl) rfl pd_X3_31 q2436)
theorem n376_59 : Snd mt G 376 59 (oAload 0 60) := w_aload_n (hm := mm376) dX3_spare_59
theorem n376_60 : Snd mt G 376 60 (oGetf [4] 31 63) := w_getf (hm := mm376) dX3_spare_60 (fok1 (k := 31) (T := TX3) 3 (Nat.le_of_ble_eq_true rfl) vc_3 (Nat.le_of_ble_eq_true rfl) q2436)
theorem n376_63 : Snd mt G 376 63 (oRetI .int) := w_iret (hm := mm376) dX3_spare_63 rfl
theorem sj376 : ∀ pc, Snd mt G 376 pc (j376 pc) := fun pc => (snd_br ((snd_br ((snd_br ((snd_br ((snd_br ((snd_br ((snd_lf n376_63)) ((snd_lf n376_60)))) ((snd_lf n376_59)))) ((snd_br ((snd_lf n376_56)) ((snd_lf n376_55)))))) ((snd_br ((snd_br ((snd_br ((snd_lf n376_54)) ((snd_lf n376_51)))) ((snd_lf n376_50)))) ((snd_br ((snd_lf n376_49)) ((snd_lf n376_48)))))))) ((snd_br ((snd_br ((snd_br ((snd_br ((snd_lf n376_47)) ((snd_lf n376_44)))) ((snd_lf n376_43)))) ((snd_br ((snd_lf n376_40)) ((snd_lf n376_39)))))) ((snd_br ((snd_br ((snd_lf n376_38)) ((snd_lf n376_37)))) ((snd_br ((snd_lf n376_34)) ((snd_lf n376_32)))))))))) ((snd_br ((snd_br ((snd_br ((snd_br ((snd_br ((snd_lf n376_29)) ((snd_lf n376_28)))) ((snd_lf n376_27)))) ((snd_br ((snd_lf n376_26)) ((snd_lf n376_23)))))) ((snd_br ((snd_br ((snd_lf n376_20)) ((snd_lf n376_19)))) ((snd_br ((snd_lf n376_18)) ((snd_lf n376_15)))))))) ((snd_br ((snd_br ((snd_br ((snd_br ((snd_lf n376_14)) ((snd_lf n376_11)))) ((snd_lf n376_8)))) ((snd_br ((snd_lf n376_7)) ((snd_lf n376_6)))))) ((snd_br ((snd_br ((snd_lf n376_5)) ((snd_lf n376_2)))) ((snd_br ((snd_lf n376_1)) ((snd_lf n376_0)))))))))))
end
section
variable {G : AG}
theorem n377_0 : Snd mt G 377 0 (oAload 0 1) := w_aload_n (hm := mm377) dX3_lent_0
theorem n377_1 : Snd mt G 377 1 (oConst (.int 0) 2) := w_iconst (hm := mm377) dX3_lent_1 rfl
theorem n377_2 : Snd mt G 377 2 (oPutf [4] 0 .int 5) := w_putf (hm := mm377) dX3_lent_2 (pok1 (k := 0) (T := TX3) 3 (Nat.le_of_ble_eq_true rfl) vc_3 (Nat.le_of_ble_eq_true rfl) rfl pd_X3_0 q2405)
theorem n377_5 : Snd mt G 377 5 (oAload 0 6) := w_aload_n (hm := mm377) dX3_lent_5
theorem n377_6 : Snd mt G 377 6 (oIload 1 7) := w_iload_n (hm := mm377) dX3_lent_6
theorem n377_7 : Snd mt G 377 7 (oConst (.int 0) 8) := w_iconst (hm := mm377) dX3_lent_7 rfl
theorem n377_8 : Snd mt G 377 8 (oAload 0 9) := w_aload_n (hm := mm377) dX3_lent_8
theorem n377_9 : Snd mt G 377 9 (oGetf [4] 31 12) := w_getf (hm := mm377) dX3_lent_9 (fok1 (k := 31) (T := TX3) 3 (Nat.le_of_ble_eq_true rfl) vc_3 (Nat.le_of_ble_eq_true rfl) q2436)
theorem n377_12 : Snd mt G 377 12 (oConst (.int 1) 13) := w_iconst (hm := mm377) dX3_lent_12 rfl
theorem n377_13 : Snd mt G 377 13 (oBin (fun x y => x - y) 14) := w_isub (hm := mm377) dX3_lent_13
theorem n377_14 : Snd mt G 377 14 (oCall 3 (fS 284 3) 0 17 xOut) := s_callS (m' := 284) (n := 3) xsh_out (w_xok0 mm377) (w_cal mm377 mm284 pn_X3 (Nat.le_of_ble_eq_true rfl) (Nat.le_of_ble_eq_true rfl)) (fun h as hn => w_run_S mm377 mm284 dX3_lent_14 q2631 q2632 q150 q2633 pa284 hn)
theorem n377_17 : Snd mt G 377 17 (oIfEq 20 24) := w_if_ne (hm := mm377) dX3_lent_17 rfl
theorem n377_20 : Snd mt G 377 20 (oConst (.int 1) 21) := w_iconst (hm := mm377) dX3_lent_20 rfl
theorem n377_21 : Snd mt G 377 21 (oGoto 25) := w_goto (hm := mm377) dX3_lent_21 rfl
theorem n377_24 : Snd mt G 377 24 (oConst (.int 0) 25) := w_iconst (hm := mm377) dX3_lent_24 rfl
theorem n377_25 : Snd mt G 377 25 (oConst (.int 1) 26) := w_iconst (hm := mm377) dX3_lent_25 rfl
theorem n377_26 : Snd mt G 377 26 (oCall 3 (fV [4] 285 3) 0 29 xOut) := s_callV (m' := 285) (n := 2) xsh_out (w_xok0 mm377) (w_cal mm377 mm285 pn_X3 (Nat.le_of_ble_eq_true rfl) (Nat.le_of_ble_eq_true rfl)) (fun h b as hc hn => w_run_V (ci := 3) mm377 mm285 dX3_lent_26 (Or.inl (List.mem_singleton.mp hc)) (Nat.le_of_ble_eq_true rfl) vc_3 rfl q2634 q2636 qs62 q150 q2637 pa285 hn)
theorem n377_29 : Snd mt G 377 29 (oIfEq 34 32) := w_if_eq (hm := mm377) dX3_lent_29 rfl
theorem n377_32 : Snd mt G 377 32 (oConst (.int 0) 33) := w_iconst (hm := mm377) dX3_lent_32 rfl
theorem n377_33 : Snd mt G 377 33 (oRetI .int) := w_iret (hm := mm377) dX3_lent_33 rfl
theorem n377_34 : Snd mt G 377 34 (oAload 0 35) := w_aload_n (hm := mm377) dX3_lent_34
theorem n377_35 : Snd mt G 377 35 (oCall 1 (fV [4] 378 5) 0 38 xOut) := s_callV (m' := 378) (n := 0) xsh_out (w_xok0 mm377) (w_cal mm377 mm378 pn_X3 (Nat.le_of_ble_eq_true rfl) (Nat.le_of_ble_eq_true rfl)) (fun h b as hc hn => w_run_V (ci := 3) mm377 mm378 dX3_lent_35 (Or.inl (List.mem_singleton.mp hc)) (Nat.le_of_ble_eq_true rfl) vc_3 rfl q3004 q3006 qs112 q150 q3007 pa378 hn)
theorem n377_38 : Snd mt G 377 38 (oConst (.int 0) 39) := w_iconst (hm := mm377) dX3_lent_38 rfl
theorem n377_39 : Snd mt G 377 39 (oIstore 2 40) := w_istore_n (hm := mm377) dX3_lent_39 (Nat.le_of_ble_eq_true rfl)
theorem n377_40 : Snd mt G 377 40 (oConst (.int (-1)) 41) := w_iconst (hm := mm377) dX3_lent_40 rfl
theorem n377_41 : Snd mt G 377 41 (oIstore 3 42) := w_istore_n (hm := mm377) dX3_lent_41 (Nat.le_of_ble_eq_true rfl)
theorem n377_42 : Snd mt G 377 42 (oConst (.int 0) 43) := w_iconst (hm := mm377) dX3_lent_42 rfl
theorem n377_43 : Snd mt G 377 43 (oIstore 4 45) := w_istore (hm := mm377) dX3_lent_43 (Nat.le_of_ble_eq_true rfl)
theorem n377_45 : Snd mt G 377 45 (oIload 4 47) := w_iload (hm := mm377) dX3_lent_45
theorem n377_47 : Snd mt G 377 47 (oIload 1 48) := w_iload_n (hm := mm377) dX3_lent_47
theorem n377_48 : Snd mt G 377 48 (oCmpGt 171 51) := w_icmp_gt (hm := mm377) dX3_lent_48 rfl
theorem n377_51 : Snd mt G 377 51 (oConst (.int (-1)) 52) := w_iconst (hm := mm377) dX3_lent_51 rfl
theorem n377_52 : Snd mt G 377 52 (oIstore 3 53) := w_istore_n (hm := mm377) dX3_lent_52 (Nat.le_of_ble_eq_true rfl)
theorem n377_53 : Snd mt G 377 53 (oAload 0 54) := w_aload_n (hm := mm377) dX3_lent_53
theorem n377_54 : Snd mt G 377 54 (oGetf [4] 67 57) := w_getf (hm := mm377) dX3_lent_54 (fok1 (k := 67) (T := TX3) 3 (Nat.le_of_ble_eq_true rfl) vc_3 (Nat.le_of_ble_eq_true rfl) q2472)
theorem n377_57 : Snd mt G 377 57 (oIload 4 59) := w_iload (hm := mm377) dX3_lent_57
theorem n377_59 : Snd mt G 377 59 (oConst (.int 1) 60) := w_iconst (hm := mm377) dX3_lent_59 rfl
theorem n377_60 : Snd mt G 377 60 (oBin (fun x y => x + y) 61) := w_iadd (hm := mm377) dX3_lent_60
theorem n377_61 : Snd mt G 377 61 (oAld [106] 62) := w_aaload (hm := mm377) (kt := 6) dX3_lent_61 rfl at_6 (Nat.le_of_ble_eq_true rfl) (List.forall_mem_cons.mpr ⟨Or.inl rfl, (fun t ht => nomatch ht)⟩)
theorem n377_62 : Snd mt G 377 62 (oIload 2 63) := w_iload_n (hm := mm377) dX3_lent_62
theorem n377_63 : Snd mt G 377 63 (oAld [100] 64) := w_iaload (hm := mm377) (kt := 0) dX3_lent_63 at_0 (Nat.le_of_ble_eq_true rfl) (List.forall_mem_cons.mpr ⟨Or.inl rfl, (fun t ht => nomatch ht)⟩)
theorem n377_64 : Snd mt G 377 64 (oAload 0 65) := w_aload_n (hm := mm377) dX3_lent_64
theorem n377_65 : Snd mt G 377 65 (oGetf [4] 67 68) := w_getf (hm := mm377) dX3_lent_65 (fok1 (k := 67) (T := TX3) 3 (Nat.le_of_ble_eq_true rfl) vc_3 (Nat.le_of_ble_eq_true rfl) q2472)
theorem n377_68 : Snd mt G 377 68 (oIload 4 70) := w_iload (hm := mm377) dX3_lent_68
theorem n377_70 : Snd mt G 377 70 (oAld [106] 71) := w_aaload (hm := mm377) (kt := 6) dX3_lent_70 rfl at_6 (Nat.le_of_ble_eq_true rfl) (List.forall_mem_cons.mpr ⟨Or.inl rfl, (fun t ht => nomatch ht)⟩)
theorem n377_71 : Snd mt G 377 71 (oIload 2 72) := w_iload_n (hm := mm377) dX3_lent_71
theorem n377_72 : Snd mt G 377 72 (oAld [100] 73) := w_iaload (hm := mm377) (kt := 0) dX3_lent_72 at_0 (Nat.le_of_ble_eq_true rfl) (List.forall_mem_cons.mpr ⟨Or.inl rfl, (fun t ht => nomatch ht)⟩)
theorem n377_73 : Snd mt G 377 73 (oCmpEq 76 79) := w_icmp_ne (hm := mm377) dX3_lent_73 rfl
theorem n377_76 : Snd mt G 377 76 (oGoto 165) := w_goto (hm := mm377) dX3_lent_76 rfl
theorem n377_79 : Snd mt G 377 79 (oAload 0 80) := w_aload_n (hm := mm377) dX3_lent_79
theorem n377_80 : Snd mt G 377 80 (oGetf [4] 29 83) := w_getf (hm := mm377) dX3_lent_80 (fok1 (k := 29) (T := TX3) 3 (Nat.le_of_ble_eq_true rfl) vc_3 (Nat.le_of_ble_eq_true rfl) q2434)
theorem n377_83 : Snd mt G 377 83 (oConst (.int 1) 84) := w_iconst (hm := mm377) dX3_lent_83 rfl
theorem n377_84 : Snd mt G 377 84 (oBin (fun x y => x - y) 85) := w_isub (hm := mm377) dX3_lent_84
theorem n377_85 : Snd mt G 377 85 (oIstore 5 87) := w_istore (hm := mm377) dX3_lent_85 (Nat.le_of_ble_eq_true rfl)
theorem n377_87 : Snd mt G 377 87 (oIload 5 89) := w_iload (hm := mm377) dX3_lent_87
theorem n377_89 : Snd mt G 377 89 (oIfLt 159 92) := w_if_lt (hm := mm377) dX3_lent_89 rfl
theorem n377_92 : Snd mt G 377 92 (oIload 2 93) := w_iload_n (hm := mm377) dX3_lent_92
theorem n377_93 : Snd mt G 377 93 (oIload 5 95) := w_iload (hm := mm377) dX3_lent_93
theorem n377_95 : Snd mt G 377 95 (oBin (fun x y => x >>> (y &&& 31)) 96) := w_ishr (hm := mm377) dX3_lent_95
theorem n377_96 : Snd mt G 377 96 (oConst (.int 1) 97) := w_iconst (hm := mm377) dX3_lent_96 rfl
theorem n377_97 : Snd mt G 377 97 (oBin (fun x y => x &&& y) 98) := w_iand (hm := mm377) dX3_lent_97
theorem n377_98 : Snd mt G 377 98 (oIfEq 101 153) := w_if_ne (hm := mm377) dX3_lent_98 rfl
theorem n377_101 : Snd mt G 377 101 (oAload 0 102) := w_aload_n (hm := mm377) dX3_lent_101
theorem n377_102 : Snd mt G 377 102 (oIload 4 104) := w_iload (hm := mm377) dX3_lent_102
theorem n377_104 : Snd mt G 377 104 (oIload 5 106) := w_iload (hm := mm377) dX3_lent_104
theorem n377_106 : Snd mt G 377 106 (oCall 3 (fV [4] 379 3) 0 109 xOut) := s_callV (m' := 379) (n := 2) xsh_out (w_xok0 mm377) (w_cal mm377 mm379 pn_X3 (Nat.le_of_ble_eq_true rfl) (Nat.le_of_ble_eq_true rfl)) (fun h b as hc hn => w_run_V (ci := 3) mm377 mm379 dX3_lent_106 (Or.inl (List.mem_singleton.mp hc)) (Nat.le_of_ble_eq_true rfl) vc_3 rfl q3008 q3010 qs113 q150 q3011 pa379 hn)
theorem n377_109 : Snd mt G 377 109 (oConst (.int (-1)) 110) := w_iconst (hm := mm377) dX3_lent_109 rfl
theorem n377_110 : Snd mt G 377 110 (oCmpEq 153 113) := w_icmp_eq (hm := mm377) dX3_lent_110 rfl
theorem n377_113 : Snd mt G 377 113 (oAload 0 114) := w_aload_n (hm := mm377) dX3_lent_113
theorem n377_114 : Snd mt G 377 114 (oIload 4 116) := w_iload (hm := mm377) dX3_lent_114
theorem n377_116 : Snd mt G 377 116 (oIload 5 118) := w_iload (hm := mm377) dX3_lent_116
theorem n377_118 : Snd mt G 377 118 (oCall 3 (fV [4] 379 3) 0 121 xOut) := s_callV (m' := 379) (n := 2) xsh_out (w_xok0 mm377) (w_cal mm377 mm379 pn_X3 (Nat.le_of_ble_eq_true rfl) (Nat.le_of_ble_eq_true rfl)) (fun h b as hc hn => w_run_V (ci := 3) mm377 mm379 dX3_lent_118 (Or.inl (List.mem_singleton.mp hc)) (Nat.le_of_ble_eq_true rfl) vc_3 rfl q3008 q3010 qs113 q150 q3011 pa379 hn)
theorem n377_121 : Snd mt G 377 121 (oAload 0 122) := w_aload_n (hm := mm377) dX3_lent_121
theorem n377_122 : Snd mt G 377 122 (oGetf [4] 67 125) := w_getf (hm := mm377) dX3_lent_122 (fok1 (k := 67) (T := TX3) 3 (Nat.le_of_ble_eq_true rfl) vc_3 (Nat.le_of_ble_eq_true rfl) q2472)
theorem n377_125 : Snd mt G 377 125 (oIload 4 127) := w_iload (hm := mm377) dX3_lent_125
theorem n377_127 : Snd mt G 377 127 (oConst (.int 1) 128) := w_iconst (hm := mm377) dX3_lent_127 rfl
theorem n377_128 : Snd mt G 377 128 (oBin (fun x y => x + y) 129) := w_iadd (hm := mm377) dX3_lent_128
theorem n377_129 : Snd mt G 377 129 (oAld [106] 130) := w_aaload (hm := mm377) (kt := 6) dX3_lent_129 rfl at_6 (Nat.le_of_ble_eq_true rfl) (List.forall_mem_cons.mpr ⟨Or.inl rfl, (fun t ht => nomatch ht)⟩)
theorem n377_130 : Snd mt G 377 130 (oIload 2 131) := w_iload_n (hm := mm377) dX3_lent_130
theorem n377_131 : Snd mt G 377 131 (oConst (.int 1) 132) := w_iconst (hm := mm377) dX3_lent_131 rfl
theorem n377_132 : Snd mt G 377 132 (oIload 5 134) := w_iload (hm := mm377) dX3_lent_132
theorem n377_134 : Snd mt G 377 134 (oBin (fun x y => x <<< (y &&& 31)) 135) := w_ishl (hm := mm377) dX3_lent_134
theorem n377_135 : Snd mt G 377 135 (oBin (fun x y => x ||| y) 136) := w_ior (hm := mm377) dX3_lent_135
theorem n377_136 : Snd mt G 377 136 (oAld [100] 137) := w_iaload (hm := mm377) (kt := 0) dX3_lent_136 at_0 (Nat.le_of_ble_eq_true rfl) (List.forall_mem_cons.mpr ⟨Or.inl rfl, (fun t ht => nomatch ht)⟩)
theorem n377_137 : Snd mt G 377 137 (oBin (fun x y => x + y) 138) := w_iadd (hm := mm377) dX3_lent_137
theorem n377_138 : Snd mt G 377 138 (oAload 0 139) := w_aload_n (hm := mm377) dX3_lent_138
theorem n377_139 : Snd mt G 377 139 (oGetf [4] 67 142) := w_getf (hm := mm377) dX3_lent_139 (fok1 (k := 67) (T := TX3) 3 (Nat.le_of_ble_eq_true rfl) vc_3 (Nat.le_of_ble_eq_true rfl) q2472)
theorem n377_142 : Snd mt G 377 142 (oIload 4 144) := w_iload (hm := mm377) dX3_lent_142
theorem n377_144 : Snd mt G 377 144 (oAld [106] 145) := w_aaload (hm := mm377) (kt := 6) dX3_lent_144 rfl at_6 (Nat.le_of_ble_eq_true rfl) (List.forall_mem_cons.mpr ⟨Or.inl rfl, (fun t ht => nomatch ht)⟩)
theorem n377_145 : Snd mt G 377 145 (oIload 2 146) := w_iload_n (hm := mm377) dX3_lent_145
theorem n377_146 : Snd mt G 377 146 (oAld [100] 147) := w_iaload (hm := mm377) (kt := 0) dX3_lent_146 at_0 (Nat.le_of_ble_eq_true rfl) (List.forall_mem_cons.mpr ⟨Or.inl rfl, (fun t ht => nomatch ht)⟩)
theorem n377_147 : Snd mt G 377 147 (oCmpEq 150 153) := w_icmp_ne (hm := mm377) dX3_lent_147 rfl
theorem n377_150 : Snd mt G 377 150 (oIload 5 152) := w_iload (hm := mm377) dX3_lent_150
theorem n377_152 : Snd mt G 377 152 (oIstore 3 153) := w_istore_n (hm := mm377) dX3_lent_152 (Nat.le_of_ble_eq_true rfl)
theorem n377_153 : Snd mt G 377 153 (oIinc 5 (-1) 156) := w_iinc (hm := mm377) dX3_lent_153 rfl (Nat.le_of_ble_eq_true rfl)
theorem n377_156 : Snd mt G 377 156 (oGoto 87) := w_goto (hm := mm377) dX3_lent_156 rfl
theorem n377_159 : Snd mt G 377 159 (oIload 2 160) := w_iload_n (hm := mm377) dX3_lent_159
theorem n377_160 : Snd mt G 377 160 (oConst (.int 1) 161) := w_iconst (hm := mm377) dX3_lent_160 rfl
theorem n377_161 : Snd mt G 377 161 (oIload 3 162) := w_iload_n (hm := mm377) dX3_lent_161
theorem n377_162 : Snd mt G 377 162 (oBin (fun x y => x <<< (y &&& 31)) 163) := w_ishl (hm := mm377) dX3_lent_162
theorem n377_163 : Snd mt G 377 163 (oBin (fun x y => x ||| y) 164) := w_ior (hm := mm377) dX3_lent_163
theorem n377_164 : Snd mt G 377 164 (oIstore 2 165) := w_istore_n (hm := mm377) dX3_lent_164 (Nat.le_of_ble_eq_true rfl)
theorem n377_165 : Snd mt G 377 165 (oIinc 4 1 168) := w_iinc (hm := mm377) dX3_lent_165 rfl (Nat.le_of_ble_eq_true rfl)
theorem n377_168 : Snd mt G 377 168 (oGoto 45) := w_goto (hm := mm377) dX3_lent_168 rfl
theorem n377_171 : Snd mt G 377 171 (oIload 3 172) := w_iload_n (hm := mm377) dX3_lent_171
theorem n377_172 : Snd mt G 377 172 (oRetI .int) := w_iret (hm := mm377) dX3_lent_172 rfl
theorem sj377 : ∀ pc, Snd mt G 377 pc (j377 pc) := fun pc => (snd_br ((snd_br ((snd_br ((snd_br ((snd_br ((snd_br ((snd_br ((snd_lf n377_172)) ((snd_lf n377_171)))) ((snd_br ((snd_lf n377_168)) ((snd_lf n377_165)))))) ((snd_br ((snd_br ((snd_lf n377_164)) ((snd_lf n377_163)))) ((snd_lf n377_162)))))) ((snd_br ((snd_br ((snd_br ((snd_lf n377_161)) ((snd_lf n377_160)))) ((snd_br ((snd_lf n377_159)) ((snd_lf n377_156)))))) ((snd_br ((snd_br ((snd_lf n377_153)) ((snd_lf n377_152)))) ((snd_lf n377_150)))))))) ((snd_br ((snd_br ((snd_br ((snd_br ((snd_lf n377_147)) ((snd_lf n377_146)))) ((snd_br ((snd_lf n377_145)) ((snd_lf n377_144)))))) ((snd_br ((snd_br ((snd_lf n377_142)) ((snd_lf n377_139)))) ((snd_lf n377_138)))))) ((snd_br ((snd_br ((snd_br ((snd_lf n377_137)) ((snd_lf n377_136)))) ((snd_lf n377_135)))) ((snd_br ((snd_br ((snd_lf n377_134)) ((snd_lf n377_132)))) ((snd_lf n377_131)))))))))) ((snd_br ((snd_br ((snd_br ((snd_br ((snd_br ((snd_lf n377_130)) ((snd_lf n377_129)))) ((snd_br ((snd_lf n377_128)) ((snd_lf n377_127)))))) ((snd_br ((snd_br ((snd_lf n377_125)) ((snd_lf n377_122)))) ((snd_lf n377_121)))))) ((snd_br ((snd_br ((snd_br ((snd_lf n377_118)) ((snd_lf n377_116)))) ((snd_lf n377_114)))) ((snd_br ((snd_br ((snd_lf n377_113)) ((snd_lf n377_110)))) ((snd_lf n377_109)))))))) ((snd_br ((snd_br ((snd_br ((snd_br ((snd_lf n377_106)) ((snd_lf n377_104)))) ((snd_br ((snd_lf n377_102)) ((snd_lf n377_101)))))) ((snd_br ((snd_br ((snd_lf n377_98)) ((snd_lf n377_97)))) ((snd_lf n377_96)))))) ((snd_br ((snd_br ((snd_br ((snd_lf n377_95)) ((snd_lf n377_93)))) ((snd_lf n377_92)))) ((snd_br ((snd_br ((snd_lf n377_89)) ((snd_lf n377_87)))) ((snd_lf n377_85)))))))))))) ((snd_br ((snd_br ((snd_br ((snd_br ((snd_br ((snd_br ((snd_lf n377_84)) ((snd_lf n377_83)))) ((snd_br ((snd_lf n377_80)) ((snd_lf n377_79)))))) ((snd_br ((snd_br ((snd_lf n377_76)) ((snd_lf n377_73)))) ((snd_lf n377_72)))))) ((snd_br ((snd_br ((snd_br ((snd_lf n377_71)) ((snd_lf n377_70)))) ((snd_br ((snd_lf n377_68)) ((snd_lf n377_65)))))) ((snd_br ((snd_br ((snd_lf n377_64)) ((snd_lf n377_63)))) ((snd_lf n377_62)))))))) ((snd_br ((snd_br ((snd_br ((snd_br ((snd_lf n377_61)) ((snd_lf n377_60)))) ((snd_br ((snd_lf n377_59)) ((snd_lf n377_57)))))) ((snd_br ((snd_br ((snd_lf n377_54)) ((snd_lf n377_53)))) ((snd_lf n377_52)))))) ((snd_br ((snd_br ((snd_br ((snd_lf n377_51)) ((snd_lf n377_48)))) ((snd_lf n377_47)))) ((snd_br ((snd_br ((snd_lf n377_45)) ((snd_lf n377_43)))) ((snd_lf n377_42)))))))))) ((snd_br ((snd_br ((snd_br ((snd_br ((snd_br ((snd_lf n377_41)) ((snd_lf n377_40)))) ((snd_br ((snd_lf n377_39)) ((snd_lf n377_38)))))) ((snd_br ((snd_br ((snd_lf n377_35)) ((snd_lf n377_34)))) ((snd_lf n377_33)))))) ((snd_br ((snd_br ((snd_br ((snd_lf n377_32)) ((snd_lf n377_29)))) ((snd_lf n377_26)))) ((snd_br ((snd_br ((snd_lf n377_25)) ((snd_lf n377_24)))) ((snd_lf n377_21)))))))) ((snd_br ((snd_br ((snd_br ((snd_br ((snd_lf n377_20)) ((snd_lf n377_17)))) ((snd_br ((snd_lf n377_14)) ((snd_lf n377_13)))))) ((snd_br ((snd_br ((snd_lf n377_12)) ((snd_lf n377_9)))) ((snd_lf n377_8)))))) ((snd_br ((snd_br ((snd_br ((snd_lf n377_7)) ((snd_lf n377_6)))) ((snd_lf n377_5)))) ((snd_br ((snd_br ((snd_lf n377_2)) ((snd_lf n377_1)))) ((snd_lf n377_0)))))))))))))
end
