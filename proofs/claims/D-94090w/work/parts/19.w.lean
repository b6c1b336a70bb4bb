/-! THE SOUNDNESS LEMMAS over a method's data (by gen1w.py) -/
set_option maxRecDepth 100000
section AMW
variable {mt : Nat → MT} {G : AG} {m pc m' δ : Nat} {Y Y' : MethodName} {CD CD' : ByteArray} {NL NL' : Nat} {RT RT' : Option FieldType} {HH HH' : Option (List (Nat × Nat × Nat × Nat))} {RK RK' : Nat}
theorem w_iconst (hm : mt m = (Y, CD, NL, RT, HH, RK)) {k : Int} {v : Int32} (hd : decode CD pc = .ok (.iconst k, 1)) (hv : Int32.ofInt k = v) : Snd mt G m pc (oConst (.int v) (pc + 1)) := by
  have e0 : (mt m).1 = Y := by rw [hm]
  have e1 : (mt m).2.1 = CD := by rw [hm]
  have e2 : (mt m).2.2.1 = NL := by rw [hm]
  have e3 : (mt m).2.2.2.1 = RT := by rw [hm]
  have e4 : (mt m).2.2.2.2.1 = HH := by rw [hm]
  have e5 : (mt m).2.2.2.2.2 = RK := by rw [hm]
  subst e0 e1 e2 e3 e4 e5
  exact s_iconst hd hv
theorem w_bipush (hm : mt m = (Y, CD, NL, RT, HH, RK)) {k : Int} {v : Int32} (hd : decode CD pc = .ok (.bipush k, 2)) (hv : (Int8.ofInt k).toInt32 = v) : Snd mt G m pc (oConst (.int v) (pc + 2)) := by
  have e0 : (mt m).1 = Y := by rw [hm]
  have e1 : (mt m).2.1 = CD := by rw [hm]
  have e2 : (mt m).2.2.1 = NL := by rw [hm]
  have e3 : (mt m).2.2.2.1 = RT := by rw [hm]
  have e4 : (mt m).2.2.2.2.1 = HH := by rw [hm]
  have e5 : (mt m).2.2.2.2.2 = RK := by rw [hm]
  subst e0 e1 e2 e3 e4 e5
  exact s_bipush hd hv
theorem w_sipush (hm : mt m = (Y, CD, NL, RT, HH, RK)) {k : Int} {v : Int32} (hd : decode CD pc = .ok (.sipush k, 3)) (hv : (Int16.ofInt k).toInt32 = v) : Snd mt G m pc (oConst (.int v) (pc + 3)) := by
  have e0 : (mt m).1 = Y := by rw [hm]
  have e1 : (mt m).2.1 = CD := by rw [hm]
  have e2 : (mt m).2.2.1 = NL := by rw [hm]
  have e3 : (mt m).2.2.2.1 = RT := by rw [hm]
  have e4 : (mt m).2.2.2.2.1 = HH := by rw [hm]
  have e5 : (mt m).2.2.2.2.2 = RK := by rw [hm]
  subst e0 e1 e2 e3 e4 e5
  exact s_sipush hd hv
theorem w_lconst (hm : mt m = (Y, CD, NL, RT, HH, RK)) {k : Fin 2} {v : Int64} (hd : decode CD pc = .ok (.lconst k, 1)) (hv : Int64.ofNat (k : Nat) = v) : Snd mt G m pc (oConst (.long v) (pc + 1)) := by
  have e0 : (mt m).1 = Y := by rw [hm]
  have e1 : (mt m).2.1 = CD := by rw [hm]
  have e2 : (mt m).2.2.1 = NL := by rw [hm]
  have e3 : (mt m).2.2.2.1 = RT := by rw [hm]
  have e4 : (mt m).2.2.2.2.1 = HH := by rw [hm]
  have e5 : (mt m).2.2.2.2.2 = RK := by rw [hm]
  subst e0 e1 e2 e3 e4 e5
  exact s_lconst hd hv
theorem w_null (hm : mt m = (Y, CD, NL, RT, HH, RK)) (hd : decode CD pc = .ok (.aconst_null, 1)) : Snd mt G m pc (oConst .null (pc + 1)) := by
  have e0 : (mt m).1 = Y := by rw [hm]
  have e1 : (mt m).2.1 = CD := by rw [hm]
  have e2 : (mt m).2.2.1 = NL := by rw [hm]
  have e3 : (mt m).2.2.2.1 = RT := by rw [hm]
  have e4 : (mt m).2.2.2.2.1 = HH := by rw [hm]
  have e5 : (mt m).2.2.2.2.2 = RK := by rw [hm]
  subst e0 e1 e2 e3 e4 e5
  exact s_null hd
theorem w_ldc (hm : mt m = (Y, CD, NL, RT, HH, RK)) {index : Nat} {v : Int32} (hd : decode CD pc = .ok (.ldc index, 2)) (hw : Cond.constant Y.cls index v ∈ lw_all) : Snd mt G m pc (oConst (.int v) (pc + 2)) := by
  have e0 : (mt m).1 = Y := by rw [hm]
  have e1 : (mt m).2.1 = CD := by rw [hm]
  have e2 : (mt m).2.2.1 = NL := by rw [hm]
  have e3 : (mt m).2.2.2.1 = RT := by rw [hm]
  have e4 : (mt m).2.2.2.2.1 = HH := by rw [hm]
  have e5 : (mt m).2.2.2.2.2 = RK := by rw [hm]
  subst e0 e1 e2 e3 e4 e5
  exact s_ldc hd hw
theorem w_ldcw (hm : mt m = (Y, CD, NL, RT, HH, RK)) {index : Nat} {v : Int32} (hd : decode CD pc = .ok (.ldc_w index, 3)) (hw : Cond.constant Y.cls index v ∈ lw_all) : Snd mt G m pc (oConst (.int v) (pc + 3)) := by
  have e0 : (mt m).1 = Y := by rw [hm]
  have e1 : (mt m).2.1 = CD := by rw [hm]
  have e2 : (mt m).2.2.1 = NL := by rw [hm]
  have e3 : (mt m).2.2.2.1 = RT := by rw [hm]
  have e4 : (mt m).2.2.2.2.1 = HH := by rw [hm]
  have e5 : (mt m).2.2.2.2.2 = RK := by rw [hm]
  subst e0 e1 e2 e3 e4 e5
  exact s_ldcw hd hw
theorem w_ldc2 (hm : mt m = (Y, CD, NL, RT, HH, RK)) {index : Nat} {v : Int64} (hd : decode CD pc = .ok (.ldc2_w index, 3)) (hw : Cond.constantLong Y.cls index v ∈ lw_all) : Snd mt G m pc (oConst (.long v) (pc + 3)) := by
  have e0 : (mt m).1 = Y := by rw [hm]
  have e1 : (mt m).2.1 = CD := by rw [hm]
  have e2 : (mt m).2.2.1 = NL := by rw [hm]
  have e3 : (mt m).2.2.2.1 = RT := by rw [hm]
  have e4 : (mt m).2.2.2.2.1 = HH := by rw [hm]
  have e5 : (mt m).2.2.2.2.2 = RK := by rw [hm]
  subst e0 e1 e2 e3 e4 e5
  exact s_ldc2 hd hw
theorem w_iload_n (hm : mt m = (Y, CD, NL, RT, HH, RK)) {k : Fin 4} (hd : decode CD pc = .ok (.iload_n k, 1)) : Snd mt G m pc (oIload (k : Nat) (pc + 1)) := by
  have e0 : (mt m).1 = Y := by rw [hm]
  have e1 : (mt m).2.1 = CD := by rw [hm]
  have e2 : (mt m).2.2.1 = NL := by rw [hm]
  have e3 : (mt m).2.2.2.1 = RT := by rw [hm]
  have e4 : (mt m).2.2.2.2.1 = HH := by rw [hm]
  have e5 : (mt m).2.2.2.2.2 = RK := by rw [hm]
  subst e0 e1 e2 e3 e4 e5
  exact s_iload_n hd
theorem w_iload (hm : mt m = (Y, CD, NL, RT, HH, RK)) {i : Nat} (hd : decode CD pc = .ok (.iload i, 2)) : Snd mt G m pc (oIload i (pc + 2)) := by
  have e0 : (mt m).1 = Y := by rw [hm]
  have e1 : (mt m).2.1 = CD := by rw [hm]
  have e2 : (mt m).2.2.1 = NL := by rw [hm]
  have e3 : (mt m).2.2.2.1 = RT := by rw [hm]
  have e4 : (mt m).2.2.2.2.1 = HH := by rw [hm]
  have e5 : (mt m).2.2.2.2.2 = RK := by rw [hm]
  subst e0 e1 e2 e3 e4 e5
  exact s_iload hd
theorem w_lload_n (hm : mt m = (Y, CD, NL, RT, HH, RK)) {k : Fin 4} (hd : decode CD pc = .ok (.lload_n k, 1)) : Snd mt G m pc (oLload (k : Nat) (pc + 1)) := by
  have e0 : (mt m).1 = Y := by rw [hm]
  have e1 : (mt m).2.1 = CD := by rw [hm]
  have e2 : (mt m).2.2.1 = NL := by rw [hm]
  have e3 : (mt m).2.2.2.1 = RT := by rw [hm]
  have e4 : (mt m).2.2.2.2.1 = HH := by rw [hm]
  have e5 : (mt m).2.2.2.2.2 = RK := by rw [hm]
  subst e0 e1 e2 e3 e4 e5
  exact s_lload_n hd
theorem w_aload_n (hm : mt m = (Y, CD, NL, RT, HH, RK)) {k : Fin 4} (hd : decode CD pc = .ok (.aload_n k, 1)) : Snd mt G m pc (oAload (k : Nat) (pc + 1)) := by
  have e0 : (mt m).1 = Y := by rw [hm]
  have e1 : (mt m).2.1 = CD := by rw [hm]
  have e2 : (mt m).2.2.1 = NL := by rw [hm]
  have e3 : (mt m).2.2.2.1 = RT := by rw [hm]
  have e4 : (mt m).2.2.2.2.1 = HH := by rw [hm]
  have e5 : (mt m).2.2.2.2.2 = RK := by rw [hm]
  subst e0 e1 e2 e3 e4 e5
  exact s_aload_n hd
theorem w_aload (hm : mt m = (Y, CD, NL, RT, HH, RK)) {i : Nat} (hd : decode CD pc = .ok (.aload i, 2)) : Snd mt G m pc (oAload i (pc + 2)) := by
  have e0 : (mt m).1 = Y := by rw [hm]
  have e1 : (mt m).2.1 = CD := by rw [hm]
  have e2 : (mt m).2.2.1 = NL := by rw [hm]
  have e3 : (mt m).2.2.2.1 = RT := by rw [hm]
  have e4 : (mt m).2.2.2.2.1 = HH := by rw [hm]
  have e5 : (mt m).2.2.2.2.2 = RK := by rw [hm]
  subst e0 e1 e2 e3 e4 e5
  exact s_aload hd
theorem w_istore_n (hm : mt m = (Y, CD, NL, RT, HH, RK)) {k : Fin 4} (hd : decode CD pc = .ok (.istore_n k, 1)) (hn : (k : Nat) < NL) : Snd mt G m pc (oIstore (k : Nat) (pc + 1)) := by
  have e0 : (mt m).1 = Y := by rw [hm]
  have e1 : (mt m).2.1 = CD := by rw [hm]
  have e2 : (mt m).2.2.1 = NL := by rw [hm]
  have e3 : (mt m).2.2.2.1 = RT := by rw [hm]
  have e4 : (mt m).2.2.2.2.1 = HH := by rw [hm]
  have e5 : (mt m).2.2.2.2.2 = RK := by rw [hm]
  subst e0 e1 e2 e3 e4 e5
  exact s_istore_n hd hn
theorem w_istore (hm : mt m = (Y, CD, NL, RT, HH, RK)) {i : Nat} (hd : decode CD pc = .ok (.istore i, 2)) (hn : i < NL) : Snd mt G m pc (oIstore i (pc + 2)) := by
  have e0 : (mt m).1 = Y := by rw [hm]
  have e1 : (mt m).2.1 = CD := by rw [hm]
  have e2 : (mt m).2.2.1 = NL := by rw [hm]
  have e3 : (mt m).2.2.2.1 = RT := by rw [hm]
  have e4 : (mt m).2.2.2.2.1 = HH := by rw [hm]
  have e5 : (mt m).2.2.2.2.2 = RK := by rw [hm]
  subst e0 e1 e2 e3 e4 e5
  exact s_istore hd hn
theorem w_astore_n (hm : mt m = (Y, CD, NL, RT, HH, RK)) {k : Fin 4} (hd : decode CD pc = .ok (.astore_n k, 1)) (hn : (k : Nat) < NL) : Snd mt G m pc (oAstore (k : Nat) (pc + 1)) := by
  have e0 : (mt m).1 = Y := by rw [hm]
  have e1 : (mt m).2.1 = CD := by rw [hm]
  have e2 : (mt m).2.2.1 = NL := by rw [hm]
  have e3 : (mt m).2.2.2.1 = RT := by rw [hm]
  have e4 : (mt m).2.2.2.2.1 = HH := by rw [hm]
  have e5 : (mt m).2.2.2.2.2 = RK := by rw [hm]
  subst e0 e1 e2 e3 e4 e5
  exact s_astore_n hd hn
theorem w_astore (hm : mt m = (Y, CD, NL, RT, HH, RK)) {i : Nat} (hd : decode CD pc = .ok (.astore i, 2)) (hn : i < NL) : Snd mt G m pc (oAstore i (pc + 2)) := by
  have e0 : (mt m).1 = Y := by rw [hm]
  have e1 : (mt m).2.1 = CD := by rw [hm]
  have e2 : (mt m).2.2.1 = NL := by rw [hm]
  have e3 : (mt m).2.2.2.1 = RT := by rw [hm]
  have e4 : (mt m).2.2.2.2.1 = HH := by rw [hm]
  have e5 : (mt m).2.2.2.2.2 = RK := by rw [hm]
  subst e0 e1 e2 e3 e4 e5
  exact s_astore hd hn
theorem w_iinc (hm : mt m = (Y, CD, NL, RT, HH, RK)) {i : Nat} {k : Int} {v : Int32} (hd : decode CD pc = .ok (.iinc i k, 3)) (hv : Int32.ofInt k = v) (hn : i < NL) : Snd mt G m pc (oIinc i v (pc + 3)) := by
  have e0 : (mt m).1 = Y := by rw [hm]
  have e1 : (mt m).2.1 = CD := by rw [hm]
  have e2 : (mt m).2.2.1 = NL := by rw [hm]
  have e3 : (mt m).2.2.2.1 = RT := by rw [hm]
  have e4 : (mt m).2.2.2.2.1 = HH := by rw [hm]
  have e5 : (mt m).2.2.2.2.2 = RK := by rw [hm]
  subst e0 e1 e2 e3 e4 e5
  exact s_iinc hd hv hn
theorem w_iadd (hm : mt m = (Y, CD, NL, RT, HH, RK)) (hd : decode CD pc = .ok (.iadd, 1)) : Snd mt G m pc (oBin (fun x y => x + y) (pc + 1)) := by
  have e0 : (mt m).1 = Y := by rw [hm]
  have e1 : (mt m).2.1 = CD := by rw [hm]
  have e2 : (mt m).2.2.1 = NL := by rw [hm]
  have e3 : (mt m).2.2.2.1 = RT := by rw [hm]
  have e4 : (mt m).2.2.2.2.1 = HH := by rw [hm]
  have e5 : (mt m).2.2.2.2.2 = RK := by rw [hm]
  subst e0 e1 e2 e3 e4 e5
  exact s_iadd hd
theorem w_isub (hm : mt m = (Y, CD, NL, RT, HH, RK)) (hd : decode CD pc = .ok (.isub, 1)) : Snd mt G m pc (oBin (fun x y => x - y) (pc + 1)) := by
  have e0 : (mt m).1 = Y := by rw [hm]
  have e1 : (mt m).2.1 = CD := by rw [hm]
  have e2 : (mt m).2.2.1 = NL := by rw [hm]
  have e3 : (mt m).2.2.2.1 = RT := by rw [hm]
  have e4 : (mt m).2.2.2.2.1 = HH := by rw [hm]
  have e5 : (mt m).2.2.2.2.2 = RK := by rw [hm]
  subst e0 e1 e2 e3 e4 e5
  exact s_isub hd
theorem w_imul (hm : mt m = (Y, CD, NL, RT, HH, RK)) (hd : decode CD pc = .ok (.imul, 1)) : Snd mt G m pc (oBin (fun x y => x * y) (pc + 1)) := by
  have e0 : (mt m).1 = Y := by rw [hm]
  have e1 : (mt m).2.1 = CD := by rw [hm]
  have e2 : (mt m).2.2.1 = NL := by rw [hm]
  have e3 : (mt m).2.2.2.1 = RT := by rw [hm]
  have e4 : (mt m).2.2.2.2.1 = HH := by rw [hm]
  have e5 : (mt m).2.2.2.2.2 = RK := by rw [hm]
  subst e0 e1 e2 e3 e4 e5
  exact s_imul hd
theorem w_iand (hm : mt m = (Y, CD, NL, RT, HH, RK)) (hd : decode CD pc = .ok (.iand, 1)) : Snd mt G m pc (oBin (fun x y => x &&& y) (pc + 1)) := by
  have e0 : (mt m).1 = Y := by rw [hm]
  have e1 : (mt m).2.1 = CD := by rw [hm]
  have e2 : (mt m).2.2.1 = NL := by rw [hm]
  have e3 : (mt m).2.2.2.1 = RT := by rw [hm]
  have e4 : (mt m).2.2.2.2.1 = HH := by rw [hm]
  have e5 : (mt m).2.2.2.2.2 = RK := by rw [hm]
  subst e0 e1 e2 e3 e4 e5
  exact s_iand hd
theorem w_ior (hm : mt m = (Y, CD, NL, RT, HH, RK)) (hd : decode CD pc = .ok (.ior, 1)) : Snd mt G m pc (oBin (fun x y => x ||| y) (pc + 1)) := by
  have e0 : (mt m).1 = Y := by rw [hm]
  have e1 : (mt m).2.1 = CD := by rw [hm]
  have e2 : (mt m).2.2.1 = NL := by rw [hm]
  have e3 : (mt m).2.2.2.1 = RT := by rw [hm]
  have e4 : (mt m).2.2.2.2.1 = HH := by rw [hm]
  have e5 : (mt m).2.2.2.2.2 = RK := by rw [hm]
  subst e0 e1 e2 e3 e4 e5
  exact s_ior hd
theorem w_ixor (hm : mt m = (Y, CD, NL, RT, HH, RK)) (hd : decode CD pc = .ok (.ixor, 1)) : Snd mt G m pc (oBin (fun x y => x ^^^ y) (pc + 1)) := by
  have e0 : (mt m).1 = Y := by rw [hm]
  have e1 : (mt m).2.1 = CD := by rw [hm]
  have e2 : (mt m).2.2.1 = NL := by rw [hm]
  have e3 : (mt m).2.2.2.1 = RT := by rw [hm]
  have e4 : (mt m).2.2.2.2.1 = HH := by rw [hm]
  have e5 : (mt m).2.2.2.2.2 = RK := by rw [hm]
  subst e0 e1 e2 e3 e4 e5
  exact s_ixor hd
theorem w_ishl (hm : mt m = (Y, CD, NL, RT, HH, RK)) (hd : decode CD pc = .ok (.ishl, 1)) : Snd mt G m pc (oBin (fun x y => x <<< (y &&& 31)) (pc + 1)) := by
  have e0 : (mt m).1 = Y := by rw [hm]
  have e1 : (mt m).2.1 = CD := by rw [hm]
  have e2 : (mt m).2.2.1 = NL := by rw [hm]
  have e3 : (mt m).2.2.2.1 = RT := by rw [hm]
  have e4 : (mt m).2.2.2.2.1 = HH := by rw [hm]
  have e5 : (mt m).2.2.2.2.2 = RK := by rw [hm]
  subst e0 e1 e2 e3 e4 e5
  exact s_ishl hd
theorem w_ishr (hm : mt m = (Y, CD, NL, RT, HH, RK)) (hd : decode CD pc = .ok (.ishr, 1)) : Snd mt G m pc (oBin (fun x y => x >>> (y &&& 31)) (pc + 1)) := by
  have e0 : (mt m).1 = Y := by rw [hm]
  have e1 : (mt m).2.1 = CD := by rw [hm]
  have e2 : (mt m).2.2.1 = NL := by rw [hm]
  have e3 : (mt m).2.2.2.1 = RT := by rw [hm]
  have e4 : (mt m).2.2.2.2.1 = HH := by rw [hm]
  have e5 : (mt m).2.2.2.2.2 = RK := by rw [hm]
  subst e0 e1 e2 e3 e4 e5
  exact s_ishr hd
theorem w_iushr (hm : mt m = (Y, CD, NL, RT, HH, RK)) (hd : decode CD pc = .ok (.iushr, 1)) : Snd mt G m pc (oBin (fun x y => (x.toUInt32 >>> (y.toUInt32 &&& Int32.toUInt32 31)).toInt32) (pc + 1)) := by
  have e0 : (mt m).1 = Y := by rw [hm]
  have e1 : (mt m).2.1 = CD := by rw [hm]
  have e2 : (mt m).2.2.1 = NL := by rw [hm]
  have e3 : (mt m).2.2.2.1 = RT := by rw [hm]
  have e4 : (mt m).2.2.2.2.1 = HH := by rw [hm]
  have e5 : (mt m).2.2.2.2.2 = RK := by rw [hm]
  subst e0 e1 e2 e3 e4 e5
  exact s_iushr hd
theorem w_idiv (hm : mt m = (Y, CD, NL, RT, HH, RK)) (hd : decode CD pc = .ok (.idiv, 1)) : Snd mt G m pc (oDiv (fun x y => x / y) (pc + 1)) := by
  have e0 : (mt m).1 = Y := by rw [hm]
  have e1 : (mt m).2.1 = CD := by rw [hm]
  have e2 : (mt m).2.2.1 = NL := by rw [hm]
  have e3 : (mt m).2.2.2.1 = RT := by rw [hm]
  have e4 : (mt m).2.2.2.2.1 = HH := by rw [hm]
  have e5 : (mt m).2.2.2.2.2 = RK := by rw [hm]
  subst e0 e1 e2 e3 e4 e5
  exact s_idiv hd
theorem w_irem (hm : mt m = (Y, CD, NL, RT, HH, RK)) (hd : decode CD pc = .ok (.irem, 1)) : Snd mt G m pc (oDiv (fun x y => x - x / y * y) (pc + 1)) := by
  have e0 : (mt m).1 = Y := by rw [hm]
  have e1 : (mt m).2.1 = CD := by rw [hm]
  have e2 : (mt m).2.2.1 = NL := by rw [hm]
  have e3 : (mt m).2.2.2.1 = RT := by rw [hm]
  have e4 : (mt m).2.2.2.2.1 = HH := by rw [hm]
  have e5 : (mt m).2.2.2.2.2 = RK := by rw [hm]
  subst e0 e1 e2 e3 e4 e5
  exact s_irem hd
theorem w_ldiv (hm : mt m = (Y, CD, NL, RT, HH, RK)) (hd : decode CD pc = .ok (.ldiv, 1)) : Snd mt G m pc (oLdiv (fun x y => .long (x / y)) (pc + 1)) := by
  have e0 : (mt m).1 = Y := by rw [hm]
  have e1 : (mt m).2.1 = CD := by rw [hm]
  have e2 : (mt m).2.2.1 = NL := by rw [hm]
  have e3 : (mt m).2.2.2.1 = RT := by rw [hm]
  have e4 : (mt m).2.2.2.2.1 = HH := by rw [hm]
  have e5 : (mt m).2.2.2.2.2 = RK := by rw [hm]
  subst e0 e1 e2 e3 e4 e5
  exact s_ldiv hd
theorem w_ineg (hm : mt m = (Y, CD, NL, RT, HH, RK)) (hd : decode CD pc = .ok (.ineg, 1)) : Snd mt G m pc (oUn (fun x => .int (-x)) (pc + 1)) := by
  have e0 : (mt m).1 = Y := by rw [hm]
  have e1 : (mt m).2.1 = CD := by rw [hm]
  have e2 : (mt m).2.2.1 = NL := by rw [hm]
  have e3 : (mt m).2.2.2.1 = RT := by rw [hm]
  have e4 : (mt m).2.2.2.2.1 = HH := by rw [hm]
  have e5 : (mt m).2.2.2.2.2 = RK := by rw [hm]
  subst e0 e1 e2 e3 e4 e5
  exact s_ineg hd
theorem w_i2l (hm : mt m = (Y, CD, NL, RT, HH, RK)) (hd : decode CD pc = .ok (.i2l, 1)) : Snd mt G m pc (oUn (fun x => .long x.toInt64) (pc + 1)) := by
  have e0 : (mt m).1 = Y := by rw [hm]
  have e1 : (mt m).2.1 = CD := by rw [hm]
  have e2 : (mt m).2.2.1 = NL := by rw [hm]
  have e3 : (mt m).2.2.2.1 = RT := by rw [hm]
  have e4 : (mt m).2.2.2.2.1 = HH := by rw [hm]
  have e5 : (mt m).2.2.2.2.2 = RK := by rw [hm]
  subst e0 e1 e2 e3 e4 e5
  exact s_i2l hd
theorem w_i2b (hm : mt m = (Y, CD, NL, RT, HH, RK)) (hd : decode CD pc = .ok (.i2b, 1)) : Snd mt G m pc (oUn (fun x => .int x.toInt8.toInt32) (pc + 1)) := by
  have e0 : (mt m).1 = Y := by rw [hm]
  have e1 : (mt m).2.1 = CD := by rw [hm]
  have e2 : (mt m).2.2.1 = NL := by rw [hm]
  have e3 : (mt m).2.2.2.1 = RT := by rw [hm]
  have e4 : (mt m).2.2.2.2.1 = HH := by rw [hm]
  have e5 : (mt m).2.2.2.2.2 = RK := by rw [hm]
  subst e0 e1 e2 e3 e4 e5
  exact s_i2b hd
theorem w_i2c (hm : mt m = (Y, CD, NL, RT, HH, RK)) (hd : decode CD pc = .ok (.i2c, 1)) : Snd mt G m pc (oUn (fun x => .int (x.toUInt32 % 65536).toInt32) (pc + 1)) := by
  have e0 : (mt m).1 = Y := by rw [hm]
  have e1 : (mt m).2.1 = CD := by rw [hm]
  have e2 : (mt m).2.2.1 = NL := by rw [hm]
  have e3 : (mt m).2.2.2.1 = RT := by rw [hm]
  have e4 : (mt m).2.2.2.2.1 = HH := by rw [hm]
  have e5 : (mt m).2.2.2.2.2 = RK := by rw [hm]
  subst e0 e1 e2 e3 e4 e5
  exact s_i2c hd
theorem w_l2i (hm : mt m = (Y, CD, NL, RT, HH, RK)) (hd : decode CD pc = .ok (.l2i, 1)) : Snd mt G m pc (oLun (fun x => .int x.toInt32) (pc + 1)) := by
  have e0 : (mt m).1 = Y := by rw [hm]
  have e1 : (mt m).2.1 = CD := by rw [hm]
  have e2 : (mt m).2.2.1 = NL := by rw [hm]
  have e3 : (mt m).2.2.2.1 = RT := by rw [hm]
  have e4 : (mt m).2.2.2.2.1 = HH := by rw [hm]
  have e5 : (mt m).2.2.2.2.2 = RK := by rw [hm]
  subst e0 e1 e2 e3 e4 e5
  exact s_l2i hd
theorem w_lneg (hm : mt m = (Y, CD, NL, RT, HH, RK)) (hd : decode CD pc = .ok (.lneg, 1)) : Snd mt G m pc (oLun (fun x => .long (-x)) (pc + 1)) := by
  have e0 : (mt m).1 = Y := by rw [hm]
  have e1 : (mt m).2.1 = CD := by rw [hm]
  have e2 : (mt m).2.2.1 = NL := by rw [hm]
  have e3 : (mt m).2.2.2.1 = RT := by rw [hm]
  have e4 : (mt m).2.2.2.2.1 = HH := by rw [hm]
  have e5 : (mt m).2.2.2.2.2 = RK := by rw [hm]
  subst e0 e1 e2 e3 e4 e5
  exact s_lneg hd
theorem w_ladd (hm : mt m = (Y, CD, NL, RT, HH, RK)) (hd : decode CD pc = .ok (.ladd, 1)) : Snd mt G m pc (oLbin (fun x y => .long (x + y)) (pc + 1)) := by
  have e0 : (mt m).1 = Y := by rw [hm]
  have e1 : (mt m).2.1 = CD := by rw [hm]
  have e2 : (mt m).2.2.1 = NL := by rw [hm]
  have e3 : (mt m).2.2.2.1 = RT := by rw [hm]
  have e4 : (mt m).2.2.2.2.1 = HH := by rw [hm]
  have e5 : (mt m).2.2.2.2.2 = RK := by rw [hm]
  subst e0 e1 e2 e3 e4 e5
  exact s_ladd hd
theorem w_lsub (hm : mt m = (Y, CD, NL, RT, HH, RK)) (hd : decode CD pc = .ok (.lsub, 1)) : Snd mt G m pc (oLbin (fun x y => .long (x - y)) (pc + 1)) := by
  have e0 : (mt m).1 = Y := by rw [hm]
  have e1 : (mt m).2.1 = CD := by rw [hm]
  have e2 : (mt m).2.2.1 = NL := by rw [hm]
  have e3 : (mt m).2.2.2.1 = RT := by rw [hm]
  have e4 : (mt m).2.2.2.2.1 = HH := by rw [hm]
  have e5 : (mt m).2.2.2.2.2 = RK := by rw [hm]
  subst e0 e1 e2 e3 e4 e5
  exact s_lsub hd
theorem w_lmul (hm : mt m = (Y, CD, NL, RT, HH, RK)) (hd : decode CD pc = .ok (.lmul, 1)) : Snd mt G m pc (oLbin (fun x y => .long (x * y)) (pc + 1)) := by
  have e0 : (mt m).1 = Y := by rw [hm]
  have e1 : (mt m).2.1 = CD := by rw [hm]
  have e2 : (mt m).2.2.1 = NL := by rw [hm]
  have e3 : (mt m).2.2.2.1 = RT := by rw [hm]
  have e4 : (mt m).2.2.2.2.1 = HH := by rw [hm]
  have e5 : (mt m).2.2.2.2.2 = RK := by rw [hm]
  subst e0 e1 e2 e3 e4 e5
  exact s_lmul hd
theorem w_lcmp (hm : mt m = (Y, CD, NL, RT, HH, RK)) (hd : decode CD pc = .ok (.lcmp, 1)) : Snd mt G m pc (oLbin (fun x y => .int (lg_cmp x y)) (pc + 1)) := by
  have e0 : (mt m).1 = Y := by rw [hm]
  have e1 : (mt m).2.1 = CD := by rw [hm]
  have e2 : (mt m).2.2.1 = NL := by rw [hm]
  have e3 : (mt m).2.2.2.1 = RT := by rw [hm]
  have e4 : (mt m).2.2.2.2.1 = HH := by rw [hm]
  have e5 : (mt m).2.2.2.2.2 = RK := by rw [hm]
  subst e0 e1 e2 e3 e4 e5
  exact s_lcmp hd
theorem w_dup (hm : mt m = (Y, CD, NL, RT, HH, RK)) (hd : decode CD pc = .ok (.dup, 1)) : Snd mt G m pc (oDup (pc + 1)) := by
  have e0 : (mt m).1 = Y := by rw [hm]
  have e1 : (mt m).2.1 = CD := by rw [hm]
  have e2 : (mt m).2.2.1 = NL := by rw [hm]
  have e3 : (mt m).2.2.2.1 = RT := by rw [hm]
  have e4 : (mt m).2.2.2.2.1 = HH := by rw [hm]
  have e5 : (mt m).2.2.2.2.2 = RK := by rw [hm]
  subst e0 e1 e2 e3 e4 e5
  exact s_dup hd
theorem w_pop (hm : mt m = (Y, CD, NL, RT, HH, RK)) (hd : decode CD pc = .ok (.pop, 1)) : Snd mt G m pc (oPop (pc + 1)) := by
  have e0 : (mt m).1 = Y := by rw [hm]
  have e1 : (mt m).2.1 = CD := by rw [hm]
  have e2 : (mt m).2.2.1 = NL := by rw [hm]
  have e3 : (mt m).2.2.2.1 = RT := by rw [hm]
  have e4 : (mt m).2.2.2.2.1 = HH := by rw [hm]
  have e5 : (mt m).2.2.2.2.2 = RK := by rw [hm]
  subst e0 e1 e2 e3 e4 e5
  exact s_pop hd
theorem w_dup_x1 (hm : mt m = (Y, CD, NL, RT, HH, RK)) (hd : decode CD pc = .ok (.dup_x1, 1)) : Snd mt G m pc (oDupx1 (pc + 1)) := by
  have e0 : (mt m).1 = Y := by rw [hm]
  have e1 : (mt m).2.1 = CD := by rw [hm]
  have e2 : (mt m).2.2.1 = NL := by rw [hm]
  have e3 : (mt m).2.2.2.1 = RT := by rw [hm]
  have e4 : (mt m).2.2.2.2.1 = HH := by rw [hm]
  have e5 : (mt m).2.2.2.2.2 = RK := by rw [hm]
  subst e0 e1 e2 e3 e4 e5
  exact s_dup_x1 hd
theorem w_dup2 (hm : mt m = (Y, CD, NL, RT, HH, RK)) (hd : decode CD pc = .ok (.dup2, 1)) : Snd mt G m pc (oDup2 (pc + 1)) := by
  have e0 : (mt m).1 = Y := by rw [hm]
  have e1 : (mt m).2.1 = CD := by rw [hm]
  have e2 : (mt m).2.2.1 = NL := by rw [hm]
  have e3 : (mt m).2.2.2.1 = RT := by rw [hm]
  have e4 : (mt m).2.2.2.2.1 = HH := by rw [hm]
  have e5 : (mt m).2.2.2.2.2 = RK := by rw [hm]
  subst e0 e1 e2 e3 e4 e5
  exact s_dup2 hd
theorem w_goto (hm : mt m = (Y, CD, NL, RT, HH, RK)) {off : Int} {tgt : Nat} (hd : decode CD pc = .ok (.goto off, 3)) (ht : (pc : Int) + off = (tgt : Int)) : Snd mt G m pc (oGoto tgt) := by
  have e0 : (mt m).1 = Y := by rw [hm]
  have e1 : (mt m).2.1 = CD := by rw [hm]
  have e2 : (mt m).2.2.1 = NL := by rw [hm]
  have e3 : (mt m).2.2.2.1 = RT := by rw [hm]
  have e4 : (mt m).2.2.2.2.1 = HH := by rw [hm]
  have e5 : (mt m).2.2.2.2.2 = RK := by rw [hm]
  subst e0 e1 e2 e3 e4 e5
  exact s_goto hd ht
theorem w_if_eq (hm : mt m = (Y, CD, NL, RT, HH, RK)) {off : Int} {tgt : Nat} (hd : decode CD pc = .ok (.ifCond .eq off, 3)) (ht : (pc : Int) + off = (tgt : Int)) : Snd mt G m pc (oIfEq tgt (pc + 3)) := by
  have e0 : (mt m).1 = Y := by rw [hm]
  have e1 : (mt m).2.1 = CD := by rw [hm]
  have e2 : (mt m).2.2.1 = NL := by rw [hm]
  have e3 : (mt m).2.2.2.1 = RT := by rw [hm]
  have e4 : (mt m).2.2.2.2.1 = HH := by rw [hm]
  have e5 : (mt m).2.2.2.2.2 = RK := by rw [hm]
  subst e0 e1 e2 e3 e4 e5
  exact s_if_eq hd ht
theorem w_if_ne (hm : mt m = (Y, CD, NL, RT, HH, RK)) {off : Int} {tgt : Nat} (hd : decode CD pc = .ok (.ifCond .ne off, 3)) (ht : (pc : Int) + off = (tgt : Int)) : Snd mt G m pc (oIfEq (pc + 3) tgt) := by
  have e0 : (mt m).1 = Y := by rw [hm]
  have e1 : (mt m).2.1 = CD := by rw [hm]
  have e2 : (mt m).2.2.1 = NL := by rw [hm]
  have e3 : (mt m).2.2.2.1 = RT := by rw [hm]
  have e4 : (mt m).2.2.2.2.1 = HH := by rw [hm]
  have e5 : (mt m).2.2.2.2.2 = RK := by rw [hm]
  subst e0 e1 e2 e3 e4 e5
  exact s_if_ne hd ht
theorem w_if_lt (hm : mt m = (Y, CD, NL, RT, HH, RK)) {off : Int} {tgt : Nat} (hd : decode CD pc = .ok (.ifCond .lt off, 3)) (ht : (pc : Int) + off = (tgt : Int)) : Snd mt G m pc (oIfLt tgt (pc + 3)) := by
  have e0 : (mt m).1 = Y := by rw [hm]
  have e1 : (mt m).2.1 = CD := by rw [hm]
  have e2 : (mt m).2.2.1 = NL := by rw [hm]
  have e3 : (mt m).2.2.2.1 = RT := by rw [hm]
  have e4 : (mt m).2.2.2.2.1 = HH := by rw [hm]
  have e5 : (mt m).2.2.2.2.2 = RK := by rw [hm]
  subst e0 e1 e2 e3 e4 e5
  exact s_if_lt hd ht
theorem w_if_gt (hm : mt m = (Y, CD, NL, RT, HH, RK)) {off : Int} {tgt : Nat} (hd : decode CD pc = .ok (.ifCond .gt off, 3)) (ht : (pc : Int) + off = (tgt : Int)) : Snd mt G m pc (oIfGt tgt (pc + 3)) := by
  have e0 : (mt m).1 = Y := by rw [hm]
  have e1 : (mt m).2.1 = CD := by rw [hm]
  have e2 : (mt m).2.2.1 = NL := by rw [hm]
  have e3 : (mt m).2.2.2.1 = RT := by rw [hm]
  have e4 : (mt m).2.2.2.2.1 = HH := by rw [hm]
  have e5 : (mt m).2.2.2.2.2 = RK := by rw [hm]
  subst e0 e1 e2 e3 e4 e5
  exact s_if_gt hd ht
theorem w_if_le (hm : mt m = (Y, CD, NL, RT, HH, RK)) {off : Int} {tgt : Nat} (hd : decode CD pc = .ok (.ifCond .le off, 3)) (ht : (pc : Int) + off = (tgt : Int)) : Snd mt G m pc (oIfLe tgt (pc + 3)) := by
  have e0 : (mt m).1 = Y := by rw [hm]
  have e1 : (mt m).2.1 = CD := by rw [hm]
  have e2 : (mt m).2.2.1 = NL := by rw [hm]
  have e3 : (mt m).2.2.2.1 = RT := by rw [hm]
  have e4 : (mt m).2.2.2.2.1 = HH := by rw [hm]
  have e5 : (mt m).2.2.2.2.2 = RK := by rw [hm]
  subst e0 e1 e2 e3 e4 e5
  exact s_if_le hd ht
theorem w_if_ge (hm : mt m = (Y, CD, NL, RT, HH, RK)) {off : Int} {tgt : Nat} (hd : decode CD pc = .ok (.ifCond .ge off, 3)) (ht : (pc : Int) + off = (tgt : Int)) : Snd mt G m pc (oIfGe tgt (pc + 3)) := by
  have e0 : (mt m).1 = Y := by rw [hm]
  have e1 : (mt m).2.1 = CD := by rw [hm]
  have e2 : (mt m).2.2.1 = NL := by rw [hm]
  have e3 : (mt m).2.2.2.1 = RT := by rw [hm]
  have e4 : (mt m).2.2.2.2.1 = HH := by rw [hm]
  have e5 : (mt m).2.2.2.2.2 = RK := by rw [hm]
  subst e0 e1 e2 e3 e4 e5
  exact s_if_ge hd ht
theorem w_icmp_eq (hm : mt m = (Y, CD, NL, RT, HH, RK)) {off : Int} {tgt : Nat} (hd : decode CD pc = .ok (.if_icmp .eq off, 3)) (ht : (pc : Int) + off = (tgt : Int)) : Snd mt G m pc (oCmpEq tgt (pc + 3)) := by
  have e0 : (mt m).1 = Y := by rw [hm]
  have e1 : (mt m).2.1 = CD := by rw [hm]
  have e2 : (mt m).2.2.1 = NL := by rw [hm]
  have e3 : (mt m).2.2.2.1 = RT := by rw [hm]
  have e4 : (mt m).2.2.2.2.1 = HH := by rw [hm]
  have e5 : (mt m).2.2.2.2.2 = RK := by rw [hm]
  subst e0 e1 e2 e3 e4 e5
  exact s_icmp_eq hd ht
theorem w_icmp_ne (hm : mt m = (Y, CD, NL, RT, HH, RK)) {off : Int} {tgt : Nat} (hd : decode CD pc = .ok (.if_icmp .ne off, 3)) (ht : (pc : Int) + off = (tgt : Int)) : Snd mt G m pc (oCmpEq (pc + 3) tgt) := by
  have e0 : (mt m).1 = Y := by rw [hm]
  have e1 : (mt m).2.1 = CD := by rw [hm]
  have e2 : (mt m).2.2.1 = NL := by rw [hm]
  have e3 : (mt m).2.2.2.1 = RT := by rw [hm]
  have e4 : (mt m).2.2.2.2.1 = HH := by rw [hm]
  have e5 : (mt m).2.2.2.2.2 = RK := by rw [hm]
  subst e0 e1 e2 e3 e4 e5
  exact s_icmp_ne hd ht
theorem w_icmp_lt (hm : mt m = (Y, CD, NL, RT, HH, RK)) {off : Int} {tgt : Nat} (hd : decode CD pc = .ok (.if_icmp .lt off, 3)) (ht : (pc : Int) + off = (tgt : Int)) : Snd mt G m pc (oCmpLt tgt (pc + 3)) := by
  have e0 : (mt m).1 = Y := by rw [hm]
  have e1 : (mt m).2.1 = CD := by rw [hm]
  have e2 : (mt m).2.2.1 = NL := by rw [hm]
  have e3 : (mt m).2.2.2.1 = RT := by rw [hm]
  have e4 : (mt m).2.2.2.2.1 = HH := by rw [hm]
  have e5 : (mt m).2.2.2.2.2 = RK := by rw [hm]
  subst e0 e1 e2 e3 e4 e5
  exact s_icmp_lt hd ht
theorem w_icmp_ge (hm : mt m = (Y, CD, NL, RT, HH, RK)) {off : Int} {tgt : Nat} (hd : decode CD pc = .ok (.if_icmp .ge off, 3)) (ht : (pc : Int) + off = (tgt : Int)) : Snd mt G m pc (oCmpGe tgt (pc + 3)) := by
  have e0 : (mt m).1 = Y := by rw [hm]
  have e1 : (mt m).2.1 = CD := by rw [hm]
  have e2 : (mt m).2.2.1 = NL := by rw [hm]
  have e3 : (mt m).2.2.2.1 = RT := by rw [hm]
  have e4 : (mt m).2.2.2.2.1 = HH := by rw [hm]
  have e5 : (mt m).2.2.2.2.2 = RK := by rw [hm]
  subst e0 e1 e2 e3 e4 e5
  exact s_icmp_ge hd ht
theorem w_icmp_gt (hm : mt m = (Y, CD, NL, RT, HH, RK)) {off : Int} {tgt : Nat} (hd : decode CD pc = .ok (.if_icmp .gt off, 3)) (ht : (pc : Int) + off = (tgt : Int)) : Snd mt G m pc (oCmpGt tgt (pc + 3)) := by
  have e0 : (mt m).1 = Y := by rw [hm]
  have e1 : (mt m).2.1 = CD := by rw [hm]
  have e2 : (mt m).2.2.1 = NL := by rw [hm]
  have e3 : (mt m).2.2.2.1 = RT := by rw [hm]
  have e4 : (mt m).2.2.2.2.1 = HH := by rw [hm]
  have e5 : (mt m).2.2.2.2.2 = RK := by rw [hm]
  subst e0 e1 e2 e3 e4 e5
  exact s_icmp_gt hd ht
theorem w_icmp_le (hm : mt m = (Y, CD, NL, RT, HH, RK)) {off : Int} {tgt : Nat} (hd : decode CD pc = .ok (.if_icmp .le off, 3)) (ht : (pc : Int) + off = (tgt : Int)) : Snd mt G m pc (oCmpLe tgt (pc + 3)) := by
  have e0 : (mt m).1 = Y := by rw [hm]
  have e1 : (mt m).2.1 = CD := by rw [hm]
  have e2 : (mt m).2.2.1 = NL := by rw [hm]
  have e3 : (mt m).2.2.2.1 = RT := by rw [hm]
  have e4 : (mt m).2.2.2.2.1 = HH := by rw [hm]
  have e5 : (mt m).2.2.2.2.2 = RK := by rw [hm]
  subst e0 e1 e2 e3 e4 e5
  exact s_icmp_le hd ht
theorem w_ifnull (hm : mt m = (Y, CD, NL, RT, HH, RK)) {off : Int} {tgt : Nat} (hd : decode CD pc = .ok (.ifnull off, 3)) (ht : (pc : Int) + off = (tgt : Int)) : Snd mt G m pc (oIfNull tgt (pc + 3)) := by
  have e0 : (mt m).1 = Y := by rw [hm]
  have e1 : (mt m).2.1 = CD := by rw [hm]
  have e2 : (mt m).2.2.1 = NL := by rw [hm]
  have e3 : (mt m).2.2.2.1 = RT := by rw [hm]
  have e4 : (mt m).2.2.2.2.1 = HH := by rw [hm]
  have e5 : (mt m).2.2.2.2.2 = RK := by rw [hm]
  subst e0 e1 e2 e3 e4 e5
  exact s_ifnull hd ht
theorem w_ifnonnull (hm : mt m = (Y, CD, NL, RT, HH, RK)) {off : Int} {tgt : Nat} (hd : decode CD pc = .ok (.ifnonnull off, 3)) (ht : (pc : Int) + off = (tgt : Int)) : Snd mt G m pc (oIfNull (pc + 3) tgt) := by
  have e0 : (mt m).1 = Y := by rw [hm]
  have e1 : (mt m).2.1 = CD := by rw [hm]
  have e2 : (mt m).2.2.1 = NL := by rw [hm]
  have e3 : (mt m).2.2.2.1 = RT := by rw [hm]
  have e4 : (mt m).2.2.2.2.1 = HH := by rw [hm]
  have e5 : (mt m).2.2.2.2.2 = RK := by rw [hm]
  subst e0 e1 e2 e3 e4 e5
  exact s_ifnonnull hd ht
theorem w_acmp_eq (hm : mt m = (Y, CD, NL, RT, HH, RK)) {off : Int} {tgt : Nat} (hd : decode CD pc = .ok (.if_acmp .eq off, 3)) (ht : (pc : Int) + off = (tgt : Int)) : Snd mt G m pc (oAcmp tgt (pc + 3)) := by
  have e0 : (mt m).1 = Y := by rw [hm]
  have e1 : (mt m).2.1 = CD := by rw [hm]
  have e2 : (mt m).2.2.1 = NL := by rw [hm]
  have e3 : (mt m).2.2.2.1 = RT := by rw [hm]
  have e4 : (mt m).2.2.2.2.1 = HH := by rw [hm]
  have e5 : (mt m).2.2.2.2.2 = RK := by rw [hm]
  subst e0 e1 e2 e3 e4 e5
  exact s_acmp_eq hd ht
theorem w_acmp_ne (hm : mt m = (Y, CD, NL, RT, HH, RK)) {off : Int} {tgt : Nat} (hd : decode CD pc = .ok (.if_acmp .ne off, 3)) (ht : (pc : Int) + off = (tgt : Int)) : Snd mt G m pc (oAcmp (pc + 3) tgt) := by
  have e0 : (mt m).1 = Y := by rw [hm]
  have e1 : (mt m).2.1 = CD := by rw [hm]
  have e2 : (mt m).2.2.1 = NL := by rw [hm]
  have e3 : (mt m).2.2.2.1 = RT := by rw [hm]
  have e4 : (mt m).2.2.2.2.1 = HH := by rw [hm]
  have e5 : (mt m).2.2.2.2.2 = RK := by rw [hm]
  subst e0 e1 e2 e3 e4 e5
  exact s_acmp_ne hd ht
theorem w_getf (hm : mt m = (Y, CD, NL, RT, HH, RK)) {index k : Nat} {ts : List Nat} (hd : decode CD pc = .ok (.getfield index, 3)) (hf : FOK Y.cls index k ts) : Snd mt G m pc (oGetf ts k (pc + 3)) := by
  have e0 : (mt m).1 = Y := by rw [hm]
  have e1 : (mt m).2.1 = CD := by rw [hm]
  have e2 : (mt m).2.2.1 = NL := by rw [hm]
  have e3 : (mt m).2.2.2.1 = RT := by rw [hm]
  have e4 : (mt m).2.2.2.2.1 = HH := by rw [hm]
  have e5 : (mt m).2.2.2.2.2 = RK := by rw [hm]
  subst e0 e1 e2 e3 e4 e5
  exact s_getf hd hf
theorem w_getfN (hm : mt m = (Y, CD, NL, RT, HH, RK)) {index k : Nat} {ts : List Nat} (hd : decode CD pc = .ok (.getfield index, 3)) (hf : FOKN Y.cls index k ts) : Snd mt G m pc (oGetf ts k (pc + 3)) := by
  have e0 : (mt m).1 = Y := by rw [hm]
  have e1 : (mt m).2.1 = CD := by rw [hm]
  have e2 : (mt m).2.2.1 = NL := by rw [hm]
  have e3 : (mt m).2.2.2.1 = RT := by rw [hm]
  have e4 : (mt m).2.2.2.2.1 = HH := by rw [hm]
  have e5 : (mt m).2.2.2.2.2 = RK := by rw [hm]
  subst e0 e1 e2 e3 e4 e5
  exact s_getfN hd hf
theorem w_gets (hm : mt m = (Y, CD, NL, RT, HH, RK)) {index j : Nat} {C n d : String} (hd : decode CD pc = .ok (.getstatic index, 3)) (hv : stL[j]? = some (C, n, d)) (hq : Cond.fieldLink Y.cls index C n d ∈ lw_all) : Snd mt G m pc (oGets j (pc + 3)) := by
  have e0 : (mt m).1 = Y := by rw [hm]
  have e1 : (mt m).2.1 = CD := by rw [hm]
  have e2 : (mt m).2.2.1 = NL := by rw [hm]
  have e3 : (mt m).2.2.2.1 = RT := by rw [hm]
  have e4 : (mt m).2.2.2.2.1 = HH := by rw [hm]
  have e5 : (mt m).2.2.2.2.2 = RK := by rw [hm]
  subst e0 e1 e2 e3 e4 e5
  exact s_gets hd hv hq
theorem w_alen (hm : mt m = (Y, CD, NL, RT, HH, RK)) (hd : decode CD pc = .ok (.arraylength, 1)) : Snd mt G m pc (oAlen (pc + 1)) := by
  have e0 : (mt m).1 = Y := by rw [hm]
  have e1 : (mt m).2.1 = CD := by rw [hm]
  have e2 : (mt m).2.2.1 = NL := by rw [hm]
  have e3 : (mt m).2.2.2.1 = RT := by rw [hm]
  have e4 : (mt m).2.2.2.2.1 = HH := by rw [hm]
  have e5 : (mt m).2.2.2.2.2 = RK := by rw [hm]
  subst e0 e1 e2 e3 e4 e5
  exact s_alen hd
theorem w_iaload (hm : mt m = (Y, CD, NL, RT, HH, RK)) {kt : Nat} {ts : List Nat} (hd : decode CD pc = .ok (.iaload, 1)) (ha : aTy[kt]? = some .int) (h9 : kt < 99) (hts : ∀ t ∈ ts, t = kt + 100 ∨ t = kt + 1100) : Snd mt G m pc (oAld ts (pc + 1)) := by
  have e0 : (mt m).1 = Y := by rw [hm]
  have e1 : (mt m).2.1 = CD := by rw [hm]
  have e2 : (mt m).2.2.1 = NL := by rw [hm]
  have e3 : (mt m).2.2.2.1 = RT := by rw [hm]
  have e4 : (mt m).2.2.2.2.1 = HH := by rw [hm]
  have e5 : (mt m).2.2.2.2.2 = RK := by rw [hm]
  subst e0 e1 e2 e3 e4 e5
  exact s_iaload hd ha h9 hts
theorem w_baload (hm : mt m = (Y, CD, NL, RT, HH, RK)) {kt : Nat} {ts : List Nat} (hd : decode CD pc = .ok (.baload, 1)) (ha : aTy[kt]? = some .byte) (h9 : kt < 99) (hts : ∀ t ∈ ts, t = kt + 100 ∨ t = kt + 1100) : Snd mt G m pc (oAld ts (pc + 1)) := by
  have e0 : (mt m).1 = Y := by rw [hm]
  have e1 : (mt m).2.1 = CD := by rw [hm]
  have e2 : (mt m).2.2.1 = NL := by rw [hm]
  have e3 : (mt m).2.2.2.1 = RT := by rw [hm]
  have e4 : (mt m).2.2.2.2.1 = HH := by rw [hm]
  have e5 : (mt m).2.2.2.2.2 = RK := by rw [hm]
  subst e0 e1 e2 e3 e4 e5
  exact s_baload hd ha h9 hts
theorem w_laload (hm : mt m = (Y, CD, NL, RT, HH, RK)) {kt : Nat} {ts : List Nat} (hd : decode CD pc = .ok (.laload, 1)) (ha : aTy[kt]? = some .long) (h9 : kt < 99) (hts : ∀ t ∈ ts, t = kt + 100 ∨ t = kt + 1100) : Snd mt G m pc (oAld ts (pc + 1)) := by
  have e0 : (mt m).1 = Y := by rw [hm]
  have e1 : (mt m).2.1 = CD := by rw [hm]
  have e2 : (mt m).2.2.1 = NL := by rw [hm]
  have e3 : (mt m).2.2.2.1 = RT := by rw [hm]
  have e4 : (mt m).2.2.2.2.1 = HH := by rw [hm]
  have e5 : (mt m).2.2.2.2.2 = RK := by rw [hm]
  subst e0 e1 e2 e3 e4 e5
  exact s_laload hd ha h9 hts
theorem w_aaload (hm : mt m = (Y, CD, NL, RT, HH, RK)) {kt : Nat} {ts : List Nat} (hd : decode CD pc = .ok (.aaload, 1)) {ty : FieldType} (hty : ty.isReference = true) (ha : aTy[kt]? = some ty) (h9 : kt < 99) (hts : ∀ t ∈ ts, t = kt + 100 ∨ t = kt + 1100) : Snd mt G m pc (oAld ts (pc + 1)) := by
  have e0 : (mt m).1 = Y := by rw [hm]
  have e1 : (mt m).2.1 = CD := by rw [hm]
  have e2 : (mt m).2.2.1 = NL := by rw [hm]
  have e3 : (mt m).2.2.2.1 = RT := by rw [hm]
  have e4 : (mt m).2.2.2.2.1 = HH := by rw [hm]
  have e5 : (mt m).2.2.2.2.2 = RK := by rw [hm]
  subst e0 e1 e2 e3 e4 e5
  exact s_aaload hd hty ha h9 hts
theorem w_caload (hm : mt m = (Y, CD, NL, RT, HH, RK)) {kt : Nat} {ts : List Nat} (hd : decode CD pc = .ok (.caload, 1)) (ha : aTy[kt]? = some .char) (h9 : kt < 99) (hts : ∀ t ∈ ts, t = kt + 100 ∨ t = kt + 1100) : Snd mt G m pc (oAld ts (pc + 1)) := by
  have e0 : (mt m).1 = Y := by rw [hm]
  have e1 : (mt m).2.1 = CD := by rw [hm]
  have e2 : (mt m).2.2.1 = NL := by rw [hm]
  have e3 : (mt m).2.2.2.1 = RT := by rw [hm]
  have e4 : (mt m).2.2.2.2.1 = HH := by rw [hm]
  have e5 : (mt m).2.2.2.2.2 = RK := by rw [hm]
  subst e0 e1 e2 e3 e4 e5
  exact s_caload hd ha h9 hts
theorem w_ldcS (hm : mt m = (Y, CD, NL, RT, HH, RK)) {index j : Nat} {own tx : String} (hd : decode CD pc = .ok (.ldc index, 2)) (hv : srL[j]? = some (own, index, tx)) (ho' : own = Y.cls) : Snd mt G m pc (oGets (1000 + j) (pc + 2)) := by
  have e0 : (mt m).1 = Y := by rw [hm]
  have e1 : (mt m).2.1 = CD := by rw [hm]
  have e2 : (mt m).2.2.1 = NL := by rw [hm]
  have e3 : (mt m).2.2.2.1 = RT := by rw [hm]
  have e4 : (mt m).2.2.2.2.1 = HH := by rw [hm]
  have e5 : (mt m).2.2.2.2.2 = RK := by rw [hm]
  subst e0 e1 e2 e3 e4 e5
  exact s_ldcS hd hv ho'
theorem w_ldcM (hm : mt m = (Y, CD, NL, RT, HH, RK)) {index : Nat} (hd : decode CD pc = .ok (.ldc index, 2)) (hq : Cond.classLink Y.cls index "[Ljava/lang/Object;" ∈ lw_all) : Snd mt G m pc (oGets 999 (pc + 2)) := by
  have e0 : (mt m).1 = Y := by rw [hm]
  have e1 : (mt m).2.1 = CD := by rw [hm]
  have e2 : (mt m).2.2.1 = NL := by rw [hm]
  have e3 : (mt m).2.2.2.1 = RT := by rw [hm]
  have e4 : (mt m).2.2.2.2.1 = HH := by rw [hm]
  have e5 : (mt m).2.2.2.2.2 = RK := by rw [hm]
  subst e0 e1 e2 e3 e4 e5
  exact s_ldcM hd hq
theorem w_cast (hm : mt m = (Y, CD, NL, RT, HH, RK)) {index : Nat} {nm : String} {ts : List Nat} (hd : decode CD pc = .ok (.checkcast index, 3)) (hq : Cond.classLink Y.cls index nm ∈ lw_all) (hts : ∀ t ∈ ts, COK nm t) : Snd mt G m pc (oCast ts (pc + 3)) := by
  have e0 : (mt m).1 = Y := by rw [hm]
  have e1 : (mt m).2.1 = CD := by rw [hm]
  have e2 : (mt m).2.2.1 = NL := by rw [hm]
  have e3 : (mt m).2.2.2.1 = RT := by rw [hm]
  have e4 : (mt m).2.2.2.2.1 = HH := by rw [hm]
  have e5 : (mt m).2.2.2.2.2 = RK := by rw [hm]
  subst e0 e1 e2 e3 e4 e5
  exact s_cast hd hq hts
theorem w_putf (hm : mt m = (Y, CD, NL, RT, HH, RK)) {index k : Nat} {ty : FieldType} {ts : List Nat} (hd : decode CD pc = .ok (.putfield index, 3)) (hf : PutOK Y.cls index k ty ts) : Snd mt G m pc (oPutf ts k ty (pc + 3)) := by
  have e0 : (mt m).1 = Y := by rw [hm]
  have e1 : (mt m).2.1 = CD := by rw [hm]
  have e2 : (mt m).2.2.1 = NL := by rw [hm]
  have e3 : (mt m).2.2.2.1 = RT := by rw [hm]
  have e4 : (mt m).2.2.2.2.1 = HH := by rw [hm]
  have e5 : (mt m).2.2.2.2.2 = RK := by rw [hm]
  subst e0 e1 e2 e3 e4 e5
  exact s_putf hd hf
theorem w_putfN (hm : mt m = (Y, CD, NL, RT, HH, RK)) {index k : Nat} {ty : FieldType} {ts : List Nat} (hd : decode CD pc = .ok (.putfield index, 3)) (hf : PutNOK Y.cls index k ty ts) : Snd mt G m pc (oPutf ts k ty (pc + 3)) := by
  have e0 : (mt m).1 = Y := by rw [hm]
  have e1 : (mt m).2.1 = CD := by rw [hm]
  have e2 : (mt m).2.2.1 = NL := by rw [hm]
  have e3 : (mt m).2.2.2.1 = RT := by rw [hm]
  have e4 : (mt m).2.2.2.2.1 = HH := by rw [hm]
  have e5 : (mt m).2.2.2.2.2 = RK := by rw [hm]
  subst e0 e1 e2 e3 e4 e5
  exact s_putfN hd hf
theorem w_putfF (hm : mt m = (Y, CD, NL, RT, HH, RK)) {index k : Nat} {ty : FieldType} {ts : List Nat} (hd : decode CD pc = .ok (.putfield index, 3)) (hf : PutFOK Y index k ty ts) : Snd mt G m pc (oPutf ts k ty (pc + 3)) := by
  have e0 : (mt m).1 = Y := by rw [hm]
  have e1 : (mt m).2.1 = CD := by rw [hm]
  have e2 : (mt m).2.2.1 = NL := by rw [hm]
  have e3 : (mt m).2.2.2.1 = RT := by rw [hm]
  have e4 : (mt m).2.2.2.2.1 = HH := by rw [hm]
  have e5 : (mt m).2.2.2.2.2 = RK := by rw [hm]
  subst e0 e1 e2 e3 e4 e5
  exact s_putfF hd hf
theorem w_iastore (hm : mt m = (Y, CD, NL, RT, HH, RK)) {kt : Nat} {ts : List Nat} (hd : decode CD pc = .ok (.iastore, 1)) (ha : aTy[kt]? = some .int) (h7 : kt < 7) (hts : ∀ t ∈ ts, t = kt + 100) : Snd mt G m pc (oIast ts (pc + 1)) := by
  have e0 : (mt m).1 = Y := by rw [hm]
  have e1 : (mt m).2.1 = CD := by rw [hm]
  have e2 : (mt m).2.2.1 = NL := by rw [hm]
  have e3 : (mt m).2.2.2.1 = RT := by rw [hm]
  have e4 : (mt m).2.2.2.2.1 = HH := by rw [hm]
  have e5 : (mt m).2.2.2.2.2 = RK := by rw [hm]
  subst e0 e1 e2 e3 e4 e5
  exact s_iastore hd ha h7 hts
theorem w_bastore (hm : mt m = (Y, CD, NL, RT, HH, RK)) {kt : Nat} {ts : List Nat} (hd : decode CD pc = .ok (.bastore, 1)) (ha : aTy[kt]? = some .byte) (h7 : kt < 7) (hts : ∀ t ∈ ts, t = kt + 100) : Snd mt G m pc (oBast ts (pc + 1)) := by
  have e0 : (mt m).1 = Y := by rw [hm]
  have e1 : (mt m).2.1 = CD := by rw [hm]
  have e2 : (mt m).2.2.1 = NL := by rw [hm]
  have e3 : (mt m).2.2.2.1 = RT := by rw [hm]
  have e4 : (mt m).2.2.2.2.1 = HH := by rw [hm]
  have e5 : (mt m).2.2.2.2.2 = RK := by rw [hm]
  subst e0 e1 e2 e3 e4 e5
  exact s_bastore hd ha h7 hts
theorem w_lastore (hm : mt m = (Y, CD, NL, RT, HH, RK)) {kt : Nat} {ts : List Nat} (hd : decode CD pc = .ok (.lastore, 1)) (ha : aTy[kt]? = some .long) (h7 : kt < 7) (hts : ∀ t ∈ ts, t = kt + 100) : Snd mt G m pc (oLast ts (pc + 1)) := by
  have e0 : (mt m).1 = Y := by rw [hm]
  have e1 : (mt m).2.1 = CD := by rw [hm]
  have e2 : (mt m).2.2.1 = NL := by rw [hm]
  have e3 : (mt m).2.2.2.1 = RT := by rw [hm]
  have e4 : (mt m).2.2.2.2.1 = HH := by rw [hm]
  have e5 : (mt m).2.2.2.2.2 = RK := by rw [hm]
  subst e0 e1 e2 e3 e4 e5
  exact s_lastore hd ha h7 hts
theorem w_aastore (hm : mt m = (Y, CD, NL, RT, HH, RK)) {kt : Nat} {ts es : List Nat} {C9 : String} (hd : decode CD pc = .ok (.aastore, 1)) (ha : aTy[kt]? = some (.object C9)) (h7 : kt < 7) (hts : ∀ t ∈ ts, t = kt + 100) (hes : ∀ t ∈ es, EOK C9 t) : Snd mt G m pc (oAast ts es (pc + 1)) := by
  have e0 : (mt m).1 = Y := by rw [hm]
  have e1 : (mt m).2.1 = CD := by rw [hm]
  have e2 : (mt m).2.2.1 = NL := by rw [hm]
  have e3 : (mt m).2.2.2.1 = RT := by rw [hm]
  have e4 : (mt m).2.2.2.2.1 = HH := by rw [hm]
  have e5 : (mt m).2.2.2.2.2 = RK := by rw [hm]
  subst e0 e1 e2 e3 e4 e5
  exact s_aastore hd ha h7 hts hes
theorem w_new (hm : mt m = (Y, CD, NL, RT, HH, RK)) {index ci N : Nat} {C9 : String} {T9 : u_T} {f : Nat → Value} {ty : Nat → FieldType} (hd : decode CD pc = .ok (.new index, 3)) (h9 : ci < 99) (hv : vwCl[ci]? = some (C9, T9, N)) (hty : ∀ k, k < N → parseFieldDescriptor (T9 k).2.2.1 = some (ty k)) (hf : ∀ k, k < N → defaultValue (ty k) = f k) (hq1 : Cond.classLink Y.cls index C9 ∈ lw_all) (hq2 : Cond.instantiable C9 N ∈ lw_all) (hq3 : Cond.initialized C9 ∈ lw_all) : Snd mt G m pc (oNew (ci + 1) N f (pc + 3)) := by
  have e0 : (mt m).1 = Y := by rw [hm]
  have e1 : (mt m).2.1 = CD := by rw [hm]
  have e2 : (mt m).2.2.1 = NL := by rw [hm]
  have e3 : (mt m).2.2.2.1 = RT := by rw [hm]
  have e4 : (mt m).2.2.2.2.1 = HH := by rw [hm]
  have e5 : (mt m).2.2.2.2.2 = RK := by rw [hm]
  subst e0 e1 e2 e3 e4 e5
  exact s_new hd h9 hv hty hf hq1 hq2 hq3
theorem w_newa (hm : mt m = (Y, CD, NL, RT, HH, RK)) {kt : Nat} {atype : ArrayType} {v : Value} (hd : decode CD pc = .ok (.newarray atype, 2)) (h7 : kt < 7) (ha : aTy[kt]? = some (newarray.typeOf atype)) (hdv : defaultValue (newarray.typeOf atype) = v) (hnm : ∀ C, newarray.typeOf atype ≠ .object C) (hcb : componentBytes (newarray.typeOf atype) ≤ 8) (hq : Cond.arrayClass (newarray.typeOf atype) ∈ lw_all) : Snd mt G m pc (oNewa (kt + 100) v (pc + 2)) := by
  have e0 : (mt m).1 = Y := by rw [hm]
  have e1 : (mt m).2.1 = CD := by rw [hm]
  have e2 : (mt m).2.2.1 = NL := by rw [hm]
  have e3 : (mt m).2.2.2.1 = RT := by rw [hm]
  have e4 : (mt m).2.2.2.2.1 = HH := by rw [hm]
  have e5 : (mt m).2.2.2.2.2 = RK := by rw [hm]
  subst e0 e1 e2 e3 e4 e5
  exact s_newa hd h7 ha hdv hnm hcb hq
theorem w_anew (hm : mt m = (Y, CD, NL, RT, HH, RK)) {kt index : Nat} {C9 : String} (hd : decode CD pc = .ok (.anewarray index, 3)) (h7 : kt < 7) (ha : aTy[kt]? = some (.object C9)) (hq : Cond.classLink Y.cls index C9 ∈ lw_all) (hao : C9 ∈ aoL) : Snd mt G m pc (oNewa (kt + 100) .null (pc + 3)) := by
  have e0 : (mt m).1 = Y := by rw [hm]
  have e1 : (mt m).2.1 = CD := by rw [hm]
  have e2 : (mt m).2.2.1 = NL := by rw [hm]
  have e3 : (mt m).2.2.2.1 = RT := by rw [hm]
  have e4 : (mt m).2.2.2.2.1 = HH := by rw [hm]
  have e5 : (mt m).2.2.2.2.2 = RK := by rw [hm]
  subst e0 e1 e2 e3 e4 e5
  exact s_anew hd h7 ha hq hao
theorem w_multi (hm : mt m = (Y, CD, NL, RT, HH, RK)) {index ko ki : Nat} (hd : decode CD pc = .ok (.multianewarray index 2, 4)) (h9' : ko < 7) (h8' : ki < 7) (ho9 : aTy[ko]? = some (.array .int)) (hi9 : aTy[ki]? = some .int) (hq1 : Cond.classLink Y.cls index "[[I" ∈ lw_all) (hq2 : Cond.arrayClass .int ∈ lw_all) : Snd mt G m pc (oMulti (ko + 100) (ki + 100) (pc + 4)) := by
  have e0 : (mt m).1 = Y := by rw [hm]
  have e1 : (mt m).2.1 = CD := by rw [hm]
  have e2 : (mt m).2.2.1 = NL := by rw [hm]
  have e3 : (mt m).2.2.2.1 = RT := by rw [hm]
  have e4 : (mt m).2.2.2.2.1 = HH := by rw [hm]
  have e5 : (mt m).2.2.2.2.2 = RK := by rw [hm]
  subst e0 e1 e2 e3 e4 e5
  exact s_multi hd h9' h8' ho9 hi9 hq1 hq2
theorem w_copy (hm : mt m = (Y, CD, NL, RT, HH, RK)) {index kt : Nat} {ty : FieldType} {ss ds : List Nat} {ck : AH → Value → Bool} (hd : decode CD pc = .ok (.invokestatic index, 3)) (k7 : kt < 7) (ha : aTy[kt]? = some ty) (hss : ∀ t ∈ ss, t = kt + 100 ∨ t = kt + 1100) (hds : ∀ t ∈ ds, t = kt + 100) (hck : ∀ (s : State) (h : AH) (H : Heap) (v : Value), EnvOK G s → HR G s h H → ck h v = true → fits ty v = true ∧ (∀ y, v = .ref y → ∃ (cellV : Cell) (C9 : String), ty = .object C9 ∧ va_Any C9 s H y)) (hrank : 8 ≤ RK) (hq1 : Cond.methodLink Y.cls index arraycopyName ∈ lw_all) (hq2 : Cond.native arraycopyName ∈ lw_all) (hq3 : Cond.static arraycopyName ∈ lw_all) (hq4 : Cond.initialized "java/lang/System" ∈ lw_all) : Snd mt G m pc (oCopy ss ds ck (pc + 3)) := by
  have e0 : (mt m).1 = Y := by rw [hm]
  have e1 : (mt m).2.1 = CD := by rw [hm]
  have e2 : (mt m).2.2.1 = NL := by rw [hm]
  have e3 : (mt m).2.2.2.1 = RT := by rw [hm]
  have e4 : (mt m).2.2.2.2.1 = HH := by rw [hm]
  have e5 : (mt m).2.2.2.2.2 = RK := by rw [hm]
  subst e0 e1 e2 e3 e4 e5
  exact s_copy hd k7 ha hss hds hck hrank hq1 hq2 hq3 hq4
theorem w_objI (hm : mt m = (Y, CD, NL, RT, HH, RK)) {index : Nat} (hd : decode CD pc = .ok (.invokespecial index, 3)) (hrank : 8 ≤ RK) (hq1 : Cond.methodLink Y.cls index Lib.objectInit ∈ lw_all) (hq2 : Cond.instanceMethod Lib.objectInit ∈ lw_all) (hq3 : Cond.code Lib.objectInit ⟨#[0xb1]⟩ 1 none ∈ lw_all) : Snd mt G m pc (oObjI (pc + 3)) := by
  have e0 : (mt m).1 = Y := by rw [hm]
  have e1 : (mt m).2.1 = CD := by rw [hm]
  have e2 : (mt m).2.2.1 = NL := by rw [hm]
  have e3 : (mt m).2.2.2.1 = RT := by rw [hm]
  have e4 : (mt m).2.2.2.2.1 = HH := by rw [hm]
  have e5 : (mt m).2.2.2.2.2 = RK := by rw [hm]
  subst e0 e1 e2 e3 e4 e5
  exact s_objI hd hrank hq1 hq2 hq3
theorem w_iret (hm : mt m = (Y, CD, NL, RT, HH, RK)) (hd : decode CD pc = .ok (.ireturn, 1)) (hr' : RT = some .int) : Snd mt G m pc (oRetI .int) := by
  have e0 : (mt m).1 = Y := by rw [hm]
  have e1 : (mt m).2.1 = CD := by rw [hm]
  have e2 : (mt m).2.2.1 = NL := by rw [hm]
  have e3 : (mt m).2.2.2.1 = RT := by rw [hm]
  have e4 : (mt m).2.2.2.2.1 = HH := by rw [hm]
  have e5 : (mt m).2.2.2.2.2 = RK := by rw [hm]
  subst e0 e1 e2 e3 e4 e5
  exact s_iret hd hr'
theorem w_zret (hm : mt m = (Y, CD, NL, RT, HH, RK)) {ty : FieldType} (hd : decode CD pc = .ok (.ireturn, 1)) (hr' : RT = some ty) : Snd mt G m pc (oRetI ty) := by
  have e0 : (mt m).1 = Y := by rw [hm]
  have e1 : (mt m).2.1 = CD := by rw [hm]
  have e2 : (mt m).2.2.1 = NL := by rw [hm]
  have e3 : (mt m).2.2.2.1 = RT := by rw [hm]
  have e4 : (mt m).2.2.2.2.1 = HH := by rw [hm]
  have e5 : (mt m).2.2.2.2.2 = RK := by rw [hm]
  subst e0 e1 e2 e3 e4 e5
  exact s_zret hd hr'
theorem w_lret (hm : mt m = (Y, CD, NL, RT, HH, RK)) (hd : decode CD pc = .ok (.lreturn, 1)) (hr' : RT = some .long) : Snd mt G m pc oRetL := by
  have e0 : (mt m).1 = Y := by rw [hm]
  have e1 : (mt m).2.1 = CD := by rw [hm]
  have e2 : (mt m).2.2.1 = NL := by rw [hm]
  have e3 : (mt m).2.2.2.1 = RT := by rw [hm]
  have e4 : (mt m).2.2.2.2.1 = HH := by rw [hm]
  have e5 : (mt m).2.2.2.2.2 = RK := by rw [hm]
  subst e0 e1 e2 e3 e4 e5
  exact s_lret hd hr'
theorem w_aret (hm : mt m = (Y, CD, NL, RT, HH, RK)) {rt : FieldType} (hd : decode CD pc = .ok (.areturn, 1)) (hr' : RT = some rt) (hrt : (∃ n, rt = .object n) ∨ ∃ t, rt = .array t) : Snd mt G m pc oRetA := by
  have e0 : (mt m).1 = Y := by rw [hm]
  have e1 : (mt m).2.1 = CD := by rw [hm]
  have e2 : (mt m).2.2.1 = NL := by rw [hm]
  have e3 : (mt m).2.2.2.1 = RT := by rw [hm]
  have e4 : (mt m).2.2.2.2.1 = HH := by rw [hm]
  have e5 : (mt m).2.2.2.2.2 = RK := by rw [hm]
  subst e0 e1 e2 e3 e4 e5
  exact s_aret hd hr' hrt
theorem w_vret (hm : mt m = (Y, CD, NL, RT, HH, RK)) (hd : decode CD pc = .ok (.return_, 1)) (hr' : RT = none) : Snd mt G m pc oRetV := by
  have e0 : (mt m).1 = Y := by rw [hm]
  have e1 : (mt m).2.1 = CD := by rw [hm]
  have e2 : (mt m).2.2.1 = NL := by rw [hm]
  have e3 : (mt m).2.2.2.1 = RT := by rw [hm]
  have e4 : (mt m).2.2.2.2.1 = HH := by rw [hm]
  have e5 : (mt m).2.2.2.2.2 = RK := by rw [hm]
  subst e0 e1 e2 e3 e4 e5
  exact s_vret hd hr'
theorem w_throw (hm : mt m = (Y, CD, NL, RT, HH, RK)) {ts : List Nat} (hd : decode CD pc = .ok (.athrow, 1)) (hts : ∀ t ∈ ts, TOK t) (hp : HH = none) : Snd mt G m pc (oThrow ts) := by
  have e0 : (mt m).1 = Y := by rw [hm]
  have e1 : (mt m).2.1 = CD := by rw [hm]
  have e2 : (mt m).2.2.1 = NL := by rw [hm]
  have e3 : (mt m).2.2.2.1 = RT := by rw [hm]
  have e4 : (mt m).2.2.2.2.1 = HH := by rw [hm]
  have e5 : (mt m).2.2.2.2.2 = RK := by rw [hm]
  subst e0 e1 e2 e3 e4 e5
  exact s_throw hd hts (pass_none hp)
theorem w_throw0 (hm : mt m = (Y, CD, NL, RT, HH, RK)) {ik ic ci : Nat} {names : List String} {r9 : vw_C} (h9 : ci < 99) (hv : vwCl[ci]? = some r9) (hr0 : r9.2.2 = 0) (d0 : decode CD pc = .ok (.new ik, 3)) (d3 : decode CD (pc + 3) = .ok (.dup, 1)) (d4 : decode CD (pc + 4) = .ok (.invokespecial ic, 3)) (d7 : decode CD (pc + 7) = .ok (.athrow, 1)) (hcls : Bundle.fit r9.1 = true) (hnames : ∀ n ∈ names, Bundle.fit n = true) (hnl : names.length ≤ 3) (hrank : 8 ≤ RK) (hq1 : Cond.classLink Y.cls ik r9.1 ∈ lw_all) (hq2 : Cond.initialized r9.1 ∈ lw_all) (hat : ∀ w ∈ vx_at0 Y.cls ic r9.1 names, w ∈ lw_all ∨ (w.onTables = true ∧ w ∈ nwL)) (hgood : ∀ w ∈ Cond.classLink Y.cls ik r9.1 :: Cond.initialized r9.1 :: vx_at0 Y.cls ic r9.1 names, vx_ot w = true) (hout : ∀ x ∈ tableOf (HH.getD []), covers x (pc + 7) = false) : Snd mt G m pc (oThrow0 (ci + 1)) := by
  have e0 : (mt m).1 = Y := by rw [hm]
  have e1 : (mt m).2.1 = CD := by rw [hm]
  have e2 : (mt m).2.2.1 = NL := by rw [hm]
  have e3 : (mt m).2.2.2.1 = RT := by rw [hm]
  have e4 : (mt m).2.2.2.2.1 = HH := by rw [hm]
  have e5 : (mt m).2.2.2.2.2 = RK := by rw [hm]
  subst e0 e1 e2 e3 e4 e5
  exact s_throw0 h9 hv hr0 d0 d3 d4 d7 hcls hnames hnl hrank hq1 hq2 hat hgood hout
theorem w_inst (hm : mt m = (Y, CD, NL, RT, HH, RK)) {index ci : Nat} {r9 : vw_C} {ts : List Nat} (hd : decode CD pc = .ok (.instanceof index, 3)) (h9 : ci < 99) (hv : vwCl[ci]? = some r9) (hq : Cond.classLink Y.cls index r9.1 ∈ lw_all) (hts : ∀ t ∈ ts, t = ci + 1 ∨ t = ci + 1001) : Snd mt G m pc (oInst ts (pc + 3)) := by
  have e0 : (mt m).1 = Y := by rw [hm]
  have e1 : (mt m).2.1 = CD := by rw [hm]
  have e2 : (mt m).2.2.1 = NL := by rw [hm]
  have e3 : (mt m).2.2.2.1 = RT := by rw [hm]
  have e4 : (mt m).2.2.2.2.1 = HH := by rw [hm]
  have e5 : (mt m).2.2.2.2.2 = RK := by rw [hm]
  subst e0 e1 e2 e3 e4 e5
  exact s_inst hd h9 hv hq hts
theorem w_getC (hm : mt m = (Y, CD, NL, RT, HH, RK)) {index : Nat} {ts : List Nat} (hd : decode CD pc = .ok (.invokevirtual index, 3)) (hrank : 8 ≤ RK) (hq1 : Cond.methodLink Y.cls index ⟨"java/lang/Object", "getClass", "()Ljava/lang/Class;"⟩ ∈ lw_all) (hq2 : Cond.declares ⟨"java/lang/Object", "getClass", "()Ljava/lang/Class;"⟩ ∈ nwL) (hq3 : Cond.selects "[Ljava/lang/Object;" ⟨"java/lang/Object", "getClass", "()Ljava/lang/Class;"⟩ ⟨"java/lang/Object", "getClass", "()Ljava/lang/Class;"⟩ ∈ lw_all) (hq4 : Cond.instanceMethod ⟨"java/lang/Object", "getClass", "()Ljava/lang/Class;"⟩ ∈ lw_all) (hq5 : Cond.native ⟨"java/lang/Object", "getClass", "()Ljava/lang/Class;"⟩ ∈ lw_all) (hts : ∀ t ∈ ts, t = 103) : Snd mt G m pc (oGetC ts (pc + 3)) := by
  have e0 : (mt m).1 = Y := by rw [hm]
  have e1 : (mt m).2.1 = CD := by rw [hm]
  have e2 : (mt m).2.2.1 = NL := by rw [hm]
  have e3 : (mt m).2.2.2.1 = RT := by rw [hm]
  have e4 : (mt m).2.2.2.2.1 = HH := by rw [hm]
  have e5 : (mt m).2.2.2.2.2 = RK := by rw [hm]
  subst e0 e1 e2 e3 e4 e5
  exact s_getC hd hrank hq1 hq2 hq3 hq4 hq5 hts
theorem w_tableL (hm : mt m = (Y, CD, NL, RT, HH, RK)) {dflt lo hi : Int} {offs : Array Int} {len dfl : Nat} {L : List Nat} (hd : decode CD pc = .ok (.tableswitch dflt lo hi offs, len)) (h0 : (pc : Int) + dflt = (dfl : Int)) (hl : lo + (L.length : Int) = hi + 1) (hall : (List.range L.length).all (fun k => match offs[k]? with | some off => decide ((pc : Int) + off = (L.getD k dfl : Int)) | none => false) = true) : Snd mt G m pc (oSwitch (swT lo dfl L)) := by
  have e0 : (mt m).1 = Y := by rw [hm]
  have e1 : (mt m).2.1 = CD := by rw [hm]
  have e2 : (mt m).2.2.1 = NL := by rw [hm]
  have e3 : (mt m).2.2.2.1 = RT := by rw [hm]
  have e4 : (mt m).2.2.2.2.1 = HH := by rw [hm]
  have e5 : (mt m).2.2.2.2.2 = RK := by rw [hm]
  subst e0 e1 e2 e3 e4 e5
  exact s_tableL hd h0 hl hall
theorem w_lookupL (hm : mt m = (Y, CD, NL, RT, HH, RK)) {dflt : Int} {ps : Array (Int × Int)} {len dfl : Nat} {L : List (Int × Nat)} (hd : decode CD pc = .ok (.lookupswitch dflt ps, len)) (hp : (ps.toList.zip (ps.toList.drop 1)).all (fun (a, next) => a.1 < next.1) = true) (h0 : (pc : Int) + dflt = (dfl : Int)) (hL : ps.toList.map (fun z => (z.1, (pc : Int) + z.2)) = L.map (fun z => (z.1, (z.2 : Int)))) : Snd mt G m pc (oSwitch (swL dfl L)) := by
  have e0 : (mt m).1 = Y := by rw [hm]
  have e1 : (mt m).2.1 = CD := by rw [hm]
  have e2 : (mt m).2.2.1 = NL := by rw [hm]
  have e3 : (mt m).2.2.2.1 = RT := by rw [hm]
  have e4 : (mt m).2.2.2.2.1 = HH := by rw [hm]
  have e5 : (mt m).2.2.2.2.2 = RK := by rw [hm]
  subst e0 e1 e2 e3 e4 e5
  exact s_lookupL hd hp h0 hL
theorem w_mmax (hm : mt m = (Y, CD, NL, RT, HH, RK)) {index : Nat} (hd : decode CD pc = .ok (.invokestatic index, 3)) (hrank : 8 ≤ RK) (hq1 : Cond.methodLink Y.cls index Lib.Math.max.name ∈ lw_all) (hq2 : Cond.static Lib.Math.max.name ∈ lw_all) (hq3 : Cond.initialized "java/lang/Math" ∈ lw_all) (hq4 : Cond.code Lib.Math.max.name Lib.Math.max.code 2 (some .int) ∈ lw_all) : Snd mt G m pc (oMath2 (fun x y => if x < y then y else x) (pc + 3)) := by
  have e0 : (mt m).1 = Y := by rw [hm]
  have e1 : (mt m).2.1 = CD := by rw [hm]
  have e2 : (mt m).2.2.1 = NL := by rw [hm]
  have e3 : (mt m).2.2.2.1 = RT := by rw [hm]
  have e4 : (mt m).2.2.2.2.1 = HH := by rw [hm]
  have e5 : (mt m).2.2.2.2.2 = RK := by rw [hm]
  subst e0 e1 e2 e3 e4 e5
  exact s_mmax hd hrank hq1 hq2 hq3 hq4
theorem w_mmin (hm : mt m = (Y, CD, NL, RT, HH, RK)) {index : Nat} (hd : decode CD pc = .ok (.invokestatic index, 3)) (hrank : 8 ≤ RK) (hq1 : Cond.methodLink Y.cls index Lib.Math.min.name ∈ lw_all) (hq2 : Cond.static Lib.Math.min.name ∈ lw_all) (hq3 : Cond.initialized "java/lang/Math" ∈ lw_all) (hq4 : Cond.code Lib.Math.min.name Lib.Math.min.code 2 (some .int) ∈ lw_all) : Snd mt G m pc (oMath2 (fun x y => if y < x then y else x) (pc + 3)) := by
  have e0 : (mt m).1 = Y := by rw [hm]
  have e1 : (mt m).2.1 = CD := by rw [hm]
  have e2 : (mt m).2.2.1 = NL := by rw [hm]
  have e3 : (mt m).2.2.2.1 = RT := by rw [hm]
  have e4 : (mt m).2.2.2.2.1 = HH := by rw [hm]
  have e5 : (mt m).2.2.2.2.2 = RK := by rw [hm]
  subst e0 e1 e2 e3 e4 e5
  exact s_mmin hd hrank hq1 hq2 hq3 hq4
theorem w_mabs (hm : mt m = (Y, CD, NL, RT, HH, RK)) {index : Nat} (hd : decode CD pc = .ok (.invokestatic index, 3)) (hrank : 8 ≤ RK) (hq1 : Cond.methodLink Y.cls index Lib.Math.abs.name ∈ lw_all) (hq2 : Cond.static Lib.Math.abs.name ∈ lw_all) (hq3 : Cond.initialized "java/lang/Math" ∈ lw_all) (hq4 : Cond.code Lib.Math.abs.name Lib.Math.abs.code 1 (some .int) ∈ lw_all) : Snd mt G m pc (oMath1 (fun x => if 0 ≤ x then x else 0 - x) (pc + 3)) := by
  have e0 : (mt m).1 = Y := by rw [hm]
  have e1 : (mt m).2.1 = CD := by rw [hm]
  have e2 : (mt m).2.2.1 = NL := by rw [hm]
  have e3 : (mt m).2.2.2.1 = RT := by rw [hm]
  have e4 : (mt m).2.2.2.2.1 = HH := by rw [hm]
  have e5 : (mt m).2.2.2.2.2 = RK := by rw [hm]
  subst e0 e1 e2 e3 e4 e5
  exact s_mabs hd hrank hq1 hq2 hq3 hq4
theorem w_mabsL (hm : mt m = (Y, CD, NL, RT, HH, RK)) {index : Nat} (hd : decode CD pc = .ok (.invokestatic index, 3)) (hrank : 8 ≤ RK) (hq1 : Cond.methodLink Y.cls index Lib.MathLoose.abs_long.x ∈ lw_all) (hq2 : Cond.static Lib.MathLoose.abs_long.x ∈ lw_all) (hq3 : Cond.initialized "java/lang/Math" ∈ lw_all) (hq4 : Cond.code Lib.MathLoose.abs_long.x Lib.MathLoose.abs_long.code 2 (some .long) ∈ lw_all) : Snd mt G m pc (oMathL (fun x => if 0 < x then x else -x) (pc + 3)) := by
  have e0 : (mt m).1 = Y := by rw [hm]
  have e1 : (mt m).2.1 = CD := by rw [hm]
  have e2 : (mt m).2.2.1 = NL := by rw [hm]
  have e3 : (mt m).2.2.2.1 = RT := by rw [hm]
  have e4 : (mt m).2.2.2.2.1 = HH := by rw [hm]
  have e5 : (mt m).2.2.2.2.2 = RK := by rw [hm]
  subst e0 e1 e2 e3 e4 e5
  exact s_mabsL hd hrank hq1 hq2 hq3 hq4
theorem w_castB (hm : mt m = (Y, CD, NL, RT, HH, RK)) {index : Nat} {ts : List Nat} (hd : decode CD pc = .ok (.checkcast index, 3)) (hq : Cond.classLink Y.cls index "[B" ∈ lw_all) (hts : ∀ t ∈ ts, t = 101) : Snd mt G m pc (oCast ts (pc + 3)) := by
  have e0 : (mt m).1 = Y := by rw [hm]
  have e1 : (mt m).2.1 = CD := by rw [hm]
  have e2 : (mt m).2.2.1 = NL := by rw [hm]
  have e3 : (mt m).2.2.2.1 = RT := by rw [hm]
  have e4 : (mt m).2.2.2.2.1 = HH := by rw [hm]
  have e5 : (mt m).2.2.2.2.2 = RK := by rw [hm]
  subst e0 e1 e2 e3 e4 e5
  exact s_castB hd hq hts
theorem w_cal (hm : mt m = (Y, CD, NL, RT, HH, RK)) (hm' : mt m' = (Y', CD', NL', RT', HH', RK')) (hpl : plainName Y'.cls = true) (hrk : RK' + 1 ≤ RK + 4 * δ) (h25 : NL' ≤ 25) : CalOK mt m δ m' NL' := by
  have e0 : (mt m).1 = Y := by rw [hm]
  have e1 : (mt m).2.1 = CD := by rw [hm]
  have e2 : (mt m).2.2.1 = NL := by rw [hm]
  have e3 : (mt m).2.2.2.1 = RT := by rw [hm]
  have e4 : (mt m).2.2.2.2.1 = HH := by rw [hm]
  have e5 : (mt m).2.2.2.2.2 = RK := by rw [hm]
  subst e0 e1 e2 e3 e4 e5
  have e0' : (mt m').1 = Y' := by rw [hm']
  have e1' : (mt m').2.1 = CD' := by rw [hm']
  have e2' : (mt m').2.2.1 = NL' := by rw [hm']
  have e3' : (mt m').2.2.2.1 = RT' := by rw [hm']
  have e4' : (mt m').2.2.2.2.1 = HH' := by rw [hm']
  have e5' : (mt m').2.2.2.2.2 = RK' := by rw [hm']
  subst e0' e1' e2' e3' e4' e5'
  exact ⟨rfl, hpl, hrk, h25⟩
theorem w_run_S (hm : mt m = (Y, CD, NL, RT, HH, RK)) (hm' : mt m' = (Y', CD', NL', RT', none, RK')) {index n : Nat} {h : AH} {as : List Value} (hd : decode CD pc = .ok (.invokestatic index, 3)) (hq1 : Cond.methodLink Y.cls index Y' ∈ lw_all) (hq2 : Cond.static Y' ∈ lw_all) (hq3 : Cond.initialized Y'.cls ∈ lw_all) (hq4 : Cond.code Y' CD' NL' RT' ∈ lw_all) (hdd : ParN Y' n) (hn : as.length = n) : RunOK mt G m pc 3 m' h as := by
  have e0 : (mt m).1 = Y := by rw [hm]
  have e1 : (mt m).2.1 = CD := by rw [hm]
  have e2 : (mt m).2.2.1 = NL := by rw [hm]
  have e3 : (mt m).2.2.2.1 = RT := by rw [hm]
  have e4 : (mt m).2.2.2.2.1 = HH := by rw [hm]
  have e5 : (mt m).2.2.2.2.2 = RK := by rw [hm]
  subst e0 e1 e2 e3 e4 e5
  have e0' : (mt m').1 = Y' := by rw [hm']
  have e1' : (mt m').2.1 = CD' := by rw [hm']
  have e2' : (mt m').2.2.1 = NL' := by rw [hm']
  have e3' : (mt m').2.2.2.1 = RT' := by rw [hm']
  have e5' : (mt m').2.2.2.2.2 = RK' := by rw [hm']
  subst e0' e1' e2' e3' e5'
  exact run_S hd hq1 hq2 hq3 (by unfold CodeIn; rw [hm']; exact hq4) hdd hn
theorem w_run_SX {tb : List (Nat × Nat × Nat × Nat)} (hm : mt m = (Y, CD, NL, RT, HH, RK)) (hm' : mt m' = (Y', CD', NL', RT', (some tb), RK')) {index n : Nat} {h : AH} {as : List Value} (hd : decode CD pc = .ok (.invokestatic index, 3)) (hq1 : Cond.methodLink Y.cls index Y' ∈ lw_all) (hq2 : Cond.static Y' ∈ lw_all) (hq3 : Cond.initialized Y'.cls ∈ lw_all) (hq4 : Cond.codeWith Y' CD' NL' RT' tb ∈ lw_all) (hdd : ParN Y' n) (hn : as.length = n) : RunOK mt G m pc 3 m' h as := by
  have e0 : (mt m).1 = Y := by rw [hm]
  have e1 : (mt m).2.1 = CD := by rw [hm]
  have e2 : (mt m).2.2.1 = NL := by rw [hm]
  have e3 : (mt m).2.2.2.1 = RT := by rw [hm]
  have e4 : (mt m).2.2.2.2.1 = HH := by rw [hm]
  have e5 : (mt m).2.2.2.2.2 = RK := by rw [hm]
  subst e0 e1 e2 e3 e4 e5
  have e0' : (mt m').1 = Y' := by rw [hm']
  have e1' : (mt m').2.1 = CD' := by rw [hm']
  have e2' : (mt m').2.2.1 = NL' := by rw [hm']
  have e3' : (mt m').2.2.2.1 = RT' := by rw [hm']
  have e5' : (mt m').2.2.2.2.2 = RK' := by rw [hm']
  subst e0' e1' e2' e3' e5'
  exact run_S hd hq1 hq2 hq3 (by unfold CodeIn; rw [hm']; exact hq4) hdd hn
theorem w_run_V (hm : mt m = (Y, CD, NL, RT, HH, RK)) (hm' : mt m' = (Y', CD', NL', RT', none, RK')) {index n b ci : Nat} {h : AH} {as : List Value} {r9 : vw_C} (hd : decode CD pc = .ok (.invokevirtual index, 3)) (et : (hcl h b).1 = ci + 1 ∨ (hcl h b).1 = ci + 1001) (h9 : ci < 99) (hv : vwCl[ci]? = some r9) (hcy : Y'.cls = r9.1) (hq1 : Cond.methodLink Y.cls index Y' ∈ lw_all) (hq2 : Cond.instanceMethod Y' ∈ lw_all) (hq3 : Cond.selects r9.1 Y' Y' ∈ lw_all) (hq5 : Cond.initialized r9.1 ∈ lw_all) (hq4 : Cond.code Y' CD' NL' RT' ∈ lw_all) (hdd : ParN Y' n) (hn : as.length = n) : RunOK mt G m pc 3 m' h (.ref b :: as) := by
  have e0 : (mt m).1 = Y := by rw [hm]
  have e1 : (mt m).2.1 = CD := by rw [hm]
  have e2 : (mt m).2.2.1 = NL := by rw [hm]
  have e3 : (mt m).2.2.2.1 = RT := by rw [hm]
  have e4 : (mt m).2.2.2.2.1 = HH := by rw [hm]
  have e5 : (mt m).2.2.2.2.2 = RK := by rw [hm]
  subst e0 e1 e2 e3 e4 e5
  have e0' : (mt m').1 = Y' := by rw [hm']
  have e1' : (mt m').2.1 = CD' := by rw [hm']
  have e2' : (mt m').2.2.1 = NL' := by rw [hm']
  have e3' : (mt m').2.2.2.1 = RT' := by rw [hm']
  have e5' : (mt m').2.2.2.2.2 = RK' := by rw [hm']
  subst e0' e1' e2' e3' e5'
  exact run_V hd et h9 hv hcy hq1 hq2 hq3 hq5 (by unfold CodeIn; rw [hm']; exact hq4) hdd hn
theorem w_run_VX {tb : List (Nat × Nat × Nat × Nat)} (hm : mt m = (Y, CD, NL, RT, HH, RK)) (hm' : mt m' = (Y', CD', NL', RT', (some tb), RK')) {index n b ci : Nat} {h : AH} {as : List Value} {r9 : vw_C} (hd : decode CD pc = .ok (.invokevirtual index, 3)) (et : (hcl h b).1 = ci + 1 ∨ (hcl h b).1 = ci + 1001) (h9 : ci < 99) (hv : vwCl[ci]? = some r9) (hcy : Y'.cls = r9.1) (hq1 : Cond.methodLink Y.cls index Y' ∈ lw_all) (hq2 : Cond.instanceMethod Y' ∈ lw_all) (hq3 : Cond.selects r9.1 Y' Y' ∈ lw_all) (hq5 : Cond.initialized r9.1 ∈ lw_all) (hq4 : Cond.codeWith Y' CD' NL' RT' tb ∈ lw_all) (hdd : ParN Y' n) (hn : as.length = n) : RunOK mt G m pc 3 m' h (.ref b :: as) := by
  have e0 : (mt m).1 = Y := by rw [hm]
  have e1 : (mt m).2.1 = CD := by rw [hm]
  have e2 : (mt m).2.2.1 = NL := by rw [hm]
  have e3 : (mt m).2.2.2.1 = RT := by rw [hm]
  have e4 : (mt m).2.2.2.2.1 = HH := by rw [hm]
  have e5 : (mt m).2.2.2.2.2 = RK := by rw [hm]
  subst e0 e1 e2 e3 e4 e5
  have e0' : (mt m').1 = Y' := by rw [hm']
  have e1' : (mt m').2.1 = CD' := by rw [hm']
  have e2' : (mt m').2.2.1 = NL' := by rw [hm']
  have e3' : (mt m').2.2.2.1 = RT' := by rw [hm']
  have e5' : (mt m').2.2.2.2.2 = RK' := by rw [hm']
  subst e0' e1' e2' e3' e5'
  exact run_V hd et h9 hv hcy hq1 hq2 hq3 hq5 (by unfold CodeIn; rw [hm']; exact hq4) hdd hn
theorem w_run_I (hm : mt m = (Y, CD, NL, RT, HH, RK)) (hm' : mt m' = (Y', CD', NL', RT', none, RK')) {index n b : Nat} {h : AH} {as : List Value} (hd : decode CD pc = .ok (.invokespecial index, 3)) (hini : Y'.name = "<init>") (hrt : RT' = none)  (hq1 : Cond.methodLink Y.cls index Y' ∈ lw_all) (hq2 : Cond.instanceMethod Y' ∈ lw_all) (hq5 : Cond.initialized Y'.cls ∈ lw_all) (hq4 : Cond.code Y' CD' NL' RT' ∈ lw_all) (hdd : ParN Y' n) (hn : as.length = n) : RunOK mt G m pc 3 m' h (.ref b :: as) := by
  have e0 : (mt m).1 = Y := by rw [hm]
  have e1 : (mt m).2.1 = CD := by rw [hm]
  have e2 : (mt m).2.2.1 = NL := by rw [hm]
  have e3 : (mt m).2.2.2.1 = RT := by rw [hm]
  have e4 : (mt m).2.2.2.2.1 = HH := by rw [hm]
  have e5 : (mt m).2.2.2.2.2 = RK := by rw [hm]
  subst e0 e1 e2 e3 e4 e5
  have e0' : (mt m').1 = Y' := by rw [hm']
  have e1' : (mt m').2.1 = CD' := by rw [hm']
  have e2' : (mt m').2.2.1 = NL' := by rw [hm']
  have e3' : (mt m').2.2.2.1 = RT' := by rw [hm']
  have e5' : (mt m').2.2.2.2.2 = RK' := by rw [hm']
  subst e0' e1' e2' e3' e5'
  exact run_I hd hini hrt (by rw [hm']) hq1 hq2 hq5 (by unfold CodeIn; rw [hm']; exact hq4) hdd hn
theorem w_run_IN (hm : mt m = (Y, CD, NL, RT, HH, RK)) (hm' : mt m' = (Y', CD', NL', RT', none, RK')) {index n b : Nat} {host : String} {h : AH} {as : List Value} (hd : decode CD pc = .ok (.invokespecial index, 3)) (hini : Y'.name = "<init>") (hrt : RT' = none)  (hq1 : Cond.methodLinkNest Y.cls index Y' host ∈ nwL) (hq2 : Cond.instanceMethod Y' ∈ lw_all) (hq5 : Cond.initialized Y'.cls ∈ lw_all) (hq4 : Cond.code Y' CD' NL' RT' ∈ lw_all) (hdd : ParN Y' n) (hn : as.length = n) : RunOK mt G m pc 3 m' h (.ref b :: as) := by
  have e0 : (mt m).1 = Y := by rw [hm]
  have e1 : (mt m).2.1 = CD := by rw [hm]
  have e2 : (mt m).2.2.1 = NL := by rw [hm]
  have e3 : (mt m).2.2.2.1 = RT := by rw [hm]
  have e4 : (mt m).2.2.2.2.1 = HH := by rw [hm]
  have e5 : (mt m).2.2.2.2.2 = RK := by rw [hm]
  subst e0 e1 e2 e3 e4 e5
  have e0' : (mt m').1 = Y' := by rw [hm']
  have e1' : (mt m').2.1 = CD' := by rw [hm']
  have e2' : (mt m').2.2.1 = NL' := by rw [hm']
  have e3' : (mt m').2.2.2.1 = RT' := by rw [hm']
  have e5' : (mt m').2.2.2.2.2 = RK' := by rw [hm']
  subst e0' e1' e2' e3' e5'
  exact run_IN hd hini hrt (by rw [hm']) hq1 hq2 hq5 (by unfold CodeIn; rw [hm']; exact hq4) hdd hn
theorem w_run_U (hm : mt m = (Y, CD, NL, RT, HH, RK)) (hm' : mt m' = (Y', CD', NL', RT', none, RK')) {index n b ci : Nat} {owner : String} {x : MethodName} {h : AH} {as : List Value} {r9 : vw_C} (hd : decode CD pc = .ok (.invokevirtual index, 3)) (et : (hcl h b).1 = ci + 1 ∨ (hcl h b).1 = ci + 1001) (h9 : ci < 99) (hv : vwCl[ci]? = some r9)  (hkind : Y' = ⟨owner, x.name, x.desc⟩ ∨ (∃ (b0 : ByteArray) (m0 : Nat) (r0 : Option FieldType), Cond.code ⟨owner, x.name, x.desc⟩ b0 m0 r0 ∈ lw_all ∧ Cond.instanceMethod ⟨owner, x.name, x.desc⟩ ∈ lw_all) ∨ Cond.declares ⟨owner, x.name, x.desc⟩ ∈ nwL) (hq1 : Cond.methodLink Y.cls index x ∈ lw_all) (hqs : Cond.sameMethod x.cls owner x.name x.desc ∈ lw_all) (hq2 : Cond.instanceMethod Y' ∈ lw_all) (hq3 : Cond.selects r9.1 x Y' ∈ lw_all) (hq5 : Cond.initialized Y'.cls ∈ lw_all) (hq4 : Cond.code Y' CD' NL' RT' ∈ lw_all) (hdd : owner ≠ "java/lang/invoke/MethodHandle" ∧ owner ≠ "java/lang/invoke/VarHandle" ∧ (parseMethodDescriptor x.desc).map (fun d => d.parameters.length) = some n) (hn : as.length = n) : RunOK mt G m pc 3 m' h (.ref b :: as) := by
  have e0 : (mt m).1 = Y := by rw [hm]
  have e1 : (mt m).2.1 = CD := by rw [hm]
  have e2 : (mt m).2.2.1 = NL := by rw [hm]
  have e3 : (mt m).2.2.2.1 = RT := by rw [hm]
  have e4 : (mt m).2.2.2.2.1 = HH := by rw [hm]
  have e5 : (mt m).2.2.2.2.2 = RK := by rw [hm]
  subst e0 e1 e2 e3 e4 e5
  have e0' : (mt m').1 = Y' := by rw [hm']
  have e1' : (mt m').2.1 = CD' := by rw [hm']
  have e2' : (mt m').2.2.1 = NL' := by rw [hm']
  have e3' : (mt m').2.2.2.1 = RT' := by rw [hm']
  have e5' : (mt m').2.2.2.2.2 = RK' := by rw [hm']
  subst e0' e1' e2' e3' e5'
  exact run_U hd et h9 hv (by rw [hm']) hkind hq1 hqs hq2 hq3 hq5 (by unfold CodeIn; rw [hm']; exact hq4) hdd hn
theorem w_run_SU (hm : mt m = (Y, CD, NL, RT, HH, RK)) (hm' : mt m' = (Y', CD', NL', RT', none, RK')) {index n b ci : Nat} {h : AH} {as : List Value} {r9 : vw_C} (hd : decode CD pc = .ok (.invokespecial index, 3)) (et : (hcl h b).1 = ci + 1 ∨ (hcl h b).1 = ci + 1001) (h9 : ci < 99) (hv : vwCl[ci]? = some r9)  (hq1 : Cond.methodLink Y.cls index Y' ∈ lw_all) (hqs : Cond.sameMethod Y'.cls Y'.cls Y'.name Y'.desc ∈ lw_all) (hqp : Cond.superclass Y.cls Y'.cls ∈ lw_all) (hq2 : Cond.instanceMethod Y' ∈ lw_all) (hq5 : Cond.initialized Y'.cls ∈ lw_all) (hq4 : Cond.code Y' CD' NL' RT' ∈ lw_all) (hdd : Y'.name ≠ "<init>" ∧ (parseMethodDescriptor Y'.desc).map (fun d => d.parameters.length) = some n) (hn : as.length = n) : RunOK mt G m pc 3 m' h (.ref b :: as) := by
  have e0 : (mt m).1 = Y := by rw [hm]
  have e1 : (mt m).2.1 = CD := by rw [hm]
  have e2 : (mt m).2.2.1 = NL := by rw [hm]
  have e3 : (mt m).2.2.2.1 = RT := by rw [hm]
  have e4 : (mt m).2.2.2.2.1 = HH := by rw [hm]
  have e5 : (mt m).2.2.2.2.2 = RK := by rw [hm]
  subst e0 e1 e2 e3 e4 e5
  have e0' : (mt m').1 = Y' := by rw [hm']
  have e1' : (mt m').2.1 = CD' := by rw [hm']
  have e2' : (mt m').2.2.1 = NL' := by rw [hm']
  have e3' : (mt m').2.2.2.1 = RT' := by rw [hm']
  have e5' : (mt m').2.2.2.2.2 = RK' := by rw [hm']
  subst e0' e1' e2' e3' e5'
  exact run_SU hd et h9 hv (by rw [hm']) hq1 hqs hqp hq2 hq5 (by unfold CodeIn; rw [hm']; exact hq4) hdd hn
theorem w_run_F (hm : mt m = (Y, CD, NL, RT, HH, RK)) (hm' : mt m' = (Y', CD', NL', RT', none, RK')) {index count n b ci : Nat} {x : MethodName} {h : AH} {as : List Value} {r9 : vw_C} (hd : decode CD pc = .ok (.invokeinterface index count, 5)) (et : (hcl h b).1 = ci + 1 ∨ (hcl h b).1 = ci + 1001) (h9 : ci < 99) (hv : vwCl[ci]? = some r9)  (hF : (r9.1, x, Y') ∈ fwL) (hq1 : Cond.methodLink Y.cls index x ∈ lw_all) (hq2 : Cond.instanceMethod Y' ∈ lw_all) (hq3 : Cond.selects r9.1 x Y' ∈ lw_all) (hq5 : Cond.initialized Y'.cls ∈ lw_all) (hq4 : Cond.code Y' CD' NL' RT' ∈ lw_all) (hdd : ParN x n) (hn : as.length = n) : RunOK mt G m pc 5 m' h (.ref b :: as) := by
  have e0 : (mt m).1 = Y := by rw [hm]
  have e1 : (mt m).2.1 = CD := by rw [hm]
  have e2 : (mt m).2.2.1 = NL := by rw [hm]
  have e3 : (mt m).2.2.2.1 = RT := by rw [hm]
  have e4 : (mt m).2.2.2.2.1 = HH := by rw [hm]
  have e5 : (mt m).2.2.2.2.2 = RK := by rw [hm]
  subst e0 e1 e2 e3 e4 e5
  have e0' : (mt m').1 = Y' := by rw [hm']
  have e1' : (mt m').2.1 = CD' := by rw [hm']
  have e2' : (mt m').2.2.1 = NL' := by rw [hm']
  have e3' : (mt m').2.2.2.1 = RT' := by rw [hm']
  have e5' : (mt m').2.2.2.2.2 = RK' := by rw [hm']
  subst e0' e1' e2' e3' e5'
  exact run_F hd et h9 hv (by rw [hm']) hF hq1 hq2 hq3 hq5 (by unfold CodeIn; rw [hm']; exact hq4) hdd hn
theorem w_run_UP (hm : mt m = (Y, CD, NL, RT, HH, RK)) (hm' : mt m' = (Y', CD', NL', RT', none, RK')) {index n b ci : Nat} {x0 y0 : MethodName} {h : AH} {as : List Value} {r9 : vw_C} (hd : decode CD pc = .ok (.invokevirtual index, 3)) (et : (hcl h b).1 = ci + 1 ∨ (hcl h b).1 = ci + 1001) (h9 : ci < 99) (hv : vwCl[ci]? = some r9)  (hq0 : Cond.selects r9.1 x0 y0 ∈ lw_all) (hcl : y0.cls = Y'.cls) (hqp : Cond.privateMethod Y' ∈ nwL) (hq1 : Cond.methodLink Y.cls index Y' ∈ lw_all) (hqs : Cond.sameMethod Y'.cls Y'.cls Y'.name Y'.desc ∈ lw_all) (hq2 : Cond.instanceMethod Y' ∈ lw_all) (hq5 : Cond.initialized Y'.cls ∈ lw_all) (hq4 : Cond.code Y' CD' NL' RT' ∈ lw_all) (hdd : ParN Y' n) (hn : as.length = n) : RunOK mt G m pc 3 m' h (.ref b :: as) := by
  have e0 : (mt m).1 = Y := by rw [hm]
  have e1 : (mt m).2.1 = CD := by rw [hm]
  have e2 : (mt m).2.2.1 = NL := by rw [hm]
  have e3 : (mt m).2.2.2.1 = RT := by rw [hm]
  have e4 : (mt m).2.2.2.2.1 = HH := by rw [hm]
  have e5 : (mt m).2.2.2.2.2 = RK := by rw [hm]
  subst e0 e1 e2 e3 e4 e5
  have e0' : (mt m').1 = Y' := by rw [hm']
  have e1' : (mt m').2.1 = CD' := by rw [hm']
  have e2' : (mt m').2.2.1 = NL' := by rw [hm']
  have e3' : (mt m').2.2.2.1 = RT' := by rw [hm']
  have e5' : (mt m').2.2.2.2.2 = RK' := by rw [hm']
  subst e0' e1' e2' e3' e5'
  exact run_UP hd et h9 hv (by rw [hm']) hq0 hcl hqp hq1 hqs hq2 hq5 (by unfold CodeIn; rw [hm']; exact hq4) hdd hn
theorem w_xok0 (hm : mt m = (Y, CD, NL, RT, none, RK)) : XOK mt m pc xOut := xok_out (pass_none (by rw [hm]))
theorem w_xok1 (hm : mt m = (Y, CD, NL, RT, HH, RK)) (h : (tableOf (HH.getD [])).all (fun z => !covers z pc) = true) : XOK mt m pc xOut := xok_out (pass_unc (by rw [hm]; exact h))
def CatchOKw (Y : MethodName) (HH : Option (List (Nat × Nat × Nat × Nat))) (pc : Nat) (z : Nat × Nat) : Prop := ∃ (ci : Nat) (r9 : vw_C) (k : Nat) (x : ExceptionTableEntry) (nm : String), z.1 = ci + 1 ∧ ci < 99 ∧ vwCl[ci]? = some r9 ∧ (tableOf (HH.getD []))[k]? = some x ∧ x.handlerPc = z.2 ∧ (∀ y ∈ (tableOf (HH.getD [])).take k, covers y pc = false ∨ (y.catchType ≠ 0 ∧ ∃ nm : String, Cond.classLink Y.cls y.catchType nm ∈ lw_all ∧ (r9.1, nm) ∈ ncL)) ∧ covers x pc = true ∧ x.catchType ≠ 0 ∧ Cond.classLink Y.cls x.catchType nm ∈ lw_all ∧ Cond.castable r9.1 nm ∈ nwL
theorem w_xokC {L : List (Nat × Nat)} (hm : mt m = (Y, CD, NL, RT, HH, RK)) (hL : ∀ z ∈ L, CatchOKw Y HH pc z) : XOK mt m pc (xCatch L) := by
  have e0 : (mt m).1 = Y := by rw [hm]
  have e1 : (mt m).2.1 = CD := by rw [hm]
  have e2 : (mt m).2.2.1 = NL := by rw [hm]
  have e3 : (mt m).2.2.2.1 = RT := by rw [hm]
  have e4 : (mt m).2.2.2.2.1 = HH := by rw [hm]
  have e5 : (mt m).2.2.2.2.2 = RK := by rw [hm]
  subst e0 e1 e2 e3 e4 e5
  exact xok_catch hL
end AMW
theorem vc_0 : vwCl[0]? = some (RX1, TX1, 23) := rfl
theorem vc_1 : vwCl[1]? = some (RX2, TX2, 19) := rfl
theorem vc_2 : vwCl[2]? = some (RJ2, TJ2, 3) := rfl
theorem vc_3 : vwCl[3]? = some (RX3, TX3, 71) := rfl
theorem vc_4 : vwCl[4]? = some (RX4, TX4, 2) := rfl
theorem vc_5 : vwCl[5]? = some (RX5, TX5, 4) := rfl
theorem vc_6 : vwCl[6]? = some (RX6, TX6, 8) := rfl
theorem vc_7 : vwCl[7]? = some (RX8, TX8, 3) := rfl
theorem vc_8 : vwCl[8]? = some (RX9, TX9, 4) := rfl
theorem vc_9 : vwCl[9]? = some (RX10, TX10, 1) := rfl
theorem vc_10 : vwCl[10]? = some (RX11, TX11, 3) := rfl
theorem vc_11 : vwCl[11]? = some (RX12, TX12, 1) := rfl
theorem vc_12 : vwCl[12]? = some (RX13, TX13, 4) := rfl
theorem vc_13 : vwCl[13]? = some (RX14, TX14, 2) := rfl
theorem vc_14 : vwCl[14]? = some (RX16, TX16, 1) := rfl
theorem vc_15 : vwCl[15]? = some (RX17, TX17, 3) := rfl
theorem vc_16 : vwCl[16]? = some (RX18, TX18, 3) := rfl
theorem vc_17 : vwCl[17]? = some (RX19, TX19, 4) := rfl
theorem vc_18 : vwCl[18]? = some (RX20, TX20, 12) := rfl
theorem vc_19 : vwCl[19]? = some (RX21, TX21, 6) := rfl
theorem vc_20 : vwCl[20]? = some (RX22, TX22, 3) := rfl
theorem vc_21 : vwCl[21]? = some (RX23, TX23, 4) := rfl
theorem vc_22 : vwCl[22]? = some (RX24, TX24, 6) := rfl
theorem vc_23 : vwCl[23]? = some (RX25, TX25, 4) := rfl
theorem vc_24 : vwCl[24]? = some (RX26, TX26, 3) := rfl
theorem vc_25 : vwCl[25]? = some (RX27, TX27, 2) := rfl
theorem vc_26 : vwCl[26]? = some (RX28, TX28, 2) := rfl
theorem vc_27 : vwCl[27]? = some (RX29, TX29, 3) := rfl
theorem vc_28 : vwCl[28]? = some (RJ8, TJ8, 4) := rfl
theorem vc_29 : vwCl[29]? = some (RJ9, TJ9, 4) := rfl
theorem vc_30 : vwCl[30]? = some (RJ17, TJ17, 1) := rfl
theorem vc_31 : vwCl[31]? = some (RJ6, T0, 0) := rfl
theorem vc_32 : vwCl[32]? = some (RJ19, T0, 0) := rfl
theorem vc_33 : vwCl[33]? = some (RJ20, T0, 0) := rfl
theorem vc_34 : vwCl[34]? = some (RJ21, T0, 0) := rfl
theorem at_0 : aTy[0]? = some (.int) := rfl
theorem at_1 : aTy[1]? = some (.byte) := rfl
theorem at_2 : aTy[2]? = some (.long) := rfl
theorem at_3 : aTy[3]? = some (.object "java/lang/Object") := rfl
theorem at_4 : aTy[4]? = some (.object "LimbBenches$Part") := rfl
theorem at_5 : aTy[5]? = some (.object "LimbBenches$State") := rfl
theorem at_6 : aTy[6]? = some (.array .int) := rfl
theorem at_7 : aTy[7]? = some (.object "java/lang/Integer") := rfl
theorem sl_0 : stL[0]? = some ("java/lang/String", "COMPACT_STRINGS", "Z") := rfl
theorem sl_1 : stL[1]? = some ("java/util/ArrayList", "EMPTY_ELEMENTDATA", "[Ljava/lang/Object;") := rfl
theorem sl_2 : stL[2]? = some ("java/util/ArrayList", "DEFAULTCAPACITY_EMPTY_ELEMENTDATA", "[Ljava/lang/Object;") := rfl
theorem sl_3 : stL[3]? = some ("java/lang/Integer$IntegerCache", "high", "I") := rfl
theorem sl_4 : stL[4]? = some ("java/lang/Integer$IntegerCache", "cache", "[Ljava/lang/Integer;") := rfl
theorem sl_5 : stL[5]? = some ("java/lang/Throwable", "UNASSIGNED_STACK", "[Ljava/lang/StackTraceElement;") := rfl
theorem sl_6 : stL[6]? = some ("java/lang/Throwable", "SUPPRESSED_SENTINEL", "Ljava/util/List;") := rfl
theorem sl_7 : stL[7]? = some ("jdk/internal/util/Preconditions", "SIOOBE_FORMATTER", "Ljava/util/function/BiFunction;") := rfl
theorem sr_0 : srL[0]? = some ("LimbBenches$Reader", 111, "bar") := rfl
theorem sr_1 : srL[1]? = some ("LimbBenches$Reader", 113, "life") := rfl
theorem sr_2 : srL[2]? = some ("LimbBenches$Reader", 115, "right") := rfl
theorem sr_3 : srL[3]? = some ("LimbBenches$Reader", 117, "need") := rfl
theorem sr_4 : srL[4]? = some ("LimbBenches$Reader", 118, "reuse") := rfl
theorem sr_5 : srL[5]? = some ("LimbBenches$Reader", 120, "recall") := rfl
theorem sr_6 : srL[6]? = some ("LimbBenches$Reader", 122, "wait") := rfl
theorem sr_7 : srL[7]? = some ("LimbBenches$Reader", 207, "least") := rfl
theorem sr_8 : srL[8]? = some ("LimbBenches$Reader", 209, "most") := rfl
theorem sr_9 : srL[9]? = some ("LimbBenches$Reader", 190, "weight") := rfl
theorem sr_10 : srL[10]? = some ("LimbBenches$Reader", 192, "trade") := rfl
theorem sr_11 : srL[11]? = some ("LimbBenches$Reader", 194, "age") := rfl
theorem sr_12 : srL[12]? = some ("LimbBenches$Reader", 196, "hill") := rfl
theorem sr_13 : srL[13]? = some ("LimbBenches$Reader", 198, "steps") := rfl
theorem sr_14 : srL[14]? = some ("LimbBenches$Reader", 200, "spent") := rfl
theorem sr_15 : srL[15]? = some ("LimbBenches$Reader", 89, "if") := rfl
theorem sr_16 : srL[16]? = some ("LimbBenches$Reader", 169, "not") := rfl
theorem sr_17 : srL[17]? = some ("LimbBenches$Reader", 164, "and") := rfl
theorem sr_18 : srL[18]? = some ("LimbBenches$Reader", 154, "or") := rfl
