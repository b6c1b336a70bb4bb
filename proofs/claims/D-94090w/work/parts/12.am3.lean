/-! INSTRUCTIONS that leave the heap as it is: constants, locals, stack, arithmetic, branches -/
set_option maxRecDepth 100000
def oConst (v : Value) (n : Nat) : AOp := fun _ ls st h => nx n ls (v :: st) h
def oIload (i n : Nat) : AOp := fun _ ls st h => match ls[i]? with
  | some (some (.int x)) => nx n ls (.int x :: st) h
  | _ => stuck
def oLload (i n : Nat) : AOp := fun _ ls st h => match ls[i]? with
  | some (some (.long x)) => nx n ls (.long x :: st) h
  | _ => stuck
def oAload (i n : Nat) : AOp := fun _ ls st h => match ls[i]? with
  | some (some (.ref x)) => nx n ls (.ref x :: st) h
  | some (some .null) => nx n ls (.null :: st) h
  | _ => stuck
def oIstore (i n : Nat) : AOp := fun _ ls st h => match st with
  | .int x :: r => nx n (lput ls i (.int x)) r h
  | _ => stuck
def oAstore (i n : Nat) : AOp := fun _ ls st h => match st with
  | .ref x :: r => nx n (lput ls i (.ref x)) r h
  | .null :: r => nx n (lput ls i .null) r h
  | _ => stuck
def oIinc (i : Nat) (k : Int32) (n : Nat) : AOp := fun _ ls st h => match ls[i]? with
  | some (some (.int x)) => nx n (lput ls i (.int (x + k))) st h
  | _ => stuck
def oBin (f : Int32 → Int32 → Int32) (n : Nat) : AOp := fun _ ls st h => match st with
  | .int y :: .int x :: r => nx n ls (.int (f x y) :: r) h
  | _ => stuck
def oDiv (f : Int32 → Int32 → Int32) (n : Nat) : AOp := fun _ ls st h => match st with
  | .int y :: .int x :: r => if y = 0 then stuck else nx n ls (.int (f x y) :: r) h
  | _ => stuck
def oUn (f : Int32 → Value) (n : Nat) : AOp := fun _ ls st h => match st with
  | .int x :: r => nx n ls (f x :: r) h
  | _ => stuck
def oLun (f : Int64 → Value) (n : Nat) : AOp := fun _ ls st h => match st with
  | .long x :: r => nx n ls (f x :: r) h
  | _ => stuck
def oLbin (f : Int64 → Int64 → Value) (n : Nat) : AOp := fun _ ls st h => match st with
  | .long y :: .long x :: r => nx n ls (f x y :: r) h
  | _ => stuck
def oLdiv (f : Int64 → Int64 → Value) (n : Nat) : AOp := fun _ ls st h => match st with
  | .long y :: .long x :: r => if y = 0 then stuck else nx n ls (f x y :: r) h
  | _ => stuck
def oDup (n : Nat) : AOp := fun _ ls st h => match st with
  | v :: r => if v.category = 1 then nx n ls (v :: v :: r) h else stuck
  | _ => stuck
def oPop (n : Nat) : AOp := fun _ ls st h => match st with
  | v :: r => if v.category = 1 then nx n ls r h else stuck
  | _ => stuck
def oDupx1 (n : Nat) : AOp := fun _ ls st h => match st with
  | v :: w :: r => if v.category = 1 ∧ w.category = 1 then nx n ls (v :: w :: v :: r) h else stuck
  | _ => stuck
def oDup2 (n : Nat) : AOp := fun _ ls st h => match st with
  | v :: w :: r => if v.category = 1 ∧ w.category = 1 then nx n ls (v :: w :: v :: w :: r) h else stuck
  | _ => stuck
def oGoto (t : Nat) : AOp := fun _ ls st h => nx t ls st h
def oIfEq (t n : Nat) : AOp := fun _ ls st h => match st with
  | .int x :: r => if x = 0 then nx t ls r h else nx n ls r h
  | _ => stuck
def oIfLt (t n : Nat) : AOp := fun _ ls st h => match st with
  | .int x :: r => if x < 0 then nx t ls r h else nx n ls r h
  | _ => stuck
def oIfGt (t n : Nat) : AOp := fun _ ls st h => match st with
  | .int x :: r => if 0 < x then nx t ls r h else nx n ls r h
  | _ => stuck
def oIfLe (t n : Nat) : AOp := fun _ ls st h => match st with
  | .int x :: r => if x ≤ 0 then nx t ls r h else nx n ls r h
  | _ => stuck
def oIfGe (t n : Nat) : AOp := fun _ ls st h => match st with
  | .int x :: r => if 0 ≤ x then nx t ls r h else nx n ls r h
  | _ => stuck
def oCmpEq (t n : Nat) : AOp := fun _ ls st h => match st with
  | .int y :: .int x :: r => if x = y then nx t ls r h else nx n ls r h
  | _ => stuck
def oCmpLt (t n : Nat) : AOp := fun _ ls st h => match st with
  | .int y :: .int x :: r => if x < y then nx t ls r h else nx n ls r h
  | _ => stuck
def oCmpGe (t n : Nat) : AOp := fun _ ls st h => match st with
  | .int y :: .int x :: r => if y ≤ x then nx t ls r h else nx n ls r h
  | _ => stuck
def oCmpGt (t n : Nat) : AOp := fun _ ls st h => match st with
  | .int y :: .int x :: r => if y < x then nx t ls r h else nx n ls r h
  | _ => stuck
def oCmpLe (t n : Nat) : AOp := fun _ ls st h => match st with
  | .int y :: .int x :: r => if x ≤ y then nx t ls r h else nx n ls r h
  | _ => stuck
def oIfNull (t n : Nat) : AOp := fun _ ls st h => match st with
  | .null :: r => nx t ls r h
  | .ref _ :: r => nx n ls r h
  | _ => stuck
def oAcmp (t n : Nat) : AOp := fun _ ls st h => match st with
  | .null :: .null :: r => nx t ls r h
  | .null :: .ref _ :: r => nx n ls r h
  | .ref _ :: .null :: r => nx n ls r h
  | .ref y :: .ref x :: r => if x = y then nx t ls r h else nx n ls r h
  | _ => stuck
def oSwitch (f : Int32 → Nat) : AOp := fun _ ls st h => match st with
  | .int x :: r => nx (f x) ls r h
  | _ => stuck
section AM3
variable {mt : Nat → MT} {G : AG} {m pc : Nat}
theorem s_iconst {k : Int} {v : Int32} (hd : decode (mt m).2.1 pc = .ok (.iconst k, 1)) (hv : Int32.ofInt k = v) : Snd mt G m pc (oConst (.int v) (pc + 1)) :=
  snd_prow fun _ _ _ _ => Or.inr ⟨_, _, _, rfl, fun _ _ _ _ _ _ _ _ _ _ _ _ _ _ _ hx hb _ _ _ _ _ _ _ _ L hL k => lv_iconst hx hb hd hv (k L hL)⟩
theorem s_bipush {k : Int} {v : Int32} (hd : decode (mt m).2.1 pc = .ok (.bipush k, 2)) (hv : (Int8.ofInt k).toInt32 = v) : Snd mt G m pc (oConst (.int v) (pc + 2)) :=
  snd_prow fun _ _ _ _ => Or.inr ⟨_, _, _, rfl, fun _ _ _ _ _ _ _ _ _ _ _ _ _ _ _ hx hb _ _ _ _ _ _ _ _ L hL k => lv_bipush hx hb hd hv (k L hL)⟩
theorem s_sipush {k : Int} {v : Int32} (hd : decode (mt m).2.1 pc = .ok (.sipush k, 3)) (hv : (Int16.ofInt k).toInt32 = v) : Snd mt G m pc (oConst (.int v) (pc + 3)) :=
  snd_prow fun _ _ _ _ => Or.inr ⟨_, _, _, rfl, fun _ _ _ _ _ _ _ _ _ _ _ _ _ _ _ hx hb _ _ _ _ _ _ _ _ L hL k => lv_sipush hx hb hd hv (k L hL)⟩
theorem s_lconst {k : Fin 2} {v : Int64} (hd : decode (mt m).2.1 pc = .ok (.lconst k, 1)) (hv : Int64.ofNat (k : Nat) = v) : Snd mt G m pc (oConst (.long v) (pc + 1)) :=
  snd_prow fun _ _ _ _ => Or.inr ⟨_, _, _, rfl, fun _ _ _ _ _ _ _ _ _ _ _ _ _ _ _ hx hb _ _ _ _ _ _ _ _ L hL k => lv_lconst hx hb hd hv (k L hL)⟩
theorem s_null (hd : decode (mt m).2.1 pc = .ok (.aconst_null, 1)) : Snd mt G m pc (oConst .null (pc + 1)) :=
  snd_prow fun _ _ _ _ => Or.inr ⟨_, _, _, rfl, fun _ _ _ _ _ _ _ _ _ _ _ _ _ _ _ hx hb _ _ _ _ _ _ _ _ L hL k => lv_null hx hb hd (k L hL)⟩
theorem s_ldc {index : Nat} {v : Int32} (hd : decode (mt m).2.1 pc = .ok (.ldc index, 2)) (hw : Cond.constant (mt m).1.cls index v ∈ lw_all) : Snd mt G m pc (oConst (.int v) (pc + 2)) :=
  snd_prow fun _ _ _ _ => Or.inr ⟨_, _, _, rfl, fun _ _ _ _ _ _ _ _ _ _ _ _ _ _ _ hx hb ho ht _ _ _ _ _ _ L hL k => lv_ldc hx hb ho (ht _ hw) hd (k L hL)⟩
theorem s_ldcw {index : Nat} {v : Int32} (hd : decode (mt m).2.1 pc = .ok (.ldc_w index, 3)) (hw : Cond.constant (mt m).1.cls index v ∈ lw_all) : Snd mt G m pc (oConst (.int v) (pc + 3)) :=
  snd_prow fun _ _ _ _ => Or.inr ⟨_, _, _, rfl, fun _ _ _ _ _ _ _ _ _ _ _ _ _ _ _ hx hb ho ht _ _ _ _ _ _ L hL k => lv_ldcw hx hb ho (ht _ hw) hd (k L hL)⟩
theorem s_ldc2 {index : Nat} {v : Int64} (hd : decode (mt m).2.1 pc = .ok (.ldc2_w index, 3)) (hw : Cond.constantLong (mt m).1.cls index v ∈ lw_all) : Snd mt G m pc (oConst (.long v) (pc + 3)) :=
  snd_prow fun _ _ _ _ => Or.inr ⟨_, _, _, rfl, fun _ _ _ _ _ _ _ _ _ _ _ _ _ _ _ hx hb ho ht _ _ _ _ _ _ L hL k => lv_ldc2 hx hb ho (ht _ hw) hd (k L hL)⟩
theorem s_iload_n {k : Fin 4} (hd : decode (mt m).2.1 pc = .ok (.iload_n k, 1)) : Snd mt G m pc (oIload (k : Nat) (pc + 1)) := by
  refine snd_prow fun d ls st h => ?_
  unfold oIload
  split
  · next x hl => exact Or.inr ⟨_, _, _, rfl, fun _ _ _ _ _ _ _ _ _ _ _ _ _ _ _ hx hb _ _ _ _ _ _ _ _ L hL k => lv_iload_n hx hb hd rfl (hL.at hl) (k L hL)⟩
  · exact Or.inl rfl
theorem s_iload {i : Nat} (hd : decode (mt m).2.1 pc = .ok (.iload i, 2)) : Snd mt G m pc (oIload i (pc + 2)) := by
  refine snd_prow fun d ls st h => ?_
  unfold oIload
  split
  · next x hl => exact Or.inr ⟨_, _, _, rfl, fun _ _ _ _ _ _ _ _ _ _ _ _ _ _ _ hx hb _ _ _ _ _ _ _ _ L hL k => lv_iload hx hb hd (hL.at hl) (k L hL)⟩
  · exact Or.inl rfl
theorem s_lload_n {k : Fin 4} (hd : decode (mt m).2.1 pc = .ok (.lload_n k, 1)) : Snd mt G m pc (oLload (k : Nat) (pc + 1)) := by
  refine snd_prow fun d ls st h => ?_
  unfold oLload
  split
  · next x hl => exact Or.inr ⟨_, _, _, rfl, fun _ _ _ _ _ _ _ _ _ _ _ _ _ _ _ hx hb _ _ _ _ _ _ _ _ L hL k => lv_lload_n hx hb hd rfl (hL.at hl) (k L hL)⟩
  · exact Or.inl rfl
theorem s_aload_n {k : Fin 4} (hd : decode (mt m).2.1 pc = .ok (.aload_n k, 1)) : Snd mt G m pc (oAload (k : Nat) (pc + 1)) := by
  refine snd_prow fun d ls st h => ?_
  unfold oAload
  split
  · next x hl => exact Or.inr ⟨_, _, _, rfl, fun _ _ _ _ _ _ _ _ _ _ _ _ _ _ _ hx hb _ _ _ _ _ _ _ _ L hL k => lv_aload_n hx hb hd rfl (hL.at hl) (k L hL)⟩
  · next hl => exact Or.inr ⟨_, _, _, rfl, fun _ _ _ _ _ _ _ _ _ _ _ _ _ _ _ hx hb _ _ _ _ _ _ _ _ L hL k => lv_aload_nN hx hb hd rfl (hL.at hl) (k L hL)⟩
  · exact Or.inl rfl
theorem s_aload {i : Nat} (hd : decode (mt m).2.1 pc = .ok (.aload i, 2)) : Snd mt G m pc (oAload i (pc + 2)) := by
  refine snd_prow fun d ls st h => ?_
  unfold oAload
  split
  · next x hl => exact Or.inr ⟨_, _, _, rfl, fun _ _ _ _ _ _ _ _ _ _ _ _ _ _ _ hx hb _ _ _ _ _ _ _ _ L hL k => lv_aload hx hb hd (hL.at hl) (k L hL)⟩
  · next hl => exact Or.inr ⟨_, _, _, rfl, fun _ _ _ _ _ _ _ _ _ _ _ _ _ _ _ hx hb _ _ _ _ _ _ _ _ L hL k => lv_aloadN hx hb hd (hL.at hl) (k L hL)⟩
  · exact Or.inl rfl
theorem s_istore_n {k : Fin 4} (hd : decode (mt m).2.1 pc = .ok (.istore_n k, 1)) (hn : (k : Nat) < (mt m).2.2.1) : Snd mt G m pc (oIstore (k : Nat) (pc + 1)) := by
  refine snd_prow fun d ls st h => ?_
  unfold oIstore
  split
  · exact Or.inr ⟨_, _, _, rfl, fun _ _ _ _ _ _ _ _ _ _ _ _ _ _ _ hx hb _ _ _ _ _ _ _ _ L hL k => lv_istore_n hx hb hd rfl hL.ascs hn rfl (fun L' hL' => k L' (hL.put hL'))⟩
  · exact Or.inl rfl
theorem s_istore {i : Nat} (hd : decode (mt m).2.1 pc = .ok (.istore i, 2)) (hn : i < (mt m).2.2.1) : Snd mt G m pc (oIstore i (pc + 2)) := by
  refine snd_prow fun d ls st h => ?_
  unfold oIstore
  split
  · exact Or.inr ⟨_, _, _, rfl, fun _ _ _ _ _ _ _ _ _ _ _ _ _ _ _ hx hb _ _ _ _ _ _ _ _ L hL k => lv_istore hx hb hd hL.ascs hn rfl (fun L' hL' => k L' (hL.put hL'))⟩
  · exact Or.inl rfl
theorem s_astore_n {k : Fin 4} (hd : decode (mt m).2.1 pc = .ok (.astore_n k, 1)) (hn : (k : Nat) < (mt m).2.2.1) : Snd mt G m pc (oAstore (k : Nat) (pc + 1)) := by
  refine snd_prow fun d ls st h => ?_
  unfold oAstore
  split
  · exact Or.inr ⟨_, _, _, rfl, fun _ _ _ _ _ _ _ _ _ _ _ _ _ _ _ hx hb _ _ _ _ _ _ _ _ L hL k => lv_astore_n hx hb hd rfl hL.ascs hn rfl (fun L' hL' => k L' (hL.put hL'))⟩
  · exact Or.inr ⟨_, _, _, rfl, fun _ _ _ _ _ _ _ _ _ _ _ _ _ _ _ hx hb _ _ _ _ _ _ _ _ L hL k => lv_astore_nN hx hb hd rfl hL.ascs hn rfl (fun L' hL' => k L' (hL.put hL'))⟩
  · exact Or.inl rfl
theorem s_astore {i : Nat} (hd : decode (mt m).2.1 pc = .ok (.astore i, 2)) (hn : i < (mt m).2.2.1) : Snd mt G m pc (oAstore i (pc + 2)) := by
  refine snd_prow fun d ls st h => ?_
  unfold oAstore
  split
  · exact Or.inr ⟨_, _, _, rfl, fun _ _ _ _ _ _ _ _ _ _ _ _ _ _ _ hx hb _ _ _ _ _ _ _ _ L hL k => lv_astore hx hb hd hL.ascs hn rfl (fun L' hL' => k L' (hL.put hL'))⟩
  · exact Or.inr ⟨_, _, _, rfl, fun _ _ _ _ _ _ _ _ _ _ _ _ _ _ _ hx hb _ _ _ _ _ _ _ _ L hL k => lv_astoreN hx hb hd hL.ascs hn rfl (fun L' hL' => k L' (hL.put hL'))⟩
  · exact Or.inl rfl
theorem s_iinc {i : Nat} {k : Int} {v : Int32} (hd : decode (mt m).2.1 pc = .ok (.iinc i k, 3)) (hv : Int32.ofInt k = v) (hn : i < (mt m).2.2.1) : Snd mt G m pc (oIinc i v (pc + 3)) := by
  subst hv
  refine snd_prow fun d ls st h => ?_
  unfold oIinc
  split
  · next x hl =>
    obtain ⟨j, hj⟩ := List.getElem?_of_mem (asc_mem (q := (i, Value.int x)).mpr hl)
    exact Or.inr ⟨_, _, _, rfl, fun _ _ _ _ _ _ _ _ _ _ _ _ _ _ _ hx hb _ _ _ _ _ _ _ _ L hL k => lv_iinc hx hb hd hL.ascs hj rfl hn rfl (fun L' hL' => k L' (hL.put hL'))⟩
  · exact Or.inl rfl
theorem s_iadd (hd : decode (mt m).2.1 pc = .ok (.iadd, 1)) : Snd mt G m pc (oBin (fun x y => x + y) (pc + 1)) := by
  refine snd_prow fun d ls st h => ?_
  unfold oBin
  split
  · exact Or.inr ⟨_, _, _, rfl, fun _ _ _ _ _ _ _ _ _ _ _ _ _ _ _ hx hb _ _ _ _ _ _ _ _ L hL k => lv_iadd hx hb hd (k L hL)⟩
  · exact Or.inl rfl
theorem s_isub (hd : decode (mt m).2.1 pc = .ok (.isub, 1)) : Snd mt G m pc (oBin (fun x y => x - y) (pc + 1)) := by
  refine snd_prow fun d ls st h => ?_
  unfold oBin
  split
  · exact Or.inr ⟨_, _, _, rfl, fun _ _ _ _ _ _ _ _ _ _ _ _ _ _ _ hx hb _ _ _ _ _ _ _ _ L hL k => lv_isub hx hb hd (k L hL)⟩
  · exact Or.inl rfl
theorem s_imul (hd : decode (mt m).2.1 pc = .ok (.imul, 1)) : Snd mt G m pc (oBin (fun x y => x * y) (pc + 1)) := by
  refine snd_prow fun d ls st h => ?_
  unfold oBin
  split
  · exact Or.inr ⟨_, _, _, rfl, fun _ _ _ _ _ _ _ _ _ _ _ _ _ _ _ hx hb _ _ _ _ _ _ _ _ L hL k => lv_imul hx hb hd (k L hL)⟩
  · exact Or.inl rfl
theorem s_iand (hd : decode (mt m).2.1 pc = .ok (.iand, 1)) : Snd mt G m pc (oBin (fun x y => x &&& y) (pc + 1)) := by
  refine snd_prow fun d ls st h => ?_
  unfold oBin
  split
  · exact Or.inr ⟨_, _, _, rfl, fun _ _ _ _ _ _ _ _ _ _ _ _ _ _ _ hx hb _ _ _ _ _ _ _ _ L hL k => lv_iand hx hb hd (k L hL)⟩
  · exact Or.inl rfl
theorem s_ior (hd : decode (mt m).2.1 pc = .ok (.ior, 1)) : Snd mt G m pc (oBin (fun x y => x ||| y) (pc + 1)) := by
  refine snd_prow fun d ls st h => ?_
  unfold oBin
  split
  · exact Or.inr ⟨_, _, _, rfl, fun _ _ _ _ _ _ _ _ _ _ _ _ _ _ _ hx hb _ _ _ _ _ _ _ _ L hL k => lv_ior hx hb hd (k L hL)⟩
  · exact Or.inl rfl
theorem s_ixor (hd : decode (mt m).2.1 pc = .ok (.ixor, 1)) : Snd mt G m pc (oBin (fun x y => x ^^^ y) (pc + 1)) := by
  refine snd_prow fun d ls st h => ?_
  unfold oBin
  split
  · exact Or.inr ⟨_, _, _, rfl, fun _ _ _ _ _ _ _ _ _ _ _ _ _ _ _ hx hb _ _ _ _ _ _ _ _ L hL k => lv_ixor hx hb hd (k L hL)⟩
  · exact Or.inl rfl
theorem s_ishl (hd : decode (mt m).2.1 pc = .ok (.ishl, 1)) : Snd mt G m pc (oBin (fun x y => x <<< (y &&& 31)) (pc + 1)) := by
  refine snd_prow fun d ls st h => ?_
  unfold oBin
  split
  · exact Or.inr ⟨_, _, _, rfl, fun _ _ _ _ _ _ _ _ _ _ _ _ _ _ _ hx hb _ _ _ _ _ _ _ _ L hL k => lv_ishl hx hb hd (k L hL)⟩
  · exact Or.inl rfl
theorem s_ishr (hd : decode (mt m).2.1 pc = .ok (.ishr, 1)) : Snd mt G m pc (oBin (fun x y => x >>> (y &&& 31)) (pc + 1)) := by
  refine snd_prow fun d ls st h => ?_
  unfold oBin
  split
  · exact Or.inr ⟨_, _, _, rfl, fun _ _ _ _ _ _ _ _ _ _ _ _ _ _ _ hx hb _ _ _ _ _ _ _ _ L hL k => lv_ishr hx hb hd (k L hL)⟩
  · exact Or.inl rfl
theorem s_iushr (hd : decode (mt m).2.1 pc = .ok (.iushr, 1)) : Snd mt G m pc (oBin (fun x y => (x.toUInt32 >>> (y.toUInt32 &&& Int32.toUInt32 31)).toInt32) (pc + 1)) := by
  refine snd_prow fun d ls st h => ?_
  unfold oBin
  split
  · exact Or.inr ⟨_, _, _, rfl, fun _ _ _ _ _ _ _ _ _ _ _ _ _ _ _ hx hb _ _ _ _ _ _ _ _ L hL k => lv_iushr hx hb hd rfl (k L hL)⟩
  · exact Or.inl rfl
theorem s_idiv (hd : decode (mt m).2.1 pc = .ok (.idiv, 1)) : Snd mt G m pc (oDiv (fun x y => x / y) (pc + 1)) := by
  refine snd_prow fun d ls st h => ?_
  unfold oDiv
  split
  · split
    · exact Or.inl rfl
    · next hne => exact Or.inr ⟨_, _, _, rfl, fun _ _ _ _ _ _ _ _ _ _ _ _ _ _ _ hx hb _ _ _ _ _ _ _ _ L hL k => lv_idiv hx hb hd hne (k L hL)⟩
  · exact Or.inl rfl
theorem s_irem (hd : decode (mt m).2.1 pc = .ok (.irem, 1)) : Snd mt G m pc (oDiv (fun x y => x - x / y * y) (pc + 1)) := by
  refine snd_prow fun d ls st h => ?_
  unfold oDiv
  split
  · split
    · exact Or.inl rfl
    · next hne => exact Or.inr ⟨_, _, _, rfl, fun _ _ _ _ _ _ _ _ _ _ _ _ _ _ _ hx hb _ _ _ _ _ _ _ _ L hL k => lv_irem hx hb hd hne (k L hL)⟩
  · exact Or.inl rfl
theorem s_ldiv (hd : decode (mt m).2.1 pc = .ok (.ldiv, 1)) : Snd mt G m pc (oLdiv (fun x y => .long (x / y)) (pc + 1)) := by
  refine snd_prow fun d ls st h => ?_
  unfold oLdiv
  split
  · split
    · exact Or.inl rfl
    · next hne => exact Or.inr ⟨_, _, _, rfl, fun _ _ _ _ _ _ _ _ _ _ _ _ _ _ _ hx hb _ _ _ _ _ _ _ _ L hL k => lv_ldiv hx hb hd hne (k L hL)⟩
  · exact Or.inl rfl
theorem s_ineg (hd : decode (mt m).2.1 pc = .ok (.ineg, 1)) : Snd mt G m pc (oUn (fun x => .int (-x)) (pc + 1)) := by
  refine snd_prow fun d ls st h => ?_
  unfold oUn
  split
  · exact Or.inr ⟨_, _, _, rfl, fun _ _ _ _ _ _ _ _ _ _ _ _ _ _ _ hx hb _ _ _ _ _ _ _ _ L hL k => lv_ineg hx hb hd (k L hL)⟩
  · exact Or.inl rfl
theorem s_i2l (hd : decode (mt m).2.1 pc = .ok (.i2l, 1)) : Snd mt G m pc (oUn (fun x => .long x.toInt64) (pc + 1)) := by
  refine snd_prow fun d ls st h => ?_
  unfold oUn
  split
  · exact Or.inr ⟨_, _, _, rfl, fun _ _ _ _ _ _ _ _ _ _ _ _ _ _ _ hx hb _ _ _ _ _ _ _ _ L hL k => lv_i2l hx hb hd rfl (k L hL)⟩
  · exact Or.inl rfl
theorem s_i2b (hd : decode (mt m).2.1 pc = .ok (.i2b, 1)) : Snd mt G m pc (oUn (fun x => .int x.toInt8.toInt32) (pc + 1)) := by
  refine snd_prow fun d ls st h => ?_
  unfold oUn
  split
  · exact Or.inr ⟨_, _, _, rfl, fun _ _ _ _ _ _ _ _ _ _ _ _ _ _ _ hx hb _ _ _ _ _ _ _ _ L hL k => lv_i2b hx hb hd rfl (k L hL)⟩
  · exact Or.inl rfl
theorem s_i2c (hd : decode (mt m).2.1 pc = .ok (.i2c, 1)) : Snd mt G m pc (oUn (fun x => .int (x.toUInt32 % 65536).toInt32) (pc + 1)) := by
  refine snd_prow fun d ls st h => ?_
  unfold oUn
  split
  · exact Or.inr ⟨_, _, _, rfl, fun _ _ _ _ _ _ _ _ _ _ _ _ _ _ _ hx hb _ _ _ _ _ _ _ _ L hL k => lv_i2c hx hb hd rfl (k L hL)⟩
  · exact Or.inl rfl
theorem s_l2i (hd : decode (mt m).2.1 pc = .ok (.l2i, 1)) : Snd mt G m pc (oLun (fun x => .int x.toInt32) (pc + 1)) := by
  refine snd_prow fun d ls st h => ?_
  unfold oLun
  split
  · exact Or.inr ⟨_, _, _, rfl, fun _ _ _ _ _ _ _ _ _ _ _ _ _ _ _ hx hb _ _ _ _ _ _ _ _ L hL k => lv_l2i hx hb hd rfl (k L hL)⟩
  · exact Or.inl rfl
theorem s_lneg (hd : decode (mt m).2.1 pc = .ok (.lneg, 1)) : Snd mt G m pc (oLun (fun x => .long (-x)) (pc + 1)) := by
  refine snd_prow fun d ls st h => ?_
  unfold oLun
  split
  · exact Or.inr ⟨_, _, _, rfl, fun _ _ _ _ _ _ _ _ _ _ _ _ _ _ _ hx hb _ _ _ _ _ _ _ _ L hL k => lv_lneg hx hb hd (k L hL)⟩
  · exact Or.inl rfl
theorem s_ladd (hd : decode (mt m).2.1 pc = .ok (.ladd, 1)) : Snd mt G m pc (oLbin (fun x y => .long (x + y)) (pc + 1)) := by
  refine snd_prow fun d ls st h => ?_
  unfold oLbin
  split
  · exact Or.inr ⟨_, _, _, rfl, fun _ _ _ _ _ _ _ _ _ _ _ _ _ _ _ hx hb _ _ _ _ _ _ _ _ L hL k => lv_ladd hx hb hd (k L hL)⟩
  · exact Or.inl rfl
theorem s_lsub (hd : decode (mt m).2.1 pc = .ok (.lsub, 1)) : Snd mt G m pc (oLbin (fun x y => .long (x - y)) (pc + 1)) := by
  refine snd_prow fun d ls st h => ?_
  unfold oLbin
  split
  · exact Or.inr ⟨_, _, _, rfl, fun _ _ _ _ _ _ _ _ _ _ _ _ _ _ _ hx hb _ _ _ _ _ _ _ _ L hL k => lv_lsub hx hb hd (k L hL)⟩
  · exact Or.inl rfl
theorem s_lmul (hd : decode (mt m).2.1 pc = .ok (.lmul, 1)) : Snd mt G m pc (oLbin (fun x y => .long (x * y)) (pc + 1)) := by
  refine snd_prow fun d ls st h => ?_
  unfold oLbin
  split
  · exact Or.inr ⟨_, _, _, rfl, fun _ _ _ _ _ _ _ _ _ _ _ _ _ _ _ hx hb _ _ _ _ _ _ _ _ L hL k => lv_lmul hx hb hd (k L hL)⟩
  · exact Or.inl rfl
theorem s_lcmp (hd : decode (mt m).2.1 pc = .ok (.lcmp, 1)) : Snd mt G m pc (oLbin (fun x y => .int (lg_cmp x y)) (pc + 1)) := by
  refine snd_prow fun d ls st h => ?_
  unfold oLbin
  split
  · exact Or.inr ⟨_, _, _, rfl, fun _ _ _ _ _ _ _ _ _ _ _ _ _ _ _ hx hb _ _ _ _ _ _ _ _ L hL k => W.lcmp hx hb hd (k L hL)⟩
  · exact Or.inl rfl
theorem s_dup (hd : decode (mt m).2.1 pc = .ok (.dup, 1)) : Snd mt G m pc (oDup (pc + 1)) := by
  refine snd_prow fun d ls st h => ?_
  unfold oDup
  split
  · split
    · next hc => exact Or.inr ⟨_, _, _, rfl, fun _ _ _ _ _ _ _ _ _ _ _ _ _ _ _ hx hb _ _ _ _ _ _ _ _ L hL k => lv_dup hx hb hd hc (k L hL)⟩
    · exact Or.inl rfl
  · exact Or.inl rfl
theorem s_pop (hd : decode (mt m).2.1 pc = .ok (.pop, 1)) : Snd mt G m pc (oPop (pc + 1)) := by
  refine snd_prow fun d ls st h => ?_
  unfold oPop
  split
  · split
    · next hc => exact Or.inr ⟨_, _, _, rfl, fun _ _ _ _ _ _ _ _ _ _ _ _ _ _ _ hx hb _ _ _ _ _ _ _ _ L hL k => lv_pop hx hb hd hc (k L hL)⟩
    · exact Or.inl rfl
  · exact Or.inl rfl
theorem s_dup_x1 (hd : decode (mt m).2.1 pc = .ok (.dup_x1, 1)) : Snd mt G m pc (oDupx1 (pc + 1)) := by
  refine snd_prow fun d ls st h => ?_
  unfold oDupx1
  split
  · split
    · next hc => exact Or.inr ⟨_, _, _, rfl, fun _ _ _ _ _ _ _ _ _ _ _ _ _ _ _ hx hb _ _ _ _ _ _ _ _ L hL k => lv_dup_x1 hx hb hd hc.1 hc.2 (k L hL)⟩
    · exact Or.inl rfl
  · exact Or.inl rfl
theorem s_dup2 (hd : decode (mt m).2.1 pc = .ok (.dup2, 1)) : Snd mt G m pc (oDup2 (pc + 1)) := by
  refine snd_prow fun d ls st h => ?_
  unfold oDup2
  split
  · split
    · next hc => exact Or.inr ⟨_, _, _, rfl, fun _ _ _ _ _ _ _ _ _ _ _ _ _ _ _ hx hb _ _ _ _ _ _ _ _ L hL k => lv_dup2_11 hx hb hd hc.1 hc.2 (k L hL)⟩
    · exact Or.inl rfl
  · exact Or.inl rfl
theorem s_goto {off : Int} {tgt : Nat} (hd : decode (mt m).2.1 pc = .ok (.goto off, 3)) (ht : (pc : Int) + off = (tgt : Int)) : Snd mt G m pc (oGoto tgt) :=
  snd_prow fun _ _ _ _ => Or.inr ⟨_, _, _, rfl, fun _ _ _ _ _ _ _ _ _ _ _ _ _ _ _ hx hb _ _ _ _ _ _ _ _ L hL k => lv_goto hx hb hd ht (k L hL)⟩
theorem s_if_eq {off : Int} {tgt : Nat} (hd : decode (mt m).2.1 pc = .ok (.ifCond .eq off, 3)) (ht : (pc : Int) + off = (tgt : Int)) : Snd mt G m pc (oIfEq tgt (pc + 3)) := by
  refine snd_prow fun d ls st h => ?_
  unfold oIfEq
  split
  · split
    · next hc => exact Or.inr ⟨_, _, _, rfl, fun _ _ _ _ _ _ _ _ _ _ _ _ _ _ _ hx hb _ _ _ _ _ _ _ _ L hL k => lv_if_eq hx hb hd ht (fun _ => k L hL) (fun q => absurd hc q)⟩
    · next hc => exact Or.inr ⟨_, _, _, rfl, fun _ _ _ _ _ _ _ _ _ _ _ _ _ _ _ hx hb _ _ _ _ _ _ _ _ L hL k => lv_if_eq hx hb hd ht (fun q => absurd q hc) (fun _ => k L hL)⟩
  · exact Or.inl rfl
theorem s_if_ne {off : Int} {tgt : Nat} (hd : decode (mt m).2.1 pc = .ok (.ifCond .ne off, 3)) (ht : (pc : Int) + off = (tgt : Int)) : Snd mt G m pc (oIfEq (pc + 3) tgt) := by
  refine snd_prow fun d ls st h => ?_
  unfold oIfEq
  split
  · split
    · next hc => exact Or.inr ⟨_, _, _, rfl, fun _ _ _ _ _ _ _ _ _ _ _ _ _ _ _ hx hb _ _ _ _ _ _ _ _ L hL k => lv_if_ne hx hb hd ht (fun q => absurd hc q) (fun _ => k L hL)⟩
    · next hc => exact Or.inr ⟨_, _, _, rfl, fun _ _ _ _ _ _ _ _ _ _ _ _ _ _ _ hx hb _ _ _ _ _ _ _ _ L hL k => lv_if_ne hx hb hd ht (fun _ => k L hL) (fun q => absurd q hc)⟩
  · exact Or.inl rfl
theorem s_if_lt {off : Int} {tgt : Nat} (hd : decode (mt m).2.1 pc = .ok (.ifCond .lt off, 3)) (ht : (pc : Int) + off = (tgt : Int)) : Snd mt G m pc (oIfLt tgt (pc + 3)) := by
  refine snd_prow fun d ls st h => ?_
  unfold oIfLt
  split
  · split
    · next hc => exact Or.inr ⟨_, _, _, rfl, fun _ _ _ _ _ _ _ _ _ _ _ _ _ _ _ hx hb _ _ _ _ _ _ _ _ L hL k => lv_if_lt hx hb hd ht (fun _ => k L hL) (fun q => absurd hc q)⟩
    · next hc => exact Or.inr ⟨_, _, _, rfl, fun _ _ _ _ _ _ _ _ _ _ _ _ _ _ _ hx hb _ _ _ _ _ _ _ _ L hL k => lv_if_lt hx hb hd ht (fun q => absurd q hc) (fun _ => k L hL)⟩
  · exact Or.inl rfl
theorem s_if_gt {off : Int} {tgt : Nat} (hd : decode (mt m).2.1 pc = .ok (.ifCond .gt off, 3)) (ht : (pc : Int) + off = (tgt : Int)) : Snd mt G m pc (oIfGt tgt (pc + 3)) := by
  refine snd_prow fun d ls st h => ?_
  unfold oIfGt
  split
  · split
    · next hc => exact Or.inr ⟨_, _, _, rfl, fun _ _ _ _ _ _ _ _ _ _ _ _ _ _ _ hx hb _ _ _ _ _ _ _ _ L hL k => lv_if_gt hx hb hd ht (fun _ => k L hL) (fun q => absurd hc q)⟩
    · next hc => exact Or.inr ⟨_, _, _, rfl, fun _ _ _ _ _ _ _ _ _ _ _ _ _ _ _ hx hb _ _ _ _ _ _ _ _ L hL k => lv_if_gt hx hb hd ht (fun q => absurd q hc) (fun _ => k L hL)⟩
  · exact Or.inl rfl
theorem s_if_le {off : Int} {tgt : Nat} (hd : decode (mt m).2.1 pc = .ok (.ifCond .le off, 3)) (ht : (pc : Int) + off = (tgt : Int)) : Snd mt G m pc (oIfLe tgt (pc + 3)) := by
  refine snd_prow fun d ls st h => ?_
  unfold oIfLe
  split
  · split
    · next hc => exact Or.inr ⟨_, _, _, rfl, fun _ _ _ _ _ _ _ _ _ _ _ _ _ _ _ hx hb _ _ _ _ _ _ _ _ L hL k => lv_if_le hx hb hd ht (fun _ => k L hL) (fun q => absurd hc q)⟩
    · next hc => exact Or.inr ⟨_, _, _, rfl, fun _ _ _ _ _ _ _ _ _ _ _ _ _ _ _ hx hb _ _ _ _ _ _ _ _ L hL k => lv_if_le hx hb hd ht (fun q => absurd q hc) (fun _ => k L hL)⟩
  · exact Or.inl rfl
theorem s_if_ge {off : Int} {tgt : Nat} (hd : decode (mt m).2.1 pc = .ok (.ifCond .ge off, 3)) (ht : (pc : Int) + off = (tgt : Int)) : Snd mt G m pc (oIfGe tgt (pc + 3)) := by
  refine snd_prow fun d ls st h => ?_
  unfold oIfGe
  split
  · split
    · next hc => exact Or.inr ⟨_, _, _, rfl, fun _ _ _ _ _ _ _ _ _ _ _ _ _ _ _ hx hb _ _ _ _ _ _ _ _ L hL k => lv_if_ge hx hb hd ht (fun _ => k L hL) (fun q => absurd hc q)⟩
    · next hc => exact Or.inr ⟨_, _, _, rfl, fun _ _ _ _ _ _ _ _ _ _ _ _ _ _ _ hx hb _ _ _ _ _ _ _ _ L hL k => lv_if_ge hx hb hd ht (fun q => absurd q hc) (fun _ => k L hL)⟩
  · exact Or.inl rfl
theorem s_icmp_eq {off : Int} {tgt : Nat} (hd : decode (mt m).2.1 pc = .ok (.if_icmp .eq off, 3)) (ht : (pc : Int) + off = (tgt : Int)) : Snd mt G m pc (oCmpEq tgt (pc + 3)) := by
  refine snd_prow fun d ls st h => ?_
  unfold oCmpEq
  split
  · split
    · next hc => exact Or.inr ⟨_, _, _, rfl, fun _ _ _ _ _ _ _ _ _ _ _ _ _ _ _ hx hb _ _ _ _ _ _ _ _ L hL k => lv_icmp_eq hx hb hd ht (fun _ => k L hL) (fun q => absurd hc q)⟩
    · next hc => exact Or.inr ⟨_, _, _, rfl, fun _ _ _ _ _ _ _ _ _ _ _ _ _ _ _ hx hb _ _ _ _ _ _ _ _ L hL k => lv_icmp_eq hx hb hd ht (fun q => absurd q hc) (fun _ => k L hL)⟩
  · exact Or.inl rfl
theorem s_icmp_ne {off : Int} {tgt : Nat} (hd : decode (mt m).2.1 pc = .ok (.if_icmp .ne off, 3)) (ht : (pc : Int) + off = (tgt : Int)) : Snd mt G m pc (oCmpEq (pc + 3) tgt) := by
  refine snd_prow fun d ls st h => ?_
  unfold oCmpEq
  split
  · split
    · next hc => exact Or.inr ⟨_, _, _, rfl, fun _ _ _ _ _ _ _ _ _ _ _ _ _ _ _ hx hb _ _ _ _ _ _ _ _ L hL k => lv_icmp_ne hx hb hd ht (fun q => absurd hc q) (fun _ => k L hL)⟩
    · next hc => exact Or.inr ⟨_, _, _, rfl, fun _ _ _ _ _ _ _ _ _ _ _ _ _ _ _ hx hb _ _ _ _ _ _ _ _ L hL k => lv_icmp_ne hx hb hd ht (fun _ => k L hL) (fun q => absurd q hc)⟩
  · exact Or.inl rfl
theorem s_icmp_lt {off : Int} {tgt : Nat} (hd : decode (mt m).2.1 pc = .ok (.if_icmp .lt off, 3)) (ht : (pc : Int) + off = (tgt : Int)) : Snd mt G m pc (oCmpLt tgt (pc + 3)) := by
  refine snd_prow fun d ls st h => ?_
  unfold oCmpLt
  split
  · split
    · next hc => exact Or.inr ⟨_, _, _, rfl, fun _ _ _ _ _ _ _ _ _ _ _ _ _ _ _ hx hb _ _ _ _ _ _ _ _ L hL k => lv_icmp_lt hx hb hd ht (fun _ => k L hL) (fun q => absurd hc q)⟩
    · next hc => exact Or.inr ⟨_, _, _, rfl, fun _ _ _ _ _ _ _ _ _ _ _ _ _ _ _ hx hb _ _ _ _ _ _ _ _ L hL k => lv_icmp_lt hx hb hd ht (fun q => absurd q hc) (fun _ => k L hL)⟩
  · exact Or.inl rfl
theorem s_icmp_ge {off : Int} {tgt : Nat} (hd : decode (mt m).2.1 pc = .ok (.if_icmp .ge off, 3)) (ht : (pc : Int) + off = (tgt : Int)) : Snd mt G m pc (oCmpGe tgt (pc + 3)) := by
  refine snd_prow fun d ls st h => ?_
  unfold oCmpGe
  split
  · split
    · next hc => exact Or.inr ⟨_, _, _, rfl, fun _ _ _ _ _ _ _ _ _ _ _ _ _ _ _ hx hb _ _ _ _ _ _ _ _ L hL k => lv_icmp_ge hx hb hd ht (fun _ => k L hL) (fun q => absurd hc q)⟩
    · next hc => exact Or.inr ⟨_, _, _, rfl, fun _ _ _ _ _ _ _ _ _ _ _ _ _ _ _ hx hb _ _ _ _ _ _ _ _ L hL k => lv_icmp_ge hx hb hd ht (fun q => absurd q hc) (fun _ => k L hL)⟩
  · exact Or.inl rfl
theorem s_icmp_gt {off : Int} {tgt : Nat} (hd : decode (mt m).2.1 pc = .ok (.if_icmp .gt off, 3)) (ht : (pc : Int) + off = (tgt : Int)) : Snd mt G m pc (oCmpGt tgt (pc + 3)) := by
  refine snd_prow fun d ls st h => ?_
  unfold oCmpGt
  split
  · split
    · next hc => exact Or.inr ⟨_, _, _, rfl, fun _ _ _ _ _ _ _ _ _ _ _ _ _ _ _ hx hb _ _ _ _ _ _ _ _ L hL k => lv_icmp_gt hx hb hd ht (fun _ => k L hL) (fun q => absurd hc q)⟩
    · next hc => exact Or.inr ⟨_, _, _, rfl, fun _ _ _ _ _ _ _ _ _ _ _ _ _ _ _ hx hb _ _ _ _ _ _ _ _ L hL k => lv_icmp_gt hx hb hd ht (fun q => absurd q hc) (fun _ => k L hL)⟩
  · exact Or.inl rfl
theorem s_icmp_le {off : Int} {tgt : Nat} (hd : decode (mt m).2.1 pc = .ok (.if_icmp .le off, 3)) (ht : (pc : Int) + off = (tgt : Int)) : Snd mt G m pc (oCmpLe tgt (pc + 3)) := by
  refine snd_prow fun d ls st h => ?_
  unfold oCmpLe
  split
  · split
    · next hc => exact Or.inr ⟨_, _, _, rfl, fun _ _ _ _ _ _ _ _ _ _ _ _ _ _ _ hx hb _ _ _ _ _ _ _ _ L hL k => lv_icmp_le hx hb hd ht (fun _ => k L hL) (fun q => absurd hc q)⟩
    · next hc => exact Or.inr ⟨_, _, _, rfl, fun _ _ _ _ _ _ _ _ _ _ _ _ _ _ _ hx hb _ _ _ _ _ _ _ _ L hL k => lv_icmp_le hx hb hd ht (fun q => absurd q hc) (fun _ => k L hL)⟩
  · exact Or.inl rfl
theorem s_ifnull {off : Int} {tgt : Nat} (hd : decode (mt m).2.1 pc = .ok (.ifnull off, 3)) (ht : (pc : Int) + off = (tgt : Int)) : Snd mt G m pc (oIfNull tgt (pc + 3)) := by
  refine snd_prow fun d ls st h => ?_
  unfold oIfNull
  split
  · exact Or.inr ⟨_, _, _, rfl, fun _ _ _ _ _ _ _ _ _ _ _ _ _ _ _ hx hb _ _ _ _ _ _ _ _ L hL k => lv_ifnullN hx hb hd ht (k L hL)⟩
  · exact Or.inr ⟨_, _, _, rfl, fun _ _ _ _ _ _ _ _ _ _ _ _ _ _ _ hx hb _ _ _ _ _ _ _ _ L hL k => lv_ifnull hx hb hd (k L hL)⟩
  · exact Or.inl rfl
theorem s_ifnonnull {off : Int} {tgt : Nat} (hd : decode (mt m).2.1 pc = .ok (.ifnonnull off, 3)) (ht : (pc : Int) + off = (tgt : Int)) : Snd mt G m pc (oIfNull (pc + 3) tgt) := by
  refine snd_prow fun d ls st h => ?_
  unfold oIfNull
  split
  · exact Or.inr ⟨_, _, _, rfl, fun _ _ _ _ _ _ _ _ _ _ _ _ _ _ _ hx hb _ _ _ _ _ _ _ _ L hL k => lv_ifnonnullN hx hb hd (k L hL)⟩
  · exact Or.inr ⟨_, _, _, rfl, fun _ _ _ _ _ _ _ _ _ _ _ _ _ _ _ hx hb _ _ _ _ _ _ _ _ L hL k => lv_ifnonnull hx hb hd ht (k L hL)⟩
  · exact Or.inl rfl
theorem s_acmp_eq {off : Int} {tgt : Nat} (hd : decode (mt m).2.1 pc = .ok (.if_acmp .eq off, 3)) (ht : (pc : Int) + off = (tgt : Int)) : Snd mt G m pc (oAcmp tgt (pc + 3)) := by
  refine snd_prow fun d ls st h => ?_
  unfold oAcmp
  split
  · exact Or.inr ⟨_, _, _, rfl, fun _ _ _ _ _ _ _ _ _ _ _ _ _ _ _ hx hb _ _ _ _ _ _ _ _ L hL k => lv_acmp_eq (rx := none) (ry := none) hx hb hd ht (fun _ => k L hL) (fun q => absurd rfl q)⟩
  · next x _ => exact Or.inr ⟨_, _, _, rfl, fun _ _ _ _ _ _ _ _ _ _ _ _ _ _ _ hx hb _ _ _ _ _ _ _ _ L hL k => lv_acmp_eq (rx := some x) (ry := none) hx hb hd ht (fun q => absurd q (by simp)) (fun _ => k L hL)⟩
  · next x _ => exact Or.inr ⟨_, _, _, rfl, fun _ _ _ _ _ _ _ _ _ _ _ _ _ _ _ hx hb _ _ _ _ _ _ _ _ L hL k => lv_acmp_eq (rx := none) (ry := some x) hx hb hd ht (fun q => absurd q (by simp)) (fun _ => k L hL)⟩
  · next y x _ =>
    split
    · next hc =>
      subst hc
      exact Or.inr ⟨_, _, _, rfl, fun _ _ _ _ _ _ _ _ _ _ _ _ _ _ _ hx hb _ _ _ _ _ _ _ _ L hL k => lv_acmp_eq (rx := some x) (ry := some x) hx hb hd ht (fun _ => k L hL) (fun q => absurd rfl q)⟩
    · next hc => exact Or.inr ⟨_, _, _, rfl, fun _ _ _ _ _ _ _ _ _ _ _ _ _ _ _ hx hb _ _ _ _ _ _ _ _ L hL k => lv_acmp_eq (rx := some x) (ry := some y) hx hb hd ht (fun q => absurd q (by simpa using hc)) (fun _ => k L hL)⟩
  · exact Or.inl rfl
theorem s_acmp_ne {off : Int} {tgt : Nat} (hd : decode (mt m).2.1 pc = .ok (.if_acmp .ne off, 3)) (ht : (pc : Int) + off = (tgt : Int)) : Snd mt G m pc (oAcmp (pc + 3) tgt) := by
  refine snd_prow fun d ls st h => ?_
  unfold oAcmp
  split
  · exact Or.inr ⟨_, _, _, rfl, fun _ _ _ _ _ _ _ _ _ _ _ _ _ _ _ hx hb _ _ _ _ _ _ _ _ L hL k => lv_acmp_ne (rx := none) (ry := none) hx hb hd ht (fun q => absurd rfl q) (fun _ => k L hL)⟩
  · next x _ => exact Or.inr ⟨_, _, _, rfl, fun _ _ _ _ _ _ _ _ _ _ _ _ _ _ _ hx hb _ _ _ _ _ _ _ _ L hL k => lv_acmp_ne (rx := some x) (ry := none) hx hb hd ht (fun _ => k L hL) (fun q => absurd q (by simp))⟩
  · next x _ => exact Or.inr ⟨_, _, _, rfl, fun _ _ _ _ _ _ _ _ _ _ _ _ _ _ _ hx hb _ _ _ _ _ _ _ _ L hL k => lv_acmp_ne (rx := none) (ry := some x) hx hb hd ht (fun _ => k L hL) (fun q => absurd q (by simp))⟩
  · next y x _ =>
    split
    · next hc =>
      subst hc
      exact Or.inr ⟨_, _, _, rfl, fun _ _ _ _ _ _ _ _ _ _ _ _ _ _ _ hx hb _ _ _ _ _ _ _ _ L hL k => lv_acmp_ne (rx := some x) (ry := some x) hx hb hd ht (fun q => absurd rfl q) (fun _ => k L hL)⟩
    · next hc => exact Or.inr ⟨_, _, _, rfl, fun _ _ _ _ _ _ _ _ _ _ _ _ _ _ _ hx hb _ _ _ _ _ _ _ _ L hL k => lv_acmp_ne (rx := some x) (ry := some y) hx hb hd ht (fun _ => k L hL) (fun q => absurd q (by simpa using hc))⟩
  · exact Or.inl rfl
/-- a switch: where each int goes, as a function that agrees with the table -/
theorem s_lookup {dflt : Int} {ps : Array (Int × Int)} {len : Nat} {f : Int32 → Nat} (hd : decode (mt m).2.1 pc = .ok (.lookupswitch dflt ps, len)) (hp : (ps.toList.zip (ps.toList.drop 1)).all (fun (a, next) => a.1 < next.1) = true) (hf : ∀ x : Int32, (pc : Int) + Op.lookupswitch.offset ps.toList dflt x.toInt = (f x : Int)) : Snd mt G m pc (oSwitch f) := by
  refine snd_prow fun d ls st h => ?_
  unfold oSwitch
  split
  · next x _ => exact Or.inr ⟨_, _, _, rfl, fun _ _ _ _ _ _ _ _ _ _ _ _ _ _ _ hx hb _ _ _ _ _ _ _ _ L hL k => lv_lookup hx hb hd hp rfl (hf x) (k L hL)⟩
  · exact Or.inl rfl
theorem s_table {dflt lo hi : Int} {offs : Array Int} {len : Nat} {f : Int32 → Nat} (hd : decode (mt m).2.1 pc = .ok (.tableswitch dflt lo hi offs, len)) (h1 : ∀ x : Int32, (x.toInt < lo ∨ hi < x.toInt) → (pc : Int) + dflt = (f x : Int)) (h2 : ∀ x : Int32, ¬ x.toInt < lo → ¬ hi < x.toInt → ∃ off, offs[(x.toInt - lo).toNat]? = some off ∧ (pc : Int) + off = (f x : Int)) : Snd mt G m pc (oSwitch f) := by
  refine snd_prow fun d ls st h => ?_
  unfold oSwitch
  split
  · next x _ =>
    refine Or.inr ⟨_, _, _, rfl, fun _ _ _ _ _ _ _ _ _ _ _ _ _ _ _ hx hb _ _ _ _ _ _ _ _ L hL k => ?_⟩
    by_cases ho : x.toInt < lo ∨ hi < x.toInt
    · exact lv_tableOut hx hb hd ho (h1 x ho) (k L hL)
    · have n1 : ¬ x.toInt < lo := fun q => ho (Or.inl q)
      have n2 : ¬ hi < x.toInt := fun q => ho (Or.inr q)
      obtain ⟨off, e1, e2⟩ := h2 x n1 n2
      exact lv_tableIn hx hb hd n1 n2 e1 e2 (k L hL)
  · exact Or.inl rfl
end AM3
