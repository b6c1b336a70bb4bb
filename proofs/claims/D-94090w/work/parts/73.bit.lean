/-! SETS OF BITS as numbers -/
set_option maxRecDepth 100000
set_option maxHeartbeats 200000
theorem ni_or (a b : Nat) : ni a ||| ni b = ni (a ||| b) := by
  apply Int32.toBitVec_inj.mp
  show BitVec.ofNat 32 a ||| BitVec.ofNat 32 b = BitVec.ofNat 32 (a ||| b)
  exact (BitVec.ofNat_or).symm
theorem ni_and (a b : Nat) : ni a &&& ni b = ni (a &&& b) := by
  apply Int32.toBitVec_inj.mp
  show BitVec.ofNat 32 a &&& BitVec.ofNat 32 b = BitVec.ofNat 32 (a &&& b)
  exact (BitVec.ofNat_and).symm
theorem sh1F : ∀ k : Fin 31, (1 : Int32) <<< (ni k.val &&& 31) = ni (2 ^ k.val) := by decide +kernel
theorem sh1 {k : Nat} (hk : k < 31) : (1 : Int32) <<< (ni k &&& 31) = ni (2 ^ k) := sh1F ⟨k, hk⟩
theorem shnF : ∀ k : Fin 31, (ni k.val &&& 31).toBitVec.smod 32 = BitVec.ofNat 32 k.val := by decide +kernel
theorem ni_shr {w k : Nat} (hk : k < 31) (hw : w < 2147483648) : ni w >>> (ni k &&& 31) = ni (w >>> k) := by
  apply Int32.toBitVec_inj.mp
  rw [Int32.toBitVec_shiftRight]
  have e := shnF ⟨k, hk⟩
  have e2 : (ni w).toBitVec = BitVec.ofNat 32 w := rfl
  have e3 : (ni (w >>> k)).toBitVec = BitVec.ofNat 32 (w >>> k) := rfl
  rw [e, e2, e3]
  have hm : (BitVec.ofNat 32 w).msb = false := by
    rw [BitVec.msb_eq_false_iff_two_mul_lt]
    simp
    omega
  rw [BitVec.sshiftRight_eq', BitVec.sshiftRight_eq_of_msb_false hm]
  apply BitVec.eq_of_toNat_eq
  have h1 : w >>> k ≤ w := Nat.shiftRight_le w k
  simp
  rw [Nat.mod_eq_of_lt (show w < 4294967296 by omega), Nat.mod_eq_of_lt (show k < 4294967296 by omega), Nat.mod_eq_of_lt (show w >>> k < 4294967296 by omega)]
theorem btN {w k : Nat} : (w >>> k) &&& 1 = if w.testBit k = true then 1 else 0 := by
  rw [Nat.testBit, Nat.and_one_is_mod, Nat.one_and_eq_mod_two]
  have h1 := Nat.mod_two_eq_zero_or_one (w >>> k)
  rcases h1 with h1 | h1
  · rw [h1]; rfl
  · rw [h1]; rfl
/-- bit k of a number -/
theorem bt1 {w k : Nat} (hk : k < 31) (hw : w < 2147483648) : (ni w >>> (ni k &&& 31)) &&& 1 = bi (w.testBit k = true) := by
  rw [ni_shr hk hw]
  have h1 : (1 : Int32) = ni 1 := rfl
  conv => lhs; rw [h1]
  rw [ni_and, btN]
  unfold bi
  split <;> rfl
theorem or_lt2 {w k n : Nat} (hw : w < 2 ^ n) (hk : k < n) : w ||| 2 ^ k < 2 ^ n := Nat.or_lt_two_pow hw (Nat.pow_lt_pow_right (by omega) hk)
theorem tb_or {w k j : Nat} : (w ||| 2 ^ k).testBit j = (w.testBit j || decide (k = j)) := by
  rw [Nat.testBit_or, Nat.testBit_two_pow]
