/-! what every walk by simp stands on -/
set_option maxRecDepth 100000
def bi (c : Prop) [Decidable c] : Int32 := if c then 1 else 0
theorem bi_t {c : Prop} [Decidable c] (h : c) : bi c = 1 := if_pos h
theorem bi_f {c : Prop} [Decidable c] (h : ¬ c) : bi c = 0 := if_neg h
theorem bi_eq0 {c : Prop} [Decidable c] : (bi c = 0) = ¬ c := by
  unfold bi
  by_cases h : c
  · simp [h]
  · simp [h]
theorem bi_eq1 {c : Prop} [Decidable c] : (bi c = 1) = c := by
  unfold bi
  by_cases h : c
  · simp [h]
  · simp [h]
theorem bi_F {i : Decidable False} : @bi False i = 0 := if_neg id
theorem bi_T {i : Decidable True} : @bi True i = 1 := if_pos trivial
theorem bi_ite {c : Prop} [Decidable c] : (if c then (1 : Int32) else 0) = bi c := rfl
theorem nw_int (x : Int32) : narrow .int (.int x) = .int x := rfl
theorem nw_b0 : narrow .boolean (.int 0) = .int 0 := rfl
theorem nw_b1 : narrow .boolean (.int 1) = .int 1 := rfl
theorem nw_bi {c : Prop} [Decidable c] : narrow .boolean (.int (bi c)) = .int (bi c) := by
  unfold bi
  split <;> rfl
theorem nw_obj (n : String) (a : Nat) : narrow (.object n) (.ref a) = .ref a := rfl
theorem nw_objn (n : String) : narrow (.object n) .null = .null := rfl
theorem nw_arr (t : FieldType) (a : Nat) : narrow (.array t) (.ref a) = .ref a := rfl
theorem nw_arrn (t : FieldType) : narrow (.array t) .null = .null := rfl
theorem ft_int (x : Int32) : fits .int (.int x) = true := rfl
theorem ft_b0 : fits .boolean (.int 0) = true := rfl
theorem ft_b1 : fits .boolean (.int 1) = true := rfl
theorem ft_bi {c : Prop} [Decidable c] : fits .boolean (.int (bi c)) = true := by
  unfold bi
  split <;> rfl
theorem ft_char {x : Int32} (h0 : 0 ≤ x) (h1 : x ≤ 65535) : fits .char (.int x) = true := by
  unfold fits
  simp [h0, h1]
theorem ft_byte {x : Int32} (h0 : -128 ≤ x) (h1 : x ≤ 127) : fits .byte (.int x) = true := by
  unfold fits
  simp [h0, h1]
theorem ft_obj (n : String) (a : Nat) : fits (.object n) (.ref a) = true := rfl
theorem ft_objn (n : String) : fits (.object n) .null = true := rfl
theorem ft_arr (t : FieldType) (a : Nat) : fits (.array t) (.ref a) = true := rfl
theorem ft_arrn (t : FieldType) : fits (.array t) .null = true := rfl
theorem ct_int (x : Int32) : (Value.int x).category = 1 := rfl
theorem ct_ref (a : Nat) : (Value.ref a).category = 1 := rfl
theorem ct_null : Value.null.category = 1 := rfl
theorem lc_none : lclr none = none := rfl
theorem lc_int (x : Int32) : lclr (some (.int x)) = some (.int x) := rfl
theorem lc_ref (a : Nat) : lclr (some (.ref a)) = some (.ref a) := rfl
theorem lc_null : lclr (some .null) = some .null := rfl
theorem lc_long (x : Int64) : lclr (some (.long x)) = none := rfl
theorem sm_val {a b : Value} : (some a = some b) = (a = b) := by simp
theorem vi_int {a b : Int32} : (Value.int a = Value.int b) = (a = b) := by simp
/-! small numbers as Int32 -/
def ni (n : Nat) : Int32 := Int32.ofNat n
theorem on_ni (n : Nat) : Int32.ofNat n = ni n := rfl
theorem ni_toInt {n : Nat} (h : n < 2147483648) : (ni n).toInt = n := Int32.toInt_ofNat_of_lt h
theorem ni_nat {n : Nat} (h : n < 2147483648) : (ni n).toNatClampNeg = n := Int32.toNatClampNeg_ofNat_of_lt h
theorem ni_add (a b : Nat) : ni a + ni b = ni (a + b) := (Int32.ofNat_add a b).symm
theorem ni_mul (a b : Nat) : ni a * ni b = ni (a * b) := (Int32.ofNat_mul a b).symm
theorem ni_sub {a b : Nat} (h : b ≤ a) : ni a - ni b = ni (a - b) := (Int32.ofNat_sub a b h).symm
theorem ni_succ (n : Nat) : ni n + 1 = ni (n + 1) := (Int32.ofNat_add n 1).symm
theorem ni_lt {a b : Nat} (ha : a < 2147483648) (hb : b < 2147483648) : (ni a < ni b) = (a < b) := propext (Int32.ofNat_lt_iff_lt ha hb)
theorem ni_le {a b : Nat} (ha : a < 2147483648) (hb : b < 2147483648) : (ni a ≤ ni b) = (a ≤ b) := propext (Int32.ofNat_le_iff_le ha hb)
theorem ni_neg {n : Nat} (h : n < 2147483648) : (ni n < 0) = False := by
  refine propext ⟨fun q => ?_, False.elim⟩
  rw [Int32.lt_iff_toInt_lt, ni_toInt h] at q
  have : (0 : Int32).toInt = 0 := rfl
  omega
theorem ni_pos {n : Nat} (h : n < 2147483648) : (0 ≤ ni n) = True := by
  refine propext ⟨fun _ => trivial, fun _ => ?_⟩
  rw [Int32.le_iff_toInt_le, ni_toInt h]
  have : (0 : Int32).toInt = 0 := rfl
  omega
theorem ni_inj {a b : Nat} (ha : a < 2147483648) (hb : b < 2147483648) : (ni a = ni b) = (a = b) := by
  refine propext ⟨fun h => ?_, fun h => by rw [h]⟩
  have h1 := ni_nat ha
  have h2 := ni_nat hb
  rw [h] at h1
  omega
theorem ni_m1 {n : Nat} (h : n < 2147483648) : (ni n = -1) = False := by
  refine propext ⟨fun q => ?_, False.elim⟩
  have z := congrArg Int32.toInt q
  rw [ni_toInt h] at z
  have : (-1 : Int32).toInt = -1 := rfl
  omega
theorem ni_of {x : Int32} (h : 0 ≤ x) : x = ni x.toNatClampNeg := (Int32.ofNat_toNatClampNeg x h).symm
theorem cl_lt (x : Int32) : x.toNatClampNeg < 2147483648 := Int32.toNatClampNeg_lt x
theorem ni_ltc {a : Nat} {c : Int32} (ha : a < 2147483648) (hc : 0 ≤ c) : (ni a < c) = (a < c.toNatClampNeg) := by
  conv => lhs; rw [ni_of hc]
  exact ni_lt ha (cl_lt c)
theorem ni_lec {a : Nat} {c : Int32} (ha : a < 2147483648) (hc : 0 ≤ c) : (ni a ≤ c) = (a ≤ c.toNatClampNeg) := by
  conv => lhs; rw [ni_of hc]
  exact ni_le ha (cl_lt c)
theorem ni_clt {a : Nat} {c : Int32} (ha : a < 2147483648) (hc : 0 ≤ c) : (c < ni a) = (c.toNatClampNeg < a) := by
  conv => lhs; rw [ni_of hc]
  exact ni_lt (cl_lt c) ha
theorem ni_cle {a : Nat} {c : Int32} (ha : a < 2147483648) (hc : 0 ≤ c) : (c ≤ ni a) = (c.toNatClampNeg ≤ a) := by
  conv => lhs; rw [ni_of hc]
  exact ni_le (cl_lt c) ha
theorem ni_eqc {a : Nat} {c : Int32} (ha : a < 2147483648) (hc : 0 ≤ c) : (ni a = c) = (a = c.toNatClampNeg) := by
  conv => lhs; rw [ni_of hc]
  exact ni_inj ha (cl_lt c)
theorem ni_ceq {a : Nat} {c : Int32} (ha : a < 2147483648) (hc : 0 ≤ c) : (c = ni a) = (c.toNatClampNeg = a) := by
  conv => lhs; rw [ni_of hc]
  exact ni_inj (cl_lt c) ha
theorem ni_addc {a : Nat} {c : Int32} (hc : 0 ≤ c) : ni a + c = ni (a + c.toNatClampNeg) := by
  conv => lhs; rw [ni_of hc]
  exact ni_add _ _
theorem ni_cadd {a : Nat} {c : Int32} (hc : 0 ≤ c) : c + ni a = ni (c.toNatClampNeg + a) := by
  conv => lhs; rw [ni_of hc]
  exact ni_add _ _
theorem ni_cmul {a : Nat} {c : Int32} (hc : 0 ≤ c) : c * ni a = ni (c.toNatClampNeg * a) := by
  conv => lhs; rw [ni_of hc]
  exact ni_mul _ _
theorem ni_subc {a : Nat} {c : Int32} (hc : 0 ≤ c) (h : c.toNatClampNeg ≤ a) : ni a - c = ni (a - c.toNatClampNeg) := by
  conv => lhs; rw [ni_of hc]
  exact ni_sub h
theorem ni_dec {a : Nat} (h : 0 < a) : ni a + (-1) = ni (a - 1) := by
  have h1 := ni_sub (a := a) (b := 1) h
  have h2 : ni a - ni 1 = ni a + (-1) := by
    show ni a - 1 = _
    rw [Int32.sub_eq_add_neg]
  rw [← h2, h1]
theorem ni_sub_le0 {a b : Nat} (h : a ≤ b) (hb : b < 1073741824) : (ni a - ni b ≤ 0) = True := by
  refine eq_true ?_
  rw [Int32.le_iff_toInt_le, Int32.toInt_sub, ni_toInt (by omega), ni_toInt (by omega), Int.bmod_eq_of_le (by omega) (by omega)]
  have : (0 : Int32).toInt = 0 := rfl
  omega
/-! comparisons of Nat that omega decides -/
theorem nlt_t {a b : Nat} (h : a < b) : (a < b) = True := eq_true h
theorem nlt_f {a b : Nat} (h : b ≤ a) : (a < b) = False := eq_false (by omega)
theorem nle_t {a b : Nat} (h : a ≤ b) : (a ≤ b) = True := eq_true h
theorem nle_f {a b : Nat} (h : b < a) : (a ≤ b) = False := eq_false (by omega)
theorem neq_f {a b : Nat} (h : ¬ a = b) : (a = b) = False := eq_false h
/-! loops -/
def rpt {σ : Type} : Nat → Nat → (Nat → σ → σ) → σ → σ
  | 0, _, _, x => x
  | n + 1, i, f, x => rpt n (i + 1) f (f i x)
theorem rpt_end {σ : Type} : ∀ (n i : Nat) (f : Nat → σ → σ) (x : σ), rpt (n + 1) i f x = f (i + n) (rpt n i f x)
  | 0, i, f, x => rfl
  | n + 1, i, f, x => by
    show rpt (n + 1) (i + 1) f (f i x) = _
    rw [rpt_end n (i + 1) f (f i x)]
    have e : i + 1 + n = i + (n + 1) := by omega
    rw [e]
    rfl
theorem rpt_congr {σ : Type} {f f' : Nat → σ → σ} : ∀ (n i : Nat) (x : σ), (∀ j x, i ≤ j → j < i + n → f j x = f' j x) → rpt n i f x = rpt n i f' x
  | 0, _, _, _ => rfl
  | n + 1, i, x, h => by
    show rpt n (i + 1) f (f i x) = rpt n (i + 1) f' (f' i x)
    rw [h i x (Nat.le_refl _) (by omega)]
    exact rpt_congr n (i + 1) _ fun j y h1 h2 => h j y (by omega) (by omega)
theorem lp_run {σ : Type} {E : Nat → σ → ARes} {F : Nat} {s : Nat → σ → σ} (hst : ∀ i x, i < F → E i x = E (i + 1) (s i x)) : ∀ (n i : Nat) (x : σ), i + n = F → E i x = E F (rpt n i s x)
  | 0, i, x, h => by
    have e : i = F := by omega
    rw [e]
    rfl
  | n + 1, i, x, h => by
    rw [hst i x (by omega)]
    exact lp_run hst n (i + 1) (s i x) (by omega)
theorem lp_inv {σ : Type} {E : Nat → σ → ARes} {F : Nat} {s : Nat → σ → σ} {I : Nat → σ → Prop} (hst : ∀ i x, i < F → I i x → E i x = E (i + 1) (s i x) ∧ I (i + 1) (s i x)) : ∀ (n i : Nat) (x : σ), i + n = F → I i x → E i x = E F (rpt n i s x) ∧ I F (rpt n i s x)
  | 0, i, x, h, hI => by
    have e : i = F := by omega
    rw [e] at hI ⊢
    exact ⟨rfl, hI⟩
  | n + 1, i, x, h, hI => by
    obtain ⟨h1, h2⟩ := hst i x (by omega) hI
    rw [h1]
    exact lp_inv hst n (i + 1) (s i x) (by omega) h2
/-- the first from i on, among n -/
def fnd : Nat → Nat → (Nat → Bool) → Option Nat
  | 0, _, _ => none
  | n + 1, i, P => if P i = true then some i else fnd n (i + 1) P
theorem lp_fnd {E R : Nat → ARes} {F : Nat} {P : Nat → Bool} (hst : ∀ i, i < F → E i = if P i = true then R i else E (i + 1)) : ∀ (n i : Nat), i + n = F → E i = match fnd n i P with
    | some j => R j
    | none => E F
  | 0, i, h => by
    have e : i = F := by omega
    rw [e]
    rfl
  | n + 1, i, h => by
    rw [hst i (by omega)]
    unfold fnd
    by_cases hp : P i = true
    · rw [if_pos hp, if_pos hp]
    · rw [if_neg hp, if_neg hp]
      exact lp_fnd hst n (i + 1) (by omega)
theorem fnd_some {P : Nat → Bool} : ∀ {n i j : Nat}, fnd n i P = some j → i ≤ j ∧ j < i + n ∧ P j = true ∧ ∀ k, i ≤ k → k < j → P k = false
  | 0, i, j, h => by cases h
  | n + 1, i, j, h => by
    unfold fnd at h
    by_cases hp : P i = true
    · rw [if_pos hp] at h
      cases h
      exact ⟨Nat.le_refl _, by omega, hp, fun k h1 h2 => by omega⟩
    · rw [if_neg hp] at h
      obtain ⟨h1, h2, h3, h4⟩ := fnd_some h
      refine ⟨by omega, by omega, h3, fun k g1 g2 => ?_⟩
      by_cases e : k = i
      · subst e
        cases hk : P k with
        | false => rfl
        | true => exact absurd hk hp
      · exact h4 k (by omega) g2
theorem fnd_none {P : Nat → Bool} : ∀ {n i : Nat}, fnd n i P = none → ∀ k, i ≤ k → k < i + n → P k = false
  | 0, i, h, k, h1, h2 => by omega
  | n + 1, i, h, k, h1, h2 => by
    unfold fnd at h
    by_cases hp : P i = true
    · rw [if_pos hp] at h; cases h
    · rw [if_neg hp] at h
      by_cases e : k = i
      · subst e
        cases hk : P k with
        | false => rfl
        | true => exact absurd hk hp
      · exact fnd_none h k (by omega) (by omega)
