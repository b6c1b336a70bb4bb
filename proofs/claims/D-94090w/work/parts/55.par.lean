/-! THE RULES' TEXT, as plain functions: what a text says, or which fault comes first and where -/
set_option maxRecDepth 100000
set_option maxHeartbeats 40000
/-- a text: byte k, -1 from its end on -/
abbrev TX : Type := Nat → Int32
/-- names' values -/
abbrev NV : Type := Nat → Int32
abbrev PR (β : Type) : Type := (Nat × Nat) ⊕ (β × Nat)
def pbd {β γ : Type} (r : PR β) (k : β → Nat → PR γ) : PR γ := match r with
  | .inl e => .inl e
  | .inr (v, p) => k v p
theorem pbd_l {β γ : Type} (e : Nat × Nat) (k : β → Nat → PR γ) : pbd (.inl e) k = .inl e := rfl
theorem pbd_r {β γ : Type} (v : β) (p : Nat) (k : β → Nat → PR γ) : pbd (.inr (v, p)) k = k v p := rfl
/-- N ends the text -/
def TxOK (T : TX) (N : Nat) : Prop := N ≤ 400 ∧ (∀ k, k < N → 0 ≤ T k ∧ T k ≤ 255) ∧ ∀ k, N ≤ k → T k = -1
theorem TxOK.lt {T : TX} {N k : Nat} (h : TxOK T N) (hk : T k ≠ -1) : k < N := by
  by_cases q : k < N
  · exact q
  · exact absurd (h.2.2 k (by omega)) hk
/-- the first place from p on, among n, where P fails -/
def past (P : Int32 → Bool) (T : TX) : Nat → Nat → Nat
  | 0, p => p
  | n + 1, p => if P (T p) = true then past P T n (p + 1) else p
theorem past_mono {P : Int32 → Bool} {T : TX} : ∀ (n p : Nat), p ≤ past P T n p
  | 0, p => Nat.le_refl _
  | n + 1, p => by
    unfold past
    split
    · exact Nat.le_trans (Nat.le_succ p) (past_mono n (p + 1))
    · exact Nat.le_refl _
theorem past_le {P : Int32 → Bool} {T : TX} {N : Nat} (hN : ∀ k, N ≤ k → P (T k) = false) : ∀ (n p : Nat), p ≤ N → past P T n p ≤ N
  | 0, p, h => h
  | n + 1, p, h => by
    unfold past
    split
    · next hp =>
      refine past_le hN n (p + 1) ?_
      by_cases q : p < N
      · exact q
      · rw [hN p (by omega)] at hp; cases hp
    · exact h
theorem past_stop {P : Int32 → Bool} {T : TX} {N : Nat} (hN : ∀ k, N ≤ k → P (T k) = false) : ∀ (n p : Nat), N < n + p → P (T (past P T n p)) = false
  | 0, p, h => hN p (by omega)
  | n + 1, p, h => by
    unfold past
    split
    · exact past_stop hN n (p + 1) (by omega)
    · next hp => cases hq : P (T p) with
      | false => rfl
      | true => exact absurd hq hp
theorem past_all {P : Int32 → Bool} {T : TX} : ∀ (n p k : Nat), p ≤ k → k < past P T n p → P (T k) = true
  | 0, p, k, h1, h2 => by unfold past at h2; omega
  | n + 1, p, k, h1, h2 => by
    unfold past at h2
    split at h2
    · next hp =>
      by_cases e : k = p
      · rw [e]; exact hp
      · exact past_all n (p + 1) k (by omega) h2
    · omega
theorem past_ind {P : Int32 → Bool} {T : TX} {N : Nat} (hN : ∀ k, N ≤ k → P (T k) = false) : ∀ (n m p : Nat), N < n + p → N < m + p → past P T n p = past P T m p
  | 0, 0, p, h1, h2 => rfl
  | 0, m + 1, p, h1, h2 => by
    unfold past
    rw [hN p (by omega)]
    rfl
  | n + 1, 0, p, h1, h2 => by
    unfold past
    rw [hN p (by omega)]
    rfl
  | n + 1, m + 1, p, h1, h2 => by
    unfold past
    split
    · exact past_ind hN n m (p + 1) (by omega) (by omega)
    · rfl
def isSp (c : Int32) : Bool := decide (c = 32)
def isDg (c : Int32) : Bool := decide (48 ≤ c ∧ c ≤ 57)
def isLt (c : Int32) : Bool := decide (97 ≤ c ∧ c ≤ 122)
/-- past the blanks -/
def sk (T : TX) (p : Nat) : Nat := past isSp T 401 p
/-- past the letters -/
def wd (T : TX) (p : Nat) : Nat := past isLt T 401 p
theorem TxOK.noSp {T : TX} {N : Nat} (h : TxOK T N) : ∀ k, N ≤ k → isSp (T k) = false := fun k hk => by rw [h.2.2 k hk]; rfl
theorem TxOK.noDg {T : TX} {N : Nat} (h : TxOK T N) : ∀ k, N ≤ k → isDg (T k) = false := fun k hk => by rw [h.2.2 k hk]; rfl
theorem TxOK.noLt {T : TX} {N : Nat} (h : TxOK T N) : ∀ k, N ≤ k → isLt (T k) = false := fun k hk => by rw [h.2.2 k hk]; rfl
/-- the digits' value, no more than 10000; behind them -/
def dgs (T : TX) : Nat → Nat → Nat → Nat × Nat
  | 0, p, v => (v, p)
  | n + 1, p, v => if isDg (T p) = true then dgs T n (p + 1) (Nat.min (10 * v + ((T p).toNatClampNeg - 48)) 10000) else (v, p)
/-- a number from lo to hi, not x -/
def pnum (T : TX) (lo hi x p : Nat) : PR Nat :=
  let q := sk T p
  if isDg (T q) = true then
    let r := dgs T 401 q 0
    if r.1 < lo ∨ hi < r.1 ∨ r.1 = x then .inl (2, q) else .inr (r.1, r.2)
  else .inl (1, q)
/-- the word w stands at p, and no longer one -/
def isW (T : TX) (p : Nat) (w : List Int32) : Bool := decide (wd T p = p + w.length) && (List.range w.length).all (fun k => decide (T (p + k) = w.getD k 0))
/-- the sign c, behind blanks -/
def psign (T : TX) (c : Int32) (p : Nat) : PR Unit := if T (sk T p) = c then .inr ((), sk T p + 1) else .inl (1, sk T p)
def W_weight : List Int32 := [119, 101, 105, 103, 104, 116]
def W_trade : List Int32 := [116, 114, 97, 100, 101]
def W_age : List Int32 := [97, 103, 101]
def W_hill : List Int32 := [104, 105, 108, 108]
def W_steps : List Int32 := [115, 116, 101, 112, 115]
def W_spent : List Int32 := [115, 112, 101, 110, 116]
def W_least : List Int32 := [108, 101, 97, 115, 116]
def W_most : List Int32 := [109, 111, 115, 116]
def W_not : List Int32 := [110, 111, 116]
def W_and : List Int32 := [97, 110, 100]
def W_or : List Int32 := [111, 114]
def W_if : List Int32 := [105, 102]
def W_bar : List Int32 := [98, 97, 114]
def W_life : List Int32 := [108, 105, 102, 101]
def W_right : List Int32 := [114, 105, 103, 104, 116]
def W_need : List Int32 := [110, 101, 101, 100]
def W_reuse : List Int32 := [114, 101, 117, 115, 101]
def W_recall : List Int32 := [114, 101, 99, 97, 108, 108]
def W_wait : List Int32 := [119, 97, 105, 116]
/-- which name stands at p: its place, its length -/
def nmAt (T : TX) (p : Nat) : Option (Nat × Nat) :=
  if isW T p W_weight = true then some (0, 6) else if isW T p W_trade = true then some (1, 5) else if isW T p W_age = true then some (2, 3)
  else if isW T p W_hill = true then some (3, 4) else if isW T p W_steps = true then some (4, 5) else if isW T p W_spent = true then some (5, 5) else none
/-- an operation by its sign: + - * /, l (least), m (most) -/
def opr (c x y : Int32) : Int32 := if c = 43 then x + y else if c = 45 then x - y else if c = 42 then x * y else if c = 47 then (if y = 0 then 0 else x / y) else if c = 108 then (if x ≤ y then x else y) else (if y ≤ x then x else y)
abbrev EV : Type := NV → Int32
def opE (c : Int32) (a b : EV) : EV := fun ν => opr c (a ν) (b ν)
def isMul (c : Int32) : Bool := decide (c = 42 ∨ c = 47)
def isAdd (c : Int32) : Bool := decide (c = 43 ∨ c = 45)
/-- expressions: mode 0 a unit, 1 a product, 2 on behind a product's part, 3 an expression, 4 on behind its part -/
def PE (T : TX) : Nat → Nat → EV → Nat → Nat → PR EV
  | 0, _, _, _, _ => .inl (9, 0)
  | n + 1, 0, _, o, p =>
    let q := sk T p
    if isDg (T q) = true then pbd (pnum T 0 9999 99999 p) (fun v r => .inr (fun _ => ni v, r))
    else if T q = 40 then (if o = 6 then .inl (3, q) else pbd (PE T n 3 (fun _ => 0) (o + 1) (q + 1)) (fun F r => pbd (psign T 41 r) (fun _ r1 => .inr (F, r1))))
    else match nmAt T q with
      | some (k, l) => .inr (fun ν => ν k, q + l)
      | none =>
        if isW T q W_least = true ∨ isW T q W_most = true then
          (let c : Int32 := if isW T q W_least = true then 108 else 109
          let q2 := sk T (q + (if isW T q W_least = true then 5 else 4))
          if T q2 = 40 then (if o = 6 then .inl (3, q2) else pbd (PE T n 3 (fun _ => 0) (o + 1) (q2 + 1)) (fun F r => pbd (psign T 44 r) (fun _ r1 => pbd (PE T n 3 (fun _ => 0) (o + 1) r1) (fun G r2 => pbd (psign T 41 r2) (fun _ r3 => .inr (opE c F G, r3))))))
          else .inl (1, q2))
        else .inl (1, q)
  | n + 1, 1, _, o, p => pbd (PE T n 0 (fun _ => 0) o p) (fun F r => PE T n 2 F o r)
  | n + 1, 2, F, o, p =>
    let q := sk T p
    if isMul (T q) = true then pbd (PE T n 0 (fun _ => 0) o (q + 1)) (fun G r => PE T n 2 (opE (T q) F G) o r) else .inr (F, q)
  | n + 1, 3, _, o, p => pbd (PE T n 1 (fun _ => 0) o p) (fun F r => PE T n 4 F o r)
  | n + 1, _, F, o, p =>
    let q := sk T p
    if isAdd (T q) = true then pbd (PE T n 1 (fun _ => 0) o (q + 1)) (fun G r => PE T n 4 (opE (T q) F G) o r) else .inr (F, q)
abbrev CV : Type := NV → Bool
def cmpV (c : Int32) (a b : EV) : CV := fun ν => if c = 60 then decide (a ν < b ν) else if c = 62 then decide (b ν < a ν) else decide (a ν = b ν)
/-- an expression, with fuel enough -/
def pE (T : TX) (o p : Nat) : PR EV := PE T 5000 3 (fun _ => 0) o p
/-- conditions: mode 0 one, 1 all, 2 on behind an 'and', 3 the whole, 4 on behind an 'or' -/
def PC (T : TX) : Nat → Nat → CV → Nat → Nat → PR CV
  | 0, _, _, _, _ => .inl (9, 0)
  | n + 1, 0, _, o, p =>
    let q := sk T p
    if T q = 91 then (if o = 6 then .inl (3, q) else pbd (PC T n 3 (fun _ => true) (o + 1) (q + 1)) (fun A r => pbd (psign T 93 r) (fun _ r1 => .inr (A, r1))))
    else if isW T q W_not = true then (if o = 6 then .inl (3, q) else pbd (PC T n 0 (fun _ => true) (o + 1) (q + 3)) (fun A r => .inr (fun ν => !A ν, r)))
    else pbd (pE T o q) (fun F r =>
      let c := T (sk T r)
      if c = 60 ∨ c = 62 ∨ c = 61 then pbd (pE T o (sk T r + 1)) (fun G r1 => .inr (cmpV c F G, r1)) else .inl (1, sk T r))
  | n + 1, 1, _, o, p => pbd (PC T n 0 (fun _ => true) o p) (fun A r => PC T n 2 A o r)
  | n + 1, 2, A, o, p =>
    let q := sk T p
    if isW T q W_and = true then pbd (PC T n 0 (fun _ => true) o (q + 3)) (fun B r => PC T n 2 (fun ν => A ν && B ν) o r) else .inr (A, q)
  | n + 1, 3, _, o, p => pbd (PC T n 1 (fun _ => true) o p) (fun A r => PC T n 4 A o r)
  | n + 1, _, A, o, p =>
    let q := sk T p
    if isW T q W_or = true then pbd (PC T n 1 (fun _ => true) o (q + 2)) (fun B r => PC T n 4 (fun ν => A ν || B ν) o r) else .inr (A, q)
def pC (T : TX) (p : Nat) : PR CV := PC T 5000 3 (fun _ => true) 0 p
/-- a clause: kind (0 bar, 1 life, 2 right, 3 need, 4 reuse, 5 recall, 6 wait), its number, its value, its other number, when it holds -/
abbrev CLS : Type := Nat × Nat × EV × Nat × CV
def kdAt (T : TX) (p : Nat) : Option (Nat × Nat) :=
  if isW T p W_bar = true then some (0, 3) else if isW T p W_life = true then some (1, 4) else if isW T p W_right = true then some (2, 5) else if isW T p W_need = true then some (3, 4)
  else if isW T p W_reuse = true then some (4, 5) else if isW T p W_recall = true then some (5, 6) else if isW T p W_wait = true then some (6, 4) else none
/-- a clause's body -/
def pBody (T : TX) (k p : Nat) : PR (Nat × EV × Nat) :=
  if k = 0 then pbd (pnum T 0 11 99999 p) (fun a r => pbd (pnum T 0 11 a r) (fun b r1 => .inr ((a, fun _ => ni b, 0), r1)))
  else if k = 1 ∨ k = 4 then pbd (pnum T 0 3 99999 p) (fun a r => pbd (pE T 0 r) (fun F r1 => .inr ((a, F, 0), r1)))
  else if k = 5 then pbd (pnum T 0 11 99999 p) (fun a r => pbd (pnum T 0 9999 99999 r) (fun b r1 => pbd (pnum T b 9999 99999 r1) (fun c r2 => .inr ((a, fun _ => ni b, c), r2))))
  else if k = 3 then pbd (pnum T 0 3 99999 p) (fun a r => .inr ((a, fun _ => 0, 0), r))
  else pbd (pE T 0 p) (fun F r => .inr ((0, F, 0), r))
def pClause (T : TX) (many p : Nat) : PR CLS := match kdAt T p with
  | none => .inl (1, p)
  | some (k, l) => if many = 20 then .inl (3, p) else pbd (pBody T k (p + l)) (fun z r =>
    if isW T (sk T r) W_if = true then pbd (pC T (sk T r + 2)) (fun C r1 => pbd (psign T 59 r1) (fun _ r2 => .inr ((k, z.1, z.2.1, z.2.2, C), r2)))
    else pbd (psign T 59 r) (fun _ r2 => .inr ((k, z.1, z.2.1, z.2.2, fun _ => true), r2)))
/-- all clauses of a text of N bytes, from p on, behind those in L -/
def pAll (T : TX) (N : Nat) : Nat → List CLS → Nat → PR (List CLS)
  | 0, _, _ => .inl (9, 0)
  | n + 1, L, p => if sk T p < N then pbd (pClause T L.length (sk T p)) (fun c r => pAll T N n (L ++ [c]) r) else .inr (L, sk T p)
def pText (T : TX) (N : Nat) : PR (List CLS) := pAll T N 22 [] 0
/-! words by their sums, as the reference has them -/
theorem lt_ni {c : Int32} (h : isLt c = true) : ∃ t, c = ni t ∧ 97 ≤ t ∧ t ≤ 122 := by
  unfold isLt at h
  simp only [decide_eq_true_eq] at h
  obtain ⟨h1, h2⟩ := h
  have h0 : (0 : Int32) ≤ c := Int32.le_trans (by decide) h1
  refine ⟨c.toNatClampNeg, ni_of h0, ?_, ?_⟩
  · have := Int32.toNatClampNeg_le h1
    simpa using this
  · have := Int32.toNatClampNeg_le h2
    simpa using this
theorem dg_ni {c : Int32} (h : isDg c = true) : ∃ t, c = ni t ∧ 48 ≤ t ∧ t ≤ 57 := by
  unfold isDg at h
  simp only [decide_eq_true_eq] at h
  obtain ⟨h1, h2⟩ := h
  have h0 : (0 : Int32) ≤ c := Int32.le_trans (by decide) h1
  refine ⟨c.toNatClampNeg, ni_of h0, ?_, ?_⟩
  · have := Int32.toNatClampNeg_le h1
    simpa using this
  · have := Int32.toNatClampNeg_le h2
    simpa using this
/-- a letter's number -/
def ltn (T : TX) (k : Nat) : Nat := (T k).toNatClampNeg - 96
def hv (T : TX) (p : Nat) : Nat → Nat
  | 0 => 0
  | n + 1 => if n < 6 then 27 * hv T p n + ltn T (p + n) else hv T p n
def hl : List Nat → Nat
  | [] => 0
  | e :: r => 27 * hl r + e
theorem ltn_b {T : TX} {k : Nat} (h : isLt (T k) = true) : 1 ≤ ltn T k ∧ ltn T k ≤ 26 := by
  obtain ⟨t, h1, h2, h3⟩ := lt_ni h
  unfold ltn
  rw [h1, ni_nat (by omega)]
  omega
theorem hv_lt {T : TX} {p : Nat} : ∀ n, (∀ k, k < n → isLt (T (p + k)) = true) → hv T p n ≤ 387420488 ∧ (n < 6 → hv T p n ≤ 14348906) ∧ (n < 5 → hv T p n ≤ 531440) ∧ (n < 4 → hv T p n ≤ 19682) ∧ (n < 3 → hv T p n ≤ 728) ∧ (n < 2 → hv T p n ≤ 26) ∧ (n < 1 → hv T p n ≤ 0)
  | 0, _ => by simp [hv]
  | n + 1, h => by
    have ih := hv_lt n (fun k hk => h k (by omega))
    have hb := ltn_b (h n (by omega))
    unfold hv
    split
    · omega
    · omega
theorem hv_inj {T : TX} {p : Nat} : ∀ (n : Nat) (r : List Nat), n ≤ 6 → (∀ k, k < n → isLt (T (p + k)) = true) → (∀ e ∈ r, 1 ≤ e ∧ e ≤ 26) → hv T p n = hl r → n = r.length ∧ ∀ k, k < n → ltn T (p + k) = r.getD (n - 1 - k) 0
  | 0, [], _, _, _, _ => ⟨rfl, fun k hk => absurd hk (Nat.not_lt_zero k)⟩
  | 0, e :: r, _, _, hr, h => by
    have := hr e List.mem_cons_self
    simp only [hv, hl] at h
    omega
  | n + 1, [], hn, hT, _, h => by
    have hb := ltn_b (hT n (by omega))
    simp only [hv, hl] at h
    rw [if_pos (by omega)] at h
    omega
  | n + 1, e :: r, hn, hT, hr, h => by
    have hb := ltn_b (hT n (by omega))
    have he := hr e List.mem_cons_self
    simp only [hv, hl] at h
    rw [if_pos (by omega)] at h
    obtain ⟨h1, h2⟩ := hv_inj n r (by omega) (fun k hk => hT k (by omega)) (fun x hx => hr x (List.mem_cons_of_mem _ hx)) (by omega)
    refine ⟨by simp [h1], fun k hk => ?_⟩
    by_cases q : k = n
    · subst q
      have : k + 1 - 1 - k = 0 := by omega
      rw [this]
      simp only [List.getD_cons_zero]
      omega
    · have : n + 1 - 1 - k = (n - 1 - k) + 1 := by omega
      rw [this]
      simp only [List.getD_cons_succ]
      exact h2 k (by omega)
theorem hv_of {T : TX} {p : Nat} : ∀ (n : Nat) (r : List Nat), n ≤ 6 → n = r.length → (∀ k, k < n → ltn T (p + k) = r.getD (n - 1 - k) 0) → hv T p n = hl r
  | 0, [], _, _, _ => rfl
  | 0, e :: r, _, h, _ => by simp at h
  | n + 1, [], _, h, _ => by simp at h
  | n + 1, e :: r, hn, h, hk => by
    have ih := hv_of (T := T) (p := p) n r (by omega) (by simpa using h) (fun k q => by
      have h1 := hk k (by omega)
      have : n + 1 - 1 - k = (n - 1 - k) + 1 := by omega
      rw [this] at h1
      simpa using h1)
    have h0 := hk n (by omega)
    have : n + 1 - 1 - n = 0 := by omega
    rw [this] at h0
    simp only [List.getD_cons_zero] at h0
    simp only [hv, hl]
    rw [if_pos (by omega), ih, h0]
/-- a word's numbers, the last letter first -/
def wrv (w : List Int32) : List Nat := (w.map fun c => c.toNatClampNeg - 96).reverse
theorem isW_hv {T : TX} {N p : Nat} (hT : TxOK T N) {w : List Int32} (hw : w.length ≤ 6) (hp : p ≤ N) (hc : ∀ c ∈ w, isLt c = true) : (isW T p w = true) ↔ (wd T p - p ≤ 6 ∧ hv T p (wd T p - p) = hl (wrv w)) := by
  have hall : ∀ k, k < wd T p - p → isLt (T (p + k)) = true := fun k hk => past_all 401 p (p + k) (by omega) (by unfold wd at hk; omega)
  have hmono : p ≤ wd T p := past_mono 401 p
  have hlen : (wrv w).length = w.length := by simp [wrv]
  have hget : ∀ k, k < w.length → (wrv w).getD (w.length - 1 - k) 0 = (w.getD k 0).toNatClampNeg - 96 := by
    intro k hk
    unfold wrv
    rw [List.getD_eq_getElem?_getD, List.getElem?_reverse (by simp; omega), List.getD_eq_getElem?_getD]
    simp only [List.length_map, List.getElem?_map]
    have : w.length - 1 - (w.length - 1 - k) = k := by omega
    rw [this, List.getElem?_eq_getElem hk]
    rfl
  constructor
  · intro h
    unfold isW at h
    simp only [Bool.and_eq_true, decide_eq_true_eq, List.all_eq_true, List.mem_range] at h
    obtain ⟨h1, h2⟩ := h
    have e : wd T p - p = w.length := by omega
    rw [e]
    refine ⟨hw, hv_of _ _ hw hlen.symm fun k hk => ?_⟩
    rw [hget k hk]
    unfold ltn
    rw [h2 k hk]
  · rintro ⟨h1, h2⟩
    obtain ⟨h3, h4⟩ := hv_inj _ _ h1 hall (by
      intro e he
      unfold wrv at he
      simp only [List.mem_reverse, List.mem_map] at he
      obtain ⟨c, hcm, rfl⟩ := he
      obtain ⟨t, e1, e2, e3⟩ := lt_ni (hc c hcm)
      rw [e1, ni_nat (by omega)]
      omega) h2
    rw [hlen] at h3
    unfold isW
    simp only [Bool.and_eq_true, decide_eq_true_eq, List.all_eq_true, List.mem_range]
    refine ⟨by omega, fun k hk => ?_⟩
    have h5 := h4 k (by omega)
    rw [h3, hget k hk] at h5
    obtain ⟨t, e1, e2, e3⟩ := lt_ni (hall k (by omega))
    have hwk : w.getD k 0 ∈ w := by
      rw [List.getD_eq_getElem?_getD, List.getElem?_eq_getElem hk]
      exact List.getElem_mem hk
    obtain ⟨t', f1, f2, f3⟩ := lt_ni (hc _ hwk)
    unfold ltn at h5
    rw [e1, f1, ni_nat (by omega), ni_nat (by omega)] at h5
    rw [e1, f1]
    congr 1
    omega
theorem sk_le {T : TX} {N p : Nat} (hT : TxOK T N) (hp : p ≤ N) : sk T p ≤ N := past_le hT.noSp 401 p hp
theorem wd_le {T : TX} {N p : Nat} (hT : TxOK T N) (hp : p ≤ N) : wd T p ≤ N := past_le hT.noLt 401 p hp
theorem sk_ge (T : TX) (p : Nat) : p ≤ sk T p := past_mono 401 p
theorem sk_stop {T : TX} {N : Nat} (hT : TxOK T N) (p : Nat) : isSp (T (sk T p)) = false := past_stop hT.noSp 401 p (by have := hT.1; omega)
theorem sk_idem {T : TX} {N : Nat} (hT : TxOK T N) (p : Nat) : sk T (sk T p) = sk T p := by
  have h := sk_stop hT p
  show past isSp T 401 (sk T p) = sk T p
  unfold past
  rw [if_neg (by rw [h]; exact Bool.false_ne_true)]
