/-! THE RULES' TEXT: there is fuel enough; a part read is not empty -/
set_option maxRecDepth 100000
set_option maxHeartbeats 200000
/-- read from p on: at least e bytes, and within the text -/
def RdOK {β : Type} (N p e : Nat) (r : PR β) : Prop := match r with
  | .inl (k, _) => k ≠ 9
  | .inr (_, q) => p + e ≤ q ∧ q ≤ N
theorem RdOK.bd {β γ : Type} {N p p' e e' e2 : Nat} {r : PR β} {k : β → Nat → PR γ} (h : RdOK N p' e r) (hk : ∀ v q, p' + e ≤ q → q ≤ N → RdOK N q e2 (k v q)) (hp : p + e' ≤ p' + e + e2) : RdOK N p e' (pbd r k) := by
  match r, h with
  | .inl (a, c), h => exact h
  | .inr (v, q), h =>
    have h1 := hk v q h.1 h.2
    show RdOK N p e' (k v q)
    have h2 := h.1
    generalize k v q = r2 at h1
    match r2, h1 with
    | .inl (a, c), h1 => exact h1
    | .inr (v, q2), h1 => exact ⟨by have := h1.1; omega, h1.2⟩
theorem RdOK.ret {β : Type} {N p q e : Nat} {v : β} (h : p + e ≤ q) (hq : q ≤ N) : RdOK N p e (.inr (v, q) : PR β) := ⟨h, hq⟩
section FUEL
variable {T : TX} {N : Nat}
theorem rd_sign (hT : TxOK T N) {p : Nat} {c : Int32} (hc : c ≠ -1) : RdOK N p 1 (psign T c p) := by
  unfold psign
  split
  · next e =>
    have h1 := hT.lt (k := sk T p) (by rw [e]; exact hc)
    have h2 := sk_ge T p
    exact ⟨by omega, by omega⟩
  · show (1 : Nat) ≠ 9
    omega
theorem dgs_gt {n p v : Nat} (h : isDg (T p) = true) : p + 1 ≤ (dgs T (n + 1) p v).2 := by
  unfold dgs
  rw [if_pos h]
  generalize Nat.min (10 * v + ((T p).toNatClampNeg - 48)) 10000 = w
  have : ∀ (n p v : Nat), p ≤ (dgs T n p v).2 := by
    intro n
    induction n with
    | zero => intro p v; exact Nat.le_refl _
    | succ n ih =>
      intro p v
      unfold dgs
      split
      · exact Nat.le_trans (Nat.le_succ p) (ih _ _)
      · exact Nat.le_refl _
  exact this n (p + 1) w
theorem rd_num (hT : TxOK T N) {lo hi x p : Nat} (hp : p ≤ N) : RdOK N p 1 (pnum T lo hi x p) := by
  show RdOK N p 1 (if isDg (T (sk T p)) = true then (if _ then _ else _) else _)
  split
  · next e =>
    split
    · show (2 : Nat) ≠ 9
      omega
    · have h1 := dgs_gt (n := 400) (v := 0) e
      have h2 := sk_ge T p
      have h3 := (dgs_le hT 401 (sk T p) 0 (by omega)).1 (sk_le hT hp)
      exact ⟨Nat.le_trans (Nat.succ_le_succ h2) h1, h3⟩
  · show (1 : Nat) ≠ 9
    omega
theorem rd_exprs (hT : TxOK T N) : ∀ n,
    (∀ (F : EV) (o p : Nat), p ≤ N → 5 * (N - p) < n → RdOK N p 1 (PE T n 0 F o p)) ∧
    (∀ (F : EV) (o p : Nat), p ≤ N → 5 * (N - p) + 1 < n → RdOK N p 1 (PE T n 1 F o p)) ∧
    (∀ (F : EV) (o p : Nat), p ≤ N → 5 * (N - p) + 1 < n → RdOK N p 0 (PE T n 2 F o p)) ∧
    (∀ (F : EV) (o p : Nat), p ≤ N → 5 * (N - p) + 2 < n → RdOK N p 1 (PE T n 3 F o p)) ∧
    (∀ (F : EV) (o p : Nat), p ≤ N → 5 * (N - p) + 2 < n → RdOK N p 0 (PE T n 4 F o p))
  | 0 => ⟨fun _ _ _ _ h => by omega, fun _ _ _ _ h => by omega, fun _ _ _ _ h => by omega, fun _ _ _ _ h => by omega, fun _ _ _ _ h => by omega⟩
  | n + 1 => by
    obtain ⟨h0, h1, h2, h3, h4⟩ := rd_exprs hT n
    refine ⟨fun F o p hp hn => ?_, fun F o p hp hn => ?_, fun F o p hp hn => ?_, fun F o p hp hn => ?_, fun F o p hp hn => ?_⟩
    · have hs := sk_le hT hp
      have hg := sk_ge T p
      show RdOK N p 1 (if isDg (T (sk T p)) = true then _ else _)
      split
      · exact RdOK.bd (rd_num hT hp) (e2 := 0) (fun v q hq hq2 => ⟨by omega, hq2⟩) (by omega)
      · split
        · next e =>
          have hlt := hT.lt (k := sk T p) (by rw [e]; decide)
          split
          · show (3 : Nat) ≠ 9
            omega
          · refine RdOK.bd (p' := sk T p + 1) (e := 1) (h3 _ _ _ (by omega) (by omega)) (e2 := 0) (fun v q hq hq2 => ?_) (by omega)
            exact RdOK.bd (rd_sign hT (by decide)) (e2 := 0) (fun _ q hq hq2 => ⟨by omega, hq2⟩) (by omega)
        · split
          · next k l e =>
            obtain ⟨k6, kl⟩ := nmAt_spec e
            have h5 := wd_le hT hs
            refine ⟨?_, by omega⟩
            have : 1 ≤ l := by
              unfold nmAt at e
              repeat' split at e
              all_goals first | (cases e; omega) | cases e
            omega
          · split
            · next e =>
              generalize hl : (if isW T (sk T p) W_least = true then 5 else 4) = l
              have hl2 : 1 ≤ l := by rw [← hl]; split <;> omega
              have hw := wd_le hT hs
              have hll : sk T p + l ≤ N := by
                rcases e with e | e
                · have := isW_wd e
                  rw [if_pos e] at hl
                  simp only [W_least, List.length_cons, List.length_nil] at this
                  omega
                · have h9 := isW_wd e
                  simp only [W_most, List.length_cons, List.length_nil] at h9
                  by_cases e1 : isW T (sk T p) W_least = true
                  · have := isW_wd e1
                    simp only [W_least, List.length_cons, List.length_nil] at this
                    omega
                  · rw [if_neg e1] at hl
                    omega
              have hs2 := sk_le hT hll
              have hg2 := sk_ge T (sk T p + l)
              dsimp only
              split
              · next e4 =>
                have hlt := hT.lt (k := sk T (sk T p + l)) (by rw [e4]; decide)
                split
                · show (3 : Nat) ≠ 9
                  omega
                · refine RdOK.bd (p' := sk T (sk T p + l) + 1) (e := 1) (h3 _ _ _ (by omega) (by omega)) (e2 := 0) (fun v q hq hq2 => ?_) (by omega)
                  refine RdOK.bd (rd_sign hT (by decide)) (e2 := 0) (fun _ q1 hq1 hq12 => ?_) (by omega)
                  refine RdOK.bd (p' := q1) (e := 1) (h3 _ _ _ (by omega) (by omega)) (e2 := 0) (fun v q2 hq2 hq22 => ?_) (by omega)
                  exact RdOK.bd (rd_sign hT (by decide)) (e2 := 0) (fun _ q hq hq2 => ⟨by omega, hq2⟩) (by omega)
              · show (1 : Nat) ≠ 9
                omega
            · show (1 : Nat) ≠ 9
              omega
    · exact RdOK.bd (p' := p) (e := 1) (h0 _ _ _ hp (by omega)) (e2 := 0) (fun v q hq hq2 => h2 _ _ _ hq2 (by omega)) (by omega)
    · have hs := sk_le hT hp
      have hg := sk_ge T p
      show RdOK N p 0 (if isMul (T (sk T p)) = true then _ else _)
      split
      · next e =>
        have hlt := hT.lt (k := sk T p) (by intro q; rw [q] at e; cases e)
        exact RdOK.bd (p' := sk T p + 1) (e := 1) (h0 _ _ _ (by omega) (by omega)) (e2 := 0) (fun v q hq hq2 => h2 _ _ _ hq2 (by omega)) (by omega)
      · exact ⟨by omega, hs⟩
    · exact RdOK.bd (p' := p) (e := 1) (h1 _ _ _ hp (by omega)) (e2 := 0) (fun v q hq hq2 => h4 _ _ _ hq2 (by omega)) (by omega)
    · have hs := sk_le hT hp
      have hg := sk_ge T p
      show RdOK N p 0 (if isAdd (T (sk T p)) = true then _ else _)
      split
      · next e =>
        have hlt := hT.lt (k := sk T p) (by intro q; rw [q] at e; cases e)
        exact RdOK.bd (p' := sk T p + 1) (e := 1) (h1 _ _ _ (by omega) (by omega)) (e2 := 0) (fun v q hq hq2 => h4 _ _ _ hq2 (by omega)) (by omega)
      · exact ⟨by omega, hs⟩
theorem rd_E (hT : TxOK T N) {o p : Nat} (hp : p ≤ N) : RdOK N p 1 (pE T o p) := (rd_exprs hT 5000).2.2.2.1 _ _ _ hp (by have := hT.1; omega)
theorem isW_le (hT : TxOK T N) {p : Nat} {w : List Int32} (hp : p ≤ N) (h : isW T p w = true) : p + w.length ≤ N := by
  have h1 := isW_wd h
  have h2 := wd_le hT hp
  omega
theorem rd_conds (hT : TxOK T N) : ∀ n,
    (∀ (F : CV) (o p : Nat), p ≤ N → 5 * (N - p) < n → RdOK N p 1 (PC T n 0 F o p)) ∧
    (∀ (F : CV) (o p : Nat), p ≤ N → 5 * (N - p) + 1 < n → RdOK N p 1 (PC T n 1 F o p)) ∧
    (∀ (F : CV) (o p : Nat), p ≤ N → 5 * (N - p) + 1 < n → RdOK N p 0 (PC T n 2 F o p)) ∧
    (∀ (F : CV) (o p : Nat), p ≤ N → 5 * (N - p) + 2 < n → RdOK N p 1 (PC T n 3 F o p)) ∧
    (∀ (F : CV) (o p : Nat), p ≤ N → 5 * (N - p) + 2 < n → RdOK N p 0 (PC T n 4 F o p))
  | 0 => ⟨fun _ _ _ _ h => by omega, fun _ _ _ _ h => by omega, fun _ _ _ _ h => by omega, fun _ _ _ _ h => by omega, fun _ _ _ _ h => by omega⟩
  | n + 1 => by
    obtain ⟨h0, h1, h2, h3, h4⟩ := rd_conds hT n
    refine ⟨fun F o p hp hn => ?_, fun F o p hp hn => ?_, fun F o p hp hn => ?_, fun F o p hp hn => ?_, fun F o p hp hn => ?_⟩
    · have hs := sk_le hT hp
      have hg := sk_ge T p
      show RdOK N p 1 (if T (sk T p) = 91 then _ else _)
      split
      · next e =>
        have hlt := hT.lt (k := sk T p) (by rw [e]; decide)
        split
        · show (3 : Nat) ≠ 9
          omega
        · refine RdOK.bd (p' := sk T p + 1) (e := 1) (h3 _ _ _ (by omega) (by omega)) (e2 := 0) (fun v q hq hq2 => ?_) (by omega)
          exact RdOK.bd (rd_sign hT (by decide)) (e2 := 0) (fun _ q hq hq2 => ⟨by omega, hq2⟩) (by omega)
      · split
        · next e =>
          have hw := isW_le hT hs e
          simp only [W_not, List.length_cons, List.length_nil] at hw
          split
          · show (3 : Nat) ≠ 9
            omega
          · exact RdOK.bd (p' := sk T p + 3) (e := 1) (h0 _ _ _ (by omega) (by omega)) (e2 := 0) (fun _ q hq hq2 => ⟨by omega, hq2⟩) (by omega)
        · refine RdOK.bd (p' := sk T p) (e := 1) (rd_E hT hs) (e2 := 0) (fun v q hq hq2 => ?_) (by omega)
          have hs2 := sk_le hT hq2
          have hg2 := sk_ge T q
          dsimp only
          split
          · next e =>
            have hlt := hT.lt (k := sk T q) (by rcases e with c | c | c <;> rw [c] <;> decide)
            exact RdOK.bd (p' := sk T q + 1) (e := 1) (rd_E hT (by omega)) (e2 := 0) (fun _ q hq hq2 => ⟨by omega, hq2⟩) (by omega)
          · show (1 : Nat) ≠ 9
            omega
    · exact RdOK.bd (p' := p) (e := 1) (h0 _ _ _ hp (by omega)) (e2 := 0) (fun v q hq hq2 => h2 _ _ _ hq2 (by omega)) (by omega)
    · have hs := sk_le hT hp
      have hg := sk_ge T p
      show RdOK N p 0 (if isW T (sk T p) W_and = true then _ else _)
      split
      · next e =>
        have hw := isW_le hT hs e
        simp only [W_and, List.length_cons, List.length_nil] at hw
        exact RdOK.bd (p' := sk T p + 3) (e := 1) (h0 _ _ _ (by omega) (by omega)) (e2 := 0) (fun v q hq hq2 => h2 _ _ _ hq2 (by omega)) (by omega)
      · exact ⟨by omega, hs⟩
    · exact RdOK.bd (p' := p) (e := 1) (h1 _ _ _ hp (by omega)) (e2 := 0) (fun v q hq hq2 => h4 _ _ _ hq2 (by omega)) (by omega)
    · have hs := sk_le hT hp
      have hg := sk_ge T p
      show RdOK N p 0 (if isW T (sk T p) W_or = true then _ else _)
      split
      · next e =>
        have hw := isW_le hT hs e
        simp only [W_or, List.length_cons, List.length_nil] at hw
        exact RdOK.bd (p' := sk T p + 2) (e := 1) (h1 _ _ _ (by omega) (by omega)) (e2 := 0) (fun v q hq hq2 => h4 _ _ _ hq2 (by omega)) (by omega)
      · exact ⟨by omega, hs⟩
theorem rd_C (hT : TxOK T N) {p : Nat} (hp : p ≤ N) : RdOK N p 1 (pC T p) := (rd_conds hT 5000).2.2.2.1 _ _ _ hp (by have := hT.1; omega)
theorem rd_tail (hT : TxOK T N) {p : Nat} (hp : p ≤ N) : RdOK N p 1 (pTail T p) := by
  have hs := sk_le hT hp
  have hg := sk_ge T p
  unfold pTail
  split
  · next e =>
    have hw := isW_le hT hs e
    simp only [W_if, List.length_cons, List.length_nil] at hw
    refine RdOK.bd (p' := sk T p + 2) (e := 1) (rd_C hT (by omega)) (e2 := 0) (fun v q hq hq2 => ?_) (by omega)
    exact RdOK.bd (rd_sign hT (by decide)) (e2 := 0) (fun _ q hq hq2 => ⟨by omega, hq2⟩) (by omega)
  · exact RdOK.bd (rd_sign hT (by decide)) (e2 := 0) (fun _ q hq hq2 => ⟨by omega, hq2⟩) (by omega)
theorem rd_body (hT : TxOK T N) {k p : Nat} (hp : p ≤ N) : RdOK N p 1 (pBody T k p) := by
  unfold pBody
  split
  · refine RdOK.bd (rd_num hT hp) (e2 := 0) (fun v q hq hq2 => ?_) (by omega)
    exact RdOK.bd (rd_num hT hq2) (e2 := 0) (fun _ q hq hq2 => ⟨by omega, hq2⟩) (by omega)
  · split
    · refine RdOK.bd (rd_num hT hp) (e2 := 0) (fun v q hq hq2 => ?_) (by omega)
      exact RdOK.bd (rd_E hT hq2) (e2 := 0) (fun _ q hq hq2 => ⟨by omega, hq2⟩) (by omega)
    · split
      · refine RdOK.bd (rd_num hT hp) (e2 := 0) (fun v q hq hq2 => ?_) (by omega)
        refine RdOK.bd (rd_num hT hq2) (e2 := 0) (fun v q1 hq1 hq12 => ?_) (by omega)
        exact RdOK.bd (rd_num hT hq12) (e2 := 0) (fun _ q hq hq2 => ⟨by omega, hq2⟩) (by omega)
      · split
        · exact RdOK.bd (rd_num hT hp) (e2 := 0) (fun _ q hq hq2 => ⟨by omega, hq2⟩) (by omega)
        · exact RdOK.bd (rd_E hT hp) (e2 := 0) (fun _ q hq hq2 => ⟨by omega, hq2⟩) (by omega)
theorem rd_clause (hT : TxOK T N) {many p : Nat} (hp : p ≤ N) : RdOK N p 1 (pClause T many p) := by
  rw [pClause_eq]
  split
  · show (1 : Nat) ≠ 9
    omega
  · next k l e =>
    obtain ⟨k6, kl⟩ := kdAt_spec e
    have h5 := wd_le hT hp
    split
    · show (3 : Nat) ≠ 9
      omega
    · refine RdOK.bd (p' := p + l) (e := 1) (rd_body hT (by omega)) (e2 := 0) (fun v q hq hq2 => ?_) (by omega)
      exact RdOK.bd (rd_tail hT hq2) (e2 := 0) (fun _ q hq hq2 => ⟨by omega, hq2⟩) (by omega)
theorem rd_all (hT : TxOK T N) : ∀ (n : Nat) (L : List CLS) (p : Nat), p ≤ N → 20 < n + L.length → L.length ≤ 20 → RdOK N p 0 (pAll T N n L p)
  | 0, L, p, hp, h1, h2 => by omega
  | n + 1, L, p, hp, h1, h2 => by
    have hs := sk_le hT hp
    have hg := sk_ge T p
    unfold pAll
    split
    · by_cases q20 : L.length = 20
      · have hcl : ∃ k pl, pClause T L.length (sk T p) = .inl (k, pl) ∧ k ≠ 9 := by
          rw [pClause_eq, q20]
          split
          · exact ⟨_, _, rfl, by omega⟩
          · exact ⟨_, _, if_pos rfl, by omega⟩
        obtain ⟨k, pl, e, hk⟩ := hcl
        rw [e]
        exact hk
      · exact RdOK.bd (rd_clause hT hs) (e2 := 0) (fun v q hq hq2 => rd_all hT n (L ++ [v]) q hq2 (by simp; omega) (by simp; omega)) (by omega)
    · exact ⟨by omega, hs⟩
theorem rd_text (hT : TxOK T N) : RdOK N 0 0 (pText T N) := rd_all hT 22 [] 0 (Nat.zero_le _) (by simp) (by simp)
end FUEL
