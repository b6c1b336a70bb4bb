/-! THE ABSTRACT MACHINE: heap, frames, actions, the run of n steps, its limit -/
set_option maxRecDepth 100000
abbrev AC : Type := Nat × Nat × (Nat → Value)
abbrev AH : Type := Nat × Nat × (Nat → AC) × (Nat → Value)
def hsz (h : AH) : Nat := h.1
def hsl (h : AH) : Nat := h.2.1
def hcl (h : AH) (a : Nat) : AC := h.2.2.1 a
def henv (h : AH) (k : Nat) : Value := h.2.2.2 k
def hput (h : AH) (a : Nat) (c : AC) : AH := (h.1, h.2.1, va_up h.2.2.1 a c, h.2.2.2)
def hnew (h : AH) (n : Nat) (c : AC) : AH := (h.1 + 1, h.2.1 + n, va_up h.2.2.1 h.1 c, h.2.2.2)
def hset (h : AH) (a i : Nat) (v : Value) : AH := hput h a ((hcl h a).1, (hcl h a).2.1, updV (hcl h a).2.2 i v)
theorem hsz_put (h : AH) (a : Nat) (c : AC) : hsz (hput h a c) = hsz h := rfl
theorem hsl_put (h : AH) (a : Nat) (c : AC) : hsl (hput h a c) = hsl h := rfl
theorem hcl_put (h : AH) (a b : Nat) (c : AC) : hcl (hput h a c) b = if b = a then c else hcl h b := rfl
theorem henv_put (h : AH) (a k : Nat) (c : AC) : henv (hput h a c) k = henv h k := rfl
theorem hsz_new (h : AH) (n : Nat) (c : AC) : hsz (hnew h n c) = hsz h + 1 := rfl
theorem hsl_new (h : AH) (n : Nat) (c : AC) : hsl (hnew h n c) = hsl h + n := rfl
theorem hcl_new (h : AH) (n b : Nat) (c : AC) : hcl (hnew h n c) b = if b = hsz h then c else hcl h b := rfl
theorem henv_new (h : AH) (n k : Nat) (c : AC) : henv (hnew h n c) k = henv h k := rfl
theorem hsz_set (h : AH) (a i : Nat) (v : Value) : hsz (hset h a i v) = hsz h := rfl
theorem hsl_set (h : AH) (a i : Nat) (v : Value) : hsl (hset h a i v) = hsl h := rfl
theorem hcl_set (h : AH) (a b i : Nat) (v : Value) : hcl (hset h a i v) b = if b = a then ((hcl h a).1, (hcl h a).2.1, updV (hcl h a).2.2 i v) else hcl h b := rfl
theorem henv_set (h : AH) (a i k : Nat) (v : Value) : henv (hset h a i v) k = henv h k := rfl
abbrev ALs : Type := List (Option Value)
abbrev ARes : Type := Option (Outcome × AH)
abbrev ACfg : Type := Nat × ALs × List Value × AH
abbrev AAct : Type := ARes ⊕ (ACfg ⊕ ((Nat × Nat × ALs × AH) × (Option Value → AH → ACfg) × (Nat → AH → ARes ⊕ ACfg)))
abbrev AOp : Type := Nat → ALs → List Value → AH → AAct
abbrev ARec : Type := Nat → Nat → Nat → ALs → List Value → AH → ARes
/-- behind a call -/
def bnd (r : ARes) (kr : Option Value → AH → ARes) (kx : Nat → AH → ARes) : ARes := match r with
  | none => none
  | some (.returned v, h1) => kr v h1
  | some (.threw q, h1) => kx q h1
theorem bnd_ret (v : Option Value) (h1 : AH) (kr : Option Value → AH → ARes) (kx : Nat → AH → ARes) : bnd (some (.returned v, h1)) kr kx = kr v h1 := rfl
theorem bnd_thr (q : Nat) (h1 : AH) (kr : Option Value → AH → ARes) (kx : Nat → AH → ARes) : bnd (some (.threw q, h1)) kr kx = kx q h1 := rfl
theorem bnd_none (kr : Option Value → AH → ARes) (kx : Nat → AH → ARes) : bnd none kr kx = none := rfl
def goto' (rec : ARec) (d m : Nat) (q : ACfg) : ARes := rec d m q.1 q.2.1 q.2.2.1 q.2.2.2
def thr' (rec : ARec) (d m : Nat) : ARes ⊕ ACfg → ARes
  | .inl r => r
  | .inr g => goto' rec d m g
def drv (rec : ARec) (d m : Nat) : AAct → ARes
  | .inl r => r
  | .inr (.inl q) => goto' rec d m q
  | .inr (.inr (k, kr, kx)) => bnd (rec k.1 k.2.1 0 k.2.2.1 [] k.2.2.2) (fun v h1 => goto' rec d m (kr v h1)) (fun q h1 => thr' rec d m (kx q h1))
def aF (J : Nat → Nat → AOp) : Nat → ARec
  | 0 => fun _ _ _ _ _ _ => none
  | n + 1 => fun d m pc ls st h => drv (aF J n) d m (J m pc d ls st h)
def rle (r1 r2 : ARec) : Prop := ∀ d m pc ls st h x, r1 d m pc ls st h = some x → r2 d m pc ls st h = some x
theorem thr_mono {r1 r2 : ARec} (hr : rle r1 r2) {d m : Nat} {a : ARes ⊕ ACfg} {x : Outcome × AH} (h : thr' r1 d m a = some x) : thr' r2 d m a = some x := by
  cases a with
  | inl r => exact h
  | inr g => exact hr _ _ _ _ _ _ _ h
theorem drv_mono {r1 r2 : ARec} (hr : rle r1 r2) {d m : Nat} {a : AAct} {x : Outcome × AH} (h : drv r1 d m a = some x) : drv r2 d m a = some x := by
  rcases a with r | q | ⟨k, kr, kx⟩
  · exact h
  · exact hr _ _ _ _ _ _ _ h
  · simp only [drv] at h ⊢
    cases hk : r1 k.1 k.2.1 0 k.2.2.1 [] k.2.2.2 with
    | none => rw [hk] at h; cases h
    | some y =>
      rw [hk] at h
      rw [hr _ _ _ _ _ _ _ hk]
      obtain ⟨o, h1⟩ := y
      cases o with
      | returned v => exact hr _ _ _ _ _ _ _ h
      | threw q => exact thr_mono hr h
theorem aF_step (J : Nat → Nat → AOp) : ∀ n, rle (aF J n) (aF J (n + 1))
  | 0 => fun _ _ _ _ _ _ _ h => by cases h
  | n + 1 => fun _ _ _ _ _ _ _ h => drv_mono (aF_step J n) h
theorem aF_mono (J : Nat → Nat → AOp) {n k : Nat} (hk : n ≤ k) : rle (aF J n) (aF J k) := by
  induction hk with
  | refl => exact fun _ _ _ _ _ _ _ h => h
  | step _ ih => exact fun _ _ _ _ _ _ _ h => aF_step J _ _ _ _ _ _ _ _ (ih _ _ _ _ _ _ _ h)
/-- the limit -/
noncomputable def evJ (J : Nat → Nat → AOp) : ARec := fun d m pc ls st h =>
  @dite ARes (∃ (n : Nat) (x : Outcome × AH), aF J n d m pc ls st h = some x) (Classical.propDecidable _) (fun H => some (Classical.choose (Classical.choose_spec H))) (fun _ => none)
theorem evJ_iff (J : Nat → Nat → AOp) (d m pc : Nat) (ls : ALs) (st : List Value) (h : AH) (x : Outcome × AH) : evJ J d m pc ls st h = some x ↔ ∃ n, aF J n d m pc ls st h = some x := by
  unfold evJ
  constructor
  · intro e
    by_cases H : ∃ (n : Nat) (x : Outcome × AH), aF J n d m pc ls st h = some x
    · rw [dif_pos H] at e
      have h1 := Classical.choose_spec (Classical.choose_spec H)
      rw [Option.some.inj e] at h1
      exact ⟨_, h1⟩
    · rw [dif_neg H] at e
      cases e
  · rintro ⟨n, e⟩
    have H : ∃ (n : Nat) (x : Outcome × AH), aF J n d m pc ls st h = some x := ⟨n, x, e⟩
    rw [dif_pos H]
    have h1 := Classical.choose_spec (Classical.choose_spec H)
    have h2 := aF_mono J (Nat.le_max_left n (Classical.choose H)) _ _ _ _ _ _ _ e
    have h3 := aF_mono J (Nat.le_max_right n (Classical.choose H)) _ _ _ _ _ _ _ h1
    rw [h2] at h3
    exact h3.symm
theorem evJ_le (J : Nat → Nat → AOp) (n : Nat) : rle (aF J n) (evJ J) := fun _ _ _ _ _ _ _ h => (evJ_iff J _ _ _ _ _ _ _).mpr ⟨n, h⟩
theorem evJ_eq (J : Nat → Nat → AOp) (d m pc : Nat) (ls : ALs) (st : List Value) (h : AH) : evJ J d m pc ls st h = drv (evJ J) d m (J m pc d ls st h) := by
  apply Option.ext
  intro x
  rw [evJ_iff]
  constructor
  · rintro ⟨n, e⟩
    cases n with
    | zero => cases e
    | succ n => exact drv_mono (evJ_le J n) e
  · intro e
    generalize hA : J m pc d ls st h = A at e
    have key : ∃ n, drv (aF J n) d m A = some x := by
      rcases A with r | q | ⟨k, kr, kx⟩
      · exact ⟨0, e⟩
      · exact (evJ_iff J _ _ _ _ _ _ _).mp e
      · simp only [drv] at e ⊢
        cases hk : evJ J k.1 k.2.1 0 k.2.2.1 [] k.2.2.2 with
        | none => rw [hk] at e; cases e
        | some y =>
          rw [hk] at e
          obtain ⟨n1, h1⟩ := (evJ_iff J _ _ _ _ _ _ _).mp hk
          obtain ⟨o, h2⟩ := y
          cases o with
          | returned v =>
            obtain ⟨n2, h3⟩ := (evJ_iff J _ _ _ _ _ _ _).mp e
            refine ⟨max n1 n2, ?_⟩
            rw [aF_mono J (Nat.le_max_left n1 n2) _ _ _ _ _ _ _ h1]
            exact aF_mono J (Nat.le_max_right n1 n2) _ _ _ _ _ _ _ h3
          | threw q =>
            simp only [bnd_thr] at e
            cases hx : kx q h2 with
            | inl r =>
              rw [hx] at e
              refine ⟨n1, ?_⟩
              rw [h1]
              simp only [bnd_thr, hx]
              exact e
            | inr g =>
              rw [hx] at e
              obtain ⟨n2, h3⟩ := (evJ_iff J _ _ _ _ _ _ _).mp e
              refine ⟨max n1 n2, ?_⟩
              rw [aF_mono J (Nat.le_max_left n1 n2) _ _ _ _ _ _ _ h1]
              simp only [bnd_thr, hx]
              exact aF_mono J (Nat.le_max_right n1 n2) _ _ _ _ _ _ _ h3
    obtain ⟨n, hn⟩ := key
    exact ⟨n + 1, by show drv (aF J n) d m (J m pc d ls st h) = some x; rw [hA]; exact hn⟩
def nx (pc : Nat) (ls : ALs) (st : List Value) (h : AH) : AAct := .inr (.inl (pc, ls, st, h))
def stuck : AAct := .inl none
/-- the locals -/
def lclr (o : Option Value) : Option Value := match o with
  | some (.long _) => none
  | some (.double _) => none
  | x => x
def lput : ALs → Nat → Value → ALs
  | [], _, _ => []
  | _ :: r, 0, v => some v :: r
  | x :: r, 1, v => lclr x :: lput r 0 v
  | x :: r, i + 2, v => x :: lput r (i + 1) v
theorem lput_len : ∀ (l : ALs) (i : Nat) (v : Value), (lput l i v).length = l.length
  | [], _, _ => by simp [lput]
  | _ :: r, 0, v => by simp [lput]
  | x :: r, 1, v => by simp [lput, lput_len r 0 v]
  | x :: r, i + 2, v => by simp [lput, lput_len r (i + 1) v]
theorem lclr_some {x : Option Value} {w : Value} (h : lclr x = some w) : x = some w ∧ w.category ≠ 2 := by
  cases x with
  | none => simp [lclr] at h
  | some z => cases z <;> simp [lclr] at h <;> subst h <;> simp [Value.category]
theorem lput_at : ∀ (l : ALs) (i : Nat) (v : Value) (j : Nat) (w : Value), (lput l i v)[j]? = some (some w) → (j = i ∧ w = v) ∨ (j ≠ i ∧ l[j]? = some (some w) ∧ (j + 1 = i → w.category ≠ 2))
  | [], _, _, j, w, h => by simp [lput] at h
  | x :: r, 0, v, 0, w, h => by simp [lput] at h; exact Or.inl ⟨rfl, h.symm⟩
  | x :: r, 0, v, j + 1, w, h => by simp [lput] at h; exact Or.inr ⟨by omega, by simpa using h, by omega⟩
  | x :: r, 1, v, 0, w, h => by
    simp [lput] at h
    obtain ⟨h1, h2⟩ := lclr_some h
    exact Or.inr ⟨by omega, by simpa using h1, fun _ => h2⟩
  | x :: r, 1, v, j + 1, w, h => by
    simp [lput] at h
    rcases lput_at r 0 v j w h with ⟨e1, e2⟩ | ⟨e1, e2, e3⟩
    · exact Or.inl ⟨by omega, e2⟩
    · exact Or.inr ⟨by omega, by simpa using e2, fun q => by omega⟩
  | x :: r, i + 2, v, 0, w, h => by simp [lput] at h; exact Or.inr ⟨by omega, by simpa using h, by omega⟩
  | x :: r, i + 2, v, j + 1, w, h => by
    simp [lput] at h
    rcases lput_at r (i + 1) v j w h with ⟨e1, e2⟩ | ⟨e1, e2, e3⟩
    · exact Or.inl ⟨by omega, e2⟩
    · exact Or.inr ⟨by omega, by simpa using e2, fun q => e3 (by omega)⟩
def entL : List Value → ALs
  | [] => []
  | v :: vs => if v.category = 2 then some v :: none :: entL vs else some v :: entL vs
def entN (vs : List Value) (n : Nat) : ALs := entL vs ++ List.replicate (n - (entL vs).length) none
theorem entL_len : ∀ vs : List Value, (entL vs).length = (lg_sl vs).length
  | [] => rfl
  | v :: vs => by
    have ih := entL_len vs
    by_cases hc : v.category = 2
    · simp only [entL, lg_sl, List.flatMap_cons, if_pos hc] at ih ⊢
      simp [ih]
    · simp only [entL, lg_sl, List.flatMap_cons, if_neg hc] at ih ⊢
      simp [ih]
theorem entL_at : ∀ (vs : List Value) (j : Nat) (w : Value), (entL vs)[j]? = some (some w) → (lg_sl vs)[j]? = some (.val w)
  | [], j, w, h => by simp [entL] at h
  | v :: vs, j, w, h => by
    have ih := entL_at vs
    by_cases hc : v.category = 2
    · simp only [entL, lg_sl, List.flatMap_cons, if_pos hc] at ih h ⊢
      match j, h with
      | 0, h => simp at h ⊢; exact h
      | 1, h => simp at h
      | j + 2, h => simp at h ⊢; exact ih j w h
    · simp only [entL, lg_sl, List.flatMap_cons, if_neg hc] at ih h ⊢
      match j, h with
      | 0, h => simp at h ⊢; exact h
      | j + 1, h => simp at h ⊢; exact ih j w h
/-- the real locals hold what the abstract ones say -/
def LR (nL : Nat) (ls : ALs) (L : Array Slot) : Prop := ls.length = nL ∧ L.size = nL ∧ lv_wf L ∧ ∀ (i : Nat) (v : Value), ls[i]? = some (some v) → L[i]? = some (.val v)
theorem LR.at {nL : Nat} {ls : ALs} {L : Array Slot} (h : LR nL ls L) {i : Nat} {v : Value} (hi : ls[i]? = some (some v)) : L[i]? = some (.val v) := h.2.2.2 i v hi
theorem LR.has {nL : Nat} {ls : ALs} {L : Array Slot} (h : LR nL ls L) (l : List (Nat × Value)) (hl : ∀ q ∈ l, ls[q.1]? = some (some q.2)) : lv_has L nL l := ⟨h.2.1, h.2.2.1, fun q hq => h.2.2.2 _ _ (hl q hq)⟩
def asc (ls : ALs) : List (Nat × Value) := (List.range ls.length).filterMap fun i => match ls[i]? with
  | some (some v) => some (i, v)
  | _ => none
theorem asc_mem {ls : ALs} {q : Nat × Value} : q ∈ asc ls ↔ ls[q.1]? = some (some q.2) := by
  unfold asc
  rw [List.mem_filterMap]
  constructor
  · rintro ⟨i, -, h⟩
    cases hi : ls[i]? with
    | none => rw [hi] at h; cases h
    | some o =>
      rw [hi] at h
      cases o with
      | none => cases h
      | some v => cases h; exact hi
  · intro h
    refine ⟨q.1, List.mem_range.mpr (List.getElem?_eq_some_iff.mp h).1, ?_⟩
    rw [h]
theorem LR.ascs {nL : Nat} {ls : ALs} {L : Array Slot} (h : LR nL ls L) : lv_has L nL (asc ls) := h.has _ fun _ hq => asc_mem.mp hq
theorem LR.put {nL : Nat} {ls : ALs} {L L' : Array Slot} (h : LR nL ls L) {i : Nat} {v : Value}
    (h0 : lv_has L' nL ((i, v) :: (asc ls).filter (fun q => !(q.1 == i) && !(q.1 + 1 == i && q.2.category == 2)))) : LR nL (lput ls i v) L' := by
  refine ⟨(lput_len _ _ _).trans h.1, h0.1, h0.2.1, fun j w hj => ?_⟩
  rcases lput_at ls i v j w hj with ⟨e1, e2⟩ | ⟨e1, e2, e3⟩
  · subst e1; subst e2
    exact h0.2.2 (j, w) List.mem_cons_self
  · refine h0.2.2 (j, w) (List.mem_cons_of_mem _ (List.mem_filter.mpr ⟨asc_mem.mpr e2, ?_⟩))
    simp only [Bool.and_eq_true, Bool.not_eq_true', beq_eq_false_iff_ne, ne_eq, Bool.and_eq_false_iff]
    refine ⟨e1, ?_⟩
    by_cases q : j + 1 = i
    · exact Or.inr (e3 q)
    · exact Or.inl q
theorem LR.entry (vs : List Value) {n : Nat} (h : (entL vs).length ≤ n) : LR n (entN vs n) ((lg_sl vs ++ List.replicate (n - (lg_sl vs).length) Slot.unset).toArray) := by
  have h1 := lv_entry vs (n := n) (by rw [← entL_len]; exact h)
  refine ⟨by simp [entN]; omega, h1.1, h1.2.1, fun i v hi => ?_⟩
  unfold entN at hi
  by_cases hl : i < (entL vs).length
  · rw [List.getElem?_append_left hl] at hi
    have h2 := entL_at vs i v hi
    rw [List.getElem?_toArray, List.getElem?_append_left (by rw [← entL_len]; exact hl)]
    exact h2
  · rw [List.getElem?_append_right (by omega), List.getElem?_replicate] at hi
    split at hi <;> simp at hi
