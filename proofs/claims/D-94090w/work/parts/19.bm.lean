/-! Math.max, min, abs: the model runs them by rows of their own -/
set_option maxRecDepth 100000
def oMath2 (f : Int32 → Int32 → Int32) (n : Nat) : AOp := fun _ ls st h => match st with
  | .int y :: .int x :: r => if r.length ≤ 4 then nx n ls (.int (f x y) :: r) h else stuck
  | _ => stuck
def oMath1 (f : Int32 → Int32) (n : Nat) : AOp := fun _ ls st h => match st with
  | .int x :: r => if r.length ≤ 4 then nx n ls (.int (f x) :: r) h else stuck
  | _ => stuck
def oMathL (f : Int64 → Int64) (n : Nat) : AOp := fun _ ls st h => match st with
  | .long x :: r => if r.length ≤ 4 then nx n ls (.long (f x) :: r) h else stuck
  | _ => stuck
/-- an instruction that leaves the heap as it is, and wants to know that there is room -/
def PRow2 (mt : Nat → MT) (G : AG) (m pc : Nat) (ls : ALs) (st : List Value) (h : AH) (pc' : Nat) (ls' : ALs) (st' : List Value) : Prop :=
  ∀ (p : Program) (l : Launch) (e : Env) (R : Room) (s : State) (mi : MethodId) (args : Array Value) (below : List Frame) (meth : Method) (c : Code) (H : Heap) (locs : List Loc) (cells slots : Nat) (Q : State → Prop), p.tables.exec = Jvm.exec → c.code = (mt m).2.1 → s.vm.findClass (mt m).1.cls = some mi.cls → (∀ w ∈ lw_all, w.before args s = true) → c.maxLocals = (mt m).2.2.1 → mFr mt 0 m ≤ R.frames → mLo mt 0 m ≤ R.locals → cells ≤ R.cells → slots ≤ R.slots →
  ∀ L, LR (mt m).2.2.1 ls L → (∀ L', LR (mt m).2.2.1 ls' L' → W p l e R s mi args below meth c H locs cells slots Q (F0 mi pc' L' st')) → W p l e R s mi args below meth c H locs cells slots Q (F0 mi pc L st)
theorem snd_prow2 {mt : Nat → MT} {G : AG} {m pc : Nat} {op : AOp} (hop : ∀ d ls st h, op d ls st h = stuck ∨ ∃ pc' ls' st', op d ls st h = nx pc' ls' st' h ∧ PRow2 mt G m pc ls st h pc' ls' st') : Snd mt G m pc op := by
  intro rec hrec d ls st h o hE e
  rcases hop d ls st h with h0 | ⟨pc', ls', st', h1, h2⟩
  · rw [h0] at e; cases e
  · rw [h1] at e
    obtain ⟨g1, g2⟩ := hrec _ _ _ _ _ _ _ _ e
    refine ⟨g1, ?_⟩
    intro p l e R s mi args below meth c sl0 C H locs cells slots L hL hR hc1 hc2 hS
    have C' := C
    obtain ⟨hx, hb, hml, ho, -, -, -, ht, -, hEn, -, -, hfr, hlo, hzc, hzs⟩ := C'
    have e3 : hsz h = H.size := hR.1
    have g3 : hsz h ≤ hsz hE := g1.1
    have g4 : hsl h ≤ hsl hE := g1.2
    exact h2 p l e R s mi args below meth c H locs cells slots _ hx hb ho ht hml (Nat.le_trans (by unfold mFr; omega) hfr) (Nat.le_trans (by unfold mLo; omega) hlo) (by omega) (by omega) L hL (fun L' hL' => g2 p l e R s mi args below meth c sl0 C H locs cells slots L' hL' hR hc1 hc2 hS)
section AM11
variable {mt : Nat → MT} {G : AG} {m pc : Nat}
theorem s_mmax {index : Nat} (hd : decode (mt m).2.1 pc = .ok (.invokestatic index, 3)) (hrank : 8 ≤ (mt m).2.2.2.2.2) (hq1 : Cond.methodLink (mt m).1.cls index Lib.Math.max.name ∈ lw_all) (hq2 : Cond.static Lib.Math.max.name ∈ lw_all) (hq3 : Cond.initialized "java/lang/Math" ∈ lw_all) (hq4 : Cond.code Lib.Math.max.name Lib.Math.max.code 2 (some .int) ∈ lw_all) : Snd mt G m pc (oMath2 (fun x y => if x < y then y else x) (pc + 3)) := by
  refine snd_prow2 fun d ls st h => ?_
  unfold oMath2
  split
  · next y x r =>
    split
    · next hc =>
      refine Or.inr ⟨_, _, _, rfl, fun _ _ _ _ s _ args _ _ _ H _ _ _ _ hx hb ho ht hml hfr hlo hcc hss L hL k => ?_⟩
      have hcs := cat_sum r
      have h1 : 8 ≤ mFr mt 0 m := by unfold mFr; omega
      have h2 : 352 ≤ mLo mt 0 m := by unfold mLo; omega
      exact va_mmax hx hb (by rw [hml]; exact hL.2.1.symm) ho (ht _ hq1) (ht _ hq2) (ht _ hq3) (ht _ hq4) (by omega) (by omega) hcc hss hd (k L hL)
    · exact Or.inl rfl
  · exact Or.inl rfl
theorem s_mmin {index : Nat} (hd : decode (mt m).2.1 pc = .ok (.invokestatic index, 3)) (hrank : 8 ≤ (mt m).2.2.2.2.2) (hq1 : Cond.methodLink (mt m).1.cls index Lib.Math.min.name ∈ lw_all) (hq2 : Cond.static Lib.Math.min.name ∈ lw_all) (hq3 : Cond.initialized "java/lang/Math" ∈ lw_all) (hq4 : Cond.code Lib.Math.min.name Lib.Math.min.code 2 (some .int) ∈ lw_all) : Snd mt G m pc (oMath2 (fun x y => if y < x then y else x) (pc + 3)) := by
  refine snd_prow2 fun d ls st h => ?_
  unfold oMath2
  split
  · next y x r =>
    split
    · next hc =>
      refine Or.inr ⟨_, _, _, rfl, fun _ _ _ _ s _ args _ _ _ H _ _ _ _ hx hb ho ht hml hfr hlo hcc hss L hL k => ?_⟩
      have hcs := cat_sum r
      have h1 : 8 ≤ mFr mt 0 m := by unfold mFr; omega
      have h2 : 352 ≤ mLo mt 0 m := by unfold mLo; omega
      exact va_mmin hx hb (by rw [hml]; exact hL.2.1.symm) ho (ht _ hq1) (ht _ hq2) (ht _ hq3) (ht _ hq4) (by omega) (by omega) hcc hss hd (k L hL)
    · exact Or.inl rfl
  · exact Or.inl rfl
theorem s_mabs {index : Nat} (hd : decode (mt m).2.1 pc = .ok (.invokestatic index, 3)) (hrank : 8 ≤ (mt m).2.2.2.2.2) (hq1 : Cond.methodLink (mt m).1.cls index Lib.Math.abs.name ∈ lw_all) (hq2 : Cond.static Lib.Math.abs.name ∈ lw_all) (hq3 : Cond.initialized "java/lang/Math" ∈ lw_all) (hq4 : Cond.code Lib.Math.abs.name Lib.Math.abs.code 1 (some .int) ∈ lw_all) : Snd mt G m pc (oMath1 (fun x => if 0 ≤ x then x else 0 - x) (pc + 3)) := by
  refine snd_prow2 fun d ls st h => ?_
  unfold oMath1
  split
  · next x r =>
    split
    · next hc =>
      refine Or.inr ⟨_, _, _, rfl, fun _ _ _ _ s _ args _ _ _ H _ _ _ _ hx hb ho ht hml hfr hlo hcc hss L hL k => ?_⟩
      have hcs := cat_sum r
      have h1 : 8 ≤ mFr mt 0 m := by unfold mFr; omega
      have h2 : 352 ≤ mLo mt 0 m := by unfold mLo; omega
      exact va_mabs hx hb (by rw [hml]; exact hL.2.1.symm) ho (ht _ hq1) (ht _ hq2) (ht _ hq3) (ht _ hq4) (by omega) (by omega) hcc hss hd (k L hL)
    · exact Or.inl rfl
  · exact Or.inl rfl
theorem s_mabsL {index : Nat} (hd : decode (mt m).2.1 pc = .ok (.invokestatic index, 3)) (hrank : 8 ≤ (mt m).2.2.2.2.2) (hq1 : Cond.methodLink (mt m).1.cls index Lib.MathLoose.abs_long.x ∈ lw_all) (hq2 : Cond.static Lib.MathLoose.abs_long.x ∈ lw_all) (hq3 : Cond.initialized "java/lang/Math" ∈ lw_all) (hq4 : Cond.code Lib.MathLoose.abs_long.x Lib.MathLoose.abs_long.code 2 (some .long) ∈ lw_all) : Snd mt G m pc (oMathL (fun x => if 0 < x then x else -x) (pc + 3)) := by
  refine snd_prow2 fun d ls st h => ?_
  unfold oMathL
  split
  · next x r =>
    split
    · next hc =>
      refine Or.inr ⟨_, _, _, rfl, fun _ _ _ _ s _ args _ _ _ H _ _ _ _ hx hb ho ht hml hfr hlo hcc hss L hL k => ?_⟩
      have hcs := cat_sum r
      have h1 : 8 ≤ mFr mt 0 m := by unfold mFr; omega
      have h2 : 352 ≤ mLo mt 0 m := by unfold mLo; omega
      exact va_mabs_long hx hb (by rw [hml]; exact hL.2.1.symm) ho (ht _ hq1) (ht _ hq2) (ht _ hq3) (ht _ hq4) (by omega) (by omega) hcc hss hd (k L hL)
    · exact Or.inl rfl
  · exact Or.inl rfl
/-- a cast of an array of bytes -/
theorem s_castB {index : Nat} {ts : List Nat} (hd : decode (mt m).2.1 pc = .ok (.checkcast index, 3)) (hq : Cond.classLink (mt m).1.cls index "[B" ∈ lw_all) (hts : ∀ t ∈ ts, t = 101) : Snd mt G m pc (oCast ts (pc + 3)) := by
  refine snd_prow fun d ls st h => ?_
  unfold oCast
  split
  · exact Or.inr ⟨_, _, _, rfl, fun _ _ _ _ _ _ _ _ _ _ _ _ _ _ _ hx hb ho ht hEn hR hS hml hfr hlo L hL k => lv_castN hx hb hd (k L hL)⟩
  · next a r =>
    split
    · next hc =>
      have et := hts _ hc
      refine Or.inr ⟨_, _, _, rfl, fun _ _ _ _ s _ args _ _ _ H _ _ _ _ hx hb ho ht hEn hR hS hml hfr hlo L hL k => ?_⟩
      obtain ⟨cell, q1, q2, q3, q4, q5, q6, q7⟩ := cellA_of (k := 1) (hR.2.2 a (by omega)) (Or.inl et) (by omega) rfl
      obtain ⟨-, q9⟩ := q7 (by omega)
      have hA := hEn.2.1 1 _ rfl (by omega)
      have hnm : s.vm.findClass "[B" = some (gA G 1) := hA.2
      intro T hT X
      obtain ⟨vm', X', st⟩ := X.checkcastYes hx ho (ht _ hq) (by rw [hT]; exact q1) (by rw [q9]; rfl) hnm (by rw [q9]; exact va_asg _ _) (g := F0 _ pc L (.ref a :: r)) rfl rfl (by rw [hb]; exact hd)
      obtain ⟨t, a1, b1⟩ := k L hL (T.setVm vm') hT X'
      exact ⟨t, st t a1, b1⟩
    · exact Or.inl rfl
  · exact Or.inl rfl
end AM11
