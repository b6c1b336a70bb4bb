/-! INSTRUCTIONS: rows of rows, System.arraycopy, Object.getClass, Object's constructor -/
set_option maxRecDepth 100000
def hmulti (h : AH) (to ti N M : Nat) : AH := (h.1 + 1 + N, h.2.1 + (N + N * M), fun b => if b = h.1 then (to, N, fun j => .ref (h.1 + 1 + j)) else if h.1 < b ∧ b ≤ h.1 + N then (ti, M, fun _ => .int 0) else h.2.2.1 b, h.2.2.2)
def oMulti (to ti n : Nat) : AOp := fun _ ls st h => match st with
  | .int k :: .int x :: r => if inb x 65536 ∧ inb k 65536 then nx n ls (.ref (hsz h) :: r) (hmulti h to ti x.toNatClampNeg k.toNatClampNeg) else stuck
  | _ => stuck
def ckTy (ty : FieldType) : AH → Value → Bool := fun _ v => fits ty v && (match v with | .ref _ => false | _ => true)
def ckRef (es : List Nat) : AH → Value → Bool := fun h v => match v with
  | .null => true
  | .ref y => decide ((hcl h y).1 ∈ es)
  | _ => false
def oCopy (ss ds : List Nat) (ck : AH → Value → Bool) (n : Nat) : AOp := fun _ ls st h => match st with
  | .int k :: .int dp :: .ref a :: .int sp :: .ref b :: r =>
    if (hcl h b).1 ∈ ss ∧ (hcl h a).1 ∈ ds ∧ ¬ sp < 0 ∧ ¬ dp < 0 ∧ ¬ k < 0 ∧ sp.toNatClampNeg + k.toNatClampNeg ≤ (hcl h b).2.1 ∧ dp.toNatClampNeg + k.toNatClampNeg ≤ (hcl h a).2.1 ∧ r.length ≤ 4 ∧ (List.range k.toNatClampNeg).all (fun i => ck h ((hcl h b).2.2 (sp.toNatClampNeg + i))) = true then
      nx n ls r (hput h a ((hcl h a).1, (hcl h a).2.1, va_cpy (hcl h b).2.2 (hcl h a).2.2 sp.toNatClampNeg dp.toNatClampNeg k.toNatClampNeg)) else stuck
  | _ => stuck
/-- getClass() of an array of objects: its class's mirror -/
def oGetC (ts : List Nat) (n : Nat) : AOp := fun _ ls st h => match st with
  | .ref a :: r => if (hcl h a).1 ∈ ts ∧ r.length ≤ 4 then nx n ls (henv h 999 :: r) h else stuck
  | _ => stuck
def oObjI (n : Nat) : AOp := fun _ ls st h => match st with
  | .ref _ :: r => if r.length ≤ 4 then nx n ls r h else stuck
  | _ => stuck
theorem cat_le (v : Value) : v.category ≤ 2 := by cases v <;> simp [Value.category]
theorem cat_sum : ∀ r : List Value, (r.map fun v => v.category).sum ≤ 2 * r.length
  | [] => by simp
  | v :: r => by
    have h1 := cat_le v
    have h2 := cat_sum r
    simp only [List.map_cons, List.sum_cons, List.length_cons]
    omega
theorem nn_of (z : Int32) (hz : ¬ z < 0) : z.toInt = (z.toNatClampNeg : Int) := by
  have hz0 : (0 : Int) ≤ z.toInt := by
    have := Int32.not_lt.mp hz
    simpa using Int32.le_iff_toInt_le.mp this
  show z.toInt = ((z.toInt.toNat : Nat) : Int)
  omega
theorem arr_rep (n : Nat) (cA : ClassId) (v : Value) : ({ cls := cA, slots := Array.replicate n v, vm := .none } : Cell) = arrV cA n (fun _ => v) := by
  unfold arrV
  congr 1
  apply Array.ext
  · simp
  · intro i h1 h2
    simp
theorem outer_eq (cA : ClassId) (N h0 : Nat) : ∀ i, Jvm.Free.Multi.outerC cA N h0 i = arrV cA N (fun j => if j < i then .ref (h0 + 1 + j) else .null)
  | 0 => by
    show ({ cls := cA, slots := Array.replicate N .null, vm := .none } : Cell) = _
    rw [arr_rep]
    simp
  | i + 1 => by
    show (Jvm.Free.Multi.outerC cA N h0 i).setSlot i (.ref (h0 + 1 + i)) = _
    rw [outer_eq cA N h0 i, arrV_store]
    congr 1
    funext j
    unfold updV
    by_cases e : j = i
    · subst e
      rw [if_pos rfl, if_pos (Nat.lt_succ_self _)]
    · rw [if_neg e]
      dsimp only
      by_cases q : j < i
      · rw [if_pos q, if_pos (by omega)]
      · rw [if_neg q, if_neg (by omega)]
theorem arrV_congr (cA : ClassId) (N : Nat) {f g : Nat → Value} (h : ∀ j, j < N → f j = g j) : arrV cA N f = arrV cA N g := by
  unfold arrV
  congr 1
  apply Array.ext
  · simp
  · intro i h1 h2
    simp at h1
    simp [h i h1]
section AM6
variable {mt : Nat → MT} {G : AG} {m pc : Nat}
theorem s_multi {index ko ki : Nat} (hd : decode (mt m).2.1 pc = .ok (.multianewarray index 2, 4)) (h9' : ko < 7) (h8' : ki < 7) (ho9 : aTy[ko]? = some (.array .int)) (hi9 : aTy[ki]? = some .int) (hq1 : Cond.classLink (mt m).1.cls index "[[I" ∈ lw_all) (hq2 : Cond.arrayClass .int ∈ lw_all) : Snd mt G m pc (oMulti (ko + 100) (ki + 100) (pc + 4)) := by
  have h9 : ko < 99 := by omega
  have h8 : ki < 99 := by omega
  intro rec hrec d ls st h o hE e
  unfold oMulti at e
  split at e
  · next k x r =>
    split at e
    · next hi =>
      obtain ⟨hi1, hi2⟩ := hi
      obtain ⟨g1, g2⟩ := hrec _ _ _ _ _ _ _ _ e
      refine ⟨Grow.tr ⟨by show h.1 ≤ h.1 + 1 + _; omega, by show h.2.1 ≤ h.2.1 + _; omega⟩ g1, fun p l e R s mi args below meth c sl0 C H locs cells slots L hL hR hc1 hc2 hS => ?_⟩
      have C' := C
      obtain ⟨hx, hb, -, ho, -, -, -, ht, -, hEn, -, hg0, -, -, hzc, hzs⟩ := C'
      have e1 : hsz h + 1 + x.toNatClampNeg ≤ hsz hE := g1.1
      have e2 : hsl h + (x.toNatClampNeg + x.toNatClampNeg * k.toNatClampNeg) ≤ hsl hE := g1.2
      have e3 : hsz h = H.size := hR.1
      have b1 := hi1.2
      have b2 := hi2.2
      have hAo := hEn.2.1 ko _ ho9 h9'
      have hAi := hEn.2.1 ki _ hi9 h8'
      intro T hT X
      obtain ⟨vm₁, cA, comp, hW, n1, n2, -, -, X', st'⟩ := Stand.multianewarray2F X hx ho (ht _ hq1) (hEn.2.2.2.2.2.2.2.2.2.2.2) (ht _ hq2) (g := F0 mi pc L (.int k :: .int x :: r)) rfl (by rw [hb]; exact hd) rfl hi1.1 hi2.1 (by omega) (by show k.toNatClampNeg * 4 ≤ _; omega) (by omega) rfl rfl (by omega) (by omega)
      have c1 : cA = gA G ko := Option.some.inj (n1.symm.trans hAo.2)
      have c2 : comp = gA G ki := Option.some.inj (n2.symm.trans hAi.2)
      obtain ⟨f1, f2, -⟩ := Jvm.Free.Multi.fill_facts (T.setVm vm₁) cA comp x.toNatClampNeg k.toNatClampNeg (defaultValue .int) x.toNatClampNeg
      have f3 : ∀ q : Nat, q < H.size → (Jvm.Free.Multi.fill (T.setVm vm₁) cA comp x.toNatClampNeg k.toNatClampNeg (defaultValue .int) x.toNatClampNeg).heap[q]? = H[q]? := fun q hq => by
        rw [Jvm.Free.Multi.fill_old (T.setVm vm₁) cA comp x.toNatClampNeg k.toNatClampNeg (defaultValue .int) (by show q < T.heap.size; rw [hT]; exact hq)]
        show T.heap[q]? = _
        rw [hT]
      have f4 := fun j hj => Jvm.Free.Multi.fill_inner (T.setVm vm₁) cA comp x.toNatClampNeg k.toNatClampNeg (defaultValue .int) x.toNatClampNeg j hj
      have hTs : (T.setVm vm₁).heap.size = H.size := by show T.heap.size = _; rw [hT]
      rw [hTs] at f1 f2 f4
      generalize hF : Jvm.Free.Multi.fill (T.setVm vm₁) cA comp x.toNatClampNeg k.toNatClampNeg (defaultValue .int) x.toNatClampNeg = F at X' st' f1 f2 f3 f4
      have hR' : HR G s (hmulti h (ko + 100) (ki + 100) x.toNatClampNeg k.toNatClampNeg) F.heap := by
        refine ⟨by show h.1 + 1 + _ = _; rw [f1]; have : h.1 = H.size := e3; omega, hR.2.1, fun b hb9 => ?_⟩
        have eb : hcl (hmulti h (ko + 100) (ki + 100) x.toNatClampNeg k.toNatClampNeg) b = if b = h.1 then (ko + 100, x.toNatClampNeg, fun j => .ref (h.1 + 1 + j)) else if h.1 < b ∧ b ≤ h.1 + x.toNatClampNeg then (ki + 100, k.toNatClampNeg, fun _ => .int 0) else hcl h b := rfl
        rw [eb] at hb9 ⊢
        have e3' : h.1 = H.size := e3
        by_cases q1 : b = h.1
        · rw [if_pos q1]
          rw [q1, e3']
          refine ⟨_, f2, ?_, Or.inr ⟨ko, _, Or.inl rfl, h9, ho9, ?_⟩⟩
          · rw [outer_eq]; exact fun q => by cases q
          · rw [outer_eq, c1, arrV_congr (gA G ko) x.toNatClampNeg (g := fun j => .ref (H.size + 1 + j)) (fun j hj => if_pos hj)]
            exact ⟨hAo.1 _ _, by rw [arrV_size] <;> rfl, Nat.le_of_eq (arrV_size _ _ _).symm, fun j hj => arrV_read _ _ hj, fun _ => ⟨Nat.le_trans hg0 hS.1, rfl⟩⟩
        · rw [if_neg q1] at hb9 ⊢
          by_cases q2 : h.1 < b ∧ b ≤ h.1 + x.toNatClampNeg
          · rw [if_pos q2]
            have f5 := f4 (b - H.size - 1) (by omega)
            rw [show H.size + 1 + (b - H.size - 1) = b by omega] at f5
            have e6 : Jvm.Free.Multi.innerC comp k.toNatClampNeg (defaultValue .int) = arrV (gA G ki) k.toNatClampNeg (fun _ => .int 0) := by rw [c2]; exact arr_rep _ _ _
            rw [e6] at f5
            exact ⟨_, f5, (fun q => by cases q), Or.inr ⟨ki, _, Or.inl rfl, h8, hi9, hAi.1 _ _, by rw [arrV_size] <;> rfl, Nat.le_of_eq (arrV_size _ _ _).symm, fun j hj => arrV_read _ _ hj, fun _ => ⟨by have := hS.1; omega, rfl⟩⟩⟩
          · rw [if_neg q2] at hb9 ⊢
            have g9 := hR.2.2 b hb9
            exact g9.kept (f3 b g9.lt)
      have key := g2 p l e R s mi args below meth c sl0 C F.heap locs (cells + (1 + x.toNatClampNeg)) (slots + (x.toNatClampNeg + x.toNatClampNeg * k.toNatClampNeg)) L hL hR' (by rw [f1]; omega) (by show _ = hsl h + (_ + _); omega) ⟨by rw [f1]; have := hS.1; omega, fun q g1 g2 => (f3 q (Nat.lt_of_lt_of_le g1 hS.1)).trans (hS.2.1 q g1 g2), hS.2.2⟩
      rw [e3] at key
      obtain ⟨t, a1, b1⟩ := key F rfl (by
        rw [show cells + (1 + x.toNatClampNeg) = cells + 1 + x.toNatClampNeg by omega, show slots + (x.toNatClampNeg + x.toNatClampNeg * k.toNatClampNeg) = slots + x.toNatClampNeg + x.toNatClampNeg * k.toNatClampNeg by omega]
        exact X')
      rw [hT] at st'
      exact ⟨t, st' t a1, b1⟩
    · cases e
  · cases e
/-- System.arraycopy; hck: what the check of an element gives -/
theorem s_copy {index kt : Nat} {ty : FieldType} {ss ds : List Nat} {ck : AH → Value → Bool} (hd : decode (mt m).2.1 pc = .ok (.invokestatic index, 3)) (k7 : kt < 7) (ha : aTy[kt]? = some ty) (hss : ∀ t ∈ ss, t = kt + 100 ∨ t = kt + 1100) (hds : ∀ t ∈ ds, t = kt + 100)
    (hck : ∀ (s : State) (h : AH) (H : Heap) (v : Value), EnvOK G s → HR G s h H → ck h v = true → fits ty v = true ∧ (∀ y, v = .ref y → ∃ (cellV : Cell) (C9 : String), ty = .object C9 ∧ va_Any C9 s H y))
    (hrank : 8 ≤ (mt m).2.2.2.2.2) (hq1 : Cond.methodLink (mt m).1.cls index arraycopyName ∈ lw_all) (hq2 : Cond.native arraycopyName ∈ lw_all) (hq3 : Cond.static arraycopyName ∈ lw_all) (hq4 : Cond.initialized "java/lang/System" ∈ lw_all) : Snd mt G m pc (oCopy ss ds ck (pc + 3)) := by
  have h9 : kt < 99 := by omega
  intro rec hrec d ls st h o hE e
  unfold oCopy at e
  split at e
  · next k dp a sp b r =>
    split at e
    · next hc =>
      obtain ⟨t1, t2, h1, h2, h3, h4, h5, h6, h7⟩ := hc
      obtain ⟨g1, g2⟩ := hrec _ _ _ _ _ _ _ _ e
      refine ⟨(Grow.put _ _ _).tr g1, fun p l e R s mi args below meth c sl0 C H locs cells slots L hL hR hc1 hc2 hS => ?_⟩
      have C' := C
      obtain ⟨hx, hb, hml, ho, -, -, -, ht, -, hEn, -, hg0, hfr, hlo, hzc, hzs⟩ := C'
      have s1 := hss _ t1
      have s2 := hds _ t2
      obtain ⟨cs, q1, q2, q3, q4, q5, q6, -⟩ := cellA_of (hR.2.2 b (by omega)) s1 h9 ha
      obtain ⟨cd, w1, w2, w3, w4, w5, w6, w7⟩ := cellA_of (hR.2.2 a (by omega)) (Or.inl s2) h9 ha
      obtain ⟨w8, w9⟩ := w7 (by omega)
      obtain ⟨kS, hkS, cS, hkkS⟩ := q3.2
      obtain ⟨kD, hkD, cD, hkkD⟩ := w3.2
      have hwd : Array.size cd.slots = (hcl h a).2.1 := by rw [w9, arrV_size]
      have hall := List.all_eq_true.mp h7
      have hval : ∀ i, i < k.toNatClampNeg → cs.slots.getD (sp.toNatClampNeg + i) .null = (hcl h b).2.2 (sp.toNatClampNeg + i) := fun i hi => by
        rw [Array.getD_eq_getD_getElem?, q6 _ (by omega)]
        rfl
      have hrl : 8 ≤ mFr mt d m := by unfold mFr; omega
      have hrw : 352 ≤ mLo mt d m := by unfold mLo; omega
      have hcs := cat_sum r
      have hnw : nativeFrameWords "java/lang/System" "arraycopy" 5 + 11 ≤ 300 := by decide +kernel
      intro T hT X
      obtain ⟨vm', X', step⟩ := Stand.arraycopy X hx ho (ht _ hq1) (ht _ hq2) (ht _ hq3) (ht _ hq4) (src := b) (dst := a) (cs := cs) (cd := cd) (srcPos := sp) (destPos := dp) (n := k) (by rw [hT]; exact q1) (by rw [hT]; exact w1)
        (fun z hz => q3.1 z hz) (fun z hz => w3.1 z hz) q2 w2 hkS hkD hkkS hkkD (by cases refKind ty <;> simp) h1 h2 h3
        (by rw [nn_of sp h1, nn_of k h3]; omega) (by rw [nn_of dp h2, nn_of k h3]; omega)
        (fun vm₁ hal i hi => by
          rw [hval i hi]
          obtain ⟨u1, u2⟩ := hck s h H _ hEn hR (hall i (List.mem_range.mpr hi))
          refine ⟨u1, ?_⟩
          cases hy : (hcl h b).2.2 (sp.toNatClampNeg + i) with
          | ref y =>
            obtain ⟨-, C9, eC, cellV, v1, v2, ⟨kC, hkC⟩, v4⟩ := u2 y hy
            subst eC
            have hA := hEn.2.1 kt _ ha k7
            obtain ⟨kA, comp, r1, r2, r3, -⟩ := hA.2
            have hcl9 : cd.cls = gA G kt := by rw [w9]; rfl
            rw [hcl9] at hkD
            cases hkD.symm.trans r1
            cases hkkD.symm.trans r2
            obtain ⟨kE, hkE, -⟩ := Vm.findClass_spec r3
            obtain ⟨kC', hkC', -⟩ := hal.2.2 _ _ hkC
            obtain ⟨kE', hkE', -⟩ := hal.2.2 _ _ hkE
            refine ⟨cellV, (show T.heap[y]? = some cellV by rw [hT]; exact v1), (fun q hq => by rw [hq] at v2; cases v2), ⟨kC', hkC'⟩, ⟨kE', hkE'⟩, ?_⟩
            show vm₁.assignable _ _ = true
            rw [hal.assignable]
            exact v4 _ r3
          | _ => trivial)
        (g := F0 mi pc L (.int k :: .int dp :: .ref a :: .int sp :: .ref b :: r)) rfl (by show L.size = _; rw [hml]; exact hL.2.1) (rest := r) rfl (by rw [hb]; exact hd) (by omega) (by show 2 * 0 + _ + _ ≤ _; omega)
      have hal : a < H.size := (Array.getElem?_eq_some_iff.mp w1).1
      have e1 : copied cs cd sp dp k = arrV (gA G kt) (hcl h a).2.1 (va_cpy (hcl h b).2.2 (hcl h a).2.2 sp.toNatClampNeg dp.toNatClampNeg k.toNatClampNeg) := by
        have hst : cs.stretch sp.toNatClampNeg k.toNatClampNeg = (arrV (gA G kt) (hcl h b).2.1 (hcl h b).2.2).stretch sp.toNatClampNeg k.toNatClampNeg := by
          unfold Cell.stretch
          apply List.map_congr_left
          intro i hi
          have hi' := List.mem_range.mp hi
          rw [hval i hi', Array.getD_eq_getD_getElem?, arrV_read _ _ (by omega)]
          rfl
        have h8 := va_copied (fun v : Value => v) (gA G kt) (gA G kt) (n0 := (hcl h b).2.1) (n1 := (hcl h a).2.1) (sp := sp.toNatClampNeg) (dp := dp.toNatClampNeg) (n := k.toNatClampNeg) (hcl h b).2.2 (hcl h a).2.2 h4
        show cd.storeRun dp.toNatClampNeg (cs.stretch sp.toNatClampNeg k.toNatClampNeg) = _
        rw [hst, w9]
        exact h8
      rw [e1] at X' step
      have hheap : ((T.setVm vm').setCell a (arrV (gA G kt) (hcl h a).2.1 (va_cpy (hcl h b).2.2 (hcl h a).2.2 sp.toNatClampNeg dp.toNatClampNeg k.toNatClampNeg))).heap = H.setIfInBounds a (arrV (gA G kt) (hcl h a).2.1 (va_cpy (hcl h b).2.2 (hcl h a).2.2 sp.toNatClampNeg dp.toNatClampNeg k.toNatClampNeg)) := by rw [← hT]; rfl
      have oq : ∀ q : Nat, q ≠ a → (H.setIfInBounds a (arrV (gA G kt) (hcl h a).2.1 (va_cpy (hcl h b).2.2 (hcl h a).2.2 sp.toNatClampNeg dp.toNatClampNeg k.toNatClampNeg)))[q]? = H[q]? := fun q hq => by simp [Array.getElem?_setIfInBounds, Ne.symm hq]
      have z1 : (H.setIfInBounds a (arrV (gA G kt) (hcl h a).2.1 (va_cpy (hcl h b).2.2 (hcl h a).2.2 sp.toNatClampNeg dp.toNatClampNeg k.toNatClampNeg)))[a]? = some (arrV (gA G kt) (hcl h a).2.1 (va_cpy (hcl h b).2.2 (hcl h a).2.2 sp.toNatClampNeg dp.toNatClampNeg k.toNatClampNeg)) := by simp [Array.getElem?_setIfInBounds, hal]
      have hA := hEn.2.1 kt _ ha k7
      have hS' : va_S (fre G) s.heap (H.setIfInBounds a (arrV (gA G kt) (hcl h a).2.1 (va_cpy (hcl h b).2.2 (hcl h a).2.2 sp.toNatClampNeg dp.toNatClampNeg k.toNatClampNeg))) (locs ++ (cs.stretch sp.toNatClampNeg k.toNatClampNeg).zipIdx.map fun q => ⟨a, dp.toNatClampNeg + q.2⟩) := ⟨by simp; exact hS.1, fun q g1 g2 => by
          rw [oq q (fun e => g2 (by rw [e]; exact w8))]
          exact hS.2.1 q g1 g2, fun q hq => by
          rcases List.mem_append.mp hq with h | h
          · exact hS.2.2 q h
          · obtain ⟨z, -, hz⟩ := List.mem_map.mp h
            rw [← hz]
            exact w8⟩
      obtain ⟨t, a1, b1⟩ := g2 p l e R s mi args below meth c sl0 C _ _ cells slots L hL (hR.put (by simp) oq ⟨_, z1, (fun q => by cases q), Or.inr ⟨kt, _, Or.inl s2, h9, ha, hA.1 _ _, by rw [arrV_size] <;> rfl, Nat.le_of_eq (arrV_size _ _ _).symm, fun j hj => arrV_read _ _ hj, fun _ => ⟨w8, rfl⟩⟩⟩) (by simp; exact hc1) hc2 hS' _ hheap X'
      exact ⟨t, step t a1, b1⟩
    · cases e
  · cases e
theorem ck_int (s : State) (h : AH) (H : Heap) (ty : FieldType) (v : Value) (e : ckTy ty h v = true) : fits ty v = true ∧ (∀ y, v = .ref y → ∃ (cellV : Cell) (C9 : String), ty = .object C9 ∧ va_Any C9 s H y) := by
  unfold ckTy at e
  simp only [Bool.and_eq_true] at e
  refine ⟨e.1, fun y hy => ?_⟩
  subst hy
  exact absurd e.2 (by simp)
theorem ck_ref {G : AG} {C9 : String} {es : List Nat} (hes : ∀ t ∈ es, EOK C9 t) (s : State) (h : AH) (H : Heap) (v : Value) (hEn : EnvOK G s) (hR : HR G s h H) (e : ckRef es h v = true) : fits (.object C9) v = true ∧ (∀ y, v = .ref y → ∃ (cellV : Cell) (C9' : String), (.object C9 : FieldType) = .object C9' ∧ va_Any C9' s H y) := by
  unfold ckRef at e
  split at e
  · exact ⟨rfl, fun y hy => by cases hy⟩
  · next y =>
    refine ⟨rfl, fun y' hy => ?_⟩
    cases hy
    obtain ⟨ci, r, et, h99, hv, hcs⟩ := hes _ (of_decide_eq_true e)
    obtain ⟨cv, w1, w2, w3, w4, -⟩ := cellO_of (hR.2.2 y (by omega)) et h99 hv
    refine ⟨cv, C9, rfl, cv, w1, w3, ?_, fun comp hf => ?_⟩
    · obtain ⟨-, kC, hkC, -⟩ := (hEn.1 ci r hv).2
      exact ⟨kC, by rw [w4]; exact hkC⟩
    · rw [w4]
      exact asg_of (args := #[]) hEn hv hcs hf
  · cases e
theorem s_objI {index : Nat} (hd : decode (mt m).2.1 pc = .ok (.invokespecial index, 3)) (hrank : 8 ≤ (mt m).2.2.2.2.2) (hq1 : Cond.methodLink (mt m).1.cls index Lib.objectInit ∈ lw_all) (hq2 : Cond.instanceMethod Lib.objectInit ∈ lw_all) (hq3 : Cond.code Lib.objectInit ⟨#[0xb1]⟩ 1 none ∈ lw_all) : Snd mt G m pc (oObjI (pc + 3)) := by
  refine snd_prow fun d ls st h => ?_
  unfold oObjI
  split
  · next a r =>
    split
    · next hc =>
      refine Or.inr ⟨_, _, _, rfl, fun _ _ _ _ s _ args _ _ _ H _ _ _ _ hx hb ho ht hEn hR hS hml hfr hlo L hL k => ?_⟩
      have hcs := cat_sum r
      have h1 : 8 ≤ mFr mt 0 m := by unfold mFr; omega
      have h2 : 352 ≤ mLo mt 0 m := by unfold mLo; omega
      exact W.objInit hx hb ho (ht _ hq1) (ht _ hq2) (ht _ hq3) rfl (by show L.size = _; rw [hml]; exact hL.2.1) rfl hd (by omega) (by show 2 * 0 + _ + 12 ≤ _; omega) (k L hL)
    · exact Or.inl rfl
  · exact Or.inl rfl
end AM6
