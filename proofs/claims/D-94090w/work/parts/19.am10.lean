/-! getClass, instanceof, switches by their lists, the handlers' check, trees of instructions -/
set_option maxRecDepth 100000
def oInst (ts : List Nat) (n : Nat) : AOp := fun _ ls st h => match st with
  | .ref a :: r => if (hcl h a).1 ∈ ts then nx n ls (.int 1 :: r) h else stuck
  | .null :: r => nx n ls (.int 0 :: r) h
  | _ => stuck
section AM10
variable {mt : Nat → MT} {G : AG} {m pc : Nat}
theorem s_inst {index ci : Nat} {r9 : vw_C} {ts : List Nat} (hd : decode (mt m).2.1 pc = .ok (.instanceof index, 3)) (h9 : ci < 99) (hv : vwCl[ci]? = some r9) (hq : Cond.classLink (mt m).1.cls index r9.1 ∈ lw_all) (hts : ∀ t ∈ ts, t = ci + 1 ∨ t = ci + 1001) : Snd mt G m pc (oInst ts (pc + 3)) := by
  refine snd_prow fun d ls st h => ?_
  unfold oInst
  split
  · next a r =>
    split
    · next hc =>
      refine Or.inr ⟨_, _, _, rfl, fun _ _ _ _ s _ args _ _ _ H _ _ _ _ hx hb ho ht hEn hR hS hml hfr hlo L hL k => ?_⟩
      exact va_instS hx hb ho (ht _ hq) (hEn.1 ci r9 hv).2 (recvA hEn hR (hts _ hc) h9 hv) hd (k L hL)
    · exact Or.inl rfl
  · exact Or.inr ⟨_, _, _, rfl, fun _ _ _ _ s _ args _ _ _ H _ _ _ _ hx hb ho ht hEn hR hS hml hfr hlo L hL k => lv_instN hx hb hd (k L hL)⟩
  · exact Or.inl rfl
theorem s_getC {index : Nat} {ts : List Nat} (hd : decode (mt m).2.1 pc = .ok (.invokevirtual index, 3)) (hrank : 8 ≤ (mt m).2.2.2.2.2) (hq1 : Cond.methodLink (mt m).1.cls index ⟨"java/lang/Object", "getClass", "()Ljava/lang/Class;"⟩ ∈ lw_all) (hq2 : Cond.declares ⟨"java/lang/Object", "getClass", "()Ljava/lang/Class;"⟩ ∈ nwL)
    (hq3 : Cond.selects "[Ljava/lang/Object;" ⟨"java/lang/Object", "getClass", "()Ljava/lang/Class;"⟩ ⟨"java/lang/Object", "getClass", "()Ljava/lang/Class;"⟩ ∈ lw_all) (hq4 : Cond.instanceMethod ⟨"java/lang/Object", "getClass", "()Ljava/lang/Class;"⟩ ∈ lw_all) (hq5 : Cond.native ⟨"java/lang/Object", "getClass", "()Ljava/lang/Class;"⟩ ∈ lw_all) (hts : ∀ t ∈ ts, t = 103) : Snd mt G m pc (oGetC ts (pc + 3)) := by
  refine snd_prow fun d ls st h => ?_
  unfold oGetC
  split
  · next a r =>
    split
    · next hc =>
      refine Or.inr ⟨_, _, _, rfl, fun _ _ _ _ s _ args _ _ _ H _ _ _ _ hx hb ho ht hEn hR hS hml hfr hlo L hL k => ?_⟩
      obtain ⟨mi9, e1, e2⟩ := hEn.2.2.2.2.2.2.2.2.1
      have e : henv h 999 = .ref mi9 := by show h.2.2.2 999 = _; rw [hR.2.1]; exact e1
      rw [e] at k
      have et := hts _ hc.1
      obtain ⟨cell, q1, q2, q3, q4, q5, q6, q7⟩ := cellA_of (k := 3) (hR.2.2 a (by omega)) (Or.inl et) (by omega) rfl
      obtain ⟨-, q9⟩ := q7 (by omega)
      have hA := hEn.2.1 3 _ rfl (by omega)
      obtain ⟨_, _, -, -, -, k4⟩ := hA.2
      have hcs := cat_sum r
      have h1 : 8 ≤ mFr mt 0 m := by unfold mFr; omega
      have h2 : 352 ≤ mLo mt 0 m := by unfold mLo; omega
      have hl9 := hc.2
      refine va_getC hx hb (by rw [hml]; exact hL.2.1.symm) ho (ht _ hq1) (va_Nw.use rfl (hEn.2.2.1 _ hq2)) (ht _ hq3) (ht _ hq4) (ht _ hq5) e2 ⟨cell, q1, by rw [q9]; rfl, ?_⟩ (by omega) (by omega) hd (k L hL)
      rw [q9]
      exact k4
    · exact Or.inl rfl
  · exact Or.inl rfl
/-- a table of targets from lo on -/
def swT (lo : Int) (dfl : Nat) (L : List Nat) (x : Int32) : Nat := if x.toInt < lo then dfl else L.getD (x.toInt - lo).toNat dfl
theorem s_tableL {dflt lo hi : Int} {offs : Array Int} {len dfl : Nat} {L : List Nat} (hd : decode (mt m).2.1 pc = .ok (.tableswitch dflt lo hi offs, len)) (h0 : (pc : Int) + dflt = (dfl : Int)) (hl : lo + (L.length : Int) = hi + 1)
    (hall : (List.range L.length).all (fun k => match offs[k]? with | some off => decide ((pc : Int) + off = (L.getD k dfl : Int)) | none => false) = true) : Snd mt G m pc (oSwitch (swT lo dfl L)) := by
  refine s_table hd (fun x hx => ?_) (fun x h1 h2 => ?_)
  · unfold swT
    split
    · exact h0
    · next hn =>
      rw [List.getD_eq_getElem?_getD, List.getElem?_eq_none (by omega)]
      exact h0
  · have hk : (x.toInt - lo).toNat < L.length := by omega
    have h3 := List.all_eq_true.mp hall _ (List.mem_range.mpr hk)
    cases ho : offs[(x.toInt - lo).toNat]? with
    | none => rw [ho] at h3; cases h3
    | some off =>
      rw [ho] at h3
      refine ⟨off, rfl, ?_⟩
      unfold swT
      rw [if_neg h1]
      exact of_decide_eq_true h3
/-- a list of keys and targets -/
def swL (dfl : Nat) : List (Int × Nat) → Int32 → Nat
  | [], _ => dfl
  | z :: r, x => if x.toInt = z.1 then z.2 else swL dfl r x
theorem swL_ok (pc dfl : Nat) (dflt : Int) (h0 : (pc : Int) + dflt = (dfl : Int)) : ∀ (ps : List (Int × Int)) (L : List (Int × Nat)), ps.map (fun z => (z.1, (pc : Int) + z.2)) = L.map (fun z => (z.1, (z.2 : Int))) → ∀ x : Int32, (pc : Int) + Op.lookupswitch.offset ps dflt x.toInt = (swL dfl L x : Int)
  | [], [], _, x => h0
  | [], _ :: _, h, x => by simp at h
  | _ :: _, [], h, x => by simp at h
  | p :: ps, z :: L, h, x => by
    simp only [List.map_cons, List.cons.injEq, Prod.mk.injEq] at h
    obtain ⟨⟨h1, h2⟩, h3⟩ := h
    have ih := swL_ok pc dfl dflt h0 ps L h3 x
    obtain ⟨a, o⟩ := p
    simp only at h1 h2
    unfold Op.lookupswitch.offset swL
    by_cases e : x.toInt = z.1
    · rw [if_pos e]
      have e2 : a = x.toInt := by rw [h1, e]
      simp [e2, h2]
    · rw [if_neg e]
      have e2 : ¬ a = x.toInt := by rw [h1]; exact fun q => e q.symm
      simp [e2]
      exact ih
theorem s_lookupL {dflt : Int} {ps : Array (Int × Int)} {len dfl : Nat} {L : List (Int × Nat)} (hd : decode (mt m).2.1 pc = .ok (.lookupswitch dflt ps, len)) (hp : (ps.toList.zip (ps.toList.drop 1)).all (fun (a, next) => a.1 < next.1) = true) (h0 : (pc : Int) + dflt = (dfl : Int)) (hL : ps.toList.map (fun z => (z.1, (pc : Int) + z.2)) = L.map (fun z => (z.1, (z.2 : Int)))) : Snd mt G m pc (oSwitch (swL dfl L)) :=
  s_lookup hd hp (swL_ok pc dfl dflt h0 _ _ hL)
/-- a caught class: its tag, the handler's row -/
def CatchOK (mt : Nat → MT) (m pc : Nat) (z : Nat × Nat) : Prop := ∃ (ci : Nat) (r9 : vw_C) (k : Nat) (x : ExceptionTableEntry) (nm : String), z.1 = ci + 1 ∧ ci < 99 ∧ vwCl[ci]? = some r9 ∧ (tableOf ((mt m).2.2.2.2.1.getD []))[k]? = some x ∧ x.handlerPc = z.2 ∧ (∀ y ∈ (tableOf ((mt m).2.2.2.2.1.getD [])).take k, covers y pc = false ∨ (y.catchType ≠ 0 ∧ ∃ nm : String, Cond.classLink (mt m).1.cls y.catchType nm ∈ lw_all ∧ (r9.1, nm) ∈ ncL)) ∧ covers x pc = true ∧ x.catchType ≠ 0 ∧ Cond.classLink (mt m).1.cls x.catchType nm ∈ lw_all ∧ Cond.castable r9.1 nm ∈ nwL
theorem xok_catch {L : List (Nat × Nat)} (hL : ∀ z ∈ L, CatchOK mt m pc z) : XOK mt m pc (xCatch L) := by
  intro ls q h ci r9 et h9 hv
  unfold xCatch
  cases hf : L.find? (fun z => z.1 == (hcl h q).1) with
  | none => exact Or.inl rfl
  | some z =>
    obtain ⟨ci', r9', k, x, nm, e1, e2, e3, e4, e5, e6, e7, e8, e9, e10⟩ := hL z (List.mem_of_find?_eq_some hf)
    have h2 : z.1 = (hcl h q).1 := by simpa using List.find?_some hf
    have hci : ci' = ci := by omega
    subst hci
    cases Option.some.inj (e3.symm.trans hv)
    refine Or.inr (Or.inr ⟨_, x, (tableOf ((mt m).2.2.2.2.1.getD [])).drop (k + 1), nm, by rw [e5], ?_, e6, e7, e8, e9, e10⟩)
    have hk := (List.getElem?_eq_some_iff.mp e4)
    obtain ⟨hk1, hk2⟩ := hk
    rw [← hk2, List.getElem_cons_drop, List.take_append_drop]
theorem snd_br {b : Bool} {A B : AOp} (h1 : Snd mt G m pc A) (h2 : Snd mt G m pc B) : Snd mt G m pc (cond b A B) := by
  cases b
  · exact h2
  · exact h1
theorem snd_lf {k : Nat} {A : AOp} (h : Snd mt G m k A) : Snd mt G m pc (cond (Nat.beq pc k) A (fun _ _ _ _ => stuck)) := by
  cases hb : Nat.beq pc k with
  | false => exact snd_stuck
  | true =>
    have e : pc = k := Nat.eq_of_beq_eq_true hb
    subst e
    exact h
theorem sndm_br {b : Bool} {A B : Nat → AOp} (h1 : ∀ pc, Snd mt G m pc (A pc)) (h2 : ∀ pc, Snd mt G m pc (B pc)) : ∀ pc, Snd mt G m pc ((cond b A B) pc) := by
  cases b
  · exact h2
  · exact h1
theorem sndm_lf {k : Nat} {A : Nat → AOp} (h : ∀ pc, Snd mt G k pc (A pc)) : ∀ pc, Snd mt G m pc ((cond (Nat.beq m k) A (fun _ _ _ _ _ => stuck)) pc) := by
  cases hb : Nat.beq m k with
  | false => exact fun pc => snd_stuck
  | true =>
    have e : m = k := Nat.eq_of_beq_eq_true hb
    subst e
    exact h
end AM10
