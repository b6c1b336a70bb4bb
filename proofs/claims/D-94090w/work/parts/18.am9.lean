/-! THE KINDS OF CALLS: static, virtual, constructor, inherited, super, nest mate, interface -/
set_option maxRecDepth 100000
section AM9
variable {mt : Nat → MT} {G : AG} {m pc m' : Nat}
theorem mWs_none (hh : (mt m').2.2.2.2.1 = none) : mWs mt m' = ws_ (mt m').1 (mt m').2.1 (mt m').2.2.1 (mt m').2.2.2.1 := by unfold mWs; rw [hh]
theorem mWs_some {tb : List (Nat × Nat × Nat × Nat)} (hh : (mt m').2.2.2.2.1 = some tb) : mWs mt m' = wsW_ (mt m').1 (mt m').2.1 (mt m').2.2.1 (mt m').2.2.2.1 tb := by unfold mWs; rw [hh]
/-- the word of a method's own code -/
def CodeIn (mt : Nat → MT) (m' : Nat) : Prop := match (mt m').2.2.2.2.1 with
  | none => Cond.code (mt m').1 (mt m').2.1 (mt m').2.2.1 (mt m').2.2.2.1 ∈ lw_all
  | some tb => Cond.codeWith (mt m').1 (mt m').2.1 (mt m').2.2.1 (mt m').2.2.2.1 tb ∈ lw_all
/-- not a method handle's; n parameters -/
def ParN (y : MethodName) (n : Nat) : Prop := y.cls ≠ "java/lang/invoke/MethodHandle" ∧ y.cls ≠ "java/lang/invoke/VarHandle" ∧ (parseMethodDescriptor y.desc).map (fun d => d.parameters.length) = some n
theorem run_S {index n : Nat} {h : AH} {as : List Value} (hd : decode (mt m).2.1 pc = .ok (.invokestatic index, 3)) (hq1 : Cond.methodLink (mt m).1.cls index (mt m').1 ∈ lw_all) (hq2 : Cond.static (mt m').1 ∈ lw_all) (hq3 : Cond.initialized (mt m').1.cls ∈ lw_all) (hq4 : CodeIn mt m') (hdd : ParN (mt m').1 n) (hn : as.length = n) : RunOK mt G m pc 3 m' h as := by
  intro p l e R s mi args below meth c H locs cells slots rm Pc Qc XC mc ms L rest hx hb hml ho ht hEn hR hM hrc hrs hfr hlo hbl hpc hL hw hf
  unfold CodeIn at hq4
  cases hh : (mt m').2.2.2.2.1 with
  | none =>
    rw [hh] at hq4
    rw [mWs_none hh] at hM
    exact vx_runS (As := as) (rest := rest) ⟨hx, hb, hml, ho, ht⟩ hM (va_cwS n ht (lw_S hq1 hq2 hq3 hq4) rfl hrc hrs hdd ⟨hfr, hlo⟩) ⟨hbl, hpc⟩ rfl hn hL rfl (lv_room (m := mi) (pc := pc) (ls := L) (rest := rest) hw) hd hf
  | some tb =>
    rw [hh] at hq4
    rw [mWs_some hh] at hM
    exact vx_runSX (As := as) (rest := rest) ⟨hx, hb, hml, ho, ht⟩ hM (vx_cwSW n ht (lw_SW hq1 hq2 hq3 hq4) rfl hrc hrs hdd ⟨hfr, hlo⟩) ⟨hbl, hpc⟩ rfl hn hL rfl (lv_room (m := mi) (pc := pc) (ls := L) (rest := rest) hw) hd hf
/-- the receiver's cell, by its tag -/
theorem recvA {s : State} {h : AH} {H : Heap} {b ci : Nat} {r9 : vw_C} (hEn : EnvOK G s) (hR : HR G s h H) (et : (hcl h b).1 = ci + 1 ∨ (hcl h b).1 = ci + 1001) (h9 : ci < 99) (hv : vwCl[ci]? = some r9) : ∃ cellB : Cell, H[b]? = some cellB ∧ cellB.vm.isStatics = false ∧ s.vm.findClass r9.1 = some cellB.cls := by
  obtain ⟨cell, q1, q2, q3, q4, -⟩ := cellO_of (hR.2.2 b (by omega)) et h9 hv
  exact ⟨cell, q1, q3, by rw [q4]; exact (hEn.1 ci r9 hv).2.1⟩
theorem run_V {index n b ci : Nat} {h : AH} {as : List Value} {r9 : vw_C} (hd : decode (mt m).2.1 pc = .ok (.invokevirtual index, 3)) (et : (hcl h b).1 = ci + 1 ∨ (hcl h b).1 = ci + 1001) (h9 : ci < 99) (hv : vwCl[ci]? = some r9) (hcy : (mt m').1.cls = r9.1)
    (hq1 : Cond.methodLink (mt m).1.cls index (mt m').1 ∈ lw_all) (hq2 : Cond.instanceMethod (mt m').1 ∈ lw_all) (hq3 : Cond.selects r9.1 (mt m').1 (mt m').1 ∈ lw_all) (hq5 : Cond.initialized r9.1 ∈ lw_all) (hq4 : CodeIn mt m') (hdd : ParN (mt m').1 n) (hn : as.length = n) : RunOK mt G m pc 3 m' h (.ref b :: as) := by
  intro p l e R s mi args below meth c H locs cells slots rm Pc Qc XC mc ms L rest hx hb hml ho ht hEn hR hM hrc hrs hfr hlo hbl hpc hL hw hf
  have hrv := recvA hEn hR et h9 hv
  unfold CodeIn at hq4
  rw [show (Value.ref b :: as).reverse ++ rest = as.reverse ++ .ref b :: rest by simp]
  cases hh : (mt m').2.2.2.2.1 with
  | none =>
    rw [hh] at hq4
    rw [mWs_none hh] at hM
    exact vx_runV (As := as) (rest := rest) (b := b) ⟨hx, hb, hml, ho, ht⟩ hM (cwV n ht (lw_V hq1 hq2 hq3 hq5 hq4) rfl hrc hrs ⟨hcy, hdd⟩ ⟨hfr, hlo⟩) ⟨hbl, hrv, hpc⟩ rfl hn hL rfl (lv_room (m := mi) (pc := pc) (ls := L) (rest := rest) hw) hd hf
  | some tb =>
    rw [hh] at hq4
    rw [mWs_some hh] at hM
    exact vx_runVX (As := as) (rest := rest) (b := b) ⟨hx, hb, hml, ho, ht⟩ hM (vx_cwVW n ht (lw_VW hq1 hq2 hq3 hq5 hq4) rfl hrc hrs ⟨hcy, hdd⟩ ⟨hfr, hlo⟩) ⟨hbl, hrv, hpc⟩ rfl hn hL rfl (lv_room (m := mi) (pc := pc) (ls := L) (rest := rest) hw) hd hf
theorem run_I {index n b : Nat} {h : AH} {as : List Value} (hd : decode (mt m).2.1 pc = .ok (.invokespecial index, 3)) (hini : (mt m').1.name = "<init>") (hrt : (mt m').2.2.2.1 = none) (hh : (mt m').2.2.2.2.1 = none)
    (hq1 : Cond.methodLink (mt m).1.cls index (mt m').1 ∈ lw_all) (hq2 : Cond.instanceMethod (mt m').1 ∈ lw_all) (hq5 : Cond.initialized (mt m').1.cls ∈ lw_all) (hq4 : CodeIn mt m') (hdd : ParN (mt m').1 n) (hn : as.length = n) : RunOK mt G m pc 3 m' h (.ref b :: as) := by
  intro p l e R s mi args below meth c H locs cells slots rm Pc Qc XC mc ms L rest hx hb hml ho ht hEn hR hM hrc hrs hfr hlo hbl hpc hL hw hf
  unfold CodeIn at hq4
  rw [show (Value.ref b :: as).reverse ++ rest = as.reverse ++ .ref b :: rest by simp]
  rw [hh] at hq4
  rw [mWs_none hh] at hM
  rw [hrt] at hq4 hM
  exact vx_runI (As := as) (rest := rest) (b := b) ⟨hx, hb, hml, ho, ht⟩ hM (cwI n ht (lw_meth hq4) rfl hrc hrs (ht _ hq5) (ht _ hq1) (ht _ hq2) hini hdd ⟨hfr, hlo⟩) ⟨hbl, hpc⟩ rfl hn hL rfl (lv_room (m := mi) (pc := pc) (ls := L) (rest := rest) hw) hd hf
theorem run_IN {index n b : Nat} {host : String} {h : AH} {as : List Value} (hd : decode (mt m).2.1 pc = .ok (.invokespecial index, 3)) (hini : (mt m').1.name = "<init>") (hrt : (mt m').2.2.2.1 = none) (hh : (mt m').2.2.2.2.1 = none)
    (hq1 : Cond.methodLinkNest (mt m).1.cls index (mt m').1 host ∈ nwL) (hq2 : Cond.instanceMethod (mt m').1 ∈ lw_all) (hq5 : Cond.initialized (mt m').1.cls ∈ lw_all) (hq4 : CodeIn mt m') (hdd : ParN (mt m').1 n) (hn : as.length = n) : RunOK mt G m pc 3 m' h (.ref b :: as) := by
  intro p l e R s mi args below meth c H locs cells slots rm Pc Qc XC mc ms L rest hx hb hml ho ht hEn hR hM hrc hrs hfr hlo hbl hpc hL hw hf
  unfold CodeIn at hq4
  rw [show (Value.ref b :: as).reverse ++ rest = as.reverse ++ .ref b :: rest by simp]
  rw [hh] at hq4
  rw [mWs_none hh] at hM
  rw [hrt] at hq4 hM
  exact vx_runIN (As := as) (rest := rest) (b := b) (host := host) ⟨hx, hb, hml, ho, ht⟩ hM ⟨va_cnB n ht (lw_meth hq4) rfl hrc hrs (hEn.2.2.1 _ hq1) (ht _ hq5) hdd ⟨hfr, hlo⟩, hini, ht _ hq2⟩ ⟨hbl, hpc⟩ rfl hn hL rfl (lv_room (m := mi) (pc := pc) (ls := L) (rest := rest) hw) hd hf
/-- by the receiver's class C: method y for the reference to x, whose declarer is owner -/
theorem run_U {index n b ci : Nat} {owner : String} {x : MethodName} {h : AH} {as : List Value} {r9 : vw_C} (hd : decode (mt m).2.1 pc = .ok (.invokevirtual index, 3)) (et : (hcl h b).1 = ci + 1 ∨ (hcl h b).1 = ci + 1001) (h9 : ci < 99) (hv : vwCl[ci]? = some r9) (hh : (mt m').2.2.2.2.1 = none)
    (hkind : (mt m').1 = ⟨owner, x.name, x.desc⟩ ∨ (∃ (b0 : ByteArray) (m0 : Nat) (r0 : Option FieldType), Cond.code ⟨owner, x.name, x.desc⟩ b0 m0 r0 ∈ lw_all ∧ Cond.instanceMethod ⟨owner, x.name, x.desc⟩ ∈ lw_all) ∨ Cond.declares ⟨owner, x.name, x.desc⟩ ∈ nwL)
    (hq1 : Cond.methodLink (mt m).1.cls index x ∈ lw_all) (hqs : Cond.sameMethod x.cls owner x.name x.desc ∈ lw_all) (hq2 : Cond.instanceMethod (mt m').1 ∈ lw_all) (hq3 : Cond.selects r9.1 x (mt m').1 ∈ lw_all) (hq5 : Cond.initialized (mt m').1.cls ∈ lw_all) (hq4 : CodeIn mt m')
    (hdd : owner ≠ "java/lang/invoke/MethodHandle" ∧ owner ≠ "java/lang/invoke/VarHandle" ∧ (parseMethodDescriptor x.desc).map (fun d => d.parameters.length) = some n) (hn : as.length = n) : RunOK mt G m pc 3 m' h (.ref b :: as) := by
  intro p l e R s mi args below meth c H locs cells slots rm Pc Qc XC mc ms L rest hx hb hml ho ht hEn hR hM hrc hrs hfr hlo hbl hpc hL hw hf
  have hrv := recvA hEn hR et h9 hv
  unfold CodeIn at hq4
  rw [show (Value.ref b :: as).reverse ++ rest = as.reverse ++ .ref b :: rest by simp]
  rw [hh] at hq4
  rw [mWs_none hh] at hM
  have hU : GoodIn lw_all (va_wsU (mt m).1.cls index r9.1 owner x (mt m').1 (ws_ (mt m').1 (mt m').2.1 (mt m').2.2.1 (mt m').2.2.2.1)) := by
    refine lw_app ?_ (lw_meth hq4)
    intro w hw
    simp only [List.mem_cons, List.not_mem_nil, or_false] at hw
    rcases hw with rfl | rfl | rfl | rfl | rfl <;> assumption
  have hCU : va_CU R s args (mt m).1.cls r9.1 owner index x (mt m').1 (mt m').2.1 (mt m').2.2.1 (mt m').2.2.2.1 (ws_ (mt m').1 (mt m').2.1 (mt m').2.2.1 (mt m').2.2.2.1) rm mc ms n := by
    rcases hkind with e1 | ⟨b0, m0, r0, e1, e2⟩ | e1
    · exact va_cwU n ht hU rfl hrc hrs e1 hdd ⟨hfr, hlo⟩
    · refine va_cwO n ht ?_ rfl hrc hrs e1 hdd ⟨hfr, hlo⟩
      refine lw_app ?_ (lw_meth hq4)
      intro w hw
      simp only [List.mem_cons, List.not_mem_nil, or_false] at hw
      rcases hw with rfl | rfl | rfl | rfl | rfl | rfl <;> assumption
    · exact va_cwA n ht hU rfl hrc hrs (hEn.2.2.1 _ e1) hdd ⟨hfr, hlo⟩
  exact vx_runU (As := as) (rest := rest) (b := b) ⟨hx, hb, hml, ho, ht⟩ hM hCU ⟨hbl, hrv, hpc⟩ rfl hn hL rfl (lv_room (m := mi) (pc := pc) (ls := L) (rest := rest) hw) hd hf
theorem run_SU {index n b ci : Nat} {h : AH} {as : List Value} {r9 : vw_C} (hd : decode (mt m).2.1 pc = .ok (.invokespecial index, 3)) (et : (hcl h b).1 = ci + 1 ∨ (hcl h b).1 = ci + 1001) (h9 : ci < 99) (hv : vwCl[ci]? = some r9) (hh : (mt m').2.2.2.2.1 = none)
    (hq1 : Cond.methodLink (mt m).1.cls index (mt m').1 ∈ lw_all) (hqs : Cond.sameMethod (mt m').1.cls (mt m').1.cls (mt m').1.name (mt m').1.desc ∈ lw_all) (hqp : Cond.superclass (mt m).1.cls (mt m').1.cls ∈ lw_all) (hq2 : Cond.instanceMethod (mt m').1 ∈ lw_all) (hq5 : Cond.initialized (mt m').1.cls ∈ lw_all) (hq4 : CodeIn mt m')
    (hdd : (mt m').1.name ≠ "<init>" ∧ (parseMethodDescriptor (mt m').1.desc).map (fun d => d.parameters.length) = some n) (hn : as.length = n) : RunOK mt G m pc 3 m' h (.ref b :: as) := by
  intro p l e R s mi args below meth c H locs cells slots rm Pc Qc XC mc ms L rest hx hb hml ho ht hEn hR hM hrc hrs hfr hlo hbl hpc hL hw hf
  have hrv := recvA hEn hR et h9 hv
  unfold CodeIn at hq4
  rw [show (Value.ref b :: as).reverse ++ rest = as.reverse ++ .ref b :: rest by simp]
  rw [hh] at hq4
  rw [mWs_none hh] at hM
  have hU : GoodIn lw_all (va_wsSU (mt m).1.cls index (mt m').1 (ws_ (mt m').1 (mt m').2.1 (mt m').2.2.1 (mt m').2.2.2.1)) := by
    refine lw_app ?_ (lw_meth hq4)
    intro w hw
    simp only [List.mem_cons, List.not_mem_nil, or_false] at hw
    rcases hw with rfl | rfl | rfl | rfl | rfl <;> assumption
  exact vx_runSU (As := as) (rest := rest) (b := b) (hEn.1 ci r9 hv).2 ⟨hx, hb, hml, ho, ht⟩ hM (va_cwSU n ht hU rfl hrc hrs hdd ⟨hfr, hlo⟩) ⟨hbl, hrv, hpc⟩ rfl hn hL rfl (lv_room (m := mi) (pc := pc) (ls := L) (rest := rest) hw) hd hf
theorem run_F {index count n b ci : Nat} {x : MethodName} {h : AH} {as : List Value} {r9 : vw_C} (hd : decode (mt m).2.1 pc = .ok (.invokeinterface index count, 5)) (et : (hcl h b).1 = ci + 1 ∨ (hcl h b).1 = ci + 1001) (h9 : ci < 99) (hv : vwCl[ci]? = some r9) (hh : (mt m').2.2.2.2.1 = none)
    (hF : (r9.1, x, (mt m').1) ∈ fwL) (hq1 : Cond.methodLink (mt m).1.cls index x ∈ lw_all) (hq2 : Cond.instanceMethod (mt m').1 ∈ lw_all) (hq3 : Cond.selects r9.1 x (mt m').1 ∈ lw_all) (hq5 : Cond.initialized (mt m').1.cls ∈ lw_all) (hq4 : CodeIn mt m') (hdd : ParN x n) (hn : as.length = n) : RunOK mt G m pc 5 m' h (.ref b :: as) := by
  intro p l e R s mi args below meth c H locs cells slots rm Pc Qc XC mc ms L rest hx hb hml ho ht hEn hR hM hrc hrs hfr hlo hbl hpc hL hw hf
  have hrv := recvA hEn hR et h9 hv
  unfold CodeIn at hq4
  rw [show (Value.ref b :: as).reverse ++ rest = as.reverse ++ .ref b :: rest by simp]
  rw [hh] at hq4
  rw [mWs_none hh] at hM
  have hU : GoodIn lw_all (va_wsF (mt m).1.cls index r9.1 x (mt m').1 (ws_ (mt m').1 (mt m').2.1 (mt m').2.2.1 (mt m').2.2.2.1)) := by
    refine lw_app ?_ (lw_meth hq4)
    intro w hw
    simp only [List.mem_cons, List.not_mem_nil, or_false] at hw
    rcases hw with rfl | rfl | rfl | rfl <;> assumption
  exact vx_runF (As := as) (rest := rest) (b := b) (hEn.1 ci r9 hv).2 ⟨hx, hb, hml, ho, ht⟩ hM (va_cwF n ht hU rfl hrc hrs (hEn.2.2.2.2.1 _ hF) hdd ⟨hfr, hlo⟩) ⟨hbl, hrv, hpc⟩ rfl hn hL rfl (lv_room (m := mi) (pc := pc) (ls := L) (rest := rest) hw) hd hf
/-- a private method of the receiver's superclass -/
theorem sel_priv {s : State} {args : Array Value} {C : String} {y x0 y0 : MethodName} (hy : y.cls ≠ "java/lang/invoke/MethodHandle" ∧ y.cls ≠ "java/lang/invoke/VarHandle") (h0 : (Cond.selects C x0 y0).before args s = true) (hcl : y0.cls = y.cls) (hpriv : (Cond.privateMethod y).before args s = true) (hinst : (Cond.instanceMethod y).before args s = true) : (Cond.selects C y y).before args s = true := by
  obtain ⟨c, r2, m2, q1, q2, q3, q4, k, hk, hni⟩ := Cond.selects_spec h0
  obtain ⟨mk, methM, hnamed, hmethM, -, -⟩ := Cond.instanceMethod_spec hinst
  have hfound : s.methodFound? y.cls y.name y.desc = some mk := State.methodFound?_of_named hnamed hy
  have hcls : mk.cls = m2.cls := Option.some.inj ((findClass_of_methodNamed hnamed).symm.trans (by rw [← hcl]; exact findClass_of_methodNamed q3))
  have hsel : selectMethod {} s.vm c mk = .method mk := selectMethod_private hmethM (Cond.privateMethod_at hpriv mk methM hnamed hmethM)
  simp only [Cond.before, Cond.holds, Cond.value, q1, hfound, hnamed, hsel, hcls, hk]
  simp; exact hni
theorem run_UP {index n b ci : Nat} {x0 y0 : MethodName} {h : AH} {as : List Value} {r9 : vw_C} (hd : decode (mt m).2.1 pc = .ok (.invokevirtual index, 3)) (et : (hcl h b).1 = ci + 1 ∨ (hcl h b).1 = ci + 1001) (h9 : ci < 99) (hv : vwCl[ci]? = some r9) (hh : (mt m').2.2.2.2.1 = none)
    (hq0 : Cond.selects r9.1 x0 y0 ∈ lw_all) (hcl : y0.cls = (mt m').1.cls) (hqp : Cond.privateMethod (mt m').1 ∈ nwL)
    (hq1 : Cond.methodLink (mt m).1.cls index (mt m').1 ∈ lw_all) (hqs : Cond.sameMethod (mt m').1.cls (mt m').1.cls (mt m').1.name (mt m').1.desc ∈ lw_all) (hq2 : Cond.instanceMethod (mt m').1 ∈ lw_all) (hq5 : Cond.initialized (mt m').1.cls ∈ lw_all) (hq4 : CodeIn mt m') (hdd : ParN (mt m').1 n) (hn : as.length = n) : RunOK mt G m pc 3 m' h (.ref b :: as) := by
  intro p l e R s mi args below meth c H locs cells slots rm Pc Qc XC mc ms L rest hx hb hml ho ht hEn hR hM hrc hrs hfr hlo hbl hpc hL hw hf
  have hrv := recvA hEn hR et h9 hv
  unfold CodeIn at hq4
  rw [show (Value.ref b :: as).reverse ++ rest = as.reverse ++ .ref b :: rest by simp]
  rw [hh] at hq4
  rw [mWs_none hh] at hM
  have hsel := sel_priv ⟨hdd.1, hdd.2.1⟩ (ht _ hq0) hcl (va_Nw.use (A := args) rfl (hEn.2.2.1 _ hqp)) (ht _ hq2)
  have ht' : ∀ w ∈ Cond.selects r9.1 (mt m').1 (mt m').1 :: lw_all, w.before args s = true := fun w hw => by
    rcases List.mem_cons.mp hw with e | e
    · rw [e]; exact hsel
    · exact ht w e
  have hG : GoodIn (Cond.selects r9.1 (mt m').1 (mt m').1 :: lw_all) (ws_ (mt m').1 (mt m').2.1 (mt m').2.2.1 (mt m').2.2.2.1) := fun w hw => ⟨List.mem_cons_of_mem _ (lw_meth hq4 w hw).1, (lw_meth hq4 w hw).2⟩
  have hU : GoodIn (Cond.selects r9.1 (mt m').1 (mt m').1 :: lw_all) (va_wsU (mt m).1.cls index r9.1 (mt m').1.cls (mt m').1 (mt m').1 (ws_ (mt m').1 (mt m').2.1 (mt m').2.2.1 (mt m').2.2.2.1)) := by
    intro w hw
    rcases List.mem_append.mp hw with e | e
    · simp only [List.mem_cons, List.not_mem_nil, or_false] at e
      rcases e with rfl | rfl | rfl | rfl | rfl
      · exact ⟨List.mem_cons_of_mem _ hq1, (lw_self _ hq1).2⟩
      · exact ⟨List.mem_cons_of_mem _ hqs, (lw_self _ hqs).2⟩
      · exact ⟨List.mem_cons_self, Or.inl rfl⟩
      · exact ⟨List.mem_cons_of_mem _ hq2, (lw_self _ hq2).2⟩
      · exact ⟨List.mem_cons_of_mem _ hq5, (lw_self _ hq5).2⟩
    · exact hG w e
  exact vx_runU (As := as) (rest := rest) (b := b) ⟨hx, hb, hml, ho, ht'⟩ hM (va_cwU n ht' hU rfl hrc hrs rfl hdd ⟨hfr, hlo⟩) ⟨hbl, hrv, hpc⟩ rfl hn hL rfl (lv_room (m := mi) (pc := pc) (ls := L) (rest := rest) hw) hd hf
/-- what every callee owes besides: its number of locals, its rank -/
def CalOK (mt : Nat → MT) (m δ m' nl : Nat) : Prop := nl = (mt m').2.2.1 ∧ plainName (mt m').1.cls = true ∧ (mt m').2.2.2.2.2 + 1 ≤ (mt m).2.2.2.2.2 + 4 * δ ∧ (mt m').2.2.1 ≤ 25
theorem s_callS {n δ nl : Nat} {X : AX9} (hXS : XSH X) (hX : XOK mt m pc X) (hC : CalOK mt m δ m' nl) (hrun : ∀ (h : AH) (as : List Value), as.length = n → RunOK mt G m pc 3 m' h as) : Snd mt G m pc (oCall n (fS m' nl) δ (pc + 3) X) := by
  refine s_call hXS hX ?_
  intro h as m1 nl1 hn hf
  unfold fS at hf
  cases hf
  exact ⟨hC.1, hC.2.1, hC.2.2.1, hC.2.2.2, hrun h as hn⟩
theorem s_callI {n δ nl : Nat} {X : AX9} (hXS : XSH X) (hX : XOK mt m pc X) (hC : CalOK mt m δ m' nl) (hrun : ∀ (h : AH) (b : Nat) (as : List Value), as.length = n → RunOK mt G m pc 3 m' h (.ref b :: as)) : Snd mt G m pc (oCall (n + 1) (fI m' nl) δ (pc + 3) X) := by
  refine s_call hXS hX ?_
  intro h as m1 nl1 hn hf
  unfold fI at hf
  split at hf
  · cases hf
    exact ⟨hC.1, hC.2.1, hC.2.2.1, hC.2.2.2, hrun h _ _ (by simpa using hn)⟩
  · cases hf
theorem s_callV {n δ nl : Nat} {ts : List Nat} {X : AX9} (hXS : XSH X) (hX : XOK mt m pc X) (hC : CalOK mt m δ m' nl) (hrun : ∀ (h : AH) (b : Nat) (as : List Value), (hcl h b).1 ∈ ts → as.length = n → RunOK mt G m pc 3 m' h (.ref b :: as)) : Snd mt G m pc (oCall (n + 1) (fV ts m' nl) δ (pc + 3) X) := by
  refine s_call hXS hX ?_
  intro h as m1 nl1 hn hf
  unfold fV at hf
  split at hf
  · split at hf
    · next hc =>
      cases hf
      exact ⟨hC.1, hC.2.1, hC.2.2.1, hC.2.2.2, hrun h _ _ hc (by simpa using hn)⟩
    · cases hf
  · cases hf
theorem s_callP {n δ len : Nat} {Lp : List (Nat × Nat × Nat)} {X : AX9} (hXS : XSH X) (hX : XOK mt m pc X) (hC : ∀ z ∈ Lp, CalOK mt m δ z.2.1 z.2.2) (hrun : ∀ z ∈ Lp, ∀ (h : AH) (b : Nat) (as : List Value), (hcl h b).1 = z.1 → as.length = n → RunOK mt G m pc len z.2.1 h (.ref b :: as)) : Snd mt G m pc (oCall (n + 1) (fP Lp) δ (pc + len) X) := by
  refine s_call hXS hX ?_
  intro h as m1 nl1 hn hf
  unfold fP at hf
  split at hf
  · split at hf
    · next z hz =>
      have h1 := List.mem_of_find?_eq_some hz
      have h2 := List.find?_some hz
      have hc := hC z h1
      obtain ⟨z1, z2, z3⟩ := z
      cases hf
      exact ⟨hc.1, hc.2.1, hc.2.2.1, hc.2.2.2, hrun _ h1 h _ _ (Eq.symm (by simpa using h2)) (by simpa using hn)⟩
    · cases hf
  · cases hf
end AM9
