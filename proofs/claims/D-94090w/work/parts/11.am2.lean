/-! SOUNDNESS, the frame of it: what the abstract machine's answer says of the real machine -/
set_option maxRecDepth 100000
abbrev AG : Type := va_G × (Nat → ClassId) × Nat × (Nat → Value)
def gD (G : AG) : va_G := G.1
def gA (G : AG) : Nat → ClassId := G.2.1
def gB (G : AG) : Nat := G.2.2.1
def gE (G : AG) : Nat → Value := G.2.2.2
def fre (G : AG) : Nat → Prop := fun q => gB G ≤ q
/-- a cell: an object of class ci (tag ci + 1, an old one ci + 1001), or an array of kind k (tag k + 100, an old one k + 1100) -/
def cellO (G : AG) (a : Nat) (c : AC) (cell : Cell) : Prop :=
  ∃ (ci : Nat) (r : vw_C), (c.1 = ci + 1 ∨ c.1 = ci + 1001) ∧ ci < 99 ∧ vwCl[ci]? = some r ∧ cell.vm.isStatics = false ∧ cell.cls = (gD G).1 ci ∧ (∀ k, k < r.2.2 → cell.slots[(gD G).2 ci k]? = some (c.2.2 k)) ∧ (c.1 < 1000 → gB G ≤ a ∧ cell.vm = .none)
def cellA (G : AG) (U : State) (a : Nat) (c : AC) (cell : Cell) : Prop :=
  ∃ (k : Nat) (ty : FieldType), (c.1 = k + 100 ∨ c.1 = k + 1100) ∧ k < 99 ∧ aTy[k]? = some ty ∧ U.isArrayOf cell ty ∧ cell.slots.size.toInt32 = Int32.ofNat c.2.1 ∧ c.2.1 ≤ cell.slots.size ∧ (∀ j, j < c.2.1 → cell.slots[j]? = some (c.2.2 j)) ∧ (c.1 < 1000 → gB G ≤ a ∧ cell = arrV (gA G k) c.2.1 c.2.2)
def cellR (G : AG) (U : State) (H : Heap) (a : Nat) (c : AC) : Prop :=
  ∃ cell : Cell, H[a]? = some cell ∧ cell.vm ≠ .unknown ∧ (cellO G a c cell ∨ cellA G U a c cell)
theorem cellR.kept {G : AG} {U : State} {H H' : Heap} {a : Nat} {c : AC} (h : cellR G U H a c) (e : H'[a]? = H[a]?) : cellR G U H' a c := by
  obtain ⟨cell, h1, h2⟩ := h
  exact ⟨cell, e.trans h1, h2⟩
theorem cellR.moved {G : AG} {u U : State} {H : Heap} {a : Nat} {c : AC} (hvm : u.vm.Alike U.vm) (h : cellR G u H a c) : cellR G U H a c := by
  obtain ⟨cell, h1, h2, h3⟩ := h
  refine ⟨cell, h1, h2, ?_⟩
  rcases h3 with h3 | ⟨k, ty, e1, e2, e3, e4, e5⟩
  · exact Or.inl h3
  · exact Or.inr ⟨k, ty, e1, e2, e3, State.isArrayOf_alike hvm e4, e5⟩
theorem cellR.lt {G : AG} {U : State} {H : Heap} {a : Nat} {c : AC} (h : cellR G U H a c) : a < H.size := by
  obtain ⟨cell, h1, -⟩ := h
  exact (Array.getElem?_eq_some_iff.mp h1).1
def HR (G : AG) (U : State) (h : AH) (H : Heap) : Prop := hsz h = H.size ∧ h.2.2.2 = gE G ∧ ∀ a, (hcl h a).1 ≠ 0 → cellR G U H a (hcl h a)
theorem HR.moved {G : AG} {u U : State} {h : AH} {H : Heap} (hvm : u.vm.Alike U.vm) (hR : HR G u h H) : HR G U h H := ⟨hR.1, hR.2.1, fun a ha => (hR.2.2 a ha).moved hvm⟩
theorem HR.put {G : AG} {U : State} {h : AH} {H H' : Heap} {a : Nat} {c : AC} (hR : HR G U h H) (hs : H'.size = H.size) (oq : ∀ q : Nat, q ≠ a → H'[q]? = H[q]?) (hc : cellR G U H' a c) : HR G U (hput h a c) H' := by
  refine ⟨hR.1.trans hs.symm, hR.2.1, fun b hb => ?_⟩
  rw [hcl_put] at hb ⊢
  by_cases e : b = a
  · rw [if_pos e]
    rw [e]
    exact hc
  · rw [if_neg e] at hb ⊢
    exact (hR.2.2 b hb).kept (oq b e)
theorem HR.new {G : AG} {U : State} {h : AH} {H H' : Heap} {n : Nat} {c : AC} (hR : HR G U h H) (hs : H'.size = H.size + 1) (oq : ∀ q : Nat, q < H.size → H'[q]? = H[q]?) (hc : cellR G U H' H.size c) : HR G U (hnew h n c) H' := by
  refine ⟨by rw [hsz_new, hR.1, hs], hR.2.1, fun b hb => ?_⟩
  rw [hcl_new] at hb ⊢
  by_cases e : b = hsz h
  · rw [if_pos e]
    rw [e, hR.1]
    exact hc
  · rw [if_neg e] at hb ⊢
    exact (hR.2.2 b hb).kept (oq b (hR.2.2 b hb).lt)
/-- words that the lists don't carry -/
def nwOK : Cond → Bool
  | .fieldLinkNest .. => true
  | .methodLinkNest .. => true
  | .castable .. => true
  | .declares .. => true
  | .privateMethod .. => true
  | _ => false
theorem nwOK_moved {w : Cond} (hw : nwOK w = true) {s U : State} (hW : s.WarmedH U.vm) (h : va_Nw w s) : va_Nw w U := by
  cases w <;> first | exact va_Nw.warmF hW h | exact va_Nw.warmM hW h | exact va_Nw.warmC hW h | exact va_Nw.warmD hW h | exact Cond.privateMethod_warm hW h | cases hw
theorem fwL_ok : ∀ q ∈ fwL, q.2.1.cls ≠ "java/lang/invoke/MethodHandle" ∧ q.2.1.cls ≠ "java/lang/invoke/VarHandle" := by decide
theorem idx_alike {u U : State} (hvm : u.vm.Alike U.vm) (f : Class → Bool) (hf : ∀ vm : Vm, vm.bare.classes.findIdx? f = vm.classes.findIdx? f) : U.vm.classes.findIdx? f = u.vm.classes.findIdx? f := by
  rw [← hf u.vm, ← hf U.vm]
  first | rw [hvm.bare_eq] | rw [← hvm.bare_eq]
/-- rows of ints can be made -/
def va_AI (U : State) : Prop := (Cond.arrayOver (.array .int)).before #[] U = true
theorem va_AI.moved {u U : State} (hvm : u.vm.Alike U.vm) (h : va_AI u) : va_AI U := by
  unfold va_AI Cond.before Cond.holds at h ⊢
  simp only [Cond.value] at h ⊢
  rw [hvm.findClass]
  cases hc : u.vm.findClass (FieldType.array .int).toString with
  | none => rw [hc] at h; exact h
  | some comp =>
    rw [hc] at h
    simp only [Option.bind_some] at h ⊢
    rw [idx_alike hvm _ (fun vm => by simp only [Vm.bare, Array.findIdx?_map]; rfl)]
    generalize hi : Array.findIdx? _ u.vm.classes = oi at h ⊢
    cases oi with
    | none => exact h
    | some c =>
      simp only [Option.bind_some] at h ⊢
      cases hk : u.vm.classes[c]? with
      | none => rw [hk] at h; exact absurd h (by simp)
      | some k =>
        obtain ⟨k', hk', he⟩ := hvm.2.2 _ _ hk
        rw [hk] at h
        rw [hk']
        simp only [Option.map_some] at h ⊢
        rw [he]
        rw [hvm.findClass]
        exact h
def nwL : List Cond := lw_tbl.filter nwOK
/-- what holds of the tables and of the old cells all through the run -/
def EnvOK (G : AG) (U : State) : Prop :=
  (∀ (c : Nat) (q : vw_C), vwCl[c]? = some q → u_Kn U q.1 q.2.1 q.2.2 ((gD G).1 c) ((gD G).2 c)) ∧
  (∀ (k : Nat) (ty : FieldType), aTy[k]? = some ty → k < 7 → ArrOfT U (gA G k) ty ∧ va_RA U (gA G k) ty) ∧
  (∀ w ∈ nwL, va_Nw w U) ∧ (∀ C ∈ aoL, va_AO C U) ∧ (∀ q ∈ fwL, va_Fw q.1 q.2.1 q.2.2 U) ∧ (∀ q ∈ ncL, va_Nc q.1 q.2 U) ∧
  (∀ (k : Nat) (q : String × String × String), stL[k]? = some q → va_Z q.1 q.2.1 q.2.2 (gE G k) (fre G) U U.heap) ∧
  (∀ (k : Nat) (q : String × Nat × String), srL[k]? = some q → ∃ a, gE G (1000 + k) = .ref a ∧ vk_R q.1 q.2.1 q.2.2 a U) ∧
  (∃ mi : Nat, gE G 999 = .ref mi ∧ va_Mi "[Ljava/lang/Object;" mi U) ∧
  vx_Zq Bundle.tN "UNASSIGNED_STACK" Bundle.steD (fre G) U U.heap ∧ vx_Zq Bundle.tN "SUPPRESSED_SENTINEL" Bundle.listD (fre G) U U.heap ∧ va_AI U
theorem EnvOK.go {G : AG} {s U : State} (hE : EnvOK G s) (hW : s.WarmedH U.vm) (hk : ∀ q : Nat, q < s.heap.size → ¬ fre G q → U.heap[q]? = s.heap[q]?) : EnvOK G U := by
  obtain ⟨h1, h2, h3, h4, h5, h6, h7, h8, ⟨mi, h9, h9'⟩, h10, h11, h12⟩ := hE
  refine ⟨fun c q hq => u_Kn_moved hW.alike (h1 c q hq), fun k ty hk' k7 => ⟨arrOfT_moved hW.alike (h2 k ty hk' k7).1, (h2 k ty hk' k7).2.moved hW.alike⟩, fun w hw => nwOK_moved (List.mem_filter.mp hw).2 hW (h3 w hw), fun C hC => (h4 C hC).moved hW.alike, fun q hq => (h5 q hq).moved (fwL_ok q hq) hW.alike, fun q hq => (h6 q hq).moved hW.alike, fun k q hq => ((h7 k q hq).kept hk).moved hW.alike, fun k q hq => ?_, ⟨mi, h9, va_Mi.moved hW.alike h9'⟩, (h10.kept hk).moved hW.alike, (h11.kept hk).moved hW.alike, h12.moved hW.alike⟩
  obtain ⟨a, e1, e2⟩ := h8 k q hq
  exact ⟨a, e1, vk_R.warm hW e2⟩
/-- a method: name, code, locals, answer, handlers, rank -/
abbrev MT : Type := MethodName × ByteArray × Nat × Option FieldType × Option (List (Nat × Nat × Nat × Nat)) × Nat
def mFr (mt : Nat → MT) (d m : Nat) : Nat := (mt m).2.2.2.2.2 + 4 * d
def mLo (mt : Nat → MT) (d m : Nat) : Nat := 44 * ((mt m).2.2.2.2.2 + 4 * d)
def mWs (mt : Nat → MT) (m : Nat) : List Cond := match (mt m).2.2.2.2.1 with
  | none => ws_ (mt m).1 (mt m).2.1 (mt m).2.2.1 (mt m).2.2.2.1
  | some hh => wsW_ (mt m).1 (mt m).2.1 (mt m).2.2.1 (mt m).2.2.2.1 hh
def CX (mt : Nat → MT) (G : AG) (d m : Nat) (p : Program) (l : Launch) (R : Room) (s : State) (mi : MethodId) (args : Array Value) (meth : Method) (c : Code) (sl0 : Nat) (hE : AH) : Prop :=
  p.tables.exec = Jvm.exec ∧ c.code = (mt m).2.1 ∧ c.maxLocals = (mt m).2.2.1 ∧ s.vm.findClass (mt m).1.cls = some mi.cls ∧ meth.sig.returnType = (mt m).2.2.2.1 ∧ meth.locks = false ∧ meth.name = (mt m).1.name ∧ (∀ w ∈ lw_all, w.before args s = true) ∧
  c.exceptionTable.toList = tableOf ((mt m).2.2.2.2.1.getD []) ∧ EnvOK G s ∧ l.stackTraces = false ∧ gB G ≤ s.heap.size ∧ mFr mt d m ≤ R.frames ∧ mLo mt d m ≤ R.locals ∧ hsz hE ≤ s.heap.size + R.cells ∧ hsl hE ≤ sl0 + R.slots
/-- the end: the answer, the heap -/
def AQ (G : AG) (o : Outcome) (hE : AH) : Array Value → State → Outcome → State → Prop := fun _ st o' t => o' = o ∧ HR G t hE t.heap ∧ va_F (fre G) st t
def AX (G : AG) (o : Outcome) (hE : AH) : Addr → String → State → State → Prop := fun q E st t => o = .threw q ∧ (∃ (ci : Nat) (r : vw_C), (hcl hE q).1 = ci + 1 ∧ ci < 99 ∧ vwCl[ci]? = some r ∧ r.1 = E) ∧ HR G t hE t.heap ∧ va_F (fre G) st t
def WS (mt : Nat → MT) (G : AG) (d m pc : Nat) (ls : ALs) (st : List Value) (h : AH) (o : Outcome) (hE : AH) : Prop :=
  ∀ (p : Program) (l : Launch) (e : Env) (R : Room) (s : State) (mi : MethodId) (args : Array Value) (below : List Frame) (meth : Method) (c : Code) (sl0 : Nat), CX mt G d m p l R s mi args meth c sl0 hE →
  ∀ (H : Heap) (locs : List Loc) (cells slots : Nat) (L : Array Slot), LR (mt m).2.2.1 ls L → HR G s h H → s.heap.size + cells = H.size → sl0 + slots = hsl h → va_S (fre G) s.heap H locs →
    W p l e R s mi args below meth c H locs cells slots (vx_MQ below (AQ G o hE) (AX G o hE) args s R.cells R.slots (fre G)) (F0 mi pc L st)
def Grow (h h' : AH) : Prop := hsz h ≤ hsz h' ∧ hsl h ≤ hsl h'
theorem Grow.rf (h : AH) : Grow h h := ⟨Nat.le_refl _, Nat.le_refl _⟩
theorem Grow.tr {a b c : AH} (h1 : Grow a b) (h2 : Grow b c) : Grow a c := ⟨Nat.le_trans h1.1 h2.1, Nat.le_trans h1.2 h2.2⟩
def Good (mt : Nat → MT) (G : AG) (rec : ARec) : Prop := ∀ d m pc ls st h o hE, rec d m pc ls st h = some (o, hE) → Grow h hE ∧ WS mt G d m pc ls st h o hE
def Snd (mt : Nat → MT) (G : AG) (m pc : Nat) (op : AOp) : Prop := ∀ rec, Good mt G rec → ∀ d ls st h o hE, drv rec d m (op d ls st h) = some (o, hE) → Grow h hE ∧ WS mt G d m pc ls st h o hE
theorem good_aF {mt : Nat → MT} {G : AG} {J : Nat → Nat → AOp} (hJ : ∀ m pc, Snd mt G m pc (J m pc)) : ∀ n, Good mt G (aF J n)
  | 0 => fun _ _ _ _ _ _ _ _ h => by cases h
  | n + 1 => fun d m pc ls st h o hE e => hJ m pc _ (good_aF hJ n) d ls st h o hE e
theorem good_ev {mt : Nat → MT} {G : AG} {J : Nat → Nat → AOp} (hJ : ∀ m pc, Snd mt G m pc (J m pc)) : Good mt G (evJ J) := by
  intro d m pc ls st h o hE e
  obtain ⟨n, hn⟩ := (evJ_iff J _ _ _ _ _ _ _).mp e
  exact good_aF hJ n _ _ _ _ _ _ _ _ hn
theorem snd_stuck {mt : Nat → MT} {G : AG} {m pc : Nat} : Snd mt G m pc (fun _ _ _ _ => stuck) := fun _ _ _ _ _ _ _ _ e => by cases e
/-- an instruction that leaves the heap as it is -/
def PRow (mt : Nat → MT) (G : AG) (m pc : Nat) (ls : ALs) (st : List Value) (h : AH) (pc' : Nat) (ls' : ALs) (st' : List Value) : Prop :=
  ∀ (p : Program) (l : Launch) (e : Env) (R : Room) (s : State) (mi : MethodId) (args : Array Value) (below : List Frame) (meth : Method) (c : Code) (H : Heap) (locs : List Loc) (cells slots : Nat) (Q : State → Prop), p.tables.exec = Jvm.exec → c.code = (mt m).2.1 → s.vm.findClass (mt m).1.cls = some mi.cls → (∀ w ∈ lw_all, w.before args s = true) → EnvOK G s → HR G s h H → va_S (fre G) s.heap H locs → c.maxLocals = (mt m).2.2.1 → mFr mt 0 m ≤ R.frames → mLo mt 0 m ≤ R.locals →
  ∀ L, LR (mt m).2.2.1 ls L → (∀ L', LR (mt m).2.2.1 ls' L' → W p l e R s mi args below meth c H locs cells slots Q (F0 mi pc' L' st')) → W p l e R s mi args below meth c H locs cells slots Q (F0 mi pc L st)
theorem ws_prow {mt : Nat → MT} {G : AG} {d m pc pc' : Nat} {ls ls' : ALs} {st st' : List Value} {h : AH} {o : Outcome} {hE : AH} (hP : PRow mt G m pc ls st h pc' ls' st') (hw : WS mt G d m pc' ls' st' h o hE) : WS mt G d m pc ls st h o hE := by
  intro p l e R s mi args below meth c sl0 C H locs cells slots L hL hR h1 h2 hS
  have C' := C
  obtain ⟨hx, hb, hml, ho, -, -, -, ht, -, hEn, -, -, hfr, hlo, -, -⟩ := C'
  exact hP p l e R s mi args below meth c H locs cells slots _ hx hb ho ht hEn hR hS hml (Nat.le_trans (by unfold mFr; omega) hfr) (Nat.le_trans (by unfold mLo; omega) hlo) L hL (fun L' hL' => hw p l e R s mi args below meth c sl0 C H locs cells slots L' hL' hR h1 h2 hS)
theorem snd_prow {mt : Nat → MT} {G : AG} {m pc : Nat} {op : AOp} (hop : ∀ d ls st h, op d ls st h = stuck ∨ ∃ pc' ls' st', op d ls st h = nx pc' ls' st' h ∧ PRow mt G m pc ls st h pc' ls' st') : Snd mt G m pc op := by
  intro rec hrec d ls st h o hE e
  rcases hop d ls st h with h0 | ⟨pc', ls', st', h1, h2⟩
  · rw [h0] at e; cases e
  · rw [h1] at e
    obtain ⟨g1, g2⟩ := hrec _ _ _ _ _ _ _ _ e
    exact ⟨g1, ws_prow h2 g2⟩
theorem drv_ite (rec : ARec) (d m : Nat) (c : Prop) [Decidable c] (a b : AAct) : drv rec d m (if c then a else b) = if c then drv rec d m a else drv rec d m b := by split <;> rfl
