/-! class tables (out of claim/names), the list of classes, of array kinds, of statics and texts -/
set_option maxRecDepth 100000
def RX1 : String := "LimbBenches"
def TX1 : u_T := fun k => match k with
  | 0 => ("LimbBenches", "state", "LLimbBenches$State;", false)
  | 1 => ("LimbBenches", "rules", "Ljava/util/ArrayList;", true)
  | 2 => ("LimbBenches", "clauses", "Ljava/util/ArrayList;", false)
  | 3 => ("LimbBenches", "none", "Ljava/util/ArrayList;", true)
  | 4 => ("LimbBenches", "taped", "I", false)
  | 5 => ("LimbBenches", "faultAt", "I", false)
  | 6 => ("LimbBenches", "imageMany", "I", false)
  | 7 => ("LimbBenches", "tape", "[B", true)
  | 8 => ("LimbBenches", "images", "[LLimbBenches$State;", true)
  | 9 => ("LimbBenches", "names", "[I", true)
  | 10 => ("LimbBenches", "picked", "[I", true)
  | 11 => ("LimbBenches", "bestPicked", "[I", true)
  | 12 => ("LimbBenches", "bestWorth", "I", false)
  | 13 => ("LimbBenches", "bestPrice", "I", false)
  | 14 => ("LimbBenches", "isChosen", "Z", false)
  | 15 => ("LimbBenches", "order", "[I", true)
  | 16 => ("LimbBenches", "bestOrder", "[I", true)
  | 17 => ("LimbBenches", "lateJob", "I", false)
  | 18 => ("LimbBenches", "lateHours", "I", false)
  | 19 => ("LimbBenches", "bestCost", "I", false)
  | 20 => ("LimbBenches", "lentTo", "[I", true)
  | 21 => ("LimbBenches", "bestLent", "[I", true)
  | _ => ("LimbBenches", "bestLending", "I", false)
def tyX1 : Nat → FieldType := fun k => match k with
  | 0 => .object "LimbBenches$State"
  | 1 => .object "java/util/ArrayList"
  | 2 => .object "java/util/ArrayList"
  | 3 => .object "java/util/ArrayList"
  | 4 => .int
  | 5 => .int
  | 6 => .int
  | 7 => .array .byte
  | 8 => .array (.object "LimbBenches$State")
  | 9 => .array .int
  | 10 => .array .int
  | 11 => .array .int
  | 12 => .int
  | 13 => .int
  | 14 => .boolean
  | 15 => .array .int
  | 16 => .array .int
  | 17 => .int
  | 18 => .int
  | 19 => .int
  | 20 => .array .int
  | 21 => .array .int
  | _ => .int
abbrev wsX10 : List Cond := u_ws RX1 TX1 23
theorem nmX1 : ∀ a, a < 23 → ∀ b, b < 23 → a ≠ b → (TX1 a).2.1 ≠ (TX1 b).2.1 := by decide +kernel
theorem tyX1_ok : ∀ k, k < 23 → parseFieldDescriptor (TX1 k).2.2.1 = some (tyX1 k) := by decide +kernel
theorem in_X1 : ∀ w ∈ wsX10, w ∈ lw_all := lw_in wsX10 [646, 648, 650, 652, 654, 656, 658, 660, 662, 664, 666, 668, 670, 672, 674, 676, 678, 680, 682, 684, 686, 688, 690] (by decide +kernel) (by decide +kernel)
theorem q184 : (Jvm.Cond.instantiable "LimbBenches" (23 : Nat)) ∈ lw_all := lw_g (lw_at lw_m1 56 rfl) rfl
def RX2 : String := "LimbBenches$State"
def TX2 : u_T := fun k => match k with
  | 0 => ("LimbBenches$State", "models", "Ljava/util/ArrayList;", true)
  | 1 => ("LimbBenches$State", "persons", "Ljava/util/ArrayList;", true)
  | 2 => ("LimbBenches$State", "jobs", "Ljava/util/ArrayList;", true)
  | 3 => ("LimbBenches$State", "walks", "Ljava/util/ArrayList;", true)
  | 4 => ("LimbBenches$State", "causes", "Ljava/util/ArrayList;", true)
  | 5 => ("LimbBenches$State", "fittings", "Ljava/util/ArrayList;", true)
  | 6 => ("LimbBenches$State", "makers", "Ljava/util/ArrayList;", true)
  | 7 => ("LimbBenches$State", "ordered", "Ljava/util/ArrayList;", true)
  | 8 => ("LimbBenches$State", "measures", "Ljava/util/ArrayList;", true)
  | 9 => ("LimbBenches$State", "pairs", "Ljava/util/ArrayList;", true)
  | 10 => ("LimbBenches$State", "spares", "[I", true)
  | 11 => ("LimbBenches$State", "stock", "[I", true)
  | 12 => ("LimbBenches$State", "today", "I", false)
  | 13 => ("LimbBenches$State", "spareMany", "I", false)
  | 14 => ("LimbBenches$State", "are", "I", false)
  | 15 => ("LimbBenches$State", "not", "I", false)
  | 16 => ("LimbBenches$State", "fitter", "I", false)
  | 17 => ("LimbBenches$State", "blisters", "I", false)
  | _ => ("LimbBenches$State", "benches", "I", false)
def tyX2 : Nat → FieldType := fun k => match k with
  | 0 => .object "java/util/ArrayList"
  | 1 => .object "java/util/ArrayList"
  | 2 => .object "java/util/ArrayList"
  | 3 => .object "java/util/ArrayList"
  | 4 => .object "java/util/ArrayList"
  | 5 => .object "java/util/ArrayList"
  | 6 => .object "java/util/ArrayList"
  | 7 => .object "java/util/ArrayList"
  | 8 => .object "java/util/ArrayList"
  | 9 => .object "java/util/ArrayList"
  | 10 => .array .int
  | 11 => .array .int
  | 12 => .int
  | 13 => .int
  | 14 => .int
  | 15 => .int
  | 16 => .int
  | 17 => .int
  | _ => .int
abbrev wsX20 : List Cond := u_ws RX2 TX2 19
theorem nmX2 : ∀ a, a < 19 → ∀ b, b < 19 → a ≠ b → (TX2 a).2.1 ≠ (TX2 b).2.1 := by decide +kernel
theorem tyX2_ok : ∀ k, k < 19 → parseFieldDescriptor (TX2 k).2.2.1 = some (tyX2 k) := by decide +kernel
theorem in_X2 : ∀ w ∈ wsX20, w ∈ lw_all := lw_in wsX20 [580, 582, 584, 586, 588, 590, 592, 594, 596, 598, 600, 602, 604, 606, 608, 610, 612, 614, 616] (by decide +kernel) (by decide +kernel)
theorem q192 : (Jvm.Cond.instantiable "LimbBenches$State" (19 : Nat)) ∈ lw_all := lw_g (lw_at lw_m1 64 rfl) rfl
def RJ2 : String := "java/util/ArrayList"
def TJ2 : u_T := fun k => match k with
  | 0 => ("java/util/AbstractList", "modCount", "I", false)
  | 1 => ("java/util/ArrayList", "elementData", "[Ljava/lang/Object;", false)
  | _ => ("java/util/ArrayList", "size", "I", false)
def tyJ2 : Nat → FieldType := fun k => match k with
  | 0 => .int
  | 1 => .array (.object "java/lang/Object")
  | _ => .int
abbrev wsJ20 : List Cond := u_ws RJ2 TJ2 3
theorem nmJ2 : ∀ a, a < 3 → ∀ b, b < 3 → a ≠ b → (TJ2 a).2.1 ≠ (TJ2 b).2.1 := by decide +kernel
theorem tyJ2_ok : ∀ k, k < 3 → parseFieldDescriptor (TJ2 k).2.2.1 = some (tyJ2 k) := by decide +kernel
theorem in_J2 : ∀ w ∈ wsJ20, w ∈ lw_all := lw_in wsJ20 [539, 535, 537] (by decide +kernel) (by decide +kernel)
theorem q198 : (Jvm.Cond.instantiable "java/util/ArrayList" (3 : Nat)) ∈ lw_all := lw_g (lw_at lw_m1 70 rfl) rfl
def RX3 : String := "LimbBenchesModel"
def TX3 : u_T := fun k => match k with
  | 0 => ("LimbBenchesModel", "thrown", "I", false)
  | 1 => ("LimbBenchesModel", "tape", "I", false)
  | 2 => ("LimbBenchesModel", "size", "I", false)
  | 3 => ("LimbBenchesModel", "place", "I", false)
  | 4 => ("LimbBenchesModel", "at", "I", false)
  | 5 => ("LimbBenchesModel", "open", "I", false)
  | 6 => ("LimbBenchesModel", "fault", "I", false)
  | 7 => ("LimbBenchesModel", "faultAt", "I", false)
  | 8 => ("LimbBenchesModel", "told", "I", false)
  | 9 => ("LimbBenchesModel", "isFed", "Z", false)
  | 10 => ("LimbBenchesModel", "fed", "[I", true)
  | 11 => ("LimbBenchesModel", "text", "[[I", true)
  | 12 => ("LimbBenchesModel", "textSize", "[I", true)
  | 13 => ("LimbBenchesModel", "fromDay", "[I", true)
  | 14 => ("LimbBenchesModel", "rules", "I", false)
  | 15 => ("LimbBenchesModel", "which", "I", false)
  | 16 => ("LimbBenchesModel", "names", "[I", true)
  | 17 => ("LimbBenchesModel", "bars", "[I", true)
  | 18 => ("LimbBenchesModel", "life", "[I", true)
  | 19 => ("LimbBenchesModel", "reuses", "[I", true)
  | 20 => ("LimbBenchesModel", "right", "I", false)
  | 21 => ("LimbBenchesModel", "needs", "I", false)
  | 22 => ("LimbBenchesModel", "wait", "I", false)
  | 23 => ("LimbBenchesModel", "among", "I", false)
  | 24 => ("LimbBenchesModel", "firstAmong", "I", false)
  | 25 => ("LimbBenchesModel", "calls", "I", false)
  | 26 => ("LimbBenchesModel", "call", "[[I", true)
  | 27 => ("LimbBenchesModel", "today", "I", false)
  | 28 => ("LimbBenchesModel", "models", "I", false)
  | 29 => ("LimbBenchesModel", "persons", "I", false)
  | 30 => ("LimbBenchesModel", "jobs", "I", false)
  | 31 => ("LimbBenchesModel", "spares", "I", false)
  | 32 => ("LimbBenchesModel", "causes", "I", false)
  | 33 => ("LimbBenchesModel", "are", "I", false)
  | 34 => ("LimbBenchesModel", "not", "I", false)
  | 35 => ("LimbBenchesModel", "walks", "I", false)
  | 36 => ("LimbBenchesModel", "images", "I", false)
  | 37 => ("LimbBenchesModel", "benches", "I", false)
  | 38 => ("LimbBenchesModel", "makers", "I", false)
  | 39 => ("LimbBenchesModel", "ordered", "I", false)
  | 40 => ("LimbBenchesModel", "fittings", "I", false)
  | 41 => ("LimbBenchesModel", "fitter", "I", false)
  | 42 => ("LimbBenchesModel", "measures", "I", false)
  | 43 => ("LimbBenchesModel", "blisters", "I", false)
  | 44 => ("LimbBenchesModel", "pairs", "I", false)
  | 45 => ("LimbBenchesModel", "model", "[[I", true)
  | 46 => ("LimbBenchesModel", "person", "[[I", true)
  | 47 => ("LimbBenchesModel", "part", "[I", true)
  | 48 => ("LimbBenchesModel", "gone", "[I", true)
  | 49 => ("LimbBenchesModel", "fitting", "[[I", true)
  | 50 => ("LimbBenchesModel", "thing", "[[I", true)
  | 51 => ("LimbBenchesModel", "lead", "[I", true)
  | 52 => ("LimbBenchesModel", "stock", "[I", true)
  | 53 => ("LimbBenchesModel", "measure", "[[I", true)
  | 54 => ("LimbBenchesModel", "pair", "[[I", true)
  | 55 => ("LimbBenchesModel", "spent", "[[I", true)
  | 56 => ("LimbBenchesModel", "job", "[[I", true)
  | 57 => ("LimbBenchesModel", "cause", "[[I", true)
  | 58 => ("LimbBenchesModel", "walk", "[[I", true)
  | 59 => ("LimbBenchesModel", "spare", "[I", true)
  | 60 => ("LimbBenchesModel", "best", "[I", true)
  | 61 => ("LimbBenchesModel", "order", "[I", true)
  | 62 => ("LimbBenchesModel", "bestCost", "I", false)
  | 63 => ("LimbBenchesModel", "choice", "[I", true)
  | 64 => ("LimbBenchesModel", "tried", "[I", true)
  | 65 => ("LimbBenchesModel", "choiceWorth", "I", false)
  | 66 => ("LimbBenchesModel", "choicePrice", "I", false)
  | 67 => ("LimbBenchesModel", "reach", "[[I", true)
  | 68 => ("LimbBenchesModel", "kept", "[[I", true)
  | 69 => ("LimbBenchesModel", "spot", "I", false)
  | _ => ("LimbBenchesModel", "found", "I", false)
def tyX3 : Nat → FieldType := fun k => match k with
  | 0 => .int
  | 1 => .int
  | 2 => .int
  | 3 => .int
  | 4 => .int
  | 5 => .int
  | 6 => .int
  | 7 => .int
  | 8 => .int
  | 9 => .boolean
  | 10 => .array .int
  | 11 => .array (.array .int)
  | 12 => .array .int
  | 13 => .array .int
  | 14 => .int
  | 15 => .int
  | 16 => .array .int
  | 17 => .array .int
  | 18 => .array .int
  | 19 => .array .int
  | 20 => .int
  | 21 => .int
  | 22 => .int
  | 23 => .int
  | 24 => .int
  | 25 => .int
  | 26 => .array (.array .int)
  | 27 => .int
  | 28 => .int
  | 29 => .int
  | 30 => .int
  | 31 => .int
  | 32 => .int
  | 33 => .int
  | 34 => .int
  | 35 => .int
  | 36 => .int
  | 37 => .int
  | 38 => .int
  | 39 => .int
  | 40 => .int
  | 41 => .int
  | 42 => .int
  | 43 => .int
  | 44 => .int
  | 45 => .array (.array .int)
  | 46 => .array (.array .int)
  | 47 => .array .int
  | 48 => .array .int
  | 49 => .array (.array .int)
  | 50 => .array (.array .int)
  | 51 => .array .int
  | 52 => .array .int
  | 53 => .array (.array .int)
  | 54 => .array (.array .int)
  | 55 => .array (.array .int)
  | 56 => .array (.array .int)
  | 57 => .array (.array .int)
  | 58 => .array (.array .int)
  | 59 => .array .int
  | 60 => .array .int
  | 61 => .array .int
  | 62 => .int
  | 63 => .array .int
  | 64 => .array .int
  | 65 => .int
  | 66 => .int
  | 67 => .array (.array .int)
  | 68 => .array (.array .int)
  | 69 => .int
  | _ => .int
abbrev wsX30 : List Cond := u_ws RX3 TX3 71
theorem nmX3 : ∀ a, a < 71 → ∀ b, b < 71 → a ≠ b → (TX3 a).2.1 ≠ (TX3 b).2.1 := by decide +kernel
theorem tyX3_ok : ∀ k, k < 71 → parseFieldDescriptor (TX3 k).2.2.1 = some (tyX3 k) := by decide +kernel
theorem in_X3 : ∀ w ∈ wsX30, w ∈ lw_all := lw_in wsX30 [2476, 2478, 2480, 2482, 2484, 2486, 2488, 2490, 2492, 2494, 2496, 2498, 2500, 2502, 2504, 2506, 2508, 2510, 2512, 2514, 2516, 2518, 2520, 2522, 2524, 2526, 2528, 2530, 2532, 2534, 2536, 2538, 2540, 2542, 2544, 2546, 2548, 2550, 2552, 2554, 2556, 2558, 2560, 2562, 2564, 2566, 2568, 2570, 2572, 2574, 2576, 2578, 2580, 2582, 2584, 2586, 2588, 2590, 2592, 2594, 2596, 2598, 2600, 2602, 2604, 2606, 2608, 2610, 2612, 2614, 2616] (by decide +kernel) (by decide +kernel)
theorem q2398 : (Jvm.Cond.instantiable "LimbBenchesModel" (71 : Nat)) ∈ lw_all := lw_g (lw_at lw_m10 110 rfl) rfl
def RX4 : String := "LimbBenches$Rules"
def TX4 : u_T := fun k => match k with
  | 0 => ("LimbBenches$Rules", "from", "I", true)
  | _ => ("LimbBenches$Rules", "clauses", "Ljava/util/ArrayList;", true)
def tyX4 : Nat → FieldType := fun k => match k with
  | 0 => .int
  | _ => .object "java/util/ArrayList"
abbrev wsX40 : List Cond := u_ws RX4 TX4 2
theorem nmX4 : ∀ a, a < 2 → ∀ b, b < 2 → a ≠ b → (TX4 a).2.1 ≠ (TX4 b).2.1 := by decide +kernel
theorem tyX4_ok : ∀ k, k < 2 → parseFieldDescriptor (TX4 k).2.2.1 = some (tyX4 k) := by decide +kernel
theorem in_X4 : ∀ w ∈ wsX40, w ∈ lw_all := lw_in wsX40 [1600, 1602] (by decide +kernel) (by decide +kernel)
theorem q1194 : (Jvm.Cond.instantiable "LimbBenches$Rules" (2 : Nat)) ∈ lw_all := lw_g (lw_at lw_m5 106 rfl) rfl
def RX5 : String := "LimbBenches$Reader"
def TX5 : u_T := fun k => match k with
  | 0 => ("LimbBenches$Reader", "text", "[B", true)
  | 1 => ("LimbBenches$Reader", "size", "I", true)
  | 2 => ("LimbBenches$Reader", "next", "I", false)
  | _ => ("LimbBenches$Reader", "open", "I", false)
def tyX5 : Nat → FieldType := fun k => match k with
  | 0 => .array .byte
  | 1 => .int
  | 2 => .int
  | _ => .int
abbrev wsX50 : List Cond := u_ws RX5 TX5 4
theorem nmX5 : ∀ a, a < 4 → ∀ b, b < 4 → a ≠ b → (TX5 a).2.1 ≠ (TX5 b).2.1 := by decide +kernel
theorem tyX5_ok : ∀ k, k < 4 → parseFieldDescriptor (TX5 k).2.2.1 = some (tyX5 k) := by decide +kernel
theorem in_X5 : ∀ w ∈ wsX50, w ∈ lw_all := lw_in wsX50 [1205, 1207, 1209, 1211] (by decide +kernel) (by decide +kernel)
theorem q1196 : (Jvm.Cond.instantiable "LimbBenches$Reader" (4 : Nat)) ∈ lw_all := lw_g (lw_at lw_m5 108 rfl) rfl
def RX6 : String := "LimbBenches$Wrong"
def TX6 : u_T := fun k => match k with
  | 0 => ("java/lang/Throwable", "cause", "Ljava/lang/Throwable;", false)
  | 1 => ("java/lang/Throwable", "stackTrace", "[Ljava/lang/StackTraceElement;", false)
  | 2 => ("java/lang/Throwable", "suppressedExceptions", "Ljava/util/List;", false)
  | 3 => ("java/lang/Throwable", "detailMessage", "Ljava/lang/String;", false)
  | 4 => ("java/lang/Throwable", "backtrace", "Ljava/lang/Object;", false)
  | 5 => ("java/lang/Throwable", "depth", "I", false)
  | 6 => ("LimbBenches$Wrong", "kind", "I", true)
  | _ => ("LimbBenches$Wrong", "place", "I", true)
def tyX6 : Nat → FieldType := fun k => match k with
  | 0 => .object "java/lang/Throwable"
  | 1 => .array (.object "java/lang/StackTraceElement")
  | 2 => .object "java/util/List"
  | 3 => .object "java/lang/String"
  | 4 => .object "java/lang/Object"
  | 5 => .int
  | 6 => .int
  | _ => .int
abbrev wsX60 : List Cond := u_ws RX6 TX6 8
theorem nmX6 : ∀ a, a < 8 → ∀ b, b < 8 → a ≠ b → (TX6 a).2.1 ≠ (TX6 b).2.1 := by decide +kernel
theorem tyX6_ok : ∀ k, k < 8 → parseFieldDescriptor (TX6 k).2.2.1 = some (tyX6 k) := by decide +kernel
theorem in_X6 : ∀ w ∈ wsX60, w ∈ lw_all := lw_in wsX60 [1341, 1342, 1343, 1344, 1345, 1363, 1359, 1361] (by decide +kernel) (by decide +kernel)
theorem q1338 : (Jvm.Cond.instantiable "LimbBenches$Wrong" (8 : Nat)) ∈ lw_all := lw_g (lw_at lw_m6 10 rfl) rfl
def RX8 : String := "LimbBenches$Bar"
def TX8 : u_T := fun k => match k with
  | 0 => ("LimbBenches$Clause", "c", "LLimbBenches$Cond;", false)
  | 1 => ("LimbBenches$Bar", "one", "I", true)
  | _ => ("LimbBenches$Bar", "other", "I", true)
def tyX8 : Nat → FieldType := fun k => match k with
  | 0 => .object "LimbBenches$Cond"
  | 1 => .int
  | _ => .int
abbrev wsX80 : List Cond := u_ws RX8 TX8 3
theorem nmX8 : ∀ a, a < 3 → ∀ b, b < 3 → a ≠ b → (TX8 a).2.1 ≠ (TX8 b).2.1 := by decide +kernel
theorem tyX8_ok : ∀ k, k < 3 → parseFieldDescriptor (TX8 k).2.2.1 = some (tyX8 k) := by decide +kernel
theorem in_X8 : ∀ w ∈ wsX80, w ∈ lw_all := lw_in wsX80 [1392, 1388, 1390] (by decide +kernel) (by decide +kernel)
theorem q1376 : (Jvm.Cond.instantiable "LimbBenches$Bar" (3 : Nat)) ∈ lw_all := lw_g (lw_at lw_m6 48 rfl) rfl
def RX9 : String := "LimbBenches$Told"
def TX9 : u_T := fun k => match k with
  | 0 => ("LimbBenches$Clause", "c", "LLimbBenches$Cond;", false)
  | 1 => ("LimbBenches$Told", "what", "C", true)
  | 2 => ("LimbBenches$Told", "kind", "I", true)
  | _ => ("LimbBenches$Told", "e", "LLimbBenches$Expr;", true)
def tyX9 : Nat → FieldType := fun k => match k with
  | 0 => .object "LimbBenches$Cond"
  | 1 => .char
  | 2 => .int
  | _ => .object "LimbBenches$Expr"
abbrev wsX90 : List Cond := u_ws RX9 TX9 4
theorem nmX9 : ∀ a, a < 4 → ∀ b, b < 4 → a ≠ b → (TX9 a).2.1 ≠ (TX9 b).2.1 := by decide +kernel
theorem tyX9_ok : ∀ k, k < 4 → parseFieldDescriptor (TX9 k).2.2.1 = some (tyX9 k) := by decide +kernel
theorem in_X9 : ∀ w ∈ wsX90, w ∈ lw_all := lw_in wsX90 [1496, 1490, 1492, 1494] (by decide +kernel) (by decide +kernel)
theorem q1396 : (Jvm.Cond.instantiable "LimbBenches$Told" (4 : Nat)) ∈ lw_all := lw_g (lw_at lw_m6 68 rfl) rfl
def RX10 : String := "LimbBenches$Num"
def TX10 : u_T := fun k => match k with
  | _ => ("LimbBenches$Num", "v", "I", true)
def tyX10 : Nat → FieldType := fun k => match k with
  | _ => .int
abbrev wsX100 : List Cond := u_ws RX10 TX10 1
theorem nmX10 : ∀ a, a < 1 → ∀ b, b < 1 → a ≠ b → (TX10 a).2.1 ≠ (TX10 b).2.1 := by decide +kernel
theorem tyX10_ok : ∀ k, k < 1 → parseFieldDescriptor (TX10 k).2.2.1 = some (tyX10 k) := by decide +kernel
theorem in_X10 : ∀ w ∈ wsX100, w ∈ lw_all := lw_in wsX100 [1416] (by decide +kernel) (by decide +kernel)
theorem q1410 : (Jvm.Cond.instantiable "LimbBenches$Num" (1 : Nat)) ∈ lw_all := lw_g (lw_at lw_m6 82 rfl) rfl
def RX11 : String := "LimbBenches$Two"
def TX11 : u_T := fun k => match k with
  | 0 => ("LimbBenches$Two", "sign", "C", true)
  | 1 => ("LimbBenches$Two", "a", "LLimbBenches$Expr;", true)
  | _ => ("LimbBenches$Two", "b", "LLimbBenches$Expr;", true)
def tyX11 : Nat → FieldType := fun k => match k with
  | 0 => .char
  | 1 => .object "LimbBenches$Expr"
  | _ => .object "LimbBenches$Expr"
abbrev wsX110 : List Cond := u_ws RX11 TX11 3
theorem nmX11 : ∀ a, a < 3 → ∀ b, b < 3 → a ≠ b → (TX11 a).2.1 ≠ (TX11 b).2.1 := by decide +kernel
theorem tyX11_ok : ∀ k, k < 3 → parseFieldDescriptor (TX11 k).2.2.1 = some (tyX11 k) := by decide +kernel
theorem in_X11 : ∀ w ∈ wsX110, w ∈ lw_all := lw_in wsX110 [1457, 1459, 1461] (by decide +kernel) (by decide +kernel)
theorem q1438 : (Jvm.Cond.instantiable "LimbBenches$Two" (3 : Nat)) ∈ lw_all := lw_g (lw_at lw_m6 110 rfl) rfl
def RX12 : String := "LimbBenches$Name"
def TX12 : u_T := fun k => match k with
  | _ => ("LimbBenches$Name", "at", "I", true)
def tyX12 : Nat → FieldType := fun k => match k with
  | _ => .int
abbrev wsX120 : List Cond := u_ws RX12 TX12 1
theorem nmX12 : ∀ a, a < 1 → ∀ b, b < 1 → a ≠ b → (TX12 a).2.1 ≠ (TX12 b).2.1 := by decide +kernel
theorem tyX12_ok : ∀ k, k < 1 → parseFieldDescriptor (TX12 k).2.2.1 = some (tyX12 k) := by decide +kernel
theorem in_X12 : ∀ w ∈ wsX120, w ∈ lw_all := lw_in wsX120 [1480] (by decide +kernel) (by decide +kernel)
theorem q1474 : (Jvm.Cond.instantiable "LimbBenches$Name" (1 : Nat)) ∈ lw_all := lw_g (lw_at lw_m6 146 rfl) rfl
def RX13 : String := "LimbBenches$Recall"
def TX13 : u_T := fun k => match k with
  | 0 => ("LimbBenches$Clause", "c", "LLimbBenches$Cond;", false)
  | 1 => ("LimbBenches$Recall", "model", "I", true)
  | 2 => ("LimbBenches$Recall", "from", "I", true)
  | _ => ("LimbBenches$Recall", "to", "I", true)
def tyX13 : Nat → FieldType := fun k => match k with
  | 0 => .object "LimbBenches$Cond"
  | 1 => .int
  | 2 => .int
  | _ => .int
abbrev wsX130 : List Cond := u_ws RX13 TX13 4
theorem nmX13 : ∀ a, a < 4 → ∀ b, b < 4 → a ≠ b → (TX13 a).2.1 ≠ (TX13 b).2.1 := by decide +kernel
theorem tyX13_ok : ∀ k, k < 4 → parseFieldDescriptor (TX13 k).2.2.1 = some (tyX13 k) := by decide +kernel
theorem in_X13 : ∀ w ∈ wsX130, w ∈ lw_all := lw_in wsX130 [1513, 1507, 1509, 1511] (by decide +kernel) (by decide +kernel)
theorem q1499 : (Jvm.Cond.instantiable "LimbBenches$Recall" (4 : Nat)) ∈ lw_all := lw_g (lw_at lw_m6 171 rfl) rfl
def RX14 : String := "LimbBenches$Need"
def TX14 : u_T := fun k => match k with
  | 0 => ("LimbBenches$Clause", "c", "LLimbBenches$Cond;", false)
  | _ => ("LimbBenches$Need", "kind", "I", true)
def tyX14 : Nat → FieldType := fun k => match k with
  | 0 => .object "LimbBenches$Cond"
  | _ => .int
abbrev wsX140 : List Cond := u_ws RX14 TX14 2
theorem nmX14 : ∀ a, a < 2 → ∀ b, b < 2 → a ≠ b → (TX14 a).2.1 ≠ (TX14 b).2.1 := by decide +kernel
theorem tyX14_ok : ∀ k, k < 2 → parseFieldDescriptor (TX14 k).2.2.1 = some (tyX14 k) := by decide +kernel
theorem in_X14 : ∀ w ∈ wsX140, w ∈ lw_all := lw_in wsX140 [1524, 1522] (by decide +kernel) (by decide +kernel)
theorem q1516 : (Jvm.Cond.instantiable "LimbBenches$Need" (2 : Nat)) ∈ lw_all := lw_g (lw_at lw_m6 188 rfl) rfl
def RX16 : String := "LimbBenches$Not"
def TX16 : u_T := fun k => match k with
  | _ => ("LimbBenches$Not", "a", "LLimbBenches$Cond;", true)
def tyX16 : Nat → FieldType := fun k => match k with
  | _ => .object "LimbBenches$Cond"
abbrev wsX160 : List Cond := u_ws RX16 TX16 1
theorem nmX16 : ∀ a, a < 1 → ∀ b, b < 1 → a ≠ b → (TX16 a).2.1 ≠ (TX16 b).2.1 := by decide +kernel
theorem tyX16_ok : ∀ k, k < 1 → parseFieldDescriptor (TX16 k).2.2.1 = some (tyX16 k) := by decide +kernel
theorem in_X16 : ∀ w ∈ wsX160, w ∈ lw_all := lw_in wsX160 [1554] (by decide +kernel) (by decide +kernel)
theorem q1545 : (Jvm.Cond.instantiable "LimbBenches$Not" (1 : Nat)) ∈ lw_all := lw_g (lw_at lw_m6 217 rfl) rfl
def RX17 : String := "LimbBenches$Compare"
def TX17 : u_T := fun k => match k with
  | 0 => ("LimbBenches$Compare", "sign", "C", true)
  | 1 => ("LimbBenches$Compare", "a", "LLimbBenches$Expr;", true)
  | _ => ("LimbBenches$Compare", "b", "LLimbBenches$Expr;", true)
def tyX17 : Nat → FieldType := fun k => match k with
  | 0 => .char
  | 1 => .object "LimbBenches$Expr"
  | _ => .object "LimbBenches$Expr"
abbrev wsX170 : List Cond := u_ws RX17 TX17 3
theorem nmX17 : ∀ a, a < 3 → ∀ b, b < 3 → a ≠ b → (TX17 a).2.1 ≠ (TX17 b).2.1 := by decide +kernel
theorem tyX17_ok : ∀ k, k < 3 → parseFieldDescriptor (TX17 k).2.2.1 = some (tyX17 k) := by decide +kernel
theorem in_X17 : ∀ w ∈ wsX170, w ∈ lw_all := lw_in wsX170 [1566, 1568, 1570] (by decide +kernel) (by decide +kernel)
theorem q1558 : (Jvm.Cond.instantiable "LimbBenches$Compare" (3 : Nat)) ∈ lw_all := lw_g (lw_at lw_m6 230 rfl) rfl
def RX18 : String := "LimbBenches$Both"
def TX18 : u_T := fun k => match k with
  | 0 => ("LimbBenches$Both", "or", "Z", true)
  | 1 => ("LimbBenches$Both", "a", "LLimbBenches$Cond;", true)
  | _ => ("LimbBenches$Both", "b", "LLimbBenches$Cond;", true)
def tyX18 : Nat → FieldType := fun k => match k with
  | 0 => .boolean
  | 1 => .object "LimbBenches$Cond"
  | _ => .object "LimbBenches$Cond"
abbrev wsX180 : List Cond := u_ws RX18 TX18 3
theorem nmX18 : ∀ a, a < 3 → ∀ b, b < 3 → a ≠ b → (TX18 a).2.1 ≠ (TX18 b).2.1 := by decide +kernel
theorem tyX18_ok : ∀ k, k < 3 → parseFieldDescriptor (TX18 k).2.2.1 = some (tyX18 k) := by decide +kernel
theorem in_X18 : ∀ w ∈ wsX180, w ∈ lw_all := lw_in wsX180 [1583, 1585, 1587] (by decide +kernel) (by decide +kernel)
theorem q1575 : (Jvm.Cond.instantiable "LimbBenches$Both" (3 : Nat)) ∈ lw_all := lw_g (lw_at lw_m7 7 rfl) rfl
def RX19 : String := "LimbBenches$Model"
def TX19 : u_T := fun k => match k with
  | 0 => ("LimbBenches$Model", "kind", "I", true)
  | 1 => ("LimbBenches$Model", "price", "I", true)
  | 2 => ("LimbBenches$Model", "load", "I", true)
  | _ => ("LimbBenches$Model", "worth", "[I", true)
def tyX19 : Nat → FieldType := fun k => match k with
  | 0 => .int
  | 1 => .int
  | 2 => .int
  | _ => .array .int
abbrev wsX190 : List Cond := u_ws RX19 TX19 4
theorem nmX19 : ∀ a, a < 4 → ∀ b, b < 4 → a ≠ b → (TX19 a).2.1 ≠ (TX19 b).2.1 := by decide +kernel
theorem tyX19_ok : ∀ k, k < 4 → parseFieldDescriptor (TX19 k).2.2.1 = some (tyX19 k) := by decide +kernel
theorem in_X19 : ∀ w ∈ wsX190, w ∈ lw_all := lw_in wsX190 [1637, 1639, 1641, 1643] (by decide +kernel) (by decide +kernel)
theorem q1624 : (Jvm.Cond.instantiable "LimbBenches$Model" (4 : Nat)) ∈ lw_all := lw_g (lw_at lw_m7 56 rfl) rfl
def RX20 : String := "LimbBenches$Person"
def TX20 : u_T := fun k => match k with
  | 0 => ("LimbBenches$Person", "weight", "I", false)
  | 1 => ("LimbBenches$Person", "trade", "I", false)
  | 2 => ("LimbBenches$Person", "steps", "I", false)
  | 3 => ("LimbBenches$Person", "hill", "I", false)
  | 4 => ("LimbBenches$Person", "stump", "I", false)
  | 5 => ("LimbBenches$Person", "growth", "I", false)
  | 6 => ("LimbBenches$Person", "told", "I", false)
  | 7 => ("LimbBenches$Person", "born", "I", true)
  | 8 => ("LimbBenches$Person", "parts", "[LLimbBenches$Part;", true)
  | 9 => ("LimbBenches$Person", "spent", "[I", true)
  | 10 => ("LimbBenches$Person", "fits", "[I", true)
  | _ => ("LimbBenches$Person", "gone", "[I", true)
def tyX20 : Nat → FieldType := fun k => match k with
  | 0 => .int
  | 1 => .int
  | 2 => .int
  | 3 => .int
  | 4 => .int
  | 5 => .int
  | 6 => .int
  | 7 => .int
  | 8 => .array (.object "LimbBenches$Part")
  | 9 => .array .int
  | 10 => .array .int
  | _ => .array .int
abbrev wsX200 : List Cond := u_ws RX20 TX20 12
theorem nmX20 : ∀ a, a < 12 → ∀ b, b < 12 → a ≠ b → (TX20 a).2.1 ≠ (TX20 b).2.1 := by decide +kernel
theorem tyX20_ok : ∀ k, k < 12 → parseFieldDescriptor (TX20 k).2.2.1 = some (tyX20 k) := by decide +kernel
theorem in_X20 : ∀ w ∈ wsX200, w ∈ lw_all := lw_in wsX200 [1090, 1092, 1094, 1096, 1098, 1100, 1102, 1104, 1106, 1108, 1110, 1112] (by decide +kernel) (by decide +kernel)
theorem q1059 : (Jvm.Cond.instantiable "LimbBenches$Person" (12 : Nat)) ∈ lw_all := lw_g (lw_at lw_m4 211 rfl) rfl
def RX21 : String := "LimbBenches$Part"
def TX21 : u_T := fun k => match k with
  | 0 => ("LimbBenches$Part", "model", "I", true)
  | 1 => ("LimbBenches$Part", "serial", "I", true)
  | 2 => ("LimbBenches$Part", "day", "I", true)
  | 3 => ("LimbBenches$Part", "ahead", "I", true)
  | 4 => ("LimbBenches$Part", "size", "I", true)
  | _ => ("LimbBenches$Part", "number", "I", true)
def tyX21 : Nat → FieldType := fun k => match k with
  | 0 => .int
  | 1 => .int
  | 2 => .int
  | 3 => .int
  | 4 => .int
  | _ => .int
abbrev wsX210 : List Cond := u_ws RX21 TX21 6
theorem nmX21 : ∀ a, a < 6 → ∀ b, b < 6 → a ≠ b → (TX21 a).2.1 ≠ (TX21 b).2.1 := by decide +kernel
theorem tyX21_ok : ∀ k, k < 6 → parseFieldDescriptor (TX21 k).2.2.1 = some (tyX21 k) := by decide +kernel
theorem in_X21 : ∀ w ∈ wsX210, w ∈ lw_all := lw_in wsX210 [1842, 1844, 1846, 1848, 1850, 1852] (by decide +kernel) (by decide +kernel)
theorem q1822 : (Jvm.Cond.instantiable "LimbBenches$Part" (6 : Nat)) ∈ lw_all := lw_g (lw_at lw_m8 14 rfl) rfl
def RX22 : String := "LimbBenches$Fitting"
def TX22 : u_T := fun k => match k with
  | 0 => ("LimbBenches$Fitting", "fitter", "I", true)
  | 1 => ("LimbBenches$Fitting", "day", "I", true)
  | _ => ("LimbBenches$Fitting", "blister", "I", true)
def tyX22 : Nat → FieldType := fun k => match k with
  | 0 => .int
  | 1 => .int
  | _ => .int
abbrev wsX220 : List Cond := u_ws RX22 TX22 3
theorem nmX22 : ∀ a, a < 3 → ∀ b, b < 3 → a ≠ b → (TX22 a).2.1 ≠ (TX22 b).2.1 := by decide +kernel
theorem tyX22_ok : ∀ k, k < 3 → parseFieldDescriptor (TX22 k).2.2.1 = some (tyX22 k) := by decide +kernel
theorem in_X22 : ∀ w ∈ wsX220, w ∈ lw_all := lw_in wsX220 [1871, 1873, 1875] (by decide +kernel) (by decide +kernel)
theorem q1860 : (Jvm.Cond.instantiable "LimbBenches$Fitting" (3 : Nat)) ∈ lw_all := lw_g (lw_at lw_m8 52 rfl) rfl
def RX23 : String := "LimbBenches$Job"
def TX23 : u_T := fun k => match k with
  | 0 => ("LimbBenches$Job", "person", "I", true)
  | 1 => ("LimbBenches$Job", "hours", "I", true)
  | 2 => ("LimbBenches$Job", "pain", "I", true)
  | _ => ("LimbBenches$Job", "arrives", "I", true)
def tyX23 : Nat → FieldType := fun k => match k with
  | 0 => .int
  | 1 => .int
  | 2 => .int
  | _ => .int
abbrev wsX230 : List Cond := u_ws RX23 TX23 4
theorem nmX23 : ∀ a, a < 4 → ∀ b, b < 4 → a ≠ b → (TX23 a).2.1 ≠ (TX23 b).2.1 := by decide +kernel
theorem tyX23_ok : ∀ k, k < 4 → parseFieldDescriptor (TX23 k).2.2.1 = some (tyX23 k) := by decide +kernel
theorem in_X23 : ∀ w ∈ wsX230, w ∈ lw_all := lw_in wsX230 [1998, 2000, 2002, 2004] (by decide +kernel) (by decide +kernel)
theorem q1986 : (Jvm.Cond.instantiable "LimbBenches$Job" (4 : Nat)) ∈ lw_all := lw_g (lw_at lw_m8 178 rfl) rfl
def RX24 : String := "LimbBenches$Maker"
def TX24 : u_T := fun k => match k with
  | 0 => ("LimbBenches$Maker", "lead", "I", true)
  | 1 => ("LimbBenches$Maker", "arrived", "I", false)
  | 2 => ("LimbBenches$Maker", "lost", "I", false)
  | 3 => ("LimbBenches$Maker", "sum", "I", false)
  | 4 => ("LimbBenches$Maker", "least", "I", false)
  | _ => ("LimbBenches$Maker", "most", "I", false)
def tyX24 : Nat → FieldType := fun k => match k with
  | 0 => .int
  | 1 => .int
  | 2 => .int
  | 3 => .int
  | 4 => .int
  | _ => .int
abbrev wsX240 : List Cond := u_ws RX24 TX24 6
theorem nmX24 : ∀ a, a < 6 → ∀ b, b < 6 → a ≠ b → (TX24 a).2.1 ≠ (TX24 b).2.1 := by decide +kernel
theorem tyX24_ok : ∀ k, k < 6 → parseFieldDescriptor (TX24 k).2.2.1 = some (tyX24 k) := by decide +kernel
theorem in_X24 : ∀ w ∈ wsX240, w ∈ lw_all := lw_in wsX240 [1143, 1145, 1147, 1149, 1151, 1153] (by decide +kernel) (by decide +kernel)
theorem q1126 : (Jvm.Cond.instantiable "LimbBenches$Maker" (6 : Nat)) ∈ lw_all := lw_g (lw_at lw_m5 38 rfl) rfl
def RX25 : String := "LimbBenches$Ordered"
def TX25 : u_T := fun k => match k with
  | 0 => ("LimbBenches$Ordered", "maker", "I", true)
  | 1 => ("LimbBenches$Ordered", "model", "I", true)
  | 2 => ("LimbBenches$Ordered", "due", "I", true)
  | _ => ("LimbBenches$Ordered", "out", "Z", true)
def tyX25 : Nat → FieldType := fun k => match k with
  | 0 => .int
  | 1 => .int
  | 2 => .int
  | _ => .boolean
abbrev wsX250 : List Cond := u_ws RX25 TX25 4
theorem nmX25 : ∀ a, a < 4 → ∀ b, b < 4 → a ≠ b → (TX25 a).2.1 ≠ (TX25 b).2.1 := by decide +kernel
theorem tyX25_ok : ∀ k, k < 4 → parseFieldDescriptor (TX25 k).2.2.1 = some (tyX25 k) := by decide +kernel
theorem in_X25 : ∀ w ∈ wsX250, w ∈ lw_all := lw_in wsX250 [2077, 2079, 2081, 2083] (by decide +kernel) (by decide +kernel)
theorem q2064 : (Jvm.Cond.instantiable "LimbBenches$Ordered" (4 : Nat)) ∈ lw_all := lw_g (lw_at lw_m9 16 rfl) rfl
def RX26 : String := "LimbBenches$Measure"
def TX26 : u_T := fun k => match k with
  | 0 => ("LimbBenches$Measure", "person", "I", true)
  | 1 => ("LimbBenches$Measure", "day", "I", true)
  | _ => ("LimbBenches$Measure", "size", "I", true)
def tyX26 : Nat → FieldType := fun k => match k with
  | 0 => .int
  | 1 => .int
  | _ => .int
abbrev wsX260 : List Cond := u_ws RX26 TX26 3
theorem nmX26 : ∀ a, a < 3 → ∀ b, b < 3 → a ≠ b → (TX26 a).2.1 ≠ (TX26 b).2.1 := by decide +kernel
theorem tyX26_ok : ∀ k, k < 3 → parseFieldDescriptor (TX26 k).2.2.1 = some (tyX26 k) := by decide +kernel
theorem in_X26 : ∀ w ∈ wsX260, w ∈ lw_all := lw_in wsX260 [2192, 2194, 2196] (by decide +kernel) (by decide +kernel)
theorem q2181 : (Jvm.Cond.instantiable "LimbBenches$Measure" (3 : Nat)) ∈ lw_all := lw_g (lw_at lw_m9 133 rfl) rfl
def RX27 : String := "LimbBenches$Pair"
def TX27 : u_T := fun k => match k with
  | 0 => ("LimbBenches$Pair", "old", "I", true)
  | _ => ("LimbBenches$Pair", "now", "I", true)
def tyX27 : Nat → FieldType := fun k => match k with
  | 0 => .int
  | _ => .int
abbrev wsX270 : List Cond := u_ws RX27 TX27 2
theorem nmX27 : ∀ a, a < 2 → ∀ b, b < 2 → a ≠ b → (TX27 a).2.1 ≠ (TX27 b).2.1 := by decide +kernel
theorem tyX27_ok : ∀ k, k < 2 → parseFieldDescriptor (TX27 k).2.2.1 = some (tyX27 k) := by decide +kernel
theorem in_X27 : ∀ w ∈ wsX270, w ∈ lw_all := lw_in wsX270 [2321, 2323] (by decide +kernel) (by decide +kernel)
theorem q2312 : (Jvm.Cond.instantiable "LimbBenches$Pair" (2 : Nat)) ∈ lw_all := lw_g (lw_at lw_m10 24 rfl) rfl
def RX28 : String := "LimbBenches$Cause"
def TX28 : u_T := fun k => match k with
  | 0 => ("LimbBenches$Cause", "always", "I", true)
  | _ => ("LimbBenches$Cause", "may", "I", true)
def tyX28 : Nat → FieldType := fun k => match k with
  | 0 => .int
  | _ => .int
abbrev wsX280 : List Cond := u_ws RX28 TX28 2
theorem nmX28 : ∀ a, a < 2 → ∀ b, b < 2 → a ≠ b → (TX28 a).2.1 ≠ (TX28 b).2.1 := by decide +kernel
theorem tyX28_ok : ∀ k, k < 2 → parseFieldDescriptor (TX28 k).2.2.1 = some (tyX28 k) := by decide +kernel
theorem in_X28 : ∀ w ∈ wsX280, w ∈ lw_all := lw_in wsX280 [2345, 2347] (by decide +kernel) (by decide +kernel)
theorem q2336 : (Jvm.Cond.instantiable "LimbBenches$Cause" (2 : Nat)) ∈ lw_all := lw_g (lw_at lw_m10 48 rfl) rfl
def RX29 : String := "LimbBenches$Walk"
def TX29 : u_T := fun k => match k with
  | 0 => ("LimbBenches$Walk", "person", "I", true)
  | 1 => ("LimbBenches$Walk", "day", "I", true)
  | _ => ("LimbBenches$Walk", "lean", "I", true)
def tyX29 : Nat → FieldType := fun k => match k with
  | 0 => .int
  | 1 => .int
  | _ => .int
abbrev wsX290 : List Cond := u_ws RX29 TX29 3
theorem nmX29 : ∀ a, a < 3 → ∀ b, b < 3 → a ≠ b → (TX29 a).2.1 ≠ (TX29 b).2.1 := by decide +kernel
theorem tyX29_ok : ∀ k, k < 3 → parseFieldDescriptor (TX29 k).2.2.1 = some (tyX29 k) := by decide +kernel
theorem in_X29 : ∀ w ∈ wsX290, w ∈ lw_all := lw_in wsX290 [2376, 2378, 2380] (by decide +kernel) (by decide +kernel)
theorem q2365 : (Jvm.Cond.instantiable "LimbBenches$Walk" (3 : Nat)) ∈ lw_all := lw_g (lw_at lw_m10 77 rfl) rfl
def RJ8 : String := "java/lang/StringBuilder"
def TJ8 : u_T := fun k => match k with
  | 0 => ("java/lang/AbstractStringBuilder", "value", "[B", false)
  | 1 => ("java/lang/AbstractStringBuilder", "coder", "B", false)
  | 2 => ("java/lang/AbstractStringBuilder", "maybeLatin1", "Z", false)
  | _ => ("java/lang/AbstractStringBuilder", "count", "I", false)
def tyJ8 : Nat → FieldType := fun k => match k with
  | 0 => .array .byte
  | 1 => .byte
  | 2 => .boolean
  | _ => .int
abbrev wsJ80 : List Cond := u_ws RJ8 TJ8 4
theorem nmJ8 : ∀ a, a < 4 → ∀ b, b < 4 → a ≠ b → (TJ8 a).2.1 ≠ (TJ8 b).2.1 := by decide +kernel
theorem tyJ8_ok : ∀ k, k < 4 → parseFieldDescriptor (TJ8 k).2.2.1 = some (tyJ8 k) := by decide +kernel
theorem in_J8 : ∀ w ∈ wsJ80, w ∈ lw_all := lw_in wsJ80 [279, 281, 283, 285] (by decide +kernel) (by decide +kernel)
theorem q258 : (Jvm.Cond.instantiable "java/lang/StringBuilder" (4 : Nat)) ∈ lw_all := lw_g (lw_at lw_m1 130 rfl) rfl
def RJ9 : String := "java/lang/String"
def TJ9 : u_T := fun k => match k with
  | 0 => ("java/lang/String", "value", "[B", true)
  | 1 => ("java/lang/String", "coder", "B", true)
  | 2 => ("java/lang/String", "hash", "I", false)
  | _ => ("java/lang/String", "hashIsZero", "Z", false)
def tyJ9 : Nat → FieldType := fun k => match k with
  | 0 => .array .byte
  | 1 => .byte
  | 2 => .int
  | _ => .boolean
abbrev wsJ90 : List Cond := u_ws RJ9 TJ9 4
theorem nmJ9 : ∀ a, a < 4 → ∀ b, b < 4 → a ≠ b → (TJ9 a).2.1 ≠ (TJ9 b).2.1 := by decide +kernel
theorem tyJ9_ok : ∀ k, k < 4 → parseFieldDescriptor (TJ9 k).2.2.1 = some (tyJ9 k) := by decide +kernel
theorem in_J9 : ∀ w ∈ wsJ90, w ∈ lw_all := lw_in wsJ90 [520, 522, 524, 526] (by decide +kernel) (by decide +kernel)
theorem q440 : (Jvm.Cond.instantiable "java/lang/String" (4 : Nat)) ∈ lw_all := lw_g (lw_at lw_m2 72 rfl) rfl
def RJ17 : String := "java/lang/Integer"
def TJ17 : u_T := fun k => match k with
  | _ => ("java/lang/Integer", "value", "I", true)
def tyJ17 : Nat → FieldType := fun k => match k with
  | _ => .int
abbrev wsJ170 : List Cond := u_ws RJ17 TJ17 1
theorem nmJ17 : ∀ a, a < 1 → ∀ b, b < 1 → a ≠ b → (TJ17 a).2.1 ≠ (TJ17 b).2.1 := by decide +kernel
theorem tyJ17_ok : ∀ k, k < 1 → parseFieldDescriptor (TJ17 k).2.2.1 = some (tyJ17 k) := by decide +kernel
theorem in_J17 : ∀ w ∈ wsJ170, w ∈ lw_all := lw_in wsJ170 [2227] (by decide +kernel) (by decide +kernel)
theorem q2218 : (Jvm.Cond.instantiable "java/lang/Integer" (1 : Nat)) ∈ lw_all := lw_g (lw_at lw_m9 170 rfl) rfl
def RJ6 : String := "java/lang/IllegalArgumentException"
theorem q214 : (Jvm.Cond.instantiable "java/lang/IllegalArgumentException" (6 : Nat)) ∈ lw_all := lw_g (lw_at lw_m1 86 rfl) rfl
def RJ19 : String := "java/lang/IllegalStateException"
theorem q1655 : (Jvm.Cond.instantiable "java/lang/IllegalStateException" (6 : Nat)) ∈ lw_all := lw_g (lw_at lw_m7 87 rfl) rfl
def RJ20 : String := "java/util/NoSuchElementException"
theorem q1693 : (Jvm.Cond.instantiable "java/util/NoSuchElementException" (6 : Nat)) ∈ lw_all := lw_g (lw_at lw_m7 125 rfl) rfl
def RJ21 : String := "java/lang/IndexOutOfBoundsException"
theorem q1768 : (Jvm.Cond.instantiable "java/lang/IndexOutOfBoundsException" (6 : Nat)) ∈ lw_all := lw_g (lw_at lw_m7 200 rfl) rfl
def T0 : u_T := fun _ => ("", "", "", false)
def vwCl : List vw_C := [(RX1, TX1, 23), (RX2, TX2, 19), (RJ2, TJ2, 3), (RX3, TX3, 71), (RX4, TX4, 2), (RX5, TX5, 4), (RX6, TX6, 8), (RX8, TX8, 3), (RX9, TX9, 4), (RX10, TX10, 1), (RX11, TX11, 3), (RX12, TX12, 1), (RX13, TX13, 4), (RX14, TX14, 2), (RX16, TX16, 1), (RX17, TX17, 3), (RX18, TX18, 3), (RX19, TX19, 4), (RX20, TX20, 12), (RX21, TX21, 6), (RX22, TX22, 3), (RX23, TX23, 4), (RX24, TX24, 6), (RX25, TX25, 4), (RX26, TX26, 3), (RX27, TX27, 2), (RX28, TX28, 2), (RX29, TX29, 3), (RJ8, TJ8, 4), (RJ9, TJ9, 4), (RJ17, TJ17, 1), (RJ6, T0, 0), (RJ19, T0, 0), (RJ20, T0, 0), (RJ21, T0, 0)]
/-- what a class's table has to be -/
def CG (r : vw_C) : Prop := (∀ w ∈ u_ws r.1 r.2.1 r.2.2, w ∈ lw_all) ∧ (∃ ty0 : Nat → FieldType, ∀ k, k < r.2.2 → parseFieldDescriptor (r.2.1 k).2.2.1 = some (ty0 k)) ∧ (∀ a, a < r.2.2 → ∀ b, b < r.2.2 → a ≠ b → (r.2.1 a).2.1 ≠ (r.2.1 b).2.1)
theorem CG0 (C : String) : CG (C, T0, 0) := ⟨fun w h => (nomatch h), ⟨fun _ => .int, fun k h => absurd h (Nat.not_lt_zero k)⟩, fun a h => absurd h (Nat.not_lt_zero a)⟩
theorem allCG : ∀ (ci : Nat) (r : vw_C), vwCl[ci]? = some r → CG r := by
  intro ci r h
  match ci, h with
  | 0, h => cases h; exact ⟨in_X1, ⟨tyX1, tyX1_ok⟩, nmX1⟩
  | 1, h => cases h; exact ⟨in_X2, ⟨tyX2, tyX2_ok⟩, nmX2⟩
  | 2, h => cases h; exact ⟨in_J2, ⟨tyJ2, tyJ2_ok⟩, nmJ2⟩
  | 3, h => cases h; exact ⟨in_X3, ⟨tyX3, tyX3_ok⟩, nmX3⟩
  | 4, h => cases h; exact ⟨in_X4, ⟨tyX4, tyX4_ok⟩, nmX4⟩
  | 5, h => cases h; exact ⟨in_X5, ⟨tyX5, tyX5_ok⟩, nmX5⟩
  | 6, h => cases h; exact ⟨in_X6, ⟨tyX6, tyX6_ok⟩, nmX6⟩
  | 7, h => cases h; exact ⟨in_X8, ⟨tyX8, tyX8_ok⟩, nmX8⟩
  | 8, h => cases h; exact ⟨in_X9, ⟨tyX9, tyX9_ok⟩, nmX9⟩
  | 9, h => cases h; exact ⟨in_X10, ⟨tyX10, tyX10_ok⟩, nmX10⟩
  | 10, h => cases h; exact ⟨in_X11, ⟨tyX11, tyX11_ok⟩, nmX11⟩
  | 11, h => cases h; exact ⟨in_X12, ⟨tyX12, tyX12_ok⟩, nmX12⟩
  | 12, h => cases h; exact ⟨in_X13, ⟨tyX13, tyX13_ok⟩, nmX13⟩
  | 13, h => cases h; exact ⟨in_X14, ⟨tyX14, tyX14_ok⟩, nmX14⟩
  | 14, h => cases h; exact ⟨in_X16, ⟨tyX16, tyX16_ok⟩, nmX16⟩
  | 15, h => cases h; exact ⟨in_X17, ⟨tyX17, tyX17_ok⟩, nmX17⟩
  | 16, h => cases h; exact ⟨in_X18, ⟨tyX18, tyX18_ok⟩, nmX18⟩
  | 17, h => cases h; exact ⟨in_X19, ⟨tyX19, tyX19_ok⟩, nmX19⟩
  | 18, h => cases h; exact ⟨in_X20, ⟨tyX20, tyX20_ok⟩, nmX20⟩
  | 19, h => cases h; exact ⟨in_X21, ⟨tyX21, tyX21_ok⟩, nmX21⟩
  | 20, h => cases h; exact ⟨in_X22, ⟨tyX22, tyX22_ok⟩, nmX22⟩
  | 21, h => cases h; exact ⟨in_X23, ⟨tyX23, tyX23_ok⟩, nmX23⟩
  | 22, h => cases h; exact ⟨in_X24, ⟨tyX24, tyX24_ok⟩, nmX24⟩
  | 23, h => cases h; exact ⟨in_X25, ⟨tyX25, tyX25_ok⟩, nmX25⟩
  | 24, h => cases h; exact ⟨in_X26, ⟨tyX26, tyX26_ok⟩, nmX26⟩
  | 25, h => cases h; exact ⟨in_X27, ⟨tyX27, tyX27_ok⟩, nmX27⟩
  | 26, h => cases h; exact ⟨in_X28, ⟨tyX28, tyX28_ok⟩, nmX28⟩
  | 27, h => cases h; exact ⟨in_X29, ⟨tyX29, tyX29_ok⟩, nmX29⟩
  | 28, h => cases h; exact ⟨in_J8, ⟨tyJ8, tyJ8_ok⟩, nmJ8⟩
  | 29, h => cases h; exact ⟨in_J9, ⟨tyJ9, tyJ9_ok⟩, nmJ9⟩
  | 30, h => cases h; exact ⟨in_J17, ⟨tyJ17, tyJ17_ok⟩, nmJ17⟩
  | 31, h => cases h; exact CG0 _
  | 32, h => cases h; exact CG0 _
  | 33, h => cases h; exact CG0 _
  | 34, h => cases h; exact CG0 _
  | k + 35, h => simp [vwCl] at h
theorem allInst : ∀ (ci : Nat) (r : vw_C), vwCl[ci]? = some r → ∃ n, Cond.instantiable r.1 n ∈ lw_all := by
  intro ci r h
  match ci, h with
  | 0, h => cases h; exact ⟨_, q184⟩
  | 1, h => cases h; exact ⟨_, q192⟩
  | 2, h => cases h; exact ⟨_, q198⟩
  | 3, h => cases h; exact ⟨_, q2398⟩
  | 4, h => cases h; exact ⟨_, q1194⟩
  | 5, h => cases h; exact ⟨_, q1196⟩
  | 6, h => cases h; exact ⟨_, q1338⟩
  | 7, h => cases h; exact ⟨_, q1376⟩
  | 8, h => cases h; exact ⟨_, q1396⟩
  | 9, h => cases h; exact ⟨_, q1410⟩
  | 10, h => cases h; exact ⟨_, q1438⟩
  | 11, h => cases h; exact ⟨_, q1474⟩
  | 12, h => cases h; exact ⟨_, q1499⟩
  | 13, h => cases h; exact ⟨_, q1516⟩
  | 14, h => cases h; exact ⟨_, q1545⟩
  | 15, h => cases h; exact ⟨_, q1558⟩
  | 16, h => cases h; exact ⟨_, q1575⟩
  | 17, h => cases h; exact ⟨_, q1624⟩
  | 18, h => cases h; exact ⟨_, q1059⟩
  | 19, h => cases h; exact ⟨_, q1822⟩
  | 20, h => cases h; exact ⟨_, q1860⟩
  | 21, h => cases h; exact ⟨_, q1986⟩
  | 22, h => cases h; exact ⟨_, q1126⟩
  | 23, h => cases h; exact ⟨_, q2064⟩
  | 24, h => cases h; exact ⟨_, q2181⟩
  | 25, h => cases h; exact ⟨_, q2312⟩
  | 26, h => cases h; exact ⟨_, q2336⟩
  | 27, h => cases h; exact ⟨_, q2365⟩
  | 28, h => cases h; exact ⟨_, q258⟩
  | 29, h => cases h; exact ⟨_, q440⟩
  | 30, h => cases h; exact ⟨_, q2218⟩
  | 31, h => cases h; exact ⟨_, q214⟩
  | 32, h => cases h; exact ⟨_, q1655⟩
  | 33, h => cases h; exact ⟨_, q1693⟩
  | 34, h => cases h; exact ⟨_, q1768⟩
  | k + 35, h => simp [vwCl] at h
def aTy : List FieldType := [.int, .byte, .long, .object "java/lang/Object", .object "LimbBenches$Part", .object "LimbBenches$State", .array .int, .object "java/lang/Integer"]
def aoL : List String := ["java/lang/Object", "LimbBenches$Part", "LimbBenches$State"]
def fwL : List (String × MethodName × MethodName) := [("LimbBenches$Num", ⟨"LimbBenches$Expr", "of", "([I)I"⟩, ⟨"LimbBenches$Num", "of", "([I)I"⟩), ("LimbBenches$Name", ⟨"LimbBenches$Expr", "of", "([I)I"⟩, ⟨"LimbBenches$Name", "of", "([I)I"⟩), ("LimbBenches$Two", ⟨"LimbBenches$Expr", "of", "([I)I"⟩, ⟨"LimbBenches$Two", "of", "([I)I"⟩)]
def ncL : List (String × String) := [("java/lang/IllegalArgumentException", "java/util/NoSuchElementException"), ("java/lang/IndexOutOfBoundsException", "java/util/NoSuchElementException"), ("java/lang/IllegalArgumentException", "java/lang/IndexOutOfBoundsException"), ("java/lang/IllegalStateException", "java/lang/IllegalArgumentException")]
def stL : List (String × String × String) := [("java/lang/String", "COMPACT_STRINGS", "Z"), ("java/util/ArrayList", "EMPTY_ELEMENTDATA", "[Ljava/lang/Object;"), ("java/util/ArrayList", "DEFAULTCAPACITY_EMPTY_ELEMENTDATA", "[Ljava/lang/Object;"), ("java/lang/Integer$IntegerCache", "high", "I"), ("java/lang/Integer$IntegerCache", "cache", "[Ljava/lang/Integer;"), ("java/lang/Throwable", "UNASSIGNED_STACK", "[Ljava/lang/StackTraceElement;"), ("java/lang/Throwable", "SUPPRESSED_SENTINEL", "Ljava/util/List;"), ("jdk/internal/util/Preconditions", "SIOOBE_FORMATTER", "Ljava/util/function/BiFunction;")]
def srL : List (String × Nat × String) := [("LimbBenches$Reader", 111, "bar"), ("LimbBenches$Reader", 113, "life"), ("LimbBenches$Reader", 115, "right"), ("LimbBenches$Reader", 117, "need"), ("LimbBenches$Reader", 118, "reuse"), ("LimbBenches$Reader", 120, "recall"), ("LimbBenches$Reader", 122, "wait"), ("LimbBenches$Reader", 207, "least"), ("LimbBenches$Reader", 209, "most"), ("LimbBenches$Reader", 190, "weight"), ("LimbBenches$Reader", 192, "trade"), ("LimbBenches$Reader", 194, "age"), ("LimbBenches$Reader", 196, "hill"), ("LimbBenches$Reader", 198, "steps"), ("LimbBenches$Reader", 200, "spent"), ("LimbBenches$Reader", 89, "if"), ("LimbBenches$Reader", 169, "not"), ("LimbBenches$Reader", 164, "and"), ("LimbBenches$Reader", 154, "or")]
