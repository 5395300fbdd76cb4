/-! THROWING: new exceptions -/
set_option maxRecDepth 100000
theorem thr_tb {args : Array Value} {s : State} (hts : ∀ w ∈ lw_all, w.before args s = true) (htw : ∀ w : Cond, w ∈ lw_tbl → twK w = true → va_Nw w s) : ∀ w ∈ Bundle.throwableAtoms, vx_no w = true → w.before args s = true ∧ vx_ot w = true := by
  refine List.forall_mem_cons.mpr ⟨fun _ => ⟨hts _ q91, rfl⟩, ?_⟩
  refine List.forall_mem_cons.mpr ⟨fun _ => ⟨hts _ q617, rfl⟩, ?_⟩
  refine List.forall_mem_cons.mpr ⟨fun _ => ⟨hts _ q626, rfl⟩, ?_⟩
  refine List.forall_mem_cons.mpr ⟨fun _ => ⟨hts _ q637, rfl⟩, ?_⟩
  refine List.forall_mem_cons.mpr ⟨fun _ => ⟨hts _ q640, rfl⟩, ?_⟩
  refine List.forall_mem_cons.mpr ⟨fun _ => ⟨hts _ q642, rfl⟩, ?_⟩
  refine List.forall_mem_cons.mpr ⟨fun _ => ⟨hts _ q618, rfl⟩, ?_⟩
  refine List.forall_mem_cons.mpr ⟨fun _ => ⟨hts _ q619, rfl⟩, ?_⟩
  refine List.forall_mem_cons.mpr ⟨fun _ => ⟨hts _ q121, rfl⟩, ?_⟩
  refine List.forall_mem_cons.mpr ⟨fun _ => ⟨hts _ q122, rfl⟩, ?_⟩
  refine List.forall_mem_cons.mpr ⟨fun _ => ⟨hts _ q620, rfl⟩, ?_⟩
  refine List.forall_mem_cons.mpr ⟨fun _ => ⟨hts _ q625, rfl⟩, ?_⟩
  refine List.forall_mem_cons.mpr ⟨fun _ => ⟨hts _ q638, rfl⟩, ?_⟩
  refine List.forall_mem_cons.mpr ⟨fun _ => ⟨hts _ q663, rfl⟩, ?_⟩
  refine List.forall_mem_cons.mpr ⟨fun _ => ⟨hts _ q607, rfl⟩, ?_⟩
  refine List.forall_mem_cons.mpr ⟨fun _ => ⟨hts _ q664, rfl⟩, ?_⟩
  refine List.forall_mem_cons.mpr ⟨fun _ => ⟨hts _ q609, rfl⟩, ?_⟩
  refine List.forall_mem_cons.mpr ⟨fun _ => ⟨hts _ q665, rfl⟩, ?_⟩
  refine List.forall_mem_cons.mpr ⟨fun _ => ⟨hts _ q611, rfl⟩, ?_⟩
  refine List.forall_mem_cons.mpr ⟨fun _ => ⟨hts _ q621, rfl⟩, ?_⟩
  refine List.forall_mem_cons.mpr ⟨fun h => absurd h (by decide), ?_⟩
  refine List.forall_mem_cons.mpr ⟨fun _ => ⟨hts _ q623, rfl⟩, ?_⟩
  refine List.forall_mem_cons.mpr ⟨fun h => absurd h (by decide), ?_⟩
  refine List.forall_mem_cons.mpr ⟨fun _ => ⟨hts _ q613, rfl⟩, ?_⟩
  exact fun w h => nomatch h
theorem thr_pE {args : Array Value} {s : State} (hts : ∀ w ∈ lw_all, w.before args s = true) (htw : ∀ w : Cond, w ∈ lw_tbl → twK w = true → va_Nw w s) : ∀ w ∈ Bundle.chain0Atoms "java/lang/Exception" [], vx_no w = true → w.before args s = true ∧ vx_ot w = true := by
  refine List.forall_mem_cons.mpr ⟨fun _ => ⟨hts _ q1108, rfl⟩, ?_⟩
  refine List.forall_mem_cons.mpr ⟨fun _ => ⟨hts _ q1109, rfl⟩, ?_⟩
  refine List.forall_mem_cons.mpr ⟨fun _ => ⟨hts _ q1110, rfl⟩, ?_⟩
  refine List.forall_mem_cons.mpr ⟨fun _ => ⟨hts _ q618, rfl⟩, ?_⟩
  refine List.forall_mem_cons.mpr ⟨fun _ => ⟨(htw _ q602 rfl).use rfl, rfl⟩, ?_⟩
  exact fun w h => nomatch h
theorem thr_pR1 {args : Array Value} {s : State} (hts : ∀ w ∈ lw_all, w.before args s = true) (htw : ∀ w : Cond, w ∈ lw_tbl → twK w = true → va_Nw w s) : ∀ w ∈ Bundle.passAtoms "java/lang/RuntimeException" "java/lang/Exception" 1 Bundle.five, vx_no w = true → w.before args s = true ∧ vx_ot w = true := by
  refine List.forall_mem_cons.mpr ⟨fun _ => ⟨hts _ q1311, rfl⟩, ?_⟩
  refine List.forall_mem_cons.mpr ⟨fun _ => ⟨hts _ q1312, rfl⟩, ?_⟩
  refine List.forall_mem_cons.mpr ⟨fun _ => ⟨hts _ q1313, rfl⟩, ?_⟩
  refine List.forall_mem_cons.mpr ⟨fun _ => ⟨hts _ q1108, rfl⟩, ?_⟩
  refine List.forall_mem_cons.mpr ⟨fun _ => ⟨(htw _ q600 rfl).use rfl, rfl⟩, ?_⟩
  exact fun w h => nomatch h
theorem thr_pR {args : Array Value} {s : State} (hts : ∀ w ∈ lw_all, w.before args s = true) (htw : ∀ w : Cond, w ∈ lw_tbl → twK w = true → va_Nw w s) : ∀ w ∈ Bundle.chain0Atoms "java/lang/RuntimeException" ["java/lang/Exception"], vx_no w = true → w.before args s = true ∧ vx_ot w = true := by
  intro w hw
  rcases List.mem_append.mp hw with h | h
  · revert w h
    intro w hw h
    exact thr_pR1 hts htw w h
  · exact thr_pE hts htw w h
theorem thr_pJ17 {args : Array Value} {s : State} (hts : ∀ w ∈ lw_all, w.before args s = true) (htw : ∀ w : Cond, w ∈ lw_tbl → twK w = true → va_Nw w s) : ∀ w ∈ Bundle.passAtoms "java/lang/IllegalArgumentException" "java/lang/RuntimeException" 1 Bundle.five, vx_no w = true → w.before args s = true ∧ vx_ot w = true := by
  refine List.forall_mem_cons.mpr ⟨fun _ => ⟨hts _ q1521, rfl⟩, ?_⟩
  refine List.forall_mem_cons.mpr ⟨fun _ => ⟨hts _ q1522, rfl⟩, ?_⟩
  refine List.forall_mem_cons.mpr ⟨fun _ => ⟨hts _ q1523, rfl⟩, ?_⟩
  refine List.forall_mem_cons.mpr ⟨fun _ => ⟨hts _ q1311, rfl⟩, ?_⟩
  refine List.forall_mem_cons.mpr ⟨fun _ => ⟨(htw _ q598 rfl).use rfl, rfl⟩, ?_⟩
  exact fun w h => nomatch h
theorem thr_J17 {own : String} {ic : Nat} {args : Array Value} {s : State} (hts : ∀ w ∈ lw_all, w.before args s = true) (htw : ∀ w : Cond, w ∈ lw_tbl → twK w = true → va_Nw w s) (hl : Cond.methodLink own ic (Bundle.init0 "java/lang/IllegalArgumentException") ∈ lw_all) : ∀ w ∈ Bundle.ownAtoms0 own ic "java/lang/IllegalArgumentException" ["java/lang/RuntimeException", "java/lang/Exception"], vx_no w = true → w.before args s = true ∧ vx_ot w = true := by
  have hb : ∀ w ∈ ([.methodLink own ic (Bundle.init0 "java/lang/IllegalArgumentException"), .instantiable "java/lang/IllegalArgumentException" 6, .castable "java/lang/IllegalArgumentException" "java/lang/IllegalArgumentException", .selects "java/lang/IllegalArgumentException" Bundle.tFill0 Bundle.tFill0, .selects "java/lang/IllegalArgumentException" Bundle.tFill Bundle.tFill, .lays "java/lang/IllegalArgumentException" Bundle.tN "cause" "Ljava/lang/Throwable;", .lays "java/lang/IllegalArgumentException" Bundle.tN "stackTrace" Bundle.steD, .lays "java/lang/IllegalArgumentException" Bundle.tN "suppressedExceptions" Bundle.listD, .lays "java/lang/IllegalArgumentException" Bundle.tN "detailMessage" "Ljava/lang/String;", .isRef (.static Bundle.tN "UNASSIGNED_STACK" Bundle.steD), .isRef (.static Bundle.tN "SUPPRESSED_SENTINEL" Bundle.listD), .fieldLink Bundle.tN 198 Bundle.tN "backtrace" "Ljava/lang/Object;", .lays Bundle.tN Bundle.tN "backtrace" "Ljava/lang/Object;", .lays "java/lang/IllegalArgumentException" Bundle.tN "backtrace" "Ljava/lang/Object;"] : List Cond), vx_no w = true → w.before args s = true ∧ vx_ot w = true := by
    refine List.forall_mem_cons.mpr ⟨fun _ => ⟨hts _ hl, rfl⟩, ?_⟩
    refine List.forall_mem_cons.mpr ⟨fun _ => ⟨hts _ q596, rfl⟩, ?_⟩
    refine List.forall_mem_cons.mpr ⟨fun _ => ⟨(htw _ q597 rfl).use rfl, rfl⟩, ?_⟩
    refine List.forall_mem_cons.mpr ⟨fun _ => ⟨hts _ q604, rfl⟩, ?_⟩
    refine List.forall_mem_cons.mpr ⟨fun _ => ⟨hts _ q605, rfl⟩, ?_⟩
    refine List.forall_mem_cons.mpr ⟨fun _ => ⟨hts _ q606, rfl⟩, ?_⟩
    refine List.forall_mem_cons.mpr ⟨fun _ => ⟨hts _ q608, rfl⟩, ?_⟩
    refine List.forall_mem_cons.mpr ⟨fun _ => ⟨hts _ q610, rfl⟩, ?_⟩
    refine List.forall_mem_cons.mpr ⟨fun _ => ⟨hts _ q612, rfl⟩, ?_⟩
    refine List.forall_mem_cons.mpr ⟨fun h => absurd h (by decide), ?_⟩
    refine List.forall_mem_cons.mpr ⟨fun h => absurd h (by decide), ?_⟩
    refine List.forall_mem_cons.mpr ⟨fun _ => ⟨hts _ q616, rfl⟩, ?_⟩
    refine List.forall_mem_cons.mpr ⟨fun _ => ⟨hts _ q615, rfl⟩, ?_⟩
    refine List.forall_mem_cons.mpr ⟨fun _ => ⟨hts _ q614, rfl⟩, ?_⟩
    exact fun w h => nomatch h
  intro w hw
  rcases List.mem_append.mp hw with h | h
  · rcases List.mem_append.mp h with h | h
    · exact thr_tb hts htw w h
    · rcases List.mem_append.mp h with h | h
      · exact thr_pJ17 hts htw w h
      · exact thr_pR hts htw w h
  · exact hb w h
theorem thr_pJ20 {args : Array Value} {s : State} (hts : ∀ w ∈ lw_all, w.before args s = true) (htw : ∀ w : Cond, w ∈ lw_tbl → twK w = true → va_Nw w s) : ∀ w ∈ Bundle.passAtoms "java/util/NoSuchElementException" "java/lang/RuntimeException" 1 Bundle.five, vx_no w = true → w.before args s = true ∧ vx_ot w = true := by
  refine List.forall_mem_cons.mpr ⟨fun _ => ⟨hts _ q1308, rfl⟩, ?_⟩
  refine List.forall_mem_cons.mpr ⟨fun _ => ⟨hts _ q1309, rfl⟩, ?_⟩
  refine List.forall_mem_cons.mpr ⟨fun _ => ⟨hts _ q1310, rfl⟩, ?_⟩
  refine List.forall_mem_cons.mpr ⟨fun _ => ⟨hts _ q1311, rfl⟩, ?_⟩
  refine List.forall_mem_cons.mpr ⟨fun _ => ⟨(htw _ q598 rfl).use rfl, rfl⟩, ?_⟩
  exact fun w h => nomatch h
theorem thr_J20 {own : String} {ic : Nat} {args : Array Value} {s : State} (hts : ∀ w ∈ lw_all, w.before args s = true) (htw : ∀ w : Cond, w ∈ lw_tbl → twK w = true → va_Nw w s) (hl : Cond.methodLink own ic (Bundle.init0 "java/util/NoSuchElementException") ∈ lw_all) : ∀ w ∈ Bundle.ownAtoms0 own ic "java/util/NoSuchElementException" ["java/lang/RuntimeException", "java/lang/Exception"], vx_no w = true → w.before args s = true ∧ vx_ot w = true := by
  have hb : ∀ w ∈ ([.methodLink own ic (Bundle.init0 "java/util/NoSuchElementException"), .instantiable "java/util/NoSuchElementException" 6, .castable "java/util/NoSuchElementException" "java/util/NoSuchElementException", .selects "java/util/NoSuchElementException" Bundle.tFill0 Bundle.tFill0, .selects "java/util/NoSuchElementException" Bundle.tFill Bundle.tFill, .lays "java/util/NoSuchElementException" Bundle.tN "cause" "Ljava/lang/Throwable;", .lays "java/util/NoSuchElementException" Bundle.tN "stackTrace" Bundle.steD, .lays "java/util/NoSuchElementException" Bundle.tN "suppressedExceptions" Bundle.listD, .lays "java/util/NoSuchElementException" Bundle.tN "detailMessage" "Ljava/lang/String;", .isRef (.static Bundle.tN "UNASSIGNED_STACK" Bundle.steD), .isRef (.static Bundle.tN "SUPPRESSED_SENTINEL" Bundle.listD), .fieldLink Bundle.tN 198 Bundle.tN "backtrace" "Ljava/lang/Object;", .lays Bundle.tN Bundle.tN "backtrace" "Ljava/lang/Object;", .lays "java/util/NoSuchElementException" Bundle.tN "backtrace" "Ljava/lang/Object;"] : List Cond), vx_no w = true → w.before args s = true ∧ vx_ot w = true := by
    refine List.forall_mem_cons.mpr ⟨fun _ => ⟨hts _ hl, rfl⟩, ?_⟩
    refine List.forall_mem_cons.mpr ⟨fun _ => ⟨hts _ q1299, rfl⟩, ?_⟩
    refine List.forall_mem_cons.mpr ⟨fun _ => ⟨(htw _ q1300 rfl).use rfl, rfl⟩, ?_⟩
    refine List.forall_mem_cons.mpr ⟨fun _ => ⟨hts _ q1301, rfl⟩, ?_⟩
    refine List.forall_mem_cons.mpr ⟨fun _ => ⟨hts _ q636, rfl⟩, ?_⟩
    refine List.forall_mem_cons.mpr ⟨fun _ => ⟨hts _ q1302, rfl⟩, ?_⟩
    refine List.forall_mem_cons.mpr ⟨fun _ => ⟨hts _ q1303, rfl⟩, ?_⟩
    refine List.forall_mem_cons.mpr ⟨fun _ => ⟨hts _ q1304, rfl⟩, ?_⟩
    refine List.forall_mem_cons.mpr ⟨fun _ => ⟨hts _ q1305, rfl⟩, ?_⟩
    refine List.forall_mem_cons.mpr ⟨fun h => absurd h (by decide), ?_⟩
    refine List.forall_mem_cons.mpr ⟨fun h => absurd h (by decide), ?_⟩
    refine List.forall_mem_cons.mpr ⟨fun _ => ⟨hts _ q616, rfl⟩, ?_⟩
    refine List.forall_mem_cons.mpr ⟨fun _ => ⟨hts _ q615, rfl⟩, ?_⟩
    refine List.forall_mem_cons.mpr ⟨fun _ => ⟨hts _ q1306, rfl⟩, ?_⟩
    exact fun w h => nomatch h
  intro w hw
  rcases List.mem_append.mp hw with h | h
  · rcases List.mem_append.mp h with h | h
    · exact thr_tb hts htw w h
    · rcases List.mem_append.mp h with h | h
      · exact thr_pJ20 hts htw w h
      · exact thr_pR hts htw w h
  · exact hb w h
theorem thr_pJ21 {args : Array Value} {s : State} (hts : ∀ w ∈ lw_all, w.before args s = true) (htw : ∀ w : Cond, w ∈ lw_tbl → twK w = true → va_Nw w s) : ∀ w ∈ Bundle.passAtoms "java/lang/IllegalStateException" "java/lang/RuntimeException" 1 Bundle.five, vx_no w = true → w.before args s = true ∧ vx_ot w = true := by
  refine List.forall_mem_cons.mpr ⟨fun _ => ⟨hts _ q2012, rfl⟩, ?_⟩
  refine List.forall_mem_cons.mpr ⟨fun _ => ⟨hts _ q2013, rfl⟩, ?_⟩
  refine List.forall_mem_cons.mpr ⟨fun _ => ⟨hts _ q2014, rfl⟩, ?_⟩
  refine List.forall_mem_cons.mpr ⟨fun _ => ⟨hts _ q1311, rfl⟩, ?_⟩
  refine List.forall_mem_cons.mpr ⟨fun _ => ⟨(htw _ q598 rfl).use rfl, rfl⟩, ?_⟩
  exact fun w h => nomatch h
theorem thr_J21 {own : String} {ic : Nat} {args : Array Value} {s : State} (hts : ∀ w ∈ lw_all, w.before args s = true) (htw : ∀ w : Cond, w ∈ lw_tbl → twK w = true → va_Nw w s) (hl : Cond.methodLink own ic (Bundle.init0 "java/lang/IllegalStateException") ∈ lw_all) : ∀ w ∈ Bundle.ownAtoms0 own ic "java/lang/IllegalStateException" ["java/lang/RuntimeException", "java/lang/Exception"], vx_no w = true → w.before args s = true ∧ vx_ot w = true := by
  have hb : ∀ w ∈ ([.methodLink own ic (Bundle.init0 "java/lang/IllegalStateException"), .instantiable "java/lang/IllegalStateException" 6, .castable "java/lang/IllegalStateException" "java/lang/IllegalStateException", .selects "java/lang/IllegalStateException" Bundle.tFill0 Bundle.tFill0, .selects "java/lang/IllegalStateException" Bundle.tFill Bundle.tFill, .lays "java/lang/IllegalStateException" Bundle.tN "cause" "Ljava/lang/Throwable;", .lays "java/lang/IllegalStateException" Bundle.tN "stackTrace" Bundle.steD, .lays "java/lang/IllegalStateException" Bundle.tN "suppressedExceptions" Bundle.listD, .lays "java/lang/IllegalStateException" Bundle.tN "detailMessage" "Ljava/lang/String;", .isRef (.static Bundle.tN "UNASSIGNED_STACK" Bundle.steD), .isRef (.static Bundle.tN "SUPPRESSED_SENTINEL" Bundle.listD), .fieldLink Bundle.tN 198 Bundle.tN "backtrace" "Ljava/lang/Object;", .lays Bundle.tN Bundle.tN "backtrace" "Ljava/lang/Object;", .lays "java/lang/IllegalStateException" Bundle.tN "backtrace" "Ljava/lang/Object;"] : List Cond), vx_no w = true → w.before args s = true ∧ vx_ot w = true := by
    refine List.forall_mem_cons.mpr ⟨fun _ => ⟨hts _ hl, rfl⟩, ?_⟩
    refine List.forall_mem_cons.mpr ⟨fun _ => ⟨hts _ q1335, rfl⟩, ?_⟩
    refine List.forall_mem_cons.mpr ⟨fun _ => ⟨(htw _ q1336 rfl).use rfl, rfl⟩, ?_⟩
    refine List.forall_mem_cons.mpr ⟨fun _ => ⟨hts _ q1337, rfl⟩, ?_⟩
    refine List.forall_mem_cons.mpr ⟨fun _ => ⟨hts _ q632, rfl⟩, ?_⟩
    refine List.forall_mem_cons.mpr ⟨fun _ => ⟨hts _ q1338, rfl⟩, ?_⟩
    refine List.forall_mem_cons.mpr ⟨fun _ => ⟨hts _ q1339, rfl⟩, ?_⟩
    refine List.forall_mem_cons.mpr ⟨fun _ => ⟨hts _ q1340, rfl⟩, ?_⟩
    refine List.forall_mem_cons.mpr ⟨fun _ => ⟨hts _ q1341, rfl⟩, ?_⟩
    refine List.forall_mem_cons.mpr ⟨fun h => absurd h (by decide), ?_⟩
    refine List.forall_mem_cons.mpr ⟨fun h => absurd h (by decide), ?_⟩
    refine List.forall_mem_cons.mpr ⟨fun _ => ⟨hts _ q616, rfl⟩, ?_⟩
    refine List.forall_mem_cons.mpr ⟨fun _ => ⟨hts _ q615, rfl⟩, ?_⟩
    refine List.forall_mem_cons.mpr ⟨fun _ => ⟨hts _ q1342, rfl⟩, ?_⟩
    exact fun w h => nomatch h
  intro w hw
  rcases List.mem_append.mp hw with h | h
  · rcases List.mem_append.mp h with h | h
    · exact thr_tb hts htw w h
    · rcases List.mem_append.mp h with h | h
      · exact thr_pJ21 hts htw w h
      · exact thr_pR hts htw w h
  · exact hb w h
theorem thr_pJ22 {args : Array Value} {s : State} (hts : ∀ w ∈ lw_all, w.before args s = true) (htw : ∀ w : Cond, w ∈ lw_tbl → twK w = true → va_Nw w s) : ∀ w ∈ Bundle.passAtoms "java/lang/UnsupportedOperationException" "java/lang/RuntimeException" 1 Bundle.five, vx_no w = true → w.before args s = true ∧ vx_ot w = true := by
  refine List.forall_mem_cons.mpr ⟨fun _ => ⟨hts _ q1367, rfl⟩, ?_⟩
  refine List.forall_mem_cons.mpr ⟨fun _ => ⟨hts _ q1368, rfl⟩, ?_⟩
  refine List.forall_mem_cons.mpr ⟨fun _ => ⟨hts _ q1369, rfl⟩, ?_⟩
  refine List.forall_mem_cons.mpr ⟨fun _ => ⟨hts _ q1311, rfl⟩, ?_⟩
  refine List.forall_mem_cons.mpr ⟨fun _ => ⟨(htw _ q598 rfl).use rfl, rfl⟩, ?_⟩
  exact fun w h => nomatch h
theorem thr_J22 {own : String} {ic : Nat} {args : Array Value} {s : State} (hts : ∀ w ∈ lw_all, w.before args s = true) (htw : ∀ w : Cond, w ∈ lw_tbl → twK w = true → va_Nw w s) (hl : Cond.methodLink own ic (Bundle.init0 "java/lang/UnsupportedOperationException") ∈ lw_all) : ∀ w ∈ Bundle.ownAtoms0 own ic "java/lang/UnsupportedOperationException" ["java/lang/RuntimeException", "java/lang/Exception"], vx_no w = true → w.before args s = true ∧ vx_ot w = true := by
  have hb : ∀ w ∈ ([.methodLink own ic (Bundle.init0 "java/lang/UnsupportedOperationException"), .instantiable "java/lang/UnsupportedOperationException" 6, .castable "java/lang/UnsupportedOperationException" "java/lang/UnsupportedOperationException", .selects "java/lang/UnsupportedOperationException" Bundle.tFill0 Bundle.tFill0, .selects "java/lang/UnsupportedOperationException" Bundle.tFill Bundle.tFill, .lays "java/lang/UnsupportedOperationException" Bundle.tN "cause" "Ljava/lang/Throwable;", .lays "java/lang/UnsupportedOperationException" Bundle.tN "stackTrace" Bundle.steD, .lays "java/lang/UnsupportedOperationException" Bundle.tN "suppressedExceptions" Bundle.listD, .lays "java/lang/UnsupportedOperationException" Bundle.tN "detailMessage" "Ljava/lang/String;", .isRef (.static Bundle.tN "UNASSIGNED_STACK" Bundle.steD), .isRef (.static Bundle.tN "SUPPRESSED_SENTINEL" Bundle.listD), .fieldLink Bundle.tN 198 Bundle.tN "backtrace" "Ljava/lang/Object;", .lays Bundle.tN Bundle.tN "backtrace" "Ljava/lang/Object;", .lays "java/lang/UnsupportedOperationException" Bundle.tN "backtrace" "Ljava/lang/Object;"] : List Cond), vx_no w = true → w.before args s = true ∧ vx_ot w = true := by
    refine List.forall_mem_cons.mpr ⟨fun _ => ⟨hts _ hl, rfl⟩, ?_⟩
    refine List.forall_mem_cons.mpr ⟨fun _ => ⟨hts _ q1358, rfl⟩, ?_⟩
    refine List.forall_mem_cons.mpr ⟨fun _ => ⟨(htw _ q1359 rfl).use rfl, rfl⟩, ?_⟩
    refine List.forall_mem_cons.mpr ⟨fun _ => ⟨hts _ q1360, rfl⟩, ?_⟩
    refine List.forall_mem_cons.mpr ⟨fun _ => ⟨hts _ q635, rfl⟩, ?_⟩
    refine List.forall_mem_cons.mpr ⟨fun _ => ⟨hts _ q1361, rfl⟩, ?_⟩
    refine List.forall_mem_cons.mpr ⟨fun _ => ⟨hts _ q1362, rfl⟩, ?_⟩
    refine List.forall_mem_cons.mpr ⟨fun _ => ⟨hts _ q1363, rfl⟩, ?_⟩
    refine List.forall_mem_cons.mpr ⟨fun _ => ⟨hts _ q1364, rfl⟩, ?_⟩
    refine List.forall_mem_cons.mpr ⟨fun h => absurd h (by decide), ?_⟩
    refine List.forall_mem_cons.mpr ⟨fun h => absurd h (by decide), ?_⟩
    refine List.forall_mem_cons.mpr ⟨fun _ => ⟨hts _ q616, rfl⟩, ?_⟩
    refine List.forall_mem_cons.mpr ⟨fun _ => ⟨hts _ q615, rfl⟩, ?_⟩
    refine List.forall_mem_cons.mpr ⟨fun _ => ⟨hts _ q1365, rfl⟩, ?_⟩
    exact fun w h => nomatch h
  intro w hw
  rcases List.mem_append.mp hw with h | h
  · rcases List.mem_append.mp h with h | h
    · exact thr_tb hts htw w h
    · rcases List.mem_append.mp h with h | h
      · exact thr_pJ22 hts htw w h
      · exact thr_pR hts htw w h
  · exact hb w h
theorem thr_pJ23 {args : Array Value} {s : State} (hts : ∀ w ∈ lw_all, w.before args s = true) (htw : ∀ w : Cond, w ∈ lw_tbl → twK w = true → va_Nw w s) : ∀ w ∈ Bundle.passAtoms "java/lang/IndexOutOfBoundsException" "java/lang/RuntimeException" 1 Bundle.five, vx_no w = true → w.before args s = true ∧ vx_ot w = true := by
  refine List.forall_mem_cons.mpr ⟨fun _ => ⟨hts _ q1512, rfl⟩, ?_⟩
  refine List.forall_mem_cons.mpr ⟨fun _ => ⟨hts _ q1513, rfl⟩, ?_⟩
  refine List.forall_mem_cons.mpr ⟨fun _ => ⟨hts _ q1514, rfl⟩, ?_⟩
  refine List.forall_mem_cons.mpr ⟨fun _ => ⟨hts _ q1311, rfl⟩, ?_⟩
  refine List.forall_mem_cons.mpr ⟨fun _ => ⟨(htw _ q598 rfl).use rfl, rfl⟩, ?_⟩
  exact fun w h => nomatch h
theorem thr_J23 {own : String} {ic : Nat} {args : Array Value} {s : State} (hts : ∀ w ∈ lw_all, w.before args s = true) (htw : ∀ w : Cond, w ∈ lw_tbl → twK w = true → va_Nw w s) (hl : Cond.methodLink own ic (Bundle.init0 "java/lang/IndexOutOfBoundsException") ∈ lw_all) : ∀ w ∈ Bundle.ownAtoms0 own ic "java/lang/IndexOutOfBoundsException" ["java/lang/RuntimeException", "java/lang/Exception"], vx_no w = true → w.before args s = true ∧ vx_ot w = true := by
  have hb : ∀ w ∈ ([.methodLink own ic (Bundle.init0 "java/lang/IndexOutOfBoundsException"), .instantiable "java/lang/IndexOutOfBoundsException" 6, .castable "java/lang/IndexOutOfBoundsException" "java/lang/IndexOutOfBoundsException", .selects "java/lang/IndexOutOfBoundsException" Bundle.tFill0 Bundle.tFill0, .selects "java/lang/IndexOutOfBoundsException" Bundle.tFill Bundle.tFill, .lays "java/lang/IndexOutOfBoundsException" Bundle.tN "cause" "Ljava/lang/Throwable;", .lays "java/lang/IndexOutOfBoundsException" Bundle.tN "stackTrace" Bundle.steD, .lays "java/lang/IndexOutOfBoundsException" Bundle.tN "suppressedExceptions" Bundle.listD, .lays "java/lang/IndexOutOfBoundsException" Bundle.tN "detailMessage" "Ljava/lang/String;", .isRef (.static Bundle.tN "UNASSIGNED_STACK" Bundle.steD), .isRef (.static Bundle.tN "SUPPRESSED_SENTINEL" Bundle.listD), .fieldLink Bundle.tN 198 Bundle.tN "backtrace" "Ljava/lang/Object;", .lays Bundle.tN Bundle.tN "backtrace" "Ljava/lang/Object;", .lays "java/lang/IndexOutOfBoundsException" Bundle.tN "backtrace" "Ljava/lang/Object;"] : List Cond), vx_no w = true → w.before args s = true ∧ vx_ot w = true := by
    refine List.forall_mem_cons.mpr ⟨fun _ => ⟨hts _ hl, rfl⟩, ?_⟩
    refine List.forall_mem_cons.mpr ⟨fun _ => ⟨hts _ q1503, rfl⟩, ?_⟩
    refine List.forall_mem_cons.mpr ⟨fun _ => ⟨(htw _ q1504 rfl).use rfl, rfl⟩, ?_⟩
    refine List.forall_mem_cons.mpr ⟨fun _ => ⟨hts _ q1505, rfl⟩, ?_⟩
    refine List.forall_mem_cons.mpr ⟨fun _ => ⟨hts _ q633, rfl⟩, ?_⟩
    refine List.forall_mem_cons.mpr ⟨fun _ => ⟨hts _ q1506, rfl⟩, ?_⟩
    refine List.forall_mem_cons.mpr ⟨fun _ => ⟨hts _ q1507, rfl⟩, ?_⟩
    refine List.forall_mem_cons.mpr ⟨fun _ => ⟨hts _ q1508, rfl⟩, ?_⟩
    refine List.forall_mem_cons.mpr ⟨fun _ => ⟨hts _ q1509, rfl⟩, ?_⟩
    refine List.forall_mem_cons.mpr ⟨fun h => absurd h (by decide), ?_⟩
    refine List.forall_mem_cons.mpr ⟨fun h => absurd h (by decide), ?_⟩
    refine List.forall_mem_cons.mpr ⟨fun _ => ⟨hts _ q616, rfl⟩, ?_⟩
    refine List.forall_mem_cons.mpr ⟨fun _ => ⟨hts _ q615, rfl⟩, ?_⟩
    refine List.forall_mem_cons.mpr ⟨fun _ => ⟨hts _ q1510, rfl⟩, ?_⟩
    exact fun w h => nomatch h
  intro w hw
  rcases List.mem_append.mp hw with h | h
  · rcases List.mem_append.mp h with h | h
    · exact thr_tb hts htw w h
    · rcases List.mem_append.mp h with h | h
      · exact thr_pJ23 hts htw w h
      · exact thr_pR hts htw w h
  · exact hb w h
theorem thr_pJ31 {args : Array Value} {s : State} (hts : ∀ w ∈ lw_all, w.before args s = true) (htw : ∀ w : Cond, w ∈ lw_tbl → twK w = true → va_Nw w s) : ∀ w ∈ Bundle.passAtoms "java/lang/ArithmeticException" "java/lang/RuntimeException" 1 Bundle.five, vx_no w = true → w.before args s = true ∧ vx_ot w = true := by
  refine List.forall_mem_cons.mpr ⟨fun _ => ⟨hts _ q2228, rfl⟩, ?_⟩
  refine List.forall_mem_cons.mpr ⟨fun _ => ⟨hts _ q2229, rfl⟩, ?_⟩
  refine List.forall_mem_cons.mpr ⟨fun _ => ⟨hts _ q2230, rfl⟩, ?_⟩
  refine List.forall_mem_cons.mpr ⟨fun _ => ⟨hts _ q1311, rfl⟩, ?_⟩
  refine List.forall_mem_cons.mpr ⟨fun _ => ⟨(htw _ q598 rfl).use rfl, rfl⟩, ?_⟩
  exact fun w h => nomatch h
theorem thr_J31 {own : String} {ic : Nat} {args : Array Value} {s : State} (hts : ∀ w ∈ lw_all, w.before args s = true) (htw : ∀ w : Cond, w ∈ lw_tbl → twK w = true → va_Nw w s) (hl : Cond.methodLink own ic (Bundle.init0 "java/lang/ArithmeticException") ∈ lw_all) : ∀ w ∈ Bundle.ownAtoms0 own ic "java/lang/ArithmeticException" ["java/lang/RuntimeException", "java/lang/Exception"], vx_no w = true → w.before args s = true ∧ vx_ot w = true := by
  have hb : ∀ w ∈ ([.methodLink own ic (Bundle.init0 "java/lang/ArithmeticException"), .instantiable "java/lang/ArithmeticException" 6, .castable "java/lang/ArithmeticException" "java/lang/ArithmeticException", .selects "java/lang/ArithmeticException" Bundle.tFill0 Bundle.tFill0, .selects "java/lang/ArithmeticException" Bundle.tFill Bundle.tFill, .lays "java/lang/ArithmeticException" Bundle.tN "cause" "Ljava/lang/Throwable;", .lays "java/lang/ArithmeticException" Bundle.tN "stackTrace" Bundle.steD, .lays "java/lang/ArithmeticException" Bundle.tN "suppressedExceptions" Bundle.listD, .lays "java/lang/ArithmeticException" Bundle.tN "detailMessage" "Ljava/lang/String;", .isRef (.static Bundle.tN "UNASSIGNED_STACK" Bundle.steD), .isRef (.static Bundle.tN "SUPPRESSED_SENTINEL" Bundle.listD), .fieldLink Bundle.tN 198 Bundle.tN "backtrace" "Ljava/lang/Object;", .lays Bundle.tN Bundle.tN "backtrace" "Ljava/lang/Object;", .lays "java/lang/ArithmeticException" Bundle.tN "backtrace" "Ljava/lang/Object;"] : List Cond), vx_no w = true → w.before args s = true ∧ vx_ot w = true := by
    refine List.forall_mem_cons.mpr ⟨fun _ => ⟨hts _ hl, rfl⟩, ?_⟩
    refine List.forall_mem_cons.mpr ⟨fun _ => ⟨hts _ q2209, rfl⟩, ?_⟩
    refine List.forall_mem_cons.mpr ⟨fun _ => ⟨(htw _ q2220 rfl).use rfl, rfl⟩, ?_⟩
    refine List.forall_mem_cons.mpr ⟨fun _ => ⟨hts _ q2221, rfl⟩, ?_⟩
    refine List.forall_mem_cons.mpr ⟨fun _ => ⟨hts _ q630, rfl⟩, ?_⟩
    refine List.forall_mem_cons.mpr ⟨fun _ => ⟨hts _ q2215, rfl⟩, ?_⟩
    refine List.forall_mem_cons.mpr ⟨fun _ => ⟨hts _ q2216, rfl⟩, ?_⟩
    refine List.forall_mem_cons.mpr ⟨fun _ => ⟨hts _ q2218, rfl⟩, ?_⟩
    refine List.forall_mem_cons.mpr ⟨fun _ => ⟨hts _ q2214, rfl⟩, ?_⟩
    refine List.forall_mem_cons.mpr ⟨fun h => absurd h (by decide), ?_⟩
    refine List.forall_mem_cons.mpr ⟨fun h => absurd h (by decide), ?_⟩
    refine List.forall_mem_cons.mpr ⟨fun _ => ⟨hts _ q616, rfl⟩, ?_⟩
    refine List.forall_mem_cons.mpr ⟨fun _ => ⟨hts _ q615, rfl⟩, ?_⟩
    refine List.forall_mem_cons.mpr ⟨fun _ => ⟨hts _ q2213, rfl⟩, ?_⟩
    exact fun w h => nomatch h
  intro w hw
  rcases List.mem_append.mp hw with h | h
  · rcases List.mem_append.mp h with h | h
    · exact thr_tb hts htw w h
    · rcases List.mem_append.mp h with h | h
      · exact thr_pJ31 hts htw w h
      · exact thr_pR hts htw w h
  · exact hb w h
section HTHR
variable {p : Program} {l : Launch} {e : Env} {R : Room} {s : State} {m : MethodId} {args : Array Value} {below : List Frame} {meth : Method} {c : Code} {H : Heap} {locs : List Loc} {cells slots : Nat} {Q : State → Prop}
variable {cc : ByteArray} {pc nL mc ms : Nat} {ls : Array Slot} {rest st0 st1 : List Value} {g : hG} {E : hEnv} {A : Nat → Prop} {ws : va_W} {lv : List (Nat × Value)} {Qc : Array Value → State → Outcome → State → Prop} {SX : Type} {pX : String → SX → Prop} {WX : SX → Nat → va_W}
/-- 'throw new X()' -/
theorem hx_new {own cls : String} {names : List String} {ik ic : Nat} (hx : p.tables.exec = Jvm.exec) (hb : c.code = cc) (hst : l.stackTraces = false) (hown : s.vm.findClass own = some m.cls) (hfit : Bundle.fit cls = true ∧ ∀ n ∈ names, Bundle.fit n = true) (hts : ∀ w ∈ lw_all, w.before args s = true) (hk : Cond.classLink own ik cls ∈ lw_all) (hini : Cond.initialized cls ∈ lw_all)
    (hat : ∀ w ∈ Bundle.ownAtoms0 own ic cls names, vx_no w = true → w.before args s = true ∧ vx_ot w = true) (hj : jF g A s s.heap) (hS : va_S A s.heap H locs) (hml : c.maxLocals = nL) (hls : lv_has ls nL lv)
    (d0 : decode cc pc = .ok (.new ik, 3)) (d3 : decode cc (pc + 3) = .ok (.dup, 1)) (d4 : decode cc (pc + 4) = .ok (.invokespecial ic, 3)) (d7 : decode cc (pc + 7) = .ok (.athrow, 1)) (hout : ∀ x ∈ c.exceptionTable.toList, covers x (pc + 7) = false)
    (hRf : names.length + 3 < R.frames) (hRl : (rest.map fun v => v.category).sum + (13 * (names.length + 1) + 42) ≤ R.locals) (hRc : mc ≤ R.cells) (hRs : ms ≤ R.slots) (hlk : meth.locks = false) (u : SX) (hp : pX cls u) (hP : va_P (gD g) Cl ws H) (hD : va_D A ws) (hWX : WX u H.size = ws) (hc : cells + 1 ≤ mc) (hs : slots + 6 ≤ ms) :
    W p l e R s m args below meth c H locs cells slots (vx_MQ below Qc (fun En q st t => (∃ u : SX, pX En u ∧ va_P (gD g) Cl (WX u q) t.heap ∧ va_D A (WX u q)) ∧ va_F A st t) args s mc ms A) (F0 m pc ls rest) := by
  refine vx_throw0 hx hb hst hown hfit.1 hfit.2 (hts _ hk) (hts _ hini) (fun w hw => ?_) (fun w hw => ?_) hj.xx.us hj.xx.ss hS (hls.1.trans hml.symm) d0 d3 d4 d7 hout hRf hRl (Nat.le_trans hc hRc) (Nat.le_trans hs hRs) hlk (fun t _ hz hq => ⟨⟨u, hp, ?_, ?_⟩, ?_⟩) hS.2.2 hc hs
  · obtain ⟨h1, h2⟩ := List.mem_filter.mp hw
    exact (hat w h1 h2).1
  · rcases List.mem_cons.mp hw with rfl | hw
    · rfl
    · rcases List.mem_cons.mp hw with rfl | hw
      · rfl
      · obtain ⟨h1, h2⟩ := List.mem_filter.mp hw
        exact (hat w h1 h2).2
  · rw [hWX]
    exact hP.kept (fun k q hk => hq _ (hP k q hk).lt)
  · rw [hWX]
    exact hD
  · exact ⟨Nat.le_trans hS.1 hz, fun q h1 h2 => (hq q (Nat.lt_of_lt_of_le h1 hS.1)).trans (hS.2.1 q h1 h2)⟩
/-- 'new X' of an exception of the class's own: also that its cell is fresh -/
theorem h_newE {D : va_G} {cl : List vw_C} {tys : List (ClassId × FieldType)} {own C : String} {T : u_T} {N ci index : Nat} {Ts : List Cond} (hexec : p.tables.exec = Jvm.exec) (hb : c.code = cc) (hts : ∀ w ∈ Ts, w.before args s = true) (hin : ∀ w ∈ u_ws C T N, w ∈ Ts) (ty : Nat → FieldType) (hty : ∀ k, k < N → parseFieldDescriptor (T k).2.2.1 = some (ty k)) (hown : s.vm.findClass own = some m.cls) (hcl : (Cond.classLink own index C).before args s = true) (hinst : (Cond.instantiable C N).before args s = true) (hini : (Cond.initialized C).before args s = true)
    (hK : va_K D cl tys s) (hP : va_P D cl ws H) (hD : va_D A ws) (hS : va_S A s.heap H locs) (hA : ∀ q, s.heap.size ≤ q → A q) (hc : cl[ci]? = some (C, T, N)) {fs : List Value} (hfs : ∀ j, j < N → defaultValue (ty j) = vp_V fs j) (hcells : cells + 1 ≤ R.cells) (hslots : slots + N ≤ R.slots) (hdg : decode cc pc = .ok (.new index, 3))
    (kk : ∀ (q : Nat) (H1 : Heap) (kC : Class), s.vm.classes[D.1 ci]? = some kC → H1[q]? = some (freshCell (D.1 ci) kC) → va_P D cl ((q, .inr (ci, fs)) :: ws) H1 → va_D A ((q, .inr (ci, fs)) :: ws) → va_S A s.heap H1 locs →
      W p l e R s m args below meth c H1 locs (cells + 1) (slots + N) Q (F0 m (pc + 3) ls (.ref q :: rest))) : W p l e R s m args below meth c H locs cells slots Q (F0 m pc ls rest) := by
  have hKn := hK.1 ci _ hc
  refine W.newcK hexec hb hown hcl hinst hini rfl hdg hcells hslots hKn.2.1 rfl fun H1 kC hkC e1 z1 o1 => ?_
  have hk : ∀ (k : Nat) (x : Nat × va_E), ws[k]? = some x → H1[x.1]? = H[x.1]? := fun k x hx => o1 x.1 ((hP k x hx).lt)
  have hP1 : va_P D cl (ws ++ [(H.size, .inr (ci, fs))]) H1 := (hP.kept hk).app (fun k x hx => by
    have hz : k < 1 := (List.getElem?_eq_some_iff.mp hx).1
    rw [show k = 0 by omega] at hx
    cases hx
    exact ⟨_, hc, (u_born ty hts hin hKn hkC e1 hty).to hfs⟩)
  have hD1 : va_D A (ws ++ [(H.size, .inr (ci, fs))]) := hD.push hP rfl (hA _ hS.1)
  exact kk H.size H1 kC hkC e1 (pm_P List.perm_append_comm hP1) (pm_D List.perm_append_comm hD1) ⟨Nat.le_trans hS.1 (by omega), fun x h1 h2 => (o1 x (Nat.lt_of_lt_of_le h1 hS.1)).trans (hS.2.1 x h1 h2), hS.2.2⟩
end HTHR
/-- what super() of an exception's own constructor asks -/
def sup0B (X : String) (nf : Nat) : List Cond := [.methodLink X 1 (Bundle.init0 "java/lang/Exception"), .instantiable X nf, .selects X Bundle.tFill0 Bundle.tFill0, .selects X Bundle.tFill Bundle.tFill, .lays X Bundle.tN "cause" "Ljava/lang/Throwable;", .lays X Bundle.tN "stackTrace" Bundle.steD, .lays X Bundle.tN "suppressedExceptions" Bundle.listD, .lays X Bundle.tN "detailMessage" "Ljava/lang/String;", .isRef (.static Bundle.tN "UNASSIGNED_STACK" Bundle.steD), .isRef (.static Bundle.tN "SUPPRESSED_SENTINEL" Bundle.listD), .fieldLink Bundle.tN 198 Bundle.tN "backtrace" "Ljava/lang/Object;", .lays Bundle.tN Bundle.tN "backtrace" "Ljava/lang/Object;", .lays X Bundle.tN "backtrace" "Ljava/lang/Object;"]
def sup0 (X : String) (nf : Nat) : List Cond := (Bundle.throwableAtoms ++ Bundle.chain0Atoms "java/lang/Exception" []) ++ sup0B X nf
theorem sup_X10 {args : Array Value} {s : State} (hts : ∀ w ∈ lw_all, w.before args s = true) (htw : ∀ w : Cond, w ∈ lw_tbl → twK w = true → va_Nw w s) : ∀ w ∈ sup0 "HorsehairTrade$Refused" 8, vx_no w = true → w.before args s = true ∧ vx_ot w = true := by
  have hb : ∀ w ∈ sup0B "HorsehairTrade$Refused" 8, vx_no w = true → w.before args s = true ∧ vx_ot w = true := by
    unfold sup0B
    refine List.forall_mem_cons.mpr ⟨fun _ => ⟨hts _ q1107, rfl⟩, ?_⟩
    refine List.forall_mem_cons.mpr ⟨fun _ => ⟨hts _ q1096, rfl⟩, ?_⟩
    refine List.forall_mem_cons.mpr ⟨fun _ => ⟨hts _ q1098, rfl⟩, ?_⟩
    refine List.forall_mem_cons.mpr ⟨fun _ => ⟨hts _ q628, rfl⟩, ?_⟩
    refine List.forall_mem_cons.mpr ⟨fun _ => ⟨hts _ q1099, rfl⟩, ?_⟩
    refine List.forall_mem_cons.mpr ⟨fun _ => ⟨hts _ q1100, rfl⟩, ?_⟩
    refine List.forall_mem_cons.mpr ⟨fun _ => ⟨hts _ q1101, rfl⟩, ?_⟩
    refine List.forall_mem_cons.mpr ⟨fun _ => ⟨hts _ q1102, rfl⟩, ?_⟩
    refine List.forall_mem_cons.mpr ⟨fun h => absurd h (by decide), ?_⟩
    refine List.forall_mem_cons.mpr ⟨fun h => absurd h (by decide), ?_⟩
    refine List.forall_mem_cons.mpr ⟨fun _ => ⟨hts _ q616, rfl⟩, ?_⟩
    refine List.forall_mem_cons.mpr ⟨fun _ => ⟨hts _ q615, rfl⟩, ?_⟩
    refine List.forall_mem_cons.mpr ⟨fun _ => ⟨hts _ q1103, rfl⟩, ?_⟩
    exact fun w h => nomatch h
  intro w hw
  rcases List.mem_append.mp hw with h | h
  · rcases List.mem_append.mp h with h | h
    · exact thr_tb hts htw w h
    · exact thr_pE hts htw w h
  · exact hb w h
theorem sup_X13 {args : Array Value} {s : State} (hts : ∀ w ∈ lw_all, w.before args s = true) (htw : ∀ w : Cond, w ∈ lw_tbl → twK w = true → va_Nw w s) : ∀ w ∈ sup0 "HorsehairTrade$TextException" 7, vx_no w = true → w.before args s = true ∧ vx_ot w = true := by
  have hb : ∀ w ∈ sup0B "HorsehairTrade$TextException" 7, vx_no w = true → w.before args s = true ∧ vx_ot w = true := by
    unfold sup0B
    refine List.forall_mem_cons.mpr ⟨fun _ => ⟨hts _ q2140, rfl⟩, ?_⟩
    refine List.forall_mem_cons.mpr ⟨fun _ => ⟨hts _ q2129, rfl⟩, ?_⟩
    refine List.forall_mem_cons.mpr ⟨fun _ => ⟨hts _ q2131, rfl⟩, ?_⟩
    refine List.forall_mem_cons.mpr ⟨fun _ => ⟨hts _ q629, rfl⟩, ?_⟩
    refine List.forall_mem_cons.mpr ⟨fun _ => ⟨hts _ q2132, rfl⟩, ?_⟩
    refine List.forall_mem_cons.mpr ⟨fun _ => ⟨hts _ q2133, rfl⟩, ?_⟩
    refine List.forall_mem_cons.mpr ⟨fun _ => ⟨hts _ q2134, rfl⟩, ?_⟩
    refine List.forall_mem_cons.mpr ⟨fun _ => ⟨hts _ q2135, rfl⟩, ?_⟩
    refine List.forall_mem_cons.mpr ⟨fun h => absurd h (by decide), ?_⟩
    refine List.forall_mem_cons.mpr ⟨fun h => absurd h (by decide), ?_⟩
    refine List.forall_mem_cons.mpr ⟨fun _ => ⟨hts _ q616, rfl⟩, ?_⟩
    refine List.forall_mem_cons.mpr ⟨fun _ => ⟨hts _ q615, rfl⟩, ?_⟩
    refine List.forall_mem_cons.mpr ⟨fun _ => ⟨hts _ q2136, rfl⟩, ?_⟩
    exact fun w h => nomatch h
  intro w hw
  rcases List.mem_append.mp hw with h | h
  · rcases List.mem_append.mp h with h | h
    · exact thr_tb hts htw w h
    · exact thr_pE hts htw w h
  · exact hb w h
section HSUP
variable {p : Program} {l : Launch} {e : Env} {R : Room} {s : State} {m₀ : MethodId} {args : Array Value} {below : List Frame} {meth : Method} {c : Code} {W : State} {locs : List Loc} {cells slots : Nat}
set_option maxHeartbeats 2000000 in
/-- follows vx_ctorMade0 of EXCEPTIONS -/
theorem sup_made (X : Stand p l e R s m₀ args below meth c W locs cells slots) (hexec : p.tables.exec = Jvm.exec) (htr : e.platform.stackTraces = false) {cls : String} {nf : Nat} (hown : s.vm.findClass cls = some m₀.cls)
    (h : ∀ a ∈ sup0 cls nf, a.before args s = true) (hlocs : ∀ x ∈ locs, False)
    {a : Addr} {cX : ClassId} {kX : Class} (hfoundX : s.vm.findClass cls = some cX) (hkX : s.vm.classes[cX]? = some kX) (hcell : W.heap[a]? = some (freshCell cX kX))
    {g : JFrame} (hg : g.method = m₀) (hsize : g.locals.size = c.maxLocals) {rest : List Value} (hstack : g.stack = .ref a :: rest)
    (hd6 : decode c.code g.pc = .ok (.invokespecial 1, 3))
    (hRframes : 3 < R.frames) (hRlocals : 2 * g.monitorRoom + (rest.map fun v => v.category).sum + 60 ≤ R.locals) :
    ∃ (V : State) (ce : Cell) (L : List Loc), Stand p l e R s m₀ args below meth c (V.setCell a ce) (locs ++ L) cells slots ∧ (∀ y ∈ L, y.base = a) ∧ a < V.heap.size ∧ V.heap = W.heap ∧ ce.cls = cX ∧ ce.vm = .none ∧ ce.slots.size = (freshCell cX kX).slots.size ∧
      ∀ target, Steps p.tables e below ((V.setCell a ce).setTop { g with stack := rest, pc := g.pc + 3 }) target → Steps p.tables e below (W.setTop g) target := by
  have howns : e.platform.frameOwnsMonitors = true := by rw [X.admits.platform]
  have hfin : e.platform.finalization = false := by rw [X.admits.platform]
  have hpl : e.platform.magicAccessors = ({} : Platform).magicAccessors := by rw [X.admits.platform]
  have a' : ∀ x, x ∈ sup0 cls nf → x.holds args s none s [] = true := fun x hx => h x hx
  obtain ⟨T, Z, L, LZ, Y⟩ := ThrowableC.of_atoms (args := args) howns hfin hpl (fun x hx => h x (by simp [sup0, hx]))
  obtain ⟨P1, Ps, hlen, L1, hL, hP1m, hlink1, hlink⟩ := Bundle.chain0 (args := args) hpl Y.init0 [] "java/lang/Exception" (by decide +kernel) (fun n hn => nomatch hn) (fun x hx => h x (by simp [sup0, hx]))
  have hfound : s.vm.findClass cls = some cX := hfoundX
  obtain ⟨c1, kX', hc1, hk, hord, -, -, hn6⟩ := Cond.instantiable_spec (a' (.instantiable cls nf) (by simp [sup0, sup0B]))
  cases Option.some.inj (hc1.symm.trans hfound)
  cases Option.some.inj (hkX.symm.trans hk)
  have hsel0 : selectMethod e.platform s.vm cX T.fill0 = .method T.fill0 := by
    obtain ⟨c2, r2, m2, q1, q2, q3, q4, -⟩ := Cond.selects_spec (a' (.selects cls Bundle.tFill0 Bundle.tFill0) (by simp [sup0, sup0B]))
    cases Option.some.inj (q1.symm.trans hfound)
    cases Option.some.inj (q2.symm.trans (State.methodFound?_of_named Y.fill0 (by decide)))
    cases Option.some.inj (q3.symm.trans Y.fill0)
    rw [Launch.admits_selectMethod X.admits]; exact q4
  have hselF : selectMethod e.platform s.vm cX T.fill = .method T.fill := by
    obtain ⟨c2, r2, m2, q1, q2, q3, q4, -⟩ := Cond.selects_spec (a' (.selects cls Bundle.tFill Bundle.tFill) (by simp [sup0, sup0B]))
    cases Option.some.inj (q1.symm.trans hfound)
    cases Option.some.inj (q2.symm.trans (State.methodFound?_of_named Y.fill (by decide)))
    cases Option.some.inj (q3.symm.trans Y.fill)
    rw [Launch.admits_selectMethod X.admits]; exact q4
  obtain ⟨cellS0, hcS0, hiss⟩ := Y.statics
  obtain ⟨u0, hu0⟩ := Cond.staticRefV Y.unassigned L.unassignedStatic L.statics hcS0 hiss (a' (.isRef (.static Bundle.tN "UNASSIGNED_STACK" Bundle.steD)) (by simp [sup0, sup0B]))
  obtain ⟨sen, hsen⟩ := Cond.staticRefV Y.sentinel L.sentinelStatic L.statics hcS0 hiss (a' (.isRef (.static Bundle.tN "SUPPRESSED_SENTINEL" Bundle.listD)) (by simp [sup0, sup0B]))
  obtain ⟨ci198, i198, fB, hk198, hg198, ha198, hsB, -, hnB, htB, hffB⟩ := Cond.ownField (t := .object "java/lang/Object") Y.found L.cls (by decide +kernel) (a' (.fieldLink Bundle.tN 198 Bundle.tN "backtrace" "Ljava/lang/Object;") (by simp [sup0, sup0B])) (a' (.lays Bundle.tN Bundle.tN "backtrace" "Ljava/lang/Object;") (by simp [sup0, sup0B])) e.platform hpl
  obtain ⟨cellS, hcS', heS, -, hkeep⟩ := X.same.2.2.2.2.2 T.aS cellS0 hcS0
  have hcellS : W.heap[T.aS]? = some cellS := hcS'
  have hout' : ∀ i, (⟨T.aS, i⟩ : Loc) ∉ locs := fun i hmem => hlocs _ hmem
  have hknownS : cellS.vm ≠ .unknown := by
    rw [heS]; intro hu
    rw [show cellS0.vm = .unknown from hu] at hiss
    cases hiss
  have hneS : T.aS ≠ a := fun z => by
    rw [z, hcell] at hcellS
    have := Option.some.inj hcellS
    rw [← this] at heS
    have h9 := congrArg Cell.vm heS
    rw [show cellS0.vm = .none from h9.symm] at hiss
    cases hiss
  obtain ⟨iM, hffM⟩ := Y.msg
  obtain ⟨tyC, dC, hdC, hdnC⟩ := Cond.laysAt hfound hk Y.cause (a' (.lays cls Bundle.tN "cause" "Ljava/lang/Throwable;") (by simp [sup0, sup0B]))
  obtain ⟨tyS, dS, hdS, hdnS⟩ := Cond.laysAt hfound hk Y.stack (a' (.lays cls Bundle.tN "stackTrace" Bundle.steD) (by simp [sup0, sup0B]))
  obtain ⟨tyP, dP, hdP, hdnP⟩ := Cond.laysAt hfound hk Y.supp (a' (.lays cls Bundle.tN "suppressedExceptions" Bundle.listD) (by simp [sup0, sup0B]))
  obtain ⟨tyM, dM, hdM, hdnM⟩ := Cond.laysAt hfound hk hffM (a' (.lays cls Bundle.tN "detailMessage" "Ljava/lang/String;") (by simp [sup0, sup0B]))
  obtain ⟨tyB, dB, hdB, hdnB⟩ := Cond.laysAt hfound hk hffB (a' (.lays cls Bundle.tN "backtrace" "Ljava/lang/Object;") (by simp [sup0, sup0B]))
  have bC := Cond.laysApart hdB hdC hdnB hdnC (by rw [hnB, Y.causeName]; decide)
  have bS := Cond.laysApart hdB hdS hdnB hdnS (by rw [hnB, Y.stackName]; decide)
  have bP := Cond.laysApart hdB hdP hdnB hdnP (by rw [hnB, Y.suppName]; decide)
  have hskip : SkipFacts T e.platform s (fun u => u) u0 ((preparedCellV T.toThrowableT (freshCell cX kX) a u0 sen).withEntry W.cur) :=
    ⟨{ ci198 := ci198, i198 := i198, fBack := fB }, ⟨hk198, hg198, ha198, hsB⟩, by
      have := fresh_default (c := cX) tyB
      rw [htB] at this
      simpa [preparedCellV, Cell.setSlot, Cell.withEntry, Array.getElem?_setIfInBounds, bC, bS, bP, bC.symm, bS.symm, bP.symm, defaultValue] using this, fun _ _ => rfl⟩
  obtain ⟨tm, methC, cdC, kC, vm₁, hnC, -, -, -, -, -, -, -, hW₁, st1⟩ := Steps.initCold (tb := p.tables) (e := e) (below := below) (s := s) (U := W) X.here hexec X.warmed hpl hown (t := Bundle.init0 "java/lang/Exception") rfl rfl (by decide +kernel)
    (a' (.methodLink cls 1 (Bundle.init0 "java/lang/Exception")) (by simp [sup0, sup0B])) (h (.instanceMethod (Bundle.init0 "java/lang/Exception")) (by simp [sup0, Bundle.chain0Atoms, Bundle.passAtoms])) (bytes := Bundle.five) (maxL := 1) (h (.code (Bundle.init0 "java/lang/Exception") Bundle.five 1 none) (by simp [sup0, Bundle.chain0Atoms, Bundle.passAtoms]))
    (f := g) hg (a := a) (rest := rest) hstack hd6
  cases Option.some.inj (hnC.symm.trans hP1m)
  have X₁ := X.noted hW₁
  obtain ⟨vm₂, X₂, st2⟩ := X₁.ctorPlainOffV hexec (g := { g with stack := rest }) hg hsize T L Z LZ (P1 :: Ps)
    (fun P hP => by rcases List.mem_cons.mp hP with rfl | hP; exact L1; exact hL P hP) ⟨hlink1, hlink⟩ (u0 := u0) (sen := sen) (self := a) (cell := freshCell cX kX) (cellS := cellS)
    hcell (fun _ => by simp) (by simp) rfl rfl hsel0 hselF hcellS hneS hknownS (by rw [hkeep _ (hout' _)]; exact hu0) (by rw [hkeep _ (hout' _)]; exact hsen)
    (Takes.of_laid hk hord tyC (by rw [Y.causeType]; rfl)) (Takes.of_laid hk hord tyS (by rw [Y.stackType]; exact fits_refV_array _ u0)) (Takes.of_laid hk hord tyP (by rw [Y.suppType]; exact fits_refV_object _ sen)) Y.objLocals hskip htr [] hd6
    (by simp only [List.length_cons, hlen, List.length_nil]; omega) (by simp only [List.length_cons, hlen, List.length_nil]; omega)
  have hlt : a < ((W.setVm vm₁).setVm vm₂).heap.size := (Array.getElem?_eq_some_iff.mp hcell).1
  refine ⟨(W.setVm vm₁).setVm vm₂, _, _, X₂, fun y hy => ?_, hlt, rfl, rfl, rfl, by simp [preparedCellV, Cell.setSlot], fun target hwalk => st1 _ (fun acts => ?_)⟩
  · simp only [List.mem_cons, List.not_mem_nil, or_false] at hy
    rcases hy with rfl | rfl | rfl | rfl <;> rfl
  · rw [doInvoke_state]
    exact st2 _ hwalk
end HSUP
