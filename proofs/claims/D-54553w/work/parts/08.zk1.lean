/-! BASE LAYER 1: worlds as lists of groups of cells; what all methods know (zG); contracts that read (zRO) and that write (zWR) -/
set_option maxRecDepth 100000
abbrev zG : Type := va_G × (Nat → ClassId) × Nat × (Nat → Nat)
/-- the heap's size at the law's start: what lies below is never written -/
def zb0 (g : zG) : Nat := g.2.2.1
def z_cl : List vw_C := [(RX1, TX1, 12), (RX2, TX2, 9), (RX10, TX10, 7), (RX4, TX4, 8), (RJ2, TJ2, 3), (RJ17, TJ17, 3), (RJ8, TJ8, 4), (RX11, TX11, 5), (RX8, TX8, 2), (RX6, TX6, 1), (RX7, TX7, 1), (RX12, TX12, 2), (RX9, TX9, 15)]
def z_tys (g : zG) : List (ClassId × FieldType) := [(g.2.1 0, .int), (g.2.1 1, .byte), (g.2.1 2, .boolean), (g.2.1 3, .long), (g.2.1 4, .object "java/lang/Object"), (g.2.1 5, .object "SpoilMeadows$State")]
def z_mv : Cond → Bool
  | .fieldLinkNest _ _ _ _ _ _ => true
  | .methodLinkNest _ _ _ _ => true
  | .castable _ _ => true
  | .declares _ => true
  | _ => false
theorem z_mv_warm {w : Cond} {s U : State} (h : z_mv w = true) (hW : s.WarmedH U.vm) (hZ : va_Nw w s) : va_Nw w U := by
  cases w <;> first | exact va_Nw.warmF hW hZ | exact va_Nw.warmM hW hZ | exact va_Nw.warmC hW hZ | exact va_Nw.warmD hW hZ | exact Bool.noConfusion h
theorem z_mv_on {w : Cond} (h : z_mv w = true) : w.onTables = true := by
  cases w <;> first | rfl | exact Bool.noConfusion h
def z_nw : List Cond := [Jvm.Cond.castable "java/util/ArrayDeque" "java/lang/Object", Jvm.Cond.castable "java/lang/IllegalStateException" "java/lang/IllegalStateException", Jvm.Cond.castable "java/lang/IllegalStateException" "java/lang/Object", Jvm.Cond.castable "java/util/ArrayList" "java/lang/Object", Jvm.Cond.declares ({ cls := "java/lang/IndexOutOfBoundsException", name := "<init>", desc := "()V" } : Jvm.MethodName), Jvm.Cond.declares ({ cls := "java/lang/IndexOutOfBoundsException", name := "<init>", desc := "(Ljava/lang/String;)V" } : Jvm.MethodName), Jvm.Cond.castable "java/lang/IndexOutOfBoundsException" "java/lang/IndexOutOfBoundsException", Jvm.Cond.castable "java/lang/IndexOutOfBoundsException" "java/lang/Object", Jvm.Cond.castable "java/lang/ArrayIndexOutOfBoundsException" "java/lang/ArrayIndexOutOfBoundsException", Jvm.Cond.castable "java/lang/ArrayIndexOutOfBoundsException" "java/lang/IndexOutOfBoundsException", Jvm.Cond.castable "java/lang/ArrayIndexOutOfBoundsException" "java/lang/Object", Jvm.Cond.castable "java/lang/StringIndexOutOfBoundsException" "java/lang/IndexOutOfBoundsException", Jvm.Cond.castable "java/lang/StringIndexOutOfBoundsException" "java/lang/Object", Jvm.Cond.declares ({ cls := "java/lang/Object", name := "getClass", desc := "()Ljava/lang/Class;" } : Jvm.MethodName), Jvm.Cond.declares ({ cls := "java/lang/Throwable", name := "<init>", desc := "()V" } : Jvm.MethodName), Jvm.Cond.declares ({ cls := "java/lang/Throwable", name := "<init>", desc := "(Ljava/lang/String;)V" } : Jvm.MethodName), Jvm.Cond.castable "java/lang/Throwable" "java/lang/Object", Jvm.Cond.declares ({ cls := "java/lang/Exception", name := "<init>", desc := "()V" } : Jvm.MethodName), Jvm.Cond.declares ({ cls := "java/lang/Exception", name := "<init>", desc := "(Ljava/lang/String;)V" } : Jvm.MethodName), Jvm.Cond.declares ({ cls := "java/lang/RuntimeException", name := "<init>", desc := "()V" } : Jvm.MethodName), Jvm.Cond.declares ({ cls := "java/lang/RuntimeException", name := "<init>", desc := "(Ljava/lang/String;)V" } : Jvm.MethodName), Jvm.Cond.castable "java/lang/IllegalArgumentException" "java/lang/IllegalArgumentException", Jvm.Cond.castable "java/lang/IllegalArgumentException" "java/lang/Object", Jvm.Cond.castable "java/lang/StringBuilder" "java/lang/Object", Jvm.Cond.castable "java/lang/String" "java/lang/Object", Jvm.Cond.fieldLinkNest "SpoilMeadows" (124 : Nat) "SpoilMeadows$State" "barges" "Ljava/util/ArrayList;" "SpoilMeadows", Jvm.Cond.fieldLinkNest "SpoilMeadows" (24 : Nat) "SpoilMeadows$State" "meadows" "Ljava/util/ArrayList;" "SpoilMeadows", Jvm.Cond.fieldLinkNest "SpoilMeadows" (247 : Nat) "SpoilMeadows$State" "settings" "[I" "SpoilMeadows", Jvm.Cond.fieldLinkNest "SpoilMeadows" (177 : Nat) "SpoilMeadows$State" "silt" "[I" "SpoilMeadows", Jvm.Cond.fieldLinkNest "SpoilMeadows" (288 : Nat) "SpoilMeadows$State" "raised" "[I" "SpoilMeadows", Jvm.Cond.fieldLinkNest "SpoilMeadows" (291 : Nat) "SpoilMeadows$State" "lost" "[I" "SpoilMeadows", Jvm.Cond.fieldLinkNest "SpoilMeadows" (197 : Nat) "SpoilMeadows$State" "day" "I" "SpoilMeadows", Jvm.Cond.fieldLinkNest "SpoilMeadows" (167 : Nat) "SpoilMeadows$State" "reach" "I" "SpoilMeadows", Jvm.Cond.fieldLinkNest "SpoilMeadows" (355 : Nat) "SpoilMeadows$State" "waits" "I" "SpoilMeadows", Jvm.Cond.methodLinkNest "SpoilMeadows" (30 : Nat) ({ cls := "SpoilMeadows$Meadow", name := "<init>", desc := "()V" } : Jvm.MethodName) "SpoilMeadows", Jvm.Cond.fieldLinkNest "SpoilMeadows" (185 : Nat) "SpoilMeadows$Meadow" "bound" "I" "SpoilMeadows", Jvm.Cond.fieldLinkNest "SpoilMeadows" (221 : Nat) "SpoilMeadows$Meadow" "spoil" "I" "SpoilMeadows", Jvm.Cond.fieldLinkNest "SpoilMeadows" (325 : Nat) "SpoilMeadows$Meadow" "wet" "I" "SpoilMeadows", Jvm.Cond.fieldLinkNest "SpoilMeadows" (191 : Nat) "SpoilMeadows$Meadow" "from" "I" "SpoilMeadows", Jvm.Cond.fieldLinkNest "SpoilMeadows" (194 : Nat) "SpoilMeadows$Meadow" "to" "I" "SpoilMeadows", Jvm.Cond.fieldLinkNest "SpoilMeadows" (207 : Nat) "SpoilMeadows$Meadow" "stoppedTo" "I" "SpoilMeadows", Jvm.Cond.fieldLinkNest "SpoilMeadows" (218 : Nat) "SpoilMeadows$Meadow" "period" "I" "SpoilMeadows", Jvm.Cond.methodLinkNest "SpoilMeadows" (262 : Nat) ({ cls := "SpoilMeadows$Reader", name := "<init>", desc := "(LSpoilMeadows;)V" } : Jvm.MethodName) "SpoilMeadows", Jvm.Cond.fieldLinkNest "SpoilMeadows" (267 : Nat) "SpoilMeadows$Reader" "at" "I" "SpoilMeadows", Jvm.Cond.fieldLinkNest "SpoilMeadows" (297 : Nat) "SpoilMeadows$Barge" "size" "I" "SpoilMeadows", Jvm.Cond.fieldLinkNest "SpoilMeadows" (299 : Nat) "SpoilMeadows$Barge" "mode" "I" "SpoilMeadows", Jvm.Cond.fieldLinkNest "SpoilMeadows" (302 : Nat) "SpoilMeadows$Barge" "load" "I" "SpoilMeadows", Jvm.Cond.fieldLinkNest "SpoilMeadows" (305 : Nat) "SpoilMeadows$Barge" "goal" "I" "SpoilMeadows", Jvm.Cond.fieldLinkNest "SpoilMeadows" (311 : Nat) "SpoilMeadows$Barge" "left" "I" "SpoilMeadows", Jvm.Cond.fieldLinkNest "SpoilMeadows" (149 : Nat) "SpoilMeadows$Barge" "order" "I" "SpoilMeadows", Jvm.Cond.fieldLinkNest "SpoilMeadows" (318 : Nat) "SpoilMeadows$Barge" "laid" "I" "SpoilMeadows", Jvm.Cond.methodLinkNest "SpoilMeadows" (275 : Nat) ({ cls := "SpoilMeadows$Reader", name := "isNext", desc := "(C)Z" } : Jvm.MethodName) "SpoilMeadows", Jvm.Cond.castable "SpoilMeadows" "java/lang/Object", Jvm.Cond.methodLinkNest "SpoilMeadows$Barge" (3 : Nat) ({ cls := "SpoilMeadows$Hold", name := "<init>", desc := "()V" } : Jvm.MethodName) "SpoilMeadows", Jvm.Cond.castable "SpoilMeadows$Barge" "java/lang/Object", Jvm.Cond.fieldLinkNest "SpoilMeadows$Reader" (19 : Nat) "SpoilMeadows" "buffer" "Ljava/lang/StringBuilder;" "SpoilMeadows", Jvm.Cond.methodLinkNest "SpoilMeadows$Reader" (33 : Nat) ({ cls := "SpoilMeadows", name := "flag", desc := "(Z)I" } : Jvm.MethodName) "SpoilMeadows", Jvm.Cond.methodLinkNest "SpoilMeadows$Reader" (37 : Nat) ({ cls := "SpoilMeadows", name := "inRange", desc := "(III)Z" } : Jvm.MethodName) "SpoilMeadows", Jvm.Cond.methodLinkNest "SpoilMeadows$Reader" (81 : Nat) ({ cls := "SpoilMeadows", name := "isBarge", desc := "(I)Z" } : Jvm.MethodName) "SpoilMeadows", Jvm.Cond.methodLinkNest "SpoilMeadows$Reader" (85 : Nat) ({ cls := "SpoilMeadows", name := "orders", desc := "(II)I" } : Jvm.MethodName) "SpoilMeadows", Jvm.Cond.methodLinkNest "SpoilMeadows$Reader" (88 : Nat) ({ cls := "SpoilMeadows", name := "moves", desc := "(I)I" } : Jvm.MethodName) "SpoilMeadows", Jvm.Cond.methodLinkNest "SpoilMeadows$Reader" (92 : Nat) ({ cls := "SpoilMeadows", name := "stops", desc := "(II)I" } : Jvm.MethodName) "SpoilMeadows", Jvm.Cond.methodLinkNest "SpoilMeadows$Reader" (95 : Nat) ({ cls := "SpoilMeadows", name := "canPass", desc := "(I)Z" } : Jvm.MethodName) "SpoilMeadows", Jvm.Cond.methodLinkNest "SpoilMeadows$Reader" (98 : Nat) ({ cls := "SpoilMeadows", name := "passes", desc := "(I)I" } : Jvm.MethodName) "SpoilMeadows", Jvm.Cond.castable "SpoilMeadows$Reader" "java/lang/Object", Jvm.Cond.methodLinkNest "SpoilMeadows$1In" (22 : Nat) ({ cls := "SpoilMeadows", name := "flag", desc := "(Z)I" } : Jvm.MethodName) "SpoilMeadows", Jvm.Cond.fieldLinkNest "SpoilMeadows$1In" (17 : Nat) "SpoilMeadows$Barge" "mode" "I" "SpoilMeadows", Jvm.Cond.methodLinkNest "SpoilMeadows$1In" (11 : Nat) ({ cls := "SpoilMeadows$Sum", name := "<init>", desc := "()V" } : Jvm.MethodName) "SpoilMeadows", Jvm.Cond.castable "SpoilMeadows$1In" "java/lang/Object", Jvm.Cond.declares ({ cls := "SpoilMeadows$Holding", name := "taken", desc := "(II)I" } : Jvm.MethodName), Jvm.Cond.fieldLinkNest "SpoilMeadows$State" (83 : Nat) "SpoilMeadows$Meadow" "bound" "I" "SpoilMeadows", Jvm.Cond.fieldLinkNest "SpoilMeadows$State" (86 : Nat) "SpoilMeadows$Meadow" "spoil" "I" "SpoilMeadows", Jvm.Cond.fieldLinkNest "SpoilMeadows$State" (122 : Nat) "SpoilMeadows$Meadow" "wet" "I" "SpoilMeadows", Jvm.Cond.fieldLinkNest "SpoilMeadows$State" (154 : Nat) "SpoilMeadows$Meadow" "laidOn" "I" "SpoilMeadows", Jvm.Cond.fieldLinkNest "SpoilMeadows$State" (120 : Nat) "SpoilMeadows$Barge" "size" "I" "SpoilMeadows", Jvm.Cond.fieldLinkNest "SpoilMeadows$State" (117 : Nat) "SpoilMeadows$Barge" "mode" "I" "SpoilMeadows", Jvm.Cond.fieldLinkNest "SpoilMeadows$State" (93 : Nat) "SpoilMeadows$Barge" "load" "I" "SpoilMeadows", Jvm.Cond.fieldLinkNest "SpoilMeadows$State" (137 : Nat) "SpoilMeadows$Barge" "goal" "I" "SpoilMeadows", Jvm.Cond.fieldLinkNest "SpoilMeadows$State" (111 : Nat) "SpoilMeadows$Barge" "order" "I" "SpoilMeadows", Jvm.Cond.fieldLinkNest "SpoilMeadows$State" (160 : Nat) "SpoilMeadows$Barge" "laid" "I" "SpoilMeadows", Jvm.Cond.castable "SpoilMeadows$State" "java/lang/Object", Jvm.Cond.methodLinkNest "SpoilMeadows$Meadow" (3 : Nat) ({ cls := "SpoilMeadows$Hold", name := "<init>", desc := "()V" } : Jvm.MethodName) "SpoilMeadows", Jvm.Cond.methodLinkNest "SpoilMeadows$Meadow" (37 : Nat) ({ cls := "SpoilMeadows", name := "inRange", desc := "(III)Z" } : Jvm.MethodName) "SpoilMeadows", Jvm.Cond.castable "SpoilMeadows$Meadow" "java/lang/Object", Jvm.Cond.declares ({ cls := "SpoilMeadows$Sum", name := "of", desc := "(LSpoilMeadows$Barge;)I" } : Jvm.MethodName), Jvm.Cond.declares ({ cls := "SpoilMeadows$Sum", name := "over", desc := "(LSpoilMeadows$State;)I" } : Jvm.MethodName), Jvm.Cond.methodLinkNest "SpoilMeadows$1" (7 : Nat) ({ cls := "SpoilMeadows$Sum", name := "<init>", desc := "()V" } : Jvm.MethodName) "SpoilMeadows", Jvm.Cond.fieldLinkNest "SpoilMeadows$1" (13 : Nat) "SpoilMeadows$Barge" "load" "I" "SpoilMeadows", Jvm.Cond.castable "SpoilMeadows$1" "java/lang/Object", Jvm.Cond.methodLinkNest "SpoilMeadows$2" (7 : Nat) ({ cls := "SpoilMeadows$Sum", name := "<init>", desc := "()V" } : Jvm.MethodName) "SpoilMeadows", Jvm.Cond.fieldLinkNest "SpoilMeadows$2" (13 : Nat) "SpoilMeadows$Barge" "laid" "I" "SpoilMeadows", Jvm.Cond.castable "SpoilMeadows$2" "java/lang/Object", Jvm.Cond.fieldLinkNest "SpoilMeadows$Each" (17 : Nat) "SpoilMeadows$State" "barges" "Ljava/util/ArrayList;" "SpoilMeadows", Jvm.Cond.castable "SpoilMeadows$Each" "java/lang/Object", Jvm.Cond.castable "SpoilMeadowsModel" "java/lang/Object", Jvm.Cond.declares ({ cls := "SpoilMeadows$Measure", name := "of", desc := "(LSpoilMeadows$State;)I" } : Jvm.MethodName), Jvm.Cond.castable "[B" "java/lang/Cloneable", Jvm.Cond.castable "[B" "java/lang/Object", Jvm.Cond.castable "[I" "java/lang/Cloneable", Jvm.Cond.castable "[I" "java/lang/Object", Jvm.Cond.castable "[J" "java/lang/Object", Jvm.Cond.castable "[LSpoilMeadows$State;" "java/lang/Object", Jvm.Cond.castable "[Ljava/lang/Object;" "java/lang/Object", Jvm.Cond.castable "[Z" "java/lang/Object"]
theorem z_nw_mv : ∀ w ∈ z_nw, z_mv w = true := List.all_eq_true.mp (by decide +kernel)
theorem nq1979 : (Jvm.Cond.castable "java/util/ArrayDeque" "java/lang/Object") ∈ z_nw := List.mem_of_getElem? (i := 0) rfl
theorem nq1279 : (Jvm.Cond.castable "java/lang/IllegalStateException" "java/lang/IllegalStateException") ∈ z_nw := List.mem_of_getElem? (i := 1) rfl
theorem nq1984 : (Jvm.Cond.castable "java/lang/IllegalStateException" "java/lang/Object") ∈ z_nw := List.mem_of_getElem? (i := 2) rfl
theorem nq1974 : (Jvm.Cond.castable "java/util/ArrayList" "java/lang/Object") ∈ z_nw := List.mem_of_getElem? (i := 3) rfl
theorem nq827 : (Jvm.Cond.declares ({ cls := "java/lang/IndexOutOfBoundsException", name := "<init>", desc := "()V" } : Jvm.MethodName)) ∈ z_nw := List.mem_of_getElem? (i := 4) rfl
theorem nq828 : (Jvm.Cond.declares ({ cls := "java/lang/IndexOutOfBoundsException", name := "<init>", desc := "(Ljava/lang/String;)V" } : Jvm.MethodName)) ∈ z_nw := List.mem_of_getElem? (i := 5) rfl
theorem nq1355 : (Jvm.Cond.castable "java/lang/IndexOutOfBoundsException" "java/lang/IndexOutOfBoundsException") ∈ z_nw := List.mem_of_getElem? (i := 6) rfl
theorem nq1987 : (Jvm.Cond.castable "java/lang/IndexOutOfBoundsException" "java/lang/Object") ∈ z_nw := List.mem_of_getElem? (i := 7) rfl
theorem nq826 : (Jvm.Cond.castable "java/lang/ArrayIndexOutOfBoundsException" "java/lang/ArrayIndexOutOfBoundsException") ∈ z_nw := List.mem_of_getElem? (i := 8) rfl
theorem nq1970 : (Jvm.Cond.castable "java/lang/ArrayIndexOutOfBoundsException" "java/lang/IndexOutOfBoundsException") ∈ z_nw := List.mem_of_getElem? (i := 9) rfl
theorem nq1986 : (Jvm.Cond.castable "java/lang/ArrayIndexOutOfBoundsException" "java/lang/Object") ∈ z_nw := List.mem_of_getElem? (i := 10) rfl
theorem nq1971 : (Jvm.Cond.castable "java/lang/StringIndexOutOfBoundsException" "java/lang/IndexOutOfBoundsException") ∈ z_nw := List.mem_of_getElem? (i := 11) rfl
theorem nq1988 : (Jvm.Cond.castable "java/lang/StringIndexOutOfBoundsException" "java/lang/Object") ∈ z_nw := List.mem_of_getElem? (i := 12) rfl
theorem nq1994 : (Jvm.Cond.declares ({ cls := "java/lang/Object", name := "getClass", desc := "()Ljava/lang/Class;" } : Jvm.MethodName)) ∈ z_nw := List.mem_of_getElem? (i := 13) rfl
theorem nq152 : (Jvm.Cond.declares ({ cls := "java/lang/Throwable", name := "<init>", desc := "()V" } : Jvm.MethodName)) ∈ z_nw := List.mem_of_getElem? (i := 14) rfl
theorem nq153 : (Jvm.Cond.declares ({ cls := "java/lang/Throwable", name := "<init>", desc := "(Ljava/lang/String;)V" } : Jvm.MethodName)) ∈ z_nw := List.mem_of_getElem? (i := 15) rfl
theorem nq1991 : (Jvm.Cond.castable "java/lang/Throwable" "java/lang/Object") ∈ z_nw := List.mem_of_getElem? (i := 16) rfl
theorem nq150 : (Jvm.Cond.declares ({ cls := "java/lang/Exception", name := "<init>", desc := "()V" } : Jvm.MethodName)) ∈ z_nw := List.mem_of_getElem? (i := 17) rfl
theorem nq151 : (Jvm.Cond.declares ({ cls := "java/lang/Exception", name := "<init>", desc := "(Ljava/lang/String;)V" } : Jvm.MethodName)) ∈ z_nw := List.mem_of_getElem? (i := 18) rfl
theorem nq148 : (Jvm.Cond.declares ({ cls := "java/lang/RuntimeException", name := "<init>", desc := "()V" } : Jvm.MethodName)) ∈ z_nw := List.mem_of_getElem? (i := 19) rfl
theorem nq149 : (Jvm.Cond.declares ({ cls := "java/lang/RuntimeException", name := "<init>", desc := "(Ljava/lang/String;)V" } : Jvm.MethodName)) ∈ z_nw := List.mem_of_getElem? (i := 20) rfl
theorem nq147 : (Jvm.Cond.castable "java/lang/IllegalArgumentException" "java/lang/IllegalArgumentException") ∈ z_nw := List.mem_of_getElem? (i := 21) rfl
theorem nq1975 : (Jvm.Cond.castable "java/lang/IllegalArgumentException" "java/lang/Object") ∈ z_nw := List.mem_of_getElem? (i := 22) rfl
theorem nq1976 : (Jvm.Cond.castable "java/lang/StringBuilder" "java/lang/Object") ∈ z_nw := List.mem_of_getElem? (i := 23) rfl
theorem nq1977 : (Jvm.Cond.castable "java/lang/String" "java/lang/Object") ∈ z_nw := List.mem_of_getElem? (i := 24) rfl
theorem nq475 : (Jvm.Cond.fieldLinkNest "SpoilMeadows" (124 : Nat) "SpoilMeadows$State" "barges" "Ljava/util/ArrayList;" "SpoilMeadows") ∈ z_nw := List.mem_of_getElem? (i := 25) rfl
theorem nq477 : (Jvm.Cond.fieldLinkNest "SpoilMeadows" (24 : Nat) "SpoilMeadows$State" "meadows" "Ljava/util/ArrayList;" "SpoilMeadows") ∈ z_nw := List.mem_of_getElem? (i := 26) rfl
theorem nq479 : (Jvm.Cond.fieldLinkNest "SpoilMeadows" (247 : Nat) "SpoilMeadows$State" "settings" "[I" "SpoilMeadows") ∈ z_nw := List.mem_of_getElem? (i := 27) rfl
theorem nq481 : (Jvm.Cond.fieldLinkNest "SpoilMeadows" (177 : Nat) "SpoilMeadows$State" "silt" "[I" "SpoilMeadows") ∈ z_nw := List.mem_of_getElem? (i := 28) rfl
theorem nq483 : (Jvm.Cond.fieldLinkNest "SpoilMeadows" (288 : Nat) "SpoilMeadows$State" "raised" "[I" "SpoilMeadows") ∈ z_nw := List.mem_of_getElem? (i := 29) rfl
theorem nq485 : (Jvm.Cond.fieldLinkNest "SpoilMeadows" (291 : Nat) "SpoilMeadows$State" "lost" "[I" "SpoilMeadows") ∈ z_nw := List.mem_of_getElem? (i := 30) rfl
theorem nq487 : (Jvm.Cond.fieldLinkNest "SpoilMeadows" (197 : Nat) "SpoilMeadows$State" "day" "I" "SpoilMeadows") ∈ z_nw := List.mem_of_getElem? (i := 31) rfl
theorem nq489 : (Jvm.Cond.fieldLinkNest "SpoilMeadows" (167 : Nat) "SpoilMeadows$State" "reach" "I" "SpoilMeadows") ∈ z_nw := List.mem_of_getElem? (i := 32) rfl
theorem nq491 : (Jvm.Cond.fieldLinkNest "SpoilMeadows" (355 : Nat) "SpoilMeadows$State" "waits" "I" "SpoilMeadows") ∈ z_nw := List.mem_of_getElem? (i := 33) rfl
theorem nq513 : (Jvm.Cond.methodLinkNest "SpoilMeadows" (30 : Nat) ({ cls := "SpoilMeadows$Meadow", name := "<init>", desc := "()V" } : Jvm.MethodName) "SpoilMeadows") ∈ z_nw := List.mem_of_getElem? (i := 34) rfl
theorem nq522 : (Jvm.Cond.fieldLinkNest "SpoilMeadows" (185 : Nat) "SpoilMeadows$Meadow" "bound" "I" "SpoilMeadows") ∈ z_nw := List.mem_of_getElem? (i := 35) rfl
theorem nq525 : (Jvm.Cond.fieldLinkNest "SpoilMeadows" (221 : Nat) "SpoilMeadows$Meadow" "spoil" "I" "SpoilMeadows") ∈ z_nw := List.mem_of_getElem? (i := 36) rfl
theorem nq528 : (Jvm.Cond.fieldLinkNest "SpoilMeadows" (325 : Nat) "SpoilMeadows$Meadow" "wet" "I" "SpoilMeadows") ∈ z_nw := List.mem_of_getElem? (i := 37) rfl
theorem nq530 : (Jvm.Cond.fieldLinkNest "SpoilMeadows" (191 : Nat) "SpoilMeadows$Meadow" "from" "I" "SpoilMeadows") ∈ z_nw := List.mem_of_getElem? (i := 38) rfl
theorem nq532 : (Jvm.Cond.fieldLinkNest "SpoilMeadows" (194 : Nat) "SpoilMeadows$Meadow" "to" "I" "SpoilMeadows") ∈ z_nw := List.mem_of_getElem? (i := 39) rfl
theorem nq534 : (Jvm.Cond.fieldLinkNest "SpoilMeadows" (207 : Nat) "SpoilMeadows$Meadow" "stoppedTo" "I" "SpoilMeadows") ∈ z_nw := List.mem_of_getElem? (i := 40) rfl
theorem nq536 : (Jvm.Cond.fieldLinkNest "SpoilMeadows" (218 : Nat) "SpoilMeadows$Meadow" "period" "I" "SpoilMeadows") ∈ z_nw := List.mem_of_getElem? (i := 41) rfl
theorem nq857 : (Jvm.Cond.methodLinkNest "SpoilMeadows" (262 : Nat) ({ cls := "SpoilMeadows$Reader", name := "<init>", desc := "(LSpoilMeadows;)V" } : Jvm.MethodName) "SpoilMeadows") ∈ z_nw := List.mem_of_getElem? (i := 42) rfl
theorem nq862 : (Jvm.Cond.fieldLinkNest "SpoilMeadows" (267 : Nat) "SpoilMeadows$Reader" "at" "I" "SpoilMeadows") ∈ z_nw := List.mem_of_getElem? (i := 43) rfl
theorem nq1000 : (Jvm.Cond.fieldLinkNest "SpoilMeadows" (297 : Nat) "SpoilMeadows$Barge" "size" "I" "SpoilMeadows") ∈ z_nw := List.mem_of_getElem? (i := 44) rfl
theorem nq1004 : (Jvm.Cond.fieldLinkNest "SpoilMeadows" (299 : Nat) "SpoilMeadows$Barge" "mode" "I" "SpoilMeadows") ∈ z_nw := List.mem_of_getElem? (i := 45) rfl
theorem nq1008 : (Jvm.Cond.fieldLinkNest "SpoilMeadows" (302 : Nat) "SpoilMeadows$Barge" "load" "I" "SpoilMeadows") ∈ z_nw := List.mem_of_getElem? (i := 46) rfl
theorem nq1011 : (Jvm.Cond.fieldLinkNest "SpoilMeadows" (305 : Nat) "SpoilMeadows$Barge" "goal" "I" "SpoilMeadows") ∈ z_nw := List.mem_of_getElem? (i := 47) rfl
theorem nq1013 : (Jvm.Cond.fieldLinkNest "SpoilMeadows" (311 : Nat) "SpoilMeadows$Barge" "left" "I" "SpoilMeadows") ∈ z_nw := List.mem_of_getElem? (i := 48) rfl
theorem nq1016 : (Jvm.Cond.fieldLinkNest "SpoilMeadows" (149 : Nat) "SpoilMeadows$Barge" "order" "I" "SpoilMeadows") ∈ z_nw := List.mem_of_getElem? (i := 49) rfl
theorem nq1020 : (Jvm.Cond.fieldLinkNest "SpoilMeadows" (318 : Nat) "SpoilMeadows$Barge" "laid" "I" "SpoilMeadows") ∈ z_nw := List.mem_of_getElem? (i := 50) rfl
theorem nq1503 : (Jvm.Cond.methodLinkNest "SpoilMeadows" (275 : Nat) ({ cls := "SpoilMeadows$Reader", name := "isNext", desc := "(C)Z" } : Jvm.MethodName) "SpoilMeadows") ∈ z_nw := List.mem_of_getElem? (i := 51) rfl
theorem nq1973 : (Jvm.Cond.castable "SpoilMeadows" "java/lang/Object") ∈ z_nw := List.mem_of_getElem? (i := 52) rfl
theorem nq997 : (Jvm.Cond.methodLinkNest "SpoilMeadows$Barge" (3 : Nat) ({ cls := "SpoilMeadows$Hold", name := "<init>", desc := "()V" } : Jvm.MethodName) "SpoilMeadows") ∈ z_nw := List.mem_of_getElem? (i := 53) rfl
theorem nq1985 : (Jvm.Cond.castable "SpoilMeadows$Barge" "java/lang/Object") ∈ z_nw := List.mem_of_getElem? (i := 54) rfl
theorem nq743 : (Jvm.Cond.fieldLinkNest "SpoilMeadows$Reader" (19 : Nat) "SpoilMeadows" "buffer" "Ljava/lang/StringBuilder;" "SpoilMeadows") ∈ z_nw := List.mem_of_getElem? (i := 55) rfl
theorem nq904 : (Jvm.Cond.methodLinkNest "SpoilMeadows$Reader" (33 : Nat) ({ cls := "SpoilMeadows", name := "flag", desc := "(Z)I" } : Jvm.MethodName) "SpoilMeadows") ∈ z_nw := List.mem_of_getElem? (i := 56) rfl
theorem nq917 : (Jvm.Cond.methodLinkNest "SpoilMeadows$Reader" (37 : Nat) ({ cls := "SpoilMeadows", name := "inRange", desc := "(III)Z" } : Jvm.MethodName) "SpoilMeadows") ∈ z_nw := List.mem_of_getElem? (i := 57) rfl
theorem nq1497 : (Jvm.Cond.methodLinkNest "SpoilMeadows$Reader" (81 : Nat) ({ cls := "SpoilMeadows", name := "isBarge", desc := "(I)Z" } : Jvm.MethodName) "SpoilMeadows") ∈ z_nw := List.mem_of_getElem? (i := 58) rfl
theorem nq1498 : (Jvm.Cond.methodLinkNest "SpoilMeadows$Reader" (85 : Nat) ({ cls := "SpoilMeadows", name := "orders", desc := "(II)I" } : Jvm.MethodName) "SpoilMeadows") ∈ z_nw := List.mem_of_getElem? (i := 59) rfl
theorem nq1499 : (Jvm.Cond.methodLinkNest "SpoilMeadows$Reader" (88 : Nat) ({ cls := "SpoilMeadows", name := "moves", desc := "(I)I" } : Jvm.MethodName) "SpoilMeadows") ∈ z_nw := List.mem_of_getElem? (i := 60) rfl
theorem nq1500 : (Jvm.Cond.methodLinkNest "SpoilMeadows$Reader" (92 : Nat) ({ cls := "SpoilMeadows", name := "stops", desc := "(II)I" } : Jvm.MethodName) "SpoilMeadows") ∈ z_nw := List.mem_of_getElem? (i := 61) rfl
theorem nq1501 : (Jvm.Cond.methodLinkNest "SpoilMeadows$Reader" (95 : Nat) ({ cls := "SpoilMeadows", name := "canPass", desc := "(I)Z" } : Jvm.MethodName) "SpoilMeadows") ∈ z_nw := List.mem_of_getElem? (i := 62) rfl
theorem nq1502 : (Jvm.Cond.methodLinkNest "SpoilMeadows$Reader" (98 : Nat) ({ cls := "SpoilMeadows", name := "passes", desc := "(I)I" } : Jvm.MethodName) "SpoilMeadows") ∈ z_nw := List.mem_of_getElem? (i := 63) rfl
theorem nq1989 : (Jvm.Cond.castable "SpoilMeadows$Reader" "java/lang/Object") ∈ z_nw := List.mem_of_getElem? (i := 64) rfl
theorem nq729 : (Jvm.Cond.methodLinkNest "SpoilMeadows$1In" (22 : Nat) ({ cls := "SpoilMeadows", name := "flag", desc := "(Z)I" } : Jvm.MethodName) "SpoilMeadows") ∈ z_nw := List.mem_of_getElem? (i := 65) rfl
theorem nq1002 : (Jvm.Cond.fieldLinkNest "SpoilMeadows$1In" (17 : Nat) "SpoilMeadows$Barge" "mode" "I" "SpoilMeadows") ∈ z_nw := List.mem_of_getElem? (i := 66) rfl
theorem nq1155 : (Jvm.Cond.methodLinkNest "SpoilMeadows$1In" (11 : Nat) ({ cls := "SpoilMeadows$Sum", name := "<init>", desc := "()V" } : Jvm.MethodName) "SpoilMeadows") ∈ z_nw := List.mem_of_getElem? (i := 67) rfl
theorem nq1990 : (Jvm.Cond.castable "SpoilMeadows$1In" "java/lang/Object") ∈ z_nw := List.mem_of_getElem? (i := 68) rfl
theorem nq1090 : (Jvm.Cond.declares ({ cls := "SpoilMeadows$Holding", name := "taken", desc := "(II)I" } : Jvm.MethodName)) ∈ z_nw := List.mem_of_getElem? (i := 69) rfl
theorem nq521 : (Jvm.Cond.fieldLinkNest "SpoilMeadows$State" (83 : Nat) "SpoilMeadows$Meadow" "bound" "I" "SpoilMeadows") ∈ z_nw := List.mem_of_getElem? (i := 70) rfl
theorem nq524 : (Jvm.Cond.fieldLinkNest "SpoilMeadows$State" (86 : Nat) "SpoilMeadows$Meadow" "spoil" "I" "SpoilMeadows") ∈ z_nw := List.mem_of_getElem? (i := 71) rfl
theorem nq527 : (Jvm.Cond.fieldLinkNest "SpoilMeadows$State" (122 : Nat) "SpoilMeadows$Meadow" "wet" "I" "SpoilMeadows") ∈ z_nw := List.mem_of_getElem? (i := 72) rfl
theorem nq538 : (Jvm.Cond.fieldLinkNest "SpoilMeadows$State" (154 : Nat) "SpoilMeadows$Meadow" "laidOn" "I" "SpoilMeadows") ∈ z_nw := List.mem_of_getElem? (i := 73) rfl
theorem nq999 : (Jvm.Cond.fieldLinkNest "SpoilMeadows$State" (120 : Nat) "SpoilMeadows$Barge" "size" "I" "SpoilMeadows") ∈ z_nw := List.mem_of_getElem? (i := 74) rfl
theorem nq1003 : (Jvm.Cond.fieldLinkNest "SpoilMeadows$State" (117 : Nat) "SpoilMeadows$Barge" "mode" "I" "SpoilMeadows") ∈ z_nw := List.mem_of_getElem? (i := 75) rfl
theorem nq1007 : (Jvm.Cond.fieldLinkNest "SpoilMeadows$State" (93 : Nat) "SpoilMeadows$Barge" "load" "I" "SpoilMeadows") ∈ z_nw := List.mem_of_getElem? (i := 76) rfl
theorem nq1010 : (Jvm.Cond.fieldLinkNest "SpoilMeadows$State" (137 : Nat) "SpoilMeadows$Barge" "goal" "I" "SpoilMeadows") ∈ z_nw := List.mem_of_getElem? (i := 77) rfl
theorem nq1015 : (Jvm.Cond.fieldLinkNest "SpoilMeadows$State" (111 : Nat) "SpoilMeadows$Barge" "order" "I" "SpoilMeadows") ∈ z_nw := List.mem_of_getElem? (i := 78) rfl
theorem nq1019 : (Jvm.Cond.fieldLinkNest "SpoilMeadows$State" (160 : Nat) "SpoilMeadows$Barge" "laid" "I" "SpoilMeadows") ∈ z_nw := List.mem_of_getElem? (i := 79) rfl
theorem nq1972 : (Jvm.Cond.castable "SpoilMeadows$State" "java/lang/Object") ∈ z_nw := List.mem_of_getElem? (i := 80) rfl
theorem nq516 : (Jvm.Cond.methodLinkNest "SpoilMeadows$Meadow" (3 : Nat) ({ cls := "SpoilMeadows$Hold", name := "<init>", desc := "()V" } : Jvm.MethodName) "SpoilMeadows") ∈ z_nw := List.mem_of_getElem? (i := 81) rfl
theorem nq947 : (Jvm.Cond.methodLinkNest "SpoilMeadows$Meadow" (37 : Nat) ({ cls := "SpoilMeadows", name := "inRange", desc := "(III)Z" } : Jvm.MethodName) "SpoilMeadows") ∈ z_nw := List.mem_of_getElem? (i := 82) rfl
theorem nq1978 : (Jvm.Cond.castable "SpoilMeadows$Meadow" "java/lang/Object") ∈ z_nw := List.mem_of_getElem? (i := 83) rfl
theorem nq721 : (Jvm.Cond.declares ({ cls := "SpoilMeadows$Sum", name := "of", desc := "(LSpoilMeadows$Barge;)I" } : Jvm.MethodName)) ∈ z_nw := List.mem_of_getElem? (i := 84) rfl
theorem nq1165 : (Jvm.Cond.declares ({ cls := "SpoilMeadows$Sum", name := "over", desc := "(LSpoilMeadows$State;)I" } : Jvm.MethodName)) ∈ z_nw := List.mem_of_getElem? (i := 85) rfl
theorem nq635 : (Jvm.Cond.methodLinkNest "SpoilMeadows$1" (7 : Nat) ({ cls := "SpoilMeadows$Sum", name := "<init>", desc := "()V" } : Jvm.MethodName) "SpoilMeadows") ∈ z_nw := List.mem_of_getElem? (i := 86) rfl
theorem nq1005 : (Jvm.Cond.fieldLinkNest "SpoilMeadows$1" (13 : Nat) "SpoilMeadows$Barge" "load" "I" "SpoilMeadows") ∈ z_nw := List.mem_of_getElem? (i := 87) rfl
theorem nq1980 : (Jvm.Cond.castable "SpoilMeadows$1" "java/lang/Object") ∈ z_nw := List.mem_of_getElem? (i := 88) rfl
theorem nq648 : (Jvm.Cond.methodLinkNest "SpoilMeadows$2" (7 : Nat) ({ cls := "SpoilMeadows$Sum", name := "<init>", desc := "()V" } : Jvm.MethodName) "SpoilMeadows") ∈ z_nw := List.mem_of_getElem? (i := 89) rfl
theorem nq1017 : (Jvm.Cond.fieldLinkNest "SpoilMeadows$2" (13 : Nat) "SpoilMeadows$Barge" "laid" "I" "SpoilMeadows") ∈ z_nw := List.mem_of_getElem? (i := 90) rfl
theorem nq1981 : (Jvm.Cond.castable "SpoilMeadows$2" "java/lang/Object") ∈ z_nw := List.mem_of_getElem? (i := 91) rfl
theorem nq474 : (Jvm.Cond.fieldLinkNest "SpoilMeadows$Each" (17 : Nat) "SpoilMeadows$State" "barges" "Ljava/util/ArrayList;" "SpoilMeadows") ∈ z_nw := List.mem_of_getElem? (i := 92) rfl
theorem nq1982 : (Jvm.Cond.castable "SpoilMeadows$Each" "java/lang/Object") ∈ z_nw := List.mem_of_getElem? (i := 93) rfl
theorem nq1983 : (Jvm.Cond.castable "SpoilMeadowsModel" "java/lang/Object") ∈ z_nw := List.mem_of_getElem? (i := 94) rfl
theorem nq1234 : (Jvm.Cond.declares ({ cls := "SpoilMeadows$Measure", name := "of", desc := "(LSpoilMeadows$State;)I" } : Jvm.MethodName)) ∈ z_nw := List.mem_of_getElem? (i := 95) rfl
theorem nq261 : (Jvm.Cond.castable "[B" "java/lang/Cloneable") ∈ z_nw := List.mem_of_getElem? (i := 96) rfl
theorem nq1997 : (Jvm.Cond.castable "[B" "java/lang/Object") ∈ z_nw := List.mem_of_getElem? (i := 97) rfl
theorem nq985 : (Jvm.Cond.castable "[I" "java/lang/Cloneable") ∈ z_nw := List.mem_of_getElem? (i := 98) rfl
theorem nq1996 : (Jvm.Cond.castable "[I" "java/lang/Object") ∈ z_nw := List.mem_of_getElem? (i := 99) rfl
theorem nq2000 : (Jvm.Cond.castable "[J" "java/lang/Object") ∈ z_nw := List.mem_of_getElem? (i := 100) rfl
theorem nq1998 : (Jvm.Cond.castable "[LSpoilMeadows$State;" "java/lang/Object") ∈ z_nw := List.mem_of_getElem? (i := 101) rfl
theorem nq1995 : (Jvm.Cond.castable "[Ljava/lang/Object;" "java/lang/Object") ∈ z_nw := List.mem_of_getElem? (i := 102) rfl
theorem nq1999 : (Jvm.Cond.castable "[Z" "java/lang/Object") ∈ z_nw := List.mem_of_getElem? (i := 103) rfl
theorem z_nw_tbl : ∀ w ∈ z_nw, w ∈ lw_tbl := by
  intro w h
  simp only [z_nw, List.mem_cons, List.not_mem_nil, or_false] at h
  rcases h with h | h | h | h | h | h | h | h | h | h | h | h | h | h | h | h | h | h | h | h | h | h | h | h | h | h | h | h | h | h | h | h | h | h | h | h | h | h | h | h | h | h | h | h | h | h | h | h | h | h | h | h | h | h | h | h | h | h | h | h | h | h | h | h | h | h | h | h | h | h | h | h | h | h | h | h | h | h | h | h | h | h | h | h | h | h | h | h | h | h | h | h | h | h | h | h | h | h | h | h | h | h | h | h <;> subst h
  · exact q1979
  · exact q1279
  · exact q1984
  · exact q1974
  · exact q827
  · exact q828
  · exact q1355
  · exact q1987
  · exact q826
  · exact q1970
  · exact q1986
  · exact q1971
  · exact q1988
  · exact q1994
  · exact q152
  · exact q153
  · exact q1991
  · exact q150
  · exact q151
  · exact q148
  · exact q149
  · exact q147
  · exact q1975
  · exact q1976
  · exact q1977
  · exact q475
  · exact q477
  · exact q479
  · exact q481
  · exact q483
  · exact q485
  · exact q487
  · exact q489
  · exact q491
  · exact q513
  · exact q522
  · exact q525
  · exact q528
  · exact q530
  · exact q532
  · exact q534
  · exact q536
  · exact q857
  · exact q862
  · exact q1000
  · exact q1004
  · exact q1008
  · exact q1011
  · exact q1013
  · exact q1016
  · exact q1020
  · exact q1503
  · exact q1973
  · exact q997
  · exact q1985
  · exact q743
  · exact q904
  · exact q917
  · exact q1497
  · exact q1498
  · exact q1499
  · exact q1500
  · exact q1501
  · exact q1502
  · exact q1989
  · exact q729
  · exact q1002
  · exact q1155
  · exact q1990
  · exact q1090
  · exact q521
  · exact q524
  · exact q527
  · exact q538
  · exact q999
  · exact q1003
  · exact q1007
  · exact q1010
  · exact q1015
  · exact q1019
  · exact q1972
  · exact q516
  · exact q947
  · exact q1978
  · exact q721
  · exact q1165
  · exact q635
  · exact q1005
  · exact q1980
  · exact q648
  · exact q1017
  · exact q1981
  · exact q474
  · exact q1982
  · exact q1983
  · exact q1234
  · exact q261
  · exact q1997
  · exact q985
  · exact q1996
  · exact q2000
  · exact q1998
  · exact q1995
  · exact q1999
/-- what the tables say all through -/
def z_K (g : zG) (U : State) : Prop := va_K g.1 z_cl (z_tys g) U ∧ (∀ w ∈ z_nw, va_Nw w U) ∧ va_AO "java/lang/Object" U ∧ va_AO "SpoilMeadows$State" U
theorem z_K.moved {g : zG} {s U : State} (hW : s.WarmedH U.vm) (h : z_K g s) : z_K g U :=
  ⟨va_K.moved hW.alike h.1, fun w hw => z_mv_warm (z_nw_mv w hw) hW (h.2.1 w hw), va_AO.moved hW.alike h.2.2.1, va_AO.moved hW.alike h.2.2.2⟩
def z_least (j : Nat) : Value := .int (match j with | 0 => 1 | 1 => 0 | 2 => 1 | _ => 1)
def z_most (j : Nat) : Value := .int (match j with | 0 => 40 | 1 => 20 | 2 => 200 | _ => 50)
/-- the statics that are read -/
def z_Z (g : zG) (U : State) (H : Heap) : Prop :=
  va_Z "java/lang/String" "COMPACT_STRINGS" "Z" (.int 1) (fun q => zb0 g ≤ q) U H ∧
  va_Z "SpoilMeadows" "LEAST_SET" "[I" (.ref (g.2.2.2 0)) (fun q => zb0 g ≤ q) U H ∧ va_T .int (g.2.2.2 0) 4 z_least (fun q => zb0 g ≤ q) U H ∧
  va_Z "SpoilMeadows" "MOST_SET" "[I" (.ref (g.2.2.2 1)) (fun q => zb0 g ≤ q) U H ∧ va_T .int (g.2.2.2 1) 4 z_most (fun q => zb0 g ≤ q) U H ∧
  va_Zq "jdk/internal/util/Preconditions" "SIOOBE_FORMATTER" "Ljava/util/function/BiFunction;" (fun q => zb0 g ≤ q) U H ∧
  vx_Zq Bundle.tN "UNASSIGNED_STACK" Bundle.steD (fun q => zb0 g ≤ q) U H ∧ vx_Zq Bundle.tN "SUPPRESSED_SENTINEL" Bundle.listD (fun q => zb0 g ≤ q) U H
theorem z_Z.moved {g : zG} {s U : State} {H : Heap} (hvm : s.vm.Alike U.vm) (h : z_Z g s H) : z_Z g U H := by
  obtain ⟨h1, h2, h3, h4, h5, h6, h7, h8⟩ := h
  exact ⟨h1.moved hvm, h2.moved hvm, h3.moved hvm, h4.moved hvm, h5.moved hvm, h6.moved hvm, h7.moved hvm, h8.moved hvm⟩
theorem z_Z.kept {g : zG} {U : State} {H H1 : Heap} (h : z_Z g U H) (hq : ∀ a : Nat, a < H.size → ¬ zb0 g ≤ a → H1[a]? = H[a]?) : z_Z g U H1 := by
  obtain ⟨h1, h2, h3, h4, h5, h6, h7, h8⟩ := h
  exact ⟨h1.kept hq, h2.kept hq, h3.kept hq, h4.kept hq, h5.kept hq, h6.kept hq, h7.kept hq, h8.kept hq⟩
/-- a contract's start -/
def zPre (g : zG) (Pic : Heap → Prop) : State → Prop := fun U => z_K g U ∧ z_Z g U U.heap ∧ zb0 g ≤ U.heap.size ∧ Pic U.heap
theorem z_blind {av : List Value} {g : zG} {Pic : Heap → Prop} : FrameBlind (va_Pc av (zPre g Pic)) := by
  intro a U g' mk h
  obtain ⟨h0, h1, h2, h3, h4⟩ := h
  exact ⟨h0, z_K.moved (s := U) (U := U.calling g' mk a) (State.WarmedH.refl U) h1, z_Z.moved (s := U) (U := U.calling g' mk a) (Vm.Alike.refl U.vm) h2, h3, h4⟩
/-- what a method's walk knows -/
def zX (p : Program) (s : State) (m : MethodId) (c : Code) (cc : ByteArray) (args : Array Value) (own : String) (nL : Nat) (g : zG) : Prop :=
  p.tables.exec = Jvm.exec ∧ c.code = cc ∧ c.maxLocals = nL ∧ s.vm.findClass own = some m.cls ∧ (∀ w ∈ lw_all, w.before args s = true) ∧ z_K g s ∧ z_Z g s s.heap ∧ zb0 g ≤ s.heap.size
/-! worlds: lists of groups -/
def zH (g : zG) (gs : List va_W) (H : Heap) : Prop := va_P g.1 z_cl gs.flatten H
def zW (g : zG) (A : Nat → Prop) (gs : List va_W) (H : Heap) : Prop := va_P g.1 z_cl gs.flatten H ∧ va_D A gs.flatten
theorem va_P.mem {D : va_G} {cl : List vw_C} {ws : va_W} {H : Heap} (h : va_P D cl ws H) {q : Nat × va_E} (hq : q ∈ ws) : va_at D cl q H := by
  obtain ⟨k, hk⟩ := List.getElem?_of_mem hq
  exact h k q hk
theorem va_P.of_mem {D : va_G} {cl : List vw_C} {ws : va_W} {H : Heap} (h : ∀ q ∈ ws, va_at D cl q H) : va_P D cl ws H := fun _ q hk => h q (List.mem_of_getElem? hk)
theorem va_P.one {D : va_G} {cl : List vw_C} {q : Nat × va_E} {H : Heap} (h : va_at D cl q H) : va_P D cl [q] H := va_P.of_mem (fun x hx => by rw [List.mem_singleton.mp hx]; exact h)
theorem zH.at {g : zG} {gs : List va_W} {H : Heap} (h : zH g gs H) (i j : Nat) {G : va_W} {q : Nat × va_E} (hi : gs[i]? = some G) (hj : G[j]? = some q) : va_at g.1 z_cl q H :=
  va_P.mem h (List.mem_flatten.mpr ⟨G, List.mem_of_getElem? hi, List.mem_of_getElem? hj⟩)
theorem zH.in {g : zG} {gs : List va_W} {H : Heap} (h : zH g gs H) (i : Nat) {G : va_W} {q : Nat × va_E} (hi : gs[i]? = some G) (hj : q ∈ G) : va_at g.1 z_cl q H :=
  va_P.mem h (List.mem_flatten.mpr ⟨G, List.mem_of_getElem? hi, hj⟩)
theorem zW.H {g : zG} {A : Nat → Prop} {gs : List va_W} {H : Heap} (h : zW g A gs H) : zH g gs H := h.1
/-- fewer groups -/
theorem zH.sub {g : zG} {gs gs' : List va_W} {H : Heap} (h : zH g gs H) (is : List Nat) (hs : is.map (fun i => gs[i]?) = gs'.map some) : zH g gs' H := by
  refine va_P.of_mem (fun q hq => ?_)
  obtain ⟨G, hG, hqG⟩ := List.mem_flatten.mp hq
  have h1 : some G ∈ is.map (fun i => gs[i]?) := by rw [hs]; exact List.mem_map.mpr ⟨G, hG, rfl⟩
  obtain ⟨i, -, hi⟩ := List.mem_map.mp h1
  exact zH.in h i hi hqG
theorem zH.app {g : zG} {gs gs' : List va_W} {H : Heap} (h : zH g gs H) (h' : zH g gs' H) : zH g (gs ++ gs') H := by
  show va_P g.1 z_cl (gs ++ gs').flatten H
  rw [List.flatten_append]
  exact va_P.app h h'
theorem zH.nil {g : zG} {H : Heap} : zH g [] H := va_P.of_mem (fun q hq => absurd hq (by simp))
theorem zH.cons {g : zG} {G : va_W} {gs : List va_W} {H : Heap} (h : va_P g.1 z_cl G H) (h' : zH g gs H) : zH g (G :: gs) H := by
  show va_P g.1 z_cl (G :: gs).flatten H
  rw [List.flatten_cons]
  exact va_P.app h h'
theorem zH.grp {g : zG} {gs : List va_W} {H : Heap} (h : zH g gs H) (i : Nat) {G : va_W} (hi : gs[i]? = some G) : va_P g.1 z_cl G H := va_P.of_mem (fun _ hq => zH.in h i hi hq)
theorem va_D.nodup {A : Nat → Prop} {ws : va_W} (h : va_D A ws) : (ws.map (·.1)).Nodup := by
  rw [List.nodup_iff_pairwise_ne, List.pairwise_iff_getElem]
  intro i j hi hj hij he
  rw [List.length_map] at hi hj
  rw [List.getElem_map, List.getElem_map] at he
  have := h.1 i j ws[i] ws[j] (List.getElem?_eq_getElem hi) (List.getElem?_eq_getElem hj) he
  omega
theorem va_D.of_nodup {A : Nat → Prop} {ws : va_W} (h : (ws.map (·.1)).Nodup) (hA : ∀ q ∈ ws, A q.1) : va_D A ws := by
  rw [List.nodup_iff_pairwise_ne, List.pairwise_iff_getElem] at h
  refine ⟨fun i j p q hi hj he => ?_, fun k q hk => hA q (List.mem_of_getElem? hk)⟩
  obtain ⟨hi1, hi2⟩ := List.getElem?_eq_some_iff.mp hi
  obtain ⟨hj1, hj2⟩ := List.getElem?_eq_some_iff.mp hj
  rcases Nat.lt_trichotomy i j with hl | hl | hl
  · have := h i j (by rw [List.length_map]; exact hi1) (by rw [List.length_map]; exact hj1) hl
    rw [List.getElem_map, List.getElem_map, hi2, hj2] at this
    exact absurd he this
  · exact hl
  · have := h j i (by rw [List.length_map]; exact hj1) (by rw [List.length_map]; exact hi1) hl
    rw [List.getElem_map, List.getElem_map, hi2, hj2] at this
    exact absurd he.symm this
theorem va_D.memA {A : Nat → Prop} {ws : va_W} (h : va_D A ws) {q : Nat × va_E} (hq : q ∈ ws) : A q.1 := by
  obtain ⟨k, hk⟩ := List.getElem?_of_mem hq
  exact h.2 k q hk
theorem va_P.perm {D : va_G} {cl : List vw_C} {ws ws' : va_W} {H : Heap} (hp : ws.Perm ws') (h : va_P D cl ws H) : va_P D cl ws' H := va_P.of_mem (fun _ hq => va_P.mem h (hp.mem_iff.mpr hq))
theorem va_D.perm {A : Nat → Prop} {ws ws' : va_W} (hp : ws.Perm ws') (h : va_D A ws) : va_D A ws' := va_D.of_nodup ((hp.map _).nodup_iff.mp h.nodup) (fun _ hq => h.memA (hp.mem_iff.mpr hq))
theorem z_permOf {gs gs' : List va_W} (is : List Nat) (hp : is.Perm (List.range gs.length)) (hs : is.map (fun i => gs[i]?) = gs'.map some) : gs.Perm gs' := by
  have h1 : (is.map (fun i => gs[i]?)).Perm ((List.range gs.length).map (fun i => gs[i]?)) := hp.map _
  have h2 : (List.range gs.length).map (fun i => gs[i]?) = gs.map some := by
    apply List.ext_getElem?
    intro i
    rw [List.getElem?_map, List.getElem?_map]
    by_cases hi : i < gs.length
    · rw [List.getElem?_range hi, List.getElem?_eq_getElem hi]; simp [List.getElem?_eq_getElem hi]
    · rw [List.getElem?_eq_none (by rw [List.length_range]; omega), List.getElem?_eq_none (by omega)]; rfl
  rw [hs, h2] at h1
  have h3 := h1.filterMap id
  rw [List.filterMap_map, List.filterMap_map] at h3
  simpa using h3.symm
/-- the groups in another order -/
theorem zW.perm {g : zG} {A : Nat → Prop} {gs gs' : List va_W} {H : Heap} (h : zW g A gs H) (is : List Nat) (k : Nat) (hk : gs.length = k) (hp : is.Perm (List.range k)) (hs : is.map (fun i => gs[i]?) = gs'.map some) : zW g A gs' H :=
  ⟨va_P.perm (z_permOf is (hk ▸ hp) hs).flatten h.1, va_D.perm (z_permOf is (hk ▸ hp) hs).flatten h.2⟩
theorem zW.eq {g : zG} {A : Nat → Prop} {gs gs' : List va_W} {H : Heap} (h : zW g A gs H) (he : gs = gs') : zW g A gs' H := he ▸ h
theorem zW.eqf {g : zG} {A : Nat → Prop} {gs gs' : List va_W} {H : Heap} (h : zW g A gs H) (he : gs.flatten = gs'.flatten) : zW g A gs' H := by
  obtain ⟨h1, h2⟩ := h
  rw [he] at h1 h2
  exact ⟨h1, h2⟩
theorem zH.eqf {g : zG} {gs gs' : List va_W} {H : Heap} (h : zH g gs H) (he : gs.flatten = gs'.flatten) : zH g gs' H := by
  show va_P _ _ _ _
  rw [← he]; exact h
theorem zW.weak {g : zG} {A B : Nat → Prop} {gs : List va_W} {H : Heap} (h : zW g A gs H) (hAB : ∀ q, A q → B q) : zW g B gs H := ⟨h.1, h.2.weaken (fun _ _ _ => hAB _)⟩
theorem zW.left {g : zG} {A : Nat → Prop} {gc gr : List va_W} {H : Heap} (h : zW g A (gc ++ gr) H) : zW g A gc H := by
  obtain ⟨h1, h2⟩ := h
  rw [List.flatten_append] at h1 h2
  refine ⟨va_P.of_mem (fun q hq => va_P.mem h1 (List.mem_append_left _ hq)), va_D.of_nodup ?_ (fun q hq => h2.memA (List.mem_append_left _ hq))⟩
  have := h2.nodup
  rw [List.map_append] at this
  exact (List.nodup_append.mp this).1
theorem zW.lt {g : zG} {A : Nat → Prop} {gs : List va_W} {H : Heap} (h : zW g A gs H) {q : Nat × va_E} (hq : q ∈ gs.flatten) : q.1 < H.size := (va_P.mem h.1 hq).lt
/-- a write: the place in the flat list -/
theorem z_flatPos : ∀ {gs : List va_W} {i j : Nat} {G : va_W} {q : Nat × va_E}, gs[i]? = some G → G[j]? = some q → ∃ p0 : Nat, gs.flatten[p0]? = some q ∧ ∀ q', gs.flatten.set p0 q' = (gs.set i (G.set j q')).flatten
  | [], i, j, G, q, hi, _ => by simp at hi
  | G0 :: gs, 0, j, G, q, hi, hj => by
    have e : G0 = G := by simpa using hi
    subst e
    have hlt := (List.getElem?_eq_some_iff.mp hj).1
    refine ⟨j, ?_, fun q' => ?_⟩
    · rw [List.flatten_cons, List.getElem?_append_left hlt]; exact hj
    · rw [List.flatten_cons, List.set_append_left _ _ hlt]; rfl
  | G0 :: gs, i + 1, j, G, q, hi, hj => by
    obtain ⟨p0, h1, h2⟩ := z_flatPos (gs := gs) (i := i) (j := j) (G := G) (q := q) (by simpa using hi) hj
    refine ⟨G0.length + p0, ?_, fun q' => ?_⟩
    · rw [List.flatten_cons, List.getElem?_append_right (by omega)]
      rw [show G0.length + p0 - G0.length = p0 by omega]; exact h1
    · rw [List.flatten_cons, List.set_append_right _ _ (by omega), show G0.length + p0 - G0.length = p0 by omega, h2]; rfl
/-! the answers -/
def zQR (v : Value) : Array Value → State → Outcome → State → Prop := fun _ st o t => o = .returned (some v) ∧ t.heap = st.heap
def zQ0 : Array Value → State → Outcome → State → Prop := fun _ st o t => o = .returned none ∧ t.heap = st.heap
def zQW (g : zG) (gs : List va_W) (post : Option Value → List va_W → Prop) : Array Value → State → Outcome → State → Prop := fun _ st o t =>
  ∃ (v : Option Value) (gs' : List va_W), o = .returned v ∧ post v gs' ∧ zW g (va_A gs.flatten st.heap.size) gs' t.heap ∧ va_F (va_A gs.flatten st.heap.size) st t
/-- a contract of a method that reads: its answer is v, the heap stays -/
def zRO (l : Launch) (y : MethodName) (cc : ByteArray) (nL : Nat) (ret : Option FieldType) (rm : Room) (g : zG) (av : List Value) (Pic : Heap → Prop) (v : Value) : Prop :=
  Met l y (ws_ y cc nL ret) rm (va_Pc av (zPre g Pic)) (zQR v) 0 0 (fun _ => False)
def zRV (l : Launch) (y : MethodName) (cc : ByteArray) (nL : Nat) (rm : Room) (g : zG) (av : List Value) (Pic : Heap → Prop) : Prop :=
  Met l y (ws_ y cc nL none) rm (va_Pc av (zPre g Pic)) zQ0 0 0 (fun _ => False)
/-- a contract of a method that writes: its world gs becomes gs', with 'post answer gs'' -/
def zWR (l : Launch) (y : MethodName) (cc : ByteArray) (nL : Nat) (ret : Option FieldType) (rm : Room) (g : zG) (av : List Value) (gs : List va_W) (mc ms sz : Nat) (post : Option Value → List va_W → Prop) : Prop :=
  Met l y (ws_ y cc nL ret) rm (va_Pc av (zPre g (fun H => H.size = sz ∧ zW g (fun q => zb0 g ≤ q) gs H))) (zQW g gs post) mc ms (va_A gs.flatten sz)
