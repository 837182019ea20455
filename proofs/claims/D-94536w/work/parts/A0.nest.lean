set_option maxRecDepth 100000
/-! ===== words of nest mates, casts, interfaces; rules that use them ===== -/
def nwL : List Cond := [
  Cond.castable "java/lang/RuntimeException" "java/lang/Throwable",
  Cond.castable "java/lang/NegativeArraySizeException" "java/lang/NegativeArraySizeException",
  Cond.castable "java/lang/NegativeArraySizeException" "java/lang/Object",
  Cond.castable "java/lang/NullPointerException" "java/lang/NullPointerException",
  Cond.castable "java/lang/NullPointerException" "java/lang/Object",
  Cond.castable "java/lang/ArrayIndexOutOfBoundsException" "java/lang/ArrayIndexOutOfBoundsException",
  Cond.castable "java/lang/ArrayIndexOutOfBoundsException" "java/lang/IndexOutOfBoundsException",
  Cond.castable "java/lang/ArrayIndexOutOfBoundsException" "java/lang/Object",
  Cond.castable "java/util/ArrayList" "java/util/List",
  Cond.castable "java/util/ArrayList" "java/lang/Object",
  Cond.castable "java/lang/ClassCastException" "java/lang/ClassCastException",
  Cond.castable "java/lang/ClassCastException" "java/lang/Object",
  Cond.castable "java/lang/String" "java/lang/Object",
  Cond.castable "java/lang/Throwable" "java/lang/Object",
  Cond.methodLinkNest "UnseenClock" (37 : Nat) ({ cls := "UnseenClock$Slot", name := "<init>", desc := "()V" } : MethodName) "UnseenClock",
  Cond.fieldLinkNest "UnseenClock" (251 : Nat) "UnseenClock$Slot" "held" "Ljava/lang/Object;" "UnseenClock",
  Cond.methodLinkNest "UnseenClock" (40 : Nat) ({ cls := "UnseenClock$Square", name := "<init>", desc := "()V" } : MethodName) "UnseenClock",
  Cond.fieldLinkNest "UnseenClock" (95 : Nat) "UnseenClock$Square" "clocks" "Ljava/util/List;" "UnseenClock",
  Cond.fieldLinkNest "UnseenClock" (130 : Nat) "UnseenClock$Square" "people" "Ljava/util/List;" "UnseenClock",
  Cond.fieldLinkNest "UnseenClock" (171 : Nat) "UnseenClock$Square" "cell" "[[I" "UnseenClock",
  Cond.fieldLinkNest "UnseenClock" (309 : Nat) "UnseenClock$Square" "wide" "I" "UnseenClock",
  Cond.fieldLinkNest "UnseenClock" (312 : Nat) "UnseenClock$Square" "length" "I" "UnseenClock",
  Cond.fieldLinkNest "UnseenClock" (137 : Nat) "UnseenClock$Square" "minutes" "I" "UnseenClock",
  Cond.fieldLinkNest "UnseenClock" (368 : Nat) "UnseenClock$Square" "walls" "I" "UnseenClock",
  Cond.fieldLinkNest "UnseenClock" (119 : Nat) "UnseenClock$Square" "lines" "I" "UnseenClock",
  Cond.methodLinkNest "UnseenClock" (51 : Nat) ({ cls := "UnseenClock$Course", name := "<init>", desc := "()V" } : MethodName) "UnseenClock",
  Cond.fieldLinkNest "UnseenClock" (189 : Nat) "UnseenClock$Course" "look" "[[I" "UnseenClock",
  Cond.fieldLinkNest "UnseenClock" (196 : Nat) "UnseenClock$Course" "shows" "[[I" "UnseenClock",
  Cond.fieldLinkNest "UnseenClock" (204 : Nat) "UnseenClock$Course" "value" "[[I" "UnseenClock",
  Cond.fieldLinkNest "UnseenClock" (186 : Nat) "UnseenClock$Course" "opened" "[I" "UnseenClock",
  Cond.fieldLinkNest "UnseenClock" (329 : Nat) "UnseenClock$Course" "keeps" "[I" "UnseenClock",
  Cond.fieldLinkNest "UnseenClock" (342 : Nat) "UnseenClock$Course" "last" "[I" "UnseenClock",
  Cond.fieldLinkNest "UnseenClock" (183 : Nat) "UnseenClock$Course" "opens" "I" "UnseenClock",
  Cond.fieldLinkNest "UnseenClock" (350 : Nat) "UnseenClock$Course" "isDay" "Z" "UnseenClock",
  Cond.fieldLinkNest "UnseenClock" (354 : Nat) "UnseenClock$Course" "x" "J" "UnseenClock",
  Cond.fieldLinkNest "UnseenClock" (124 : Nat) "UnseenClock$Fault" "kind" "I" "UnseenClock",
  Cond.fieldLinkNest "UnseenClock" (127 : Nat) "UnseenClock$Fault" "place" "I" "UnseenClock",
  Cond.fieldLinkNest "UnseenClock" (110 : Nat) "UnseenClock$Dial" "pace" "I" "UnseenClock",
  Cond.fieldLinkNest "UnseenClock" (201 : Nat) "UnseenClock$Dial" "over" "I" "UnseenClock",
  Cond.methodLinkNest "UnseenClock" (225 : Nat) ({ cls := "UnseenClock$Seen", name := "<init>", desc := "()V" } : MethodName) "UnseenClock",
  Cond.methodLinkNest "UnseenClock" (371 : Nat) ({ cls := "UnseenClock$Image", name := "<init>", desc := "()V" } : MethodName) "UnseenClock",
  Cond.fieldLinkNest "UnseenClock" (376 : Nat) "UnseenClock$Image" "paces" "[I" "UnseenClock",
  Cond.fieldLinkNest "UnseenClock" (372 : Nat) "UnseenClock$Image" "square" "LUnseenClock$Square;" "UnseenClock",
  Cond.fieldLinkNest "UnseenClock" (375 : Nat) "UnseenClock$Image" "away" "I" "UnseenClock",
  Cond.castable "UnseenClock" "java/lang/Object",
  Cond.castable "UnseenClock$Slot" "java/lang/Object",
  Cond.castable "UnseenClock$Always" "UnseenClock$Habit",
  Cond.castable "UnseenClock$Always" "java/lang/Object",
  Cond.castable "UnseenClock$Each" "UnseenClock$Habit",
  Cond.castable "UnseenClock$Each" "java/lang/Object",
  Cond.fieldLinkNest "UnseenClock$Seeing" (16 : Nat) "UnseenClock$Course" "look" "[[I" "UnseenClock",
  Cond.fieldLinkNest "UnseenClock$Seeing" (28 : Nat) "UnseenClock$Course" "shows" "[[I" "UnseenClock",
  Cond.methodLinkNest "UnseenClock$Seeing" (22 : Nat) ({ cls := "UnseenClock", name := "isOn", desc := "(II)Z" } : MethodName) "UnseenClock",
  Cond.castable "UnseenClock$Seeing" "UnseenClock$Habit",
  Cond.castable "UnseenClock$Seeing" "java/lang/Object",
  Cond.castable "UnseenClock$With" "UnseenClock$Habit",
  Cond.castable "UnseenClock$With" "java/lang/Object",
  Cond.castable "UnseenClock$Unless" "UnseenClock$Habit",
  Cond.castable "UnseenClock$Unless" "java/lang/Object",
  Cond.castable "UnseenClock$Maybe" "UnseenClock$Habit",
  Cond.castable "UnseenClock$Maybe" "java/lang/Object",
  Cond.fieldLinkNest "UnseenClock$Seen" (24 : Nat) "UnseenClock$Square" "minutes" "I" "UnseenClock",
  Cond.fieldLinkNest "UnseenClock$Seen" (33 : Nat) "UnseenClock$Course" "look" "[[I" "UnseenClock",
  Cond.fieldLinkNest "UnseenClock$Seen" (30 : Nat) "UnseenClock$Course" "shows" "[[I" "UnseenClock",
  Cond.fieldLinkNest "UnseenClock$Seen" (18 : Nat) "UnseenClock$Course" "square" "LUnseenClock$Square;" "UnseenClock",
  Cond.methodLinkNest "UnseenClock$Seen" (35 : Nat) ({ cls := "UnseenClock", name := "isOn", desc := "(II)Z" } : MethodName) "UnseenClock",
  Cond.castable "UnseenClock$Seen" "java/lang/Object",
  Cond.castable "UnseenClock$Image" "java/lang/Object",
  Cond.methodLinkNest "UnseenClock$Square" (39 : Nat) ({ cls := "UnseenClock", name := "in", desc := "(JJJ)Z" } : MethodName) "UnseenClock",
  Cond.fieldLinkNest "UnseenClock$Square" (58 : Nat) "UnseenClock$Dial" "x" "I" "UnseenClock",
  Cond.fieldLinkNest "UnseenClock$Square" (61 : Nat) "UnseenClock$Dial" "y" "I" "UnseenClock",
  Cond.fieldLinkNest "UnseenClock$Square" (80 : Nat) "UnseenClock$Person" "x" "I" "UnseenClock",
  Cond.fieldLinkNest "UnseenClock$Square" (81 : Nat) "UnseenClock$Person" "y" "I" "UnseenClock",
  Cond.fieldLinkNest "UnseenClock$Square" (82 : Nat) "UnseenClock$Person" "from" "I" "UnseenClock",
  Cond.fieldLinkNest "UnseenClock$Square" (92 : Nat) "UnseenClock$Person" "way" "[I" "UnseenClock",
  Cond.fieldLinkNest "UnseenClock$Square" (88 : Nat) "UnseenClock$Person" "many" "[I" "UnseenClock",
  Cond.fieldLinkNest "UnseenClock$Square" (85 : Nat) "UnseenClock$Person" "legs" "I" "UnseenClock",
  Cond.castable "UnseenClock$Square" "java/lang/Object",
  Cond.fieldLinkNest "UnseenClock$Course" (117 : Nat) "UnseenClock$Square" "clocks" "Ljava/util/List;" "UnseenClock",
  Cond.fieldLinkNest "UnseenClock$Course" (80 : Nat) "UnseenClock$Square" "people" "Ljava/util/List;" "UnseenClock",
  Cond.fieldLinkNest "UnseenClock$Course" (105 : Nat) "UnseenClock$Square" "cell" "[[I" "UnseenClock",
  Cond.fieldLinkNest "UnseenClock$Course" (128 : Nat) "UnseenClock$Square" "minutes" "I" "UnseenClock",
  Cond.fieldLinkNest "UnseenClock$Course" (125 : Nat) "UnseenClock$Dial" "over" "I" "UnseenClock",
  Cond.fieldLinkNest "UnseenClock$Course" (144 : Nat) "UnseenClock$Dial" "shows" "I" "UnseenClock",
  Cond.fieldLinkNest "UnseenClock$Course" (122 : Nat) "UnseenClock$Dial" "from" "I" "UnseenClock",
  Cond.fieldLinkNest "UnseenClock$Course" (102 : Nat) "UnseenClock$Person" "looks" "Ljava/util/List;" "UnseenClock",
  Cond.methodLinkNest "UnseenClock$Course" (92 : Nat) ({ cls := "UnseenClock", name := "isOn", desc := "(II)Z" } : MethodName) "UnseenClock",
  Cond.castable "UnseenClock$Course" "java/lang/Object",
  Cond.castable "UnseenClockModel" "java/lang/Object",
  Cond.fieldLinkNest "UnseenClock$Reader" (125 : Nat) "UnseenClock$Square" "clocks" "Ljava/util/List;" "UnseenClock",
  Cond.fieldLinkNest "UnseenClock$Reader" (151 : Nat) "UnseenClock$Square" "people" "Ljava/util/List;" "UnseenClock",
  Cond.fieldLinkNest "UnseenClock$Reader" (117 : Nat) "UnseenClock$Square" "wall" "[Z" "UnseenClock",
  Cond.fieldLinkNest "UnseenClock$Reader" (96 : Nat) "UnseenClock$Square" "wide" "I" "UnseenClock",
  Cond.fieldLinkNest "UnseenClock$Reader" (100 : Nat) "UnseenClock$Square" "length" "I" "UnseenClock",
  Cond.fieldLinkNest "UnseenClock$Reader" (104 : Nat) "UnseenClock$Square" "minutes" "I" "UnseenClock",
  Cond.fieldLinkNest "UnseenClock$Reader" (109 : Nat) "UnseenClock$Square" "walls" "I" "UnseenClock",
  Cond.fieldLinkNest "UnseenClock$Reader" (254 : Nat) "UnseenClock$Square" "lines" "I" "UnseenClock",
  Cond.methodLinkNest "UnseenClock$Reader" (11 : Nat) ({ cls := "UnseenClock$Square", name := "<init>", desc := "()V" } : MethodName) "UnseenClock",
  Cond.methodLinkNest "UnseenClock$Reader" (32 : Nat) ({ cls := "UnseenClock", name := "in", desc := "(JJJ)Z" } : MethodName) "UnseenClock",
  Cond.fieldLinkNest "UnseenClock$Reader" (174 : Nat) "UnseenClock$Person" "way" "[I" "UnseenClock",
  Cond.fieldLinkNest "UnseenClock$Reader" (180 : Nat) "UnseenClock$Person" "many" "[I" "UnseenClock",
  Cond.fieldLinkNest "UnseenClock$Reader" (190 : Nat) "UnseenClock$Person" "looks" "Ljava/util/List;" "UnseenClock",
  Cond.fieldLinkNest "UnseenClock$Reader" (171 : Nat) "UnseenClock$Person" "legs" "I" "UnseenClock",
  Cond.castable "UnseenClock$Reader" "java/lang/Object",
  Cond.castable "UnseenClock$Fault" "UnseenClock$Fault",
  Cond.castable "UnseenClock$Fault" "java/lang/Object",
  Cond.castable "UnseenClock$Dial" "java/lang/Object",
  Cond.castable "UnseenClock$Person" "java/lang/Object",
  Cond.declares ({ cls := "UnseenClock$Habit", name := "now", desc := "(LUnseenClock$Course;II)I" } : MethodName),
  Cond.castable "[B" "java/lang/Object",
  Cond.castable "[I" "java/lang/Object",
  Cond.castable "[J" "java/lang/Object",
  Cond.castable "[LUnseenClock$Image;" "java/lang/Object",
  Cond.castable "[LUnseenClock$Slot;" "java/lang/Object",
  Cond.castable "[Ljava/lang/Object;" "java/lang/Object",
  Cond.castable "[S" "java/lang/Object",
  Cond.castable "[Z" "java/lang/Object",
  Cond.castable "[[I" "java/lang/Object",
  Cond.castable "[[Z" "java/lang/Object"]
theorem nq309 : (Cond.castable "java/lang/RuntimeException" "java/lang/Throwable") ∈ nwL := List.mem_of_getElem? (i := 0) rfl
theorem nq251 : (Cond.castable "java/lang/NegativeArraySizeException" "java/lang/NegativeArraySizeException") ∈ nwL := List.mem_of_getElem? (i := 1) rfl
theorem nq2328 : (Cond.castable "java/lang/NegativeArraySizeException" "java/lang/Object") ∈ nwL := List.mem_of_getElem? (i := 2) rfl
theorem nq307 : (Cond.castable "java/lang/NullPointerException" "java/lang/NullPointerException") ∈ nwL := List.mem_of_getElem? (i := 3) rfl
theorem nq2329 : (Cond.castable "java/lang/NullPointerException" "java/lang/Object") ∈ nwL := List.mem_of_getElem? (i := 4) rfl
theorem nq325 : (Cond.castable "java/lang/ArrayIndexOutOfBoundsException" "java/lang/ArrayIndexOutOfBoundsException") ∈ nwL := List.mem_of_getElem? (i := 5) rfl
theorem nq2303 : (Cond.castable "java/lang/ArrayIndexOutOfBoundsException" "java/lang/IndexOutOfBoundsException") ∈ nwL := List.mem_of_getElem? (i := 6) rfl
theorem nq2330 : (Cond.castable "java/lang/ArrayIndexOutOfBoundsException" "java/lang/Object") ∈ nwL := List.mem_of_getElem? (i := 7) rfl
theorem nq802 : (Cond.castable "java/util/ArrayList" "java/util/List") ∈ nwL := List.mem_of_getElem? (i := 8) rfl
theorem nq2314 : (Cond.castable "java/util/ArrayList" "java/lang/Object") ∈ nwL := List.mem_of_getElem? (i := 9) rfl
theorem nq352 : (Cond.castable "java/lang/ClassCastException" "java/lang/ClassCastException") ∈ nwL := List.mem_of_getElem? (i := 10) rfl
theorem nq2331 : (Cond.castable "java/lang/ClassCastException" "java/lang/Object") ∈ nwL := List.mem_of_getElem? (i := 11) rfl
theorem nq2333 : (Cond.castable "java/lang/String" "java/lang/Object") ∈ nwL := List.mem_of_getElem? (i := 12) rfl
theorem nq2332 : (Cond.castable "java/lang/Throwable" "java/lang/Object") ∈ nwL := List.mem_of_getElem? (i := 13) rfl
theorem nq380 : (Cond.methodLinkNest "UnseenClock" (37 : Nat) ({ cls := "UnseenClock$Slot", name := "<init>", desc := "()V" } : MethodName) "UnseenClock") ∈ nwL := List.mem_of_getElem? (i := 14) rfl
theorem nq385 : (Cond.fieldLinkNest "UnseenClock" (251 : Nat) "UnseenClock$Slot" "held" "Ljava/lang/Object;" "UnseenClock") ∈ nwL := List.mem_of_getElem? (i := 15) rfl
theorem nq391 : (Cond.methodLinkNest "UnseenClock" (40 : Nat) ({ cls := "UnseenClock$Square", name := "<init>", desc := "()V" } : MethodName) "UnseenClock") ∈ nwL := List.mem_of_getElem? (i := 16) rfl
theorem nq427 : (Cond.fieldLinkNest "UnseenClock" (95 : Nat) "UnseenClock$Square" "clocks" "Ljava/util/List;" "UnseenClock") ∈ nwL := List.mem_of_getElem? (i := 17) rfl
theorem nq431 : (Cond.fieldLinkNest "UnseenClock" (130 : Nat) "UnseenClock$Square" "people" "Ljava/util/List;" "UnseenClock") ∈ nwL := List.mem_of_getElem? (i := 18) rfl
theorem nq437 : (Cond.fieldLinkNest "UnseenClock" (171 : Nat) "UnseenClock$Square" "cell" "[[I" "UnseenClock") ∈ nwL := List.mem_of_getElem? (i := 19) rfl
theorem nq440 : (Cond.fieldLinkNest "UnseenClock" (309 : Nat) "UnseenClock$Square" "wide" "I" "UnseenClock") ∈ nwL := List.mem_of_getElem? (i := 20) rfl
theorem nq443 : (Cond.fieldLinkNest "UnseenClock" (312 : Nat) "UnseenClock$Square" "length" "I" "UnseenClock") ∈ nwL := List.mem_of_getElem? (i := 21) rfl
theorem nq448 : (Cond.fieldLinkNest "UnseenClock" (137 : Nat) "UnseenClock$Square" "minutes" "I" "UnseenClock") ∈ nwL := List.mem_of_getElem? (i := 22) rfl
theorem nq450 : (Cond.fieldLinkNest "UnseenClock" (368 : Nat) "UnseenClock$Square" "walls" "I" "UnseenClock") ∈ nwL := List.mem_of_getElem? (i := 23) rfl
theorem nq452 : (Cond.fieldLinkNest "UnseenClock" (119 : Nat) "UnseenClock$Square" "lines" "I" "UnseenClock") ∈ nwL := List.mem_of_getElem? (i := 24) rfl
theorem nq476 : (Cond.methodLinkNest "UnseenClock" (51 : Nat) ({ cls := "UnseenClock$Course", name := "<init>", desc := "()V" } : MethodName) "UnseenClock") ∈ nwL := List.mem_of_getElem? (i := 25) rfl
theorem nq486 : (Cond.fieldLinkNest "UnseenClock" (189 : Nat) "UnseenClock$Course" "look" "[[I" "UnseenClock") ∈ nwL := List.mem_of_getElem? (i := 26) rfl
theorem nq490 : (Cond.fieldLinkNest "UnseenClock" (196 : Nat) "UnseenClock$Course" "shows" "[[I" "UnseenClock") ∈ nwL := List.mem_of_getElem? (i := 27) rfl
theorem nq492 : (Cond.fieldLinkNest "UnseenClock" (204 : Nat) "UnseenClock$Course" "value" "[[I" "UnseenClock") ∈ nwL := List.mem_of_getElem? (i := 28) rfl
theorem nq496 : (Cond.fieldLinkNest "UnseenClock" (186 : Nat) "UnseenClock$Course" "opened" "[I" "UnseenClock") ∈ nwL := List.mem_of_getElem? (i := 29) rfl
theorem nq500 : (Cond.fieldLinkNest "UnseenClock" (329 : Nat) "UnseenClock$Course" "keeps" "[I" "UnseenClock") ∈ nwL := List.mem_of_getElem? (i := 30) rfl
theorem nq503 : (Cond.fieldLinkNest "UnseenClock" (342 : Nat) "UnseenClock$Course" "last" "[I" "UnseenClock") ∈ nwL := List.mem_of_getElem? (i := 31) rfl
theorem nq509 : (Cond.fieldLinkNest "UnseenClock" (183 : Nat) "UnseenClock$Course" "opens" "I" "UnseenClock") ∈ nwL := List.mem_of_getElem? (i := 32) rfl
theorem nq512 : (Cond.fieldLinkNest "UnseenClock" (350 : Nat) "UnseenClock$Course" "isDay" "Z" "UnseenClock") ∈ nwL := List.mem_of_getElem? (i := 33) rfl
theorem nq514 : (Cond.fieldLinkNest "UnseenClock" (354 : Nat) "UnseenClock$Course" "x" "J" "UnseenClock") ∈ nwL := List.mem_of_getElem? (i := 34) rfl
theorem nq747 : (Cond.fieldLinkNest "UnseenClock" (124 : Nat) "UnseenClock$Fault" "kind" "I" "UnseenClock") ∈ nwL := List.mem_of_getElem? (i := 35) rfl
theorem nq749 : (Cond.fieldLinkNest "UnseenClock" (127 : Nat) "UnseenClock$Fault" "place" "I" "UnseenClock") ∈ nwL := List.mem_of_getElem? (i := 36) rfl
theorem nq848 : (Cond.fieldLinkNest "UnseenClock" (110 : Nat) "UnseenClock$Dial" "pace" "I" "UnseenClock") ∈ nwL := List.mem_of_getElem? (i := 37) rfl
theorem nq851 : (Cond.fieldLinkNest "UnseenClock" (201 : Nat) "UnseenClock$Dial" "over" "I" "UnseenClock") ∈ nwL := List.mem_of_getElem? (i := 38) rfl
theorem nq1361 : (Cond.methodLinkNest "UnseenClock" (225 : Nat) ({ cls := "UnseenClock$Seen", name := "<init>", desc := "()V" } : MethodName) "UnseenClock") ∈ nwL := List.mem_of_getElem? (i := 39) rfl
theorem nq1612 : (Cond.methodLinkNest "UnseenClock" (371 : Nat) ({ cls := "UnseenClock$Image", name := "<init>", desc := "()V" } : MethodName) "UnseenClock") ∈ nwL := List.mem_of_getElem? (i := 40) rfl
theorem nq1617 : (Cond.fieldLinkNest "UnseenClock" (376 : Nat) "UnseenClock$Image" "paces" "[I" "UnseenClock") ∈ nwL := List.mem_of_getElem? (i := 41) rfl
theorem nq1618 : (Cond.fieldLinkNest "UnseenClock" (372 : Nat) "UnseenClock$Image" "square" "LUnseenClock$Square;" "UnseenClock") ∈ nwL := List.mem_of_getElem? (i := 42) rfl
theorem nq1619 : (Cond.fieldLinkNest "UnseenClock" (375 : Nat) "UnseenClock$Image" "away" "I" "UnseenClock") ∈ nwL := List.mem_of_getElem? (i := 43) rfl
theorem nq2312 : (Cond.castable "UnseenClock" "java/lang/Object") ∈ nwL := List.mem_of_getElem? (i := 44) rfl
theorem nq2310 : (Cond.castable "UnseenClock$Slot" "java/lang/Object") ∈ nwL := List.mem_of_getElem? (i := 45) rfl
theorem nq2304 : (Cond.castable "UnseenClock$Always" "UnseenClock$Habit") ∈ nwL := List.mem_of_getElem? (i := 46) rfl
theorem nq2321 : (Cond.castable "UnseenClock$Always" "java/lang/Object") ∈ nwL := List.mem_of_getElem? (i := 47) rfl
theorem nq2305 : (Cond.castable "UnseenClock$Each" "UnseenClock$Habit") ∈ nwL := List.mem_of_getElem? (i := 48) rfl
theorem nq2322 : (Cond.castable "UnseenClock$Each" "java/lang/Object") ∈ nwL := List.mem_of_getElem? (i := 49) rfl
theorem nq484 : (Cond.fieldLinkNest "UnseenClock$Seeing" (16 : Nat) "UnseenClock$Course" "look" "[[I" "UnseenClock") ∈ nwL := List.mem_of_getElem? (i := 50) rfl
theorem nq488 : (Cond.fieldLinkNest "UnseenClock$Seeing" (28 : Nat) "UnseenClock$Course" "shows" "[[I" "UnseenClock") ∈ nwL := List.mem_of_getElem? (i := 51) rfl
theorem nq1256 : (Cond.methodLinkNest "UnseenClock$Seeing" (22 : Nat) ({ cls := "UnseenClock", name := "isOn", desc := "(II)Z" } : MethodName) "UnseenClock") ∈ nwL := List.mem_of_getElem? (i := 52) rfl
theorem nq2307 : (Cond.castable "UnseenClock$Seeing" "UnseenClock$Habit") ∈ nwL := List.mem_of_getElem? (i := 53) rfl
theorem nq2323 : (Cond.castable "UnseenClock$Seeing" "java/lang/Object") ∈ nwL := List.mem_of_getElem? (i := 54) rfl
theorem nq2309 : (Cond.castable "UnseenClock$With" "UnseenClock$Habit") ∈ nwL := List.mem_of_getElem? (i := 55) rfl
theorem nq2324 : (Cond.castable "UnseenClock$With" "java/lang/Object") ∈ nwL := List.mem_of_getElem? (i := 56) rfl
theorem nq2308 : (Cond.castable "UnseenClock$Unless" "UnseenClock$Habit") ∈ nwL := List.mem_of_getElem? (i := 57) rfl
theorem nq2325 : (Cond.castable "UnseenClock$Unless" "java/lang/Object") ∈ nwL := List.mem_of_getElem? (i := 58) rfl
theorem nq2306 : (Cond.castable "UnseenClock$Maybe" "UnseenClock$Habit") ∈ nwL := List.mem_of_getElem? (i := 59) rfl
theorem nq2326 : (Cond.castable "UnseenClock$Maybe" "java/lang/Object") ∈ nwL := List.mem_of_getElem? (i := 60) rfl
theorem nq444 : (Cond.fieldLinkNest "UnseenClock$Seen" (24 : Nat) "UnseenClock$Square" "minutes" "I" "UnseenClock") ∈ nwL := List.mem_of_getElem? (i := 61) rfl
theorem nq485 : (Cond.fieldLinkNest "UnseenClock$Seen" (33 : Nat) "UnseenClock$Course" "look" "[[I" "UnseenClock") ∈ nwL := List.mem_of_getElem? (i := 62) rfl
theorem nq489 : (Cond.fieldLinkNest "UnseenClock$Seen" (30 : Nat) "UnseenClock$Course" "shows" "[[I" "UnseenClock") ∈ nwL := List.mem_of_getElem? (i := 63) rfl
theorem nq506 : (Cond.fieldLinkNest "UnseenClock$Seen" (18 : Nat) "UnseenClock$Course" "square" "LUnseenClock$Square;" "UnseenClock") ∈ nwL := List.mem_of_getElem? (i := 64) rfl
theorem nq1448 : (Cond.methodLinkNest "UnseenClock$Seen" (35 : Nat) ({ cls := "UnseenClock", name := "isOn", desc := "(II)Z" } : MethodName) "UnseenClock") ∈ nwL := List.mem_of_getElem? (i := 65) rfl
theorem nq2327 : (Cond.castable "UnseenClock$Seen" "java/lang/Object") ∈ nwL := List.mem_of_getElem? (i := 66) rfl
theorem nq2311 : (Cond.castable "UnseenClock$Image" "java/lang/Object") ∈ nwL := List.mem_of_getElem? (i := 67) rfl
theorem nq793 : (Cond.methodLinkNest "UnseenClock$Square" (39 : Nat) ({ cls := "UnseenClock", name := "in", desc := "(JJJ)Z" } : MethodName) "UnseenClock") ∈ nwL := List.mem_of_getElem? (i := 68) rfl
theorem nq844 : (Cond.fieldLinkNest "UnseenClock$Square" (58 : Nat) "UnseenClock$Dial" "x" "I" "UnseenClock") ∈ nwL := List.mem_of_getElem? (i := 69) rfl
theorem nq846 : (Cond.fieldLinkNest "UnseenClock$Square" (61 : Nat) "UnseenClock$Dial" "y" "I" "UnseenClock") ∈ nwL := List.mem_of_getElem? (i := 70) rfl
theorem nq953 : (Cond.fieldLinkNest "UnseenClock$Square" (80 : Nat) "UnseenClock$Person" "x" "I" "UnseenClock") ∈ nwL := List.mem_of_getElem? (i := 71) rfl
theorem nq955 : (Cond.fieldLinkNest "UnseenClock$Square" (81 : Nat) "UnseenClock$Person" "y" "I" "UnseenClock") ∈ nwL := List.mem_of_getElem? (i := 72) rfl
theorem nq957 : (Cond.fieldLinkNest "UnseenClock$Square" (82 : Nat) "UnseenClock$Person" "from" "I" "UnseenClock") ∈ nwL := List.mem_of_getElem? (i := 73) rfl
theorem nq959 : (Cond.fieldLinkNest "UnseenClock$Square" (92 : Nat) "UnseenClock$Person" "way" "[I" "UnseenClock") ∈ nwL := List.mem_of_getElem? (i := 74) rfl
theorem nq962 : (Cond.fieldLinkNest "UnseenClock$Square" (88 : Nat) "UnseenClock$Person" "many" "[I" "UnseenClock") ∈ nwL := List.mem_of_getElem? (i := 75) rfl
theorem nq967 : (Cond.fieldLinkNest "UnseenClock$Square" (85 : Nat) "UnseenClock$Person" "legs" "I" "UnseenClock") ∈ nwL := List.mem_of_getElem? (i := 76) rfl
theorem nq2313 : (Cond.castable "UnseenClock$Square" "java/lang/Object") ∈ nwL := List.mem_of_getElem? (i := 77) rfl
theorem nq426 : (Cond.fieldLinkNest "UnseenClock$Course" (117 : Nat) "UnseenClock$Square" "clocks" "Ljava/util/List;" "UnseenClock") ∈ nwL := List.mem_of_getElem? (i := 78) rfl
theorem nq430 : (Cond.fieldLinkNest "UnseenClock$Course" (80 : Nat) "UnseenClock$Square" "people" "Ljava/util/List;" "UnseenClock") ∈ nwL := List.mem_of_getElem? (i := 79) rfl
theorem nq436 : (Cond.fieldLinkNest "UnseenClock$Course" (105 : Nat) "UnseenClock$Square" "cell" "[[I" "UnseenClock") ∈ nwL := List.mem_of_getElem? (i := 80) rfl
theorem nq446 : (Cond.fieldLinkNest "UnseenClock$Course" (128 : Nat) "UnseenClock$Square" "minutes" "I" "UnseenClock") ∈ nwL := List.mem_of_getElem? (i := 81) rfl
theorem nq850 : (Cond.fieldLinkNest "UnseenClock$Course" (125 : Nat) "UnseenClock$Dial" "over" "I" "UnseenClock") ∈ nwL := List.mem_of_getElem? (i := 82) rfl
theorem nq853 : (Cond.fieldLinkNest "UnseenClock$Course" (144 : Nat) "UnseenClock$Dial" "shows" "I" "UnseenClock") ∈ nwL := List.mem_of_getElem? (i := 83) rfl
theorem nq855 : (Cond.fieldLinkNest "UnseenClock$Course" (122 : Nat) "UnseenClock$Dial" "from" "I" "UnseenClock") ∈ nwL := List.mem_of_getElem? (i := 84) rfl
theorem nq965 : (Cond.fieldLinkNest "UnseenClock$Course" (102 : Nat) "UnseenClock$Person" "looks" "Ljava/util/List;" "UnseenClock") ∈ nwL := List.mem_of_getElem? (i := 85) rfl
theorem nq1168 : (Cond.methodLinkNest "UnseenClock$Course" (92 : Nat) ({ cls := "UnseenClock", name := "isOn", desc := "(II)Z" } : MethodName) "UnseenClock") ∈ nwL := List.mem_of_getElem? (i := 86) rfl
theorem nq2315 : (Cond.castable "UnseenClock$Course" "java/lang/Object") ∈ nwL := List.mem_of_getElem? (i := 87) rfl
theorem nq2316 : (Cond.castable "UnseenClockModel" "java/lang/Object") ∈ nwL := List.mem_of_getElem? (i := 88) rfl
theorem nq428 : (Cond.fieldLinkNest "UnseenClock$Reader" (125 : Nat) "UnseenClock$Square" "clocks" "Ljava/util/List;" "UnseenClock") ∈ nwL := List.mem_of_getElem? (i := 89) rfl
theorem nq432 : (Cond.fieldLinkNest "UnseenClock$Reader" (151 : Nat) "UnseenClock$Square" "people" "Ljava/util/List;" "UnseenClock") ∈ nwL := List.mem_of_getElem? (i := 90) rfl
theorem nq434 : (Cond.fieldLinkNest "UnseenClock$Reader" (117 : Nat) "UnseenClock$Square" "wall" "[Z" "UnseenClock") ∈ nwL := List.mem_of_getElem? (i := 91) rfl
theorem nq439 : (Cond.fieldLinkNest "UnseenClock$Reader" (96 : Nat) "UnseenClock$Square" "wide" "I" "UnseenClock") ∈ nwL := List.mem_of_getElem? (i := 92) rfl
theorem nq442 : (Cond.fieldLinkNest "UnseenClock$Reader" (100 : Nat) "UnseenClock$Square" "length" "I" "UnseenClock") ∈ nwL := List.mem_of_getElem? (i := 93) rfl
theorem nq447 : (Cond.fieldLinkNest "UnseenClock$Reader" (104 : Nat) "UnseenClock$Square" "minutes" "I" "UnseenClock") ∈ nwL := List.mem_of_getElem? (i := 94) rfl
theorem nq449 : (Cond.fieldLinkNest "UnseenClock$Reader" (109 : Nat) "UnseenClock$Square" "walls" "I" "UnseenClock") ∈ nwL := List.mem_of_getElem? (i := 95) rfl
theorem nq453 : (Cond.fieldLinkNest "UnseenClock$Reader" (254 : Nat) "UnseenClock$Square" "lines" "I" "UnseenClock") ∈ nwL := List.mem_of_getElem? (i := 96) rfl
theorem nq616 : (Cond.methodLinkNest "UnseenClock$Reader" (11 : Nat) ({ cls := "UnseenClock$Square", name := "<init>", desc := "()V" } : MethodName) "UnseenClock") ∈ nwL := List.mem_of_getElem? (i := 97) rfl
theorem nq625 : (Cond.methodLinkNest "UnseenClock$Reader" (32 : Nat) ({ cls := "UnseenClock", name := "in", desc := "(JJJ)Z" } : MethodName) "UnseenClock") ∈ nwL := List.mem_of_getElem? (i := 98) rfl
theorem nq960 : (Cond.fieldLinkNest "UnseenClock$Reader" (174 : Nat) "UnseenClock$Person" "way" "[I" "UnseenClock") ∈ nwL := List.mem_of_getElem? (i := 99) rfl
theorem nq963 : (Cond.fieldLinkNest "UnseenClock$Reader" (180 : Nat) "UnseenClock$Person" "many" "[I" "UnseenClock") ∈ nwL := List.mem_of_getElem? (i := 100) rfl
theorem nq966 : (Cond.fieldLinkNest "UnseenClock$Reader" (190 : Nat) "UnseenClock$Person" "looks" "Ljava/util/List;" "UnseenClock") ∈ nwL := List.mem_of_getElem? (i := 101) rfl
theorem nq968 : (Cond.fieldLinkNest "UnseenClock$Reader" (171 : Nat) "UnseenClock$Person" "legs" "I" "UnseenClock") ∈ nwL := List.mem_of_getElem? (i := 102) rfl
theorem nq2317 : (Cond.castable "UnseenClock$Reader" "java/lang/Object") ∈ nwL := List.mem_of_getElem? (i := 103) rfl
theorem nq727 : (Cond.castable "UnseenClock$Fault" "UnseenClock$Fault") ∈ nwL := List.mem_of_getElem? (i := 104) rfl
theorem nq2318 : (Cond.castable "UnseenClock$Fault" "java/lang/Object") ∈ nwL := List.mem_of_getElem? (i := 105) rfl
theorem nq2319 : (Cond.castable "UnseenClock$Dial" "java/lang/Object") ∈ nwL := List.mem_of_getElem? (i := 106) rfl
theorem nq2320 : (Cond.castable "UnseenClock$Person" "java/lang/Object") ∈ nwL := List.mem_of_getElem? (i := 107) rfl
theorem nq1238 : (Cond.declares ({ cls := "UnseenClock$Habit", name := "now", desc := "(LUnseenClock$Course;II)I" } : MethodName)) ∈ nwL := List.mem_of_getElem? (i := 108) rfl
theorem nq2337 : (Cond.castable "[B" "java/lang/Object") ∈ nwL := List.mem_of_getElem? (i := 109) rfl
theorem nq2339 : (Cond.castable "[I" "java/lang/Object") ∈ nwL := List.mem_of_getElem? (i := 110) rfl
theorem nq2340 : (Cond.castable "[J" "java/lang/Object") ∈ nwL := List.mem_of_getElem? (i := 111) rfl
theorem nq2346 : (Cond.castable "[LUnseenClock$Image;" "java/lang/Object") ∈ nwL := List.mem_of_getElem? (i := 112) rfl
theorem nq2341 : (Cond.castable "[LUnseenClock$Slot;" "java/lang/Object") ∈ nwL := List.mem_of_getElem? (i := 113) rfl
theorem nq2342 : (Cond.castable "[Ljava/lang/Object;" "java/lang/Object") ∈ nwL := List.mem_of_getElem? (i := 114) rfl
theorem nq2338 : (Cond.castable "[S" "java/lang/Object") ∈ nwL := List.mem_of_getElem? (i := 115) rfl
theorem nq2344 : (Cond.castable "[Z" "java/lang/Object") ∈ nwL := List.mem_of_getElem? (i := 116) rfl
theorem nq2343 : (Cond.castable "[[I" "java/lang/Object") ∈ nwL := List.mem_of_getElem? (i := 117) rfl
theorem nq2345 : (Cond.castable "[[Z" "java/lang/Object") ∈ nwL := List.mem_of_getElem? (i := 118) rfl
def fwL : List (MethodName × MethodName) := [(⟨"java/util/List", "size", "()I"⟩, ⟨"java/util/ArrayList", "size", "()I"⟩), (⟨"java/util/List", "get", "(I)Ljava/lang/Object;"⟩, ⟨"java/util/ArrayList", "get", "(I)Ljava/lang/Object;"⟩), (⟨"java/util/List", "add", "(Ljava/lang/Object;)Z"⟩, ⟨"java/util/ArrayList", "add", "(Ljava/lang/Object;)Z"⟩), (⟨"java/util/List", "isEmpty", "()Z"⟩, ⟨"java/util/ArrayList", "isEmpty", "()Z"⟩)]
/-- what the component's methods use of the tables beyond lw_all -/
def WkX (X : Cx) : Prop := ∀ U, X.G U → (∀ w ∈ nwL, va_Nw w U) ∧ (∀ e ∈ fwL, va_Fw "java/util/ArrayList" e.1 e.2 U) ∧ (va_AO "UnseenClock$Slot" U ∧ va_AO "java/lang/Object" U ∧ va_AO "UnseenClock$Image" U) ∧ (Cond.arrayOver (.array .int)).before #[] U = true ∧ (Cond.arrayOver (.array .boolean)).before #[] U = true
section NestA0
variable {X : Cx} {M M' : MD} {R : Room} {Z : ZT} {k n mc ms pc idx a : Nat} {L : List (Option Value)} {st As : List Value} {h : AH} {Q : Outcome → AH → Prop}
theorem J.getfN {C host : String} {T : u_T} {N ci f : Nat} {ty : Nat → FieldType} {fs : List Value} {v : Value} (hX : WkX X) (hC : ClsOK C T N ty) (hc : vwCl[ci]? = some (C, T, N)) (ha : h a = some (.inr (ci, fs))) (hf : f < N) (hv : fs[f]? = some v) (hl : Cond.fieldLinkNest M.y.cls idx (T f).1 (T f).2.1 (T f).2.2.1 host ∈ nwL) (hd : decode M.cc pc = .ok (.getfield idx, 3))
    (kk : J X M R Z (pc + 3) L (v :: st) h k n) : J X M R Z pc L (.ref a :: st) h k n := by
  intro p e s m args below meth c B rk H locs ls hW hS hL
  obtain ⟨ws, hP, hD, hh⟩ := id hW
  obtain ⟨q0, hq0⟩ := hh a _ ha
  exact va_getN B.1 B.2.1 B.2.2.2.2.2.2.1 hC.1 B.2.2.2.2.2.1 B.2.2.2.2.2.2.2.1.1 hP q0 hq0 hc f hf (va_Nw.use rfl ((hX s B.2.2.2.2.2.2.2.1.2.1).1 _ hl)) (fun _ q => q) hv hd (kk p e s m args below meth c B rk H locs ls hW hS hL)
theorem J.putfN {C host : String} {T : u_T} {N ci f : Nat} {ty : Nat → FieldType} {fs : List Value} {v : Value} (hX : WkX X) (hC : ClsOK C T N ty) (hc : vwCl[ci]? = some (C, T, N)) (ha : h a = some (.inr (ci, fs))) (hf : f < N) (hfs : f < fs.length) (hfin : (T f).2.2.2 = false) (hn : narrow (ty f) v = v) (hfit : fits (ty f) v = true) (hl : Cond.fieldLinkNest M.y.cls idx (T f).1 (T f).2.1 (T f).2.2.1 host ∈ nwL) (hd : decode M.cc pc = .ok (.putfield idx, 3))
    (kk : J X M R Z (pc + 3) L st (va_up h a (some (.inr (ci, fs.set f v)))) k n) : J X M R Z pc L (v :: .ref a :: st) h k n := by
  intro p e s m args below meth c B rk H locs ls hW hS hL
  obtain ⟨ws, hP, hD, hh⟩ := id hW
  obtain ⟨q0, hq0⟩ := hh a _ ha
  exact va_putN B.1 B.2.1 B.2.2.2.2.2.2.1 hC.1 ty hC.2.1 hC.2.2 B.2.2.2.2.2.1 B.2.2.2.2.2.2.2.1.1 hP hD hS q0 hq0 hc f hf (va_Nw.use rfl ((hX s B.2.2.2.2.2.2.2.1.2.1).1 _ hl)) (fun _ q => q) hfin (hC.2.1 f hf) hn hfit hfs hd
    (fun H1 locs1 hP1 hD1 hS1 => kk p e s m args below meth c B rk H1 locs1 ls (Wd.set hD hh hq0 hP1 hD1) hS1 hL)
/-- a static method of the nest's host -/
theorem J.callSN {host : String} (hX : WkX X) (hC : Cg X M' mc ms As h Q) (hret : ∀ o h', Q o h' → ∃ v, o = .returned v) (hd : decode M.cc pc = .ok (.invokestatic idx, 3)) (hG : GoodIn lw_all (ws_ M'.y M'.cc M'.nL M'.ret)) (hl : Cond.methodLinkNest M.y.cls idx M'.y host ∈ nwL) (hst' : Cond.static M'.y ∈ lw_all) (hini : Cond.initialized M'.y.cls ∈ lw_all)
    (hy : M'.y.cls ≠ "java/lang/invoke/MethodHandle" ∧ M'.y.cls ≠ "java/lang/invoke/VarHandle" ∧ (parseMethodDescriptor M'.y.desc).map (fun d => d.parameters.length) = some As.length)
    (hR : M'.lv + 1 ≤ M.lv ∧ M'.nL ≤ 421) (hf : k + mc ≤ R.cells ∧ n + ms ≤ R.slots) (hst : (st.map fun v => v.category).sum ≤ 8)
    (kk : ∀ v h', Q (.returned v) h' → J X M R Z (pc + 3) L (v.toList ++ st) h' (k + mc) (n + ms)) : J X M R Z pc L (As.reverse ++ st) h k n := by
  intro p e s m args below meth c B rk H locs ls hW hS hL
  have hts := B.2.2.2.2.2.2.1
  refine J.after (va_runSN (As := As) (rest := st) ⟨B.1, B.2.1, B.2.2.2.2.1, B.2.2.2.2.2.1, hts⟩ (hC.met hret) ⟨va_cnB As.length hts hG rfl rfl rfl ((hX s B.2.2.2.2.2.2.2.1.2.1).1 _ hl) (hts _ hini) hy ⟨Nat.le_trans hR.1 rk.1, by have := rk.2.1; have := hR.1; have := hR.2; simp only [rmOf]; omega⟩, hts _ hst', trivial⟩ ⟨Cg.blind, J.pre B.2.2.2.2.2.2.2.1 hW hS As⟩ rfl rfl hL.1 rfl (lv_room hst) hd hf) B rk hf hS hL kk
/-- a constructor of a nest mate -/
theorem J.callIN {host : String} {b : Nat} (hX : WkX X) (hC : Cg X M' mc ms (.ref b :: As) h Q) (hM : M'.ret = none) (hret : ∀ o h', Q o h' → ∃ v, o = .returned v) (hd : decode M.cc pc = .ok (.invokespecial idx, 3)) (hcode : Cond.code M'.y M'.cc M'.nL none ∈ lw_all) (hini : Cond.initialized M'.y.cls ∈ lw_all) (hl : Cond.methodLinkNest M.y.cls idx M'.y host ∈ nwL) (hinst : Cond.instanceMethod M'.y ∈ lw_all) (hnm : M'.y.name = "<init>")
    (hy : M'.y.cls ≠ "java/lang/invoke/MethodHandle" ∧ M'.y.cls ≠ "java/lang/invoke/VarHandle" ∧ (parseMethodDescriptor M'.y.desc).map (fun d => d.parameters.length) = some As.length)
    (hR : M'.lv + 1 ≤ M.lv ∧ M'.nL ≤ 421) (hf : k + mc ≤ R.cells ∧ n + ms ≤ R.slots) (hst : (st.map fun v => v.category).sum ≤ 8)
    (kk : ∀ v h', Q (.returned v) h' → J X M R Z (pc + 3) L (v.toList ++ st) h' (k + mc) (n + ms)) : J X M R Z pc L (As.reverse ++ .ref b :: st) h k n := by
  intro p e s m args below meth c B rk H locs ls hW hS hL
  have hts := B.2.2.2.2.2.2.1
  have hm := hC.met hret
  rw [hM] at hm
  refine J.after (va_runIN (As := As) (rest := st) ⟨B.1, B.2.1, B.2.2.2.2.1, B.2.2.2.2.2.1, hts⟩ hm ⟨va_cnB As.length hts (lw_meth hcode) rfl rfl rfl ((hX s B.2.2.2.2.2.2.2.1.2.1).1 _ hl) (hts _ hini) hy ⟨Nat.le_trans hR.1 rk.1, by have := rk.2.1; have := hR.1; have := hR.2; simp only [rmOf]; omega⟩, hnm, hts _ hinst⟩ ⟨Cg.blind, J.pre B.2.2.2.2.2.2.2.1 hW hS (.ref b :: As)⟩ rfl rfl hL.1 rfl (lv_room hst) hd hf) B rk hf hS hL kk
/-- a[i] of references -/
theorem J.aald {C : String} {t N : Nat} {f : Nat → Option Nat} {i : Int32} (ht : (tysAll X)[t]? = some (X.dA t, .object C)) (ha : h a = some (.inl (X.dA t, N, .inr (.inr (.inr (.inr f)))))) (hi : vp_in i N) (hd : decode M.cc pc = .ok (.aaload, 1)) (kk : J X M R Z (pc + 1) L (va_rf (f i.toNatClampNeg) :: st) h k n) : J X M R Z pc L (.int i :: .ref a :: st) h k n := by
  intro p e s m args below meth c B rk H locs ls hW hS hL
  obtain ⟨ws, hP, hD, hh⟩ := id hW
  obtain ⟨q0, hq0⟩ := hh a _ ha
  exact va_aldq B.1 B.2.1 B.2.2.2.2.2.2.2.1.1 hP q0 t hq0 ht hi hd (kk p e s m args below meth c B rk H locs ls hW hS hL)
/-- a[i] of rows -/
theorem J.aaldA {ty : FieldType} {t N : Nat} {f : Nat → Option Nat} {i : Int32} (ht : (tysAll X)[t]? = some (X.dA t, .array ty)) (ha : h a = some (.inl (X.dA t, N, .inr (.inr (.inr (.inr f)))))) (hi : vp_in i N) (hd : decode M.cc pc = .ok (.aaload, 1)) (kk : J X M R Z (pc + 1) L (va_rf (f i.toNatClampNeg) :: st) h k n) : J X M R Z pc L (.int i :: .ref a :: st) h k n := by
  intro p e s m args below meth c B rk H locs ls hW hS hL
  obtain ⟨ws, hP, hD, hh⟩ := id hW
  obtain ⟨q0, hq0⟩ := hh a _ ha
  have hlt : i.toNatClampNeg < N := Nat.not_le.mp fun q => hi (Or.inr q)
  exact W.aald (v := va_rf (f i.toNatClampNeg)) (ty := .array ty) B.1 B.2.1 (hP q0 _ hq0) ((B.2.2.2.2.2.2.2.1.1.2 t _ ht).1 N (fun j => va_rf (f j))) rfl (fun q => by cases q) (by show ¬ (i < 0 ∨ (arrV _ _ _).slots.size ≤ _); rw [arrV_size]; exact hi) (by show (arrV _ _ _).slots[_]? = _; rw [arrV_read _ _ hlt]) rfl rfl hd (kk p e s m args below meth c B rk H locs ls hW hS hL)
/-- an object that is castable goes into an array of references -/
theorem J.aast {E : String} {t N b ci : Nat} {f : Nat → Option Nat} {i : Int32} {vs : List Value} {r : vw_C} (hX : WkX X) (ht : (tysAll X)[t]? = some (X.dA t, .object E)) (ha : h a = some (.inl (X.dA t, N, .inr (.inr (.inr (.inr f)))))) (hb : h b = some (.inr (ci, vs))) (hc : vwCl[ci]? = some r) (hca : Cond.castable r.1 E ∈ nwL) (hi : vp_in i N) (hd : decode M.cc pc = .ok (.aastore, 1)) (kk : J X M R Z (pc + 1) L st (va_up h a (some (.inl (X.dA t, N, .inr (.inr (.inr (.inr (va_up f i.toNatClampNeg (some b))))))))) k n) : J X M R Z pc L (.ref b :: .int i :: .ref a :: st) h k n := by
  intro p e s m args below meth c B rk H locs ls hW hS hL
  obtain ⟨ws, hP, hD, hh⟩ := id hW
  obtain ⟨q0, hq0⟩ := hh a _ ha
  obtain ⟨q1, hq1⟩ := hh b _ hb
  exact va_astqO B.1 B.2.1 B.2.2.2.2.2.2.2.1.1 hP hD hS q0 t q1 ci hq0 ht ((hX s B.2.2.2.2.2.2.2.1.2.1).1 _ hca) hq1 hc hi hd (fun H1 locs1 hP1 hD1 hS1 => kk p e s m args below meth c B rk H1 locs1 ls (Wd.set hD hh hq0 hP1 hD1) hS1 hL)
/-- a cast that holds -/
theorem J.cast {nm : String} {ci : Nat} {fs : List Value} {r : vw_C} (hX : WkX X) (ha : h a = some (.inr (ci, fs))) (hc : vwCl[ci]? = some r) (hl : Cond.classLink M.y.cls idx nm ∈ lw_all) (hca : Cond.castable r.1 nm ∈ nwL) (hd : decode M.cc pc = .ok (.checkcast idx, 3)) (kk : J X M R Z (pc + 3) L (.ref a :: st) h k n) : J X M R Z pc L (.ref a :: st) h k n := by
  intro p e s m args below meth c B rk H locs ls hW hS hL
  obtain ⟨ws, hP, hD, hh⟩ := id hW
  obtain ⟨q0, hq0⟩ := hh a _ ha
  exact va_castY B.1 B.2.1 B.2.2.2.2.2.1 (B.2.2.2.2.2.2.1 _ hl) ((hX s B.2.2.2.2.2.2.2.1.2.1).1 _ hca) (va_recv B.2.2.2.2.2.2.2.1.1 hP hc hq0) hd (kk p e s m args below meth c B rk H locs ls hW hS hL)
end NestA0
