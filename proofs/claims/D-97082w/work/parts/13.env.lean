/-! THE ENVIRONMENT of the component's contracts (gen/env.py): words of the tables that do not ride in lw_all -/
set_option maxRecDepth 100000
def zNW : List Cond := [(Jvm.Cond.methodLinkNest "StoneSheets" (51 : Nat) ({ cls := "StoneSheets$State", name := "<init>", desc := "()V" } : Jvm.MethodName) "StoneSheets"),
  (Jvm.Cond.fieldLinkNest "StoneSheets" (355 : Nat) "StoneSheets$State" "z" "I" "StoneSheets"),
  (Jvm.Cond.fieldLinkNest "StoneSheets" (110 : Nat) "StoneSheets$State" "many" "I" "StoneSheets"),
  (Jvm.Cond.fieldLinkNest "StoneSheets" (262 : Nat) "StoneSheets$State" "rubbing" "[LStoneSheets$Rubbing;" "StoneSheets"),
  (Jvm.Cond.fieldLinkNest "StoneSheets" (345 : Nat) "StoneSheets$State" "wall" "[I" "StoneSheets"),
  (Jvm.Cond.fieldLinkNest "StoneSheets" (396 : Nat) "StoneSheets$State" "found" "I" "StoneSheets"),
  (Jvm.Cond.fieldLinkNest "StoneSheets" (399 : Nat) "StoneSheets$State" "tide" "I" "StoneSheets"),
  (Jvm.Cond.fieldLinkNest "StoneSheets" (246 : Nat) "StoneSheets$State" "texts" "I" "StoneSheets"),
  (Jvm.Cond.fieldLinkNest "StoneSheets" (249 : Nat) "StoneSheets$State" "text" "[LStoneSheets$Text;" "StoneSheets"),
  (Jvm.Cond.castable "StoneSheets$Fault" "StoneSheets$Fault"),
  (Jvm.Cond.declares ({ cls := "java/lang/RuntimeException", name := "<init>", desc := "()V" } : Jvm.MethodName)),
  (Jvm.Cond.declares ({ cls := "java/lang/RuntimeException", name := "<init>", desc := "(Ljava/lang/String;)V" } : Jvm.MethodName)),
  (Jvm.Cond.declares ({ cls := "java/lang/Exception", name := "<init>", desc := "()V" } : Jvm.MethodName)),
  (Jvm.Cond.declares ({ cls := "java/lang/Exception", name := "<init>", desc := "(Ljava/lang/String;)V" } : Jvm.MethodName)),
  (Jvm.Cond.declares ({ cls := "java/lang/Throwable", name := "<init>", desc := "()V" } : Jvm.MethodName)),
  (Jvm.Cond.declares ({ cls := "java/lang/Throwable", name := "<init>", desc := "(Ljava/lang/String;)V" } : Jvm.MethodName)),
  (Jvm.Cond.methodLinkNest "StoneSheets" (75 : Nat) ({ cls := "StoneSheets$Fault", name := "<init>", desc := "()V" } : Jvm.MethodName) "StoneSheets"),
  (Jvm.Cond.fieldLinkNest "StoneSheets" (143 : Nat) "StoneSheets$Fault" "place" "I" "StoneSheets"),
  (Jvm.Cond.methodLinkNest "StoneSheets" (88 : Nat) ({ cls := "StoneSheets$Sheet", name := "<init>", desc := "()V" } : Jvm.MethodName) "StoneSheets"),
  (Jvm.Cond.fieldLinkNest "StoneSheets" (423 : Nat) "StoneSheets$Sheet" "row" "Ljava/lang/Object;" "StoneSheets"),
  (Jvm.Cond.methodLinkNest "StoneSheets" (95 : Nat) ({ cls := "StoneSheets$Slot", name := "<init>", desc := "()V" } : Jvm.MethodName) "StoneSheets"),
  (Jvm.Cond.fieldLinkNest "StoneSheets" (495 : Nat) "StoneSheets$Slot" "held" "Ljava/lang/Object;" "StoneSheets"),
  (Jvm.Cond.methodLinkNest "StoneSheets" (175 : Nat) ({ cls := "StoneSheets$Words", name := "<init>", desc := "()V" } : Jvm.MethodName) "StoneSheets"),
  (Jvm.Cond.fieldLinkNest "StoneSheets" (121 : Nat) "StoneSheets$Words" "word" "[I" "StoneSheets"),
  (Jvm.Cond.fieldLinkNest "StoneSheets" (124 : Nat) "StoneSheets$Words" "value" "[I" "StoneSheets"),
  (Jvm.Cond.fieldLinkNest "StoneSheets" (118 : Nat) "StoneSheets$Words" "many" "I" "StoneSheets"),
  (Jvm.Cond.fieldLinkNest "StoneSheets" (253 : Nat) "StoneSheets$Text" "key" "I" "StoneSheets"),
  (Jvm.Cond.fieldLinkNest "StoneSheets" (289 : Nat) "StoneSheets$Text" "words" "LStoneSheets$Words;" "StoneSheets"),
  (Jvm.Cond.fieldLinkNest "StoneSheets" (255 : Nat) "StoneSheets$Text" "many" "I" "StoneSheets"),
  (Jvm.Cond.methodLinkNest "StoneSheets" (21 : Nat) ({ cls := "StoneSheets$BoldRubbing", name := "<init>", desc := "()V" } : Jvm.MethodName) "StoneSheets"),
  (Jvm.Cond.methodLinkNest "StoneSheets$BoldRubbing" (3 : Nat) ({ cls := "StoneSheets$Rubbing", name := "<init>", desc := "()V" } : Jvm.MethodName) "StoneSheets"),
  (Jvm.Cond.methodLinkNest "StoneSheets" (27 : Nat) ({ cls := "StoneSheets$FaintRubbing", name := "<init>", desc := "()V" } : Jvm.MethodName) "StoneSheets"),
  (Jvm.Cond.methodLinkNest "StoneSheets$FaintRubbing" (3 : Nat) ({ cls := "StoneSheets$Rubbing", name := "<init>", desc := "()V" } : Jvm.MethodName) "StoneSheets"),
  (Jvm.Cond.methodLinkNest "StoneSheets" (30 : Nat) ({ cls := "StoneSheets$TwiceRubbing", name := "<init>", desc := "()V" } : Jvm.MethodName) "StoneSheets"),
  (Jvm.Cond.methodLinkNest "StoneSheets$TwiceRubbing" (1 : Nat) ({ cls := "StoneSheets$BoldRubbing", name := "<init>", desc := "()V" } : Jvm.MethodName) "StoneSheets"),
  (Jvm.Cond.methodLinkNest "StoneSheets" (33 : Nat) ({ cls := "StoneSheets$CrackedRubbing", name := "<init>", desc := "()V" } : Jvm.MethodName) "StoneSheets"),
  (Jvm.Cond.methodLinkNest "StoneSheets$CrackedRubbing" (3 : Nat) ({ cls := "StoneSheets$FaintRubbing", name := "<init>", desc := "()V" } : Jvm.MethodName) "StoneSheets"),
  (Jvm.Cond.methodLinkNest "StoneSheets" (36 : Nat) ({ cls := "StoneSheets$MadeRubbing", name := "<init>", desc := "()V" } : Jvm.MethodName) "StoneSheets"),
  (Jvm.Cond.methodLinkNest "StoneSheets$MadeRubbing" (3 : Nat) ({ cls := "StoneSheets$Rubbing", name := "<init>", desc := "()V" } : Jvm.MethodName) "StoneSheets"),
  (Jvm.Cond.methodLinkNest "StoneSheets" (39 : Nat) ({ cls := "StoneSheets$Rubbing", name := "<init>", desc := "()V" } : Jvm.MethodName) "StoneSheets"),
  (Jvm.Cond.declares ({ cls := "StoneSheets$Trusted", name := "gains", desc := "(I)I" } : Jvm.MethodName)),
  (Jvm.Cond.declares ({ cls := "StoneSheets$Says", name := "says", desc := "(II)I" } : Jvm.MethodName)),
  (Jvm.Cond.castable "java/lang/ClassCastException" "java/lang/ClassCastException"),
  (Jvm.Cond.methodLinkNest "StoneSheets$Rubbing" (41 : Nat) ({ cls := "StoneSheets", name := "isIn", desc := "(III)Z" } : Jvm.MethodName) "StoneSheets"),
  (Jvm.Cond.methodLinkNest "StoneSheets$State" (46 : Nat) ({ cls := "StoneSheets", name := "copyRow", desc := "([I[I)V" } : Jvm.MethodName) "StoneSheets"),
  (Jvm.Cond.castable "java/lang/NegativeArraySizeException" "java/lang/NegativeArraySizeException"),
  (Jvm.Cond.fieldLinkNest "StoneSheets" (501 : Nat) "StoneSheets$Figure" "v" "I" "StoneSheets"),
  (Jvm.Cond.declares ({ cls := "StoneSheets$Trusted", name := "worth", desc := "()I" } : Jvm.MethodName)),
  (Jvm.Cond.castable "StoneSheets$BoldRubbing" "StoneSheets$Trusted"),
  (Jvm.Cond.castable "StoneSheets$CrackedRubbing" "StoneSheets$Trusted"),
  (Jvm.Cond.castable "StoneSheets$FaintRubbing" "StoneSheets$Trusted"),
  (Jvm.Cond.castable "StoneSheets$MadeRubbing" "StoneSheets$Trusted"),
  (Jvm.Cond.castable "StoneSheets$Rubbing" "StoneSheets$Trusted"),
  (Jvm.Cond.castable "StoneSheets$TwiceRubbing" "StoneSheets$Trusted"),
  (Jvm.Cond.castable "StoneSheets$TwiceRubbing" "StoneSheets$BoldRubbing"),
  (Jvm.Cond.castable "StoneSheets$CrackedRubbing" "StoneSheets$FaintRubbing"),
  (Jvm.Cond.castable "StoneSheets$BoldRubbing" "StoneSheets$Rubbing"),
  (Jvm.Cond.castable "StoneSheets$CrackedRubbing" "StoneSheets$Rubbing"),
  (Jvm.Cond.castable "StoneSheets$FaintRubbing" "StoneSheets$Rubbing"),
  (Jvm.Cond.castable "StoneSheets$MadeRubbing" "StoneSheets$Rubbing"),
  (Jvm.Cond.castable "StoneSheets$TwiceRubbing" "StoneSheets$Rubbing")]
theorem nq118 : (Jvm.Cond.methodLinkNest "StoneSheets" (51 : Nat) ({ cls := "StoneSheets$State", name := "<init>", desc := "()V" } : Jvm.MethodName) "StoneSheets") ∈ zNW := List.mem_of_getElem? (i := 0) rfl
theorem nq127 : (Jvm.Cond.fieldLinkNest "StoneSheets" (355 : Nat) "StoneSheets$State" "z" "I" "StoneSheets") ∈ zNW := List.mem_of_getElem? (i := 1) rfl
theorem nq129 : (Jvm.Cond.fieldLinkNest "StoneSheets" (110 : Nat) "StoneSheets$State" "many" "I" "StoneSheets") ∈ zNW := List.mem_of_getElem? (i := 2) rfl
theorem nq131 : (Jvm.Cond.fieldLinkNest "StoneSheets" (262 : Nat) "StoneSheets$State" "rubbing" "[LStoneSheets$Rubbing;" "StoneSheets") ∈ zNW := List.mem_of_getElem? (i := 3) rfl
theorem nq133 : (Jvm.Cond.fieldLinkNest "StoneSheets" (345 : Nat) "StoneSheets$State" "wall" "[I" "StoneSheets") ∈ zNW := List.mem_of_getElem? (i := 4) rfl
theorem nq135 : (Jvm.Cond.fieldLinkNest "StoneSheets" (396 : Nat) "StoneSheets$State" "found" "I" "StoneSheets") ∈ zNW := List.mem_of_getElem? (i := 5) rfl
theorem nq137 : (Jvm.Cond.fieldLinkNest "StoneSheets" (399 : Nat) "StoneSheets$State" "tide" "I" "StoneSheets") ∈ zNW := List.mem_of_getElem? (i := 6) rfl
theorem nq139 : (Jvm.Cond.fieldLinkNest "StoneSheets" (246 : Nat) "StoneSheets$State" "texts" "I" "StoneSheets") ∈ zNW := List.mem_of_getElem? (i := 7) rfl
theorem nq141 : (Jvm.Cond.fieldLinkNest "StoneSheets" (249 : Nat) "StoneSheets$State" "text" "[LStoneSheets$Text;" "StoneSheets") ∈ zNW := List.mem_of_getElem? (i := 8) rfl
theorem nq162 : (Jvm.Cond.castable "StoneSheets$Fault" "StoneSheets$Fault") ∈ zNW := List.mem_of_getElem? (i := 9) rfl
theorem nq163 : (Jvm.Cond.declares ({ cls := "java/lang/RuntimeException", name := "<init>", desc := "()V" } : Jvm.MethodName)) ∈ zNW := List.mem_of_getElem? (i := 10) rfl
theorem nq164 : (Jvm.Cond.declares ({ cls := "java/lang/RuntimeException", name := "<init>", desc := "(Ljava/lang/String;)V" } : Jvm.MethodName)) ∈ zNW := List.mem_of_getElem? (i := 11) rfl
theorem nq165 : (Jvm.Cond.declares ({ cls := "java/lang/Exception", name := "<init>", desc := "()V" } : Jvm.MethodName)) ∈ zNW := List.mem_of_getElem? (i := 12) rfl
theorem nq166 : (Jvm.Cond.declares ({ cls := "java/lang/Exception", name := "<init>", desc := "(Ljava/lang/String;)V" } : Jvm.MethodName)) ∈ zNW := List.mem_of_getElem? (i := 13) rfl
theorem nq167 : (Jvm.Cond.declares ({ cls := "java/lang/Throwable", name := "<init>", desc := "()V" } : Jvm.MethodName)) ∈ zNW := List.mem_of_getElem? (i := 14) rfl
theorem nq168 : (Jvm.Cond.declares ({ cls := "java/lang/Throwable", name := "<init>", desc := "(Ljava/lang/String;)V" } : Jvm.MethodName)) ∈ zNW := List.mem_of_getElem? (i := 15) rfl
theorem nq201 : (Jvm.Cond.methodLinkNest "StoneSheets" (75 : Nat) ({ cls := "StoneSheets$Fault", name := "<init>", desc := "()V" } : Jvm.MethodName) "StoneSheets") ∈ zNW := List.mem_of_getElem? (i := 16) rfl
theorem nq211 : (Jvm.Cond.fieldLinkNest "StoneSheets" (143 : Nat) "StoneSheets$Fault" "place" "I" "StoneSheets") ∈ zNW := List.mem_of_getElem? (i := 17) rfl
theorem nq231 : (Jvm.Cond.methodLinkNest "StoneSheets" (88 : Nat) ({ cls := "StoneSheets$Sheet", name := "<init>", desc := "()V" } : Jvm.MethodName) "StoneSheets") ∈ zNW := List.mem_of_getElem? (i := 18) rfl
theorem nq236 : (Jvm.Cond.fieldLinkNest "StoneSheets" (423 : Nat) "StoneSheets$Sheet" "row" "Ljava/lang/Object;" "StoneSheets") ∈ zNW := List.mem_of_getElem? (i := 19) rfl
theorem nq243 : (Jvm.Cond.methodLinkNest "StoneSheets" (95 : Nat) ({ cls := "StoneSheets$Slot", name := "<init>", desc := "()V" } : Jvm.MethodName) "StoneSheets") ∈ zNW := List.mem_of_getElem? (i := 20) rfl
theorem nq248 : (Jvm.Cond.fieldLinkNest "StoneSheets" (495 : Nat) "StoneSheets$Slot" "held" "Ljava/lang/Object;" "StoneSheets") ∈ zNW := List.mem_of_getElem? (i := 21) rfl
theorem nq430 : (Jvm.Cond.methodLinkNest "StoneSheets" (175 : Nat) ({ cls := "StoneSheets$Words", name := "<init>", desc := "()V" } : Jvm.MethodName) "StoneSheets") ∈ zNW := List.mem_of_getElem? (i := 22) rfl
theorem nq435 : (Jvm.Cond.fieldLinkNest "StoneSheets" (121 : Nat) "StoneSheets$Words" "word" "[I" "StoneSheets") ∈ zNW := List.mem_of_getElem? (i := 23) rfl
theorem nq437 : (Jvm.Cond.fieldLinkNest "StoneSheets" (124 : Nat) "StoneSheets$Words" "value" "[I" "StoneSheets") ∈ zNW := List.mem_of_getElem? (i := 24) rfl
theorem nq439 : (Jvm.Cond.fieldLinkNest "StoneSheets" (118 : Nat) "StoneSheets$Words" "many" "I" "StoneSheets") ∈ zNW := List.mem_of_getElem? (i := 25) rfl
theorem nq494 : (Jvm.Cond.fieldLinkNest "StoneSheets" (253 : Nat) "StoneSheets$Text" "key" "I" "StoneSheets") ∈ zNW := List.mem_of_getElem? (i := 26) rfl
theorem nq496 : (Jvm.Cond.fieldLinkNest "StoneSheets" (289 : Nat) "StoneSheets$Text" "words" "LStoneSheets$Words;" "StoneSheets") ∈ zNW := List.mem_of_getElem? (i := 27) rfl
theorem nq498 : (Jvm.Cond.fieldLinkNest "StoneSheets" (255 : Nat) "StoneSheets$Text" "many" "I" "StoneSheets") ∈ zNW := List.mem_of_getElem? (i := 28) rfl
theorem nq536 : (Jvm.Cond.methodLinkNest "StoneSheets" (21 : Nat) ({ cls := "StoneSheets$BoldRubbing", name := "<init>", desc := "()V" } : Jvm.MethodName) "StoneSheets") ∈ zNW := List.mem_of_getElem? (i := 29) rfl
theorem nq539 : (Jvm.Cond.methodLinkNest "StoneSheets$BoldRubbing" (3 : Nat) ({ cls := "StoneSheets$Rubbing", name := "<init>", desc := "()V" } : Jvm.MethodName) "StoneSheets") ∈ zNW := List.mem_of_getElem? (i := 30) rfl
theorem nq570 : (Jvm.Cond.methodLinkNest "StoneSheets" (27 : Nat) ({ cls := "StoneSheets$FaintRubbing", name := "<init>", desc := "()V" } : Jvm.MethodName) "StoneSheets") ∈ zNW := List.mem_of_getElem? (i := 31) rfl
theorem nq573 : (Jvm.Cond.methodLinkNest "StoneSheets$FaintRubbing" (3 : Nat) ({ cls := "StoneSheets$Rubbing", name := "<init>", desc := "()V" } : Jvm.MethodName) "StoneSheets") ∈ zNW := List.mem_of_getElem? (i := 32) rfl
theorem nq582 : (Jvm.Cond.methodLinkNest "StoneSheets" (30 : Nat) ({ cls := "StoneSheets$TwiceRubbing", name := "<init>", desc := "()V" } : Jvm.MethodName) "StoneSheets") ∈ zNW := List.mem_of_getElem? (i := 33) rfl
theorem nq585 : (Jvm.Cond.methodLinkNest "StoneSheets$TwiceRubbing" (1 : Nat) ({ cls := "StoneSheets$BoldRubbing", name := "<init>", desc := "()V" } : Jvm.MethodName) "StoneSheets") ∈ zNW := List.mem_of_getElem? (i := 34) rfl
theorem nq594 : (Jvm.Cond.methodLinkNest "StoneSheets" (33 : Nat) ({ cls := "StoneSheets$CrackedRubbing", name := "<init>", desc := "()V" } : Jvm.MethodName) "StoneSheets") ∈ zNW := List.mem_of_getElem? (i := 35) rfl
theorem nq597 : (Jvm.Cond.methodLinkNest "StoneSheets$CrackedRubbing" (3 : Nat) ({ cls := "StoneSheets$FaintRubbing", name := "<init>", desc := "()V" } : Jvm.MethodName) "StoneSheets") ∈ zNW := List.mem_of_getElem? (i := 36) rfl
theorem nq606 : (Jvm.Cond.methodLinkNest "StoneSheets" (36 : Nat) ({ cls := "StoneSheets$MadeRubbing", name := "<init>", desc := "()V" } : Jvm.MethodName) "StoneSheets") ∈ zNW := List.mem_of_getElem? (i := 37) rfl
theorem nq609 : (Jvm.Cond.methodLinkNest "StoneSheets$MadeRubbing" (3 : Nat) ({ cls := "StoneSheets$Rubbing", name := "<init>", desc := "()V" } : Jvm.MethodName) "StoneSheets") ∈ zNW := List.mem_of_getElem? (i := 38) rfl
theorem nq618 : (Jvm.Cond.methodLinkNest "StoneSheets" (39 : Nat) ({ cls := "StoneSheets$Rubbing", name := "<init>", desc := "()V" } : Jvm.MethodName) "StoneSheets") ∈ zNW := List.mem_of_getElem? (i := 39) rfl
theorem nq670 : (Jvm.Cond.declares ({ cls := "StoneSheets$Trusted", name := "gains", desc := "(I)I" } : Jvm.MethodName)) ∈ zNW := List.mem_of_getElem? (i := 40) rfl
theorem nq765 : (Jvm.Cond.declares ({ cls := "StoneSheets$Says", name := "says", desc := "(II)I" } : Jvm.MethodName)) ∈ zNW := List.mem_of_getElem? (i := 41) rfl
theorem nq818 : (Jvm.Cond.castable "java/lang/ClassCastException" "java/lang/ClassCastException") ∈ zNW := List.mem_of_getElem? (i := 42) rfl
theorem nq967 : (Jvm.Cond.methodLinkNest "StoneSheets$Rubbing" (41 : Nat) ({ cls := "StoneSheets", name := "isIn", desc := "(III)Z" } : Jvm.MethodName) "StoneSheets") ∈ zNW := List.mem_of_getElem? (i := 43) rfl
theorem nq1036 : (Jvm.Cond.methodLinkNest "StoneSheets$State" (46 : Nat) ({ cls := "StoneSheets", name := "copyRow", desc := "([I[I)V" } : Jvm.MethodName) "StoneSheets") ∈ zNW := List.mem_of_getElem? (i := 44) rfl
theorem nq1083 : (Jvm.Cond.castable "java/lang/NegativeArraySizeException" "java/lang/NegativeArraySizeException") ∈ zNW := List.mem_of_getElem? (i := 45) rfl
theorem nq1195 : (Jvm.Cond.fieldLinkNest "StoneSheets" (501 : Nat) "StoneSheets$Figure" "v" "I" "StoneSheets") ∈ zNW := List.mem_of_getElem? (i := 46) rfl
theorem nq1206 : (Jvm.Cond.declares ({ cls := "StoneSheets$Trusted", name := "worth", desc := "()I" } : Jvm.MethodName)) ∈ zNW := List.mem_of_getElem? (i := 47) rfl
theorem nq1207 : (Jvm.Cond.castable "StoneSheets$BoldRubbing" "StoneSheets$Trusted") ∈ zNW := List.mem_of_getElem? (i := 48) rfl
theorem nq1211 : (Jvm.Cond.castable "StoneSheets$CrackedRubbing" "StoneSheets$Trusted") ∈ zNW := List.mem_of_getElem? (i := 49) rfl
theorem nq1215 : (Jvm.Cond.castable "StoneSheets$FaintRubbing" "StoneSheets$Trusted") ∈ zNW := List.mem_of_getElem? (i := 50) rfl
theorem nq1219 : (Jvm.Cond.castable "StoneSheets$MadeRubbing" "StoneSheets$Trusted") ∈ zNW := List.mem_of_getElem? (i := 51) rfl
theorem nq1223 : (Jvm.Cond.castable "StoneSheets$Rubbing" "StoneSheets$Trusted") ∈ zNW := List.mem_of_getElem? (i := 52) rfl
theorem nq1227 : (Jvm.Cond.castable "StoneSheets$TwiceRubbing" "StoneSheets$Trusted") ∈ zNW := List.mem_of_getElem? (i := 53) rfl
theorem nq1797 : (Jvm.Cond.castable "StoneSheets$TwiceRubbing" "StoneSheets$BoldRubbing") ∈ zNW := List.mem_of_getElem? (i := 54) rfl
theorem nq1798 : (Jvm.Cond.castable "StoneSheets$CrackedRubbing" "StoneSheets$FaintRubbing") ∈ zNW := List.mem_of_getElem? (i := 55) rfl
theorem nq1799 : (Jvm.Cond.castable "StoneSheets$BoldRubbing" "StoneSheets$Rubbing") ∈ zNW := List.mem_of_getElem? (i := 56) rfl
theorem nq1800 : (Jvm.Cond.castable "StoneSheets$CrackedRubbing" "StoneSheets$Rubbing") ∈ zNW := List.mem_of_getElem? (i := 57) rfl
theorem nq1801 : (Jvm.Cond.castable "StoneSheets$FaintRubbing" "StoneSheets$Rubbing") ∈ zNW := List.mem_of_getElem? (i := 58) rfl
theorem nq1802 : (Jvm.Cond.castable "StoneSheets$MadeRubbing" "StoneSheets$Rubbing") ∈ zNW := List.mem_of_getElem? (i := 59) rfl
theorem nq1803 : (Jvm.Cond.castable "StoneSheets$TwiceRubbing" "StoneSheets$Rubbing") ∈ zNW := List.mem_of_getElem? (i := 60) rfl
def zDW : List Cond := [(Jvm.Cond.methodLink "StoneSheets" (280 : Nat) ({ cls := "StoneSheets$Rubbing", name := "gains", desc := "(I)I" } : Jvm.MethodName)),
  (Jvm.Cond.sameMethod "StoneSheets$Rubbing" "StoneSheets$Trusted" "gains" "(I)I"),
  (Jvm.Cond.methodLink "StoneSheets$BoldRubbing" (24 : Nat) ({ cls := "StoneSheets$Rubbing", name := "gains", desc := "(I)I" } : Jvm.MethodName)),
  (Jvm.Cond.methodLink "StoneSheets$FaintRubbing" (18 : Nat) ({ cls := "StoneSheets$Rubbing", name := "gains", desc := "(I)I" } : Jvm.MethodName)),
  (Jvm.Cond.methodLink "StoneSheets$Rubbing" (37 : Nat) ({ cls := "StoneSheets$Rubbing", name := "says", desc := "(II)I" } : Jvm.MethodName)),
  (Jvm.Cond.sameMethod "StoneSheets$Rubbing" "StoneSheets$Says" "says" "(II)I"),
  (Jvm.Cond.methodLink "StoneSheets$BoldRubbing" (15 : Nat) ({ cls := "StoneSheets$Rubbing", name := "says", desc := "(II)I" } : Jvm.MethodName)),
  (Jvm.Cond.methodLink "StoneSheets$FaintRubbing" (9 : Nat) ({ cls := "StoneSheets$Rubbing", name := "says", desc := "(II)I" } : Jvm.MethodName))]
theorem zdw0 : (Jvm.Cond.methodLink "StoneSheets" (280 : Nat) ({ cls := "StoneSheets$Rubbing", name := "gains", desc := "(I)I" } : Jvm.MethodName)) ∈ zDW := List.mem_of_getElem? (i := 0) rfl
theorem zdw1 : (Jvm.Cond.sameMethod "StoneSheets$Rubbing" "StoneSheets$Trusted" "gains" "(I)I") ∈ zDW := List.mem_of_getElem? (i := 1) rfl
theorem zdw2 : (Jvm.Cond.methodLink "StoneSheets$BoldRubbing" (24 : Nat) ({ cls := "StoneSheets$Rubbing", name := "gains", desc := "(I)I" } : Jvm.MethodName)) ∈ zDW := List.mem_of_getElem? (i := 2) rfl
theorem zdw3 : (Jvm.Cond.methodLink "StoneSheets$FaintRubbing" (18 : Nat) ({ cls := "StoneSheets$Rubbing", name := "gains", desc := "(I)I" } : Jvm.MethodName)) ∈ zDW := List.mem_of_getElem? (i := 3) rfl
theorem zdw4 : (Jvm.Cond.methodLink "StoneSheets$Rubbing" (37 : Nat) ({ cls := "StoneSheets$Rubbing", name := "says", desc := "(II)I" } : Jvm.MethodName)) ∈ zDW := List.mem_of_getElem? (i := 4) rfl
theorem zdw5 : (Jvm.Cond.sameMethod "StoneSheets$Rubbing" "StoneSheets$Says" "says" "(II)I") ∈ zDW := List.mem_of_getElem? (i := 5) rfl
theorem zdw6 : (Jvm.Cond.methodLink "StoneSheets$BoldRubbing" (15 : Nat) ({ cls := "StoneSheets$Rubbing", name := "says", desc := "(II)I" } : Jvm.MethodName)) ∈ zDW := List.mem_of_getElem? (i := 6) rfl
theorem zdw7 : (Jvm.Cond.methodLink "StoneSheets$FaintRubbing" (9 : Nat) ({ cls := "StoneSheets$Rubbing", name := "says", desc := "(II)I" } : Jvm.MethodName)) ∈ zDW := List.mem_of_getElem? (i := 7) rfl
def zNC : List (String × String) := [("StoneSheets$Sheet", "StoneSheets$Rubbing"), ("StoneSheets$Figure", "StoneSheets$Rubbing"), ("StoneSheets$BoldRubbing", "StoneSheets$Sheet"), ("StoneSheets$FaintRubbing", "StoneSheets$Sheet"), ("StoneSheets$TwiceRubbing", "StoneSheets$Sheet"), ("StoneSheets$CrackedRubbing", "StoneSheets$Sheet"), ("StoneSheets$MadeRubbing", "StoneSheets$Sheet"), ("StoneSheets$Rubbing", "StoneSheets$Sheet"), ("StoneSheets$Figure", "StoneSheets$Sheet"), ("StoneSheets$Sheet", "StoneSheets$Figure"), ("StoneSheets$BoldRubbing", "StoneSheets$Figure"), ("StoneSheets$FaintRubbing", "StoneSheets$Figure"), ("StoneSheets$TwiceRubbing", "StoneSheets$Figure"), ("StoneSheets$CrackedRubbing", "StoneSheets$Figure"), ("StoneSheets$MadeRubbing", "StoneSheets$Figure"), ("StoneSheets$Rubbing", "StoneSheets$Figure"), ("StoneSheets$Sheet", "StoneSheets$BoldRubbing"), ("StoneSheets$FaintRubbing", "StoneSheets$BoldRubbing"), ("StoneSheets$CrackedRubbing", "StoneSheets$BoldRubbing"), ("StoneSheets$MadeRubbing", "StoneSheets$BoldRubbing"), ("StoneSheets$Rubbing", "StoneSheets$BoldRubbing"), ("StoneSheets$Figure", "StoneSheets$BoldRubbing"), ("StoneSheets$Sheet", "StoneSheets$FaintRubbing"), ("StoneSheets$BoldRubbing", "StoneSheets$FaintRubbing"), ("StoneSheets$TwiceRubbing", "StoneSheets$FaintRubbing"), ("StoneSheets$MadeRubbing", "StoneSheets$FaintRubbing"), ("StoneSheets$Rubbing", "StoneSheets$FaintRubbing"), ("StoneSheets$Figure", "StoneSheets$FaintRubbing"), ("StoneSheets$Sheet", "StoneSheets$TwiceRubbing"), ("StoneSheets$BoldRubbing", "StoneSheets$TwiceRubbing"), ("StoneSheets$FaintRubbing", "StoneSheets$TwiceRubbing"), ("StoneSheets$CrackedRubbing", "StoneSheets$TwiceRubbing"), ("StoneSheets$MadeRubbing", "StoneSheets$TwiceRubbing"), ("StoneSheets$Rubbing", "StoneSheets$TwiceRubbing"), ("StoneSheets$Figure", "StoneSheets$TwiceRubbing"), ("StoneSheets$Sheet", "StoneSheets$CrackedRubbing"), ("StoneSheets$BoldRubbing", "StoneSheets$CrackedRubbing"), ("StoneSheets$FaintRubbing", "StoneSheets$CrackedRubbing"), ("StoneSheets$TwiceRubbing", "StoneSheets$CrackedRubbing"), ("StoneSheets$MadeRubbing", "StoneSheets$CrackedRubbing"), ("StoneSheets$Rubbing", "StoneSheets$CrackedRubbing"), ("StoneSheets$Figure", "StoneSheets$CrackedRubbing"), ("StoneSheets$Sheet", "StoneSheets$MadeRubbing"), ("StoneSheets$BoldRubbing", "StoneSheets$MadeRubbing"), ("StoneSheets$FaintRubbing", "StoneSheets$MadeRubbing"), ("StoneSheets$TwiceRubbing", "StoneSheets$MadeRubbing"), ("StoneSheets$CrackedRubbing", "StoneSheets$MadeRubbing"), ("StoneSheets$Rubbing", "StoneSheets$MadeRubbing"), ("StoneSheets$Figure", "StoneSheets$MadeRubbing"), ("[S", "[F"), ("[F", "[S")]
def zAO : List String := ["StoneSheets$Rubbing", "StoneSheets$Text", "StoneSheets$Sheet", "StoneSheets$Slot"]
/-- what the nearest class holds in its table rides to alike tables -/
theorem zany {vm vm' : Vm} (h : vm.Alike vm') (f : Class → Bool) (hf : ∀ k : Class, f k.bare = f k) (c : ClassId) : (vm'.classes[c]?).any f = (vm.classes[c]?).any f := by
  cases hk : vm.classes[c]? with
  | none => rw [h.none hk]
  | some k =>
    obtain ⟨k', hk', he⟩ := h.2.2 _ _ hk
    rw [hk']
    show f k' = f k
    rw [← hf k', Class.bare_of he, hf]
theorem znear {vm vm' : Vm} (h : vm.Alike vm') (c : ClassId) (name desc : String) : Jvm.nearestHeld vm' c name desc = Jvm.nearestHeld vm c name desc := by
  have e1 : superinterfaceMethods vm' = superinterfaceMethods vm := by rw [← superinterfaceMethods_bare vm', h.bare_eq, superinterfaceMethods_bare]
  have e2 : maximallySpecific vm' = maximallySpecific vm := by rw [← maximallySpecific_bare vm', h.bare_eq, maximallySpecific_bare]
  have e3 : ∀ k : ClassId, (vm'.classes[k]?).any (·.isInterface) = (vm.classes[k]?).any (·.isInterface) := zany h _ fun _ => rfl
  have e4 : ∀ k : ClassId, ((vm'.classes[k]?).any fun x => x.methods.any fun m => !m.isAbstract && !m.isStatic) = (vm.classes[k]?).any fun x => x.methods.any fun m => !m.isAbstract && !m.isStatic := zany h _ fun _ => rfl
  have e5 : ∀ (g : ClassId → Bool) (k : ClassId), (vm'.classes[k]?).any (·.interfaces.any g) = (vm.classes[k]?).any (·.interfaces.any g) := fun g => zany h _ fun _ => rfl
  simp only [Jvm.nearestHeld, Jvm.held, h.superclasses, h.declaredIn, h.superinterfaces, h.method?, e1, e2, e3, e4, e5]
/-- what the nearest class holds is that very default, or nothing -/
def znearOk (vm : Vm) (c : ClassId) (name desc : String) (m : MethodId) : Prop := (∀ k d, Jvm.nearestHeld vm c name desc = some (k, .default d) → d = m) ∧ ∀ k b, Jvm.nearestHeld vm c name desc ≠ some (k, .thrower b)
/-- a call of x on an object of the class lands in the interface's default y -/
def zLand (cls : String) (x y : MethodName) (U : State) : Prop := ∃ (c : ClassId) (r m : MethodId) (rm : Method), U.vm.findClass cls = some c ∧ U.methodFound? x.cls x.name x.desc = some r ∧ U.methodNamed? y = some m ∧ U.vm.method? r = some rm ∧ selectMethod {} U.vm c r = .method m ∧ (∃ mk, U.vm.classes[m.cls]? = some mk ∧ mk.isInterface = true) ∧ rm.isPrivate = false ∧ znearOk U.vm c rm.name rm.desc m
theorem zLand.of {args : Array Value} {s : State} {cls : String} {x y : MethodName} (h : (Cond.landsInDefault cls x y).before args s = true) : zLand cls x y s := by
  simp only [Cond.before, Cond.holds, Cond.value] at h
  cases hc : s.vm.findClass cls with
  | none => simp [hc] at h
  | some c =>
  cases hr : s.methodFound? x.cls x.name x.desc with
  | none => simp [hc, hr] at h
  | some r =>
  cases hm : s.methodNamed? y with
  | none => simp [hc, hr, hm] at h
  | some m =>
  cases hrm : s.vm.method? r with
  | none => simp [hc, hr, hm, hrm] at h
  | some rm =>
  simp only [hc, hr, hm, hrm, Option.map_some, beq_iff_eq, Option.some.injEq] at h
  split at h
  · rename_i m' hsel
    simp only [Bool.and_eq_true, decide_eq_true_eq, Bool.not_eq_true', Option.any_eq_true] at h
    obtain ⟨⟨⟨⟨rfl, mk, hmk, hi⟩, hpr⟩, hway⟩, hnear⟩ := h
    refine ⟨c, r, m', rm, hc, hr, hm, hrm, hsel, ⟨mk, hmk, hi⟩, hpr, fun k d hk => ?_, fun k b hk => ?_⟩
    · rw [hk] at hnear; simpa using hnear
    · rw [hk] at hnear; cases hnear
  · cases h
theorem zLand.moved {cls : String} {x y : MethodName} {u U : State} (h : u.vm.Alike U.vm) (hZ : zLand cls x y u) : zLand cls x y U := by
  obtain ⟨c, r, m, rm, h1, h2, h3, h4, h5, ⟨mk, h6, h7⟩, h8, h9⟩ := hZ
  obtain ⟨mk', hk', he⟩ := h.2.2 _ _ h6
  refine ⟨c, r, m, rm, by rw [h.findClass]; exact h1, ?_, ?_, by rw [h.method?]; exact h4, by rw [h.selectMethod]; exact h5, ⟨mk', hk', by rw [he]; exact h7⟩, h8, ?_⟩
  · have e : (u.setVm U.vm).methodFound? x.cls x.name x.desc = u.methodFound? x.cls x.name x.desc := State.methodFound?_setVm h _ _ _
    exact e.trans h2
  · have e : (u.setVm U.vm).methodNamed? y = u.methodNamed? y := State.methodNamed?_setVm h _
    exact e.trans h3
  · unfold znearOk
    rw [znear h]
    exact h9
def zGN : MethodName × MethodName := (⟨"StoneSheets$Rubbing", "gains", "(I)I"⟩, ⟨"StoneSheets$Trusted", "gains", "(I)I"⟩)
def zSN : MethodName × MethodName := (⟨"StoneSheets$Rubbing", "says", "(II)I"⟩, ⟨"StoneSheets$Says", "says", "(II)I"⟩)
theorem zNw_warm {w : Cond} (hk : zkind w = true) {s U : State} (hW : s.WarmedH U.vm) (h : va_Nw w s) : va_Nw w U := by
  cases w <;> first | exact va_Nw.warmF hW h | exact va_Nw.warmM hW h | exact va_Nw.warmC hW h | exact va_Nw.warmD hW h | cases hk
theorem zNw_same {w : Cond} (hk : zkind w = true) {s U : State} (hv : s.vm = U.vm) (h : va_Nw w s) : va_Nw w U := by
  cases w <;> first | exact va_Nw.same rfl hv h | cases hk
theorem zNW_kind : ∀ w ∈ zNW, zkind w = true := by
  have h : zNW.all zkind = true := by decide +kernel
  exact fun w hw => List.all_eq_true.mp h w hw
theorem zDW_good : ∀ w ∈ zDW, (w.onTables && w.keeps) = true := by
  have h : zDW.all (fun w => w.onTables && w.keeps) = true := by decide +kernel
  exact fun w hw => List.all_eq_true.mp h w hw
theorem zEw.warm {A : Nat → Prop} {s U : State} (hW : s.WarmedH U.vm) (hF : va_F A s U) (h : zEw A s) : zEw A U := by
  obtain ⟨⟨adK, adV, g1, g2, g3, g4⟩, h2, h3, h4, h5, h6, h7, h8⟩ := h
  have hq : ∀ a : Nat, a < s.heap.size → ¬ A a → U.heap[a]? = s.heap[a]? := fun a q1 q2 => hF.2 a q1 q2
  have al := hW.alike
  refine ⟨⟨adK, adV, (g1.kept hq).moved al, g2.warm hW, g3.warm hW, g4.warm hW⟩, (h2.kept hq).moved al, (h3.kept hq).moved al, fun w hw hk => ?_, (h5.kept hq).moved al, (h6.kept hq).moved al, ?_, fun C hC => (h8 C hC).moved (by decide) al⟩
  · have hN := h4 w hw hk
    unfold zxk at hk
    rw [Bool.or_eq_true, Bool.or_eq_true] at hk
    rcases hk with (hk | hk) | hk
    · exact word_at hW (Or.inl hk) hN
    · cases w <;> first | exact word_at hW (Or.inr ⟨_, rfl⟩) hN | cases hk
    · exact zNw_warm hk hW hN
  · unfold modulesRight_1 at h7 ⊢
    have e : U.vm.modules = s.vm.modules := by rw [al.1]
    rw [e]
    exact h7
/-- what every component method's start knows beside its world -/
def zEv (A : Nat → Prop) (U : State) : Prop := (∀ w ∈ zNW, va_Nw w U) ∧ (∀ w ∈ zDW, va_Nw w U) ∧ (∀ C ∈ zAO, va_AO C U) ∧ (∀ q ∈ zNC, va_Nc q.1 q.2 U) ∧ zLand "StoneSheets$Rubbing" zGN.1 zGN.2 U ∧ zLand "StoneSheets$Rubbing" zSN.1 zSN.2 U ∧ zEw A U
theorem zEv_ok (A : Nat → Prop) : zEok A (zEv A) := by
  refine ⟨fun s U hW hF ⟨h1, h2, h3, h4, h5, h6, h7⟩ => ⟨fun w hw => zNw_warm (zNW_kind w hw) hW (h1 w hw), fun w hw => ?_, fun C hC => (h3 C hC).moved hW.alike, fun q hq => (h4 q hq).moved hW.alike, h5.moved hW.alike, h6.moved hW.alike, h7.warm hW hF⟩, fun U g mk a ⟨h1, h2, h3, h4, h5, h6, h7⟩ => ⟨fun w hw => zNw_same (s := U) (U := U.calling g mk a) (zNW_kind w hw) rfl (h1 w hw), fun w hw => ?_, fun C hC => (h3 C hC).moved (u := U) (U := U.calling g mk a) (Vm.Alike.refl U.vm), fun q hq => (h4 q hq).moved (u := U) (U := U.calling g mk a) (Vm.Alike.refl U.vm), h5.moved (u := U) (U := U.calling g mk a) (Vm.Alike.refl U.vm), h6.moved (u := U) (U := U.calling g mk a) (Vm.Alike.refl U.vm), h7.warm (s := U) (U := U.calling g mk a) (State.WarmedH.refl U) ⟨Nat.le_refl _, fun _ _ _ => rfl⟩⟩⟩
  · exact word_at hW (Or.inl (zDW_good w hw)) (h2 w hw)
  · have hg := zDW_good w hw
    rw [Bool.and_eq_true] at hg
    exact va_Nw.same (u := U) (U := U.calling g mk a) hg.1 rfl (h2 w hw)
