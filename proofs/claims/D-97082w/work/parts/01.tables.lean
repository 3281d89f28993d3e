-- ===== PART A: goes FIRST, ahead of the names: the tables' words, and 'selects' of the private methods out of them =====
/-- a private method of a class that the tables say can be made, by its rows of tables_1 -/
def lw_okq (q : MethodName × Nat) : Prop := (q.1.cls ≠ "java/lang/invoke/MethodHandle" ∧ q.1.cls ≠ "java/lang/invoke/VarHandle") ∧ Cond.instantiable q.1.cls q.2 ∈ tables_1 ∧ Cond.privateMethod q.1 ∈ tables_1 ∧ Cond.instanceMethod q.1 ∈ tables_1
set_option maxRecDepth 100000
theorem lw_t1 {w : Cond} (h : w ∈ tables_1_1) : w ∈ tables_1 := List.mem_append_left _ h
theorem lw_t2 {w : Cond} (h : w ∈ tables_1_2) : w ∈ tables_1 := List.mem_append_right _ (List.mem_append_left _ h)
theorem lw_t3 {w : Cond} (h : w ∈ tables_1_3) : w ∈ tables_1 := List.mem_append_right _ (List.mem_append_right _ (List.mem_append_left _ h))
theorem lw_t4 {w : Cond} (h : w ∈ tables_1_4) : w ∈ tables_1 := List.mem_append_right _ (List.mem_append_right _ (List.mem_append_right _ (List.mem_append_left _ h)))
theorem lw_t5 {w : Cond} (h : w ∈ tables_1_5) : w ∈ tables_1 := List.mem_append_right _ (List.mem_append_right _ (List.mem_append_right _ (List.mem_append_right _ (List.mem_append_left _ h))))
theorem lw_t6 {w : Cond} (h : w ∈ tables_1_6) : w ∈ tables_1 := List.mem_append_right _ (List.mem_append_right _ (List.mem_append_right _ (List.mem_append_right _ (List.mem_append_right _ (List.mem_append_left _ h)))))
theorem lw_t7 {w : Cond} (h : w ∈ tables_1_7) : w ∈ tables_1 := List.mem_append_right _ (List.mem_append_right _ (List.mem_append_right _ (List.mem_append_right _ (List.mem_append_right _ (List.mem_append_right _ (List.mem_append_left _ h))))))
theorem lw_t8 {w : Cond} (h : w ∈ tables_1_8) : w ∈ tables_1 := List.mem_append_right _ (List.mem_append_right _ (List.mem_append_right _ (List.mem_append_right _ (List.mem_append_right _ (List.mem_append_right _ (List.mem_append_right _ h))))))
theorem lw_p0 : lw_okq (⟨"java/lang/Throwable", "fillInStackTrace", "(I)Ljava/lang/Throwable;"⟩, 6) := ⟨⟨by decide +kernel, by decide +kernel⟩, lw_t1 (List.mem_of_getElem? (i := 119) rfl), lw_t1 (List.mem_of_getElem? (i := 117) rfl), lw_t1 (List.mem_of_getElem? (i := 118) rfl)⟩
theorem lw_p1 : lw_okq (⟨"StoneSheets", "four", "(I)V"⟩, 24) := ⟨⟨by decide +kernel, by decide +kernel⟩, lw_t1 (List.mem_of_getElem? (i := 29) rfl), lw_t2 (List.mem_of_getElem? (i := 12) rfl), lw_t2 (List.mem_of_getElem? (i := 13) rfl)⟩
theorem lw_p2 : lw_okq (⟨"StoneSheets", "textRead", "()LStoneSheets$Text;"⟩, 24) := ⟨⟨by decide +kernel, by decide +kernel⟩, lw_t1 (List.mem_of_getElem? (i := 29) rfl), lw_t2 (List.mem_of_getElem? (i := 28) rfl), lw_t2 (List.mem_of_getElem? (i := 29) rfl)⟩
theorem lw_p3 : lw_okq (⟨"StoneSheets", "goes", "()V"⟩, 24) := ⟨⟨by decide +kernel, by decide +kernel⟩, lw_t1 (List.mem_of_getElem? (i := 29) rfl), lw_t2 (List.mem_of_getElem? (i := 32) rfl), lw_t2 (List.mem_of_getElem? (i := 33) rfl)⟩
theorem lw_p4 : lw_okq (⟨"StoneSheets", "wrong", "()V"⟩, 24) := ⟨⟨by decide +kernel, by decide +kernel⟩, lw_t1 (List.mem_of_getElem? (i := 29) rfl), lw_t2 (List.mem_of_getElem? (i := 42) rfl), lw_t2 (List.mem_of_getElem? (i := 43) rfl)⟩
theorem lw_p5 : lw_okq (⟨"StoneSheets", "key", "()I"⟩, 24) := ⟨⟨by decide +kernel, by decide +kernel⟩, lw_t1 (List.mem_of_getElem? (i := 29) rfl), lw_t2 (List.mem_of_getElem? (i := 46) rfl), lw_t2 (List.mem_of_getElem? (i := 47) rfl)⟩
theorem lw_p6 : lw_okq (⟨"StoneSheets", "isWord", "(Ljava/lang/String;)Z"⟩, 24) := ⟨⟨by decide +kernel, by decide +kernel⟩, lw_t1 (List.mem_of_getElem? (i := 29) rfl), lw_t2 (List.mem_of_getElem? (i := 51) rfl), lw_t2 (List.mem_of_getElem? (i := 52) rfl)⟩
theorem lw_p7 : lw_okq (⟨"StoneSheets", "expression", "()LStoneSheets$Words;"⟩, 24) := ⟨⟨by decide +kernel, by decide +kernel⟩, lw_t1 (List.mem_of_getElem? (i := 29) rfl), lw_t2 (List.mem_of_getElem? (i := 105) rfl), lw_t2 (List.mem_of_getElem? (i := 106) rfl)⟩
theorem lw_p8 : lw_okq (⟨"StoneSheets", "or", "(LStoneSheets$Words;)V"⟩, 24) := ⟨⟨by decide +kernel, by decide +kernel⟩, lw_t1 (List.mem_of_getElem? (i := 29) rfl), lw_t2 (List.mem_of_getElem? (i := 128) rfl), lw_t2 (List.mem_of_getElem? (i := 129) rfl)⟩
theorem lw_p9 : lw_okq (⟨"StoneSheets", "and", "(LStoneSheets$Words;)V"⟩, 24) := ⟨⟨by decide +kernel, by decide +kernel⟩, lw_t1 (List.mem_of_getElem? (i := 29) rfl), lw_t2 (List.mem_of_getElem? (i := 132) rfl), lw_t2 (List.mem_of_getElem? (i := 133) rfl)⟩
theorem lw_p10 : lw_okq (⟨"StoneSheets", "test", "(LStoneSheets$Words;)V"⟩, 24) := ⟨⟨by decide +kernel, by decide +kernel⟩, lw_t1 (List.mem_of_getElem? (i := 29) rfl), lw_t2 (List.mem_of_getElem? (i := 136) rfl), lw_t2 (List.mem_of_getElem? (i := 137) rfl)⟩
theorem lw_p11 : lw_okq (⟨"StoneSheets", "sum", "(LStoneSheets$Words;)V"⟩, 24) := ⟨⟨by decide +kernel, by decide +kernel⟩, lw_t1 (List.mem_of_getElem? (i := 29) rfl), lw_t2 (List.mem_of_getElem? (i := 140) rfl), lw_t2 (List.mem_of_getElem? (i := 141) rfl)⟩
theorem lw_p12 : lw_okq (⟨"StoneSheets", "term", "(LStoneSheets$Words;)V"⟩, 24) := ⟨⟨by decide +kernel, by decide +kernel⟩, lw_t1 (List.mem_of_getElem? (i := 29) rfl), lw_t2 (List.mem_of_getElem? (i := 144) rfl), lw_t2 (List.mem_of_getElem? (i := 145) rfl)⟩
theorem lw_p13 : lw_okq (⟨"StoneSheets", "piece", "(LStoneSheets$Words;)V"⟩, 24) := ⟨⟨by decide +kernel, by decide +kernel⟩, lw_t1 (List.mem_of_getElem? (i := 29) rfl), lw_t2 (List.mem_of_getElem? (i := 148) rfl), lw_t2 (List.mem_of_getElem? (i := 149) rfl)⟩
theorem lw_p14 : lw_okq (⟨"StoneSheets", "isSign", "(I)Z"⟩, 24) := ⟨⟨by decide +kernel, by decide +kernel⟩, lw_t1 (List.mem_of_getElem? (i := 29) rfl), lw_t2 (List.mem_of_getElem? (i := 152) rfl), lw_t2 (List.mem_of_getElem? (i := 153) rfl)⟩
theorem lw_p15 : lw_okq (⟨"StoneSheets", "number", "()I"⟩, 24) := ⟨⟨by decide +kernel, by decide +kernel⟩, lw_t1 (List.mem_of_getElem? (i := 29) rfl), lw_t2 (List.mem_of_getElem? (i := 160) rfl), lw_t2 (List.mem_of_getElem? (i := 161) rfl)⟩
def lw_privs_1 : List (MethodName × Nat) := [(⟨"java/lang/Throwable", "fillInStackTrace", "(I)Ljava/lang/Throwable;"⟩, 6), (⟨"StoneSheets", "four", "(I)V"⟩, 24), (⟨"StoneSheets", "textRead", "()LStoneSheets$Text;"⟩, 24), (⟨"StoneSheets", "goes", "()V"⟩, 24), (⟨"StoneSheets", "wrong", "()V"⟩, 24), (⟨"StoneSheets", "key", "()I"⟩, 24), (⟨"StoneSheets", "isWord", "(Ljava/lang/String;)Z"⟩, 24), (⟨"StoneSheets", "expression", "()LStoneSheets$Words;"⟩, 24), (⟨"StoneSheets", "or", "(LStoneSheets$Words;)V"⟩, 24), (⟨"StoneSheets", "and", "(LStoneSheets$Words;)V"⟩, 24), (⟨"StoneSheets", "test", "(LStoneSheets$Words;)V"⟩, 24), (⟨"StoneSheets", "sum", "(LStoneSheets$Words;)V"⟩, 24), (⟨"StoneSheets", "term", "(LStoneSheets$Words;)V"⟩, 24), (⟨"StoneSheets", "piece", "(LStoneSheets$Words;)V"⟩, 24), (⟨"StoneSheets", "isSign", "(I)Z"⟩, 24), (⟨"StoneSheets", "number", "()I"⟩, 24)]
theorem lw_r1 : ∀ q ∈ lw_privs_1, lw_okq q := List.forall_mem_cons.mpr ⟨lw_p0, List.forall_mem_cons.mpr ⟨lw_p1, List.forall_mem_cons.mpr ⟨lw_p2, List.forall_mem_cons.mpr ⟨lw_p3, List.forall_mem_cons.mpr ⟨lw_p4, List.forall_mem_cons.mpr ⟨lw_p5, List.forall_mem_cons.mpr ⟨lw_p6, List.forall_mem_cons.mpr ⟨lw_p7, List.forall_mem_cons.mpr ⟨lw_p8, List.forall_mem_cons.mpr ⟨lw_p9, List.forall_mem_cons.mpr ⟨lw_p10, List.forall_mem_cons.mpr ⟨lw_p11, List.forall_mem_cons.mpr ⟨lw_p12, List.forall_mem_cons.mpr ⟨lw_p13, List.forall_mem_cons.mpr ⟨lw_p14, List.forall_mem_cons.mpr ⟨lw_p15, fun _ h => absurd h List.not_mem_nil⟩⟩⟩⟩⟩⟩⟩⟩⟩⟩⟩⟩⟩⟩⟩⟩
theorem lw_p16 : lw_okq (⟨"StoneSheets", "isName", "(I)Z"⟩, 24) := ⟨⟨by decide +kernel, by decide +kernel⟩, lw_t1 (List.mem_of_getElem? (i := 29) rfl), lw_t2 (List.mem_of_getElem? (i := 164) rfl), lw_t2 (List.mem_of_getElem? (i := 165) rfl)⟩
theorem lw_p17 : lw_okq (⟨"StoneSheets", "counts", "(I)I"⟩, 24) := ⟨⟨by decide +kernel, by decide +kernel⟩, lw_t1 (List.mem_of_getElem? (i := 29) rfl), lw_t2 (List.mem_of_getElem? (i := 195) rfl), lw_t2 (List.mem_of_getElem? (i := 196) rfl)⟩
theorem lw_p18 : lw_okq (⟨"StoneSheets", "comes", "(III)I"⟩, 24) := ⟨⟨by decide +kernel, by decide +kernel⟩, lw_t1 (List.mem_of_getElem? (i := 29) rfl), lw_t2 (List.mem_of_getElem? (i := 208) rfl), lw_t2 (List.mem_of_getElem? (i := 209) rfl)⟩
theorem lw_p19 : lw_okq (⟨"StoneSheets", "isRubbing", "(I)Z"⟩, 24) := ⟨⟨by decide +kernel, by decide +kernel⟩, lw_t1 (List.mem_of_getElem? (i := 29) rfl), lw_t3 (List.mem_of_getElem? (i := 70) rfl), lw_t3 (List.mem_of_getElem? (i := 71) rfl)⟩
theorem lw_p20 : lw_okq (⟨"StoneSheets", "gainOf", "(LStoneSheets$Rubbing;)I"⟩, 24) := ⟨⟨by decide +kernel, by decide +kernel⟩, lw_t1 (List.mem_of_getElem? (i := 29) rfl), lw_t3 (List.mem_of_getElem? (i := 107) rfl), lw_t3 (List.mem_of_getElem? (i := 108) rfl)⟩
theorem lw_p21 : lw_okq (⟨"StoneSheets", "reckon", "(LStoneSheets$Words;)I"⟩, 24) := ⟨⟨by decide +kernel, by decide +kernel⟩, lw_t1 (List.mem_of_getElem? (i := 29) rfl), lw_t3 (List.mem_of_getElem? (i := 130) rfl), lw_t3 (List.mem_of_getElem? (i := 131) rfl)⟩
theorem lw_p22 : lw_okq (⟨"StoneSheets", "cuts", "(II)I"⟩, 24) := ⟨⟨by decide +kernel, by decide +kernel⟩, lw_t1 (List.mem_of_getElem? (i := 29) rfl), lw_t4 (List.mem_of_getElem? (i := 58) rfl), lw_t4 (List.mem_of_getElem? (i := 59) rfl)⟩
theorem lw_p23 : lw_okq (⟨"StoneSheets", "wrongAt", "(LStoneSheets$Rubbing;I)I"⟩, 24) := ⟨⟨by decide +kernel, by decide +kernel⟩, lw_t1 (List.mem_of_getElem? (i := 29) rfl), lw_t4 (List.mem_of_getElem? (i := 84) rfl), lw_t4 (List.mem_of_getElem? (i := 85) rfl)⟩
theorem lw_p24 : lw_okq (⟨"StoneSheets", "areTwo", "(II)Z"⟩, 24) := ⟨⟨by decide +kernel, by decide +kernel⟩, lw_t1 (List.mem_of_getElem? (i := 29) rfl), lw_t4 (List.mem_of_getElem? (i := 97) rfl), lw_t4 (List.mem_of_getElem? (i := 98) rfl)⟩
theorem lw_p25 : lw_okq (⟨"StoneSheets", "isClash", "(II)Z"⟩, 24) := ⟨⟨by decide +kernel, by decide +kernel⟩, lw_t1 (List.mem_of_getElem? (i := 29) rfl), lw_t4 (List.mem_of_getElem? (i := 108) rfl), lw_t4 (List.mem_of_getElem? (i := 109) rfl)⟩
theorem lw_p26 : lw_okq (⟨"StoneSheets", "findClashes", "()V"⟩, 24) := ⟨⟨by decide +kernel, by decide +kernel⟩, lw_t1 (List.mem_of_getElem? (i := 29) rfl), lw_t4 (List.mem_of_getElem? (i := 116) rfl), lw_t4 (List.mem_of_getElem? (i := 117) rfl)⟩
theorem lw_p27 : lw_okq (⟨"StoneSheets", "isPeace", "(I)Z"⟩, 24) := ⟨⟨by decide +kernel, by decide +kernel⟩, lw_t1 (List.mem_of_getElem? (i := 29) rfl), lw_t4 (List.mem_of_getElem? (i := 133) rfl), lw_t4 (List.mem_of_getElem? (i := 134) rfl)⟩
theorem lw_p28 : lw_okq (⟨"StoneSheets", "falseOnes", "(I)I"⟩, 24) := ⟨⟨by decide +kernel, by decide +kernel⟩, lw_t1 (List.mem_of_getElem? (i := 29) rfl), lw_t4 (List.mem_of_getElem? (i := 150) rfl), lw_t4 (List.mem_of_getElem? (i := 151) rfl)⟩
theorem lw_p29 : lw_okq (⟨"StoneSheets", "goesOn", "(I)V"⟩, 24) := ⟨⟨by decide +kernel, by decide +kernel⟩, lw_t1 (List.mem_of_getElem? (i := 29) rfl), lw_t4 (List.mem_of_getElem? (i := 174) rfl), lw_t4 (List.mem_of_getElem? (i := 175) rfl)⟩
theorem lw_p30 : lw_okq (⟨"StoneSheets", "aTide", "()V"⟩, 24) := ⟨⟨by decide +kernel, by decide +kernel⟩, lw_t1 (List.mem_of_getElem? (i := 29) rfl), lw_t4 (List.mem_of_getElem? (i := 178) rfl), lw_t4 (List.mem_of_getElem? (i := 179) rfl)⟩
theorem lw_p31 : lw_okq (⟨"StoneSheets", "thinks", "()V"⟩, 24) := ⟨⟨by decide +kernel, by decide +kernel⟩, lw_t1 (List.mem_of_getElem? (i := 29) rfl), lw_t4 (List.mem_of_getElem? (i := 195) rfl), lw_t4 (List.mem_of_getElem? (i := 196) rfl)⟩
def lw_privs_2 : List (MethodName × Nat) := [(⟨"StoneSheets", "isName", "(I)Z"⟩, 24), (⟨"StoneSheets", "counts", "(I)I"⟩, 24), (⟨"StoneSheets", "comes", "(III)I"⟩, 24), (⟨"StoneSheets", "isRubbing", "(I)Z"⟩, 24), (⟨"StoneSheets", "gainOf", "(LStoneSheets$Rubbing;)I"⟩, 24), (⟨"StoneSheets", "reckon", "(LStoneSheets$Words;)I"⟩, 24), (⟨"StoneSheets", "cuts", "(II)I"⟩, 24), (⟨"StoneSheets", "wrongAt", "(LStoneSheets$Rubbing;I)I"⟩, 24), (⟨"StoneSheets", "areTwo", "(II)Z"⟩, 24), (⟨"StoneSheets", "isClash", "(II)Z"⟩, 24), (⟨"StoneSheets", "findClashes", "()V"⟩, 24), (⟨"StoneSheets", "isPeace", "(I)Z"⟩, 24), (⟨"StoneSheets", "falseOnes", "(I)I"⟩, 24), (⟨"StoneSheets", "goesOn", "(I)V"⟩, 24), (⟨"StoneSheets", "aTide", "()V"⟩, 24), (⟨"StoneSheets", "thinks", "()V"⟩, 24)]
theorem lw_r2 : ∀ q ∈ lw_privs_2, lw_okq q := List.forall_mem_cons.mpr ⟨lw_p16, List.forall_mem_cons.mpr ⟨lw_p17, List.forall_mem_cons.mpr ⟨lw_p18, List.forall_mem_cons.mpr ⟨lw_p19, List.forall_mem_cons.mpr ⟨lw_p20, List.forall_mem_cons.mpr ⟨lw_p21, List.forall_mem_cons.mpr ⟨lw_p22, List.forall_mem_cons.mpr ⟨lw_p23, List.forall_mem_cons.mpr ⟨lw_p24, List.forall_mem_cons.mpr ⟨lw_p25, List.forall_mem_cons.mpr ⟨lw_p26, List.forall_mem_cons.mpr ⟨lw_p27, List.forall_mem_cons.mpr ⟨lw_p28, List.forall_mem_cons.mpr ⟨lw_p29, List.forall_mem_cons.mpr ⟨lw_p30, List.forall_mem_cons.mpr ⟨lw_p31, fun _ h => absurd h List.not_mem_nil⟩⟩⟩⟩⟩⟩⟩⟩⟩⟩⟩⟩⟩⟩⟩⟩
theorem lw_p32 : lw_okq (⟨"StoneSheets", "putsBack", "()V"⟩, 24) := ⟨⟨by decide +kernel, by decide +kernel⟩, lw_t1 (List.mem_of_getElem? (i := 29) rfl), lw_t5 (List.mem_of_getElem? (i := 4) rfl), lw_t5 (List.mem_of_getElem? (i := 5) rfl)⟩
theorem lw_p33 : lw_okq (⟨"StoneSheets", "carries", "(LStoneSheets$Sheet;ILStoneSheets$Sheet;II)V"⟩, 24) := ⟨⟨by decide +kernel, by decide +kernel⟩, lw_t1 (List.mem_of_getElem? (i := 29) rfl), lw_t5 (List.mem_of_getElem? (i := 115) rfl), lw_t5 (List.mem_of_getElem? (i := 116) rfl)⟩
theorem lw_p34 : lw_okq (⟨"StoneSheets", "own", "(LStoneSheets$Sheet;)LStoneSheets$Sheet;"⟩, 24) := ⟨⟨by decide +kernel, by decide +kernel⟩, lw_t1 (List.mem_of_getElem? (i := 29) rfl), lw_t5 (List.mem_of_getElem? (i := 145) rfl), lw_t5 (List.mem_of_getElem? (i := 146) rfl)⟩
theorem lw_p35 : lw_okq (⟨"StoneSheets", "rowsOfTides", "(I)I"⟩, 24) := ⟨⟨by decide +kernel, by decide +kernel⟩, lw_t1 (List.mem_of_getElem? (i := 29) rfl), lw_t5 (List.mem_of_getElem? (i := 209) rfl), lw_t5 (List.mem_of_getElem? (i := 210) rfl)⟩
theorem lw_p36 : lw_okq (⟨"StoneSheetsModel", "comes", "(III)V"⟩, 32) := ⟨⟨by decide +kernel, by decide +kernel⟩, lw_t5 (List.mem_of_getElem? (i := 225) rfl), lw_t6 (List.mem_of_getElem? (i := 100) rfl), lw_t6 (List.mem_of_getElem? (i := 101) rfl)⟩
theorem lw_p37 : lw_okq (⟨"StoneSheetsModel", "sets", "(III)V"⟩, 32) := ⟨⟨by decide +kernel, by decide +kernel⟩, lw_t5 (List.mem_of_getElem? (i := 225) rfl), lw_t6 (List.mem_of_getElem? (i := 104) rfl), lw_t6 (List.mem_of_getElem? (i := 105) rfl)⟩
theorem lw_p38 : lw_okq (⟨"StoneSheetsModel", "isRubbing", "(I)Z"⟩, 32) := ⟨⟨by decide +kernel, by decide +kernel⟩, lw_t5 (List.mem_of_getElem? (i := 225) rfl), lw_t6 (List.mem_of_getElem? (i := 112) rfl), lw_t6 (List.mem_of_getElem? (i := 113) rfl)⟩
theorem lw_p39 : lw_okq (⟨"StoneSheetsModel", "of", "(II)I"⟩, 32) := ⟨⟨by decide +kernel, by decide +kernel⟩, lw_t5 (List.mem_of_getElem? (i := 225) rfl), lw_t6 (List.mem_of_getElem? (i := 116) rfl), lw_t6 (List.mem_of_getElem? (i := 117) rfl)⟩
theorem lw_p40 : lw_okq (⟨"StoneSheetsModel", "covers", "(I)I"⟩, 32) := ⟨⟨by decide +kernel, by decide +kernel⟩, lw_t5 (List.mem_of_getElem? (i := 225) rfl), lw_t6 (List.mem_of_getElem? (i := 120) rfl), lw_t6 (List.mem_of_getElem? (i := 121) rfl)⟩
theorem lw_p41 : lw_okq (⟨"StoneSheetsModel", "coversFrom", "(II)I"⟩, 32) := ⟨⟨by decide +kernel, by decide +kernel⟩, lw_t5 (List.mem_of_getElem? (i := 225) rfl), lw_t6 (List.mem_of_getElem? (i := 124) rfl), lw_t6 (List.mem_of_getElem? (i := 125) rfl)⟩
theorem lw_p42 : lw_okq (⟨"StoneSheetsModel", "gains", "(I)I"⟩, 32) := ⟨⟨by decide +kernel, by decide +kernel⟩, lw_t5 (List.mem_of_getElem? (i := 225) rfl), lw_t6 (List.mem_of_getElem? (i := 129) rfl), lw_t6 (List.mem_of_getElem? (i := 130) rfl)⟩
theorem lw_p43 : lw_okq (⟨"StoneSheetsModel", "counts", "(I)I"⟩, 32) := ⟨⟨by decide +kernel, by decide +kernel⟩, lw_t5 (List.mem_of_getElem? (i := 225) rfl), lw_t6 (List.mem_of_getElem? (i := 133) rfl), lw_t6 (List.mem_of_getElem? (i := 134) rfl)⟩
theorem lw_p44 : lw_okq (⟨"StoneSheetsModel", "textAt", "(I)I"⟩, 32) := ⟨⟨by decide +kernel, by decide +kernel⟩, lw_t5 (List.mem_of_getElem? (i := 225) rfl), lw_t6 (List.mem_of_getElem? (i := 137) rfl), lw_t6 (List.mem_of_getElem? (i := 138) rfl)⟩
theorem lw_p45 : lw_okq (⟨"StoneSheetsModel", "worked", "(I)I"⟩, 32) := ⟨⟨by decide +kernel, by decide +kernel⟩, lw_t5 (List.mem_of_getElem? (i := 225) rfl), lw_t6 (List.mem_of_getElem? (i := 141) rfl), lw_t6 (List.mem_of_getElem? (i := 142) rfl)⟩
theorem lw_p46 : lw_okq (⟨"StoneSheetsModel", "loses", "(I)I"⟩, 32) := ⟨⟨by decide +kernel, by decide +kernel⟩, lw_t5 (List.mem_of_getElem? (i := 225) rfl), lw_t6 (List.mem_of_getElem? (i := 151) rfl), lw_t6 (List.mem_of_getElem? (i := 152) rfl)⟩
theorem lw_p47 : lw_okq (⟨"StoneSheetsModel", "worth", "(I)I"⟩, 32) := ⟨⟨by decide +kernel, by decide +kernel⟩, lw_t5 (List.mem_of_getElem? (i := 225) rfl), lw_t6 (List.mem_of_getElem? (i := 155) rfl), lw_t6 (List.mem_of_getElem? (i := 156) rfl)⟩
def lw_privs_3 : List (MethodName × Nat) := [(⟨"StoneSheets", "putsBack", "()V"⟩, 24), (⟨"StoneSheets", "carries", "(LStoneSheets$Sheet;ILStoneSheets$Sheet;II)V"⟩, 24), (⟨"StoneSheets", "own", "(LStoneSheets$Sheet;)LStoneSheets$Sheet;"⟩, 24), (⟨"StoneSheets", "rowsOfTides", "(I)I"⟩, 24), (⟨"StoneSheetsModel", "comes", "(III)V"⟩, 32), (⟨"StoneSheetsModel", "sets", "(III)V"⟩, 32), (⟨"StoneSheetsModel", "isRubbing", "(I)Z"⟩, 32), (⟨"StoneSheetsModel", "of", "(II)I"⟩, 32), (⟨"StoneSheetsModel", "covers", "(I)I"⟩, 32), (⟨"StoneSheetsModel", "coversFrom", "(II)I"⟩, 32), (⟨"StoneSheetsModel", "gains", "(I)I"⟩, 32), (⟨"StoneSheetsModel", "counts", "(I)I"⟩, 32), (⟨"StoneSheetsModel", "textAt", "(I)I"⟩, 32), (⟨"StoneSheetsModel", "worked", "(I)I"⟩, 32), (⟨"StoneSheetsModel", "loses", "(I)I"⟩, 32), (⟨"StoneSheetsModel", "worth", "(I)I"⟩, 32)]
theorem lw_r3 : ∀ q ∈ lw_privs_3, lw_okq q := List.forall_mem_cons.mpr ⟨lw_p32, List.forall_mem_cons.mpr ⟨lw_p33, List.forall_mem_cons.mpr ⟨lw_p34, List.forall_mem_cons.mpr ⟨lw_p35, List.forall_mem_cons.mpr ⟨lw_p36, List.forall_mem_cons.mpr ⟨lw_p37, List.forall_mem_cons.mpr ⟨lw_p38, List.forall_mem_cons.mpr ⟨lw_p39, List.forall_mem_cons.mpr ⟨lw_p40, List.forall_mem_cons.mpr ⟨lw_p41, List.forall_mem_cons.mpr ⟨lw_p42, List.forall_mem_cons.mpr ⟨lw_p43, List.forall_mem_cons.mpr ⟨lw_p44, List.forall_mem_cons.mpr ⟨lw_p45, List.forall_mem_cons.mpr ⟨lw_p46, List.forall_mem_cons.mpr ⟨lw_p47, fun _ h => absurd h List.not_mem_nil⟩⟩⟩⟩⟩⟩⟩⟩⟩⟩⟩⟩⟩⟩⟩⟩
theorem lw_p48 : lw_okq (⟨"StoneSheetsModel", "saysAt", "(II)I"⟩, 32) := ⟨⟨by decide +kernel, by decide +kernel⟩, lw_t5 (List.mem_of_getElem? (i := 225) rfl), lw_t6 (List.mem_of_getElem? (i := 163) rfl), lw_t6 (List.mem_of_getElem? (i := 164) rfl)⟩
theorem lw_p49 : lw_okq (⟨"StoneSheetsModel", "becomes", "(II)I"⟩, 32) := ⟨⟨by decide +kernel, by decide +kernel⟩, lw_t5 (List.mem_of_getElem? (i := 225) rfl), lw_t6 (List.mem_of_getElem? (i := 182) rfl), lw_t6 (List.mem_of_getElem? (i := 183) rfl)⟩
theorem lw_p50 : lw_okq (⟨"StoneSheetsModel", "drawn", "()I"⟩, 32) := ⟨⟨by decide +kernel, by decide +kernel⟩, lw_t5 (List.mem_of_getElem? (i := 225) rfl), lw_t6 (List.mem_of_getElem? (i := 208) rfl), lw_t6 (List.mem_of_getElem? (i := 209) rfl)⟩
theorem lw_p51 : lw_okq (⟨"StoneSheetsModel", "falseOf", "(II)I"⟩, 32) := ⟨⟨by decide +kernel, by decide +kernel⟩, lw_t5 (List.mem_of_getElem? (i := 225) rfl), lw_t6 (List.mem_of_getElem? (i := 222) rfl), lw_t6 (List.mem_of_getElem? (i := 223) rfl)⟩
theorem lw_p52 : lw_okq (⟨"StoneSheetsModel", "joinBy", "(III)I"⟩, 32) := ⟨⟨by decide +kernel, by decide +kernel⟩, lw_t5 (List.mem_of_getElem? (i := 225) rfl), lw_t6 (List.mem_of_getElem? (i := 234) rfl), lw_t6 (List.mem_of_getElem? (i := 235) rfl)⟩
theorem lw_p53 : lw_okq (⟨"StoneSheetsModel", "doClash", "(II)Z"⟩, 32) := ⟨⟨by decide +kernel, by decide +kernel⟩, lw_t5 (List.mem_of_getElem? (i := 225) rfl), lw_t7 (List.mem_of_getElem? (i := 2) rfl), lw_t7 (List.mem_of_getElem? (i := 3) rfl)⟩
theorem lw_p54 : lw_okq (⟨"StoneSheetsModel", "findClashing", "()V"⟩, 32) := ⟨⟨by decide +kernel, by decide +kernel⟩, lw_t5 (List.mem_of_getElem? (i := 225) rfl), lw_t7 (List.mem_of_getElem? (i := 10) rfl), lw_t7 (List.mem_of_getElem? (i := 11) rfl)⟩
theorem lw_p55 : lw_okq (⟨"StoneSheetsModel", "laidOnes", "()I"⟩, 32) := ⟨⟨by decide +kernel, by decide +kernel⟩, lw_t5 (List.mem_of_getElem? (i := 225) rfl), lw_t7 (List.mem_of_getElem? (i := 14) rfl), lw_t7 (List.mem_of_getElem? (i := 15) rfl)⟩
theorem lw_p56 : lw_okq (⟨"StoneSheetsModel", "areAtPeace", "(I)Z"⟩, 32) := ⟨⟨by decide +kernel, by decide +kernel⟩, lw_t5 (List.mem_of_getElem? (i := 225) rfl), lw_t7 (List.mem_of_getElem? (i := 21) rfl), lw_t7 (List.mem_of_getElem? (i := 22) rfl)⟩
theorem lw_p57 : lw_okq (⟨"StoneSheetsModel", "coveredBy", "(I)I"⟩, 32) := ⟨⟨by decide +kernel, by decide +kernel⟩, lw_t5 (List.mem_of_getElem? (i := 225) rfl), lw_t7 (List.mem_of_getElem? (i := 29) rfl), lw_t7 (List.mem_of_getElem? (i := 30) rfl)⟩
theorem lw_p58 : lw_okq (⟨"StoneSheetsModel", "otherwiseAt", "(I)I"⟩, 32) := ⟨⟨by decide +kernel, by decide +kernel⟩, lw_t5 (List.mem_of_getElem? (i := 225) rfl), lw_t7 (List.mem_of_getElem? (i := 37) rfl), lw_t7 (List.mem_of_getElem? (i := 38) rfl)⟩
theorem lw_p59 : lw_okq (⟨"StoneSheetsModel", "goesOn", "()V"⟩, 32) := ⟨⟨by decide +kernel, by decide +kernel⟩, lw_t5 (List.mem_of_getElem? (i := 225) rfl), lw_t7 (List.mem_of_getElem? (i := 46) rfl), lw_t7 (List.mem_of_getElem? (i := 47) rfl)⟩
theorem lw_p60 : lw_okq (⟨"StoneSheetsModel", "allTrust", "()I"⟩, 32) := ⟨⟨by decide +kernel, by decide +kernel⟩, lw_t5 (List.mem_of_getElem? (i := 225) rfl), lw_t7 (List.mem_of_getElem? (i := 54) rfl), lw_t7 (List.mem_of_getElem? (i := 55) rfl)⟩
theorem lw_p61 : lw_okq (⟨"StoneSheetsModel", "laysBy", "()V"⟩, 32) := ⟨⟨by decide +kernel, by decide +kernel⟩, lw_t5 (List.mem_of_getElem? (i := 225) rfl), lw_t7 (List.mem_of_getElem? (i := 62) rfl), lw_t7 (List.mem_of_getElem? (i := 63) rfl)⟩
theorem lw_p62 : lw_okq (⟨"StoneSheetsModel", "goesOnMany", "(I)V"⟩, 32) := ⟨⟨by decide +kernel, by decide +kernel⟩, lw_t5 (List.mem_of_getElem? (i := 225) rfl), lw_t7 (List.mem_of_getElem? (i := 66) rfl), lw_t7 (List.mem_of_getElem? (i := 67) rfl)⟩
theorem lw_p63 : lw_okq (⟨"StoneSheetsModel", "laysBack", "()V"⟩, 32) := ⟨⟨by decide +kernel, by decide +kernel⟩, lw_t5 (List.mem_of_getElem? (i := 225) rfl), lw_t7 (List.mem_of_getElem? (i := 70) rfl), lw_t7 (List.mem_of_getElem? (i := 71) rfl)⟩
def lw_privs_4 : List (MethodName × Nat) := [(⟨"StoneSheetsModel", "saysAt", "(II)I"⟩, 32), (⟨"StoneSheetsModel", "becomes", "(II)I"⟩, 32), (⟨"StoneSheetsModel", "drawn", "()I"⟩, 32), (⟨"StoneSheetsModel", "falseOf", "(II)I"⟩, 32), (⟨"StoneSheetsModel", "joinBy", "(III)I"⟩, 32), (⟨"StoneSheetsModel", "doClash", "(II)Z"⟩, 32), (⟨"StoneSheetsModel", "findClashing", "()V"⟩, 32), (⟨"StoneSheetsModel", "laidOnes", "()I"⟩, 32), (⟨"StoneSheetsModel", "areAtPeace", "(I)Z"⟩, 32), (⟨"StoneSheetsModel", "coveredBy", "(I)I"⟩, 32), (⟨"StoneSheetsModel", "otherwiseAt", "(I)I"⟩, 32), (⟨"StoneSheetsModel", "goesOn", "()V"⟩, 32), (⟨"StoneSheetsModel", "allTrust", "()I"⟩, 32), (⟨"StoneSheetsModel", "laysBy", "()V"⟩, 32), (⟨"StoneSheetsModel", "goesOnMany", "(I)V"⟩, 32), (⟨"StoneSheetsModel", "laysBack", "()V"⟩, 32)]
theorem lw_r4 : ∀ q ∈ lw_privs_4, lw_okq q := List.forall_mem_cons.mpr ⟨lw_p48, List.forall_mem_cons.mpr ⟨lw_p49, List.forall_mem_cons.mpr ⟨lw_p50, List.forall_mem_cons.mpr ⟨lw_p51, List.forall_mem_cons.mpr ⟨lw_p52, List.forall_mem_cons.mpr ⟨lw_p53, List.forall_mem_cons.mpr ⟨lw_p54, List.forall_mem_cons.mpr ⟨lw_p55, List.forall_mem_cons.mpr ⟨lw_p56, List.forall_mem_cons.mpr ⟨lw_p57, List.forall_mem_cons.mpr ⟨lw_p58, List.forall_mem_cons.mpr ⟨lw_p59, List.forall_mem_cons.mpr ⟨lw_p60, List.forall_mem_cons.mpr ⟨lw_p61, List.forall_mem_cons.mpr ⟨lw_p62, List.forall_mem_cons.mpr ⟨lw_p63, fun _ h => absurd h List.not_mem_nil⟩⟩⟩⟩⟩⟩⟩⟩⟩⟩⟩⟩⟩⟩⟩⟩
theorem lw_p64 : lw_okq (⟨"StoneSheetsModel", "parse", "()I"⟩, 32) := ⟨⟨by decide +kernel, by decide +kernel⟩, lw_t5 (List.mem_of_getElem? (i := 225) rfl), lw_t7 (List.mem_of_getElem? (i := 111) rfl), lw_t7 (List.mem_of_getElem? (i := 112) rfl)⟩
theorem lw_p65 : lw_okq (⟨"StoneSheetsModel", "nextToken", "()V"⟩, 32) := ⟨⟨by decide +kernel, by decide +kernel⟩, lw_t5 (List.mem_of_getElem? (i := 225) rfl), lw_t7 (List.mem_of_getElem? (i := 115) rfl), lw_t7 (List.mem_of_getElem? (i := 116) rfl)⟩
theorem lw_p66 : lw_okq (⟨"StoneSheetsModel", "isLetter", "(I)Z"⟩, 32) := ⟨⟨by decide +kernel, by decide +kernel⟩, lw_t5 (List.mem_of_getElem? (i := 225) rfl), lw_t7 (List.mem_of_getElem? (i := 119) rfl), lw_t7 (List.mem_of_getElem? (i := 120) rfl)⟩
theorem lw_p67 : lw_okq (⟨"StoneSheetsModel", "isDigit", "(I)Z"⟩, 32) := ⟨⟨by decide +kernel, by decide +kernel⟩, lw_t5 (List.mem_of_getElem? (i := 225) rfl), lw_t7 (List.mem_of_getElem? (i := 125) rfl), lw_t7 (List.mem_of_getElem? (i := 126) rfl)⟩
theorem lw_p68 : lw_okq (⟨"StoneSheetsModel", "key", "()I"⟩, 32) := ⟨⟨by decide +kernel, by decide +kernel⟩, lw_t5 (List.mem_of_getElem? (i := 225) rfl), lw_t7 (List.mem_of_getElem? (i := 131) rfl), lw_t7 (List.mem_of_getElem? (i := 132) rfl)⟩
theorem lw_p69 : lw_okq (⟨"StoneSheetsModel", "isWordAt", "(IIII)Z"⟩, 32) := ⟨⟨by decide +kernel, by decide +kernel⟩, lw_t5 (List.mem_of_getElem? (i := 225) rfl), lw_t7 (List.mem_of_getElem? (i := 135) rfl), lw_t7 (List.mem_of_getElem? (i := 136) rfl)⟩
theorem lw_p70 : lw_okq (⟨"StoneSheetsModel", "either", "(I)Z"⟩, 32) := ⟨⟨by decide +kernel, by decide +kernel⟩, lw_t5 (List.mem_of_getElem? (i := 225) rfl), lw_t7 (List.mem_of_getElem? (i := 139) rfl), lw_t7 (List.mem_of_getElem? (i := 140) rfl)⟩
theorem lw_p71 : lw_okq (⟨"StoneSheetsModel", "both", "(I)Z"⟩, 32) := ⟨⟨by decide +kernel, by decide +kernel⟩, lw_t5 (List.mem_of_getElem? (i := 225) rfl), lw_t7 (List.mem_of_getElem? (i := 143) rfl), lw_t7 (List.mem_of_getElem? (i := 144) rfl)⟩
theorem lw_p72 : lw_okq (⟨"StoneSheetsModel", "test", "(I)Z"⟩, 32) := ⟨⟨by decide +kernel, by decide +kernel⟩, lw_t5 (List.mem_of_getElem? (i := 225) rfl), lw_t7 (List.mem_of_getElem? (i := 147) rfl), lw_t7 (List.mem_of_getElem? (i := 148) rfl)⟩
theorem lw_p73 : lw_okq (⟨"StoneSheetsModel", "sum", "(I)Z"⟩, 32) := ⟨⟨by decide +kernel, by decide +kernel⟩, lw_t5 (List.mem_of_getElem? (i := 225) rfl), lw_t7 (List.mem_of_getElem? (i := 151) rfl), lw_t7 (List.mem_of_getElem? (i := 152) rfl)⟩
theorem lw_p74 : lw_okq (⟨"StoneSheetsModel", "term", "(I)Z"⟩, 32) := ⟨⟨by decide +kernel, by decide +kernel⟩, lw_t5 (List.mem_of_getElem? (i := 225) rfl), lw_t7 (List.mem_of_getElem? (i := 155) rfl), lw_t7 (List.mem_of_getElem? (i := 156) rfl)⟩
theorem lw_p75 : lw_okq (⟨"StoneSheetsModel", "part0", "(I)Z"⟩, 32) := ⟨⟨by decide +kernel, by decide +kernel⟩, lw_t5 (List.mem_of_getElem? (i := 225) rfl), lw_t7 (List.mem_of_getElem? (i := 159) rfl), lw_t7 (List.mem_of_getElem? (i := 160) rfl)⟩
theorem lw_p76 : lw_okq (⟨"StoneSheetsModel", "step", "(II)V"⟩, 32) := ⟨⟨by decide +kernel, by decide +kernel⟩, lw_t5 (List.mem_of_getElem? (i := 225) rfl), lw_t7 (List.mem_of_getElem? (i := 163) rfl), lw_t7 (List.mem_of_getElem? (i := 164) rfl)⟩
theorem lw_p77 : lw_okq (⟨"StoneSheetsModel", "isSign", "(I)Z"⟩, 32) := ⟨⟨by decide +kernel, by decide +kernel⟩, lw_t5 (List.mem_of_getElem? (i := 225) rfl), lw_t7 (List.mem_of_getElem? (i := 170) rfl), lw_t7 (List.mem_of_getElem? (i := 171) rfl)⟩
theorem lw_p78 : lw_okq (⟨"StoneSheetsModel", "isText", "(I)Z"⟩, 32) := ⟨⟨by decide +kernel, by decide +kernel⟩, lw_t5 (List.mem_of_getElem? (i := 225) rfl), lw_t7 (List.mem_of_getElem? (i := 178) rfl), lw_t7 (List.mem_of_getElem? (i := 179) rfl)⟩
theorem lw_p79 : lw_okq (⟨"StoneSheetsModel", "setAside", "([I[I)V"⟩, 32) := ⟨⟨by decide +kernel, by decide +kernel⟩, lw_t5 (List.mem_of_getElem? (i := 225) rfl), lw_t8 (List.mem_of_getElem? (i := 13) rfl), lw_t8 (List.mem_of_getElem? (i := 14) rfl)⟩
def lw_privs_5 : List (MethodName × Nat) := [(⟨"StoneSheetsModel", "parse", "()I"⟩, 32), (⟨"StoneSheetsModel", "nextToken", "()V"⟩, 32), (⟨"StoneSheetsModel", "isLetter", "(I)Z"⟩, 32), (⟨"StoneSheetsModel", "isDigit", "(I)Z"⟩, 32), (⟨"StoneSheetsModel", "key", "()I"⟩, 32), (⟨"StoneSheetsModel", "isWordAt", "(IIII)Z"⟩, 32), (⟨"StoneSheetsModel", "either", "(I)Z"⟩, 32), (⟨"StoneSheetsModel", "both", "(I)Z"⟩, 32), (⟨"StoneSheetsModel", "test", "(I)Z"⟩, 32), (⟨"StoneSheetsModel", "sum", "(I)Z"⟩, 32), (⟨"StoneSheetsModel", "term", "(I)Z"⟩, 32), (⟨"StoneSheetsModel", "part0", "(I)Z"⟩, 32), (⟨"StoneSheetsModel", "step", "(II)V"⟩, 32), (⟨"StoneSheetsModel", "isSign", "(I)Z"⟩, 32), (⟨"StoneSheetsModel", "isText", "(I)Z"⟩, 32), (⟨"StoneSheetsModel", "setAside", "([I[I)V"⟩, 32)]
theorem lw_r5 : ∀ q ∈ lw_privs_5, lw_okq q := List.forall_mem_cons.mpr ⟨lw_p64, List.forall_mem_cons.mpr ⟨lw_p65, List.forall_mem_cons.mpr ⟨lw_p66, List.forall_mem_cons.mpr ⟨lw_p67, List.forall_mem_cons.mpr ⟨lw_p68, List.forall_mem_cons.mpr ⟨lw_p69, List.forall_mem_cons.mpr ⟨lw_p70, List.forall_mem_cons.mpr ⟨lw_p71, List.forall_mem_cons.mpr ⟨lw_p72, List.forall_mem_cons.mpr ⟨lw_p73, List.forall_mem_cons.mpr ⟨lw_p74, List.forall_mem_cons.mpr ⟨lw_p75, List.forall_mem_cons.mpr ⟨lw_p76, List.forall_mem_cons.mpr ⟨lw_p77, List.forall_mem_cons.mpr ⟨lw_p78, List.forall_mem_cons.mpr ⟨lw_p79, fun _ h => absurd h List.not_mem_nil⟩⟩⟩⟩⟩⟩⟩⟩⟩⟩⟩⟩⟩⟩⟩⟩
def lw_privs : List (MethodName × Nat) := lw_privs_1 ++ (lw_privs_2 ++ (lw_privs_3 ++ (lw_privs_4 ++ (lw_privs_5))))
def lw_tbl : List Cond := k2_sels lw_privs ++ tables_1
theorem lw_privs_ok : ∀ q ∈ lw_privs, lw_okq q := by
  show ∀ q ∈ lw_privs_1 ++ (lw_privs_2 ++ (lw_privs_3 ++ (lw_privs_4 ++ (lw_privs_5)))), lw_okq q
  exact List.forall_mem_append.mpr ⟨lw_r1, List.forall_mem_append.mpr ⟨lw_r2, List.forall_mem_append.mpr ⟨lw_r3, List.forall_mem_append.mpr ⟨lw_r4, lw_r5⟩⟩⟩⟩
-- ===== ONE list of words for every method: the tables' words that hold all through a run =====
def lw_all : List Cond := lw_tbl.filter goodWord
/-- a word of the tables by its place: claim/WORDS.tsv -/
theorem lw_w {w : Cond} (i : Nat) (h : lw_tbl[i]? = some w) (g : goodWord w = true) : w ∈ lw_all := List.mem_filter.mpr ⟨List.mem_of_getElem? h, g⟩
theorem lw_all_tbl {w : Cond} (h : w ∈ lw_all) : w ∈ lw_tbl := (List.mem_filter.mp h).1
theorem lw_self : GoodIn lw_all lw_all := fun w h => ⟨h, good_of_word (List.mem_filter.mp h).2⟩
/-- a class's field words, by their places -/
theorem lw_in (ws : List Cond) (ps : List Nat) (hp : ws = ps.filterMap (fun i => lw_tbl[i]?)) (hg : ws.all goodWord = true) : ∀ w ∈ ws, w ∈ lw_all := by
  intro w h
  have h1 := List.all_eq_true.mp hg w h
  rw [hp] at h
  obtain ⟨i, -, hi⟩ := List.mem_filterMap.mp h
  exact lw_w i hi h1
/-- the words of a contract for the method y with code b, L locals, answer r -/
abbrev ws_ (y : MethodName) (b : ByteArray) (L : Nat) (r : Option FieldType) : List Cond := Cond.code y b L r :: lw_all
theorem lw_meth {y : MethodName} {b : ByteArray} {L : Nat} {r : Option FieldType} (h : Cond.code y b L r ∈ lw_all) : GoodIn lw_all (ws_ y b L r) := by
  intro w hw
  rcases List.mem_cons.mp hw with e | e
  · rw [e]
    exact lw_self _ h
  · exact lw_self _ e
theorem lw_app {a c : List Cond} (ha : ∀ w ∈ a, w ∈ lw_all) (hc : GoodIn lw_all c) : GoodIn lw_all (a ++ c) := by
  intro w hw
  rcases List.mem_append.mp hw with e | e
  · exact lw_self w (ha w e)
  · exact hc w e
/-- what a call through an object asks: cwV n hts (lw_V ..) -/
theorem lw_V {own : String} {idx : Nat} {C : String} {y : MethodName} {b : ByteArray} {L : Nat} {r : Option FieldType} (h1 : Cond.methodLink own idx y ∈ lw_all) (h2 : Cond.instanceMethod y ∈ lw_all) (h3 : Cond.selects C y y ∈ lw_all) (h4 : Cond.initialized C ∈ lw_all) (h5 : Cond.code y b L r ∈ lw_all) : GoodIn lw_all (wsV own idx C y (ws_ y b L r)) := by
  refine lw_app ?_ (lw_meth h5)
  intro w hw
  simp only [List.mem_cons, List.not_mem_nil, or_false] at hw
  rcases hw with e | e | e | e
  · rw [e]; exact h1
  · rw [e]; exact h2
  · rw [e]; exact h3
  · rw [e]; exact h4
/-- what a static call asks: va_cwS n hts (lw_S ..) -/
theorem lw_S {own : String} {idx : Nat} {y : MethodName} {b : ByteArray} {L : Nat} {r : Option FieldType} (h1 : Cond.methodLink own idx y ∈ lw_all) (h2 : Cond.static y ∈ lw_all) (h3 : Cond.initialized y.cls ∈ lw_all) (h4 : Cond.code y b L r ∈ lw_all) : GoodIn lw_all (va_wsS own idx y (ws_ y b L r)) := by
  refine lw_app ?_ (lw_meth h4)
  intro w hw
  simp only [List.mem_cons, List.not_mem_nil, or_false] at hw
  rcases hw with e | e | e
  · rw [e]; exact h1
  · rw [e]; exact h2
  · rw [e]; exact h3
/-- the words of a contract for a method WITH HANDLERS (hh: its table) -/
abbrev wsW_ (y : MethodName) (b : ByteArray) (L : Nat) (r : Option FieldType) (hh : List (Nat × Nat × Nat × Nat)) : List Cond := Cond.codeWith y b L r hh :: lw_all
theorem lw_methW {y : MethodName} {b : ByteArray} {L : Nat} {r : Option FieldType} {hh : List (Nat × Nat × Nat × Nat)} (h : Cond.codeWith y b L r hh ∈ lw_all) : GoodIn lw_all (wsW_ y b L r hh) := by
  intro w hw
  rcases List.mem_cons.mp hw with e | e
  · rw [e]
    exact lw_self _ h
  · exact lw_self _ e
/-- any list of words by their places (lw_in), good -/
theorem lw_good {ws : List Cond} (h : ∀ w ∈ ws, w ∈ lw_all) : GoodIn lw_all ws := fun w hw => lw_self w (h w hw)
/-- what a call of a method with handlers asks: vx_cwVW n hts (lw_VW ..), vx_cwSW n hts (lw_SW ..) -/
theorem lw_VW {own : String} {idx : Nat} {C : String} {y : MethodName} {b : ByteArray} {L : Nat} {r : Option FieldType} {hh : List (Nat × Nat × Nat × Nat)} (h1 : Cond.methodLink own idx y ∈ lw_all) (h2 : Cond.instanceMethod y ∈ lw_all) (h3 : Cond.selects C y y ∈ lw_all) (h4 : Cond.initialized C ∈ lw_all) (h5 : Cond.codeWith y b L r hh ∈ lw_all) : GoodIn lw_all (wsV own idx C y (wsW_ y b L r hh)) := by
  refine lw_app ?_ (lw_methW h5)
  intro w hw
  simp only [List.mem_cons, List.not_mem_nil, or_false] at hw
  rcases hw with e | e | e | e
  · rw [e]; exact h1
  · rw [e]; exact h2
  · rw [e]; exact h3
  · rw [e]; exact h4
theorem lw_SW {own : String} {idx : Nat} {y : MethodName} {b : ByteArray} {L : Nat} {r : Option FieldType} {hh : List (Nat × Nat × Nat × Nat)} (h1 : Cond.methodLink own idx y ∈ lw_all) (h2 : Cond.static y ∈ lw_all) (h3 : Cond.initialized y.cls ∈ lw_all) (h4 : Cond.codeWith y b L r hh ∈ lw_all) : GoodIn lw_all (va_wsS own idx y (wsW_ y b L r hh)) := by
  refine lw_app ?_ (lw_methW h4)
  intro w hw
  simp only [List.mem_cons, List.not_mem_nil, or_false] at hw
  rcases hw with e | e | e
  · rw [e]; exact h1
  · rw [e]; exact h2
  · rw [e]; exact h3
/-- a word by its place in its run of the tables -/
theorem lw_at {r : List Cond} (hr : ∀ w ∈ r, w ∈ lw_tbl) {w : Cond} (i : Nat) (h : r[i]? = some w) : w ∈ lw_tbl := hr w (List.mem_of_getElem? h)
theorem lw_g {w : Cond} (h : w ∈ lw_tbl) (g : goodWord w = true) : w ∈ lw_all := List.mem_filter.mpr ⟨h, g⟩
theorem lw_ms : ∀ w ∈ k2_sels lw_privs, w ∈ lw_tbl := fun w h => show w ∈ k2_sels lw_privs ++ tables_1 from List.mem_append_left _ h
theorem lw_m1 : ∀ w ∈ tables_1_1, w ∈ lw_tbl := fun w h => show w ∈ k2_sels lw_privs ++ tables_1 from List.mem_append_right (k2_sels lw_privs) (show w ∈ tables_1 from List.mem_append_left _ h)
theorem lw_m2 : ∀ w ∈ tables_1_2, w ∈ lw_tbl := fun w h => show w ∈ k2_sels lw_privs ++ tables_1 from List.mem_append_right (k2_sels lw_privs) (show w ∈ tables_1 from List.mem_append_right _ (List.mem_append_left _ h))
theorem lw_m3 : ∀ w ∈ tables_1_3, w ∈ lw_tbl := fun w h => show w ∈ k2_sels lw_privs ++ tables_1 from List.mem_append_right (k2_sels lw_privs) (show w ∈ tables_1 from List.mem_append_right _ (List.mem_append_right _ (List.mem_append_left _ h)))
theorem lw_m4 : ∀ w ∈ tables_1_4, w ∈ lw_tbl := fun w h => show w ∈ k2_sels lw_privs ++ tables_1 from List.mem_append_right (k2_sels lw_privs) (show w ∈ tables_1 from List.mem_append_right _ (List.mem_append_right _ (List.mem_append_right _ (List.mem_append_left _ h))))
theorem lw_m5 : ∀ w ∈ tables_1_5, w ∈ lw_tbl := fun w h => show w ∈ k2_sels lw_privs ++ tables_1 from List.mem_append_right (k2_sels lw_privs) (show w ∈ tables_1 from List.mem_append_right _ (List.mem_append_right _ (List.mem_append_right _ (List.mem_append_right _ (List.mem_append_left _ h)))))
theorem lw_m6 : ∀ w ∈ tables_1_6, w ∈ lw_tbl := fun w h => show w ∈ k2_sels lw_privs ++ tables_1 from List.mem_append_right (k2_sels lw_privs) (show w ∈ tables_1 from List.mem_append_right _ (List.mem_append_right _ (List.mem_append_right _ (List.mem_append_right _ (List.mem_append_right _ (List.mem_append_left _ h))))))
theorem lw_m7 : ∀ w ∈ tables_1_7, w ∈ lw_tbl := fun w h => show w ∈ k2_sels lw_privs ++ tables_1 from List.mem_append_right (k2_sels lw_privs) (show w ∈ tables_1 from List.mem_append_right _ (List.mem_append_right _ (List.mem_append_right _ (List.mem_append_right _ (List.mem_append_right _ (List.mem_append_right _ (List.mem_append_left _ h)))))))
theorem lw_m8 : ∀ w ∈ tables_1_8, w ∈ lw_tbl := fun w h => show w ∈ k2_sels lw_privs ++ tables_1 from List.mem_append_right (k2_sels lw_privs) (show w ∈ tables_1 from List.mem_append_right _ (List.mem_append_right _ (List.mem_append_right _ (List.mem_append_right _ (List.mem_append_right _ (List.mem_append_right _ (List.mem_append_right _ h)))))))
theorem qs0 : (Cond.selects "java/lang/Throwable" ⟨"java/lang/Throwable", "fillInStackTrace", "(I)Ljava/lang/Throwable;"⟩ ⟨"java/lang/Throwable", "fillInStackTrace", "(I)Ljava/lang/Throwable;"⟩) ∈ lw_all := lw_g (lw_at lw_ms 0 rfl) rfl
theorem qs1 : (Cond.selects "StoneSheets" ⟨"StoneSheets", "four", "(I)V"⟩ ⟨"StoneSheets", "four", "(I)V"⟩) ∈ lw_all := lw_g (lw_at lw_ms 1 rfl) rfl
theorem qs2 : (Cond.selects "StoneSheets" ⟨"StoneSheets", "textRead", "()LStoneSheets$Text;"⟩ ⟨"StoneSheets", "textRead", "()LStoneSheets$Text;"⟩) ∈ lw_all := lw_g (lw_at lw_ms 2 rfl) rfl
theorem qs3 : (Cond.selects "StoneSheets" ⟨"StoneSheets", "goes", "()V"⟩ ⟨"StoneSheets", "goes", "()V"⟩) ∈ lw_all := lw_g (lw_at lw_ms 3 rfl) rfl
theorem qs4 : (Cond.selects "StoneSheets" ⟨"StoneSheets", "wrong", "()V"⟩ ⟨"StoneSheets", "wrong", "()V"⟩) ∈ lw_all := lw_g (lw_at lw_ms 4 rfl) rfl
theorem qs5 : (Cond.selects "StoneSheets" ⟨"StoneSheets", "key", "()I"⟩ ⟨"StoneSheets", "key", "()I"⟩) ∈ lw_all := lw_g (lw_at lw_ms 5 rfl) rfl
theorem qs6 : (Cond.selects "StoneSheets" ⟨"StoneSheets", "isWord", "(Ljava/lang/String;)Z"⟩ ⟨"StoneSheets", "isWord", "(Ljava/lang/String;)Z"⟩) ∈ lw_all := lw_g (lw_at lw_ms 6 rfl) rfl
theorem qs7 : (Cond.selects "StoneSheets" ⟨"StoneSheets", "expression", "()LStoneSheets$Words;"⟩ ⟨"StoneSheets", "expression", "()LStoneSheets$Words;"⟩) ∈ lw_all := lw_g (lw_at lw_ms 7 rfl) rfl
theorem qs8 : (Cond.selects "StoneSheets" ⟨"StoneSheets", "or", "(LStoneSheets$Words;)V"⟩ ⟨"StoneSheets", "or", "(LStoneSheets$Words;)V"⟩) ∈ lw_all := lw_g (lw_at lw_ms 8 rfl) rfl
theorem qs9 : (Cond.selects "StoneSheets" ⟨"StoneSheets", "and", "(LStoneSheets$Words;)V"⟩ ⟨"StoneSheets", "and", "(LStoneSheets$Words;)V"⟩) ∈ lw_all := lw_g (lw_at lw_ms 9 rfl) rfl
theorem qs10 : (Cond.selects "StoneSheets" ⟨"StoneSheets", "test", "(LStoneSheets$Words;)V"⟩ ⟨"StoneSheets", "test", "(LStoneSheets$Words;)V"⟩) ∈ lw_all := lw_g (lw_at lw_ms 10 rfl) rfl
theorem qs11 : (Cond.selects "StoneSheets" ⟨"StoneSheets", "sum", "(LStoneSheets$Words;)V"⟩ ⟨"StoneSheets", "sum", "(LStoneSheets$Words;)V"⟩) ∈ lw_all := lw_g (lw_at lw_ms 11 rfl) rfl
theorem qs12 : (Cond.selects "StoneSheets" ⟨"StoneSheets", "term", "(LStoneSheets$Words;)V"⟩ ⟨"StoneSheets", "term", "(LStoneSheets$Words;)V"⟩) ∈ lw_all := lw_g (lw_at lw_ms 12 rfl) rfl
theorem qs13 : (Cond.selects "StoneSheets" ⟨"StoneSheets", "piece", "(LStoneSheets$Words;)V"⟩ ⟨"StoneSheets", "piece", "(LStoneSheets$Words;)V"⟩) ∈ lw_all := lw_g (lw_at lw_ms 13 rfl) rfl
theorem qs14 : (Cond.selects "StoneSheets" ⟨"StoneSheets", "isSign", "(I)Z"⟩ ⟨"StoneSheets", "isSign", "(I)Z"⟩) ∈ lw_all := lw_g (lw_at lw_ms 14 rfl) rfl
theorem qs15 : (Cond.selects "StoneSheets" ⟨"StoneSheets", "number", "()I"⟩ ⟨"StoneSheets", "number", "()I"⟩) ∈ lw_all := lw_g (lw_at lw_ms 15 rfl) rfl
theorem qs16 : (Cond.selects "StoneSheets" ⟨"StoneSheets", "isName", "(I)Z"⟩ ⟨"StoneSheets", "isName", "(I)Z"⟩) ∈ lw_all := lw_g (lw_at lw_ms 16 rfl) rfl
theorem qs17 : (Cond.selects "StoneSheets" ⟨"StoneSheets", "counts", "(I)I"⟩ ⟨"StoneSheets", "counts", "(I)I"⟩) ∈ lw_all := lw_g (lw_at lw_ms 17 rfl) rfl
theorem qs18 : (Cond.selects "StoneSheets" ⟨"StoneSheets", "comes", "(III)I"⟩ ⟨"StoneSheets", "comes", "(III)I"⟩) ∈ lw_all := lw_g (lw_at lw_ms 18 rfl) rfl
theorem qs19 : (Cond.selects "StoneSheets" ⟨"StoneSheets", "isRubbing", "(I)Z"⟩ ⟨"StoneSheets", "isRubbing", "(I)Z"⟩) ∈ lw_all := lw_g (lw_at lw_ms 19 rfl) rfl
theorem qs20 : (Cond.selects "StoneSheets" ⟨"StoneSheets", "gainOf", "(LStoneSheets$Rubbing;)I"⟩ ⟨"StoneSheets", "gainOf", "(LStoneSheets$Rubbing;)I"⟩) ∈ lw_all := lw_g (lw_at lw_ms 20 rfl) rfl
theorem qs21 : (Cond.selects "StoneSheets" ⟨"StoneSheets", "reckon", "(LStoneSheets$Words;)I"⟩ ⟨"StoneSheets", "reckon", "(LStoneSheets$Words;)I"⟩) ∈ lw_all := lw_g (lw_at lw_ms 21 rfl) rfl
theorem qs22 : (Cond.selects "StoneSheets" ⟨"StoneSheets", "cuts", "(II)I"⟩ ⟨"StoneSheets", "cuts", "(II)I"⟩) ∈ lw_all := lw_g (lw_at lw_ms 22 rfl) rfl
theorem qs23 : (Cond.selects "StoneSheets" ⟨"StoneSheets", "wrongAt", "(LStoneSheets$Rubbing;I)I"⟩ ⟨"StoneSheets", "wrongAt", "(LStoneSheets$Rubbing;I)I"⟩) ∈ lw_all := lw_g (lw_at lw_ms 23 rfl) rfl
theorem qs24 : (Cond.selects "StoneSheets" ⟨"StoneSheets", "areTwo", "(II)Z"⟩ ⟨"StoneSheets", "areTwo", "(II)Z"⟩) ∈ lw_all := lw_g (lw_at lw_ms 24 rfl) rfl
theorem qs25 : (Cond.selects "StoneSheets" ⟨"StoneSheets", "isClash", "(II)Z"⟩ ⟨"StoneSheets", "isClash", "(II)Z"⟩) ∈ lw_all := lw_g (lw_at lw_ms 25 rfl) rfl
theorem qs26 : (Cond.selects "StoneSheets" ⟨"StoneSheets", "findClashes", "()V"⟩ ⟨"StoneSheets", "findClashes", "()V"⟩) ∈ lw_all := lw_g (lw_at lw_ms 26 rfl) rfl
theorem qs27 : (Cond.selects "StoneSheets" ⟨"StoneSheets", "isPeace", "(I)Z"⟩ ⟨"StoneSheets", "isPeace", "(I)Z"⟩) ∈ lw_all := lw_g (lw_at lw_ms 27 rfl) rfl
theorem qs28 : (Cond.selects "StoneSheets" ⟨"StoneSheets", "falseOnes", "(I)I"⟩ ⟨"StoneSheets", "falseOnes", "(I)I"⟩) ∈ lw_all := lw_g (lw_at lw_ms 28 rfl) rfl
theorem qs29 : (Cond.selects "StoneSheets" ⟨"StoneSheets", "goesOn", "(I)V"⟩ ⟨"StoneSheets", "goesOn", "(I)V"⟩) ∈ lw_all := lw_g (lw_at lw_ms 29 rfl) rfl
theorem qs30 : (Cond.selects "StoneSheets" ⟨"StoneSheets", "aTide", "()V"⟩ ⟨"StoneSheets", "aTide", "()V"⟩) ∈ lw_all := lw_g (lw_at lw_ms 30 rfl) rfl
theorem qs31 : (Cond.selects "StoneSheets" ⟨"StoneSheets", "thinks", "()V"⟩ ⟨"StoneSheets", "thinks", "()V"⟩) ∈ lw_all := lw_g (lw_at lw_ms 31 rfl) rfl
theorem qs32 : (Cond.selects "StoneSheets" ⟨"StoneSheets", "putsBack", "()V"⟩ ⟨"StoneSheets", "putsBack", "()V"⟩) ∈ lw_all := lw_g (lw_at lw_ms 32 rfl) rfl
theorem qs33 : (Cond.selects "StoneSheets" ⟨"StoneSheets", "carries", "(LStoneSheets$Sheet;ILStoneSheets$Sheet;II)V"⟩ ⟨"StoneSheets", "carries", "(LStoneSheets$Sheet;ILStoneSheets$Sheet;II)V"⟩) ∈ lw_all := lw_g (lw_at lw_ms 33 rfl) rfl
theorem qs34 : (Cond.selects "StoneSheets" ⟨"StoneSheets", "own", "(LStoneSheets$Sheet;)LStoneSheets$Sheet;"⟩ ⟨"StoneSheets", "own", "(LStoneSheets$Sheet;)LStoneSheets$Sheet;"⟩) ∈ lw_all := lw_g (lw_at lw_ms 34 rfl) rfl
theorem qs35 : (Cond.selects "StoneSheets" ⟨"StoneSheets", "rowsOfTides", "(I)I"⟩ ⟨"StoneSheets", "rowsOfTides", "(I)I"⟩) ∈ lw_all := lw_g (lw_at lw_ms 35 rfl) rfl
theorem qs36 : (Cond.selects "StoneSheetsModel" ⟨"StoneSheetsModel", "comes", "(III)V"⟩ ⟨"StoneSheetsModel", "comes", "(III)V"⟩) ∈ lw_all := lw_g (lw_at lw_ms 36 rfl) rfl
theorem qs37 : (Cond.selects "StoneSheetsModel" ⟨"StoneSheetsModel", "sets", "(III)V"⟩ ⟨"StoneSheetsModel", "sets", "(III)V"⟩) ∈ lw_all := lw_g (lw_at lw_ms 37 rfl) rfl
theorem qs38 : (Cond.selects "StoneSheetsModel" ⟨"StoneSheetsModel", "isRubbing", "(I)Z"⟩ ⟨"StoneSheetsModel", "isRubbing", "(I)Z"⟩) ∈ lw_all := lw_g (lw_at lw_ms 38 rfl) rfl
theorem qs39 : (Cond.selects "StoneSheetsModel" ⟨"StoneSheetsModel", "of", "(II)I"⟩ ⟨"StoneSheetsModel", "of", "(II)I"⟩) ∈ lw_all := lw_g (lw_at lw_ms 39 rfl) rfl
theorem qs40 : (Cond.selects "StoneSheetsModel" ⟨"StoneSheetsModel", "covers", "(I)I"⟩ ⟨"StoneSheetsModel", "covers", "(I)I"⟩) ∈ lw_all := lw_g (lw_at lw_ms 40 rfl) rfl
theorem qs41 : (Cond.selects "StoneSheetsModel" ⟨"StoneSheetsModel", "coversFrom", "(II)I"⟩ ⟨"StoneSheetsModel", "coversFrom", "(II)I"⟩) ∈ lw_all := lw_g (lw_at lw_ms 41 rfl) rfl
theorem qs42 : (Cond.selects "StoneSheetsModel" ⟨"StoneSheetsModel", "gains", "(I)I"⟩ ⟨"StoneSheetsModel", "gains", "(I)I"⟩) ∈ lw_all := lw_g (lw_at lw_ms 42 rfl) rfl
theorem qs43 : (Cond.selects "StoneSheetsModel" ⟨"StoneSheetsModel", "counts", "(I)I"⟩ ⟨"StoneSheetsModel", "counts", "(I)I"⟩) ∈ lw_all := lw_g (lw_at lw_ms 43 rfl) rfl
theorem qs44 : (Cond.selects "StoneSheetsModel" ⟨"StoneSheetsModel", "textAt", "(I)I"⟩ ⟨"StoneSheetsModel", "textAt", "(I)I"⟩) ∈ lw_all := lw_g (lw_at lw_ms 44 rfl) rfl
theorem qs45 : (Cond.selects "StoneSheetsModel" ⟨"StoneSheetsModel", "worked", "(I)I"⟩ ⟨"StoneSheetsModel", "worked", "(I)I"⟩) ∈ lw_all := lw_g (lw_at lw_ms 45 rfl) rfl
theorem qs46 : (Cond.selects "StoneSheetsModel" ⟨"StoneSheetsModel", "loses", "(I)I"⟩ ⟨"StoneSheetsModel", "loses", "(I)I"⟩) ∈ lw_all := lw_g (lw_at lw_ms 46 rfl) rfl
theorem qs47 : (Cond.selects "StoneSheetsModel" ⟨"StoneSheetsModel", "worth", "(I)I"⟩ ⟨"StoneSheetsModel", "worth", "(I)I"⟩) ∈ lw_all := lw_g (lw_at lw_ms 47 rfl) rfl
theorem qs48 : (Cond.selects "StoneSheetsModel" ⟨"StoneSheetsModel", "saysAt", "(II)I"⟩ ⟨"StoneSheetsModel", "saysAt", "(II)I"⟩) ∈ lw_all := lw_g (lw_at lw_ms 48 rfl) rfl
theorem qs49 : (Cond.selects "StoneSheetsModel" ⟨"StoneSheetsModel", "becomes", "(II)I"⟩ ⟨"StoneSheetsModel", "becomes", "(II)I"⟩) ∈ lw_all := lw_g (lw_at lw_ms 49 rfl) rfl
theorem qs50 : (Cond.selects "StoneSheetsModel" ⟨"StoneSheetsModel", "drawn", "()I"⟩ ⟨"StoneSheetsModel", "drawn", "()I"⟩) ∈ lw_all := lw_g (lw_at lw_ms 50 rfl) rfl
theorem qs51 : (Cond.selects "StoneSheetsModel" ⟨"StoneSheetsModel", "falseOf", "(II)I"⟩ ⟨"StoneSheetsModel", "falseOf", "(II)I"⟩) ∈ lw_all := lw_g (lw_at lw_ms 51 rfl) rfl
theorem qs52 : (Cond.selects "StoneSheetsModel" ⟨"StoneSheetsModel", "joinBy", "(III)I"⟩ ⟨"StoneSheetsModel", "joinBy", "(III)I"⟩) ∈ lw_all := lw_g (lw_at lw_ms 52 rfl) rfl
theorem qs53 : (Cond.selects "StoneSheetsModel" ⟨"StoneSheetsModel", "doClash", "(II)Z"⟩ ⟨"StoneSheetsModel", "doClash", "(II)Z"⟩) ∈ lw_all := lw_g (lw_at lw_ms 53 rfl) rfl
theorem qs54 : (Cond.selects "StoneSheetsModel" ⟨"StoneSheetsModel", "findClashing", "()V"⟩ ⟨"StoneSheetsModel", "findClashing", "()V"⟩) ∈ lw_all := lw_g (lw_at lw_ms 54 rfl) rfl
theorem qs55 : (Cond.selects "StoneSheetsModel" ⟨"StoneSheetsModel", "laidOnes", "()I"⟩ ⟨"StoneSheetsModel", "laidOnes", "()I"⟩) ∈ lw_all := lw_g (lw_at lw_ms 55 rfl) rfl
theorem qs56 : (Cond.selects "StoneSheetsModel" ⟨"StoneSheetsModel", "areAtPeace", "(I)Z"⟩ ⟨"StoneSheetsModel", "areAtPeace", "(I)Z"⟩) ∈ lw_all := lw_g (lw_at lw_ms 56 rfl) rfl
theorem qs57 : (Cond.selects "StoneSheetsModel" ⟨"StoneSheetsModel", "coveredBy", "(I)I"⟩ ⟨"StoneSheetsModel", "coveredBy", "(I)I"⟩) ∈ lw_all := lw_g (lw_at lw_ms 57 rfl) rfl
theorem qs58 : (Cond.selects "StoneSheetsModel" ⟨"StoneSheetsModel", "otherwiseAt", "(I)I"⟩ ⟨"StoneSheetsModel", "otherwiseAt", "(I)I"⟩) ∈ lw_all := lw_g (lw_at lw_ms 58 rfl) rfl
theorem qs59 : (Cond.selects "StoneSheetsModel" ⟨"StoneSheetsModel", "goesOn", "()V"⟩ ⟨"StoneSheetsModel", "goesOn", "()V"⟩) ∈ lw_all := lw_g (lw_at lw_ms 59 rfl) rfl
theorem qs60 : (Cond.selects "StoneSheetsModel" ⟨"StoneSheetsModel", "allTrust", "()I"⟩ ⟨"StoneSheetsModel", "allTrust", "()I"⟩) ∈ lw_all := lw_g (lw_at lw_ms 60 rfl) rfl
theorem qs61 : (Cond.selects "StoneSheetsModel" ⟨"StoneSheetsModel", "laysBy", "()V"⟩ ⟨"StoneSheetsModel", "laysBy", "()V"⟩) ∈ lw_all := lw_g (lw_at lw_ms 61 rfl) rfl
theorem qs62 : (Cond.selects "StoneSheetsModel" ⟨"StoneSheetsModel", "goesOnMany", "(I)V"⟩ ⟨"StoneSheetsModel", "goesOnMany", "(I)V"⟩) ∈ lw_all := lw_g (lw_at lw_ms 62 rfl) rfl
theorem qs63 : (Cond.selects "StoneSheetsModel" ⟨"StoneSheetsModel", "laysBack", "()V"⟩ ⟨"StoneSheetsModel", "laysBack", "()V"⟩) ∈ lw_all := lw_g (lw_at lw_ms 63 rfl) rfl
theorem qs64 : (Cond.selects "StoneSheetsModel" ⟨"StoneSheetsModel", "parse", "()I"⟩ ⟨"StoneSheetsModel", "parse", "()I"⟩) ∈ lw_all := lw_g (lw_at lw_ms 64 rfl) rfl
theorem qs65 : (Cond.selects "StoneSheetsModel" ⟨"StoneSheetsModel", "nextToken", "()V"⟩ ⟨"StoneSheetsModel", "nextToken", "()V"⟩) ∈ lw_all := lw_g (lw_at lw_ms 65 rfl) rfl
theorem qs66 : (Cond.selects "StoneSheetsModel" ⟨"StoneSheetsModel", "isLetter", "(I)Z"⟩ ⟨"StoneSheetsModel", "isLetter", "(I)Z"⟩) ∈ lw_all := lw_g (lw_at lw_ms 66 rfl) rfl
theorem qs67 : (Cond.selects "StoneSheetsModel" ⟨"StoneSheetsModel", "isDigit", "(I)Z"⟩ ⟨"StoneSheetsModel", "isDigit", "(I)Z"⟩) ∈ lw_all := lw_g (lw_at lw_ms 67 rfl) rfl
theorem qs68 : (Cond.selects "StoneSheetsModel" ⟨"StoneSheetsModel", "key", "()I"⟩ ⟨"StoneSheetsModel", "key", "()I"⟩) ∈ lw_all := lw_g (lw_at lw_ms 68 rfl) rfl
theorem qs69 : (Cond.selects "StoneSheetsModel" ⟨"StoneSheetsModel", "isWordAt", "(IIII)Z"⟩ ⟨"StoneSheetsModel", "isWordAt", "(IIII)Z"⟩) ∈ lw_all := lw_g (lw_at lw_ms 69 rfl) rfl
theorem qs70 : (Cond.selects "StoneSheetsModel" ⟨"StoneSheetsModel", "either", "(I)Z"⟩ ⟨"StoneSheetsModel", "either", "(I)Z"⟩) ∈ lw_all := lw_g (lw_at lw_ms 70 rfl) rfl
theorem qs71 : (Cond.selects "StoneSheetsModel" ⟨"StoneSheetsModel", "both", "(I)Z"⟩ ⟨"StoneSheetsModel", "both", "(I)Z"⟩) ∈ lw_all := lw_g (lw_at lw_ms 71 rfl) rfl
theorem qs72 : (Cond.selects "StoneSheetsModel" ⟨"StoneSheetsModel", "test", "(I)Z"⟩ ⟨"StoneSheetsModel", "test", "(I)Z"⟩) ∈ lw_all := lw_g (lw_at lw_ms 72 rfl) rfl
theorem qs73 : (Cond.selects "StoneSheetsModel" ⟨"StoneSheetsModel", "sum", "(I)Z"⟩ ⟨"StoneSheetsModel", "sum", "(I)Z"⟩) ∈ lw_all := lw_g (lw_at lw_ms 73 rfl) rfl
theorem qs74 : (Cond.selects "StoneSheetsModel" ⟨"StoneSheetsModel", "term", "(I)Z"⟩ ⟨"StoneSheetsModel", "term", "(I)Z"⟩) ∈ lw_all := lw_g (lw_at lw_ms 74 rfl) rfl
theorem qs75 : (Cond.selects "StoneSheetsModel" ⟨"StoneSheetsModel", "part0", "(I)Z"⟩ ⟨"StoneSheetsModel", "part0", "(I)Z"⟩) ∈ lw_all := lw_g (lw_at lw_ms 75 rfl) rfl
theorem qs76 : (Cond.selects "StoneSheetsModel" ⟨"StoneSheetsModel", "step", "(II)V"⟩ ⟨"StoneSheetsModel", "step", "(II)V"⟩) ∈ lw_all := lw_g (lw_at lw_ms 76 rfl) rfl
theorem qs77 : (Cond.selects "StoneSheetsModel" ⟨"StoneSheetsModel", "isSign", "(I)Z"⟩ ⟨"StoneSheetsModel", "isSign", "(I)Z"⟩) ∈ lw_all := lw_g (lw_at lw_ms 77 rfl) rfl
theorem qs78 : (Cond.selects "StoneSheetsModel" ⟨"StoneSheetsModel", "isText", "(I)Z"⟩ ⟨"StoneSheetsModel", "isText", "(I)Z"⟩) ∈ lw_all := lw_g (lw_at lw_ms 78 rfl) rfl
theorem qs79 : (Cond.selects "StoneSheetsModel" ⟨"StoneSheetsModel", "setAside", "([I[I)V"⟩ ⟨"StoneSheetsModel", "setAside", "([I[I)V"⟩) ∈ lw_all := lw_g (lw_at lw_ms 79 rfl) rfl
