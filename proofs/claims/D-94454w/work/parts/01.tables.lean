-- ===== PART A: goes FIRST, ahead of the names: the tables' words, and 'selects' of the private methods out of them =====
/-- a private method of a class that the tables say can be made, by its rows of tables_1 -/
def lw_okq (q : MethodName × Nat) : Prop := (q.1.cls ≠ "java/lang/invoke/MethodHandle" ∧ q.1.cls ≠ "java/lang/invoke/VarHandle") ∧ Cond.instantiable q.1.cls q.2 ∈ tables_1 ∧ Cond.privateMethod q.1 ∈ tables_1 ∧ Cond.instanceMethod q.1 ∈ tables_1
set_option maxRecDepth 100000
theorem lw_t1 {w : Cond} (h : w ∈ tables_1_1) : w ∈ tables_1 := List.mem_append_left _ h
theorem lw_t2 {w : Cond} (h : w ∈ tables_1_2) : w ∈ tables_1 := List.mem_append_right _ (List.mem_append_left _ h)
theorem lw_t3 {w : Cond} (h : w ∈ tables_1_3) : w ∈ tables_1 := List.mem_append_right _ (List.mem_append_right _ (List.mem_append_left _ h))
theorem lw_t4 {w : Cond} (h : w ∈ tables_1_4) : w ∈ tables_1 := List.mem_append_right _ (List.mem_append_right _ (List.mem_append_right _ (List.mem_append_left _ h)))
theorem lw_t5 {w : Cond} (h : w ∈ tables_1_5) : w ∈ tables_1 := List.mem_append_right _ (List.mem_append_right _ (List.mem_append_right _ (List.mem_append_right _ (List.mem_append_left _ h))))
theorem lw_t6 {w : Cond} (h : w ∈ tables_1_6) : w ∈ tables_1 := List.mem_append_right _ (List.mem_append_right _ (List.mem_append_right _ (List.mem_append_right _ (List.mem_append_right _ (List.mem_append_left _ h)))))
theorem lw_t7 {w : Cond} (h : w ∈ tables_1_7) : w ∈ tables_1 := List.mem_append_right _ (List.mem_append_right _ (List.mem_append_right _ (List.mem_append_right _ (List.mem_append_right _ (List.mem_append_right _ (List.mem_append_left _ h))))))
theorem lw_t8 {w : Cond} (h : w ∈ tables_1_8) : w ∈ tables_1 := List.mem_append_right _ (List.mem_append_right _ (List.mem_append_right _ (List.mem_append_right _ (List.mem_append_right _ (List.mem_append_right _ (List.mem_append_right _ (List.mem_append_left _ h)))))))
theorem lw_t9 {w : Cond} (h : w ∈ tables_1_9) : w ∈ tables_1 := List.mem_append_right _ (List.mem_append_right _ (List.mem_append_right _ (List.mem_append_right _ (List.mem_append_right _ (List.mem_append_right _ (List.mem_append_right _ (List.mem_append_right _ (List.mem_append_left _ h))))))))
theorem lw_t10 {w : Cond} (h : w ∈ tables_1_10) : w ∈ tables_1 := List.mem_append_right _ (List.mem_append_right _ (List.mem_append_right _ (List.mem_append_right _ (List.mem_append_right _ (List.mem_append_right _ (List.mem_append_right _ (List.mem_append_right _ (List.mem_append_right _ h))))))))
theorem lw_p0 : lw_okq (⟨"java/lang/Throwable", "fillInStackTrace", "(I)Ljava/lang/Throwable;"⟩, 6) := ⟨⟨by decide +kernel, by decide +kernel⟩, lw_t1 (List.mem_of_getElem? (i := 82) rfl), lw_t1 (List.mem_of_getElem? (i := 80) rfl), lw_t1 (List.mem_of_getElem? (i := 81) rfl)⟩
theorem lw_p1 : lw_okq (⟨"BitingDoors", "four", "(I)V"⟩, 46) := ⟨⟨by decide +kernel, by decide +kernel⟩, lw_t1 (List.mem_of_getElem? (i := 39) rfl), lw_t3 (List.mem_of_getElem? (i := 57) rfl), lw_t3 (List.mem_of_getElem? (i := 58) rfl)⟩
theorem lw_p2 : lw_okq (⟨"BitingDoors", "taken", "()V"⟩, 46) := ⟨⟨by decide +kernel, by decide +kernel⟩, lw_t1 (List.mem_of_getElem? (i := 39) rfl), lw_t3 (List.mem_of_getElem? (i := 69) rfl), lw_t3 (List.mem_of_getElem? (i := 70) rfl)⟩
theorem lw_p3 : lw_okq (⟨"BitingDoors$HouseReader", "line", "(I)V"⟩, 10) := ⟨⟨by decide +kernel, by decide +kernel⟩, lw_t2 (List.mem_of_getElem? (i := 29) rfl), lw_t3 (List.mem_of_getElem? (i := 189) rfl), lw_t3 (List.mem_of_getElem? (i := 190) rfl)⟩
theorem lw_p4 : lw_okq (⟨"BitingDoors$HouseReader", "row", "()V"⟩, 10) := ⟨⟨by decide +kernel, by decide +kernel⟩, lw_t2 (List.mem_of_getElem? (i := 29) rfl), lw_t3 (List.mem_of_getElem? (i := 193) rfl), lw_t3 (List.mem_of_getElem? (i := 194) rfl)⟩
theorem lw_p5 : lw_okq (⟨"BitingDoors$HouseReader", "door", "()V"⟩, 10) := ⟨⟨by decide +kernel, by decide +kernel⟩, lw_t2 (List.mem_of_getElem? (i := 29) rfl), lw_t3 (List.mem_of_getElem? (i := 203) rfl), lw_t3 (List.mem_of_getElem? (i := 204) rfl)⟩
theorem lw_p6 : lw_okq (⟨"BitingDoors$HouseReader", "isWay", "(IIZIZ)Z"⟩, 10) := ⟨⟨by decide +kernel, by decide +kernel⟩, lw_t2 (List.mem_of_getElem? (i := 29) rfl), lw_t3 (List.mem_of_getElem? (i := 235) rfl), lw_t3 (List.mem_of_getElem? (i := 236) rfl)⟩
theorem lw_p7 : lw_okq (⟨"BitingDoors$HouseReader", "draught", "()V"⟩, 10) := ⟨⟨by decide +kernel, by decide +kernel⟩, lw_t2 (List.mem_of_getElem? (i := 29) rfl), lw_t4 (List.mem_of_getElem? (i := 76) rfl), lw_t4 (List.mem_of_getElem? (i := 77) rfl)⟩
theorem lw_p8 : lw_okq (⟨"BitingDoors$Door", "leaf", "(IZZ)LBitingDoors$Cells;"⟩, 12) := ⟨⟨by decide +kernel, by decide +kernel⟩, lw_t4 (List.mem_of_getElem? (i := 4) rfl), lw_t4 (List.mem_of_getElem? (i := 101) rfl), lw_t4 (List.mem_of_getElem? (i := 102) rfl)⟩
theorem lw_p9 : lw_okq (⟨"BitingDoors$Door", "put", "(LBitingDoors$Cells;II)V"⟩, 12) := ⟨⟨by decide +kernel, by decide +kernel⟩, lw_t4 (List.mem_of_getElem? (i := 4) rfl), lw_t4 (List.mem_of_getElem? (i := 128) rfl), lw_t4 (List.mem_of_getElem? (i := 129) rfl)⟩
theorem lw_p10 : lw_okq (⟨"BitingDoors$Cells", "put", "(I)V"⟩, 5) := ⟨⟨by decide +kernel, by decide +kernel⟩, lw_t4 (List.mem_of_getElem? (i := 104) rfl), lw_t4 (List.mem_of_getElem? (i := 141) rfl), lw_t4 (List.mem_of_getElem? (i := 142) rfl)⟩
theorem lw_p11 : lw_okq (⟨"BitingDoors$DayReader", "act", "(I)LBitingDoors$Act;"⟩, 9) := ⟨⟨by decide +kernel, by decide +kernel⟩, lw_t2 (List.mem_of_getElem? (i := 85) rfl), lw_t4 (List.mem_of_getElem? (i := 210) rfl), lw_t4 (List.mem_of_getElem? (i := 211) rfl)⟩
theorem lw_p12 : lw_okq (⟨"BitingDoors", "isDoor", "(I)Z"⟩, 46) := ⟨⟨by decide +kernel, by decide +kernel⟩, lw_t1 (List.mem_of_getElem? (i := 39) rfl), lw_t5 (List.mem_of_getElem? (i := 48) rfl), lw_t5 (List.mem_of_getElem? (i := 49) rfl)⟩
theorem lw_p13 : lw_okq (⟨"BitingDoors", "at", "(I)LBitingDoors$Door;"⟩, 46) := ⟨⟨by decide +kernel, by decide +kernel⟩, lw_t1 (List.mem_of_getElem? (i := 39) rfl), lw_t5 (List.mem_of_getElem? (i := 56) rfl), lw_t5 (List.mem_of_getElem? (i := 57) rfl)⟩
theorem lw_p14 : lw_okq (⟨"BitingDoors", "pairs", "([I)I"⟩, 46) := ⟨⟨by decide +kernel, by decide +kernel⟩, lw_t1 (List.mem_of_getElem? (i := 39) rfl), lw_t5 (List.mem_of_getElem? (i := 88) rfl), lw_t5 (List.mem_of_getElem? (i := 89) rfl)⟩
theorem lw_p15 : lw_okq (⟨"BitingDoors", "findCheapest", "()Z"⟩, 46) := ⟨⟨by decide +kernel, by decide +kernel⟩, lw_t1 (List.mem_of_getElem? (i := 39) rfl), lw_t5 (List.mem_of_getElem? (i := 101) rfl), lw_t5 (List.mem_of_getElem? (i := 102) rfl)⟩
def lw_privs_1 : List (MethodName × Nat) := [(⟨"java/lang/Throwable", "fillInStackTrace", "(I)Ljava/lang/Throwable;"⟩, 6), (⟨"BitingDoors", "four", "(I)V"⟩, 46), (⟨"BitingDoors", "taken", "()V"⟩, 46), (⟨"BitingDoors$HouseReader", "line", "(I)V"⟩, 10), (⟨"BitingDoors$HouseReader", "row", "()V"⟩, 10), (⟨"BitingDoors$HouseReader", "door", "()V"⟩, 10), (⟨"BitingDoors$HouseReader", "isWay", "(IIZIZ)Z"⟩, 10), (⟨"BitingDoors$HouseReader", "draught", "()V"⟩, 10), (⟨"BitingDoors$Door", "leaf", "(IZZ)LBitingDoors$Cells;"⟩, 12), (⟨"BitingDoors$Door", "put", "(LBitingDoors$Cells;II)V"⟩, 12), (⟨"BitingDoors$Cells", "put", "(I)V"⟩, 5), (⟨"BitingDoors$DayReader", "act", "(I)LBitingDoors$Act;"⟩, 9), (⟨"BitingDoors", "isDoor", "(I)Z"⟩, 46), (⟨"BitingDoors", "at", "(I)LBitingDoors$Door;"⟩, 46), (⟨"BitingDoors", "pairs", "([I)I"⟩, 46), (⟨"BitingDoors", "findCheapest", "()Z"⟩, 46)]
theorem lw_r1 : ∀ q ∈ lw_privs_1, lw_okq q := List.forall_mem_cons.mpr ⟨lw_p0, List.forall_mem_cons.mpr ⟨lw_p1, List.forall_mem_cons.mpr ⟨lw_p2, List.forall_mem_cons.mpr ⟨lw_p3, List.forall_mem_cons.mpr ⟨lw_p4, List.forall_mem_cons.mpr ⟨lw_p5, List.forall_mem_cons.mpr ⟨lw_p6, List.forall_mem_cons.mpr ⟨lw_p7, List.forall_mem_cons.mpr ⟨lw_p8, List.forall_mem_cons.mpr ⟨lw_p9, List.forall_mem_cons.mpr ⟨lw_p10, List.forall_mem_cons.mpr ⟨lw_p11, List.forall_mem_cons.mpr ⟨lw_p12, List.forall_mem_cons.mpr ⟨lw_p13, List.forall_mem_cons.mpr ⟨lw_p14, List.forall_mem_cons.mpr ⟨lw_p15, fun _ h => absurd h List.not_mem_nil⟩⟩⟩⟩⟩⟩⟩⟩⟩⟩⟩⟩⟩⟩⟩⟩
theorem lw_p16 : lw_okq (⟨"BitingDoors", "domains", "()V"⟩, 46) := ⟨⟨by decide +kernel, by decide +kernel⟩, lw_t1 (List.mem_of_getElem? (i := 39) rfl), lw_t5 (List.mem_of_getElem? (i := 105) rfl), lw_t5 (List.mem_of_getElem? (i := 106) rfl)⟩
theorem lw_p17 : lw_okq (⟨"BitingDoors", "cheapest", "(III)V"⟩, 46) := ⟨⟨by decide +kernel, by decide +kernel⟩, lw_t1 (List.mem_of_getElem? (i := 39) rfl), lw_t5 (List.mem_of_getElem? (i := 116) rfl), lw_t5 (List.mem_of_getElem? (i := 117) rfl)⟩
theorem lw_p18 : lw_okq (⟨"BitingDoors", "isBitten", "(III)Z"⟩, 46) := ⟨⟨by decide +kernel, by decide +kernel⟩, lw_t1 (List.mem_of_getElem? (i := 39) rfl), lw_t5 (List.mem_of_getElem? (i := 123) rfl), lw_t5 (List.mem_of_getElem? (i := 124) rfl)⟩
theorem lw_p19 : lw_okq (⟨"BitingDoors", "findFewest", "()Z"⟩, 46) := ⟨⟨by decide +kernel, by decide +kernel⟩, lw_t1 (List.mem_of_getElem? (i := 39) rfl), lw_t5 (List.mem_of_getElem? (i := 135) rfl), lw_t5 (List.mem_of_getElem? (i := 136) rfl)⟩
theorem lw_p20 : lw_okq (⟨"BitingDoors", "fewest", "(III)V"⟩, 46) := ⟨⟨by decide +kernel, by decide +kernel⟩, lw_t1 (List.mem_of_getElem? (i := 39) rfl), lw_t5 (List.mem_of_getElem? (i := 139) rfl), lw_t5 (List.mem_of_getElem? (i := 140) rfl)⟩
theorem lw_p21 : lw_okq (⟨"BitingDoors", "ways", "(I)V"⟩, 46) := ⟨⟨by decide +kernel, by decide +kernel⟩, lw_t1 (List.mem_of_getElem? (i := 39) rfl), lw_t5 (List.mem_of_getElem? (i := 151) rfl), lw_t5 (List.mem_of_getElem? (i := 152) rfl)⟩
theorem lw_p22 : lw_okq (⟨"BitingDoors", "bitesAway", "(III)I"⟩, 46) := ⟨⟨by decide +kernel, by decide +kernel⟩, lw_t1 (List.mem_of_getElem? (i := 39) rfl), lw_t5 (List.mem_of_getElem? (i := 159) rfl), lw_t5 (List.mem_of_getElem? (i := 160) rfl)⟩
theorem lw_p23 : lw_okq (⟨"BitingDoors", "isHungWell", "(II)Z"⟩, 46) := ⟨⟨by decide +kernel, by decide +kernel⟩, lw_t1 (List.mem_of_getElem? (i := 39) rfl), lw_t5 (List.mem_of_getElem? (i := 186) rfl), lw_t5 (List.mem_of_getElem? (i := 187) rfl)⟩
theorem lw_p24 : lw_okq (⟨"BitingDoors$Walker", "bar", "(II)I"⟩, 6) := ⟨⟨by decide +kernel, by decide +kernel⟩, lw_t1 (List.mem_of_getElem? (i := 144) rfl), lw_t6 (List.mem_of_getElem? (i := 9) rfl), lw_t6 (List.mem_of_getElem? (i := 10) rfl)⟩
theorem lw_p25 : lw_okq (⟨"BitingDoors$Walker", "blows", "(III)V"⟩, 6) := ⟨⟨by decide +kernel, by decide +kernel⟩, lw_t1 (List.mem_of_getElem? (i := 144) rfl), lw_t6 (List.mem_of_getElem? (i := 16) rfl), lw_t6 (List.mem_of_getElem? (i := 17) rfl)⟩
theorem lw_p26 : lw_okq (⟨"BitingDoors", "run", "(LBitingDoors$Walker;)I"⟩, 46) := ⟨⟨by decide +kernel, by decide +kernel⟩, lw_t1 (List.mem_of_getElem? (i := 39) rfl), lw_t6 (List.mem_of_getElem? (i := 33) rfl), lw_t6 (List.mem_of_getElem? (i := 34) rfl)⟩
theorem lw_p27 : lw_okq (⟨"BitingDoors", "rings", "(I)I"⟩, 46) := ⟨⟨by decide +kernel, by decide +kernel⟩, lw_t1 (List.mem_of_getElem? (i := 39) rfl), lw_t6 (List.mem_of_getElem? (i := 88) rfl), lw_t6 (List.mem_of_getElem? (i := 89) rfl)⟩
theorem lw_p28 : lw_okq (⟨"BitingDoors", "unfold", "(I)V"⟩, 46) := ⟨⟨by decide +kernel, by decide +kernel⟩, lw_t1 (List.mem_of_getElem? (i := 39) rfl), lw_t6 (List.mem_of_getElem? (i := 95) rfl), lw_t6 (List.mem_of_getElem? (i := 96) rfl)⟩
theorem lw_p29 : lw_okq (⟨"BitingDoors", "spread", "(I)I"⟩, 46) := ⟨⟨by decide +kernel, by decide +kernel⟩, lw_t1 (List.mem_of_getElem? (i := 39) rfl), lw_t6 (List.mem_of_getElem? (i := 111) rfl), lw_t6 (List.mem_of_getElem? (i := 112) rfl)⟩
theorem lw_p30 : lw_okq (⟨"BitingDoors$SentenceReader", "any", "(I)LBitingDoors$Cond;"⟩, 12) := ⟨⟨by decide +kernel, by decide +kernel⟩, lw_t2 (List.mem_of_getElem? (i := 103) rfl), lw_t6 (List.mem_of_getElem? (i := 136) rfl), lw_t6 (List.mem_of_getElem? (i := 137) rfl)⟩
theorem lw_p31 : lw_okq (⟨"BitingDoors$SentenceReader", "both", "(I)LBitingDoors$Cond;"⟩, 12) := ⟨⟨by decide +kernel, by decide +kernel⟩, lw_t2 (List.mem_of_getElem? (i := 103) rfl), lw_t6 (List.mem_of_getElem? (i := 140) rfl), lw_t6 (List.mem_of_getElem? (i := 141) rfl)⟩
def lw_privs_2 : List (MethodName × Nat) := [(⟨"BitingDoors", "domains", "()V"⟩, 46), (⟨"BitingDoors", "cheapest", "(III)V"⟩, 46), (⟨"BitingDoors", "isBitten", "(III)Z"⟩, 46), (⟨"BitingDoors", "findFewest", "()Z"⟩, 46), (⟨"BitingDoors", "fewest", "(III)V"⟩, 46), (⟨"BitingDoors", "ways", "(I)V"⟩, 46), (⟨"BitingDoors", "bitesAway", "(III)I"⟩, 46), (⟨"BitingDoors", "isHungWell", "(II)Z"⟩, 46), (⟨"BitingDoors$Walker", "bar", "(II)I"⟩, 6), (⟨"BitingDoors$Walker", "blows", "(III)V"⟩, 6), (⟨"BitingDoors", "run", "(LBitingDoors$Walker;)I"⟩, 46), (⟨"BitingDoors", "rings", "(I)I"⟩, 46), (⟨"BitingDoors", "unfold", "(I)V"⟩, 46), (⟨"BitingDoors", "spread", "(I)I"⟩, 46), (⟨"BitingDoors$SentenceReader", "any", "(I)LBitingDoors$Cond;"⟩, 12), (⟨"BitingDoors$SentenceReader", "both", "(I)LBitingDoors$Cond;"⟩, 12)]
theorem lw_r2 : ∀ q ∈ lw_privs_2, lw_okq q := List.forall_mem_cons.mpr ⟨lw_p16, List.forall_mem_cons.mpr ⟨lw_p17, List.forall_mem_cons.mpr ⟨lw_p18, List.forall_mem_cons.mpr ⟨lw_p19, List.forall_mem_cons.mpr ⟨lw_p20, List.forall_mem_cons.mpr ⟨lw_p21, List.forall_mem_cons.mpr ⟨lw_p22, List.forall_mem_cons.mpr ⟨lw_p23, List.forall_mem_cons.mpr ⟨lw_p24, List.forall_mem_cons.mpr ⟨lw_p25, List.forall_mem_cons.mpr ⟨lw_p26, List.forall_mem_cons.mpr ⟨lw_p27, List.forall_mem_cons.mpr ⟨lw_p28, List.forall_mem_cons.mpr ⟨lw_p29, List.forall_mem_cons.mpr ⟨lw_p30, List.forall_mem_cons.mpr ⟨lw_p31, fun _ h => absurd h List.not_mem_nil⟩⟩⟩⟩⟩⟩⟩⟩⟩⟩⟩⟩⟩⟩⟩⟩
theorem lw_p32 : lw_okq (⟨"BitingDoors$SentenceReader", "single", "(I)LBitingDoors$Cond;"⟩, 12) := ⟨⟨by decide +kernel, by decide +kernel⟩, lw_t2 (List.mem_of_getElem? (i := 103) rfl), lw_t6 (List.mem_of_getElem? (i := 144) rfl), lw_t6 (List.mem_of_getElem? (i := 145) rfl)⟩
theorem lw_p33 : lw_okq (⟨"BitingDoors$SentenceReader", "counts", "(I)LBitingDoors$Cond;"⟩, 12) := ⟨⟨by decide +kernel, by decide +kernel⟩, lw_t2 (List.mem_of_getElem? (i := 103) rfl), lw_t6 (List.mem_of_getElem? (i := 205) rfl), lw_t6 (List.mem_of_getElem? (i := 206) rfl)⟩
theorem lw_p34 : lw_okq (⟨"BitingDoors$Counts", "of", "(LBitingDoors$Walker;I)I"⟩, 3) := ⟨⟨by decide +kernel, by decide +kernel⟩, lw_t6 (List.mem_of_getElem? (i := 209) rfl), lw_t7 (List.mem_of_getElem? (i := 33) rfl), lw_t7 (List.mem_of_getElem? (i := 34) rfl)⟩
theorem lw_p35 : lw_okq (⟨"BitingDoorsModel", "come", "(I)V"⟩, 64) := ⟨⟨by decide +kernel, by decide +kernel⟩, lw_t7 (List.mem_of_getElem? (i := 97) rfl), lw_t8 (List.mem_of_getElem? (i := 65) rfl), lw_t8 (List.mem_of_getElem? (i := 66) rfl)⟩
theorem lw_p36 : lw_okq (⟨"BitingDoorsModel", "begin", "(I)V"⟩, 64) := ⟨⟨by decide +kernel, by decide +kernel⟩, lw_t7 (List.mem_of_getElem? (i := 97) rfl), lw_t8 (List.mem_of_getElem? (i := 77) rfl), lw_t8 (List.mem_of_getElem? (i := 78) rfl)⟩
theorem lw_p37 : lw_okq (⟨"BitingDoorsModel", "lay", "()V"⟩, 64) := ⟨⟨by decide +kernel, by decide +kernel⟩, lw_t7 (List.mem_of_getElem? (i := 97) rfl), lw_t8 (List.mem_of_getElem? (i := 81) rfl), lw_t8 (List.mem_of_getElem? (i := 82) rfl)⟩
theorem lw_p38 : lw_okq (⟨"BitingDoorsModel", "take", "()I"⟩, 64) := ⟨⟨by decide +kernel, by decide +kernel⟩, lw_t7 (List.mem_of_getElem? (i := 97) rfl), lw_t8 (List.mem_of_getElem? (i := 85) rfl), lw_t8 (List.mem_of_getElem? (i := 86) rfl)⟩
theorem lw_p39 : lw_okq (⟨"BitingDoorsModel", "go", "()V"⟩, 64) := ⟨⟨by decide +kernel, by decide +kernel⟩, lw_t7 (List.mem_of_getElem? (i := 97) rfl), lw_t8 (List.mem_of_getElem? (i := 89) rfl), lw_t8 (List.mem_of_getElem? (i := 90) rfl)⟩
theorem lw_p40 : lw_okq (⟨"BitingDoorsModel", "byteAt", "(I)I"⟩, 64) := ⟨⟨by decide +kernel, by decide +kernel⟩, lw_t7 (List.mem_of_getElem? (i := 97) rfl), lw_t8 (List.mem_of_getElem? (i := 99) rfl), lw_t8 (List.mem_of_getElem? (i := 100) rfl)⟩
theorem lw_p41 : lw_okq (⟨"BitingDoorsModel", "readLine", "()Z"⟩, 64) := ⟨⟨by decide +kernel, by decide +kernel⟩, lw_t7 (List.mem_of_getElem? (i := 97) rfl), lw_t8 (List.mem_of_getElem? (i := 105) rfl), lw_t8 (List.mem_of_getElem? (i := 106) rfl)⟩
theorem lw_p42 : lw_okq (⟨"BitingDoorsModel", "isWord", "(I)Z"⟩, 64) := ⟨⟨by decide +kernel, by decide +kernel⟩, lw_t7 (List.mem_of_getElem? (i := 97) rfl), lw_t8 (List.mem_of_getElem? (i := 109) rfl), lw_t8 (List.mem_of_getElem? (i := 110) rfl)⟩
theorem lw_p43 : lw_okq (⟨"BitingDoorsModel", "readRow", "()Z"⟩, 64) := ⟨⟨by decide +kernel, by decide +kernel⟩, lw_t7 (List.mem_of_getElem? (i := 97) rfl), lw_t8 (List.mem_of_getElem? (i := 122) rfl), lw_t8 (List.mem_of_getElem? (i := 123) rfl)⟩
theorem lw_p44 : lw_okq (⟨"BitingDoorsModel", "bad", "(I)Z"⟩, 64) := ⟨⟨by decide +kernel, by decide +kernel⟩, lw_t7 (List.mem_of_getElem? (i := 97) rfl), lw_t8 (List.mem_of_getElem? (i := 126) rfl), lw_t8 (List.mem_of_getElem? (i := 127) rfl)⟩
theorem lw_p45 : lw_okq (⟨"BitingDoorsModel", "isCells", "()Z"⟩, 64) := ⟨⟨by decide +kernel, by decide +kernel⟩, lw_t7 (List.mem_of_getElem? (i := 97) rfl), lw_t8 (List.mem_of_getElem? (i := 130) rfl), lw_t8 (List.mem_of_getElem? (i := 131) rfl)⟩
theorem lw_p46 : lw_okq (⟨"BitingDoorsModel", "readDoor", "()Z"⟩, 64) := ⟨⟨by decide +kernel, by decide +kernel⟩, lw_t7 (List.mem_of_getElem? (i := 97) rfl), lw_t8 (List.mem_of_getElem? (i := 137) rfl), lw_t8 (List.mem_of_getElem? (i := 138) rfl)⟩
theorem lw_p47 : lw_okq (⟨"BitingDoorsModel", "isName", "()Z"⟩, 64) := ⟨⟨by decide +kernel, by decide +kernel⟩, lw_t7 (List.mem_of_getElem? (i := 97) rfl), lw_t8 (List.mem_of_getElem? (i := 141) rfl), lw_t8 (List.mem_of_getElem? (i := 142) rfl)⟩
def lw_privs_3 : List (MethodName × Nat) := [(⟨"BitingDoors$SentenceReader", "single", "(I)LBitingDoors$Cond;"⟩, 12), (⟨"BitingDoors$SentenceReader", "counts", "(I)LBitingDoors$Cond;"⟩, 12), (⟨"BitingDoors$Counts", "of", "(LBitingDoors$Walker;I)I"⟩, 3), (⟨"BitingDoorsModel", "come", "(I)V"⟩, 64), (⟨"BitingDoorsModel", "begin", "(I)V"⟩, 64), (⟨"BitingDoorsModel", "lay", "()V"⟩, 64), (⟨"BitingDoorsModel", "take", "()I"⟩, 64), (⟨"BitingDoorsModel", "go", "()V"⟩, 64), (⟨"BitingDoorsModel", "byteAt", "(I)I"⟩, 64), (⟨"BitingDoorsModel", "readLine", "()Z"⟩, 64), (⟨"BitingDoorsModel", "isWord", "(I)Z"⟩, 64), (⟨"BitingDoorsModel", "readRow", "()Z"⟩, 64), (⟨"BitingDoorsModel", "bad", "(I)Z"⟩, 64), (⟨"BitingDoorsModel", "isCells", "()Z"⟩, 64), (⟨"BitingDoorsModel", "readDoor", "()Z"⟩, 64), (⟨"BitingDoorsModel", "isName", "()Z"⟩, 64)]
theorem lw_r3 : ∀ q ∈ lw_privs_3, lw_okq q := List.forall_mem_cons.mpr ⟨lw_p32, List.forall_mem_cons.mpr ⟨lw_p33, List.forall_mem_cons.mpr ⟨lw_p34, List.forall_mem_cons.mpr ⟨lw_p35, List.forall_mem_cons.mpr ⟨lw_p36, List.forall_mem_cons.mpr ⟨lw_p37, List.forall_mem_cons.mpr ⟨lw_p38, List.forall_mem_cons.mpr ⟨lw_p39, List.forall_mem_cons.mpr ⟨lw_p40, List.forall_mem_cons.mpr ⟨lw_p41, List.forall_mem_cons.mpr ⟨lw_p42, List.forall_mem_cons.mpr ⟨lw_p43, List.forall_mem_cons.mpr ⟨lw_p44, List.forall_mem_cons.mpr ⟨lw_p45, List.forall_mem_cons.mpr ⟨lw_p46, List.forall_mem_cons.mpr ⟨lw_p47, fun _ h => absurd h List.not_mem_nil⟩⟩⟩⟩⟩⟩⟩⟩⟩⟩⟩⟩⟩⟩⟩⟩
theorem lw_p48 : lw_okq (⟨"BitingDoorsModel", "findRead", "()I"⟩, 64) := ⟨⟨by decide +kernel, by decide +kernel⟩, lw_t7 (List.mem_of_getElem? (i := 97) rfl), lw_t8 (List.mem_of_getElem? (i := 145) rfl), lw_t8 (List.mem_of_getElem? (i := 146) rfl)⟩
theorem lw_p49 : lw_okq (⟨"BitingDoorsModel", "readNumber", "(II)Z"⟩, 64) := ⟨⟨by decide +kernel, by decide +kernel⟩, lw_t7 (List.mem_of_getElem? (i := 97) rfl), lw_t8 (List.mem_of_getElem? (i := 149) rfl), lw_t8 (List.mem_of_getElem? (i := 150) rfl)⟩
theorem lw_p50 : lw_okq (⟨"BitingDoorsModel", "looksAt", "(IIII)I"⟩, 64) := ⟨⟨by decide +kernel, by decide +kernel⟩, lw_t7 (List.mem_of_getElem? (i := 97) rfl), lw_t8 (List.mem_of_getElem? (i := 156) rfl), lw_t8 (List.mem_of_getElem? (i := 157) rfl)⟩
theorem lw_p51 : lw_okq (⟨"BitingDoorsModel", "readDraught", "()Z"⟩, 64) := ⟨⟨by decide +kernel, by decide +kernel⟩, lw_t7 (List.mem_of_getElem? (i := 97) rfl), lw_t8 (List.mem_of_getElem? (i := 163) rfl), lw_t8 (List.mem_of_getElem? (i := 164) rfl)⟩
theorem lw_p52 : lw_okq (⟨"BitingDoorsModel", "readBed", "()Z"⟩, 64) := ⟨⟨by decide +kernel, by decide +kernel⟩, lw_t7 (List.mem_of_getElem? (i := 97) rfl), lw_t8 (List.mem_of_getElem? (i := 167) rfl), lw_t8 (List.mem_of_getElem? (i := 168) rfl)⟩
theorem lw_p53 : lw_okq (⟨"BitingDoorsModel", "readEnd", "()Z"⟩, 64) := ⟨⟨by decide +kernel, by decide +kernel⟩, lw_t7 (List.mem_of_getElem? (i := 97) rfl), lw_t8 (List.mem_of_getElem? (i := 171) rfl), lw_t8 (List.mem_of_getElem? (i := 172) rfl)⟩
theorem lw_p54 : lw_okq (⟨"BitingDoorsModel", "isSign", "(I)Z"⟩, 64) := ⟨⟨by decide +kernel, by decide +kernel⟩, lw_t7 (List.mem_of_getElem? (i := 97) rfl), lw_t8 (List.mem_of_getElem? (i := 175) rfl), lw_t8 (List.mem_of_getElem? (i := 176) rfl)⟩
theorem lw_p55 : lw_okq (⟨"BitingDoorsModel", "isCell", "(II)Z"⟩, 64) := ⟨⟨by decide +kernel, by decide +kernel⟩, lw_t7 (List.mem_of_getElem? (i := 97) rfl), lw_t8 (List.mem_of_getElem? (i := 187) rfl), lw_t8 (List.mem_of_getElem? (i := 188) rfl)⟩
theorem lw_p56 : lw_okq (⟨"BitingDoorsModel", "isDoor", "(I)Z"⟩, 64) := ⟨⟨by decide +kernel, by decide +kernel⟩, lw_t7 (List.mem_of_getElem? (i := 97) rfl), lw_t8 (List.mem_of_getElem? (i := 195) rfl), lw_t8 (List.mem_of_getElem? (i := 196) rfl)⟩
theorem lw_p57 : lw_okq (⟨"BitingDoorsModel", "doors", "()I"⟩, 64) := ⟨⟨by decide +kernel, by decide +kernel⟩, lw_t7 (List.mem_of_getElem? (i := 97) rfl), lw_t8 (List.mem_of_getElem? (i := 199) rfl), lw_t8 (List.mem_of_getElem? (i := 200) rfl)⟩
theorem lw_p58 : lw_okq (⟨"BitingDoorsModel", "refuse", "()I"⟩, 64) := ⟨⟨by decide +kernel, by decide +kernel⟩, lw_t7 (List.mem_of_getElem? (i := 97) rfl), lw_t8 (List.mem_of_getElem? (i := 203) rfl), lw_t8 (List.mem_of_getElem? (i := 204) rfl)⟩
theorem lw_p59 : lw_okq (⟨"BitingDoorsModel", "of", "(II)I"⟩, 64) := ⟨⟨by decide +kernel, by decide +kernel⟩, lw_t7 (List.mem_of_getElem? (i := 97) rfl), lw_t8 (List.mem_of_getElem? (i := 207) rfl), lw_t8 (List.mem_of_getElem? (i := 208) rfl)⟩
theorem lw_p60 : lw_okq (⟨"BitingDoorsModel", "layLeaf", "(III)V"⟩, 64) := ⟨⟨by decide +kernel, by decide +kernel⟩, lw_t7 (List.mem_of_getElem? (i := 97) rfl), lw_t8 (List.mem_of_getElem? (i := 215) rfl), lw_t8 (List.mem_of_getElem? (i := 216) rfl)⟩
theorem lw_p61 : lw_okq (⟨"BitingDoorsModel", "put", "(II)V"⟩, 64) := ⟨⟨by decide +kernel, by decide +kernel⟩, lw_t7 (List.mem_of_getElem? (i := 97) rfl), lw_t8 (List.mem_of_getElem? (i := 219) rfl), lw_t8 (List.mem_of_getElem? (i := 220) rfl)⟩
theorem lw_p62 : lw_okq (⟨"BitingDoorsModel", "canBe", "(III)Z"⟩, 64) := ⟨⟨by decide +kernel, by decide +kernel⟩, lw_t7 (List.mem_of_getElem? (i := 97) rfl), lw_t8 (List.mem_of_getElem? (i := 227) rfl), lw_t8 (List.mem_of_getElem? (i := 228) rfl)⟩
theorem lw_p63 : lw_okq (⟨"BitingDoorsModel", "isFit", "(II)Z"⟩, 64) := ⟨⟨by decide +kernel, by decide +kernel⟩, lw_t7 (List.mem_of_getElem? (i := 97) rfl), lw_t8 (List.mem_of_getElem? (i := 235) rfl), lw_t8 (List.mem_of_getElem? (i := 236) rfl)⟩
def lw_privs_4 : List (MethodName × Nat) := [(⟨"BitingDoorsModel", "findRead", "()I"⟩, 64), (⟨"BitingDoorsModel", "readNumber", "(II)Z"⟩, 64), (⟨"BitingDoorsModel", "looksAt", "(IIII)I"⟩, 64), (⟨"BitingDoorsModel", "readDraught", "()Z"⟩, 64), (⟨"BitingDoorsModel", "readBed", "()Z"⟩, 64), (⟨"BitingDoorsModel", "readEnd", "()Z"⟩, 64), (⟨"BitingDoorsModel", "isSign", "(I)Z"⟩, 64), (⟨"BitingDoorsModel", "isCell", "(II)Z"⟩, 64), (⟨"BitingDoorsModel", "isDoor", "(I)Z"⟩, 64), (⟨"BitingDoorsModel", "doors", "()I"⟩, 64), (⟨"BitingDoorsModel", "refuse", "()I"⟩, 64), (⟨"BitingDoorsModel", "of", "(II)I"⟩, 64), (⟨"BitingDoorsModel", "layLeaf", "(III)V"⟩, 64), (⟨"BitingDoorsModel", "put", "(II)V"⟩, 64), (⟨"BitingDoorsModel", "canBe", "(III)Z"⟩, 64), (⟨"BitingDoorsModel", "isFit", "(II)Z"⟩, 64)]
theorem lw_r4 : ∀ q ∈ lw_privs_4, lw_okq q := List.forall_mem_cons.mpr ⟨lw_p48, List.forall_mem_cons.mpr ⟨lw_p49, List.forall_mem_cons.mpr ⟨lw_p50, List.forall_mem_cons.mpr ⟨lw_p51, List.forall_mem_cons.mpr ⟨lw_p52, List.forall_mem_cons.mpr ⟨lw_p53, List.forall_mem_cons.mpr ⟨lw_p54, List.forall_mem_cons.mpr ⟨lw_p55, List.forall_mem_cons.mpr ⟨lw_p56, List.forall_mem_cons.mpr ⟨lw_p57, List.forall_mem_cons.mpr ⟨lw_p58, List.forall_mem_cons.mpr ⟨lw_p59, List.forall_mem_cons.mpr ⟨lw_p60, List.forall_mem_cons.mpr ⟨lw_p61, List.forall_mem_cons.mpr ⟨lw_p62, List.forall_mem_cons.mpr ⟨lw_p63, fun _ h => absurd h List.not_mem_nil⟩⟩⟩⟩⟩⟩⟩⟩⟩⟩⟩⟩⟩⟩⟩⟩
theorem lw_p64 : lw_okq (⟨"BitingDoorsModel", "laySwept", "()V"⟩, 64) := ⟨⟨by decide +kernel, by decide +kernel⟩, lw_t7 (List.mem_of_getElem? (i := 97) rfl), lw_t9 (List.mem_of_getElem? (i := 3) rfl), lw_t9 (List.mem_of_getElem? (i := 4) rfl)⟩
theorem lw_p65 : lw_okq (⟨"BitingDoorsModel", "shared", "(IIII)I"⟩, 64) := ⟨⟨by decide +kernel, by decide +kernel⟩, lw_t7 (List.mem_of_getElem? (i := 97) rfl), lw_t9 (List.mem_of_getElem? (i := 7) rfl), lw_t9 (List.mem_of_getElem? (i := 8) rfl)⟩
theorem lw_p66 : lw_okq (⟨"BitingDoorsModel", "clashesOf", "([I)I"⟩, 64) := ⟨⟨by decide +kernel, by decide +kernel⟩, lw_t7 (List.mem_of_getElem? (i := 97) rfl), lw_t9 (List.mem_of_getElem? (i := 18) rfl), lw_t9 (List.mem_of_getElem? (i := 19) rfl)⟩
theorem lw_p67 : lw_okq (⟨"BitingDoorsModel", "bite", "(IIII)Z"⟩, 64) := ⟨⟨by decide +kernel, by decide +kernel⟩, lw_t7 (List.mem_of_getElem? (i := 97) rfl), lw_t9 (List.mem_of_getElem? (i := 22) rfl), lw_t9 (List.mem_of_getElem? (i := 23) rfl)⟩
theorem lw_p68 : lw_okq (⟨"BitingDoorsModel", "hangAll", "(Z)I"⟩, 64) := ⟨⟨by decide +kernel, by decide +kernel⟩, lw_t7 (List.mem_of_getElem? (i := 97) rfl), lw_t9 (List.mem_of_getElem? (i := 30) rfl), lw_t9 (List.mem_of_getElem? (i := 31) rfl)⟩
theorem lw_p69 : lw_okq (⟨"BitingDoorsModel", "hang", "(IIZ)V"⟩, 64) := ⟨⟨by decide +kernel, by decide +kernel⟩, lw_t7 (List.mem_of_getElem? (i := 97) rfl), lw_t9 (List.mem_of_getElem? (i := 34) rfl), lw_t9 (List.mem_of_getElem? (i := 35) rfl)⟩
theorem lw_p70 : lw_okq (⟨"BitingDoorsModel", "mayHang", "(III)Z"⟩, 64) := ⟨⟨by decide +kernel, by decide +kernel⟩, lw_t7 (List.mem_of_getElem? (i := 97) rfl), lw_t9 (List.mem_of_getElem? (i := 38) rfl), lw_t9 (List.mem_of_getElem? (i := 39) rfl)⟩
theorem lw_p71 : lw_okq (⟨"BitingDoorsModel", "weightOf", "(IZ)I"⟩, 64) := ⟨⟨by decide +kernel, by decide +kernel⟩, lw_t7 (List.mem_of_getElem? (i := 97) rfl), lw_t9 (List.mem_of_getElem? (i := 42) rfl), lw_t9 (List.mem_of_getElem? (i := 43) rfl)⟩
theorem lw_p72 : lw_okq (⟨"BitingDoorsModel", "countWays", "(I)V"⟩, 64) := ⟨⟨by decide +kernel, by decide +kernel⟩, lw_t7 (List.mem_of_getElem? (i := 97) rfl), lw_t9 (List.mem_of_getElem? (i := 62) rfl), lw_t9 (List.mem_of_getElem? (i := 63) rfl)⟩
theorem lw_p73 : lw_okq (⟨"BitingDoorsModel", "drop", "(III)V"⟩, 64) := ⟨⟨by decide +kernel, by decide +kernel⟩, lw_t7 (List.mem_of_getElem? (i := 97) rfl), lw_t9 (List.mem_of_getElem? (i := 70) rfl), lw_t9 (List.mem_of_getElem? (i := 71) rfl)⟩
theorem lw_p74 : lw_okq (⟨"BitingDoorsModel", "deadOne", "(I)I"⟩, 64) := ⟨⟨by decide +kernel, by decide +kernel⟩, lw_t7 (List.mem_of_getElem? (i := 97) rfl), lw_t9 (List.mem_of_getElem? (i := 74) rfl), lw_t9 (List.mem_of_getElem? (i := 75) rfl)⟩
theorem lw_p75 : lw_okq (⟨"BitingDoorsModel", "nextForced", "(II)I"⟩, 64) := ⟨⟨by decide +kernel, by decide +kernel⟩, lw_t7 (List.mem_of_getElem? (i := 97) rfl), lw_t9 (List.mem_of_getElem? (i := 78) rfl), lw_t9 (List.mem_of_getElem? (i := 79) rfl)⟩
theorem lw_p76 : lw_okq (⟨"BitingDoorsModel", "canHang", "(II)Z"⟩, 64) := ⟨⟨by decide +kernel, by decide +kernel⟩, lw_t7 (List.mem_of_getElem? (i := 97) rfl), lw_t9 (List.mem_of_getElem? (i := 97) rfl), lw_t9 (List.mem_of_getElem? (i := 98) rfl)⟩
theorem lw_p77 : lw_okq (⟨"BitingDoorsModel", "takeNow", "()V"⟩, 64) := ⟨⟨by decide +kernel, by decide +kernel⟩, lw_t7 (List.mem_of_getElem? (i := 97) rfl), lw_t9 (List.mem_of_getElem? (i := 117) rfl), lw_t9 (List.mem_of_getElem? (i := 118) rfl)⟩
theorem lw_p78 : lw_okq (⟨"BitingDoorsModel", "layLeaves", "()V"⟩, 64) := ⟨⟨by decide +kernel, by decide +kernel⟩, lw_t7 (List.mem_of_getElem? (i := 97) rfl), lw_t9 (List.mem_of_getElem? (i := 121) rfl), lw_t9 (List.mem_of_getElem? (i := 122) rfl)⟩
theorem lw_p79 : lw_okq (⟨"BitingDoorsModel", "isWalked", "(II)Z"⟩, 64) := ⟨⟨by decide +kernel, by decide +kernel⟩, lw_t7 (List.mem_of_getElem? (i := 97) rfl), lw_t9 (List.mem_of_getElem? (i := 125) rfl), lw_t9 (List.mem_of_getElem? (i := 126) rfl)⟩
def lw_privs_5 : List (MethodName × Nat) := [(⟨"BitingDoorsModel", "laySwept", "()V"⟩, 64), (⟨"BitingDoorsModel", "shared", "(IIII)I"⟩, 64), (⟨"BitingDoorsModel", "clashesOf", "([I)I"⟩, 64), (⟨"BitingDoorsModel", "bite", "(IIII)Z"⟩, 64), (⟨"BitingDoorsModel", "hangAll", "(Z)I"⟩, 64), (⟨"BitingDoorsModel", "hang", "(IIZ)V"⟩, 64), (⟨"BitingDoorsModel", "mayHang", "(III)Z"⟩, 64), (⟨"BitingDoorsModel", "weightOf", "(IZ)I"⟩, 64), (⟨"BitingDoorsModel", "countWays", "(I)V"⟩, 64), (⟨"BitingDoorsModel", "drop", "(III)V"⟩, 64), (⟨"BitingDoorsModel", "deadOne", "(I)I"⟩, 64), (⟨"BitingDoorsModel", "nextForced", "(II)I"⟩, 64), (⟨"BitingDoorsModel", "canHang", "(II)Z"⟩, 64), (⟨"BitingDoorsModel", "takeNow", "()V"⟩, 64), (⟨"BitingDoorsModel", "layLeaves", "()V"⟩, 64), (⟨"BitingDoorsModel", "isWalked", "(II)Z"⟩, 64)]
theorem lw_r5 : ∀ q ∈ lw_privs_5, lw_okq q := List.forall_mem_cons.mpr ⟨lw_p64, List.forall_mem_cons.mpr ⟨lw_p65, List.forall_mem_cons.mpr ⟨lw_p66, List.forall_mem_cons.mpr ⟨lw_p67, List.forall_mem_cons.mpr ⟨lw_p68, List.forall_mem_cons.mpr ⟨lw_p69, List.forall_mem_cons.mpr ⟨lw_p70, List.forall_mem_cons.mpr ⟨lw_p71, List.forall_mem_cons.mpr ⟨lw_p72, List.forall_mem_cons.mpr ⟨lw_p73, List.forall_mem_cons.mpr ⟨lw_p74, List.forall_mem_cons.mpr ⟨lw_p75, List.forall_mem_cons.mpr ⟨lw_p76, List.forall_mem_cons.mpr ⟨lw_p77, List.forall_mem_cons.mpr ⟨lw_p78, List.forall_mem_cons.mpr ⟨lw_p79, fun _ h => absurd h List.not_mem_nil⟩⟩⟩⟩⟩⟩⟩⟩⟩⟩⟩⟩⟩⟩⟩⟩
theorem lw_p80 : lw_okq (⟨"BitingDoorsModel", "isAct", "(I)Z"⟩, 64) := ⟨⟨by decide +kernel, by decide +kernel⟩, lw_t7 (List.mem_of_getElem? (i := 97) rfl), lw_t9 (List.mem_of_getElem? (i := 137) rfl), lw_t9 (List.mem_of_getElem? (i := 138) rfl)⟩
theorem lw_p81 : lw_okq (⟨"BitingDoorsModel", "minute", "(I)I"⟩, 64) := ⟨⟨by decide +kernel, by decide +kernel⟩, lw_t7 (List.mem_of_getElem? (i := 97) rfl), lw_t9 (List.mem_of_getElem? (i := 141) rfl), lw_t9 (List.mem_of_getElem? (i := 142) rfl)⟩
theorem lw_p82 : lw_okq (⟨"BitingDoorsModel", "tries", "(I)I"⟩, 64) := ⟨⟨by decide +kernel, by decide +kernel⟩, lw_t7 (List.mem_of_getElem? (i := 97) rfl), lw_t9 (List.mem_of_getElem? (i := 145) rfl), lw_t9 (List.mem_of_getElem? (i := 146) rfl)⟩
theorem lw_p83 : lw_okq (⟨"BitingDoorsModel", "isAt", "(I)Z"⟩, 64) := ⟨⟨by decide +kernel, by decide +kernel⟩, lw_t7 (List.mem_of_getElem? (i := 97) rfl), lw_t9 (List.mem_of_getElem? (i := 149) rfl), lw_t9 (List.mem_of_getElem? (i := 150) rfl)⟩
theorem lw_p84 : lw_okq (⟨"BitingDoorsModel", "hinders", "(II)I"⟩, 64) := ⟨⟨by decide +kernel, by decide +kernel⟩, lw_t7 (List.mem_of_getElem? (i := 97) rfl), lw_t9 (List.mem_of_getElem? (i := 153) rfl), lw_t9 (List.mem_of_getElem? (i := 154) rfl)⟩
theorem lw_p85 : lw_okq (⟨"BitingDoorsModel", "swing", "(II)V"⟩, 64) := ⟨⟨by decide +kernel, by decide +kernel⟩, lw_t7 (List.mem_of_getElem? (i := 97) rfl), lw_t9 (List.mem_of_getElem? (i := 157) rfl), lw_t9 (List.mem_of_getElem? (i := 158) rfl)⟩
theorem lw_p86 : lw_okq (⟨"BitingDoorsModel", "blows", "()I"⟩, 64) := ⟨⟨by decide +kernel, by decide +kernel⟩, lw_t7 (List.mem_of_getElem? (i := 97) rfl), lw_t9 (List.mem_of_getElem? (i := 161) rfl), lw_t9 (List.mem_of_getElem? (i := 162) rfl)⟩
theorem lw_p87 : lw_okq (⟨"BitingDoorsModel", "keepNow", "()V"⟩, 64) := ⟨⟨by decide +kernel, by decide +kernel⟩, lw_t7 (List.mem_of_getElem? (i := 97) rfl), lw_t9 (List.mem_of_getElem? (i := 165) rfl), lw_t9 (List.mem_of_getElem? (i := 166) rfl)⟩
theorem lw_p88 : lw_okq (⟨"BitingDoorsModel", "readDayLine", "()Z"⟩, 64) := ⟨⟨by decide +kernel, by decide +kernel⟩, lw_t7 (List.mem_of_getElem? (i := 97) rfl), lw_t9 (List.mem_of_getElem? (i := 177) rfl), lw_t9 (List.mem_of_getElem? (i := 178) rfl)⟩
theorem lw_p89 : lw_okq (⟨"BitingDoorsModel", "doDay", "()I"⟩, 64) := ⟨⟨by decide +kernel, by decide +kernel⟩, lw_t7 (List.mem_of_getElem? (i := 97) rfl), lw_t9 (List.mem_of_getElem? (i := 185) rfl), lw_t9 (List.mem_of_getElem? (i := 186) rfl)⟩
theorem lw_p90 : lw_okq (⟨"BitingDoorsModel", "doAct", "(II)I"⟩, 64) := ⟨⟨by decide +kernel, by decide +kernel⟩, lw_t7 (List.mem_of_getElem? (i := 97) rfl), lw_t9 (List.mem_of_getElem? (i := 189) rfl), lw_t9 (List.mem_of_getElem? (i := 190) rfl)⟩
theorem lw_p91 : lw_okq (⟨"BitingDoorsModel", "goalOf", "(II)I"⟩, 64) := ⟨⟨by decide +kernel, by decide +kernel⟩, lw_t7 (List.mem_of_getElem? (i := 97) rfl), lw_t9 (List.mem_of_getElem? (i := 193) rfl), lw_t9 (List.mem_of_getElem? (i := 194) rfl)⟩
theorem lw_p92 : lw_okq (⟨"BitingDoorsModel", "findWay", "(I)I"⟩, 64) := ⟨⟨by decide +kernel, by decide +kernel⟩, lw_t7 (List.mem_of_getElem? (i := 97) rfl), lw_t9 (List.mem_of_getElem? (i := 209) rfl), lw_t9 (List.mem_of_getElem? (i := 210) rfl)⟩
theorem lw_p93 : lw_okq (⟨"BitingDoorsModel", "search", "(I)I"⟩, 64) := ⟨⟨by decide +kernel, by decide +kernel⟩, lw_t7 (List.mem_of_getElem? (i := 97) rfl), lw_t9 (List.mem_of_getElem? (i := 213) rfl), lw_t9 (List.mem_of_getElem? (i := 214) rfl)⟩
theorem lw_p94 : lw_okq (⟨"BitingDoorsModel", "stateAtHand", "()I"⟩, 64) := ⟨⟨by decide +kernel, by decide +kernel⟩, lw_t7 (List.mem_of_getElem? (i := 97) rfl), lw_t9 (List.mem_of_getElem? (i := 217) rfl), lw_t9 (List.mem_of_getElem? (i := 218) rfl)⟩
theorem lw_p95 : lw_okq (⟨"BitingDoorsModel", "layState", "(I)V"⟩, 64) := ⟨⟨by decide +kernel, by decide +kernel⟩, lw_t7 (List.mem_of_getElem? (i := 97) rfl), lw_t9 (List.mem_of_getElem? (i := 221) rfl), lw_t9 (List.mem_of_getElem? (i := 222) rfl)⟩
def lw_privs_6 : List (MethodName × Nat) := [(⟨"BitingDoorsModel", "isAct", "(I)Z"⟩, 64), (⟨"BitingDoorsModel", "minute", "(I)I"⟩, 64), (⟨"BitingDoorsModel", "tries", "(I)I"⟩, 64), (⟨"BitingDoorsModel", "isAt", "(I)Z"⟩, 64), (⟨"BitingDoorsModel", "hinders", "(II)I"⟩, 64), (⟨"BitingDoorsModel", "swing", "(II)V"⟩, 64), (⟨"BitingDoorsModel", "blows", "()I"⟩, 64), (⟨"BitingDoorsModel", "keepNow", "()V"⟩, 64), (⟨"BitingDoorsModel", "readDayLine", "()Z"⟩, 64), (⟨"BitingDoorsModel", "doDay", "()I"⟩, 64), (⟨"BitingDoorsModel", "doAct", "(II)I"⟩, 64), (⟨"BitingDoorsModel", "goalOf", "(II)I"⟩, 64), (⟨"BitingDoorsModel", "findWay", "(I)I"⟩, 64), (⟨"BitingDoorsModel", "search", "(I)I"⟩, 64), (⟨"BitingDoorsModel", "stateAtHand", "()I"⟩, 64), (⟨"BitingDoorsModel", "layState", "(I)V"⟩, 64)]
theorem lw_r6 : ∀ q ∈ lw_privs_6, lw_okq q := List.forall_mem_cons.mpr ⟨lw_p80, List.forall_mem_cons.mpr ⟨lw_p81, List.forall_mem_cons.mpr ⟨lw_p82, List.forall_mem_cons.mpr ⟨lw_p83, List.forall_mem_cons.mpr ⟨lw_p84, List.forall_mem_cons.mpr ⟨lw_p85, List.forall_mem_cons.mpr ⟨lw_p86, List.forall_mem_cons.mpr ⟨lw_p87, List.forall_mem_cons.mpr ⟨lw_p88, List.forall_mem_cons.mpr ⟨lw_p89, List.forall_mem_cons.mpr ⟨lw_p90, List.forall_mem_cons.mpr ⟨lw_p91, List.forall_mem_cons.mpr ⟨lw_p92, List.forall_mem_cons.mpr ⟨lw_p93, List.forall_mem_cons.mpr ⟨lw_p94, List.forall_mem_cons.mpr ⟨lw_p95, fun _ h => absurd h List.not_mem_nil⟩⟩⟩⟩⟩⟩⟩⟩⟩⟩⟩⟩⟩⟩⟩⟩
theorem lw_p96 : lw_okq (⟨"BitingDoorsModel", "walkOn", "()V"⟩, 64) := ⟨⟨by decide +kernel, by decide +kernel⟩, lw_t7 (List.mem_of_getElem? (i := 97) rfl), lw_t9 (List.mem_of_getElem? (i := 237) rfl), lw_t9 (List.mem_of_getElem? (i := 238) rfl)⟩
theorem lw_p97 : lw_okq (⟨"BitingDoorsModel", "readOr", "()Z"⟩, 64) := ⟨⟨by decide +kernel, by decide +kernel⟩, lw_t7 (List.mem_of_getElem? (i := 97) rfl), lw_t10 (List.mem_of_getElem? (i := 13) rfl), lw_t10 (List.mem_of_getElem? (i := 14) rfl)⟩
theorem lw_p98 : lw_okq (⟨"BitingDoorsModel", "readAnd", "()Z"⟩, 64) := ⟨⟨by decide +kernel, by decide +kernel⟩, lw_t7 (List.mem_of_getElem? (i := 97) rfl), lw_t10 (List.mem_of_getElem? (i := 17) rfl), lw_t10 (List.mem_of_getElem? (i := 18) rfl)⟩
theorem lw_p99 : lw_okq (⟨"BitingDoorsModel", "readOne", "()Z"⟩, 64) := ⟨⟨by decide +kernel, by decide +kernel⟩, lw_t7 (List.mem_of_getElem? (i := 97) rfl), lw_t10 (List.mem_of_getElem? (i := 21) rfl), lw_t10 (List.mem_of_getElem? (i := 22) rfl)⟩
theorem lw_p100 : lw_okq (⟨"BitingDoorsModel", "oneAtHand", "()I"⟩, 64) := ⟨⟨by decide +kernel, by decide +kernel⟩, lw_t7 (List.mem_of_getElem? (i := 97) rfl), lw_t10 (List.mem_of_getElem? (i := 25) rfl), lw_t10 (List.mem_of_getElem? (i := 26) rfl)⟩
theorem lw_p101 : lw_okq (⟨"BitingDoorsModel", "readBracket", "()Z"⟩, 64) := ⟨⟨by decide +kernel, by decide +kernel⟩, lw_t7 (List.mem_of_getElem? (i := 97) rfl), lw_t10 (List.mem_of_getElem? (i := 29) rfl), lw_t10 (List.mem_of_getElem? (i := 30) rfl)⟩
theorem lw_p102 : lw_okq (⟨"BitingDoorsModel", "readNot", "()Z"⟩, 64) := ⟨⟨by decide +kernel, by decide +kernel⟩, lw_t7 (List.mem_of_getElem? (i := 97) rfl), lw_t10 (List.mem_of_getElem? (i := 33) rfl), lw_t10 (List.mem_of_getElem? (i := 34) rfl)⟩
theorem lw_p103 : lw_okq (⟨"BitingDoorsModel", "lays", "(IIII)I"⟩, 64) := ⟨⟨by decide +kernel, by decide +kernel⟩, lw_t7 (List.mem_of_getElem? (i := 97) rfl), lw_t10 (List.mem_of_getElem? (i := 37) rfl), lw_t10 (List.mem_of_getElem? (i := 38) rfl)⟩
theorem lw_p104 : lw_okq (⟨"BitingDoorsModel", "readBites", "()Z"⟩, 64) := ⟨⟨by decide +kernel, by decide +kernel⟩, lw_t7 (List.mem_of_getElem? (i := 97) rfl), lw_t10 (List.mem_of_getElem? (i := 41) rfl), lw_t10 (List.mem_of_getElem? (i := 42) rfl)⟩
theorem lw_p105 : lw_okq (⟨"BitingDoorsModel", "readCompare", "(I)Z"⟩, 64) := ⟨⟨by decide +kernel, by decide +kernel⟩, lw_t7 (List.mem_of_getElem? (i := 97) rfl), lw_t10 (List.mem_of_getElem? (i := 45) rfl), lw_t10 (List.mem_of_getElem? (i := 46) rfl)⟩
theorem lw_p106 : lw_okq (⟨"BitingDoorsModel", "isSo", "(II)Z"⟩, 64) := ⟨⟨by decide +kernel, by decide +kernel⟩, lw_t7 (List.mem_of_getElem? (i := 97) rfl), lw_t10 (List.mem_of_getElem? (i := 53) rfl), lw_t10 (List.mem_of_getElem? (i := 54) rfl)⟩
theorem lw_p107 : lw_okq (⟨"BitingDoorsModel", "valueOf", "(II)I"⟩, 64) := ⟨⟨by decide +kernel, by decide +kernel⟩, lw_t7 (List.mem_of_getElem? (i := 97) rfl), lw_t10 (List.mem_of_getElem? (i := 57) rfl), lw_t10 (List.mem_of_getElem? (i := 58) rfl)⟩
def lw_privs_7 : List (MethodName × Nat) := [(⟨"BitingDoorsModel", "walkOn", "()V"⟩, 64), (⟨"BitingDoorsModel", "readOr", "()Z"⟩, 64), (⟨"BitingDoorsModel", "readAnd", "()Z"⟩, 64), (⟨"BitingDoorsModel", "readOne", "()Z"⟩, 64), (⟨"BitingDoorsModel", "oneAtHand", "()I"⟩, 64), (⟨"BitingDoorsModel", "readBracket", "()Z"⟩, 64), (⟨"BitingDoorsModel", "readNot", "()Z"⟩, 64), (⟨"BitingDoorsModel", "lays", "(IIII)I"⟩, 64), (⟨"BitingDoorsModel", "readBites", "()Z"⟩, 64), (⟨"BitingDoorsModel", "readCompare", "(I)Z"⟩, 64), (⟨"BitingDoorsModel", "isSo", "(II)Z"⟩, 64), (⟨"BitingDoorsModel", "valueOf", "(II)I"⟩, 64)]
theorem lw_r7 : ∀ q ∈ lw_privs_7, lw_okq q := List.forall_mem_cons.mpr ⟨lw_p96, List.forall_mem_cons.mpr ⟨lw_p97, List.forall_mem_cons.mpr ⟨lw_p98, List.forall_mem_cons.mpr ⟨lw_p99, List.forall_mem_cons.mpr ⟨lw_p100, List.forall_mem_cons.mpr ⟨lw_p101, List.forall_mem_cons.mpr ⟨lw_p102, List.forall_mem_cons.mpr ⟨lw_p103, List.forall_mem_cons.mpr ⟨lw_p104, List.forall_mem_cons.mpr ⟨lw_p105, List.forall_mem_cons.mpr ⟨lw_p106, List.forall_mem_cons.mpr ⟨lw_p107, fun _ h => absurd h List.not_mem_nil⟩⟩⟩⟩⟩⟩⟩⟩⟩⟩⟩⟩
def lw_privs : List (MethodName × Nat) := lw_privs_1 ++ (lw_privs_2 ++ (lw_privs_3 ++ (lw_privs_4 ++ (lw_privs_5 ++ (lw_privs_6 ++ (lw_privs_7))))))
def lw_tbl : List Cond := k2_sels lw_privs ++ tables_1
theorem lw_privs_ok : ∀ q ∈ lw_privs, lw_okq q := by
  show ∀ q ∈ lw_privs_1 ++ (lw_privs_2 ++ (lw_privs_3 ++ (lw_privs_4 ++ (lw_privs_5 ++ (lw_privs_6 ++ (lw_privs_7)))))), lw_okq q
  exact List.forall_mem_append.mpr ⟨lw_r1, List.forall_mem_append.mpr ⟨lw_r2, List.forall_mem_append.mpr ⟨lw_r3, List.forall_mem_append.mpr ⟨lw_r4, List.forall_mem_append.mpr ⟨lw_r5, List.forall_mem_append.mpr ⟨lw_r6, lw_r7⟩⟩⟩⟩⟩⟩
-- ===== ONE list of words for every method: the tables' words that hold all through a run =====
def lw_all : List Cond := lw_tbl.filter goodWord
/-- a word of the tables by its place: claim/WORDS.tsv -/
theorem lw_w {w : Cond} (i : Nat) (h : lw_tbl[i]? = some w) (g : goodWord w = true) : w ∈ lw_all := List.mem_filter.mpr ⟨List.mem_of_getElem? h, g⟩
theorem lw_all_tbl {w : Cond} (h : w ∈ lw_all) : w ∈ lw_tbl := (List.mem_filter.mp h).1
theorem lw_self : GoodIn lw_all lw_all := fun w h => ⟨h, good_of_word (List.mem_filter.mp h).2⟩
/-- a class's field words, by their places -/
theorem lw_in (ws : List Cond) (ps : List Nat) (hp : ws = ps.filterMap (fun i => lw_tbl[i]?)) (hg : ws.all goodWord = true) : ∀ w ∈ ws, w ∈ lw_all := by
  intro w h
  have h1 := List.all_eq_true.mp hg w h
  rw [hp] at h
  obtain ⟨i, -, hi⟩ := List.mem_filterMap.mp h
  exact lw_w i hi h1
/-- the words of a contract for the method y with code b, L locals, answer r -/
abbrev ws_ (y : MethodName) (b : ByteArray) (L : Nat) (r : Option FieldType) : List Cond := Cond.code y b L r :: lw_all
theorem lw_meth {y : MethodName} {b : ByteArray} {L : Nat} {r : Option FieldType} (h : Cond.code y b L r ∈ lw_all) : GoodIn lw_all (ws_ y b L r) := by
  intro w hw
  rcases List.mem_cons.mp hw with e | e
  · rw [e]
    exact lw_self _ h
  · exact lw_self _ e
theorem lw_app {a c : List Cond} (ha : ∀ w ∈ a, w ∈ lw_all) (hc : GoodIn lw_all c) : GoodIn lw_all (a ++ c) := by
  intro w hw
  rcases List.mem_append.mp hw with e | e
  · exact lw_self w (ha w e)
  · exact hc w e
/-- what a call through an object asks: cwV n hts (lw_V ..) -/
theorem lw_V {own : String} {idx : Nat} {C : String} {y : MethodName} {b : ByteArray} {L : Nat} {r : Option FieldType} (h1 : Cond.methodLink own idx y ∈ lw_all) (h2 : Cond.instanceMethod y ∈ lw_all) (h3 : Cond.selects C y y ∈ lw_all) (h4 : Cond.initialized C ∈ lw_all) (h5 : Cond.code y b L r ∈ lw_all) : GoodIn lw_all (wsV own idx C y (ws_ y b L r)) := by
  refine lw_app ?_ (lw_meth h5)
  intro w hw
  simp only [List.mem_cons, List.not_mem_nil, or_false] at hw
  rcases hw with e | e | e | e
  · rw [e]; exact h1
  · rw [e]; exact h2
  · rw [e]; exact h3
  · rw [e]; exact h4
/-- what a static call asks: va_cwS n hts (lw_S ..) -/
theorem lw_S {own : String} {idx : Nat} {y : MethodName} {b : ByteArray} {L : Nat} {r : Option FieldType} (h1 : Cond.methodLink own idx y ∈ lw_all) (h2 : Cond.static y ∈ lw_all) (h3 : Cond.initialized y.cls ∈ lw_all) (h4 : Cond.code y b L r ∈ lw_all) : GoodIn lw_all (va_wsS own idx y (ws_ y b L r)) := by
  refine lw_app ?_ (lw_meth h4)
  intro w hw
  simp only [List.mem_cons, List.not_mem_nil, or_false] at hw
  rcases hw with e | e | e
  · rw [e]; exact h1
  · rw [e]; exact h2
  · rw [e]; exact h3
/-- the words of a contract for a method WITH HANDLERS (hh: its table) -/
abbrev wsW_ (y : MethodName) (b : ByteArray) (L : Nat) (r : Option FieldType) (hh : List (Nat × Nat × Nat × Nat)) : List Cond := Cond.codeWith y b L r hh :: lw_all
theorem lw_methW {y : MethodName} {b : ByteArray} {L : Nat} {r : Option FieldType} {hh : List (Nat × Nat × Nat × Nat)} (h : Cond.codeWith y b L r hh ∈ lw_all) : GoodIn lw_all (wsW_ y b L r hh) := by
  intro w hw
  rcases List.mem_cons.mp hw with e | e
  · rw [e]
    exact lw_self _ h
  · exact lw_self _ e
/-- any list of words by their places (lw_in), good -/
theorem lw_good {ws : List Cond} (h : ∀ w ∈ ws, w ∈ lw_all) : GoodIn lw_all ws := fun w hw => lw_self w (h w hw)
/-- what a call of a method with handlers asks: vx_cwVW n hts (lw_VW ..), vx_cwSW n hts (lw_SW ..) -/
theorem lw_VW {own : String} {idx : Nat} {C : String} {y : MethodName} {b : ByteArray} {L : Nat} {r : Option FieldType} {hh : List (Nat × Nat × Nat × Nat)} (h1 : Cond.methodLink own idx y ∈ lw_all) (h2 : Cond.instanceMethod y ∈ lw_all) (h3 : Cond.selects C y y ∈ lw_all) (h4 : Cond.initialized C ∈ lw_all) (h5 : Cond.codeWith y b L r hh ∈ lw_all) : GoodIn lw_all (wsV own idx C y (wsW_ y b L r hh)) := by
  refine lw_app ?_ (lw_methW h5)
  intro w hw
  simp only [List.mem_cons, List.not_mem_nil, or_false] at hw
  rcases hw with e | e | e | e
  · rw [e]; exact h1
  · rw [e]; exact h2
  · rw [e]; exact h3
  · rw [e]; exact h4
theorem lw_SW {own : String} {idx : Nat} {y : MethodName} {b : ByteArray} {L : Nat} {r : Option FieldType} {hh : List (Nat × Nat × Nat × Nat)} (h1 : Cond.methodLink own idx y ∈ lw_all) (h2 : Cond.static y ∈ lw_all) (h3 : Cond.initialized y.cls ∈ lw_all) (h4 : Cond.codeWith y b L r hh ∈ lw_all) : GoodIn lw_all (va_wsS own idx y (wsW_ y b L r hh)) := by
  refine lw_app ?_ (lw_methW h4)
  intro w hw
  simp only [List.mem_cons, List.not_mem_nil, or_false] at hw
  rcases hw with e | e | e
  · rw [e]; exact h1
  · rw [e]; exact h2
  · rw [e]; exact h3
/-- a word by its place in its run of the tables -/
theorem lw_at {r : List Cond} (hr : ∀ w ∈ r, w ∈ lw_tbl) {w : Cond} (i : Nat) (h : r[i]? = some w) : w ∈ lw_tbl := hr w (List.mem_of_getElem? h)
theorem lw_g {w : Cond} (h : w ∈ lw_tbl) (g : goodWord w = true) : w ∈ lw_all := List.mem_filter.mpr ⟨h, g⟩
theorem lw_ms : ∀ w ∈ k2_sels lw_privs, w ∈ lw_tbl := fun w h => show w ∈ k2_sels lw_privs ++ tables_1 from List.mem_append_left _ h
theorem lw_m1 : ∀ w ∈ tables_1_1, w ∈ lw_tbl := fun w h => show w ∈ k2_sels lw_privs ++ tables_1 from List.mem_append_right (k2_sels lw_privs) (show w ∈ tables_1 from List.mem_append_left _ h)
theorem lw_m2 : ∀ w ∈ tables_1_2, w ∈ lw_tbl := fun w h => show w ∈ k2_sels lw_privs ++ tables_1 from List.mem_append_right (k2_sels lw_privs) (show w ∈ tables_1 from List.mem_append_right _ (List.mem_append_left _ h))
theorem lw_m3 : ∀ w ∈ tables_1_3, w ∈ lw_tbl := fun w h => show w ∈ k2_sels lw_privs ++ tables_1 from List.mem_append_right (k2_sels lw_privs) (show w ∈ tables_1 from List.mem_append_right _ (List.mem_append_right _ (List.mem_append_left _ h)))
theorem lw_m4 : ∀ w ∈ tables_1_4, w ∈ lw_tbl := fun w h => show w ∈ k2_sels lw_privs ++ tables_1 from List.mem_append_right (k2_sels lw_privs) (show w ∈ tables_1 from List.mem_append_right _ (List.mem_append_right _ (List.mem_append_right _ (List.mem_append_left _ h))))
theorem lw_m5 : ∀ w ∈ tables_1_5, w ∈ lw_tbl := fun w h => show w ∈ k2_sels lw_privs ++ tables_1 from List.mem_append_right (k2_sels lw_privs) (show w ∈ tables_1 from List.mem_append_right _ (List.mem_append_right _ (List.mem_append_right _ (List.mem_append_right _ (List.mem_append_left _ h)))))
theorem lw_m6 : ∀ w ∈ tables_1_6, w ∈ lw_tbl := fun w h => show w ∈ k2_sels lw_privs ++ tables_1 from List.mem_append_right (k2_sels lw_privs) (show w ∈ tables_1 from List.mem_append_right _ (List.mem_append_right _ (List.mem_append_right _ (List.mem_append_right _ (List.mem_append_right _ (List.mem_append_left _ h))))))
theorem lw_m7 : ∀ w ∈ tables_1_7, w ∈ lw_tbl := fun w h => show w ∈ k2_sels lw_privs ++ tables_1 from List.mem_append_right (k2_sels lw_privs) (show w ∈ tables_1 from List.mem_append_right _ (List.mem_append_right _ (List.mem_append_right _ (List.mem_append_right _ (List.mem_append_right _ (List.mem_append_right _ (List.mem_append_left _ h)))))))
theorem lw_m8 : ∀ w ∈ tables_1_8, w ∈ lw_tbl := fun w h => show w ∈ k2_sels lw_privs ++ tables_1 from List.mem_append_right (k2_sels lw_privs) (show w ∈ tables_1 from List.mem_append_right _ (List.mem_append_right _ (List.mem_append_right _ (List.mem_append_right _ (List.mem_append_right _ (List.mem_append_right _ (List.mem_append_right _ (List.mem_append_left _ h))))))))
theorem lw_m9 : ∀ w ∈ tables_1_9, w ∈ lw_tbl := fun w h => show w ∈ k2_sels lw_privs ++ tables_1 from List.mem_append_right (k2_sels lw_privs) (show w ∈ tables_1 from List.mem_append_right _ (List.mem_append_right _ (List.mem_append_right _ (List.mem_append_right _ (List.mem_append_right _ (List.mem_append_right _ (List.mem_append_right _ (List.mem_append_right _ (List.mem_append_left _ h)))))))))
theorem lw_m10 : ∀ w ∈ tables_1_10, w ∈ lw_tbl := fun w h => show w ∈ k2_sels lw_privs ++ tables_1 from List.mem_append_right (k2_sels lw_privs) (show w ∈ tables_1 from List.mem_append_right _ (List.mem_append_right _ (List.mem_append_right _ (List.mem_append_right _ (List.mem_append_right _ (List.mem_append_right _ (List.mem_append_right _ (List.mem_append_right _ (List.mem_append_right _ h)))))))))
theorem qs0 : (Cond.selects "java/lang/Throwable" ⟨"java/lang/Throwable", "fillInStackTrace", "(I)Ljava/lang/Throwable;"⟩ ⟨"java/lang/Throwable", "fillInStackTrace", "(I)Ljava/lang/Throwable;"⟩) ∈ lw_all := lw_g (lw_at lw_ms 0 rfl) rfl
theorem qs1 : (Cond.selects "BitingDoors" ⟨"BitingDoors", "four", "(I)V"⟩ ⟨"BitingDoors", "four", "(I)V"⟩) ∈ lw_all := lw_g (lw_at lw_ms 1 rfl) rfl
theorem qs2 : (Cond.selects "BitingDoors" ⟨"BitingDoors", "taken", "()V"⟩ ⟨"BitingDoors", "taken", "()V"⟩) ∈ lw_all := lw_g (lw_at lw_ms 2 rfl) rfl
theorem qs3 : (Cond.selects "BitingDoors$HouseReader" ⟨"BitingDoors$HouseReader", "line", "(I)V"⟩ ⟨"BitingDoors$HouseReader", "line", "(I)V"⟩) ∈ lw_all := lw_g (lw_at lw_ms 3 rfl) rfl
theorem qs4 : (Cond.selects "BitingDoors$HouseReader" ⟨"BitingDoors$HouseReader", "row", "()V"⟩ ⟨"BitingDoors$HouseReader", "row", "()V"⟩) ∈ lw_all := lw_g (lw_at lw_ms 4 rfl) rfl
theorem qs5 : (Cond.selects "BitingDoors$HouseReader" ⟨"BitingDoors$HouseReader", "door", "()V"⟩ ⟨"BitingDoors$HouseReader", "door", "()V"⟩) ∈ lw_all := lw_g (lw_at lw_ms 5 rfl) rfl
theorem qs6 : (Cond.selects "BitingDoors$HouseReader" ⟨"BitingDoors$HouseReader", "isWay", "(IIZIZ)Z"⟩ ⟨"BitingDoors$HouseReader", "isWay", "(IIZIZ)Z"⟩) ∈ lw_all := lw_g (lw_at lw_ms 6 rfl) rfl
theorem qs7 : (Cond.selects "BitingDoors$HouseReader" ⟨"BitingDoors$HouseReader", "draught", "()V"⟩ ⟨"BitingDoors$HouseReader", "draught", "()V"⟩) ∈ lw_all := lw_g (lw_at lw_ms 7 rfl) rfl
theorem qs8 : (Cond.selects "BitingDoors$Door" ⟨"BitingDoors$Door", "leaf", "(IZZ)LBitingDoors$Cells;"⟩ ⟨"BitingDoors$Door", "leaf", "(IZZ)LBitingDoors$Cells;"⟩) ∈ lw_all := lw_g (lw_at lw_ms 8 rfl) rfl
theorem qs9 : (Cond.selects "BitingDoors$Door" ⟨"BitingDoors$Door", "put", "(LBitingDoors$Cells;II)V"⟩ ⟨"BitingDoors$Door", "put", "(LBitingDoors$Cells;II)V"⟩) ∈ lw_all := lw_g (lw_at lw_ms 9 rfl) rfl
theorem qs10 : (Cond.selects "BitingDoors$Cells" ⟨"BitingDoors$Cells", "put", "(I)V"⟩ ⟨"BitingDoors$Cells", "put", "(I)V"⟩) ∈ lw_all := lw_g (lw_at lw_ms 10 rfl) rfl
theorem qs11 : (Cond.selects "BitingDoors$DayReader" ⟨"BitingDoors$DayReader", "act", "(I)LBitingDoors$Act;"⟩ ⟨"BitingDoors$DayReader", "act", "(I)LBitingDoors$Act;"⟩) ∈ lw_all := lw_g (lw_at lw_ms 11 rfl) rfl
theorem qs12 : (Cond.selects "BitingDoors" ⟨"BitingDoors", "isDoor", "(I)Z"⟩ ⟨"BitingDoors", "isDoor", "(I)Z"⟩) ∈ lw_all := lw_g (lw_at lw_ms 12 rfl) rfl
theorem qs13 : (Cond.selects "BitingDoors" ⟨"BitingDoors", "at", "(I)LBitingDoors$Door;"⟩ ⟨"BitingDoors", "at", "(I)LBitingDoors$Door;"⟩) ∈ lw_all := lw_g (lw_at lw_ms 13 rfl) rfl
theorem qs14 : (Cond.selects "BitingDoors" ⟨"BitingDoors", "pairs", "([I)I"⟩ ⟨"BitingDoors", "pairs", "([I)I"⟩) ∈ lw_all := lw_g (lw_at lw_ms 14 rfl) rfl
theorem qs15 : (Cond.selects "BitingDoors" ⟨"BitingDoors", "findCheapest", "()Z"⟩ ⟨"BitingDoors", "findCheapest", "()Z"⟩) ∈ lw_all := lw_g (lw_at lw_ms 15 rfl) rfl
theorem qs16 : (Cond.selects "BitingDoors" ⟨"BitingDoors", "domains", "()V"⟩ ⟨"BitingDoors", "domains", "()V"⟩) ∈ lw_all := lw_g (lw_at lw_ms 16 rfl) rfl
theorem qs17 : (Cond.selects "BitingDoors" ⟨"BitingDoors", "cheapest", "(III)V"⟩ ⟨"BitingDoors", "cheapest", "(III)V"⟩) ∈ lw_all := lw_g (lw_at lw_ms 17 rfl) rfl
theorem qs18 : (Cond.selects "BitingDoors" ⟨"BitingDoors", "isBitten", "(III)Z"⟩ ⟨"BitingDoors", "isBitten", "(III)Z"⟩) ∈ lw_all := lw_g (lw_at lw_ms 18 rfl) rfl
theorem qs19 : (Cond.selects "BitingDoors" ⟨"BitingDoors", "findFewest", "()Z"⟩ ⟨"BitingDoors", "findFewest", "()Z"⟩) ∈ lw_all := lw_g (lw_at lw_ms 19 rfl) rfl
theorem qs20 : (Cond.selects "BitingDoors" ⟨"BitingDoors", "fewest", "(III)V"⟩ ⟨"BitingDoors", "fewest", "(III)V"⟩) ∈ lw_all := lw_g (lw_at lw_ms 20 rfl) rfl
theorem qs21 : (Cond.selects "BitingDoors" ⟨"BitingDoors", "ways", "(I)V"⟩ ⟨"BitingDoors", "ways", "(I)V"⟩) ∈ lw_all := lw_g (lw_at lw_ms 21 rfl) rfl
theorem qs22 : (Cond.selects "BitingDoors" ⟨"BitingDoors", "bitesAway", "(III)I"⟩ ⟨"BitingDoors", "bitesAway", "(III)I"⟩) ∈ lw_all := lw_g (lw_at lw_ms 22 rfl) rfl
theorem qs23 : (Cond.selects "BitingDoors" ⟨"BitingDoors", "isHungWell", "(II)Z"⟩ ⟨"BitingDoors", "isHungWell", "(II)Z"⟩) ∈ lw_all := lw_g (lw_at lw_ms 23 rfl) rfl
theorem qs24 : (Cond.selects "BitingDoors$Walker" ⟨"BitingDoors$Walker", "bar", "(II)I"⟩ ⟨"BitingDoors$Walker", "bar", "(II)I"⟩) ∈ lw_all := lw_g (lw_at lw_ms 24 rfl) rfl
theorem qs25 : (Cond.selects "BitingDoors$Walker" ⟨"BitingDoors$Walker", "blows", "(III)V"⟩ ⟨"BitingDoors$Walker", "blows", "(III)V"⟩) ∈ lw_all := lw_g (lw_at lw_ms 25 rfl) rfl
theorem qs26 : (Cond.selects "BitingDoors" ⟨"BitingDoors", "run", "(LBitingDoors$Walker;)I"⟩ ⟨"BitingDoors", "run", "(LBitingDoors$Walker;)I"⟩) ∈ lw_all := lw_g (lw_at lw_ms 26 rfl) rfl
theorem qs27 : (Cond.selects "BitingDoors" ⟨"BitingDoors", "rings", "(I)I"⟩ ⟨"BitingDoors", "rings", "(I)I"⟩) ∈ lw_all := lw_g (lw_at lw_ms 27 rfl) rfl
theorem qs28 : (Cond.selects "BitingDoors" ⟨"BitingDoors", "unfold", "(I)V"⟩ ⟨"BitingDoors", "unfold", "(I)V"⟩) ∈ lw_all := lw_g (lw_at lw_ms 28 rfl) rfl
theorem qs29 : (Cond.selects "BitingDoors" ⟨"BitingDoors", "spread", "(I)I"⟩ ⟨"BitingDoors", "spread", "(I)I"⟩) ∈ lw_all := lw_g (lw_at lw_ms 29 rfl) rfl
theorem qs30 : (Cond.selects "BitingDoors$SentenceReader" ⟨"BitingDoors$SentenceReader", "any", "(I)LBitingDoors$Cond;"⟩ ⟨"BitingDoors$SentenceReader", "any", "(I)LBitingDoors$Cond;"⟩) ∈ lw_all := lw_g (lw_at lw_ms 30 rfl) rfl
theorem qs31 : (Cond.selects "BitingDoors$SentenceReader" ⟨"BitingDoors$SentenceReader", "both", "(I)LBitingDoors$Cond;"⟩ ⟨"BitingDoors$SentenceReader", "both", "(I)LBitingDoors$Cond;"⟩) ∈ lw_all := lw_g (lw_at lw_ms 31 rfl) rfl
theorem qs32 : (Cond.selects "BitingDoors$SentenceReader" ⟨"BitingDoors$SentenceReader", "single", "(I)LBitingDoors$Cond;"⟩ ⟨"BitingDoors$SentenceReader", "single", "(I)LBitingDoors$Cond;"⟩) ∈ lw_all := lw_g (lw_at lw_ms 32 rfl) rfl
theorem qs33 : (Cond.selects "BitingDoors$SentenceReader" ⟨"BitingDoors$SentenceReader", "counts", "(I)LBitingDoors$Cond;"⟩ ⟨"BitingDoors$SentenceReader", "counts", "(I)LBitingDoors$Cond;"⟩) ∈ lw_all := lw_g (lw_at lw_ms 33 rfl) rfl
theorem qs34 : (Cond.selects "BitingDoors$Counts" ⟨"BitingDoors$Counts", "of", "(LBitingDoors$Walker;I)I"⟩ ⟨"BitingDoors$Counts", "of", "(LBitingDoors$Walker;I)I"⟩) ∈ lw_all := lw_g (lw_at lw_ms 34 rfl) rfl
theorem qs35 : (Cond.selects "BitingDoorsModel" ⟨"BitingDoorsModel", "come", "(I)V"⟩ ⟨"BitingDoorsModel", "come", "(I)V"⟩) ∈ lw_all := lw_g (lw_at lw_ms 35 rfl) rfl
theorem qs36 : (Cond.selects "BitingDoorsModel" ⟨"BitingDoorsModel", "begin", "(I)V"⟩ ⟨"BitingDoorsModel", "begin", "(I)V"⟩) ∈ lw_all := lw_g (lw_at lw_ms 36 rfl) rfl
theorem qs37 : (Cond.selects "BitingDoorsModel" ⟨"BitingDoorsModel", "lay", "()V"⟩ ⟨"BitingDoorsModel", "lay", "()V"⟩) ∈ lw_all := lw_g (lw_at lw_ms 37 rfl) rfl
theorem qs38 : (Cond.selects "BitingDoorsModel" ⟨"BitingDoorsModel", "take", "()I"⟩ ⟨"BitingDoorsModel", "take", "()I"⟩) ∈ lw_all := lw_g (lw_at lw_ms 38 rfl) rfl
theorem qs39 : (Cond.selects "BitingDoorsModel" ⟨"BitingDoorsModel", "go", "()V"⟩ ⟨"BitingDoorsModel", "go", "()V"⟩) ∈ lw_all := lw_g (lw_at lw_ms 39 rfl) rfl
theorem qs40 : (Cond.selects "BitingDoorsModel" ⟨"BitingDoorsModel", "byteAt", "(I)I"⟩ ⟨"BitingDoorsModel", "byteAt", "(I)I"⟩) ∈ lw_all := lw_g (lw_at lw_ms 40 rfl) rfl
theorem qs41 : (Cond.selects "BitingDoorsModel" ⟨"BitingDoorsModel", "readLine", "()Z"⟩ ⟨"BitingDoorsModel", "readLine", "()Z"⟩) ∈ lw_all := lw_g (lw_at lw_ms 41 rfl) rfl
theorem qs42 : (Cond.selects "BitingDoorsModel" ⟨"BitingDoorsModel", "isWord", "(I)Z"⟩ ⟨"BitingDoorsModel", "isWord", "(I)Z"⟩) ∈ lw_all := lw_g (lw_at lw_ms 42 rfl) rfl
theorem qs43 : (Cond.selects "BitingDoorsModel" ⟨"BitingDoorsModel", "readRow", "()Z"⟩ ⟨"BitingDoorsModel", "readRow", "()Z"⟩) ∈ lw_all := lw_g (lw_at lw_ms 43 rfl) rfl
theorem qs44 : (Cond.selects "BitingDoorsModel" ⟨"BitingDoorsModel", "bad", "(I)Z"⟩ ⟨"BitingDoorsModel", "bad", "(I)Z"⟩) ∈ lw_all := lw_g (lw_at lw_ms 44 rfl) rfl
theorem qs45 : (Cond.selects "BitingDoorsModel" ⟨"BitingDoorsModel", "isCells", "()Z"⟩ ⟨"BitingDoorsModel", "isCells", "()Z"⟩) ∈ lw_all := lw_g (lw_at lw_ms 45 rfl) rfl
theorem qs46 : (Cond.selects "BitingDoorsModel" ⟨"BitingDoorsModel", "readDoor", "()Z"⟩ ⟨"BitingDoorsModel", "readDoor", "()Z"⟩) ∈ lw_all := lw_g (lw_at lw_ms 46 rfl) rfl
theorem qs47 : (Cond.selects "BitingDoorsModel" ⟨"BitingDoorsModel", "isName", "()Z"⟩ ⟨"BitingDoorsModel", "isName", "()Z"⟩) ∈ lw_all := lw_g (lw_at lw_ms 47 rfl) rfl
theorem qs48 : (Cond.selects "BitingDoorsModel" ⟨"BitingDoorsModel", "findRead", "()I"⟩ ⟨"BitingDoorsModel", "findRead", "()I"⟩) ∈ lw_all := lw_g (lw_at lw_ms 48 rfl) rfl
theorem qs49 : (Cond.selects "BitingDoorsModel" ⟨"BitingDoorsModel", "readNumber", "(II)Z"⟩ ⟨"BitingDoorsModel", "readNumber", "(II)Z"⟩) ∈ lw_all := lw_g (lw_at lw_ms 49 rfl) rfl
theorem qs50 : (Cond.selects "BitingDoorsModel" ⟨"BitingDoorsModel", "looksAt", "(IIII)I"⟩ ⟨"BitingDoorsModel", "looksAt", "(IIII)I"⟩) ∈ lw_all := lw_g (lw_at lw_ms 50 rfl) rfl
theorem qs51 : (Cond.selects "BitingDoorsModel" ⟨"BitingDoorsModel", "readDraught", "()Z"⟩ ⟨"BitingDoorsModel", "readDraught", "()Z"⟩) ∈ lw_all := lw_g (lw_at lw_ms 51 rfl) rfl
theorem qs52 : (Cond.selects "BitingDoorsModel" ⟨"BitingDoorsModel", "readBed", "()Z"⟩ ⟨"BitingDoorsModel", "readBed", "()Z"⟩) ∈ lw_all := lw_g (lw_at lw_ms 52 rfl) rfl
theorem qs53 : (Cond.selects "BitingDoorsModel" ⟨"BitingDoorsModel", "readEnd", "()Z"⟩ ⟨"BitingDoorsModel", "readEnd", "()Z"⟩) ∈ lw_all := lw_g (lw_at lw_ms 53 rfl) rfl
theorem qs54 : (Cond.selects "BitingDoorsModel" ⟨"BitingDoorsModel", "isSign", "(I)Z"⟩ ⟨"BitingDoorsModel", "isSign", "(I)Z"⟩) ∈ lw_all := lw_g (lw_at lw_ms 54 rfl) rfl
theorem qs55 : (Cond.selects "BitingDoorsModel" ⟨"BitingDoorsModel", "isCell", "(II)Z"⟩ ⟨"BitingDoorsModel", "isCell", "(II)Z"⟩) ∈ lw_all := lw_g (lw_at lw_ms 55 rfl) rfl
theorem qs56 : (Cond.selects "BitingDoorsModel" ⟨"BitingDoorsModel", "isDoor", "(I)Z"⟩ ⟨"BitingDoorsModel", "isDoor", "(I)Z"⟩) ∈ lw_all := lw_g (lw_at lw_ms 56 rfl) rfl
theorem qs57 : (Cond.selects "BitingDoorsModel" ⟨"BitingDoorsModel", "doors", "()I"⟩ ⟨"BitingDoorsModel", "doors", "()I"⟩) ∈ lw_all := lw_g (lw_at lw_ms 57 rfl) rfl
theorem qs58 : (Cond.selects "BitingDoorsModel" ⟨"BitingDoorsModel", "refuse", "()I"⟩ ⟨"BitingDoorsModel", "refuse", "()I"⟩) ∈ lw_all := lw_g (lw_at lw_ms 58 rfl) rfl
theorem qs59 : (Cond.selects "BitingDoorsModel" ⟨"BitingDoorsModel", "of", "(II)I"⟩ ⟨"BitingDoorsModel", "of", "(II)I"⟩) ∈ lw_all := lw_g (lw_at lw_ms 59 rfl) rfl
theorem qs60 : (Cond.selects "BitingDoorsModel" ⟨"BitingDoorsModel", "layLeaf", "(III)V"⟩ ⟨"BitingDoorsModel", "layLeaf", "(III)V"⟩) ∈ lw_all := lw_g (lw_at lw_ms 60 rfl) rfl
theorem qs61 : (Cond.selects "BitingDoorsModel" ⟨"BitingDoorsModel", "put", "(II)V"⟩ ⟨"BitingDoorsModel", "put", "(II)V"⟩) ∈ lw_all := lw_g (lw_at lw_ms 61 rfl) rfl
theorem qs62 : (Cond.selects "BitingDoorsModel" ⟨"BitingDoorsModel", "canBe", "(III)Z"⟩ ⟨"BitingDoorsModel", "canBe", "(III)Z"⟩) ∈ lw_all := lw_g (lw_at lw_ms 62 rfl) rfl
theorem qs63 : (Cond.selects "BitingDoorsModel" ⟨"BitingDoorsModel", "isFit", "(II)Z"⟩ ⟨"BitingDoorsModel", "isFit", "(II)Z"⟩) ∈ lw_all := lw_g (lw_at lw_ms 63 rfl) rfl
theorem qs64 : (Cond.selects "BitingDoorsModel" ⟨"BitingDoorsModel", "laySwept", "()V"⟩ ⟨"BitingDoorsModel", "laySwept", "()V"⟩) ∈ lw_all := lw_g (lw_at lw_ms 64 rfl) rfl
theorem qs65 : (Cond.selects "BitingDoorsModel" ⟨"BitingDoorsModel", "shared", "(IIII)I"⟩ ⟨"BitingDoorsModel", "shared", "(IIII)I"⟩) ∈ lw_all := lw_g (lw_at lw_ms 65 rfl) rfl
theorem qs66 : (Cond.selects "BitingDoorsModel" ⟨"BitingDoorsModel", "clashesOf", "([I)I"⟩ ⟨"BitingDoorsModel", "clashesOf", "([I)I"⟩) ∈ lw_all := lw_g (lw_at lw_ms 66 rfl) rfl
theorem qs67 : (Cond.selects "BitingDoorsModel" ⟨"BitingDoorsModel", "bite", "(IIII)Z"⟩ ⟨"BitingDoorsModel", "bite", "(IIII)Z"⟩) ∈ lw_all := lw_g (lw_at lw_ms 67 rfl) rfl
theorem qs68 : (Cond.selects "BitingDoorsModel" ⟨"BitingDoorsModel", "hangAll", "(Z)I"⟩ ⟨"BitingDoorsModel", "hangAll", "(Z)I"⟩) ∈ lw_all := lw_g (lw_at lw_ms 68 rfl) rfl
theorem qs69 : (Cond.selects "BitingDoorsModel" ⟨"BitingDoorsModel", "hang", "(IIZ)V"⟩ ⟨"BitingDoorsModel", "hang", "(IIZ)V"⟩) ∈ lw_all := lw_g (lw_at lw_ms 69 rfl) rfl
theorem qs70 : (Cond.selects "BitingDoorsModel" ⟨"BitingDoorsModel", "mayHang", "(III)Z"⟩ ⟨"BitingDoorsModel", "mayHang", "(III)Z"⟩) ∈ lw_all := lw_g (lw_at lw_ms 70 rfl) rfl
theorem qs71 : (Cond.selects "BitingDoorsModel" ⟨"BitingDoorsModel", "weightOf", "(IZ)I"⟩ ⟨"BitingDoorsModel", "weightOf", "(IZ)I"⟩) ∈ lw_all := lw_g (lw_at lw_ms 71 rfl) rfl
theorem qs72 : (Cond.selects "BitingDoorsModel" ⟨"BitingDoorsModel", "countWays", "(I)V"⟩ ⟨"BitingDoorsModel", "countWays", "(I)V"⟩) ∈ lw_all := lw_g (lw_at lw_ms 72 rfl) rfl
theorem qs73 : (Cond.selects "BitingDoorsModel" ⟨"BitingDoorsModel", "drop", "(III)V"⟩ ⟨"BitingDoorsModel", "drop", "(III)V"⟩) ∈ lw_all := lw_g (lw_at lw_ms 73 rfl) rfl
theorem qs74 : (Cond.selects "BitingDoorsModel" ⟨"BitingDoorsModel", "deadOne", "(I)I"⟩ ⟨"BitingDoorsModel", "deadOne", "(I)I"⟩) ∈ lw_all := lw_g (lw_at lw_ms 74 rfl) rfl
theorem qs75 : (Cond.selects "BitingDoorsModel" ⟨"BitingDoorsModel", "nextForced", "(II)I"⟩ ⟨"BitingDoorsModel", "nextForced", "(II)I"⟩) ∈ lw_all := lw_g (lw_at lw_ms 75 rfl) rfl
theorem qs76 : (Cond.selects "BitingDoorsModel" ⟨"BitingDoorsModel", "canHang", "(II)Z"⟩ ⟨"BitingDoorsModel", "canHang", "(II)Z"⟩) ∈ lw_all := lw_g (lw_at lw_ms 76 rfl) rfl
theorem qs77 : (Cond.selects "BitingDoorsModel" ⟨"BitingDoorsModel", "takeNow", "()V"⟩ ⟨"BitingDoorsModel", "takeNow", "()V"⟩) ∈ lw_all := lw_g (lw_at lw_ms 77 rfl) rfl
theorem qs78 : (Cond.selects "BitingDoorsModel" ⟨"BitingDoorsModel", "layLeaves", "()V"⟩ ⟨"BitingDoorsModel", "layLeaves", "()V"⟩) ∈ lw_all := lw_g (lw_at lw_ms 78 rfl) rfl
theorem qs79 : (Cond.selects "BitingDoorsModel" ⟨"BitingDoorsModel", "isWalked", "(II)Z"⟩ ⟨"BitingDoorsModel", "isWalked", "(II)Z"⟩) ∈ lw_all := lw_g (lw_at lw_ms 79 rfl) rfl
theorem qs80 : (Cond.selects "BitingDoorsModel" ⟨"BitingDoorsModel", "isAct", "(I)Z"⟩ ⟨"BitingDoorsModel", "isAct", "(I)Z"⟩) ∈ lw_all := lw_g (lw_at lw_ms 80 rfl) rfl
theorem qs81 : (Cond.selects "BitingDoorsModel" ⟨"BitingDoorsModel", "minute", "(I)I"⟩ ⟨"BitingDoorsModel", "minute", "(I)I"⟩) ∈ lw_all := lw_g (lw_at lw_ms 81 rfl) rfl
theorem qs82 : (Cond.selects "BitingDoorsModel" ⟨"BitingDoorsModel", "tries", "(I)I"⟩ ⟨"BitingDoorsModel", "tries", "(I)I"⟩) ∈ lw_all := lw_g (lw_at lw_ms 82 rfl) rfl
theorem qs83 : (Cond.selects "BitingDoorsModel" ⟨"BitingDoorsModel", "isAt", "(I)Z"⟩ ⟨"BitingDoorsModel", "isAt", "(I)Z"⟩) ∈ lw_all := lw_g (lw_at lw_ms 83 rfl) rfl
theorem qs84 : (Cond.selects "BitingDoorsModel" ⟨"BitingDoorsModel", "hinders", "(II)I"⟩ ⟨"BitingDoorsModel", "hinders", "(II)I"⟩) ∈ lw_all := lw_g (lw_at lw_ms 84 rfl) rfl
theorem qs85 : (Cond.selects "BitingDoorsModel" ⟨"BitingDoorsModel", "swing", "(II)V"⟩ ⟨"BitingDoorsModel", "swing", "(II)V"⟩) ∈ lw_all := lw_g (lw_at lw_ms 85 rfl) rfl
theorem qs86 : (Cond.selects "BitingDoorsModel" ⟨"BitingDoorsModel", "blows", "()I"⟩ ⟨"BitingDoorsModel", "blows", "()I"⟩) ∈ lw_all := lw_g (lw_at lw_ms 86 rfl) rfl
theorem qs87 : (Cond.selects "BitingDoorsModel" ⟨"BitingDoorsModel", "keepNow", "()V"⟩ ⟨"BitingDoorsModel", "keepNow", "()V"⟩) ∈ lw_all := lw_g (lw_at lw_ms 87 rfl) rfl
theorem qs88 : (Cond.selects "BitingDoorsModel" ⟨"BitingDoorsModel", "readDayLine", "()Z"⟩ ⟨"BitingDoorsModel", "readDayLine", "()Z"⟩) ∈ lw_all := lw_g (lw_at lw_ms 88 rfl) rfl
theorem qs89 : (Cond.selects "BitingDoorsModel" ⟨"BitingDoorsModel", "doDay", "()I"⟩ ⟨"BitingDoorsModel", "doDay", "()I"⟩) ∈ lw_all := lw_g (lw_at lw_ms 89 rfl) rfl
theorem qs90 : (Cond.selects "BitingDoorsModel" ⟨"BitingDoorsModel", "doAct", "(II)I"⟩ ⟨"BitingDoorsModel", "doAct", "(II)I"⟩) ∈ lw_all := lw_g (lw_at lw_ms 90 rfl) rfl
theorem qs91 : (Cond.selects "BitingDoorsModel" ⟨"BitingDoorsModel", "goalOf", "(II)I"⟩ ⟨"BitingDoorsModel", "goalOf", "(II)I"⟩) ∈ lw_all := lw_g (lw_at lw_ms 91 rfl) rfl
theorem qs92 : (Cond.selects "BitingDoorsModel" ⟨"BitingDoorsModel", "findWay", "(I)I"⟩ ⟨"BitingDoorsModel", "findWay", "(I)I"⟩) ∈ lw_all := lw_g (lw_at lw_ms 92 rfl) rfl
theorem qs93 : (Cond.selects "BitingDoorsModel" ⟨"BitingDoorsModel", "search", "(I)I"⟩ ⟨"BitingDoorsModel", "search", "(I)I"⟩) ∈ lw_all := lw_g (lw_at lw_ms 93 rfl) rfl
theorem qs94 : (Cond.selects "BitingDoorsModel" ⟨"BitingDoorsModel", "stateAtHand", "()I"⟩ ⟨"BitingDoorsModel", "stateAtHand", "()I"⟩) ∈ lw_all := lw_g (lw_at lw_ms 94 rfl) rfl
theorem qs95 : (Cond.selects "BitingDoorsModel" ⟨"BitingDoorsModel", "layState", "(I)V"⟩ ⟨"BitingDoorsModel", "layState", "(I)V"⟩) ∈ lw_all := lw_g (lw_at lw_ms 95 rfl) rfl
theorem qs96 : (Cond.selects "BitingDoorsModel" ⟨"BitingDoorsModel", "walkOn", "()V"⟩ ⟨"BitingDoorsModel", "walkOn", "()V"⟩) ∈ lw_all := lw_g (lw_at lw_ms 96 rfl) rfl
theorem qs97 : (Cond.selects "BitingDoorsModel" ⟨"BitingDoorsModel", "readOr", "()Z"⟩ ⟨"BitingDoorsModel", "readOr", "()Z"⟩) ∈ lw_all := lw_g (lw_at lw_ms 97 rfl) rfl
theorem qs98 : (Cond.selects "BitingDoorsModel" ⟨"BitingDoorsModel", "readAnd", "()Z"⟩ ⟨"BitingDoorsModel", "readAnd", "()Z"⟩) ∈ lw_all := lw_g (lw_at lw_ms 98 rfl) rfl
theorem qs99 : (Cond.selects "BitingDoorsModel" ⟨"BitingDoorsModel", "readOne", "()Z"⟩ ⟨"BitingDoorsModel", "readOne", "()Z"⟩) ∈ lw_all := lw_g (lw_at lw_ms 99 rfl) rfl
theorem qs100 : (Cond.selects "BitingDoorsModel" ⟨"BitingDoorsModel", "oneAtHand", "()I"⟩ ⟨"BitingDoorsModel", "oneAtHand", "()I"⟩) ∈ lw_all := lw_g (lw_at lw_ms 100 rfl) rfl
theorem qs101 : (Cond.selects "BitingDoorsModel" ⟨"BitingDoorsModel", "readBracket", "()Z"⟩ ⟨"BitingDoorsModel", "readBracket", "()Z"⟩) ∈ lw_all := lw_g (lw_at lw_ms 101 rfl) rfl
theorem qs102 : (Cond.selects "BitingDoorsModel" ⟨"BitingDoorsModel", "readNot", "()Z"⟩ ⟨"BitingDoorsModel", "readNot", "()Z"⟩) ∈ lw_all := lw_g (lw_at lw_ms 102 rfl) rfl
theorem qs103 : (Cond.selects "BitingDoorsModel" ⟨"BitingDoorsModel", "lays", "(IIII)I"⟩ ⟨"BitingDoorsModel", "lays", "(IIII)I"⟩) ∈ lw_all := lw_g (lw_at lw_ms 103 rfl) rfl
theorem qs104 : (Cond.selects "BitingDoorsModel" ⟨"BitingDoorsModel", "readBites", "()Z"⟩ ⟨"BitingDoorsModel", "readBites", "()Z"⟩) ∈ lw_all := lw_g (lw_at lw_ms 104 rfl) rfl
theorem qs105 : (Cond.selects "BitingDoorsModel" ⟨"BitingDoorsModel", "readCompare", "(I)Z"⟩ ⟨"BitingDoorsModel", "readCompare", "(I)Z"⟩) ∈ lw_all := lw_g (lw_at lw_ms 105 rfl) rfl
theorem qs106 : (Cond.selects "BitingDoorsModel" ⟨"BitingDoorsModel", "isSo", "(II)Z"⟩ ⟨"BitingDoorsModel", "isSo", "(II)Z"⟩) ∈ lw_all := lw_g (lw_at lw_ms 106 rfl) rfl
theorem qs107 : (Cond.selects "BitingDoorsModel" ⟨"BitingDoorsModel", "valueOf", "(II)I"⟩ ⟨"BitingDoorsModel", "valueOf", "(II)I"⟩) ∈ lw_all := lw_g (lw_at lw_ms 107 rfl) rfl
