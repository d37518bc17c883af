-- ===== PART A: goes FIRST, ahead of the names: the tables' words, and 'selects' of the private methods out of them =====
/-- a private method of a class that the tables say can be made, by its rows of tables_1 -/
def lw_okq (q : MethodName × Nat) : Prop := (q.1.cls ≠ "java/lang/invoke/MethodHandle" ∧ q.1.cls ≠ "java/lang/invoke/VarHandle") ∧ Cond.instantiable q.1.cls q.2 ∈ tables_1 ∧ Cond.privateMethod q.1 ∈ tables_1 ∧ Cond.instanceMethod q.1 ∈ tables_1
set_option maxRecDepth 100000
theorem lw_t1 {w : Cond} (h : w ∈ tables_1_1) : w ∈ tables_1 := List.mem_append_left _ h
theorem lw_t2 {w : Cond} (h : w ∈ tables_1_2) : w ∈ tables_1 := List.mem_append_right _ (List.mem_append_left _ h)
theorem lw_t3 {w : Cond} (h : w ∈ tables_1_3) : w ∈ tables_1 := List.mem_append_right _ (List.mem_append_right _ (List.mem_append_left _ h))
theorem lw_t4 {w : Cond} (h : w ∈ tables_1_4) : w ∈ tables_1 := List.mem_append_right _ (List.mem_append_right _ (List.mem_append_right _ (List.mem_append_left _ h)))
theorem lw_t5 {w : Cond} (h : w ∈ tables_1_5) : w ∈ tables_1 := List.mem_append_right _ (List.mem_append_right _ (List.mem_append_right _ (List.mem_append_right _ h)))
theorem lw_p0 : lw_okq (⟨"TreeOdds", "last", "(II)I"⟩, 24) := ⟨⟨by decide +kernel, by decide +kernel⟩, lw_t1 (List.mem_of_getElem? (i := 14) rfl), lw_t1 (List.mem_of_getElem? (i := 128) rfl), lw_t1 (List.mem_of_getElem? (i := 129) rfl)⟩
theorem lw_p1 : lw_okq (⟨"TreeOdds", "guess", "(I)LTreeOdds$Guess;"⟩, 24) := ⟨⟨by decide +kernel, by decide +kernel⟩, lw_t1 (List.mem_of_getElem? (i := 14) rfl), lw_t1 (List.mem_of_getElem? (i := 132) rfl), lw_t1 (List.mem_of_getElem? (i := 133) rfl)⟩
theorem lw_p2 : lw_okq (⟨"TreeOdds", "bad", "()I"⟩, 24) := ⟨⟨by decide +kernel, by decide +kernel⟩, lw_t1 (List.mem_of_getElem? (i := 14) rfl), lw_t1 (List.mem_of_getElem? (i := 231) rfl), lw_t1 (List.mem_of_getElem? (i := 232) rfl)⟩
theorem lw_p3 : lw_okq (⟨"TreeOdds", "refuses", "(II)I"⟩, 24) := ⟨⟨by decide +kernel, by decide +kernel⟩, lw_t1 (List.mem_of_getElem? (i := 14) rfl), lw_t1 (List.mem_of_getElem? (i := 235) rfl), lw_t1 (List.mem_of_getElem? (i := 236) rfl)⟩
theorem lw_p4 : lw_okq (⟨"TreeOdds", "full", "()I"⟩, 24) := ⟨⟨by decide +kernel, by decide +kernel⟩, lw_t1 (List.mem_of_getElem? (i := 14) rfl), lw_t1 (List.mem_of_getElem? (i := 239) rfl), lw_t2 (List.mem_of_getElem? (i := 0) rfl)⟩
theorem lw_p5 : lw_okq (⟨"TreeOdds", "leaves", "()V"⟩, 24) := ⟨⟨by decide +kernel, by decide +kernel⟩, lw_t1 (List.mem_of_getElem? (i := 14) rfl), lw_t2 (List.mem_of_getElem? (i := 3) rfl), lw_t2 (List.mem_of_getElem? (i := 4) rfl)⟩
theorem lw_p6 : lw_okq (⟨"TreeOdds", "comes", "(I)I"⟩, 24) := ⟨⟨by decide +kernel, by decide +kernel⟩, lw_t1 (List.mem_of_getElem? (i := 14) rfl), lw_t2 (List.mem_of_getElem? (i := 10) rfl), lw_t2 (List.mem_of_getElem? (i := 11) rfl)⟩
theorem lw_p7 : lw_okq (⟨"TreeOdds$Tree", "counts", "(II)V"⟩, 8) := ⟨⟨by decide +kernel, by decide +kernel⟩, lw_t1 (List.mem_of_getElem? (i := 24) rfl), lw_t2 (List.mem_of_getElem? (i := 53) rfl), lw_t2 (List.mem_of_getElem? (i := 54) rfl)⟩
theorem lw_p8 : lw_okq (⟨"TreeOdds", "begins", "(I)V"⟩, 24) := ⟨⟨by decide +kernel, by decide +kernel⟩, lw_t1 (List.mem_of_getElem? (i := 14) rfl), lw_t2 (List.mem_of_getElem? (i := 85) rfl), lw_t2 (List.mem_of_getElem? (i := 86) rfl)⟩
theorem lw_p9 : lw_okq (⟨"TreeOdds", "no", "()I"⟩, 24) := ⟨⟨by decide +kernel, by decide +kernel⟩, lw_t1 (List.mem_of_getElem? (i := 14) rfl), lw_t2 (List.mem_of_getElem? (i := 97) rfl), lw_t2 (List.mem_of_getElem? (i := 98) rfl)⟩
theorem lw_p10 : lw_okq (⟨"TreeOdds", "isNode", "(II)Z"⟩, 24) := ⟨⟨by decide +kernel, by decide +kernel⟩, lw_t1 (List.mem_of_getElem? (i := 14) rfl), lw_t2 (List.mem_of_getElem? (i := 117) rfl), lw_t2 (List.mem_of_getElem? (i := 118) rfl)⟩
theorem lw_p11 : lw_okq (⟨"TreeOdds", "all", "()I"⟩, 24) := ⟨⟨by decide +kernel, by decide +kernel⟩, lw_t1 (List.mem_of_getElem? (i := 14) rfl), lw_t2 (List.mem_of_getElem? (i := 127) rfl), lw_t2 (List.mem_of_getElem? (i := 128) rfl)⟩
theorem lw_p12 : lw_okq (⟨"TreeOdds", "costOf", "(II)I"⟩, 24) := ⟨⟨by decide +kernel, by decide +kernel⟩, lw_t1 (List.mem_of_getElem? (i := 14) rfl), lw_t2 (List.mem_of_getElem? (i := 135) rfl), lw_t2 (List.mem_of_getElem? (i := 136) rfl)⟩
theorem lw_p13 : lw_okq (⟨"TreeOdds", "next", "(I)I"⟩, 24) := ⟨⟨by decide +kernel, by decide +kernel⟩, lw_t1 (List.mem_of_getElem? (i := 14) rfl), lw_t2 (List.mem_of_getElem? (i := 138) rfl), lw_t2 (List.mem_of_getElem? (i := 139) rfl)⟩
theorem lw_p14 : lw_okq (⟨"TreeOdds", "lambda$costOf$3", "(II)V"⟩, 24) := ⟨⟨by decide +kernel, by decide +kernel⟩, lw_t1 (List.mem_of_getElem? (i := 14) rfl), lw_t2 (List.mem_of_getElem? (i := 141) rfl), lw_t2 (List.mem_of_getElem? (i := 142) rfl)⟩
theorem lw_p15 : lw_okq (⟨"TreeOdds", "gathers", "(II)V"⟩, 24) := ⟨⟨by decide +kernel, by decide +kernel⟩, lw_t1 (List.mem_of_getElem? (i := 14) rfl), lw_t2 (List.mem_of_getElem? (i := 177) rfl), lw_t2 (List.mem_of_getElem? (i := 178) rfl)⟩
def lw_privs_1 : List (MethodName × Nat) := [(⟨"TreeOdds", "last", "(II)I"⟩, 24), (⟨"TreeOdds", "guess", "(I)LTreeOdds$Guess;"⟩, 24), (⟨"TreeOdds", "bad", "()I"⟩, 24), (⟨"TreeOdds", "refuses", "(II)I"⟩, 24), (⟨"TreeOdds", "full", "()I"⟩, 24), (⟨"TreeOdds", "leaves", "()V"⟩, 24), (⟨"TreeOdds", "comes", "(I)I"⟩, 24), (⟨"TreeOdds$Tree", "counts", "(II)V"⟩, 8), (⟨"TreeOdds", "begins", "(I)V"⟩, 24), (⟨"TreeOdds", "no", "()I"⟩, 24), (⟨"TreeOdds", "isNode", "(II)Z"⟩, 24), (⟨"TreeOdds", "all", "()I"⟩, 24), (⟨"TreeOdds", "costOf", "(II)I"⟩, 24), (⟨"TreeOdds", "next", "(I)I"⟩, 24), (⟨"TreeOdds", "lambda$costOf$3", "(II)V"⟩, 24), (⟨"TreeOdds", "gathers", "(II)V"⟩, 24)]
theorem lw_r1 : ∀ q ∈ lw_privs_1, lw_okq q := List.forall_mem_cons.mpr ⟨lw_p0, List.forall_mem_cons.mpr ⟨lw_p1, List.forall_mem_cons.mpr ⟨lw_p2, List.forall_mem_cons.mpr ⟨lw_p3, List.forall_mem_cons.mpr ⟨lw_p4, List.forall_mem_cons.mpr ⟨lw_p5, List.forall_mem_cons.mpr ⟨lw_p6, List.forall_mem_cons.mpr ⟨lw_p7, List.forall_mem_cons.mpr ⟨lw_p8, List.forall_mem_cons.mpr ⟨lw_p9, List.forall_mem_cons.mpr ⟨lw_p10, List.forall_mem_cons.mpr ⟨lw_p11, List.forall_mem_cons.mpr ⟨lw_p12, List.forall_mem_cons.mpr ⟨lw_p13, List.forall_mem_cons.mpr ⟨lw_p14, List.forall_mem_cons.mpr ⟨lw_p15, fun _ h => absurd h List.not_mem_nil⟩⟩⟩⟩⟩⟩⟩⟩⟩⟩⟩⟩⟩⟩⟩⟩
theorem lw_p16 : lw_okq (⟨"TreeOdds", "settles", "()V"⟩, 24) := ⟨⟨by decide +kernel, by decide +kernel⟩, lw_t1 (List.mem_of_getElem? (i := 14) rfl), lw_t2 (List.mem_of_getElem? (i := 185) rfl), lw_t2 (List.mem_of_getElem? (i := 186) rfl)⟩
theorem lw_p17 : lw_okq (⟨"TreeOdds", "leafCost", "(II)I"⟩, 24) := ⟨⟨by decide +kernel, by decide +kernel⟩, lw_t1 (List.mem_of_getElem? (i := 14) rfl), lw_t2 (List.mem_of_getElem? (i := 189) rfl), lw_t2 (List.mem_of_getElem? (i := 190) rfl)⟩
theorem lw_p18 : lw_okq (⟨"TreeOdds", "treeOf", "(III)I"⟩, 24) := ⟨⟨by decide +kernel, by decide +kernel⟩, lw_t1 (List.mem_of_getElem? (i := 14) rfl), lw_t2 (List.mem_of_getElem? (i := 196) rfl), lw_t2 (List.mem_of_getElem? (i := 197) rfl)⟩
theorem lw_p19 : lw_okq (⟨"TreeOdds$Writing", "lambda$writes$0", "(I)I"⟩, 6) := ⟨⟨by decide +kernel, by decide +kernel⟩, lw_t1 (List.mem_of_getElem? (i := 59) rfl), lw_t2 (List.mem_of_getElem? (i := 217) rfl), lw_t2 (List.mem_of_getElem? (i := 218) rfl)⟩
theorem lw_p20 : lw_okq (⟨"TreeOdds$Writing", "signs", "(II)V"⟩, 6) := ⟨⟨by decide +kernel, by decide +kernel⟩, lw_t1 (List.mem_of_getElem? (i := 59) rfl), lw_t2 (List.mem_of_getElem? (i := 220) rfl), lw_t2 (List.mem_of_getElem? (i := 221) rfl)⟩
theorem lw_p21 : lw_okq (⟨"TreeOdds$Writing", "part", "(I)J"⟩, 6) := ⟨⟨by decide +kernel, by decide +kernel⟩, lw_t1 (List.mem_of_getElem? (i := 59) rfl), lw_t2 (List.mem_of_getElem? (i := 224) rfl), lw_t2 (List.mem_of_getElem? (i := 225) rfl)⟩
theorem lw_p22 : lw_okq (⟨"TreeOdds$Writing", "out", "()V"⟩, 6) := ⟨⟨by decide +kernel, by decide +kernel⟩, lw_t1 (List.mem_of_getElem? (i := 59) rfl), lw_t2 (List.mem_of_getElem? (i := 230) rfl), lw_t2 (List.mem_of_getElem? (i := 231) rfl)⟩
theorem lw_p23 : lw_okq (⟨"TreeOdds$Writing", "takes", "()V"⟩, 6) := ⟨⟨by decide +kernel, by decide +kernel⟩, lw_t1 (List.mem_of_getElem? (i := 59) rfl), lw_t3 (List.mem_of_getElem? (i := 5) rfl), lw_t3 (List.mem_of_getElem? (i := 6) rfl)⟩
theorem lw_p24 : lw_okq (⟨"TreeOdds$Writing", "lambda$reads$1", "(I)I"⟩, 6) := ⟨⟨by decide +kernel, by decide +kernel⟩, lw_t1 (List.mem_of_getElem? (i := 59) rfl), lw_t3 (List.mem_of_getElem? (i := 8) rfl), lw_t3 (List.mem_of_getElem? (i := 9) rfl)⟩
theorem lw_p25 : lw_okq (⟨"TreeOdds$Writing", "reads", "(I)I"⟩, 6) := ⟨⟨by decide +kernel, by decide +kernel⟩, lw_t1 (List.mem_of_getElem? (i := 59) rfl), lw_t3 (List.mem_of_getElem? (i := 12) rfl), lw_t3 (List.mem_of_getElem? (i := 13) rfl)⟩
theorem lw_p26 : lw_okq (⟨"TreeOdds$Writing", "lambda$reads$2", "(II)V"⟩, 6) := ⟨⟨by decide +kernel, by decide +kernel⟩, lw_t1 (List.mem_of_getElem? (i := 59) rfl), lw_t3 (List.mem_of_getElem? (i := 15) rfl), lw_t3 (List.mem_of_getElem? (i := 16) rfl)⟩
theorem lw_p27 : lw_okq (⟨"TreeOdds$Reader", "goesOn", "()V"⟩, 4) := ⟨⟨by decide +kernel, by decide +kernel⟩, lw_t1 (List.mem_of_getElem? (i := 88) rfl), lw_t3 (List.mem_of_getElem? (i := 37) rfl), lw_t3 (List.mem_of_getElem? (i := 38) rfl)⟩
theorem lw_p28 : lw_okq (⟨"TreeOdds$Reader", "isAt", "(CC)Z"⟩, 4) := ⟨⟨by decide +kernel, by decide +kernel⟩, lw_t1 (List.mem_of_getElem? (i := 88) rfl), lw_t3 (List.mem_of_getElem? (i := 41) rfl), lw_t3 (List.mem_of_getElem? (i := 42) rfl)⟩
theorem lw_p29 : lw_okq (⟨"TreeOdds$Reader", "group", "()V"⟩, 4) := ⟨⟨by decide +kernel, by decide +kernel⟩, lw_t1 (List.mem_of_getElem? (i := 88) rfl), lw_t3 (List.mem_of_getElem? (i := 45) rfl), lw_t3 (List.mem_of_getElem? (i := 46) rfl)⟩
theorem lw_p30 : lw_okq (⟨"TreeOdds$Reader", "sign", "()V"⟩, 4) := ⟨⟨by decide +kernel, by decide +kernel⟩, lw_t1 (List.mem_of_getElem? (i := 88) rfl), lw_t3 (List.mem_of_getElem? (i := 49) rfl), lw_t3 (List.mem_of_getElem? (i := 50) rfl)⟩
theorem lw_p31 : lw_okq (⟨"TreeOdds$Reader", "wants", "(Z)V"⟩, 4) := ⟨⟨by decide +kernel, by decide +kernel⟩, lw_t1 (List.mem_of_getElem? (i := 88) rfl), lw_t3 (List.mem_of_getElem? (i := 53) rfl), lw_t3 (List.mem_of_getElem? (i := 54) rfl)⟩
def lw_privs_2 : List (MethodName × Nat) := [(⟨"TreeOdds", "settles", "()V"⟩, 24), (⟨"TreeOdds", "leafCost", "(II)I"⟩, 24), (⟨"TreeOdds", "treeOf", "(III)I"⟩, 24), (⟨"TreeOdds$Writing", "lambda$writes$0", "(I)I"⟩, 6), (⟨"TreeOdds$Writing", "signs", "(II)V"⟩, 6), (⟨"TreeOdds$Writing", "part", "(I)J"⟩, 6), (⟨"TreeOdds$Writing", "out", "()V"⟩, 6), (⟨"TreeOdds$Writing", "takes", "()V"⟩, 6), (⟨"TreeOdds$Writing", "lambda$reads$1", "(I)I"⟩, 6), (⟨"TreeOdds$Writing", "reads", "(I)I"⟩, 6), (⟨"TreeOdds$Writing", "lambda$reads$2", "(II)V"⟩, 6), (⟨"TreeOdds$Reader", "goesOn", "()V"⟩, 4), (⟨"TreeOdds$Reader", "isAt", "(CC)Z"⟩, 4), (⟨"TreeOdds$Reader", "group", "()V"⟩, 4), (⟨"TreeOdds$Reader", "sign", "()V"⟩, 4), (⟨"TreeOdds$Reader", "wants", "(Z)V"⟩, 4)]
theorem lw_r2 : ∀ q ∈ lw_privs_2, lw_okq q := List.forall_mem_cons.mpr ⟨lw_p16, List.forall_mem_cons.mpr ⟨lw_p17, List.forall_mem_cons.mpr ⟨lw_p18, List.forall_mem_cons.mpr ⟨lw_p19, List.forall_mem_cons.mpr ⟨lw_p20, List.forall_mem_cons.mpr ⟨lw_p21, List.forall_mem_cons.mpr ⟨lw_p22, List.forall_mem_cons.mpr ⟨lw_p23, List.forall_mem_cons.mpr ⟨lw_p24, List.forall_mem_cons.mpr ⟨lw_p25, List.forall_mem_cons.mpr ⟨lw_p26, List.forall_mem_cons.mpr ⟨lw_p27, List.forall_mem_cons.mpr ⟨lw_p28, List.forall_mem_cons.mpr ⟨lw_p29, List.forall_mem_cons.mpr ⟨lw_p30, List.forall_mem_cons.mpr ⟨lw_p31, fun _ h => absurd h List.not_mem_nil⟩⟩⟩⟩⟩⟩⟩⟩⟩⟩⟩⟩⟩⟩⟩⟩
theorem lw_p32 : lw_okq (⟨"java/lang/Throwable", "fillInStackTrace", "(I)Ljava/lang/Throwable;"⟩, 6) := ⟨⟨by decide +kernel, by decide +kernel⟩, lw_t3 (List.mem_of_getElem? (i := 91) rfl), lw_t3 (List.mem_of_getElem? (i := 89) rfl), lw_t3 (List.mem_of_getElem? (i := 90) rfl)⟩
theorem lw_p33 : lw_okq (⟨"TreeOdds$Reader", "times", "()I"⟩, 4) := ⟨⟨by decide +kernel, by decide +kernel⟩, lw_t1 (List.mem_of_getElem? (i := 88) rfl), lw_t3 (List.mem_of_getElem? (i := 120) rfl), lw_t3 (List.mem_of_getElem? (i := 121) rfl)⟩
theorem lw_p34 : lw_okq (⟨"TreeOdds$Reader", "repeats", "(III)V"⟩, 4) := ⟨⟨by decide +kernel, by decide +kernel⟩, lw_t1 (List.mem_of_getElem? (i := 88) rfl), lw_t3 (List.mem_of_getElem? (i := 124) rfl), lw_t3 (List.mem_of_getElem? (i := 125) rfl)⟩
theorem lw_p35 : lw_okq (⟨"TreeOdds", "countOf", "(I)I"⟩, 24) := ⟨⟨by decide +kernel, by decide +kernel⟩, lw_t1 (List.mem_of_getElem? (i := 14) rfl), lw_t3 (List.mem_of_getElem? (i := 137) rfl), lw_t3 (List.mem_of_getElem? (i := 138) rfl)⟩
theorem lw_p36 : lw_okq (⟨"TreeOddsModel", "bad", "(I)I"⟩, 27) := ⟨⟨by decide +kernel, by decide +kernel⟩, lw_t3 (List.mem_of_getElem? (i := 147) rfl), lw_t4 (List.mem_of_getElem? (i := 2) rfl), lw_t4 (List.mem_of_getElem? (i := 3) rfl)⟩
theorem lw_p37 : lw_okq (⟨"TreeOddsModel", "many", "()I"⟩, 27) := ⟨⟨by decide +kernel, by decide +kernel⟩, lw_t3 (List.mem_of_getElem? (i := 147) rfl), lw_t4 (List.mem_of_getElem? (i := 6) rfl), lw_t4 (List.mem_of_getElem? (i := 7) rfl)⟩
theorem lw_p38 : lw_okq (⟨"TreeOddsModel", "full", "()I"⟩, 27) := ⟨⟨by decide +kernel, by decide +kernel⟩, lw_t3 (List.mem_of_getElem? (i := 147) rfl), lw_t4 (List.mem_of_getElem? (i := 10) rfl), lw_t4 (List.mem_of_getElem? (i := 11) rfl)⟩
theorem lw_p39 : lw_okq (⟨"TreeOddsModel", "keep", "()V"⟩, 27) := ⟨⟨by decide +kernel, by decide +kernel⟩, lw_t3 (List.mem_of_getElem? (i := 147) rfl), lw_t4 (List.mem_of_getElem? (i := 14) rfl), lw_t4 (List.mem_of_getElem? (i := 15) rfl)⟩
theorem lw_p40 : lw_okq (⟨"TreeOddsModel", "adds", "(I)V"⟩, 27) := ⟨⟨by decide +kernel, by decide +kernel⟩, lw_t3 (List.mem_of_getElem? (i := 147) rfl), lw_t4 (List.mem_of_getElem? (i := 18) rfl), lw_t4 (List.mem_of_getElem? (i := 19) rfl)⟩
theorem lw_p41 : lw_okq (⟨"TreeOddsModel", "costFrom", "(I)I"⟩, 27) := ⟨⟨by decide +kernel, by decide +kernel⟩, lw_t3 (List.mem_of_getElem? (i := 147) rfl), lw_t4 (List.mem_of_getElem? (i := 22) rfl), lw_t4 (List.mem_of_getElem? (i := 23) rfl)⟩
theorem lw_p42 : lw_okq (⟨"TreeOddsModel", "goesNow", "()I"⟩, 27) := ⟨⟨by decide +kernel, by decide +kernel⟩, lw_t3 (List.mem_of_getElem? (i := 147) rfl), lw_t4 (List.mem_of_getElem? (i := 26) rfl), lw_t4 (List.mem_of_getElem? (i := 27) rfl)⟩
theorem lw_p43 : lw_okq (⟨"TreeOddsModel", "depth", "()I"⟩, 27) := ⟨⟨by decide +kernel, by decide +kernel⟩, lw_t3 (List.mem_of_getElem? (i := 147) rfl), lw_t4 (List.mem_of_getElem? (i := 30) rfl), lw_t4 (List.mem_of_getElem? (i := 31) rfl)⟩
theorem lw_p44 : lw_okq (⟨"TreeOddsModel", "guesser", "()I"⟩, 27) := ⟨⟨by decide +kernel, by decide +kernel⟩, lw_t3 (List.mem_of_getElem? (i := 147) rfl), lw_t4 (List.mem_of_getElem? (i := 34) rfl), lw_t4 (List.mem_of_getElem? (i := 35) rfl)⟩
theorem lw_p45 : lw_okq (⟨"TreeOddsModel", "goes", "(II)I"⟩, 27) := ⟨⟨by decide +kernel, by decide +kernel⟩, lw_t3 (List.mem_of_getElem? (i := 147) rfl), lw_t4 (List.mem_of_getElem? (i := 38) rfl), lw_t4 (List.mem_of_getElem? (i := 39) rfl)⟩
theorem lw_p46 : lw_okq (⟨"TreeOddsModel", "begins", "(II)V"⟩, 27) := ⟨⟨by decide +kernel, by decide +kernel⟩, lw_t3 (List.mem_of_getElem? (i := 147) rfl), lw_t4 (List.mem_of_getElem? (i := 42) rfl), lw_t4 (List.mem_of_getElem? (i := 43) rfl)⟩
theorem lw_p47 : lw_okq (⟨"TreeOddsModel", "guesses", "()I"⟩, 27) := ⟨⟨by decide +kernel, by decide +kernel⟩, lw_t3 (List.mem_of_getElem? (i := 147) rfl), lw_t4 (List.mem_of_getElem? (i := 47) rfl), lw_t4 (List.mem_of_getElem? (i := 48) rfl)⟩
def lw_privs_3 : List (MethodName × Nat) := [(⟨"java/lang/Throwable", "fillInStackTrace", "(I)Ljava/lang/Throwable;"⟩, 6), (⟨"TreeOdds$Reader", "times", "()I"⟩, 4), (⟨"TreeOdds$Reader", "repeats", "(III)V"⟩, 4), (⟨"TreeOdds", "countOf", "(I)I"⟩, 24), (⟨"TreeOddsModel", "bad", "(I)I"⟩, 27), (⟨"TreeOddsModel", "many", "()I"⟩, 27), (⟨"TreeOddsModel", "full", "()I"⟩, 27), (⟨"TreeOddsModel", "keep", "()V"⟩, 27), (⟨"TreeOddsModel", "adds", "(I)V"⟩, 27), (⟨"TreeOddsModel", "costFrom", "(I)I"⟩, 27), (⟨"TreeOddsModel", "goesNow", "()I"⟩, 27), (⟨"TreeOddsModel", "depth", "()I"⟩, 27), (⟨"TreeOddsModel", "guesser", "()I"⟩, 27), (⟨"TreeOddsModel", "goes", "(II)I"⟩, 27), (⟨"TreeOddsModel", "begins", "(II)V"⟩, 27), (⟨"TreeOddsModel", "guesses", "()I"⟩, 27)]
theorem lw_r3 : ∀ q ∈ lw_privs_3, lw_okq q := List.forall_mem_cons.mpr ⟨lw_p32, List.forall_mem_cons.mpr ⟨lw_p33, List.forall_mem_cons.mpr ⟨lw_p34, List.forall_mem_cons.mpr ⟨lw_p35, List.forall_mem_cons.mpr ⟨lw_p36, List.forall_mem_cons.mpr ⟨lw_p37, List.forall_mem_cons.mpr ⟨lw_p38, List.forall_mem_cons.mpr ⟨lw_p39, List.forall_mem_cons.mpr ⟨lw_p40, List.forall_mem_cons.mpr ⟨lw_p41, List.forall_mem_cons.mpr ⟨lw_p42, List.forall_mem_cons.mpr ⟨lw_p43, List.forall_mem_cons.mpr ⟨lw_p44, List.forall_mem_cons.mpr ⟨lw_p45, List.forall_mem_cons.mpr ⟨lw_p46, List.forall_mem_cons.mpr ⟨lw_p47, fun _ h => absurd h List.not_mem_nil⟩⟩⟩⟩⟩⟩⟩⟩⟩⟩⟩⟩⟩⟩⟩⟩
theorem lw_p48 : lw_okq (⟨"TreeOddsModel", "ownOf", "(I)I"⟩, 27) := ⟨⟨by decide +kernel, by decide +kernel⟩, lw_t3 (List.mem_of_getElem? (i := 147) rfl), lw_t4 (List.mem_of_getElem? (i := 54) rfl), lw_t4 (List.mem_of_getElem? (i := 55) rfl)⟩
theorem lw_p49 : lw_okq (⟨"TreeOddsModel", "comes", "(I)V"⟩, 27) := ⟨⟨by decide +kernel, by decide +kernel⟩, lw_t3 (List.mem_of_getElem? (i := 147) rfl), lw_t4 (List.mem_of_getElem? (i := 71) rfl), lw_t4 (List.mem_of_getElem? (i := 72) rfl)⟩
theorem lw_p50 : lw_okq (⟨"TreeOddsModel", "costAt", "(I)I"⟩, 27) := ⟨⟨by decide +kernel, by decide +kernel⟩, lw_t3 (List.mem_of_getElem? (i := 147) rfl), lw_t4 (List.mem_of_getElem? (i := 78) rfl), lw_t4 (List.mem_of_getElem? (i := 79) rfl)⟩
theorem lw_p51 : lw_okq (⟨"TreeOddsModel", "no", "()I"⟩, 27) := ⟨⟨by decide +kernel, by decide +kernel⟩, lw_t3 (List.mem_of_getElem? (i := 147) rfl), lw_t4 (List.mem_of_getElem? (i := 109) rfl), lw_t4 (List.mem_of_getElem? (i := 110) rfl)⟩
theorem lw_p52 : lw_okq (⟨"TreeOddsModel", "guessNow", "()I"⟩, 27) := ⟨⟨by decide +kernel, by decide +kernel⟩, lw_t3 (List.mem_of_getElem? (i := 147) rfl), lw_t4 (List.mem_of_getElem? (i := 121) rfl), lw_t4 (List.mem_of_getElem? (i := 122) rfl)⟩
theorem lw_p53 : lw_okq (⟨"TreeOddsModel", "isNode", "(II)Z"⟩, 27) := ⟨⟨by decide +kernel, by decide +kernel⟩, lw_t3 (List.mem_of_getElem? (i := 147) rfl), lw_t4 (List.mem_of_getElem? (i := 133) rfl), lw_t4 (List.mem_of_getElem? (i := 134) rfl)⟩
theorem lw_p54 : lw_okq (⟨"TreeOddsModel", "treeOf", "(I)I"⟩, 27) := ⟨⟨by decide +kernel, by decide +kernel⟩, lw_t3 (List.mem_of_getElem? (i := 147) rfl), lw_t4 (List.mem_of_getElem? (i := 159) rfl), lw_t4 (List.mem_of_getElem? (i := 160) rfl)⟩
theorem lw_p55 : lw_okq (⟨"TreeOddsModel", "plants", "()V"⟩, 27) := ⟨⟨by decide +kernel, by decide +kernel⟩, lw_t3 (List.mem_of_getElem? (i := 147) rfl), lw_t4 (List.mem_of_getElem? (i := 163) rfl), lw_t4 (List.mem_of_getElem? (i := 164) rfl)⟩
theorem lw_p56 : lw_okq (⟨"TreeOddsModel", "leaves", "(Z)I"⟩, 27) := ⟨⟨by decide +kernel, by decide +kernel⟩, lw_t3 (List.mem_of_getElem? (i := 147) rfl), lw_t4 (List.mem_of_getElem? (i := 167) rfl), lw_t4 (List.mem_of_getElem? (i := 168) rfl)⟩
theorem lw_p57 : lw_okq (⟨"TreeOddsModel", "writes", "()V"⟩, 27) := ⟨⟨by decide +kernel, by decide +kernel⟩, lw_t3 (List.mem_of_getElem? (i := 147) rfl), lw_t4 (List.mem_of_getElem? (i := 179) rfl), lw_t4 (List.mem_of_getElem? (i := 180) rfl)⟩
theorem lw_p58 : lw_okq (⟨"TreeOddsModel", "goesOut", "()V"⟩, 27) := ⟨⟨by decide +kernel, by decide +kernel⟩, lw_t3 (List.mem_of_getElem? (i := 147) rfl), lw_t4 (List.mem_of_getElem? (i := 185) rfl), lw_t4 (List.mem_of_getElem? (i := 186) rfl)⟩
theorem lw_p59 : lw_okq (⟨"TreeOddsModel", "byteAt", "(I)I"⟩, 27) := ⟨⟨by decide +kernel, by decide +kernel⟩, lw_t3 (List.mem_of_getElem? (i := 147) rfl), lw_t4 (List.mem_of_getElem? (i := 196) rfl), lw_t4 (List.mem_of_getElem? (i := 197) rfl)⟩
theorem lw_p60 : lw_okq (⟨"TreeOddsModel", "here", "()I"⟩, 27) := ⟨⟨by decide +kernel, by decide +kernel⟩, lw_t3 (List.mem_of_getElem? (i := 147) rfl), lw_t4 (List.mem_of_getElem? (i := 213) rfl), lw_t4 (List.mem_of_getElem? (i := 214) rfl)⟩
theorem lw_p61 : lw_okq (⟨"TreeOddsModel", "readsMany", "()Z"⟩, 27) := ⟨⟨by decide +kernel, by decide +kernel⟩, lw_t3 (List.mem_of_getElem? (i := 147) rfl), lw_t4 (List.mem_of_getElem? (i := 217) rfl), lw_t4 (List.mem_of_getElem? (i := 218) rfl)⟩
theorem lw_p62 : lw_okq (⟨"TreeOddsModel", "readsSign", "()Z"⟩, 27) := ⟨⟨by decide +kernel, by decide +kernel⟩, lw_t3 (List.mem_of_getElem? (i := 147) rfl), lw_t4 (List.mem_of_getElem? (i := 221) rfl), lw_t4 (List.mem_of_getElem? (i := 222) rfl)⟩
theorem lw_p63 : lw_okq (⟨"TreeOddsModel", "times", "()I"⟩, 27) := ⟨⟨by decide +kernel, by decide +kernel⟩, lw_t3 (List.mem_of_getElem? (i := 147) rfl), lw_t4 (List.mem_of_getElem? (i := 225) rfl), lw_t4 (List.mem_of_getElem? (i := 226) rfl)⟩
def lw_privs_4 : List (MethodName × Nat) := [(⟨"TreeOddsModel", "ownOf", "(I)I"⟩, 27), (⟨"TreeOddsModel", "comes", "(I)V"⟩, 27), (⟨"TreeOddsModel", "costAt", "(I)I"⟩, 27), (⟨"TreeOddsModel", "no", "()I"⟩, 27), (⟨"TreeOddsModel", "guessNow", "()I"⟩, 27), (⟨"TreeOddsModel", "isNode", "(II)Z"⟩, 27), (⟨"TreeOddsModel", "treeOf", "(I)I"⟩, 27), (⟨"TreeOddsModel", "plants", "()V"⟩, 27), (⟨"TreeOddsModel", "leaves", "(Z)I"⟩, 27), (⟨"TreeOddsModel", "writes", "()V"⟩, 27), (⟨"TreeOddsModel", "goesOut", "()V"⟩, 27), (⟨"TreeOddsModel", "byteAt", "(I)I"⟩, 27), (⟨"TreeOddsModel", "here", "()I"⟩, 27), (⟨"TreeOddsModel", "readsMany", "()Z"⟩, 27), (⟨"TreeOddsModel", "readsSign", "()Z"⟩, 27), (⟨"TreeOddsModel", "times", "()I"⟩, 27)]
theorem lw_r4 : ∀ q ∈ lw_privs_4, lw_okq q := List.forall_mem_cons.mpr ⟨lw_p48, List.forall_mem_cons.mpr ⟨lw_p49, List.forall_mem_cons.mpr ⟨lw_p50, List.forall_mem_cons.mpr ⟨lw_p51, List.forall_mem_cons.mpr ⟨lw_p52, List.forall_mem_cons.mpr ⟨lw_p53, List.forall_mem_cons.mpr ⟨lw_p54, List.forall_mem_cons.mpr ⟨lw_p55, List.forall_mem_cons.mpr ⟨lw_p56, List.forall_mem_cons.mpr ⟨lw_p57, List.forall_mem_cons.mpr ⟨lw_p58, List.forall_mem_cons.mpr ⟨lw_p59, List.forall_mem_cons.mpr ⟨lw_p60, List.forall_mem_cons.mpr ⟨lw_p61, List.forall_mem_cons.mpr ⟨lw_p62, List.forall_mem_cons.mpr ⟨lw_p63, fun _ h => absurd h List.not_mem_nil⟩⟩⟩⟩⟩⟩⟩⟩⟩⟩⟩⟩⟩⟩⟩⟩
theorem lw_p64 : lw_okq (⟨"TreeOddsModel", "isFigure", "(I)Z"⟩, 27) := ⟨⟨by decide +kernel, by decide +kernel⟩, lw_t3 (List.mem_of_getElem? (i := 147) rfl), lw_t4 (List.mem_of_getElem? (i := 229) rfl), lw_t4 (List.mem_of_getElem? (i := 230) rfl)⟩
theorem lw_p65 : lw_okq (⟨"TreeOddsModel", "counted", "(I)I"⟩, 27) := ⟨⟨by decide +kernel, by decide +kernel⟩, lw_t3 (List.mem_of_getElem? (i := 147) rfl), lw_t5 (List.mem_of_getElem? (i := 4) rfl), lw_t5 (List.mem_of_getElem? (i := 5) rfl)⟩
def lw_privs_5 : List (MethodName × Nat) := [(⟨"TreeOddsModel", "isFigure", "(I)Z"⟩, 27), (⟨"TreeOddsModel", "counted", "(I)I"⟩, 27)]
theorem lw_r5 : ∀ q ∈ lw_privs_5, lw_okq q := List.forall_mem_cons.mpr ⟨lw_p64, List.forall_mem_cons.mpr ⟨lw_p65, fun _ h => absurd h List.not_mem_nil⟩⟩
def lw_privs : List (MethodName × Nat) := lw_privs_1 ++ (lw_privs_2 ++ (lw_privs_3 ++ (lw_privs_4 ++ (lw_privs_5))))
def lw_tbl : List Cond := k2_sels lw_privs ++ tables_1
theorem lw_privs_ok : ∀ q ∈ lw_privs, lw_okq q := by
  show ∀ q ∈ lw_privs_1 ++ (lw_privs_2 ++ (lw_privs_3 ++ (lw_privs_4 ++ (lw_privs_5)))), lw_okq q
  exact List.forall_mem_append.mpr ⟨lw_r1, List.forall_mem_append.mpr ⟨lw_r2, List.forall_mem_append.mpr ⟨lw_r3, List.forall_mem_append.mpr ⟨lw_r4, lw_r5⟩⟩⟩⟩
-- ===== ONE list of words for every method: the tables' words that hold all through a run =====
def lw_all : List Cond := lw_tbl.filter goodWord
/-- a word of the tables by its place: claim/WORDS.tsv -/
theorem lw_w {w : Cond} (i : Nat) (h : lw_tbl[i]? = some w) (g : goodWord w = true) : w ∈ lw_all := List.mem_filter.mpr ⟨List.mem_of_getElem? h, g⟩
theorem lw_all_tbl {w : Cond} (h : w ∈ lw_all) : w ∈ lw_tbl := (List.mem_filter.mp h).1
theorem lw_self : GoodIn lw_all lw_all := fun w h => ⟨h, good_of_word (List.mem_filter.mp h).2⟩
/-- a class's field words, by their places -/
theorem lw_in (ws : List Cond) (ps : List Nat) (hp : ws = ps.filterMap (fun i => lw_tbl[i]?)) (hg : ws.all goodWord = true) : ∀ w ∈ ws, w ∈ lw_all := by
  intro w h
  have h1 := List.all_eq_true.mp hg w h
  rw [hp] at h
  obtain ⟨i, -, hi⟩ := List.mem_filterMap.mp h
  exact lw_w i hi h1
/-- the words of a contract for the method y with code b, L locals, answer r -/
abbrev ws_ (y : MethodName) (b : ByteArray) (L : Nat) (r : Option FieldType) : List Cond := Cond.code y b L r :: lw_all
theorem lw_meth {y : MethodName} {b : ByteArray} {L : Nat} {r : Option FieldType} (h : Cond.code y b L r ∈ lw_all) : GoodIn lw_all (ws_ y b L r) := by
  intro w hw
  rcases List.mem_cons.mp hw with e | e
  · rw [e]
    exact lw_self _ h
  · exact lw_self _ e
theorem lw_app {a c : List Cond} (ha : ∀ w ∈ a, w ∈ lw_all) (hc : GoodIn lw_all c) : GoodIn lw_all (a ++ c) := by
  intro w hw
  rcases List.mem_append.mp hw with e | e
  · exact lw_self w (ha w e)
  · exact hc w e
/-- what a call through an object asks: cwV n hts (lw_V ..) -/
theorem lw_V {own : String} {idx : Nat} {C : String} {y : MethodName} {b : ByteArray} {L : Nat} {r : Option FieldType} (h1 : Cond.methodLink own idx y ∈ lw_all) (h2 : Cond.instanceMethod y ∈ lw_all) (h3 : Cond.selects C y y ∈ lw_all) (h4 : Cond.initialized C ∈ lw_all) (h5 : Cond.code y b L r ∈ lw_all) : GoodIn lw_all (wsV own idx C y (ws_ y b L r)) := by
  refine lw_app ?_ (lw_meth h5)
  intro w hw
  simp only [List.mem_cons, List.not_mem_nil, or_false] at hw
  rcases hw with e | e | e | e
  · rw [e]; exact h1
  · rw [e]; exact h2
  · rw [e]; exact h3
  · rw [e]; exact h4
/-- what a static call asks: va_cwS n hts (lw_S ..) -/
theorem lw_S {own : String} {idx : Nat} {y : MethodName} {b : ByteArray} {L : Nat} {r : Option FieldType} (h1 : Cond.methodLink own idx y ∈ lw_all) (h2 : Cond.static y ∈ lw_all) (h3 : Cond.initialized y.cls ∈ lw_all) (h4 : Cond.code y b L r ∈ lw_all) : GoodIn lw_all (va_wsS own idx y (ws_ y b L r)) := by
  refine lw_app ?_ (lw_meth h4)
  intro w hw
  simp only [List.mem_cons, List.not_mem_nil, or_false] at hw
  rcases hw with e | e | e
  · rw [e]; exact h1
  · rw [e]; exact h2
  · rw [e]; exact h3
/-- the words of a contract for a method WITH HANDLERS (hh: its table) -/
abbrev wsW_ (y : MethodName) (b : ByteArray) (L : Nat) (r : Option FieldType) (hh : List (Nat × Nat × Nat × Nat)) : List Cond := Cond.codeWith y b L r hh :: lw_all
theorem lw_methW {y : MethodName} {b : ByteArray} {L : Nat} {r : Option FieldType} {hh : List (Nat × Nat × Nat × Nat)} (h : Cond.codeWith y b L r hh ∈ lw_all) : GoodIn lw_all (wsW_ y b L r hh) := by
  intro w hw
  rcases List.mem_cons.mp hw with e | e
  · rw [e]
    exact lw_self _ h
  · exact lw_self _ e
/-- any list of words by their places (lw_in), good -/
theorem lw_good {ws : List Cond} (h : ∀ w ∈ ws, w ∈ lw_all) : GoodIn lw_all ws := fun w hw => lw_self w (h w hw)
/-- what a call of a method with handlers asks: vx_cwVW n hts (lw_VW ..), vx_cwSW n hts (lw_SW ..) -/
theorem lw_VW {own : String} {idx : Nat} {C : String} {y : MethodName} {b : ByteArray} {L : Nat} {r : Option FieldType} {hh : List (Nat × Nat × Nat × Nat)} (h1 : Cond.methodLink own idx y ∈ lw_all) (h2 : Cond.instanceMethod y ∈ lw_all) (h3 : Cond.selects C y y ∈ lw_all) (h4 : Cond.initialized C ∈ lw_all) (h5 : Cond.codeWith y b L r hh ∈ lw_all) : GoodIn lw_all (wsV own idx C y (wsW_ y b L r hh)) := by
  refine lw_app ?_ (lw_methW h5)
  intro w hw
  simp only [List.mem_cons, List.not_mem_nil, or_false] at hw
  rcases hw with e | e | e | e
  · rw [e]; exact h1
  · rw [e]; exact h2
  · rw [e]; exact h3
  · rw [e]; exact h4
theorem lw_SW {own : String} {idx : Nat} {y : MethodName} {b : ByteArray} {L : Nat} {r : Option FieldType} {hh : List (Nat × Nat × Nat × Nat)} (h1 : Cond.methodLink own idx y ∈ lw_all) (h2 : Cond.static y ∈ lw_all) (h3 : Cond.initialized y.cls ∈ lw_all) (h4 : Cond.codeWith y b L r hh ∈ lw_all) : GoodIn lw_all (va_wsS own idx y (wsW_ y b L r hh)) := by
  refine lw_app ?_ (lw_methW h4)
  intro w hw
  simp only [List.mem_cons, List.not_mem_nil, or_false] at hw
  rcases hw with e | e | e
  · rw [e]; exact h1
  · rw [e]; exact h2
  · rw [e]; exact h3
/-- a word by its place in its run of the tables -/
theorem lw_at {r : List Cond} (hr : ∀ w ∈ r, w ∈ lw_tbl) {w : Cond} (i : Nat) (h : r[i]? = some w) : w ∈ lw_tbl := hr w (List.mem_of_getElem? h)
theorem lw_g {w : Cond} (h : w ∈ lw_tbl) (g : goodWord w = true) : w ∈ lw_all := List.mem_filter.mpr ⟨h, g⟩
theorem lw_ms : ∀ w ∈ k2_sels lw_privs, w ∈ lw_tbl := fun w h => show w ∈ k2_sels lw_privs ++ tables_1 from List.mem_append_left _ h
theorem lw_m1 : ∀ w ∈ tables_1_1, w ∈ lw_tbl := fun w h => show w ∈ k2_sels lw_privs ++ tables_1 from List.mem_append_right (k2_sels lw_privs) (show w ∈ tables_1 from List.mem_append_left _ h)
theorem lw_m2 : ∀ w ∈ tables_1_2, w ∈ lw_tbl := fun w h => show w ∈ k2_sels lw_privs ++ tables_1 from List.mem_append_right (k2_sels lw_privs) (show w ∈ tables_1 from List.mem_append_right _ (List.mem_append_left _ h))
theorem lw_m3 : ∀ w ∈ tables_1_3, w ∈ lw_tbl := fun w h => show w ∈ k2_sels lw_privs ++ tables_1 from List.mem_append_right (k2_sels lw_privs) (show w ∈ tables_1 from List.mem_append_right _ (List.mem_append_right _ (List.mem_append_left _ h)))
theorem lw_m4 : ∀ w ∈ tables_1_4, w ∈ lw_tbl := fun w h => show w ∈ k2_sels lw_privs ++ tables_1 from List.mem_append_right (k2_sels lw_privs) (show w ∈ tables_1 from List.mem_append_right _ (List.mem_append_right _ (List.mem_append_right _ (List.mem_append_left _ h))))
theorem lw_m5 : ∀ w ∈ tables_1_5, w ∈ lw_tbl := fun w h => show w ∈ k2_sels lw_privs ++ tables_1 from List.mem_append_right (k2_sels lw_privs) (show w ∈ tables_1 from List.mem_append_right _ (List.mem_append_right _ (List.mem_append_right _ (List.mem_append_right _ h))))
theorem qs0 : (Cond.selects "TreeOdds" ⟨"TreeOdds", "last", "(II)I"⟩ ⟨"TreeOdds", "last", "(II)I"⟩) ∈ lw_all := lw_g (lw_at lw_ms 0 rfl) rfl
theorem qs1 : (Cond.selects "TreeOdds" ⟨"TreeOdds", "guess", "(I)LTreeOdds$Guess;"⟩ ⟨"TreeOdds", "guess", "(I)LTreeOdds$Guess;"⟩) ∈ lw_all := lw_g (lw_at lw_ms 1 rfl) rfl
theorem qs2 : (Cond.selects "TreeOdds" ⟨"TreeOdds", "bad", "()I"⟩ ⟨"TreeOdds", "bad", "()I"⟩) ∈ lw_all := lw_g (lw_at lw_ms 2 rfl) rfl
theorem qs3 : (Cond.selects "TreeOdds" ⟨"TreeOdds", "refuses", "(II)I"⟩ ⟨"TreeOdds", "refuses", "(II)I"⟩) ∈ lw_all := lw_g (lw_at lw_ms 3 rfl) rfl
theorem qs4 : (Cond.selects "TreeOdds" ⟨"TreeOdds", "full", "()I"⟩ ⟨"TreeOdds", "full", "()I"⟩) ∈ lw_all := lw_g (lw_at lw_ms 4 rfl) rfl
theorem qs5 : (Cond.selects "TreeOdds" ⟨"TreeOdds", "leaves", "()V"⟩ ⟨"TreeOdds", "leaves", "()V"⟩) ∈ lw_all := lw_g (lw_at lw_ms 5 rfl) rfl
theorem qs6 : (Cond.selects "TreeOdds" ⟨"TreeOdds", "comes", "(I)I"⟩ ⟨"TreeOdds", "comes", "(I)I"⟩) ∈ lw_all := lw_g (lw_at lw_ms 6 rfl) rfl
theorem qs7 : (Cond.selects "TreeOdds$Tree" ⟨"TreeOdds$Tree", "counts", "(II)V"⟩ ⟨"TreeOdds$Tree", "counts", "(II)V"⟩) ∈ lw_all := lw_g (lw_at lw_ms 7 rfl) rfl
theorem qs8 : (Cond.selects "TreeOdds" ⟨"TreeOdds", "begins", "(I)V"⟩ ⟨"TreeOdds", "begins", "(I)V"⟩) ∈ lw_all := lw_g (lw_at lw_ms 8 rfl) rfl
theorem qs9 : (Cond.selects "TreeOdds" ⟨"TreeOdds", "no", "()I"⟩ ⟨"TreeOdds", "no", "()I"⟩) ∈ lw_all := lw_g (lw_at lw_ms 9 rfl) rfl
theorem qs10 : (Cond.selects "TreeOdds" ⟨"TreeOdds", "isNode", "(II)Z"⟩ ⟨"TreeOdds", "isNode", "(II)Z"⟩) ∈ lw_all := lw_g (lw_at lw_ms 10 rfl) rfl
theorem qs11 : (Cond.selects "TreeOdds" ⟨"TreeOdds", "all", "()I"⟩ ⟨"TreeOdds", "all", "()I"⟩) ∈ lw_all := lw_g (lw_at lw_ms 11 rfl) rfl
theorem qs12 : (Cond.selects "TreeOdds" ⟨"TreeOdds", "costOf", "(II)I"⟩ ⟨"TreeOdds", "costOf", "(II)I"⟩) ∈ lw_all := lw_g (lw_at lw_ms 12 rfl) rfl
theorem qs13 : (Cond.selects "TreeOdds" ⟨"TreeOdds", "next", "(I)I"⟩ ⟨"TreeOdds", "next", "(I)I"⟩) ∈ lw_all := lw_g (lw_at lw_ms 13 rfl) rfl
theorem qs14 : (Cond.selects "TreeOdds" ⟨"TreeOdds", "lambda$costOf$3", "(II)V"⟩ ⟨"TreeOdds", "lambda$costOf$3", "(II)V"⟩) ∈ lw_all := lw_g (lw_at lw_ms 14 rfl) rfl
theorem qs15 : (Cond.selects "TreeOdds" ⟨"TreeOdds", "gathers", "(II)V"⟩ ⟨"TreeOdds", "gathers", "(II)V"⟩) ∈ lw_all := lw_g (lw_at lw_ms 15 rfl) rfl
theorem qs16 : (Cond.selects "TreeOdds" ⟨"TreeOdds", "settles", "()V"⟩ ⟨"TreeOdds", "settles", "()V"⟩) ∈ lw_all := lw_g (lw_at lw_ms 16 rfl) rfl
theorem qs17 : (Cond.selects "TreeOdds" ⟨"TreeOdds", "leafCost", "(II)I"⟩ ⟨"TreeOdds", "leafCost", "(II)I"⟩) ∈ lw_all := lw_g (lw_at lw_ms 17 rfl) rfl
theorem qs18 : (Cond.selects "TreeOdds" ⟨"TreeOdds", "treeOf", "(III)I"⟩ ⟨"TreeOdds", "treeOf", "(III)I"⟩) ∈ lw_all := lw_g (lw_at lw_ms 18 rfl) rfl
theorem qs19 : (Cond.selects "TreeOdds$Writing" ⟨"TreeOdds$Writing", "lambda$writes$0", "(I)I"⟩ ⟨"TreeOdds$Writing", "lambda$writes$0", "(I)I"⟩) ∈ lw_all := lw_g (lw_at lw_ms 19 rfl) rfl
theorem qs20 : (Cond.selects "TreeOdds$Writing" ⟨"TreeOdds$Writing", "signs", "(II)V"⟩ ⟨"TreeOdds$Writing", "signs", "(II)V"⟩) ∈ lw_all := lw_g (lw_at lw_ms 20 rfl) rfl
theorem qs21 : (Cond.selects "TreeOdds$Writing" ⟨"TreeOdds$Writing", "part", "(I)J"⟩ ⟨"TreeOdds$Writing", "part", "(I)J"⟩) ∈ lw_all := lw_g (lw_at lw_ms 21 rfl) rfl
theorem qs22 : (Cond.selects "TreeOdds$Writing" ⟨"TreeOdds$Writing", "out", "()V"⟩ ⟨"TreeOdds$Writing", "out", "()V"⟩) ∈ lw_all := lw_g (lw_at lw_ms 22 rfl) rfl
theorem qs23 : (Cond.selects "TreeOdds$Writing" ⟨"TreeOdds$Writing", "takes", "()V"⟩ ⟨"TreeOdds$Writing", "takes", "()V"⟩) ∈ lw_all := lw_g (lw_at lw_ms 23 rfl) rfl
theorem qs24 : (Cond.selects "TreeOdds$Writing" ⟨"TreeOdds$Writing", "lambda$reads$1", "(I)I"⟩ ⟨"TreeOdds$Writing", "lambda$reads$1", "(I)I"⟩) ∈ lw_all := lw_g (lw_at lw_ms 24 rfl) rfl
theorem qs25 : (Cond.selects "TreeOdds$Writing" ⟨"TreeOdds$Writing", "reads", "(I)I"⟩ ⟨"TreeOdds$Writing", "reads", "(I)I"⟩) ∈ lw_all := lw_g (lw_at lw_ms 25 rfl) rfl
theorem qs26 : (Cond.selects "TreeOdds$Writing" ⟨"TreeOdds$Writing", "lambda$reads$2", "(II)V"⟩ ⟨"TreeOdds$Writing", "lambda$reads$2", "(II)V"⟩) ∈ lw_all := lw_g (lw_at lw_ms 26 rfl) rfl
theorem qs27 : (Cond.selects "TreeOdds$Reader" ⟨"TreeOdds$Reader", "goesOn", "()V"⟩ ⟨"TreeOdds$Reader", "goesOn", "()V"⟩) ∈ lw_all := lw_g (lw_at lw_ms 27 rfl) rfl
theorem qs28 : (Cond.selects "TreeOdds$Reader" ⟨"TreeOdds$Reader", "isAt", "(CC)Z"⟩ ⟨"TreeOdds$Reader", "isAt", "(CC)Z"⟩) ∈ lw_all := lw_g (lw_at lw_ms 28 rfl) rfl
theorem qs29 : (Cond.selects "TreeOdds$Reader" ⟨"TreeOdds$Reader", "group", "()V"⟩ ⟨"TreeOdds$Reader", "group", "()V"⟩) ∈ lw_all := lw_g (lw_at lw_ms 29 rfl) rfl
theorem qs30 : (Cond.selects "TreeOdds$Reader" ⟨"TreeOdds$Reader", "sign", "()V"⟩ ⟨"TreeOdds$Reader", "sign", "()V"⟩) ∈ lw_all := lw_g (lw_at lw_ms 30 rfl) rfl
theorem qs31 : (Cond.selects "TreeOdds$Reader" ⟨"TreeOdds$Reader", "wants", "(Z)V"⟩ ⟨"TreeOdds$Reader", "wants", "(Z)V"⟩) ∈ lw_all := lw_g (lw_at lw_ms 31 rfl) rfl
theorem qs32 : (Cond.selects "java/lang/Throwable" ⟨"java/lang/Throwable", "fillInStackTrace", "(I)Ljava/lang/Throwable;"⟩ ⟨"java/lang/Throwable", "fillInStackTrace", "(I)Ljava/lang/Throwable;"⟩) ∈ lw_all := lw_g (lw_at lw_ms 32 rfl) rfl
theorem qs33 : (Cond.selects "TreeOdds$Reader" ⟨"TreeOdds$Reader", "times", "()I"⟩ ⟨"TreeOdds$Reader", "times", "()I"⟩) ∈ lw_all := lw_g (lw_at lw_ms 33 rfl) rfl
theorem qs34 : (Cond.selects "TreeOdds$Reader" ⟨"TreeOdds$Reader", "repeats", "(III)V"⟩ ⟨"TreeOdds$Reader", "repeats", "(III)V"⟩) ∈ lw_all := lw_g (lw_at lw_ms 34 rfl) rfl
theorem qs35 : (Cond.selects "TreeOdds" ⟨"TreeOdds", "countOf", "(I)I"⟩ ⟨"TreeOdds", "countOf", "(I)I"⟩) ∈ lw_all := lw_g (lw_at lw_ms 35 rfl) rfl
theorem qs36 : (Cond.selects "TreeOddsModel" ⟨"TreeOddsModel", "bad", "(I)I"⟩ ⟨"TreeOddsModel", "bad", "(I)I"⟩) ∈ lw_all := lw_g (lw_at lw_ms 36 rfl) rfl
theorem qs37 : (Cond.selects "TreeOddsModel" ⟨"TreeOddsModel", "many", "()I"⟩ ⟨"TreeOddsModel", "many", "()I"⟩) ∈ lw_all := lw_g (lw_at lw_ms 37 rfl) rfl
theorem qs38 : (Cond.selects "TreeOddsModel" ⟨"TreeOddsModel", "full", "()I"⟩ ⟨"TreeOddsModel", "full", "()I"⟩) ∈ lw_all := lw_g (lw_at lw_ms 38 rfl) rfl
theorem qs39 : (Cond.selects "TreeOddsModel" ⟨"TreeOddsModel", "keep", "()V"⟩ ⟨"TreeOddsModel", "keep", "()V"⟩) ∈ lw_all := lw_g (lw_at lw_ms 39 rfl) rfl
theorem qs40 : (Cond.selects "TreeOddsModel" ⟨"TreeOddsModel", "adds", "(I)V"⟩ ⟨"TreeOddsModel", "adds", "(I)V"⟩) ∈ lw_all := lw_g (lw_at lw_ms 40 rfl) rfl
theorem qs41 : (Cond.selects "TreeOddsModel" ⟨"TreeOddsModel", "costFrom", "(I)I"⟩ ⟨"TreeOddsModel", "costFrom", "(I)I"⟩) ∈ lw_all := lw_g (lw_at lw_ms 41 rfl) rfl
theorem qs42 : (Cond.selects "TreeOddsModel" ⟨"TreeOddsModel", "goesNow", "()I"⟩ ⟨"TreeOddsModel", "goesNow", "()I"⟩) ∈ lw_all := lw_g (lw_at lw_ms 42 rfl) rfl
theorem qs43 : (Cond.selects "TreeOddsModel" ⟨"TreeOddsModel", "depth", "()I"⟩ ⟨"TreeOddsModel", "depth", "()I"⟩) ∈ lw_all := lw_g (lw_at lw_ms 43 rfl) rfl
theorem qs44 : (Cond.selects "TreeOddsModel" ⟨"TreeOddsModel", "guesser", "()I"⟩ ⟨"TreeOddsModel", "guesser", "()I"⟩) ∈ lw_all := lw_g (lw_at lw_ms 44 rfl) rfl
theorem qs45 : (Cond.selects "TreeOddsModel" ⟨"TreeOddsModel", "goes", "(II)I"⟩ ⟨"TreeOddsModel", "goes", "(II)I"⟩) ∈ lw_all := lw_g (lw_at lw_ms 45 rfl) rfl
theorem qs46 : (Cond.selects "TreeOddsModel" ⟨"TreeOddsModel", "begins", "(II)V"⟩ ⟨"TreeOddsModel", "begins", "(II)V"⟩) ∈ lw_all := lw_g (lw_at lw_ms 46 rfl) rfl
theorem qs47 : (Cond.selects "TreeOddsModel" ⟨"TreeOddsModel", "guesses", "()I"⟩ ⟨"TreeOddsModel", "guesses", "()I"⟩) ∈ lw_all := lw_g (lw_at lw_ms 47 rfl) rfl
theorem qs48 : (Cond.selects "TreeOddsModel" ⟨"TreeOddsModel", "ownOf", "(I)I"⟩ ⟨"TreeOddsModel", "ownOf", "(I)I"⟩) ∈ lw_all := lw_g (lw_at lw_ms 48 rfl) rfl
theorem qs49 : (Cond.selects "TreeOddsModel" ⟨"TreeOddsModel", "comes", "(I)V"⟩ ⟨"TreeOddsModel", "comes", "(I)V"⟩) ∈ lw_all := lw_g (lw_at lw_ms 49 rfl) rfl
theorem qs50 : (Cond.selects "TreeOddsModel" ⟨"TreeOddsModel", "costAt", "(I)I"⟩ ⟨"TreeOddsModel", "costAt", "(I)I"⟩) ∈ lw_all := lw_g (lw_at lw_ms 50 rfl) rfl
theorem qs51 : (Cond.selects "TreeOddsModel" ⟨"TreeOddsModel", "no", "()I"⟩ ⟨"TreeOddsModel", "no", "()I"⟩) ∈ lw_all := lw_g (lw_at lw_ms 51 rfl) rfl
theorem qs52 : (Cond.selects "TreeOddsModel" ⟨"TreeOddsModel", "guessNow", "()I"⟩ ⟨"TreeOddsModel", "guessNow", "()I"⟩) ∈ lw_all := lw_g (lw_at lw_ms 52 rfl) rfl
theorem qs53 : (Cond.selects "TreeOddsModel" ⟨"TreeOddsModel", "isNode", "(II)Z"⟩ ⟨"TreeOddsModel", "isNode", "(II)Z"⟩) ∈ lw_all := lw_g (lw_at lw_ms 53 rfl) rfl
theorem qs54 : (Cond.selects "TreeOddsModel" ⟨"TreeOddsModel", "treeOf", "(I)I"⟩ ⟨"TreeOddsModel", "treeOf", "(I)I"⟩) ∈ lw_all := lw_g (lw_at lw_ms 54 rfl) rfl
theorem qs55 : (Cond.selects "TreeOddsModel" ⟨"TreeOddsModel", "plants", "()V"⟩ ⟨"TreeOddsModel", "plants", "()V"⟩) ∈ lw_all := lw_g (lw_at lw_ms 55 rfl) rfl
theorem qs56 : (Cond.selects "TreeOddsModel" ⟨"TreeOddsModel", "leaves", "(Z)I"⟩ ⟨"TreeOddsModel", "leaves", "(Z)I"⟩) ∈ lw_all := lw_g (lw_at lw_ms 56 rfl) rfl
theorem qs57 : (Cond.selects "TreeOddsModel" ⟨"TreeOddsModel", "writes", "()V"⟩ ⟨"TreeOddsModel", "writes", "()V"⟩) ∈ lw_all := lw_g (lw_at lw_ms 57 rfl) rfl
theorem qs58 : (Cond.selects "TreeOddsModel" ⟨"TreeOddsModel", "goesOut", "()V"⟩ ⟨"TreeOddsModel", "goesOut", "()V"⟩) ∈ lw_all := lw_g (lw_at lw_ms 58 rfl) rfl
theorem qs59 : (Cond.selects "TreeOddsModel" ⟨"TreeOddsModel", "byteAt", "(I)I"⟩ ⟨"TreeOddsModel", "byteAt", "(I)I"⟩) ∈ lw_all := lw_g (lw_at lw_ms 59 rfl) rfl
theorem qs60 : (Cond.selects "TreeOddsModel" ⟨"TreeOddsModel", "here", "()I"⟩ ⟨"TreeOddsModel", "here", "()I"⟩) ∈ lw_all := lw_g (lw_at lw_ms 60 rfl) rfl
theorem qs61 : (Cond.selects "TreeOddsModel" ⟨"TreeOddsModel", "readsMany", "()Z"⟩ ⟨"TreeOddsModel", "readsMany", "()Z"⟩) ∈ lw_all := lw_g (lw_at lw_ms 61 rfl) rfl
theorem qs62 : (Cond.selects "TreeOddsModel" ⟨"TreeOddsModel", "readsSign", "()Z"⟩ ⟨"TreeOddsModel", "readsSign", "()Z"⟩) ∈ lw_all := lw_g (lw_at lw_ms 62 rfl) rfl
theorem qs63 : (Cond.selects "TreeOddsModel" ⟨"TreeOddsModel", "times", "()I"⟩ ⟨"TreeOddsModel", "times", "()I"⟩) ∈ lw_all := lw_g (lw_at lw_ms 63 rfl) rfl
theorem qs64 : (Cond.selects "TreeOddsModel" ⟨"TreeOddsModel", "isFigure", "(I)Z"⟩ ⟨"TreeOddsModel", "isFigure", "(I)Z"⟩) ∈ lw_all := lw_g (lw_at lw_ms 64 rfl) rfl
theorem qs65 : (Cond.selects "TreeOddsModel" ⟨"TreeOddsModel", "counted", "(I)I"⟩ ⟨"TreeOddsModel", "counted", "(I)I"⟩) ∈ lw_all := lw_g (lw_at lw_ms 65 rfl) rfl
