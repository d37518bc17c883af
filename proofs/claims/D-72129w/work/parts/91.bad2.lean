set_option maxRecDepth 16384
theorem bad1.word_code : (Cond.code x code maxLocals ret).before args0 about = true := sv_hand_word (m := ⟨0, 0⟩) (by decide +kernel) rfl (by decide +kernel) (by decide +kernel)
theorem bad1.sv_all_split {α : Type} (p : α → Bool) (n : Nat) (l : List α) (h1 : (l.take n).all p = true) (h2 : (l.drop n).all p = true) : l.all p = true := by
  apply List.all_eq_true.mpr
  intro x hx
  have hx' : x ∈ l.take n ++ l.drop n := by rw [List.take_append_drop]; exact hx
  rcases List.mem_append.mp hx' with h | h
  · exact List.all_eq_true.mp h1 x h
  · exact List.all_eq_true.mp h2 x h
theorem bad1.code0 : (Jvm.Cond.code (⟨"TreeOdds", "<init>", "()V"⟩ : Jvm.MethodName) prog_1_method_6_code 1 none).before args0 about = true :=
  sv_hand_word (m := ⟨2, 5⟩) (by decide +kernel) rfl (by decide +kernel) (by decide +kernel)
theorem bad1.code1 : (Jvm.Cond.code (⟨"java/lang/Object", "<init>", "()V"⟩ : Jvm.MethodName) object_method_1_code 1 none).before args0 about = true :=
  sv_hand_word (m := ⟨1, 0⟩) (by decide +kernel) rfl (by decide +kernel) (by decide +kernel)
theorem bad1.code2 : (Jvm.Cond.code (⟨"TreeOdds$Tree", "<init>", "()V"⟩ : Jvm.MethodName) prog_8_method_1_code 1 none).before args0 about = true :=
  sv_hand_word (m := ⟨3, 0⟩) (by decide +kernel) rfl (by decide +kernel) (by decide +kernel)
theorem bad1.code3 : (Jvm.Cond.code (⟨"TreeOdds$Writing", "<init>", "(LTreeOdds;)V"⟩ : Jvm.MethodName) prog_9_method_1_code 2 none).before args0 about = true :=
  sv_hand_word (m := ⟨4, 0⟩) (by decide +kernel) rfl (by decide +kernel) (by decide +kernel)
theorem bad1.code4 : (Jvm.Cond.code (⟨"TreeOdds$Reader", "<init>", "(LTreeOdds;)V"⟩ : Jvm.MethodName) prog_5_method_1_code 2 none).before args0 about = true :=
  sv_hand_word (m := ⟨5, 0⟩) (by decide +kernel) rfl (by decide +kernel) (by decide +kernel)
theorem bad1.code5 : (Jvm.Cond.code (⟨"TreeOdds", "lambda$new$0", "(II)I"⟩ : Jvm.MethodName) prog_1_method_54_code 2 (some .int)).before args0 about = true :=
  sv_hand_word (m := ⟨2, 53⟩) (by decide +kernel) rfl (by decide +kernel) (by decide +kernel)
theorem bad1.code6 : (Jvm.Cond.code (⟨"TreeOdds", "even", "(II)I"⟩ : Jvm.MethodName) prog_1_method_5_code 2 (some .int)).before args0 about = true :=
  sv_hand_word (m := ⟨2, 4⟩) (by decide +kernel) rfl (by decide +kernel) (by decide +kernel)
theorem bad1.code7 : (Jvm.Cond.code (⟨"TreeOdds$Guesser", "<init>", "(LTreeOdds$Guess;)V"⟩ : Jvm.MethodName) prog_4_method_1_code 2 none).before args0 about = true :=
  sv_hand_word (m := ⟨6, 0⟩) (by decide +kernel) rfl (by decide +kernel) (by decide +kernel)
theorem bad1.code8 : (Jvm.Cond.code (⟨"TreeOdds", "lambda$new$1", "(II)I"⟩ : Jvm.MethodName) prog_1_method_53_code 2 (some .int)).before args0 about = true :=
  sv_hand_word (m := ⟨2, 52⟩) (by decide +kernel) rfl (by decide +kernel) (by decide +kernel)
theorem bad1.code9 : (Jvm.Cond.code (⟨"TreeOdds", "lambda$new$2", "(II)I"⟩ : Jvm.MethodName) prog_1_method_52_code 2 (some .int)).before args0 about = true :=
  sv_hand_word (m := ⟨2, 51⟩) (by decide +kernel) rfl (by decide +kernel) (by decide +kernel)
theorem bad1.code10 : (Jvm.Cond.code (⟨"TreeOdds", "last", "(II)I"⟩ : Jvm.MethodName) prog_1_method_7_code 3 (some .int)).before args0 about = true :=
  sv_hand_word (m := ⟨2, 6⟩) (by decide +kernel) rfl (by decide +kernel) (by decide +kernel)
theorem bad1.code11 : (Jvm.Cond.code (⟨"TreeOdds", "guess", "(I)LTreeOdds$Guess;"⟩ : Jvm.MethodName) prog_1_method_8_code 2 (some (.object "TreeOdds$Guess"))).before args0 about = true :=
  sv_hand_word (m := ⟨2, 7⟩) (by decide +kernel) rfl (by decide +kernel) (by decide +kernel)
theorem bad1.code12 : (Jvm.Cond.code (⟨"TreeOdds$Tree", "begins", "(ILTreeOdds$Guess;)V"⟩ : Jvm.MethodName) prog_8_method_2_code 4 none).before args0 about = true :=
  sv_hand_word (m := ⟨3, 1⟩) (by decide +kernel) rfl (by decide +kernel) (by decide +kernel)
theorem bad1.code13 : (Jvm.Cond.code (⟨"TreeOdds", "sign", "(I)I"⟩ : Jvm.MethodName) prog_1_method_16_code 2 (some .int)).before args0 about = true :=
  sv_hand_word (m := ⟨2, 15⟩) (by decide +kernel) rfl (by decide +kernel) (by decide +kernel)
theorem bad1.code14 : (Jvm.Cond.code (⟨"TreeOdds", "in", "(JJJ)Z"⟩ : Jvm.MethodName) prog_1_method_1_code 6 (some .boolean)).before args0 about = true :=
  sv_hand_word (m := ⟨2, 0⟩) (by decide +kernel) rfl (by decide +kernel) (by decide +kernel)
theorem bad1.code15 : (Jvm.Cond.code (⟨"TreeOdds", "bad", "()I"⟩ : Jvm.MethodName) prog_1_method_10_code 1 (some .int)).before args0 about = true :=
  sv_hand_word (m := ⟨2, 9⟩) (by decide +kernel) rfl (by decide +kernel) (by decide +kernel)
theorem bad1.code16 : (Jvm.Cond.code (⟨"TreeOdds", "refuses", "(II)I"⟩ : Jvm.MethodName) prog_1_method_9_code 3 (some .int)).before args0 about = true :=
  sv_hand_word (m := ⟨2, 8⟩) (by decide +kernel) rfl (by decide +kernel) (by decide +kernel)
set_option maxRecDepth 16384 in
theorem bad1.codes_are_1 : tables_1_1.filter sv_isCode = [Jvm.Cond.code (⟨"TreeOdds", "<init>", "()V"⟩ : Jvm.MethodName) prog_1_method_6_code 1 none,
    Jvm.Cond.code (⟨"java/lang/Object", "<init>", "()V"⟩ : Jvm.MethodName) object_method_1_code 1 none,
    Jvm.Cond.code (⟨"TreeOdds$Tree", "<init>", "()V"⟩ : Jvm.MethodName) prog_8_method_1_code 1 none,
    Jvm.Cond.code (⟨"TreeOdds$Writing", "<init>", "(LTreeOdds;)V"⟩ : Jvm.MethodName) prog_9_method_1_code 2 none,
    Jvm.Cond.code (⟨"TreeOdds$Reader", "<init>", "(LTreeOdds;)V"⟩ : Jvm.MethodName) prog_5_method_1_code 2 none,
    Jvm.Cond.code (⟨"TreeOdds", "lambda$new$0", "(II)I"⟩ : Jvm.MethodName) prog_1_method_54_code 2 (some .int),
    Jvm.Cond.code (⟨"TreeOdds", "even", "(II)I"⟩ : Jvm.MethodName) prog_1_method_5_code 2 (some .int),
    Jvm.Cond.code (⟨"TreeOdds$Guesser", "<init>", "(LTreeOdds$Guess;)V"⟩ : Jvm.MethodName) prog_4_method_1_code 2 none,
    Jvm.Cond.code (⟨"TreeOdds", "lambda$new$1", "(II)I"⟩ : Jvm.MethodName) prog_1_method_53_code 2 (some .int),
    Jvm.Cond.code (⟨"TreeOdds", "lambda$new$2", "(II)I"⟩ : Jvm.MethodName) prog_1_method_52_code 2 (some .int),
    Jvm.Cond.code (⟨"TreeOdds", "last", "(II)I"⟩ : Jvm.MethodName) prog_1_method_7_code 3 (some .int),
    Jvm.Cond.code (⟨"TreeOdds", "guess", "(I)LTreeOdds$Guess;"⟩ : Jvm.MethodName) prog_1_method_8_code 2 (some (.object "TreeOdds$Guess")),
    Jvm.Cond.code (⟨"TreeOdds$Tree", "begins", "(ILTreeOdds$Guess;)V"⟩ : Jvm.MethodName) prog_8_method_2_code 4 none,
    Jvm.Cond.code (⟨"TreeOdds", "sign", "(I)I"⟩ : Jvm.MethodName) prog_1_method_16_code 2 (some .int),
    Jvm.Cond.code (⟨"TreeOdds", "in", "(JJJ)Z"⟩ : Jvm.MethodName) prog_1_method_1_code 6 (some .boolean),
    Jvm.Cond.code (⟨"TreeOdds", "bad", "()I"⟩ : Jvm.MethodName) prog_1_method_10_code 1 (some .int),
    Jvm.Cond.code (⟨"TreeOdds", "refuses", "(II)I"⟩ : Jvm.MethodName) prog_1_method_9_code 3 (some .int)] := by
  first
  | rfl
  | simp only [tables_1_1, List.filter, sv_isCode]
theorem bad1.codes_hold_1 : ∀ c ∈ tables_1_1.filter sv_isCode, c.before args0 about = true := by
  rw [codes_are_1]
  exact List.forall_mem_cons.mpr ⟨code0, List.forall_mem_cons.mpr ⟨code1, List.forall_mem_cons.mpr ⟨code2, List.forall_mem_cons.mpr ⟨code3, List.forall_mem_cons.mpr ⟨code4, List.forall_mem_cons.mpr ⟨code5, List.forall_mem_cons.mpr ⟨code6, List.forall_mem_cons.mpr ⟨code7, List.forall_mem_cons.mpr ⟨code8, List.forall_mem_cons.mpr ⟨code9, List.forall_mem_cons.mpr ⟨code10, List.forall_mem_cons.mpr ⟨code11, List.forall_mem_cons.mpr ⟨code12, List.forall_mem_cons.mpr ⟨code13, List.forall_mem_cons.mpr ⟨code14, List.forall_mem_cons.mpr ⟨code15, List.forall_mem_cons.mpr ⟨code16, List.forall_mem_nil _⟩⟩⟩⟩⟩⟩⟩⟩⟩⟩⟩⟩⟩⟩⟩⟩⟩
set_option maxRecDepth 16384 in
theorem bad1.others_1_0 : (tables_1_1.take 40).all (fun c => sv_isCode c || c.before args0 about) = true := by decide +kernel
set_option maxRecDepth 16384 in
theorem bad1.others_1_1 : ((tables_1_1.drop 40).take 40).all (fun c => sv_isCode c || c.before args0 about) = true := by decide +kernel
set_option maxRecDepth 16384 in
theorem bad1.others_1_2 : (((tables_1_1.drop 40).drop 40).take 40).all (fun c => sv_isCode c || c.before args0 about) = true := by decide +kernel
set_option maxRecDepth 16384 in
theorem bad1.others_1_3 : ((((tables_1_1.drop 40).drop 40).drop 40).take 40).all (fun c => sv_isCode c || c.before args0 about) = true := by decide +kernel
set_option maxRecDepth 16384 in
theorem bad1.others_1_4 : (((((tables_1_1.drop 40).drop 40).drop 40).drop 40).take 40).all (fun c => sv_isCode c || c.before args0 about) = true := by decide +kernel
set_option maxRecDepth 16384 in
theorem bad1.others_1_5 : (((((tables_1_1.drop 40).drop 40).drop 40).drop 40).drop 40).all (fun c => sv_isCode c || c.before args0 about) = true := by decide +kernel
theorem bad1.others_hold_1 : tables_1_1.all (fun c => sv_isCode c || c.before args0 about) = true := sv_all_split _ 40 tables_1_1 others_1_0 (sv_all_split _ 40 (tables_1_1.drop 40) others_1_1 (sv_all_split _ 40 ((tables_1_1.drop 40).drop 40) others_1_2 (sv_all_split _ 40 (((tables_1_1.drop 40).drop 40).drop 40) others_1_3 (sv_all_split _ 40 ((((tables_1_1.drop 40).drop 40).drop 40).drop 40) others_1_4 others_1_5))))
theorem bad1.words_1 : ∀ c ∈ tables_1_1, c.before args0 about = true := fun c h => sv_words others_hold_1 codes_hold_1 c h
theorem bad1.code17 : (Jvm.Cond.code (⟨"TreeOdds", "full", "()I"⟩ : Jvm.MethodName) prog_1_method_12_code 1 (some .int)).before args0 about = true :=
  sv_hand_word (m := ⟨2, 11⟩) (by decide +kernel) rfl (by decide +kernel) (by decide +kernel)
theorem bad1.code18 : (Jvm.Cond.code (⟨"TreeOdds", "leaves", "()V"⟩ : Jvm.MethodName) prog_1_method_13_code 1 none).before args0 about = true :=
  sv_hand_word (m := ⟨2, 12⟩) (by decide +kernel) rfl (by decide +kernel) (by decide +kernel)
theorem bad1.code19 : (Jvm.Cond.code (⟨"TreeOdds", "comes", "(I)I"⟩ : Jvm.MethodName) prog_1_method_14_code 3 (some .int)).before args0 about = true :=
  sv_hand_word (m := ⟨2, 13⟩) (by decide +kernel) rfl (by decide +kernel) (by decide +kernel)
theorem bad1.code20 : (Jvm.Cond.code (⟨"TreeOdds$Tree", "guesses", "()I"⟩ : Jvm.MethodName) prog_8_method_5_code 5 (some .int)).before args0 about = true :=
  sv_hand_word (m := ⟨3, 4⟩) (by decide +kernel) rfl (by decide +kernel) (by decide +kernel)
theorem bad1.code21 : (Jvm.Cond.code (⟨"TreeOdds$Tree", "node", "(II)I"⟩ : Jvm.MethodName) prog_8_method_3_code 2 (some .int)).before args0 about = true :=
  sv_hand_word (m := ⟨3, 2⟩) (by decide +kernel) rfl (by decide +kernel) (by decide +kernel)
theorem bad1.code22 : (Jvm.Cond.code (⟨"TreeOdds$Tree", "own", "(I)I"⟩ : Jvm.MethodName) prog_8_method_4_code 2 (some .int)).before args0 about = true :=
  sv_hand_word (m := ⟨3, 3⟩) (by decide +kernel) rfl (by decide +kernel) (by decide +kernel)
theorem bad1.code23 : (Jvm.Cond.code (⟨"TreeOdds", "held", "(J)I"⟩ : Jvm.MethodName) prog_1_method_2_code 2 (some .int)).before args0 about = true :=
  sv_hand_word (m := ⟨2, 1⟩) (by decide +kernel) rfl (by decide +kernel) (by decide +kernel)
theorem bad1.code24 : (Jvm.Cond.code (⟨"java/lang/Math", "min", "(JJ)J"⟩ : Jvm.MethodName) prog_14_method_70_code 4 (some .long)).before args0 about = true :=
  sv_hand_word (m := ⟨9, 3⟩) (by decide +kernel) rfl (by decide +kernel) (by decide +kernel)
theorem bad1.code25 : (Jvm.Cond.code (⟨"java/lang/Math", "max", "(JJ)J"⟩ : Jvm.MethodName) prog_14_method_66_code 4 (some .long)).before args0 about = true :=
  sv_hand_word (m := ⟨9, 1⟩) (by decide +kernel) rfl (by decide +kernel) (by decide +kernel)
theorem bad1.code26 : (Jvm.Cond.code (⟨"TreeOdds$Tree", "comes", "(I)V"⟩ : Jvm.MethodName) prog_8_method_6_code 8 none).before args0 about = true :=
  sv_hand_word (m := ⟨3, 5⟩) (by decide +kernel) rfl (by decide +kernel) (by decide +kernel)
theorem bad1.code27 : (Jvm.Cond.code (⟨"TreeOdds", "of", "(II)I"⟩ : Jvm.MethodName) prog_1_method_4_code 2 (some .int)).before args0 about = true :=
  sv_hand_word (m := ⟨2, 3⟩) (by decide +kernel) rfl (by decide +kernel) (by decide +kernel)
theorem bad1.code28 : (Jvm.Cond.code (⟨"TreeOdds$Tree", "counts", "(II)V"⟩ : Jvm.MethodName) prog_8_method_7_code 3 none).before args0 about = true :=
  sv_hand_word (m := ⟨3, 6⟩) (by decide +kernel) rfl (by decide +kernel) (by decide +kernel)
theorem bad1.code29 : (Jvm.Cond.code (⟨"TreeOdds", "bits", "(I)I"⟩ : Jvm.MethodName) prog_1_method_3_code 3 (some .int)).before args0 about = true :=
  sv_hand_word (m := ⟨2, 2⟩) (by decide +kernel) rfl (by decide +kernel) (by decide +kernel)
theorem bad1.code30 : (Jvm.Cond.code (⟨"java/lang/Integer", "numberOfLeadingZeros", "(I)I"⟩ : Jvm.MethodName) prog_13_method_47_code 2 (some .int)).before args0 about = true :=
  sv_hand_word (m := ⟨10, 0⟩) (by decide +kernel) rfl (by decide +kernel) (by decide +kernel)
theorem bad1.code31 : (Jvm.Cond.code (⟨"TreeOdds", "signs", "(JI)I"⟩ : Jvm.MethodName) prog_1_method_17_code 6 (some .int)).before args0 about = true :=
  sv_hand_word (m := ⟨2, 16⟩) (by decide +kernel) rfl (by decide +kernel) (by decide +kernel)
theorem bad1.code32 : (Jvm.Cond.code (⟨"TreeOdds", "draw", "(III)I"⟩ : Jvm.MethodName) prog_1_method_18_code 9 (some .int)).before args0 about = true :=
  sv_hand_word (m := ⟨2, 17⟩) (by decide +kernel) rfl (by decide +kernel) (by decide +kernel)
theorem bad1.code33 : (Jvm.Cond.code (⟨"TreeOdds", "sets", "(II)I"⟩ : Jvm.MethodName) prog_1_method_19_code 4 (some .int)).before args0 about = true :=
  sv_hand_word (m := ⟨2, 18⟩) (by decide +kernel) rfl (by decide +kernel) (by decide +kernel)
theorem bad1.code34 : (Jvm.Cond.code (⟨"TreeOdds", "begins", "(I)V"⟩ : Jvm.MethodName) prog_1_method_15_code 3 none).before args0 about = true :=
  sv_hand_word (m := ⟨2, 14⟩) (by decide +kernel) rfl (by decide +kernel) (by decide +kernel)
theorem bad1.code35 : (Jvm.Cond.code (⟨"TreeOdds", "empties", "()I"⟩ : Jvm.MethodName) prog_1_method_20_code 2 (some .int)).before args0 about = true :=
  sv_hand_word (m := ⟨2, 19⟩) (by decide +kernel) rfl (by decide +kernel) (by decide +kernel)
theorem bad1.code36 : (Jvm.Cond.code (⟨"TreeOdds", "drop", "()I"⟩ : Jvm.MethodName) prog_1_method_21_code 1 (some .int)).before args0 about = true :=
  sv_hand_word (m := ⟨2, 20⟩) (by decide +kernel) rfl (by decide +kernel) (by decide +kernel)
theorem bad1.code37 : (Jvm.Cond.code (⟨"TreeOdds", "no", "()I"⟩ : Jvm.MethodName) prog_1_method_11_code 1 (some .int)).before args0 about = true :=
  sv_hand_word (m := ⟨2, 10⟩) (by decide +kernel) rfl (by decide +kernel) (by decide +kernel)
theorem bad1.code38 : (Jvm.Cond.code (⟨"TreeOdds", "at", "(I)I"⟩ : Jvm.MethodName) prog_1_method_22_code 2 (some .int)).before args0 about = true :=
  sv_hand_word (m := ⟨2, 21⟩) (by decide +kernel) rfl (by decide +kernel) (by decide +kernel)
theorem bad1.code39 : (Jvm.Cond.code (⟨"TreeOdds", "guess", "()I"⟩ : Jvm.MethodName) prog_1_method_23_code 1 (some .int)).before args0 about = true :=
  sv_hand_word (m := ⟨2, 22⟩) (by decide +kernel) rfl (by decide +kernel) (by decide +kernel)
theorem bad1.code40 : (Jvm.Cond.code (⟨"TreeOdds", "was", "(II)I"⟩ : Jvm.MethodName) prog_1_method_24_code 3 (some .int)).before args0 about = true :=
  sv_hand_word (m := ⟨2, 23⟩) (by decide +kernel) rfl (by decide +kernel) (by decide +kernel)
theorem bad1.code41 : (Jvm.Cond.code (⟨"TreeOdds", "node", "(III)I"⟩ : Jvm.MethodName) prog_1_method_26_code 5 (some .int)).before args0 about = true :=
  sv_hand_word (m := ⟨2, 25⟩) (by decide +kernel) rfl (by decide +kernel) (by decide +kernel)
theorem bad1.code42 : (Jvm.Cond.code (⟨"TreeOdds", "isNode", "(II)Z"⟩ : Jvm.MethodName) prog_1_method_25_code 3 (some .boolean)).before args0 about = true :=
  sv_hand_word (m := ⟨2, 24⟩) (by decide +kernel) rfl (by decide +kernel) (by decide +kernel)
theorem bad1.code43 : (Jvm.Cond.code (⟨"TreeOdds", "cost", "()I"⟩ : Jvm.MethodName) prog_1_method_30_code 1 (some .int)).before args0 about = true :=
  sv_hand_word (m := ⟨2, 29⟩) (by decide +kernel) rfl (by decide +kernel) (by decide +kernel)
theorem bad1.code44 : (Jvm.Cond.code (⟨"TreeOdds", "all", "()I"⟩ : Jvm.MethodName) prog_1_method_29_code 3 (some .int)).before args0 about = true :=
  sv_hand_word (m := ⟨2, 28⟩) (by decide +kernel) rfl (by decide +kernel) (by decide +kernel)
theorem bad1.code45 : (Jvm.Cond.code (⟨"TreeOdds", "costBy", "(II)I"⟩ : Jvm.MethodName) prog_1_method_31_code 3 (some .int)).before args0 about = true :=
  sv_hand_word (m := ⟨2, 30⟩) (by decide +kernel) rfl (by decide +kernel) (by decide +kernel)
theorem bad1.code46 : (Jvm.Cond.code (⟨"TreeOdds", "costOf", "(II)I"⟩ : Jvm.MethodName) prog_1_method_28_code 3 (some .int)).before args0 about = true :=
  sv_hand_word (m := ⟨2, 27⟩) (by decide +kernel) rfl (by decide +kernel) (by decide +kernel)
theorem bad1.code47 : (Jvm.Cond.code (⟨"TreeOdds", "next", "(I)I"⟩ : Jvm.MethodName) prog_1_method_27_code 2 (some .int)).before args0 about = true :=
  sv_hand_word (m := ⟨2, 26⟩) (by decide +kernel) rfl (by decide +kernel) (by decide +kernel)
theorem bad1.code48 : (Jvm.Cond.code (⟨"TreeOdds", "lambda$costOf$3", "(II)V"⟩ : Jvm.MethodName) prog_1_method_51_code 3 none).before args0 about = true :=
  sv_hand_word (m := ⟨2, 50⟩) (by decide +kernel) rfl (by decide +kernel) (by decide +kernel)
theorem bad1.code49 : (Jvm.Cond.code (⟨"TreeOdds$Tree", "runs", "(ILTreeOdds$Source;LTreeOdds$Seen;)V"⟩ : Jvm.MethodName) prog_8_method_8_code 7 none).before args0 about = true :=
  sv_hand_word (m := ⟨3, 7⟩) (by decide +kernel) rfl (by decide +kernel) (by decide +kernel)
theorem bad1.code50 : (Jvm.Cond.code (⟨"TreeOdds", "best", "(I)I"⟩ : Jvm.MethodName) prog_1_method_32_code 6 (some .int)).before args0 about = true :=
  sv_hand_word (m := ⟨2, 31⟩) (by decide +kernel) rfl (by decide +kernel) (by decide +kernel)
theorem bad1.code51 : (Jvm.Cond.code (⟨"java/lang/Math", "min", "(II)I"⟩ : Jvm.MethodName) prog_14_method_69_code 2 (some .int)).before args0 about = true :=
  sv_hand_word (m := ⟨9, 2⟩) (by decide +kernel) rfl (by decide +kernel) (by decide +kernel)
theorem bad1.code52 : (Jvm.Cond.code (⟨"TreeOdds", "follows", "(I)I"⟩ : Jvm.MethodName) prog_1_method_33_code 2 (some .int)).before args0 about = true :=
  sv_hand_word (m := ⟨2, 32⟩) (by decide +kernel) rfl (by decide +kernel) (by decide +kernel)
theorem bad1.code53 : (Jvm.Cond.code (⟨"TreeOdds", "lambda$follows$4", "(II)V"⟩ : Jvm.MethodName) prog_1_method_50_code 2 none).before args0 about = true :=
  sv_hand_word (m := ⟨2, 49⟩) (by decide +kernel) rfl (by decide +kernel) (by decide +kernel)
theorem bad1.code54 : (Jvm.Cond.code (⟨"TreeOdds", "lambda$follows$5", "(I)I"⟩ : Jvm.MethodName) prog_1_method_49_code 1 (some .int)).before args0 about = true :=
  sv_hand_word (m := ⟨2, 48⟩) (by decide +kernel) rfl (by decide +kernel) (by decide +kernel)
theorem bad1.code55 : (Jvm.Cond.code (⟨"TreeOdds", "gathers", "(II)V"⟩ : Jvm.MethodName) prog_1_method_34_code 3 none).before args0 about = true :=
  sv_hand_word (m := ⟨2, 33⟩) (by decide +kernel) rfl (by decide +kernel) (by decide +kernel)
theorem bad1.code56 : (Jvm.Cond.code (⟨"TreeOdds", "tree", "(I)I"⟩ : Jvm.MethodName) prog_1_method_38_code 2 (some .int)).before args0 about = true :=
  sv_hand_word (m := ⟨2, 37⟩) (by decide +kernel) rfl (by decide +kernel) (by decide +kernel)
theorem bad1.code57 : (Jvm.Cond.code (⟨"TreeOdds", "settles", "()V"⟩ : Jvm.MethodName) prog_1_method_36_code 6 none).before args0 about = true :=
  sv_hand_word (m := ⟨2, 35⟩) (by decide +kernel) rfl (by decide +kernel) (by decide +kernel)
theorem bad1.code58 : (Jvm.Cond.code (⟨"TreeOdds", "leafCost", "(II)I"⟩ : Jvm.MethodName) prog_1_method_35_code 10 (some .int)).before args0 about = true :=
  sv_hand_word (m := ⟨2, 34⟩) (by decide +kernel) rfl (by decide +kernel) (by decide +kernel)
theorem bad1.code59 : (Jvm.Cond.code (⟨"TreeOdds", "treeOf", "(III)I"⟩ : Jvm.MethodName) prog_1_method_37_code 6 (some .int)).before args0 about = true :=
  sv_hand_word (m := ⟨2, 36⟩) (by decide +kernel) rfl (by decide +kernel) (by decide +kernel)
theorem bad1.code60 : (Jvm.Cond.code (⟨"java/lang/Math", "max", "(II)I"⟩ : Jvm.MethodName) prog_14_method_65_code 2 (some .int)).before args0 about = true :=
  sv_hand_word (m := ⟨9, 0⟩) (by decide +kernel) rfl (by decide +kernel) (by decide +kernel)
theorem bad1.code61 : (Jvm.Cond.code (⟨"TreeOdds", "leaf", "(II)I"⟩ : Jvm.MethodName) prog_1_method_39_code 5 (some .int)).before args0 about = true :=
  sv_hand_word (m := ⟨2, 38⟩) (by decide +kernel) rfl (by decide +kernel) (by decide +kernel)
theorem bad1.code62 : (Jvm.Cond.code (⟨"TreeOdds", "written", "(I)I"⟩ : Jvm.MethodName) prog_1_method_40_code 2 (some .int)).before args0 about = true :=
  sv_hand_word (m := ⟨2, 39⟩) (by decide +kernel) rfl (by decide +kernel) (by decide +kernel)
theorem bad1.code63 : (Jvm.Cond.code (⟨"TreeOdds$Writing", "writes", "()V"⟩ : Jvm.MethodName) prog_9_method_5_code 2 none).before args0 about = true :=
  sv_hand_word (m := ⟨4, 4⟩) (by decide +kernel) rfl (by decide +kernel) (by decide +kernel)
theorem bad1.code64 : (Jvm.Cond.code (⟨"TreeOdds$Writing", "lambda$writes$0", "(I)I"⟩ : Jvm.MethodName) prog_9_method_11_code 2 (some .int)).before args0 about = true :=
  sv_hand_word (m := ⟨4, 10⟩) (by decide +kernel) rfl (by decide +kernel) (by decide +kernel)
theorem bad1.code65 : (Jvm.Cond.code (⟨"TreeOdds$Writing", "signs", "(II)V"⟩ : Jvm.MethodName) prog_9_method_4_code 5 none).before args0 about = true :=
  sv_hand_word (m := ⟨4, 3⟩) (by decide +kernel) rfl (by decide +kernel) (by decide +kernel)
theorem bad1.code66 : (Jvm.Cond.code (⟨"TreeOdds$Writing", "part", "(I)J"⟩ : Jvm.MethodName) prog_9_method_2_code 2 (some .long)).before args0 about = true :=
  sv_hand_word (m := ⟨4, 1⟩) (by decide +kernel) rfl (by decide +kernel) (by decide +kernel)
theorem bad1.code67 : (Jvm.Cond.code (⟨"TreeOdds$Writing", "out", "()V"⟩ : Jvm.MethodName) prog_9_method_3_code 3 none).before args0 about = true :=
  sv_hand_word (m := ⟨4, 2⟩) (by decide +kernel) rfl (by decide +kernel) (by decide +kernel)
theorem bad1.code68 : (Jvm.Cond.code (⟨"TreeOdds", "reads", "(II)I"⟩ : Jvm.MethodName) prog_1_method_41_code 3 (some .int)).before args0 about = true :=
  sv_hand_word (m := ⟨2, 40⟩) (by decide +kernel) rfl (by decide +kernel) (by decide +kernel)
set_option maxRecDepth 16384 in
theorem bad1.codes_are_2 : tables_1_2.filter sv_isCode = [Jvm.Cond.code (⟨"TreeOdds", "full", "()I"⟩ : Jvm.MethodName) prog_1_method_12_code 1 (some .int),
    Jvm.Cond.code (⟨"TreeOdds", "leaves", "()V"⟩ : Jvm.MethodName) prog_1_method_13_code 1 none,
    Jvm.Cond.code (⟨"TreeOdds", "comes", "(I)I"⟩ : Jvm.MethodName) prog_1_method_14_code 3 (some .int),
    Jvm.Cond.code (⟨"TreeOdds$Tree", "guesses", "()I"⟩ : Jvm.MethodName) prog_8_method_5_code 5 (some .int),
    Jvm.Cond.code (⟨"TreeOdds$Tree", "node", "(II)I"⟩ : Jvm.MethodName) prog_8_method_3_code 2 (some .int),
    Jvm.Cond.code (⟨"TreeOdds$Tree", "own", "(I)I"⟩ : Jvm.MethodName) prog_8_method_4_code 2 (some .int),
    Jvm.Cond.code (⟨"TreeOdds", "held", "(J)I"⟩ : Jvm.MethodName) prog_1_method_2_code 2 (some .int),
    Jvm.Cond.code (⟨"java/lang/Math", "min", "(JJ)J"⟩ : Jvm.MethodName) prog_14_method_70_code 4 (some .long),
    Jvm.Cond.code (⟨"java/lang/Math", "max", "(JJ)J"⟩ : Jvm.MethodName) prog_14_method_66_code 4 (some .long),
    Jvm.Cond.code (⟨"TreeOdds$Tree", "comes", "(I)V"⟩ : Jvm.MethodName) prog_8_method_6_code 8 none,
    Jvm.Cond.code (⟨"TreeOdds", "of", "(II)I"⟩ : Jvm.MethodName) prog_1_method_4_code 2 (some .int),
    Jvm.Cond.code (⟨"TreeOdds$Tree", "counts", "(II)V"⟩ : Jvm.MethodName) prog_8_method_7_code 3 none,
    Jvm.Cond.code (⟨"TreeOdds", "bits", "(I)I"⟩ : Jvm.MethodName) prog_1_method_3_code 3 (some .int),
    Jvm.Cond.code (⟨"java/lang/Integer", "numberOfLeadingZeros", "(I)I"⟩ : Jvm.MethodName) prog_13_method_47_code 2 (some .int),
    Jvm.Cond.code (⟨"TreeOdds", "signs", "(JI)I"⟩ : Jvm.MethodName) prog_1_method_17_code 6 (some .int),
    Jvm.Cond.code (⟨"TreeOdds", "draw", "(III)I"⟩ : Jvm.MethodName) prog_1_method_18_code 9 (some .int),
    Jvm.Cond.code (⟨"TreeOdds", "sets", "(II)I"⟩ : Jvm.MethodName) prog_1_method_19_code 4 (some .int),
    Jvm.Cond.code (⟨"TreeOdds", "begins", "(I)V"⟩ : Jvm.MethodName) prog_1_method_15_code 3 none,
    Jvm.Cond.code (⟨"TreeOdds", "empties", "()I"⟩ : Jvm.MethodName) prog_1_method_20_code 2 (some .int),
    Jvm.Cond.code (⟨"TreeOdds", "drop", "()I"⟩ : Jvm.MethodName) prog_1_method_21_code 1 (some .int),
    Jvm.Cond.code (⟨"TreeOdds", "no", "()I"⟩ : Jvm.MethodName) prog_1_method_11_code 1 (some .int),
    Jvm.Cond.code (⟨"TreeOdds", "at", "(I)I"⟩ : Jvm.MethodName) prog_1_method_22_code 2 (some .int),
    Jvm.Cond.code (⟨"TreeOdds", "guess", "()I"⟩ : Jvm.MethodName) prog_1_method_23_code 1 (some .int),
    Jvm.Cond.code (⟨"TreeOdds", "was", "(II)I"⟩ : Jvm.MethodName) prog_1_method_24_code 3 (some .int),
    Jvm.Cond.code (⟨"TreeOdds", "node", "(III)I"⟩ : Jvm.MethodName) prog_1_method_26_code 5 (some .int),
    Jvm.Cond.code (⟨"TreeOdds", "isNode", "(II)Z"⟩ : Jvm.MethodName) prog_1_method_25_code 3 (some .boolean),
    Jvm.Cond.code (⟨"TreeOdds", "cost", "()I"⟩ : Jvm.MethodName) prog_1_method_30_code 1 (some .int),
    Jvm.Cond.code (⟨"TreeOdds", "all", "()I"⟩ : Jvm.MethodName) prog_1_method_29_code 3 (some .int),
    Jvm.Cond.code (⟨"TreeOdds", "costBy", "(II)I"⟩ : Jvm.MethodName) prog_1_method_31_code 3 (some .int),
    Jvm.Cond.code (⟨"TreeOdds", "costOf", "(II)I"⟩ : Jvm.MethodName) prog_1_method_28_code 3 (some .int),
    Jvm.Cond.code (⟨"TreeOdds", "next", "(I)I"⟩ : Jvm.MethodName) prog_1_method_27_code 2 (some .int),
    Jvm.Cond.code (⟨"TreeOdds", "lambda$costOf$3", "(II)V"⟩ : Jvm.MethodName) prog_1_method_51_code 3 none,
    Jvm.Cond.code (⟨"TreeOdds$Tree", "runs", "(ILTreeOdds$Source;LTreeOdds$Seen;)V"⟩ : Jvm.MethodName) prog_8_method_8_code 7 none,
    Jvm.Cond.code (⟨"TreeOdds", "best", "(I)I"⟩ : Jvm.MethodName) prog_1_method_32_code 6 (some .int),
    Jvm.Cond.code (⟨"java/lang/Math", "min", "(II)I"⟩ : Jvm.MethodName) prog_14_method_69_code 2 (some .int),
    Jvm.Cond.code (⟨"TreeOdds", "follows", "(I)I"⟩ : Jvm.MethodName) prog_1_method_33_code 2 (some .int),
    Jvm.Cond.code (⟨"TreeOdds", "lambda$follows$4", "(II)V"⟩ : Jvm.MethodName) prog_1_method_50_code 2 none,
    Jvm.Cond.code (⟨"TreeOdds", "lambda$follows$5", "(I)I"⟩ : Jvm.MethodName) prog_1_method_49_code 1 (some .int),
    Jvm.Cond.code (⟨"TreeOdds", "gathers", "(II)V"⟩ : Jvm.MethodName) prog_1_method_34_code 3 none,
    Jvm.Cond.code (⟨"TreeOdds", "tree", "(I)I"⟩ : Jvm.MethodName) prog_1_method_38_code 2 (some .int),
    Jvm.Cond.code (⟨"TreeOdds", "settles", "()V"⟩ : Jvm.MethodName) prog_1_method_36_code 6 none,
    Jvm.Cond.code (⟨"TreeOdds", "leafCost", "(II)I"⟩ : Jvm.MethodName) prog_1_method_35_code 10 (some .int),
    Jvm.Cond.code (⟨"TreeOdds", "treeOf", "(III)I"⟩ : Jvm.MethodName) prog_1_method_37_code 6 (some .int),
    Jvm.Cond.code (⟨"java/lang/Math", "max", "(II)I"⟩ : Jvm.MethodName) prog_14_method_65_code 2 (some .int),
    Jvm.Cond.code (⟨"TreeOdds", "leaf", "(II)I"⟩ : Jvm.MethodName) prog_1_method_39_code 5 (some .int),
    Jvm.Cond.code (⟨"TreeOdds", "written", "(I)I"⟩ : Jvm.MethodName) prog_1_method_40_code 2 (some .int),
    Jvm.Cond.code (⟨"TreeOdds$Writing", "writes", "()V"⟩ : Jvm.MethodName) prog_9_method_5_code 2 none,
    Jvm.Cond.code (⟨"TreeOdds$Writing", "lambda$writes$0", "(I)I"⟩ : Jvm.MethodName) prog_9_method_11_code 2 (some .int),
    Jvm.Cond.code (⟨"TreeOdds$Writing", "signs", "(II)V"⟩ : Jvm.MethodName) prog_9_method_4_code 5 none,
    Jvm.Cond.code (⟨"TreeOdds$Writing", "part", "(I)J"⟩ : Jvm.MethodName) prog_9_method_2_code 2 (some .long),
    Jvm.Cond.code (⟨"TreeOdds$Writing", "out", "()V"⟩ : Jvm.MethodName) prog_9_method_3_code 3 none,
    Jvm.Cond.code (⟨"TreeOdds", "reads", "(II)I"⟩ : Jvm.MethodName) prog_1_method_41_code 3 (some .int)] := by
  first
  | rfl
  | simp only [tables_1_2, List.filter, sv_isCode]
theorem bad1.codes_hold_2 : ∀ c ∈ tables_1_2.filter sv_isCode, c.before args0 about = true := by
  rw [codes_are_2]
  exact List.forall_mem_cons.mpr ⟨code17, List.forall_mem_cons.mpr ⟨code18, List.forall_mem_cons.mpr ⟨code19, List.forall_mem_cons.mpr ⟨code20, List.forall_mem_cons.mpr ⟨code21, List.forall_mem_cons.mpr ⟨code22, List.forall_mem_cons.mpr ⟨code23, List.forall_mem_cons.mpr ⟨code24, List.forall_mem_cons.mpr ⟨code25, List.forall_mem_cons.mpr ⟨code26, List.forall_mem_cons.mpr ⟨code27, List.forall_mem_cons.mpr ⟨code28, List.forall_mem_cons.mpr ⟨code29, List.forall_mem_cons.mpr ⟨code30, List.forall_mem_cons.mpr ⟨code31, List.forall_mem_cons.mpr ⟨code32, List.forall_mem_cons.mpr ⟨code33, List.forall_mem_cons.mpr ⟨code34, List.forall_mem_cons.mpr ⟨code35, List.forall_mem_cons.mpr ⟨code36, List.forall_mem_cons.mpr ⟨code37, List.forall_mem_cons.mpr ⟨code38, List.forall_mem_cons.mpr ⟨code39, List.forall_mem_cons.mpr ⟨code40, List.forall_mem_cons.mpr ⟨code41, List.forall_mem_cons.mpr ⟨code42, List.forall_mem_cons.mpr ⟨code43, List.forall_mem_cons.mpr ⟨code44, List.forall_mem_cons.mpr ⟨code45, List.forall_mem_cons.mpr ⟨code46, List.forall_mem_cons.mpr ⟨code47, List.forall_mem_cons.mpr ⟨code48, List.forall_mem_cons.mpr ⟨code49, List.forall_mem_cons.mpr ⟨code50, List.forall_mem_cons.mpr ⟨code51, List.forall_mem_cons.mpr ⟨code52, List.forall_mem_cons.mpr ⟨code53, List.forall_mem_cons.mpr ⟨code54, List.forall_mem_cons.mpr ⟨code55, List.forall_mem_cons.mpr ⟨code56, List.forall_mem_cons.mpr ⟨code57, List.forall_mem_cons.mpr ⟨code58, List.forall_mem_cons.mpr ⟨code59, List.forall_mem_cons.mpr ⟨code60, List.forall_mem_cons.mpr ⟨code61, List.forall_mem_cons.mpr ⟨code62, List.forall_mem_cons.mpr ⟨code63, List.forall_mem_cons.mpr ⟨code64, List.forall_mem_cons.mpr ⟨code65, List.forall_mem_cons.mpr ⟨code66, List.forall_mem_cons.mpr ⟨code67, List.forall_mem_cons.mpr ⟨code68, List.forall_mem_nil _⟩⟩⟩⟩⟩⟩⟩⟩⟩⟩⟩⟩⟩⟩⟩⟩⟩⟩⟩⟩⟩⟩⟩⟩⟩⟩⟩⟩⟩⟩⟩⟩⟩⟩⟩⟩⟩⟩⟩⟩⟩⟩⟩⟩⟩⟩⟩⟩⟩⟩⟩⟩
set_option maxRecDepth 16384 in
theorem bad1.others_2_0 : (tables_1_2.take 40).all (fun c => sv_isCode c || c.before args0 about) = true := by decide +kernel
set_option maxRecDepth 16384 in
theorem bad1.others_2_1 : ((tables_1_2.drop 40).take 40).all (fun c => sv_isCode c || c.before args0 about) = true := by decide +kernel
set_option maxRecDepth 16384 in
theorem bad1.others_2_2 : (((tables_1_2.drop 40).drop 40).take 40).all (fun c => sv_isCode c || c.before args0 about) = true := by decide +kernel
set_option maxRecDepth 16384 in
theorem bad1.others_2_3 : ((((tables_1_2.drop 40).drop 40).drop 40).take 40).all (fun c => sv_isCode c || c.before args0 about) = true := by decide +kernel
set_option maxRecDepth 16384 in
theorem bad1.others_2_4 : (((((tables_1_2.drop 40).drop 40).drop 40).drop 40).take 40).all (fun c => sv_isCode c || c.before args0 about) = true := by decide +kernel
set_option maxRecDepth 16384 in
theorem bad1.others_2_5 : (((((tables_1_2.drop 40).drop 40).drop 40).drop 40).drop 40).all (fun c => sv_isCode c || c.before args0 about) = true := by decide +kernel
theorem bad1.others_hold_2 : tables_1_2.all (fun c => sv_isCode c || c.before args0 about) = true := sv_all_split _ 40 tables_1_2 others_2_0 (sv_all_split _ 40 (tables_1_2.drop 40) others_2_1 (sv_all_split _ 40 ((tables_1_2.drop 40).drop 40) others_2_2 (sv_all_split _ 40 (((tables_1_2.drop 40).drop 40).drop 40) others_2_3 (sv_all_split _ 40 ((((tables_1_2.drop 40).drop 40).drop 40).drop 40) others_2_4 others_2_5))))
theorem bad1.words_2 : ∀ c ∈ tables_1_2, c.before args0 about = true := fun c h => sv_words others_hold_2 codes_hold_2 c h
theorem bad1.code69 : (Jvm.Cond.code (⟨"TreeOdds$Writing", "reads", "()I"⟩ : Jvm.MethodName) prog_9_method_8_code 2 (some .int)).before args0 about = true :=
  sv_hand_word (m := ⟨4, 7⟩) (by decide +kernel) rfl (by decide +kernel) (by decide +kernel)
theorem bad1.code70 : (Jvm.Cond.code (⟨"TreeOdds$Writing", "takes", "()V"⟩ : Jvm.MethodName) prog_9_method_6_code 1 none).before args0 about = true :=
  sv_hand_word (m := ⟨4, 5⟩) (by decide +kernel) rfl (by decide +kernel) (by decide +kernel)
theorem bad1.code71 : (Jvm.Cond.code (⟨"TreeOdds$Writing", "lambda$reads$1", "(I)I"⟩ : Jvm.MethodName) prog_9_method_10_code 2 (some .int)).before args0 about = true :=
  sv_hand_word (m := ⟨4, 9⟩) (by decide +kernel) rfl (by decide +kernel) (by decide +kernel)
theorem bad1.code72 : (Jvm.Cond.code (⟨"TreeOdds$Writing", "reads", "(I)I"⟩ : Jvm.MethodName) prog_9_method_7_code 5 (some .int)).before args0 about = true :=
  sv_hand_word (m := ⟨4, 6⟩) (by decide +kernel) rfl (by decide +kernel) (by decide +kernel)
theorem bad1.code73 : (Jvm.Cond.code (⟨"TreeOdds$Writing", "lambda$reads$2", "(II)V"⟩ : Jvm.MethodName) prog_9_method_9_code 3 none).before args0 about = true :=
  sv_hand_word (m := ⟨4, 8⟩) (by decide +kernel) rfl (by decide +kernel) (by decide +kernel)
theorem bad1.code74 : (Jvm.Cond.code (⟨"TreeOdds", "type", "(I)I"⟩ : Jvm.MethodName) prog_1_method_42_code 2 (some .int)).before args0 about = true :=
  sv_hand_word (m := ⟨2, 41⟩) (by decide +kernel) rfl (by decide +kernel) (by decide +kernel)
theorem bad1.code75 : (Jvm.Cond.code (⟨"TreeOdds", "clear", "()I"⟩ : Jvm.MethodName) prog_1_method_43_code 2 (some .int)).before args0 about = true :=
  sv_hand_word (m := ⟨2, 42⟩) (by decide +kernel) rfl (by decide +kernel) (by decide +kernel)
theorem bad1.code76 : (Jvm.Cond.code (⟨"TreeOdds$Reader", "reads", "()V"⟩ : Jvm.MethodName) prog_5_method_9_code 1 none).before args0 about = true :=
  sv_hand_word (m := ⟨5, 8⟩) (by decide +kernel) rfl (by decide +kernel) (by decide +kernel)
theorem bad1.code77 : (Jvm.Cond.code (⟨"TreeOdds$Reader", "goesOn", "()V"⟩ : Jvm.MethodName) prog_5_method_3_code 1 none).before args0 about = true :=
  sv_hand_word (m := ⟨5, 2⟩) (by decide +kernel) rfl (by decide +kernel) (by decide +kernel)
theorem bad1.code78 : (Jvm.Cond.code (⟨"TreeOdds$Reader", "isAt", "(CC)Z"⟩ : Jvm.MethodName) prog_5_method_2_code 3 (some .boolean)).before args0 about = true :=
  sv_hand_word (m := ⟨5, 1⟩) (by decide +kernel) rfl (by decide +kernel) (by decide +kernel)
theorem bad1.code79 : (Jvm.Cond.code (⟨"TreeOdds$Reader", "group", "()V"⟩ : Jvm.MethodName) prog_5_method_8_code 3 none).before args0 about = true :=
  sv_hand_word (m := ⟨5, 7⟩) (by decide +kernel) rfl (by decide +kernel) (by decide +kernel)
theorem bad1.code80 : (Jvm.Cond.code (⟨"TreeOdds$Reader", "sign", "()V"⟩ : Jvm.MethodName) prog_5_method_7_code 2 none).before args0 about = true :=
  sv_hand_word (m := ⟨5, 6⟩) (by decide +kernel) rfl (by decide +kernel) (by decide +kernel)
theorem bad1.code81 : (Jvm.Cond.code (⟨"TreeOdds$Reader", "wants", "(Z)V"⟩ : Jvm.MethodName) prog_5_method_4_code 2 none).before args0 about = true :=
  sv_hand_word (m := ⟨5, 3⟩) (by decide +kernel) rfl (by decide +kernel) (by decide +kernel)
theorem bad1.code82 : (Jvm.Cond.code (⟨"java/lang/Throwable", "<init>", "()V"⟩ : Jvm.MethodName) prog_16_method_1_code 1 none).before args0 about = true :=
  sv_hand_word (m := ⟨11, 0⟩) (by decide +kernel) rfl (by decide +kernel) (by decide +kernel)
theorem bad1.code83 : (Jvm.Cond.code (⟨"TreeOdds$Fault", "<init>", "(I)V"⟩ : Jvm.MethodName) prog_2_method_1_code 2 none).before args0 about = true :=
  sv_hand_word (m := ⟨16, 0⟩) (by decide +kernel) rfl (by decide +kernel) (by decide +kernel)
theorem bad1.code84 : (Jvm.Cond.code (⟨"java/lang/Exception", "<init>", "(Ljava/lang/String;Ljava/lang/Throwable;ZZ)V"⟩ : Jvm.MethodName) prog_12_method_5_code 5 none).before args0 about = true :=
  sv_hand_word (m := ⟨15, 2⟩) (by decide +kernel) rfl (by decide +kernel) (by decide +kernel)
theorem bad1.code85 : (Jvm.Cond.code (⟨"java/lang/Throwable", "<init>", "(Ljava/lang/String;Ljava/lang/Throwable;ZZ)V"⟩ : Jvm.MethodName) prog_16_method_5_code 5 none).before args0 about = true :=
  sv_hand_word (m := ⟨11, 2⟩) (by decide +kernel) rfl (by decide +kernel) (by decide +kernel)
theorem bad1.code86 : (Jvm.Cond.code (⟨"TreeOdds$Reader", "times", "()I"⟩ : Jvm.MethodName) prog_5_method_5_code 4 (some .int)).before args0 about = true :=
  sv_hand_word (m := ⟨5, 4⟩) (by decide +kernel) rfl (by decide +kernel) (by decide +kernel)
theorem bad1.code87 : (Jvm.Cond.code (⟨"TreeOdds$Reader", "repeats", "(III)V"⟩ : Jvm.MethodName) prog_5_method_6_code 6 none).before args0 about = true :=
  sv_hand_word (m := ⟨5, 5⟩) (by decide +kernel) rfl (by decide +kernel) (by decide +kernel)
theorem bad1.code88 : (Jvm.Cond.code (⟨"TreeOdds", "back", "()I"⟩ : Jvm.MethodName) prog_1_method_45_code 1 (some .int)).before args0 about = true :=
  sv_hand_word (m := ⟨2, 44⟩) (by decide +kernel) rfl (by decide +kernel) (by decide +kernel)
theorem bad1.code89 : (Jvm.Cond.code (⟨"TreeOdds", "count", "(I)I"⟩ : Jvm.MethodName) prog_1_method_47_code 2 (some .int)).before args0 about = true :=
  sv_hand_word (m := ⟨2, 46⟩) (by decide +kernel) rfl (by decide +kernel) (by decide +kernel)
theorem bad1.code90 : (Jvm.Cond.code (⟨"TreeOdds", "countOf", "(I)I"⟩ : Jvm.MethodName) prog_1_method_46_code 2 (some .int)).before args0 about = true :=
  sv_hand_word (m := ⟨2, 45⟩) (by decide +kernel) rfl (by decide +kernel) (by decide +kernel)
theorem bad1.code91 : (Jvm.Cond.code (⟨"TreeOdds", "digest", "()J"⟩ : Jvm.MethodName) prog_1_method_48_code 4 (some .long)).before args0 about = true :=
  sv_hand_word (m := ⟨2, 47⟩) (by decide +kernel) rfl (by decide +kernel) (by decide +kernel)
theorem bad1.code92 : (Jvm.Cond.code (⟨"TreeOddsModel", "<init>", "()V"⟩ : Jvm.MethodName) prog_11_method_1_code 1 none).before args0 about = true :=
  sv_hand_word (m := ⟨7, 0⟩) (by decide +kernel) rfl (by decide +kernel) (by decide +kernel)
theorem bad1.code93 : (Jvm.Cond.code (⟨"TreeOddsModel", "sign", "(I)I"⟩ : Jvm.MethodName) prog_11_method_24_code 2 (some .int)).before args0 about = true :=
  sv_hand_word (m := ⟨7, 22⟩) (by decide +kernel) rfl (by decide +kernel) (by decide +kernel)
set_option maxRecDepth 16384 in
theorem bad1.codes_are_3 : tables_1_3.filter sv_isCode = [Jvm.Cond.code (⟨"TreeOdds$Writing", "reads", "()I"⟩ : Jvm.MethodName) prog_9_method_8_code 2 (some .int),
    Jvm.Cond.code (⟨"TreeOdds$Writing", "takes", "()V"⟩ : Jvm.MethodName) prog_9_method_6_code 1 none,
    Jvm.Cond.code (⟨"TreeOdds$Writing", "lambda$reads$1", "(I)I"⟩ : Jvm.MethodName) prog_9_method_10_code 2 (some .int),
    Jvm.Cond.code (⟨"TreeOdds$Writing", "reads", "(I)I"⟩ : Jvm.MethodName) prog_9_method_7_code 5 (some .int),
    Jvm.Cond.code (⟨"TreeOdds$Writing", "lambda$reads$2", "(II)V"⟩ : Jvm.MethodName) prog_9_method_9_code 3 none,
    Jvm.Cond.code (⟨"TreeOdds", "type", "(I)I"⟩ : Jvm.MethodName) prog_1_method_42_code 2 (some .int),
    Jvm.Cond.code (⟨"TreeOdds", "clear", "()I"⟩ : Jvm.MethodName) prog_1_method_43_code 2 (some .int),
    Jvm.Cond.code (⟨"TreeOdds$Reader", "reads", "()V"⟩ : Jvm.MethodName) prog_5_method_9_code 1 none,
    Jvm.Cond.code (⟨"TreeOdds$Reader", "goesOn", "()V"⟩ : Jvm.MethodName) prog_5_method_3_code 1 none,
    Jvm.Cond.code (⟨"TreeOdds$Reader", "isAt", "(CC)Z"⟩ : Jvm.MethodName) prog_5_method_2_code 3 (some .boolean),
    Jvm.Cond.code (⟨"TreeOdds$Reader", "group", "()V"⟩ : Jvm.MethodName) prog_5_method_8_code 3 none,
    Jvm.Cond.code (⟨"TreeOdds$Reader", "sign", "()V"⟩ : Jvm.MethodName) prog_5_method_7_code 2 none,
    Jvm.Cond.code (⟨"TreeOdds$Reader", "wants", "(Z)V"⟩ : Jvm.MethodName) prog_5_method_4_code 2 none,
    Jvm.Cond.code (⟨"java/lang/Throwable", "<init>", "()V"⟩ : Jvm.MethodName) prog_16_method_1_code 1 none,
    Jvm.Cond.code (⟨"TreeOdds$Fault", "<init>", "(I)V"⟩ : Jvm.MethodName) prog_2_method_1_code 2 none,
    Jvm.Cond.code (⟨"java/lang/Exception", "<init>", "(Ljava/lang/String;Ljava/lang/Throwable;ZZ)V"⟩ : Jvm.MethodName) prog_12_method_5_code 5 none,
    Jvm.Cond.code (⟨"java/lang/Throwable", "<init>", "(Ljava/lang/String;Ljava/lang/Throwable;ZZ)V"⟩ : Jvm.MethodName) prog_16_method_5_code 5 none,
    Jvm.Cond.code (⟨"TreeOdds$Reader", "times", "()I"⟩ : Jvm.MethodName) prog_5_method_5_code 4 (some .int),
    Jvm.Cond.code (⟨"TreeOdds$Reader", "repeats", "(III)V"⟩ : Jvm.MethodName) prog_5_method_6_code 6 none,
    Jvm.Cond.code (⟨"TreeOdds", "back", "()I"⟩ : Jvm.MethodName) prog_1_method_45_code 1 (some .int),
    Jvm.Cond.code (⟨"TreeOdds", "count", "(I)I"⟩ : Jvm.MethodName) prog_1_method_47_code 2 (some .int),
    Jvm.Cond.code (⟨"TreeOdds", "countOf", "(I)I"⟩ : Jvm.MethodName) prog_1_method_46_code 2 (some .int),
    Jvm.Cond.code (⟨"TreeOdds", "digest", "()J"⟩ : Jvm.MethodName) prog_1_method_48_code 4 (some .long),
    Jvm.Cond.code (⟨"TreeOddsModel", "<init>", "()V"⟩ : Jvm.MethodName) prog_11_method_1_code 1 none,
    Jvm.Cond.code (⟨"TreeOddsModel", "sign", "(I)I"⟩ : Jvm.MethodName) prog_11_method_24_code 2 (some .int)] := by
  first
  | rfl
  | simp only [tables_1_3, List.filter, sv_isCode]
theorem bad1.codes_hold_3 : ∀ c ∈ tables_1_3.filter sv_isCode, c.before args0 about = true := by
  rw [codes_are_3]
  exact List.forall_mem_cons.mpr ⟨code69, List.forall_mem_cons.mpr ⟨code70, List.forall_mem_cons.mpr ⟨code71, List.forall_mem_cons.mpr ⟨code72, List.forall_mem_cons.mpr ⟨code73, List.forall_mem_cons.mpr ⟨code74, List.forall_mem_cons.mpr ⟨code75, List.forall_mem_cons.mpr ⟨code76, List.forall_mem_cons.mpr ⟨code77, List.forall_mem_cons.mpr ⟨code78, List.forall_mem_cons.mpr ⟨code79, List.forall_mem_cons.mpr ⟨code80, List.forall_mem_cons.mpr ⟨code81, List.forall_mem_cons.mpr ⟨code82, List.forall_mem_cons.mpr ⟨code83, List.forall_mem_cons.mpr ⟨code84, List.forall_mem_cons.mpr ⟨code85, List.forall_mem_cons.mpr ⟨code86, List.forall_mem_cons.mpr ⟨code87, List.forall_mem_cons.mpr ⟨code88, List.forall_mem_cons.mpr ⟨code89, List.forall_mem_cons.mpr ⟨code90, List.forall_mem_cons.mpr ⟨code91, List.forall_mem_cons.mpr ⟨code92, List.forall_mem_cons.mpr ⟨code93, List.forall_mem_nil _⟩⟩⟩⟩⟩⟩⟩⟩⟩⟩⟩⟩⟩⟩⟩⟩⟩⟩⟩⟩⟩⟩⟩⟩⟩
set_option maxRecDepth 16384 in
theorem bad1.others_3_0 : (tables_1_3.take 40).all (fun c => sv_isCode c || c.before args0 about) = true := by decide +kernel
set_option maxRecDepth 16384 in
theorem bad1.others_3_1 : ((tables_1_3.drop 40).take 40).all (fun c => sv_isCode c || c.before args0 about) = true := by decide +kernel
set_option maxRecDepth 16384 in
theorem bad1.others_3_2 : (((tables_1_3.drop 40).drop 40).take 40).all (fun c => sv_isCode c || c.before args0 about) = true := by decide +kernel
set_option maxRecDepth 16384 in
theorem bad1.others_3_3 : ((((tables_1_3.drop 40).drop 40).drop 40).take 40).all (fun c => sv_isCode c || c.before args0 about) = true := by decide +kernel
set_option maxRecDepth 16384 in
theorem bad1.others_3_4 : (((((tables_1_3.drop 40).drop 40).drop 40).drop 40).take 40).all (fun c => sv_isCode c || c.before args0 about) = true := by decide +kernel
set_option maxRecDepth 16384 in
theorem bad1.others_3_5 : (((((tables_1_3.drop 40).drop 40).drop 40).drop 40).drop 40).all (fun c => sv_isCode c || c.before args0 about) = true := by decide +kernel
theorem bad1.others_hold_3 : tables_1_3.all (fun c => sv_isCode c || c.before args0 about) = true := sv_all_split _ 40 tables_1_3 others_3_0 (sv_all_split _ 40 (tables_1_3.drop 40) others_3_1 (sv_all_split _ 40 ((tables_1_3.drop 40).drop 40) others_3_2 (sv_all_split _ 40 (((tables_1_3.drop 40).drop 40).drop 40) others_3_3 (sv_all_split _ 40 ((((tables_1_3.drop 40).drop 40).drop 40).drop 40) others_3_4 others_3_5))))
theorem bad1.words_3 : ∀ c ∈ tables_1_3, c.before args0 about = true := fun c h => sv_words others_hold_3 codes_hold_3 c h
theorem bad1.code94 : (Jvm.Cond.code (⟨"TreeOddsModel", "in", "(JJJ)Z"⟩ : Jvm.MethodName) prog_11_method_3_code 6 (some .boolean)).before args0 about = true :=
  sv_hand_word (m := ⟨7, 1⟩) (by decide +kernel) rfl (by decide +kernel) (by decide +kernel)
theorem bad1.code95 : (Jvm.Cond.code (⟨"TreeOddsModel", "bad", "(I)I"⟩ : Jvm.MethodName) prog_11_method_4_code 2 (some .int)).before args0 about = true :=
  sv_hand_word (m := ⟨7, 2⟩) (by decide +kernel) rfl (by decide +kernel) (by decide +kernel)
theorem bad1.code96 : (Jvm.Cond.code (⟨"TreeOddsModel", "many", "()I"⟩ : Jvm.MethodName) prog_11_method_7_code 1 (some .int)).before args0 about = true :=
  sv_hand_word (m := ⟨7, 5⟩) (by decide +kernel) rfl (by decide +kernel) (by decide +kernel)
theorem bad1.code97 : (Jvm.Cond.code (⟨"TreeOddsModel", "full", "()I"⟩ : Jvm.MethodName) prog_11_method_6_code 1 (some .int)).before args0 about = true :=
  sv_hand_word (m := ⟨7, 4⟩) (by decide +kernel) rfl (by decide +kernel) (by decide +kernel)
theorem bad1.code98 : (Jvm.Cond.code (⟨"TreeOddsModel", "keep", "()V"⟩ : Jvm.MethodName) prog_11_method_10_code 2 none).before args0 about = true :=
  sv_hand_word (m := ⟨7, 8⟩) (by decide +kernel) rfl (by decide +kernel) (by decide +kernel)
theorem bad1.code99 : (Jvm.Cond.code (⟨"TreeOddsModel", "adds", "(I)V"⟩ : Jvm.MethodName) prog_11_method_22_code 2 none).before args0 about = true :=
  sv_hand_word (m := ⟨7, 20⟩) (by decide +kernel) rfl (by decide +kernel) (by decide +kernel)
theorem bad1.code100 : (Jvm.Cond.code (⟨"TreeOddsModel", "costFrom", "(I)I"⟩ : Jvm.MethodName) prog_11_method_23_code 5 (some .int)).before args0 about = true :=
  sv_hand_word (m := ⟨7, 21⟩) (by decide +kernel) rfl (by decide +kernel) (by decide +kernel)
theorem bad1.code101 : (Jvm.Cond.code (⟨"TreeOddsModel", "goesNow", "()I"⟩ : Jvm.MethodName) prog_11_method_20_code 1 (some .int)).before args0 about = true :=
  sv_hand_word (m := ⟨7, 18⟩) (by decide +kernel) rfl (by decide +kernel) (by decide +kernel)
theorem bad1.code102 : (Jvm.Cond.code (⟨"TreeOddsModel", "depth", "()I"⟩ : Jvm.MethodName) prog_11_method_8_code 1 (some .int)).before args0 about = true :=
  sv_hand_word (m := ⟨7, 6⟩) (by decide +kernel) rfl (by decide +kernel) (by decide +kernel)
theorem bad1.code103 : (Jvm.Cond.code (⟨"TreeOddsModel", "guesser", "()I"⟩ : Jvm.MethodName) prog_11_method_9_code 1 (some .int)).before args0 about = true :=
  sv_hand_word (m := ⟨7, 7⟩) (by decide +kernel) rfl (by decide +kernel) (by decide +kernel)
theorem bad1.code104 : (Jvm.Cond.code (⟨"TreeOddsModel", "goes", "(II)I"⟩ : Jvm.MethodName) prog_11_method_19_code 5 (some .int)).before args0 about = true :=
  sv_hand_word (m := ⟨7, 17⟩) (by decide +kernel) rfl (by decide +kernel) (by decide +kernel)
theorem bad1.code105 : (Jvm.Cond.code (⟨"TreeOddsModel", "begins", "(II)V"⟩ : Jvm.MethodName) prog_11_method_11_code 4 none).before args0 about = true :=
  sv_hand_word (m := ⟨7, 9⟩) (by decide +kernel) rfl (by decide +kernel) (by decide +kernel)
theorem bad1.code106 : (Jvm.Cond.code (⟨"TreeOddsModel", "guesses", "()I"⟩ : Jvm.MethodName) prog_11_method_15_code 5 (some .int)).before args0 about = true :=
  sv_hand_word (m := ⟨7, 13⟩) (by decide +kernel) rfl (by decide +kernel) (by decide +kernel)
theorem bad1.code107 : (Jvm.Cond.code (⟨"TreeOddsModel", "nodeOf", "(II)I"⟩ : Jvm.MethodName) prog_11_method_14_code 2 (some .int)).before args0 about = true :=
  sv_hand_word (m := ⟨7, 12⟩) (by decide +kernel) rfl (by decide +kernel) (by decide +kernel)
theorem bad1.code108 : (Jvm.Cond.code (⟨"TreeOddsModel", "ownOf", "(I)I"⟩ : Jvm.MethodName) prog_11_method_13_code 6 (some .int)).before args0 about = true :=
  sv_hand_word (m := ⟨7, 11⟩) (by decide +kernel) rfl (by decide +kernel) (by decide +kernel)
theorem bad1.code109 : (Jvm.Cond.code (⟨"TreeOddsModel", "held", "(J)I"⟩ : Jvm.MethodName) prog_11_method_12_code 2 (some .int)).before args0 about = true :=
  sv_hand_word (m := ⟨7, 10⟩) (by decide +kernel) rfl (by decide +kernel) (by decide +kernel)
theorem bad1.code110 : (Jvm.Cond.code (⟨"TreeOddsModel", "odds", "(II)I"⟩ : Jvm.MethodName) prog_11_method_16_code 2 (some .int)).before args0 about = true :=
  sv_hand_word (m := ⟨7, 14⟩) (by decide +kernel) rfl (by decide +kernel) (by decide +kernel)
theorem bad1.code111 : (Jvm.Cond.code (⟨"TreeOddsModel", "bitsOf", "(I)I"⟩ : Jvm.MethodName) prog_11_method_17_code 4 (some .int)).before args0 about = true :=
  sv_hand_word (m := ⟨7, 15⟩) (by decide +kernel) rfl (by decide +kernel) (by decide +kernel)
theorem bad1.code112 : (Jvm.Cond.code (⟨"TreeOddsModel", "comes", "(I)V"⟩ : Jvm.MethodName) prog_11_method_18_code 11 none).before args0 about = true :=
  sv_hand_word (m := ⟨7, 16⟩) (by decide +kernel) rfl (by decide +kernel) (by decide +kernel)
theorem bad1.code113 : (Jvm.Cond.code (⟨"TreeOddsModel", "costAt", "(I)I"⟩ : Jvm.MethodName) prog_11_method_21_code 2 (some .int)).before args0 about = true :=
  sv_hand_word (m := ⟨7, 19⟩) (by decide +kernel) rfl (by decide +kernel) (by decide +kernel)
theorem bad1.code114 : (Jvm.Cond.code (⟨"TreeOddsModel", "signs", "(JI)I"⟩ : Jvm.MethodName) prog_11_method_25_code 6 (some .int)).before args0 about = true :=
  sv_hand_word (m := ⟨7, 23⟩) (by decide +kernel) rfl (by decide +kernel) (by decide +kernel)
theorem bad1.code115 : (Jvm.Cond.code (⟨"TreeOddsModel", "draw", "(III)I"⟩ : Jvm.MethodName) prog_11_method_26_code 9 (some .int)).before args0 about = true :=
  sv_hand_word (m := ⟨7, 24⟩) (by decide +kernel) rfl (by decide +kernel) (by decide +kernel)
theorem bad1.code116 : (Jvm.Cond.code (⟨"TreeOddsModel", "sets", "(II)I"⟩ : Jvm.MethodName) prog_11_method_27_code 4 (some .int)).before args0 about = true :=
  sv_hand_word (m := ⟨7, 25⟩) (by decide +kernel) rfl (by decide +kernel) (by decide +kernel)
theorem bad1.code117 : (Jvm.Cond.code (⟨"TreeOddsModel", "empties", "()I"⟩ : Jvm.MethodName) prog_11_method_28_code 2 (some .int)).before args0 about = true :=
  sv_hand_word (m := ⟨7, 26⟩) (by decide +kernel) rfl (by decide +kernel) (by decide +kernel)
theorem bad1.code118 : (Jvm.Cond.code (⟨"TreeOddsModel", "drop", "()I"⟩ : Jvm.MethodName) prog_11_method_29_code 1 (some .int)).before args0 about = true :=
  sv_hand_word (m := ⟨7, 27⟩) (by decide +kernel) rfl (by decide +kernel) (by decide +kernel)
theorem bad1.code119 : (Jvm.Cond.code (⟨"TreeOddsModel", "no", "()I"⟩ : Jvm.MethodName) prog_11_method_5_code 1 (some .int)).before args0 about = true :=
  sv_hand_word (m := ⟨7, 3⟩) (by decide +kernel) rfl (by decide +kernel) (by decide +kernel)
theorem bad1.code120 : (Jvm.Cond.code (⟨"TreeOddsModel", "at", "(I)I"⟩ : Jvm.MethodName) prog_11_method_30_code 2 (some .int)).before args0 about = true :=
  sv_hand_word (m := ⟨7, 28⟩) (by decide +kernel) rfl (by decide +kernel) (by decide +kernel)
theorem bad1.code121 : (Jvm.Cond.code (⟨"TreeOddsModel", "guess", "()I"⟩ : Jvm.MethodName) prog_11_method_32_code 1 (some .int)).before args0 about = true :=
  sv_hand_word (m := ⟨7, 30⟩) (by decide +kernel) rfl (by decide +kernel) (by decide +kernel)
theorem bad1.code122 : (Jvm.Cond.code (⟨"TreeOddsModel", "guessNow", "()I"⟩ : Jvm.MethodName) prog_11_method_31_code 2 (some .int)).before args0 about = true :=
  sv_hand_word (m := ⟨7, 29⟩) (by decide +kernel) rfl (by decide +kernel) (by decide +kernel)
theorem bad1.code123 : (Jvm.Cond.code (⟨"TreeOddsModel", "was", "(II)I"⟩ : Jvm.MethodName) prog_11_method_33_code 4 (some .int)).before args0 about = true :=
  sv_hand_word (m := ⟨7, 31⟩) (by decide +kernel) rfl (by decide +kernel) (by decide +kernel)
theorem bad1.code124 : (Jvm.Cond.code (⟨"TreeOddsModel", "node", "(III)I"⟩ : Jvm.MethodName) prog_11_method_35_code 6 (some .int)).before args0 about = true :=
  sv_hand_word (m := ⟨7, 33⟩) (by decide +kernel) rfl (by decide +kernel) (by decide +kernel)
theorem bad1.code125 : (Jvm.Cond.code (⟨"TreeOddsModel", "isNode", "(II)Z"⟩ : Jvm.MethodName) prog_11_method_34_code 3 (some .boolean)).before args0 about = true :=
  sv_hand_word (m := ⟨7, 32⟩) (by decide +kernel) rfl (by decide +kernel) (by decide +kernel)
theorem bad1.code126 : (Jvm.Cond.code (⟨"TreeOddsModel", "cost", "()I"⟩ : Jvm.MethodName) prog_11_method_36_code 1 (some .int)).before args0 about = true :=
  sv_hand_word (m := ⟨7, 34⟩) (by decide +kernel) rfl (by decide +kernel) (by decide +kernel)
theorem bad1.code127 : (Jvm.Cond.code (⟨"TreeOddsModel", "costBy", "(II)I"⟩ : Jvm.MethodName) prog_11_method_37_code 3 (some .int)).before args0 about = true :=
  sv_hand_word (m := ⟨7, 35⟩) (by decide +kernel) rfl (by decide +kernel) (by decide +kernel)
theorem bad1.code128 : (Jvm.Cond.code (⟨"TreeOddsModel", "best", "(I)I"⟩ : Jvm.MethodName) prog_11_method_38_code 6 (some .int)).before args0 about = true :=
  sv_hand_word (m := ⟨7, 36⟩) (by decide +kernel) rfl (by decide +kernel) (by decide +kernel)
theorem bad1.code129 : (Jvm.Cond.code (⟨"TreeOddsModel", "follows", "(I)I"⟩ : Jvm.MethodName) prog_11_method_39_code 6 (some .int)).before args0 about = true :=
  sv_hand_word (m := ⟨7, 37⟩) (by decide +kernel) rfl (by decide +kernel) (by decide +kernel)
theorem bad1.code130 : (Jvm.Cond.code (⟨"TreeOddsModel", "tree", "(I)I"⟩ : Jvm.MethodName) prog_11_method_43_code 2 (some .int)).before args0 about = true :=
  sv_hand_word (m := ⟨7, 41⟩) (by decide +kernel) rfl (by decide +kernel) (by decide +kernel)
theorem bad1.code131 : (Jvm.Cond.code (⟨"TreeOddsModel", "treeOf", "(I)I"⟩ : Jvm.MethodName) prog_11_method_42_code 2 (some .int)).before args0 about = true :=
  sv_hand_word (m := ⟨7, 40⟩) (by decide +kernel) rfl (by decide +kernel) (by decide +kernel)
theorem bad1.code132 : (Jvm.Cond.code (⟨"TreeOddsModel", "plants", "()V"⟩ : Jvm.MethodName) prog_11_method_40_code 7 none).before args0 about = true :=
  sv_hand_word (m := ⟨7, 38⟩) (by decide +kernel) rfl (by decide +kernel) (by decide +kernel)
theorem bad1.code133 : (Jvm.Cond.code (⟨"TreeOddsModel", "leaves", "(Z)I"⟩ : Jvm.MethodName) prog_11_method_41_code 7 (some .int)).before args0 about = true :=
  sv_hand_word (m := ⟨7, 39⟩) (by decide +kernel) rfl (by decide +kernel) (by decide +kernel)
theorem bad1.code134 : (Jvm.Cond.code (⟨"TreeOddsModel", "leaf", "(II)I"⟩ : Jvm.MethodName) prog_11_method_44_code 3 (some .int)).before args0 about = true :=
  sv_hand_word (m := ⟨7, 42⟩) (by decide +kernel) rfl (by decide +kernel) (by decide +kernel)
theorem bad1.code135 : (Jvm.Cond.code (⟨"TreeOddsModel", "written", "(I)I"⟩ : Jvm.MethodName) prog_11_method_47_code 2 (some .int)).before args0 about = true :=
  sv_hand_word (m := ⟨7, 45⟩) (by decide +kernel) rfl (by decide +kernel) (by decide +kernel)
theorem bad1.code136 : (Jvm.Cond.code (⟨"TreeOddsModel", "writes", "()V"⟩ : Jvm.MethodName) prog_11_method_46_code 7 none).before args0 about = true :=
  sv_hand_word (m := ⟨7, 44⟩) (by decide +kernel) rfl (by decide +kernel) (by decide +kernel)
theorem bad1.code137 : (Jvm.Cond.code (⟨"TreeOddsModel", "goesOut", "()V"⟩ : Jvm.MethodName) prog_11_method_45_code 4 none).before args0 about = true :=
  sv_hand_word (m := ⟨7, 43⟩) (by decide +kernel) rfl (by decide +kernel) (by decide +kernel)
theorem bad1.code138 : (Jvm.Cond.code (⟨"TreeOddsModel", "reads", "(II)I"⟩ : Jvm.MethodName) prog_11_method_49_code 13 (some .int)).before args0 about = true :=
  sv_hand_word (m := ⟨7, 47⟩) (by decide +kernel) rfl (by decide +kernel) (by decide +kernel)
theorem bad1.code139 : (Jvm.Cond.code (⟨"TreeOddsModel", "byteAt", "(I)I"⟩ : Jvm.MethodName) prog_11_method_48_code 2 (some .int)).before args0 about = true :=
  sv_hand_word (m := ⟨7, 46⟩) (by decide +kernel) rfl (by decide +kernel) (by decide +kernel)
theorem bad1.code140 : (Jvm.Cond.code (⟨"TreeOddsModel", "type", "(I)I"⟩ : Jvm.MethodName) prog_11_method_50_code 2 (some .int)).before args0 about = true :=
  sv_hand_word (m := ⟨7, 48⟩) (by decide +kernel) rfl (by decide +kernel) (by decide +kernel)
theorem bad1.code141 : (Jvm.Cond.code (⟨"TreeOddsModel", "clear", "()I"⟩ : Jvm.MethodName) prog_11_method_51_code 2 (some .int)).before args0 about = true :=
  sv_hand_word (m := ⟨7, 49⟩) (by decide +kernel) rfl (by decide +kernel) (by decide +kernel)
theorem bad1.code142 : (Jvm.Cond.code (⟨"TreeOddsModel", "told", "()I"⟩ : Jvm.MethodName) prog_11_method_57_code 3 (some .int)).before args0 about = true :=
  sv_hand_word (m := ⟨7, 55⟩) (by decide +kernel) rfl (by decide +kernel) (by decide +kernel)
theorem bad1.code143 : (Jvm.Cond.code (⟨"TreeOddsModel", "here", "()I"⟩ : Jvm.MethodName) prog_11_method_52_code 1 (some .int)).before args0 about = true :=
  sv_hand_word (m := ⟨7, 50⟩) (by decide +kernel) rfl (by decide +kernel) (by decide +kernel)
theorem bad1.code144 : (Jvm.Cond.code (⟨"TreeOddsModel", "readsMany", "()Z"⟩ : Jvm.MethodName) prog_11_method_56_code 6 (some .boolean)).before args0 about = true :=
  sv_hand_word (m := ⟨7, 54⟩) (by decide +kernel) rfl (by decide +kernel) (by decide +kernel)
theorem bad1.code145 : (Jvm.Cond.code (⟨"TreeOddsModel", "readsSign", "()Z"⟩ : Jvm.MethodName) prog_11_method_55_code 5 (some .boolean)).before args0 about = true :=
  sv_hand_word (m := ⟨7, 53⟩) (by decide +kernel) rfl (by decide +kernel) (by decide +kernel)
theorem bad1.code146 : (Jvm.Cond.code (⟨"TreeOddsModel", "times", "()I"⟩ : Jvm.MethodName) prog_11_method_54_code 5 (some .int)).before args0 about = true :=
  sv_hand_word (m := ⟨7, 52⟩) (by decide +kernel) rfl (by decide +kernel) (by decide +kernel)
theorem bad1.code147 : (Jvm.Cond.code (⟨"TreeOddsModel", "isFigure", "(I)Z"⟩ : Jvm.MethodName) prog_11_method_53_code 2 (some .boolean)).before args0 about = true :=
  sv_hand_word (m := ⟨7, 51⟩) (by decide +kernel) rfl (by decide +kernel) (by decide +kernel)
theorem bad1.code148 : (Jvm.Cond.code (⟨"TreeOddsModel", "back", "()I"⟩ : Jvm.MethodName) prog_11_method_58_code 2 (some .int)).before args0 about = true :=
  sv_hand_word (m := ⟨7, 56⟩) (by decide +kernel) rfl (by decide +kernel) (by decide +kernel)
set_option maxRecDepth 16384 in
theorem bad1.codes_are_4 : tables_1_4.filter sv_isCode = [Jvm.Cond.code (⟨"TreeOddsModel", "in", "(JJJ)Z"⟩ : Jvm.MethodName) prog_11_method_3_code 6 (some .boolean),
    Jvm.Cond.code (⟨"TreeOddsModel", "bad", "(I)I"⟩ : Jvm.MethodName) prog_11_method_4_code 2 (some .int),
    Jvm.Cond.code (⟨"TreeOddsModel", "many", "()I"⟩ : Jvm.MethodName) prog_11_method_7_code 1 (some .int),
    Jvm.Cond.code (⟨"TreeOddsModel", "full", "()I"⟩ : Jvm.MethodName) prog_11_method_6_code 1 (some .int),
    Jvm.Cond.code (⟨"TreeOddsModel", "keep", "()V"⟩ : Jvm.MethodName) prog_11_method_10_code 2 none,
    Jvm.Cond.code (⟨"TreeOddsModel", "adds", "(I)V"⟩ : Jvm.MethodName) prog_11_method_22_code 2 none,
    Jvm.Cond.code (⟨"TreeOddsModel", "costFrom", "(I)I"⟩ : Jvm.MethodName) prog_11_method_23_code 5 (some .int),
    Jvm.Cond.code (⟨"TreeOddsModel", "goesNow", "()I"⟩ : Jvm.MethodName) prog_11_method_20_code 1 (some .int),
    Jvm.Cond.code (⟨"TreeOddsModel", "depth", "()I"⟩ : Jvm.MethodName) prog_11_method_8_code 1 (some .int),
    Jvm.Cond.code (⟨"TreeOddsModel", "guesser", "()I"⟩ : Jvm.MethodName) prog_11_method_9_code 1 (some .int),
    Jvm.Cond.code (⟨"TreeOddsModel", "goes", "(II)I"⟩ : Jvm.MethodName) prog_11_method_19_code 5 (some .int),
    Jvm.Cond.code (⟨"TreeOddsModel", "begins", "(II)V"⟩ : Jvm.MethodName) prog_11_method_11_code 4 none,
    Jvm.Cond.code (⟨"TreeOddsModel", "guesses", "()I"⟩ : Jvm.MethodName) prog_11_method_15_code 5 (some .int),
    Jvm.Cond.code (⟨"TreeOddsModel", "nodeOf", "(II)I"⟩ : Jvm.MethodName) prog_11_method_14_code 2 (some .int),
    Jvm.Cond.code (⟨"TreeOddsModel", "ownOf", "(I)I"⟩ : Jvm.MethodName) prog_11_method_13_code 6 (some .int),
    Jvm.Cond.code (⟨"TreeOddsModel", "held", "(J)I"⟩ : Jvm.MethodName) prog_11_method_12_code 2 (some .int),
    Jvm.Cond.code (⟨"TreeOddsModel", "odds", "(II)I"⟩ : Jvm.MethodName) prog_11_method_16_code 2 (some .int),
    Jvm.Cond.code (⟨"TreeOddsModel", "bitsOf", "(I)I"⟩ : Jvm.MethodName) prog_11_method_17_code 4 (some .int),
    Jvm.Cond.code (⟨"TreeOddsModel", "comes", "(I)V"⟩ : Jvm.MethodName) prog_11_method_18_code 11 none,
    Jvm.Cond.code (⟨"TreeOddsModel", "costAt", "(I)I"⟩ : Jvm.MethodName) prog_11_method_21_code 2 (some .int),
    Jvm.Cond.code (⟨"TreeOddsModel", "signs", "(JI)I"⟩ : Jvm.MethodName) prog_11_method_25_code 6 (some .int),
    Jvm.Cond.code (⟨"TreeOddsModel", "draw", "(III)I"⟩ : Jvm.MethodName) prog_11_method_26_code 9 (some .int),
    Jvm.Cond.code (⟨"TreeOddsModel", "sets", "(II)I"⟩ : Jvm.MethodName) prog_11_method_27_code 4 (some .int),
    Jvm.Cond.code (⟨"TreeOddsModel", "empties", "()I"⟩ : Jvm.MethodName) prog_11_method_28_code 2 (some .int),
    Jvm.Cond.code (⟨"TreeOddsModel", "drop", "()I"⟩ : Jvm.MethodName) prog_11_method_29_code 1 (some .int),
    Jvm.Cond.code (⟨"TreeOddsModel", "no", "()I"⟩ : Jvm.MethodName) prog_11_method_5_code 1 (some .int),
    Jvm.Cond.code (⟨"TreeOddsModel", "at", "(I)I"⟩ : Jvm.MethodName) prog_11_method_30_code 2 (some .int),
    Jvm.Cond.code (⟨"TreeOddsModel", "guess", "()I"⟩ : Jvm.MethodName) prog_11_method_32_code 1 (some .int),
    Jvm.Cond.code (⟨"TreeOddsModel", "guessNow", "()I"⟩ : Jvm.MethodName) prog_11_method_31_code 2 (some .int),
    Jvm.Cond.code (⟨"TreeOddsModel", "was", "(II)I"⟩ : Jvm.MethodName) prog_11_method_33_code 4 (some .int),
    Jvm.Cond.code (⟨"TreeOddsModel", "node", "(III)I"⟩ : Jvm.MethodName) prog_11_method_35_code 6 (some .int),
    Jvm.Cond.code (⟨"TreeOddsModel", "isNode", "(II)Z"⟩ : Jvm.MethodName) prog_11_method_34_code 3 (some .boolean),
    Jvm.Cond.code (⟨"TreeOddsModel", "cost", "()I"⟩ : Jvm.MethodName) prog_11_method_36_code 1 (some .int),
    Jvm.Cond.code (⟨"TreeOddsModel", "costBy", "(II)I"⟩ : Jvm.MethodName) prog_11_method_37_code 3 (some .int),
    Jvm.Cond.code (⟨"TreeOddsModel", "best", "(I)I"⟩ : Jvm.MethodName) prog_11_method_38_code 6 (some .int),
    Jvm.Cond.code (⟨"TreeOddsModel", "follows", "(I)I"⟩ : Jvm.MethodName) prog_11_method_39_code 6 (some .int),
    Jvm.Cond.code (⟨"TreeOddsModel", "tree", "(I)I"⟩ : Jvm.MethodName) prog_11_method_43_code 2 (some .int),
    Jvm.Cond.code (⟨"TreeOddsModel", "treeOf", "(I)I"⟩ : Jvm.MethodName) prog_11_method_42_code 2 (some .int),
    Jvm.Cond.code (⟨"TreeOddsModel", "plants", "()V"⟩ : Jvm.MethodName) prog_11_method_40_code 7 none,
    Jvm.Cond.code (⟨"TreeOddsModel", "leaves", "(Z)I"⟩ : Jvm.MethodName) prog_11_method_41_code 7 (some .int),
    Jvm.Cond.code (⟨"TreeOddsModel", "leaf", "(II)I"⟩ : Jvm.MethodName) prog_11_method_44_code 3 (some .int),
    Jvm.Cond.code (⟨"TreeOddsModel", "written", "(I)I"⟩ : Jvm.MethodName) prog_11_method_47_code 2 (some .int),
    Jvm.Cond.code (⟨"TreeOddsModel", "writes", "()V"⟩ : Jvm.MethodName) prog_11_method_46_code 7 none,
    Jvm.Cond.code (⟨"TreeOddsModel", "goesOut", "()V"⟩ : Jvm.MethodName) prog_11_method_45_code 4 none,
    Jvm.Cond.code (⟨"TreeOddsModel", "reads", "(II)I"⟩ : Jvm.MethodName) prog_11_method_49_code 13 (some .int),
    Jvm.Cond.code (⟨"TreeOddsModel", "byteAt", "(I)I"⟩ : Jvm.MethodName) prog_11_method_48_code 2 (some .int),
    Jvm.Cond.code (⟨"TreeOddsModel", "type", "(I)I"⟩ : Jvm.MethodName) prog_11_method_50_code 2 (some .int),
    Jvm.Cond.code (⟨"TreeOddsModel", "clear", "()I"⟩ : Jvm.MethodName) prog_11_method_51_code 2 (some .int),
    Jvm.Cond.code (⟨"TreeOddsModel", "told", "()I"⟩ : Jvm.MethodName) prog_11_method_57_code 3 (some .int),
    Jvm.Cond.code (⟨"TreeOddsModel", "here", "()I"⟩ : Jvm.MethodName) prog_11_method_52_code 1 (some .int),
    Jvm.Cond.code (⟨"TreeOddsModel", "readsMany", "()Z"⟩ : Jvm.MethodName) prog_11_method_56_code 6 (some .boolean),
    Jvm.Cond.code (⟨"TreeOddsModel", "readsSign", "()Z"⟩ : Jvm.MethodName) prog_11_method_55_code 5 (some .boolean),
    Jvm.Cond.code (⟨"TreeOddsModel", "times", "()I"⟩ : Jvm.MethodName) prog_11_method_54_code 5 (some .int),
    Jvm.Cond.code (⟨"TreeOddsModel", "isFigure", "(I)Z"⟩ : Jvm.MethodName) prog_11_method_53_code 2 (some .boolean),
    Jvm.Cond.code (⟨"TreeOddsModel", "back", "()I"⟩ : Jvm.MethodName) prog_11_method_58_code 2 (some .int)] := by
  first
  | rfl
  | simp only [tables_1_4, List.filter, sv_isCode]
theorem bad1.codes_hold_4 : ∀ c ∈ tables_1_4.filter sv_isCode, c.before args0 about = true := by
  rw [codes_are_4]
  exact List.forall_mem_cons.mpr ⟨code94, List.forall_mem_cons.mpr ⟨code95, List.forall_mem_cons.mpr ⟨code96, List.forall_mem_cons.mpr ⟨code97, List.forall_mem_cons.mpr ⟨code98, List.forall_mem_cons.mpr ⟨code99, List.forall_mem_cons.mpr ⟨code100, List.forall_mem_cons.mpr ⟨code101, List.forall_mem_cons.mpr ⟨code102, List.forall_mem_cons.mpr ⟨code103, List.forall_mem_cons.mpr ⟨code104, List.forall_mem_cons.mpr ⟨code105, List.forall_mem_cons.mpr ⟨code106, List.forall_mem_cons.mpr ⟨code107, List.forall_mem_cons.mpr ⟨code108, List.forall_mem_cons.mpr ⟨code109, List.forall_mem_cons.mpr ⟨code110, List.forall_mem_cons.mpr ⟨code111, List.forall_mem_cons.mpr ⟨code112, List.forall_mem_cons.mpr ⟨code113, List.forall_mem_cons.mpr ⟨code114, List.forall_mem_cons.mpr ⟨code115, List.forall_mem_cons.mpr ⟨code116, List.forall_mem_cons.mpr ⟨code117, List.forall_mem_cons.mpr ⟨code118, List.forall_mem_cons.mpr ⟨code119, List.forall_mem_cons.mpr ⟨code120, List.forall_mem_cons.mpr ⟨code121, List.forall_mem_cons.mpr ⟨code122, List.forall_mem_cons.mpr ⟨code123, List.forall_mem_cons.mpr ⟨code124, List.forall_mem_cons.mpr ⟨code125, List.forall_mem_cons.mpr ⟨code126, List.forall_mem_cons.mpr ⟨code127, List.forall_mem_cons.mpr ⟨code128, List.forall_mem_cons.mpr ⟨code129, List.forall_mem_cons.mpr ⟨code130, List.forall_mem_cons.mpr ⟨code131, List.forall_mem_cons.mpr ⟨code132, List.forall_mem_cons.mpr ⟨code133, List.forall_mem_cons.mpr ⟨code134, List.forall_mem_cons.mpr ⟨code135, List.forall_mem_cons.mpr ⟨code136, List.forall_mem_cons.mpr ⟨code137, List.forall_mem_cons.mpr ⟨code138, List.forall_mem_cons.mpr ⟨code139, List.forall_mem_cons.mpr ⟨code140, List.forall_mem_cons.mpr ⟨code141, List.forall_mem_cons.mpr ⟨code142, List.forall_mem_cons.mpr ⟨code143, List.forall_mem_cons.mpr ⟨code144, List.forall_mem_cons.mpr ⟨code145, List.forall_mem_cons.mpr ⟨code146, List.forall_mem_cons.mpr ⟨code147, List.forall_mem_cons.mpr ⟨code148, List.forall_mem_nil _⟩⟩⟩⟩⟩⟩⟩⟩⟩⟩⟩⟩⟩⟩⟩⟩⟩⟩⟩⟩⟩⟩⟩⟩⟩⟩⟩⟩⟩⟩⟩⟩⟩⟩⟩⟩⟩⟩⟩⟩⟩⟩⟩⟩⟩⟩⟩⟩⟩⟩⟩⟩⟩⟩⟩
set_option maxRecDepth 16384 in
theorem bad1.others_4_0 : (tables_1_4.take 40).all (fun c => sv_isCode c || c.before args0 about) = true := by decide +kernel
set_option maxRecDepth 16384 in
theorem bad1.others_4_1 : ((tables_1_4.drop 40).take 40).all (fun c => sv_isCode c || c.before args0 about) = true := by decide +kernel
set_option maxRecDepth 16384 in
theorem bad1.others_4_2 : (((tables_1_4.drop 40).drop 40).take 40).all (fun c => sv_isCode c || c.before args0 about) = true := by decide +kernel
set_option maxRecDepth 16384 in
theorem bad1.others_4_3 : ((((tables_1_4.drop 40).drop 40).drop 40).take 40).all (fun c => sv_isCode c || c.before args0 about) = true := by decide +kernel
set_option maxRecDepth 16384 in
theorem bad1.others_4_4 : (((((tables_1_4.drop 40).drop 40).drop 40).drop 40).take 40).all (fun c => sv_isCode c || c.before args0 about) = true := by decide +kernel
set_option maxRecDepth 16384 in
theorem bad1.others_4_5 : (((((tables_1_4.drop 40).drop 40).drop 40).drop 40).drop 40).all (fun c => sv_isCode c || c.before args0 about) = true := by decide +kernel
theorem bad1.others_hold_4 : tables_1_4.all (fun c => sv_isCode c || c.before args0 about) = true := sv_all_split _ 40 tables_1_4 others_4_0 (sv_all_split _ 40 (tables_1_4.drop 40) others_4_1 (sv_all_split _ 40 ((tables_1_4.drop 40).drop 40) others_4_2 (sv_all_split _ 40 (((tables_1_4.drop 40).drop 40).drop 40) others_4_3 (sv_all_split _ 40 ((((tables_1_4.drop 40).drop 40).drop 40).drop 40) others_4_4 others_4_5))))
theorem bad1.words_4 : ∀ c ∈ tables_1_4, c.before args0 about = true := fun c h => sv_words others_hold_4 codes_hold_4 c h
theorem bad1.code149 : (Jvm.Cond.code (⟨"TreeOddsModel", "count", "(I)I"⟩ : Jvm.MethodName) prog_11_method_60_code 2 (some .int)).before args0 about = true :=
  sv_hand_word (m := ⟨7, 58⟩) (by decide +kernel) rfl (by decide +kernel) (by decide +kernel)
theorem bad1.code150 : (Jvm.Cond.code (⟨"TreeOddsModel", "counted", "(I)I"⟩ : Jvm.MethodName) prog_11_method_59_code 2 (some .int)).before args0 about = true :=
  sv_hand_word (m := ⟨7, 57⟩) (by decide +kernel) rfl (by decide +kernel) (by decide +kernel)
theorem bad1.code151 : (Jvm.Cond.code (⟨"TreeOddsModel", "digest", "()J"⟩ : Jvm.MethodName) prog_11_method_61_code 4 (some .long)).before args0 about = true :=
  sv_hand_word (m := ⟨7, 59⟩) (by decide +kernel) rfl (by decide +kernel) (by decide +kernel)
set_option maxRecDepth 16384 in
theorem bad1.codes_are_5 : tables_1_5.filter sv_isCode = [Jvm.Cond.code (⟨"TreeOddsModel", "count", "(I)I"⟩ : Jvm.MethodName) prog_11_method_60_code 2 (some .int),
    Jvm.Cond.code (⟨"TreeOddsModel", "counted", "(I)I"⟩ : Jvm.MethodName) prog_11_method_59_code 2 (some .int),
    Jvm.Cond.code (⟨"TreeOddsModel", "digest", "()J"⟩ : Jvm.MethodName) prog_11_method_61_code 4 (some .long)] := by
  first
  | rfl
  | simp only [tables_1_5, List.filter, sv_isCode]
theorem bad1.codes_hold_5 : ∀ c ∈ tables_1_5.filter sv_isCode, c.before args0 about = true := by
  rw [codes_are_5]
  exact List.forall_mem_cons.mpr ⟨code149, List.forall_mem_cons.mpr ⟨code150, List.forall_mem_cons.mpr ⟨code151, List.forall_mem_nil _⟩⟩⟩
set_option maxRecDepth 16384 in
theorem bad1.others_5_0 : tables_1_5.all (fun c => sv_isCode c || c.before args0 about) = true := by decide +kernel
theorem bad1.others_hold_5 : tables_1_5.all (fun c => sv_isCode c || c.before args0 about) = true := others_5_0
theorem bad1.words_5 : ∀ c ∈ tables_1_5, c.before args0 about = true := fun c h => sv_words others_hold_5 codes_hold_5 c h
theorem bad1.words : ∀ c ∈ (Cond.code x code maxLocals ret :: tables_1), c.before args0 about = true := by
  intro c hc
  rcases List.mem_cons.mp hc with h | h
  · rw [h]; exact word_code
  · have h1 : c ∈ tables_1_1 ++ (tables_1_2 ++ (tables_1_3 ++ (tables_1_4 ++ tables_1_5))) := h
    rcases List.mem_append.mp h1 with h2 | h1
    · exact words_1 c h2
    rcases List.mem_append.mp h1 with h2 | h1
    · exact words_2 c h2
    rcases List.mem_append.mp h1 with h2 | h1
    · exact words_3 c h2
    rcases List.mem_append.mp h1 with h2 | h1
    · exact words_4 c h2
    exact words_5 c h1

set_option maxRecDepth 1000000 in
theorem bad1.fit1 : argsFit bad1.about.vm ⟨0, 0⟩ bad1.args0 = true := by decide +kernel
set_option maxRecDepth 1000000 in
theorem bad1.fit2 : heapFits bad1.about = true := by decide +kernel
set_option maxRecDepth 1000000 in
theorem bad1.applies : (headSpec (Cond.code x code maxLocals ret :: tables_1) room_1).applies x bad1.e0.platform bad1.about = true :=
    (Spec.applies_iff rfl).mpr ⟨rfl, rfl, rfl, by decide +kernel, by decide +kernel, by decide +kernel, launch0.hasRoom_least _ room_1 (by decide +kernel) (by decide +kernel) (by decide +kernel) (by decide +kernel) (by decide +kernel) (by decide +kernel), atoms_intro bad1.words⟩
set_option maxRecDepth 1000000 in
theorem bad1.rest : rest_1_c.before bad1.args0 bad1.about = true := by decide +kernel
