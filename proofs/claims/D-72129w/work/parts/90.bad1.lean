set_option maxRecDepth 16384
theorem sv_code_word {a : Array Value} {s : State} {x : MethodName} {bytes : ByteArray} {maxL : Nat} {ret : Option FieldType} {m : MethodId} {meth : Method} {c : Code}
    (hn : s.methodNamed? x = some m) (hm : s.vm.method? m = some meth) (hc : meth.code = some c) (h1 : c.code = bytes) (h2 : c.maxLocals = maxL) (h3 : c.exceptionTable.isEmpty = true)
    (h4 : meth.sig.returnType = ret) (h5 : meth.locks = false) (h6 : parseMethodDescriptor x.desc = some meth.sig) (h7 : c.maxStack ≤ mostOperands) : (Cond.code x bytes maxL ret).before a s = true := by
  subst h1 h2 h4
  simp [Cond.before, Cond.holds, Cond.value, hn, hm, hc, h3, h5, h6, h7]
theorem sv_hand_word {a : Array Value} {s : State} {x : MethodName} {m : MethodId} {nm ds : String} {ps : List FieldType} {ret : Option FieldType} {fl maxL : Nat} {bytes : ByteArray}
    (hn : s.methodNamed? x = some m) (hm : s.vm.method? m = some (Lib.HandJ.method nm ds ps ret fl maxL bytes)) (h5 : (Lib.HandJ.method nm ds ps ret fl maxL bytes).locks = false)
    (h6 : parseMethodDescriptor x.desc = some (Lib.HandJ.method nm ds ps ret fl maxL bytes).sig) : (Cond.code x bytes maxL ret).before a s = true :=
  sv_code_word hn hm rfl rfl rfl rfl rfl h5 h6 (by first | decide | exact Nat.le_of_ble_eq_true rfl)
def sv_isCode : Jvm.Cond → Bool
  | .code .. => true
  | _ => false
theorem sv_words {l : List Jvm.Cond} {f : Jvm.Cond → Bool} (h1 : l.all (fun c => sv_isCode c || f c) = true) (h2 : ∀ c ∈ l.filter sv_isCode, f c = true) : ∀ c ∈ l, f c = true := by
  intro c hc
  have h := List.all_eq_true.mp h1 c hc
  cases hq : sv_isCode c with
  | false => simpa [hq] using h
  | true => exact h2 c (List.mem_filter.mpr ⟨hc, hq⟩)
def sv_look {α : Type} (d : α) : List (Nat × α) → Nat → α
  | [], _ => d
  | (k, v) :: r, i => match Nat.beq k i with
    | true => v
    | false => sv_look d r i
def sv_down {α : Type} (f : Nat → α) (n : Nat) : Nat → List α
  | 0 => []
  | k + 1 => f (n - (k + 1)) :: sv_down f n k
def sv_arr {α : Type} (d : α) (ps : List (Nat × α)) (n : Nat) : Array α := ⟨sv_down (sv_look d ps) n n⟩
def sv_poolPairs : List Lib.HandW.Entry → Nat → List (Nat × CpInfo)
  | [], _ => []
  | (kind, k, cls, name, desc, c, _) :: r, b =>
    ((if kind ≤ 1 then [(k, if kind = 0 then CpInfo.fieldref b (b + 2) else CpInfo.methodref b (b + 2)), (b, CpInfo.class_ (b + 1)), (b + 1, CpInfo.utf8 (stringToUtf16 cls)), (b + 2, CpInfo.nameAndType (b + 3) (b + 4)), (b + 3, CpInfo.utf8 (stringToUtf16 name)), (b + 4, CpInfo.utf8 (stringToUtf16 desc))]
     else if kind = 2 then [(k, CpInfo.class_ b), (b, CpInfo.utf8 (stringToUtf16 cls))]
     else if kind = 3 then [(k, CpInfo.string b), (b, CpInfo.utf8 (stringToUtf16 name))]
     else if kind = 4 then [(k, CpInfo.long (UInt64.ofNat c))]
     else if kind = 5 then [(k, CpInfo.integer (UInt32.ofNat c))]
     else if kind = 6 then [(k, CpInfo.float (UInt32.ofNat c))]
     else if kind = 8 then [(k, CpInfo.interfaceMethodref b (b + 2)), (b, CpInfo.class_ (b + 1)), (b + 1, CpInfo.utf8 (stringToUtf16 cls)), (b + 2, CpInfo.nameAndType (b + 3) (b + 4)), (b + 3, CpInfo.utf8 (stringToUtf16 name)), (b + 4, CpInfo.utf8 (stringToUtf16 desc))]
     else [(k, CpInfo.double (UInt64.ofNat c))]) : List (Nat × CpInfo)) ++ sv_poolPairs r (b + 7)
def sv_resPairs : List Lib.HandW.Entry → Nat → List (Nat × Option Resolved)
  | [], _ => []
  | (kind, k, _, _, _, c, i) :: t, b =>
    ((if kind = 0 then [(k, some (Resolved.field c i)), (b, some (Resolved.cls c))]
     else if kind = 1 then [(k, some (Resolved.method ⟨c, i⟩)), (b, some (Resolved.cls c))]
     else if kind = 2 then [(k, some (Resolved.cls c))]
     else if kind = 3 then [(k, some (Resolved.string c))]
     else if kind = 8 then [(k, some (Resolved.method ⟨c, i⟩)), (b, some (Resolved.cls c))]
     else []) : List (Nat × Option Resolved)) ++ sv_resPairs t (b + 7)
def sv_own (name : String) (flags : Nat) (es : List Lib.HandW.Entry) (fs : List (String × FieldType × Nat)) (m : Method) : Class :=
  { Lib.HandJ.cls name (sv_arr CpInfo.unusable (sv_poolPairs es (Lib.HandW.top es)) (Lib.HandW.top es + 7 * es.length)) (sv_arr (none : Option Resolved) (sv_resPairs es (Lib.HandW.top es)) (Lib.HandW.top es + 7 * es.length)) flags (Lib.HandW.fieldsFrom fs 0).toArray #[m] (fs.map fun f => f.2.1).toArray with super := some 1 }
def bad1.cObj : Class := { Lib.HandBits.cObject with instanceTypes := #[.int] }
def bad1.mLaw : Method := Lib.HandJ.method x.name x.desc [.array .int] ret 0x9 maxLocals code
def bad1.suPool (es : List (Nat × Jvm.ClassFile.CpInfo)) (c : Class) : Class := { c with cf := c.cf.map fun f => { f with constantPool := es.foldl (fun p e => p.setIfInBounds e.1 e.2) f.constantPool } }
def bad1.suStub (n : String) : Class := Lib.HandJ.cls n #[] #[] 0x21 #[] #[] #[]
def bad1.suLamSite (s : State) (d midx pc index : Nat) : State :=
  match (s.vm.classes[d]?).bind (fun k => k.cf.bind fun f => Jvm.Lambda.shapeOf? f index) with
  | none => s
  | some sh => match Jvm.Lambda.made? { classPath := fun _ => none } s.vm d sh "0x1" with
    | none => s
    | some k => { s with vm := { s.vm with classes := (s.vm.classes.push k).modify d fun q => { q with callSites := q.callSites ++ [(midx, pc, if sh.captured.isEmpty then .constant s.heap.size else .makes s.vm.classes.size)] } }, heap := if sh.captured.isEmpty then s.heap.push { cls := s.vm.classes.size, slots := #[], vm := .none } else s.heap }
def bad1.suCatPool (g : Nat → Array Jvm.ClassFile.CpInfo × Array Jvm.ClassFile.BootstrapMethod × List (Nat × Jvm.ClassFile.CpInfo)) (c : Class) : Class := { c with cf := c.cf.map fun f => let q := g f.constantPool.size; { f with constantPool := q.2.2.foldl (fun p e => p.setIfInBounds e.1 e.2) (f.constantPool ++ q.1), attributes := f.attributes.push (.bootstrapMethods q.2.1) } }
def bad1.c0 : Class := { sv_own "TreeOddsLaw" 0x31
    [(2, 7, "TreeOdds", "", "", 2, 0),
     (1, 9, "TreeOdds", "<init>", "()V", 2, 5),
     (2, 10, "TreeOddsModel", "", "", 7, 0),
     (1, 12, "TreeOddsModel", "<init>", "()V", 7, 0),
     (1, 13, "TreeOdds", "sign", "(I)I", 2, 15),
     (1, 17, "TreeOddsModel", "sign", "(I)I", 7, 22),
     (4, 18, "", "", "", 4294967295, 0),
     (1, 20, "TreeOdds", "signs", "(JI)I", 2, 16),
     (1, 24, "TreeOddsModel", "signs", "(JI)I", 7, 23),
     (1, 25, "TreeOdds", "draw", "(III)I", 2, 17),
     (1, 29, "TreeOddsModel", "draw", "(III)I", 7, 24),
     (1, 30, "TreeOdds", "sets", "(II)I", 2, 18),
     (1, 34, "TreeOddsModel", "sets", "(II)I", 7, 25),
     (1, 35, "TreeOdds", "empties", "()I", 2, 19),
     (1, 39, "TreeOddsModel", "empties", "()I", 7, 26),
     (1, 40, "TreeOdds", "drop", "()I", 2, 20),
     (1, 43, "TreeOddsModel", "drop", "()I", 7, 27),
     (1, 44, "TreeOdds", "at", "(I)I", 2, 21),
     (1, 47, "TreeOddsModel", "at", "(I)I", 7, 28),
     (1, 48, "TreeOdds", "guess", "()I", 2, 22),
     (1, 51, "TreeOddsModel", "guess", "()I", 7, 30),
     (1, 52, "TreeOdds", "was", "(II)I", 2, 23),
     (1, 55, "TreeOddsModel", "was", "(II)I", 7, 31),
     (1, 56, "TreeOdds", "node", "(III)I", 2, 25),
     (1, 59, "TreeOddsModel", "node", "(III)I", 7, 33),
     (1, 60, "TreeOdds", "cost", "()I", 2, 29),
     (1, 63, "TreeOddsModel", "cost", "()I", 7, 34),
     (1, 64, "TreeOdds", "costBy", "(II)I", 2, 30),
     (1, 67, "TreeOddsModel", "costBy", "(II)I", 7, 35),
     (1, 68, "TreeOdds", "best", "(I)I", 2, 31),
     (1, 71, "TreeOddsModel", "best", "(I)I", 7, 36),
     (1, 72, "TreeOdds", "follows", "(I)I", 2, 32),
     (1, 75, "TreeOddsModel", "follows", "(I)I", 7, 37),
     (1, 76, "TreeOdds", "tree", "(I)I", 2, 37),
     (1, 79, "TreeOddsModel", "tree", "(I)I", 7, 41),
     (1, 80, "TreeOdds", "leaf", "(II)I", 2, 38),
     (1, 83, "TreeOddsModel", "leaf", "(II)I", 7, 42),
     (1, 84, "TreeOdds", "written", "(I)I", 2, 39),
     (1, 87, "TreeOddsModel", "written", "(I)I", 7, 45),
     (1, 88, "TreeOdds", "reads", "(II)I", 2, 40),
     (1, 91, "TreeOddsModel", "reads", "(II)I", 7, 47),
     (1, 92, "TreeOdds", "type", "(I)I", 2, 41),
     (1, 95, "TreeOddsModel", "type", "(I)I", 7, 48),
     (1, 96, "TreeOdds", "clear", "()I", 2, 42),
     (1, 99, "TreeOddsModel", "clear", "()I", 7, 49),
     (1, 100, "TreeOdds", "told", "()I", 2, 43),
     (1, 103, "TreeOddsModel", "told", "()I", 7, 55),
     (1, 104, "TreeOdds", "back", "()I", 2, 44),
     (1, 107, "TreeOddsModel", "back", "()I", 7, 56),
     (1, 108, "TreeOdds", "count", "(I)I", 2, 46),
     (1, 111, "TreeOddsModel", "count", "(I)I", 7, 58),
     (1, 112, "TreeOdds", "digest", "()J", 2, 47),
     (1, 116, "TreeOddsModel", "digest", "()J", 7, 59)]
    [] mLaw with
  methods := #[mLaw] }
def bad1.c2 : Class := (suCatPool (fun b => let u := stringToUtf16; (#[.utf8 (u "java/lang/invoke/StringConcatFactory"), .class_ (b + 0), .utf8 (u "makeConcatWithConstants"), .utf8 (u Jvm.Concat.bootstrapDesc), .nameAndType (b + 2) (b + 3), .methodref (b + 1) (b + 4), .methodHandle 6 (b + 5), .utf8 (u "java/lang/invoke/LambdaMetafactory"), .class_ (b + 7), .utf8 (u "metafactory"), .utf8 (u Jvm.Lambda.metafactoryDesc), .nameAndType (b + 9) (b + 10), .methodref (b + 8) (b + 11), .methodHandle 6 (b + 12), .utf8 (u "of"), .utf8 (u "()LTreeOdds$Guess;"), .nameAndType (b + 14) (b + 15), .utf8 (u "(II)I"), .methodType (b + 17), .utf8 (u "TreeOdds"), .class_ (b + 19), .utf8 (u "lambda$new$0"), .utf8 (u "(II)I"), .nameAndType (b + 21) (b + 22), .methodref (b + 20) (b + 23), .methodHandle 6 (b + 24), .utf8 (u "(II)I"), .methodType (b + 26), .utf8 (u "of"), .utf8 (u "()LTreeOdds$Guess;"), .nameAndType (b + 28) (b + 29), .utf8 (u "(II)I"), .methodType (b + 31), .utf8 (u "TreeOdds"), .class_ (b + 33), .utf8 (u "lambda$new$1"), .utf8 (u "(II)I"), .nameAndType (b + 35) (b + 36), .methodref (b + 34) (b + 37), .methodHandle 6 (b + 38), .utf8 (u "(II)I"), .methodType (b + 40), .utf8 (u "of"), .utf8 (u "()LTreeOdds$Guess;"), .nameAndType (b + 42) (b + 43), .utf8 (u "(II)I"), .methodType (b + 45), .utf8 (u "TreeOdds"), .class_ (b + 47), .utf8 (u "lambda$new$2"), .utf8 (u "(II)I"), .nameAndType (b + 49) (b + 50), .methodref (b + 48) (b + 51), .methodHandle 6 (b + 52), .utf8 (u "(II)I"), .methodType (b + 54), .utf8 (u "of"), .utf8 (u "(LTreeOdds;)LTreeOdds$Guess;"), .nameAndType (b + 56) (b + 57), .utf8 (u "(II)I"), .methodType (b + 59), .utf8 (u "TreeOdds"), .class_ (b + 61), .utf8 (u "last"), .utf8 (u "(II)I"), .nameAndType (b + 63) (b + 64), .methodref (b + 62) (b + 65), .methodHandle 5 (b + 66), .utf8 (u "(II)I"), .methodType (b + 68), .utf8 (u "next"), .utf8 (u "(LTreeOdds;)LTreeOdds$Source;"), .nameAndType (b + 70) (b + 71), .utf8 (u "(I)I"), .methodType (b + 73), .utf8 (u "TreeOdds"), .class_ (b + 75), .utf8 (u "next"), .utf8 (u "(I)I"), .nameAndType (b + 77) (b + 78), .methodref (b + 76) (b + 79), .methodHandle 5 (b + 80), .utf8 (u "(I)I"), .methodType (b + 82), .utf8 (u "sign"), .utf8 (u "(LTreeOdds;)LTreeOdds$Seen;"), .nameAndType (b + 84) (b + 85), .utf8 (u "(II)V"), .methodType (b + 87), .utf8 (u "TreeOdds"), .class_ (b + 89), .utf8 (u "lambda$costOf$3"), .utf8 (u "(II)V"), .nameAndType (b + 91) (b + 92), .methodref (b + 90) (b + 93), .methodHandle 5 (b + 94), .utf8 (u "(II)V"), .methodType (b + 96), .utf8 (u "sign"), .utf8 (u "()LTreeOdds$Seen;"), .nameAndType (b + 98) (b + 99), .utf8 (u "(II)V"), .methodType (b + 101), .utf8 (u "TreeOdds"), .class_ (b + 103), .utf8 (u "lambda$follows$4"), .utf8 (u "(II)V"), .nameAndType (b + 105) (b + 106), .methodref (b + 104) (b + 107), .methodHandle 6 (b + 108), .utf8 (u "(II)V"), .methodType (b + 110), .utf8 (u "next"), .utf8 (u "()LTreeOdds$Source;"), .nameAndType (b + 112) (b + 113), .utf8 (u "(I)I"), .methodType (b + 115), .utf8 (u "TreeOdds"), .class_ (b + 117), .utf8 (u "lambda$follows$5"), .utf8 (u "(I)I"), .nameAndType (b + 119) (b + 120), .methodref (b + 118) (b + 121), .methodHandle 6 (b + 122), .utf8 (u "(I)I"), .methodType (b + 124), .utf8 (u "sign"), .utf8 (u "(LTreeOdds;)LTreeOdds$Seen;"), .nameAndType (b + 126) (b + 127), .utf8 (u "(II)V"), .methodType (b + 129), .utf8 (u "TreeOdds"), .class_ (b + 131), .utf8 (u "gathers"), .utf8 (u "(II)V"), .nameAndType (b + 133) (b + 134), .methodref (b + 132) (b + 135), .methodHandle 5 (b + 136), .utf8 (u "(II)V"), .methodType (b + 138)], #[{ bootstrapMethodRef := b + 13, bootstrapArguments := #[b + 18, b + 25, b + 27] }, { bootstrapMethodRef := b + 13, bootstrapArguments := #[b + 32, b + 39, b + 41] }, { bootstrapMethodRef := b + 13, bootstrapArguments := #[b + 46, b + 53, b + 55] }, { bootstrapMethodRef := b + 13, bootstrapArguments := #[b + 60, b + 67, b + 69] }, { bootstrapMethodRef := b + 13, bootstrapArguments := #[b + 74, b + 81, b + 83] }, { bootstrapMethodRef := b + 13, bootstrapArguments := #[b + 88, b + 95, b + 97] }, { bootstrapMethodRef := b + 13, bootstrapArguments := #[b + 102, b + 109, b + 111] }, { bootstrapMethodRef := b + 13, bootstrapArguments := #[b + 116, b + 123, b + 125] }, { bootstrapMethodRef := b + 13, bootstrapArguments := #[b + 130, b + 137, b + 139] }], [(101, .invokeDynamic 0 (b + 16)), (108, .invokeDynamic 1 (b + 30)), (109, .invokeDynamic 2 (b + 44)), (110, .invokeDynamic 3 (b + 58)), (219, .invokeDynamic 4 (b + 72)), (223, .invokeDynamic 5 (b + 86)), (244, .invokeDynamic 6 (b + 100)), (247, .invokeDynamic 7 (b + 114)), (250, .invokeDynamic 8 (b + 128))])) <| suPool [(251, Jvm.ClassFile.CpInfo.interfaceMethodref 900 902)] { sv_own "TreeOdds" 0x31
    [(4, 3, "", "", "", 65535, 0),
     (1, 5, "java/lang/Math", "min", "(JJ)J", 9, 3),
     (1, 11, "java/lang/Math", "max", "(JJ)J", 9, 1),
     (1, 14, "java/lang/Integer", "numberOfLeadingZeros", "(I)I", 10, 0),
     (5, 20, "", "", "", 65536, 0),
     (4, 21, "", "", "", 65536, 0),
     (1, 23, "java/lang/Object", "<init>", "()V", 1, 0),
     (0, 29, "TreeOdds", "row", "[I", 2, 0),
     (0, 33, "TreeOdds", "depth", "I", 2, 2),
     (2, 37, "TreeOdds$Guesser", "", "", 6, 0),
     (0, 39, "TreeOdds", "guessers", "[LTreeOdds$Guesser;", 2, 4),
     (2, 43, "TreeOdds$Tree", "", "", 3, 0),
     (1, 45, "TreeOdds$Tree", "<init>", "()V", 3, 0),
     (0, 46, "TreeOdds", "tree", "LTreeOdds$Tree;", 2, 5),
     (0, 50, "TreeOdds", "trial", "LTreeOdds$Tree;", 2, 6),
     (0, 53, "TreeOdds", "guessed", "[I", 2, 7),
     (0, 56, "TreeOdds", "costs", "[I", 2, 8),
     (0, 59, "TreeOdds", "pastRows", "[I", 2, 9),
     (0, 62, "TreeOdds", "pastMany", "[I", 2, 10),
     (0, 65, "TreeOdds", "pastDepths", "[I", 2, 11),
     (0, 68, "TreeOdds", "pastKinds", "[I", 2, 12),
     (0, 71, "TreeOdds", "text", "[B", 2, 14),
     (0, 75, "TreeOdds", "refused", "[I", 2, 16),
     (0, 78, "TreeOdds", "least", "[I", 2, 19),
     (0, 81, "TreeOdds", "leaves", "[Z", 2, 20),
     (2, 85, "TreeOdds$Writing", "", "", 4, 0),
     (1, 87, "TreeOdds$Writing", "<init>", "(LTreeOdds;)V", 4, 0),
     (0, 90, "TreeOdds", "writing", "LTreeOdds$Writing;", 2, 22),
     (2, 94, "TreeOdds$Reader", "", "", 5, 0),
     (1, 96, "TreeOdds$Reader", "<init>", "(LTreeOdds;)V", 5, 0),
     (0, 97, "TreeOdds", "reader", "LTreeOdds$Reader;", 2, 23),
     (5, 101, "", "", "", 0, 0),
     (1, 105, "TreeOdds$Guesser", "<init>", "(LTreeOdds$Guess;)V", 6, 0),
     (5, 108, "", "", "", 0, 0),
     (5, 109, "", "", "", 0, 0),
     (5, 110, "", "", "", 0, 0),
     (0, 113, "TreeOdds", "kind", "I", 2, 3),
     (1, 116, "TreeOdds", "guess", "(I)LTreeOdds$Guess;", 2, 7),
     (1, 120, "TreeOdds$Tree", "begins", "(ILTreeOdds$Guess;)V", 3, 1),
     (1, 124, "TreeOdds", "even", "(II)I", 2, 4),
     (0, 128, "TreeOdds$Guesser", "guess", "LTreeOdds$Guess;", 6, 0),
     (1, 131, "TreeOdds", "refuses", "(II)I", 2, 8),
     (0, 134, "TreeOdds", "states", "I", 2, 13),
     (1, 137, "java/lang/System", "arraycopy", "(Ljava/lang/Object;ILjava/lang/Object;II)V", 8, 0),
     (0, 143, "TreeOdds", "many", "I", 2, 1),
     (1, 146, "TreeOdds$Tree", "guesses", "()I", 3, 4),
     (1, 150, "TreeOdds$Tree", "comes", "(I)V", 3, 5),
     (1, 154, "TreeOdds", "of", "(II)I", 2, 3),
     (1, 156, "TreeOdds", "bits", "(I)I", 2, 2),
     (1, 159, "TreeOdds", "comes", "(I)I", 2, 13),
     (1, 161, "TreeOdds", "in", "(JJJ)Z", 2, 0),
     (1, 165, "TreeOdds", "bad", "()I", 2, 9),
     (1, 168, "TreeOdds", "full", "()I", 2, 11),
     (1, 171, "TreeOdds", "leaves", "()V", 2, 12),
     (4, 173, "", "", "", 64, 0),
     (4, 175, "", "", "", 999999, 0),
     (4, 177, "", "", "", 100, 0),
     (4, 179, "", "", "", 1103515245, 0),
     (4, 181, "", "", "", 12345, 0),
     (4, 183, "", "", "", 2147483648, 0),
     (4, 185, "", "", "", 6, 0),
     (4, 187, "", "", "", 3, 0),
     (1, 189, "TreeOdds", "begins", "(I)V", 2, 14),
     (1, 191, "TreeOdds", "no", "()I", 2, 10),
     (1, 194, "TreeOdds", "isNode", "(II)Z", 2, 24),
     (1, 198, "TreeOdds$Tree", "node", "(II)I", 3, 2),
     (0, 201, "TreeOdds$Tree", "zeros", "[I", 3, 0),
     (0, 204, "TreeOdds$Tree", "ones", "[I", 3, 1),
     (1, 207, "TreeOdds$Tree", "own", "(I)I", 3, 3),
     (0, 210, "TreeOdds$Tree", "weights", "[I", 3, 2),
     (0, 213, "TreeOdds", "at", "I", 2, 18),
     (0, 216, "TreeOdds", "sum", "I", 2, 17),
     (5, 219, "", "", "", 0, 0),
     (5, 223, "", "", "", 0, 0),
     (1, 227, "TreeOdds$Tree", "runs", "(ILTreeOdds$Source;LTreeOdds$Seen;)V", 3, 7),
     (1, 231, "TreeOdds", "all", "()I", 2, 28),
     (1, 234, "TreeOdds", "costOf", "(II)I", 2, 27),
     (4, 237, "", "", "", 2, 0),
     (5, 239, "", "", "", 1000000000, 0),
     (1, 240, "java/lang/Math", "min", "(II)I", 9, 2),
     (4, 242, "", "", "", 16, 0),
     (5, 244, "", "", "", 0, 0),
     (5, 247, "", "", "", 0, 0),
     (5, 250, "", "", "", 0, 0),
     (1, 251, "TreeOdds$Guess", "of", "(II)I", 12, 0),
     (1, 254, "TreeOdds", "held", "(J)I", 2, 1),
     (1, 258, "TreeOdds", "leafCost", "(II)I", 2, 34),
     (1, 261, "TreeOdds", "treeOf", "(III)I", 2, 36),
     (1, 265, "java/lang/Math", "max", "(II)I", 9, 0),
     (1, 267, "TreeOdds", "settles", "()V", 2, 35),
     (1, 270, "TreeOdds$Writing", "writes", "()V", 4, 4),
     (0, 273, "TreeOdds$Writing", "made", "I", 4, 1),
     (0, 276, "TreeOdds$Writing", "bytes", "[I", 4, 0),
     (4, 279, "", "", "", 255, 0),
     (1, 281, "TreeOdds$Writing", "reads", "()I", 4, 7),
     (4, 284, "", "", "", 127, 0),
     (0, 286, "TreeOdds", "typed", "I", 2, 15),
     (1, 289, "TreeOdds$Reader", "reads", "()V", 5, 8),
     (2, 291, "TreeOdds$Fault", "", "", 16, 0),
     (0, 293, "TreeOdds$Fault", "place", "I", 16, 0),
     (0, 296, "TreeOdds$Reader", "lined", "I", 5, 2),
     (0, 299, "TreeOdds$Reader", "told", "[I", 5, 1),
     (4, 302, "", "", "", 7, 0),
     (1, 304, "TreeOdds", "countOf", "(I)I", 2, 45),
     (4, 307, "", "", "", 2113, 0),
     (4, 309, "", "", "", 31, 0),
     (5, 311, "", "", "", 32768, 0)]
    [("row", .array .int, 0x12), ("many", .int, 0x2), ("depth", .int, 0x2), ("kind", .int, 0x2), ("guessers", .array (.object "TreeOdds$Guesser"), 0x12), ("tree", .object "TreeOdds$Tree", 0x12), ("trial", .object "TreeOdds$Tree", 0x12), ("guessed", .array .int, 0x12), ("costs", .array .int, 0x12), ("pastRows", .array .int, 0x12), ("pastMany", .array .int, 0x12), ("pastDepths", .array .int, 0x12), ("pastKinds", .array .int, 0x12), ("states", .int, 0x2), ("text", .array .byte, 0x12), ("typed", .int, 0x2), ("refused", .array .int, 0x12), ("sum", .int, 0x2), ("at", .int, 0x2), ("least", .array .int, 0x12), ("leaves", .array .boolean, 0x12), ("good", .int, 0x2), ("writing", .object "TreeOdds$Writing", 0x12), ("reader", .object "TreeOdds$Reader", 0x12)] (Lib.HandJ.method "in" "(JJJ)Z" [.long, .long, .long] (some .boolean) 0xa 6 prog_1_method_1_code) with
  linked := true,
  methods := #[Lib.HandJ.method "in" "(JJJ)Z" [.long, .long, .long] (some .boolean) 0xa 6 prog_1_method_1_code,
    Lib.HandJ.method "held" "(J)I" [.long] (some .int) 0xa 2 prog_1_method_2_code,
    Lib.HandJ.method "bits" "(I)I" [.int] (some .int) 0xa 3 prog_1_method_3_code,
    Lib.HandJ.method "of" "(II)I" [.int, .int] (some .int) 0xa 2 prog_1_method_4_code,
    Lib.HandJ.method "even" "(II)I" [.int, .int] (some .int) 0xa 2 prog_1_method_5_code,
    Lib.HandJ.method "<init>" "()V" [] none 0x1 1 prog_1_method_6_code,
    Lib.HandJ.method "last" "(II)I" [.int, .int] (some .int) 0x2 3 prog_1_method_7_code,
    Lib.HandJ.method "guess" "(I)LTreeOdds$Guess;" [.int] (some (.object "TreeOdds$Guess")) 0x2 2 prog_1_method_8_code,
    Lib.HandJ.method "refuses" "(II)I" [.int, .int] (some .int) 0x2 3 prog_1_method_9_code,
    Lib.HandJ.method "bad" "()I" [] (some .int) 0x2 1 prog_1_method_10_code,
    Lib.HandJ.method "no" "()I" [] (some .int) 0x2 1 prog_1_method_11_code,
    Lib.HandJ.method "full" "()I" [] (some .int) 0x2 1 prog_1_method_12_code,
    Lib.HandJ.method "leaves" "()V" [] none 0x2 1 prog_1_method_13_code,
    Lib.HandJ.method "comes" "(I)I" [.int] (some .int) 0x2 3 prog_1_method_14_code,
    Lib.HandJ.method "begins" "(I)V" [.int] none 0x2 3 prog_1_method_15_code,
    Lib.HandJ.method "sign" "(I)I" [.int] (some .int) 0x1 2 prog_1_method_16_code,
    Lib.HandJ.method "signs" "(JI)I" [.long, .int] (some .int) 0x1 6 prog_1_method_17_code,
    Lib.HandJ.method "draw" "(III)I" [.int, .int, .int] (some .int) 0x1 9 prog_1_method_18_code,
    Lib.HandJ.method "sets" "(II)I" [.int, .int] (some .int) 0x1 4 prog_1_method_19_code,
    Lib.HandJ.method "empties" "()I" [] (some .int) 0x1 2 prog_1_method_20_code,
    Lib.HandJ.method "drop" "()I" [] (some .int) 0x1 1 prog_1_method_21_code,
    Lib.HandJ.method "at" "(I)I" [.int] (some .int) 0x1 2 prog_1_method_22_code,
    Lib.HandJ.method "guess" "()I" [] (some .int) 0x1 1 prog_1_method_23_code,
    Lib.HandJ.method "was" "(II)I" [.int, .int] (some .int) 0x1 3 prog_1_method_24_code,
    Lib.HandJ.method "isNode" "(II)Z" [.int, .int] (some .boolean) 0x2 3 prog_1_method_25_code,
    Lib.HandJ.method "node" "(III)I" [.int, .int, .int] (some .int) 0x1 5 prog_1_method_26_code,
    Lib.HandJ.method "next" "(I)I" [.int] (some .int) 0x2 2 prog_1_method_27_code,
    Lib.HandJ.method "costOf" "(II)I" [.int, .int] (some .int) 0x2 3 prog_1_method_28_code,
    Lib.HandJ.method "all" "()I" [] (some .int) 0x2 3 prog_1_method_29_code,
    Lib.HandJ.method "cost" "()I" [] (some .int) 0x1 1 prog_1_method_30_code,
    Lib.HandJ.method "costBy" "(II)I" [.int, .int] (some .int) 0x1 3 prog_1_method_31_code,
    Lib.HandJ.method "best" "(I)I" [.int] (some .int) 0x1 6 prog_1_method_32_code,
    Lib.HandJ.method "follows" "(I)I" [.int] (some .int) 0x1 2 prog_1_method_33_code,
    Lib.HandJ.method "gathers" "(II)V" [.int, .int] none 0x2 3 prog_1_method_34_code,
    Lib.HandJ.method "leafCost" "(II)I" [.int, .int] (some .int) 0x2 10 prog_1_method_35_code,
    Lib.HandJ.method "settles" "()V" [] none 0x2 6 prog_1_method_36_code,
    Lib.HandJ.method "treeOf" "(III)I" [.int, .int, .int] (some .int) 0x2 6 prog_1_method_37_code,
    Lib.HandJ.method "tree" "(I)I" [.int] (some .int) 0x1 2 prog_1_method_38_code,
    Lib.HandJ.method "leaf" "(II)I" [.int, .int] (some .int) 0x1 5 prog_1_method_39_code,
    Lib.HandJ.method "written" "(I)I" [.int] (some .int) 0x1 2 prog_1_method_40_code,
    Lib.HandJ.method "reads" "(II)I" [.int, .int] (some .int) 0x1 3 prog_1_method_41_code,
    Lib.HandJ.method "type" "(I)I" [.int] (some .int) 0x1 2 prog_1_method_42_code,
    Lib.HandJ.method "clear" "()I" [] (some .int) 0x1 2 prog_1_method_43_code,
    (let q := Lib.HandJ.method "told" "()I" [] (some .int) 0x1 2 prog_1_method_44_code; { q with code := q.code.map fun c => { c with exceptionTable := #[{ startPc := 0, endPc := 7, handlerPc := 10, catchType := 291 }] } }),
    Lib.HandJ.method "back" "()I" [] (some .int) 0x1 1 prog_1_method_45_code,
    Lib.HandJ.method "countOf" "(I)I" [.int] (some .int) 0x2 2 prog_1_method_46_code,
    Lib.HandJ.method "count" "(I)I" [.int] (some .int) 0x1 2 prog_1_method_47_code,
    Lib.HandJ.method "digest" "()J" [] (some .long) 0x1 4 prog_1_method_48_code,
    Lib.HandJ.method "lambda$follows$5" "(I)I" [.int] (some .int) 0x100a 1 prog_1_method_49_code,
    Lib.HandJ.method "lambda$follows$4" "(II)V" [.int, .int] none 0x100a 2 prog_1_method_50_code,
    Lib.HandJ.method "lambda$costOf$3" "(II)V" [.int, .int] none 0x1002 3 prog_1_method_51_code,
    Lib.HandJ.method "lambda$new$2" "(II)I" [.int, .int] (some .int) 0x100a 2 prog_1_method_52_code,
    Lib.HandJ.method "lambda$new$1" "(II)I" [.int, .int] (some .int) 0x100a 2 prog_1_method_53_code,
    Lib.HandJ.method "lambda$new$0" "(II)I" [.int, .int] (some .int) 0x100a 2 prog_1_method_54_code] })
def bad1.c3 : Class := suPool [(39, Jvm.ClassFile.CpInfo.interfaceMethodref 161 163), (80, Jvm.ClassFile.CpInfo.interfaceMethodref 252 254), (85, Jvm.ClassFile.CpInfo.interfaceMethodref 259 261)] { sv_own "TreeOdds$Tree" 0x30
    [(1, 3, "java/lang/Object", "<init>", "()V", 1, 0),
     (0, 9, "TreeOdds$Tree", "zeros", "[I", 3, 0),
     (0, 15, "TreeOdds$Tree", "ones", "[I", 3, 1),
     (0, 18, "TreeOdds$Tree", "weights", "[I", 3, 2),
     (0, 21, "TreeOdds$Tree", "owns", "[I", 3, 3),
     (0, 24, "TreeOdds$Tree", "guesses", "[I", 3, 4),
     (0, 27, "TreeOdds$Tree", "depth", "I", 3, 5),
     (0, 31, "TreeOdds$Tree", "guess", "LTreeOdds$Guess;", 3, 6),
     (0, 35, "TreeOdds$Tree", "past", "I", 3, 7),
     (5, 38, "", "", "", 32768, 0),
     (1, 39, "TreeOdds$Guess", "of", "(II)I", 12, 0),
     (1, 45, "TreeOdds", "held", "(J)I", 2, 1),
     (1, 49, "TreeOdds$Tree", "node", "(II)I", 3, 2),
     (1, 52, "TreeOdds$Tree", "own", "(I)I", 3, 3),
     (5, 56, "", "", "", 65536, 0),
     (4, 57, "", "", "", 65536, 0),
     (1, 59, "TreeOdds", "of", "(II)I", 2, 3),
     (4, 60, "", "", "", 64, 0),
     (4, 62, "", "", "", 65472, 0),
     (1, 64, "java/lang/Math", "min", "(JJ)J", 9, 3),
     (1, 70, "java/lang/Math", "max", "(JJ)J", 9, 1),
     (1, 73, "TreeOdds$Tree", "counts", "(II)V", 3, 6),
     (1, 77, "TreeOdds$Tree", "guesses", "()I", 3, 4),
     (1, 80, "TreeOdds$Source", "next", "(I)I", 13, 0),
     (1, 85, "TreeOdds$Seen", "sign", "(II)V", 14, 0),
     (1, 90, "TreeOdds$Tree", "comes", "(I)V", 3, 5)]
    [("zeros", .array .int, 0x12), ("ones", .array .int, 0x12), ("weights", .array .int, 0x12), ("owns", .array .int, 0x12), ("guesses", .array .int, 0x12), ("depth", .int, 0x2), ("guess", .object "TreeOdds$Guess", 0x2), ("past", .int, 0x2)] (Lib.HandJ.method "<init>" "()V" [] none 0x2 1 prog_8_method_1_code) with
  linked := true,
  methods := #[Lib.HandJ.method "<init>" "()V" [] none 0x2 1 prog_8_method_1_code,
    Lib.HandJ.method "begins" "(ILTreeOdds$Guess;)V" [.int, .object "TreeOdds$Guess"] none 0x0 4 prog_8_method_2_code,
    Lib.HandJ.method "node" "(II)I" [.int, .int] (some .int) 0x8 2 prog_8_method_3_code,
    Lib.HandJ.method "own" "(I)I" [.int] (some .int) 0x0 2 prog_8_method_4_code,
    Lib.HandJ.method "guesses" "()I" [] (some .int) 0x0 5 prog_8_method_5_code,
    Lib.HandJ.method "comes" "(I)V" [.int] none 0x0 8 prog_8_method_6_code,
    Lib.HandJ.method "counts" "(II)V" [.int, .int] none 0x2 3 prog_8_method_7_code,
    Lib.HandJ.method "runs" "(ILTreeOdds$Source;LTreeOdds$Seen;)V" [.int, .object "TreeOdds$Source", .object "TreeOdds$Seen"] none 0x0 7 prog_8_method_8_code],
  nestHost := some 2 }
def bad1.c4 : Class := (suCatPool (fun b => let u := stringToUtf16; (#[.utf8 (u "java/lang/invoke/StringConcatFactory"), .class_ (b + 0), .utf8 (u "makeConcatWithConstants"), .utf8 (u Jvm.Concat.bootstrapDesc), .nameAndType (b + 2) (b + 3), .methodref (b + 1) (b + 4), .methodHandle 6 (b + 5), .utf8 (u "java/lang/invoke/LambdaMetafactory"), .class_ (b + 7), .utf8 (u "metafactory"), .utf8 (u Jvm.Lambda.metafactoryDesc), .nameAndType (b + 9) (b + 10), .methodref (b + 8) (b + 11), .methodHandle 6 (b + 12), .utf8 (u "next"), .utf8 (u "(LTreeOdds$Writing;)LTreeOdds$Source;"), .nameAndType (b + 14) (b + 15), .utf8 (u "(I)I"), .methodType (b + 17), .utf8 (u "TreeOdds$Writing"), .class_ (b + 19), .utf8 (u "lambda$writes$0"), .utf8 (u "(I)I"), .nameAndType (b + 21) (b + 22), .methodref (b + 20) (b + 23), .methodHandle 5 (b + 24), .utf8 (u "(I)I"), .methodType (b + 26), .utf8 (u "sign"), .utf8 (u "(LTreeOdds$Writing;)LTreeOdds$Seen;"), .nameAndType (b + 28) (b + 29), .utf8 (u "(II)V"), .methodType (b + 31), .utf8 (u "TreeOdds$Writing"), .class_ (b + 33), .utf8 (u "signs"), .utf8 (u "(II)V"), .nameAndType (b + 35) (b + 36), .methodref (b + 34) (b + 37), .methodHandle 5 (b + 38), .utf8 (u "(II)V"), .methodType (b + 40), .utf8 (u "next"), .utf8 (u "(LTreeOdds$Writing;)LTreeOdds$Source;"), .nameAndType (b + 42) (b + 43), .utf8 (u "(I)I"), .methodType (b + 45), .utf8 (u "TreeOdds$Writing"), .class_ (b + 47), .utf8 (u "lambda$reads$1"), .utf8 (u "(I)I"), .nameAndType (b + 49) (b + 50), .methodref (b + 48) (b + 51), .methodHandle 5 (b + 52), .utf8 (u "(I)I"), .methodType (b + 54), .utf8 (u "sign"), .utf8 (u "(LTreeOdds$Writing;)LTreeOdds$Seen;"), .nameAndType (b + 56) (b + 57), .utf8 (u "(II)V"), .methodType (b + 59), .utf8 (u "TreeOdds$Writing"), .class_ (b + 61), .utf8 (u "lambda$reads$2"), .utf8 (u "(II)V"), .nameAndType (b + 63) (b + 64), .methodref (b + 62) (b + 65), .methodHandle 5 (b + 66), .utf8 (u "(II)V"), .methodType (b + 68)], #[{ bootstrapMethodRef := b + 13, bootstrapArguments := #[b + 18, b + 25, b + 27] }, { bootstrapMethodRef := b + 13, bootstrapArguments := #[b + 32, b + 39, b + 41] }, { bootstrapMethodRef := b + 13, bootstrapArguments := #[b + 46, b + 53, b + 55] }, { bootstrapMethodRef := b + 13, bootstrapArguments := #[b + 60, b + 67, b + 69] }], [(71, .invokeDynamic 0 (b + 16)), (75, .invokeDynamic 1 (b + 30)), (95, .invokeDynamic 2 (b + 44)), (96, .invokeDynamic 3 (b + 58))])) <| { sv_own "TreeOdds$Writing" 0x30
    [(0, 3, "TreeOdds$Writing", "this$0", "LTreeOdds;", 4, 5),
     (1, 9, "java/lang/Object", "<init>", "()V", 1, 0),
     (0, 15, "TreeOdds$Writing", "bytes", "[I", 4, 0),
     (0, 19, "TreeOdds$Writing", "range", "J", 4, 3),
     (4, 23, "", "", "", 65536, 0),
     (0, 25, "TreeOdds$Writing", "low", "J", 4, 2),
     (0, 28, "TreeOdds$Writing", "made", "I", 4, 1),
     (4, 32, "", "", "", 16777215, 0),
     (1, 34, "TreeOdds$Writing", "part", "(I)J", 4, 1),
     (4, 38, "", "", "", 16777216, 0),
     (1, 40, "TreeOdds$Writing", "out", "()V", 4, 2),
     (4, 43, "", "", "", 4294967296, 0),
     (0, 45, "TreeOdds", "trial", "LTreeOdds$Tree;", 2, 6),
     (0, 49, "TreeOdds", "depth", "I", 2, 2),
     (0, 52, "TreeOdds", "kind", "I", 2, 3),
     (1, 55, "TreeOdds", "guess", "(I)LTreeOdds$Guess;", 2, 7),
     (1, 59, "TreeOdds$Tree", "begins", "(ILTreeOdds$Guess;)V", 3, 1),
     (0, 65, "TreeOdds", "at", "I", 2, 18),
     (0, 68, "TreeOdds", "many", "I", 2, 1),
     (5, 71, "", "", "", 0, 0),
     (5, 75, "", "", "", 0, 0),
     (1, 79, "TreeOdds$Tree", "runs", "(ILTreeOdds$Source;LTreeOdds$Seen;)V", 3, 7),
     (0, 83, "TreeOdds$Writing", "code", "J", 4, 4),
     (1, 86, "TreeOdds$Writing", "takes", "()V", 4, 5),
     (0, 89, "TreeOdds", "sum", "I", 2, 17),
     (0, 92, "TreeOdds", "good", "I", 2, 21),
     (5, 95, "", "", "", 0, 0),
     (5, 96, "", "", "", 0, 0),
     (0, 97, "TreeOdds", "row", "[I", 2, 0),
     (1, 100, "TreeOdds$Writing", "reads", "(I)I", 4, 6)]
    [("bytes", .array .int, 0x12), ("made", .int, 0x2), ("low", .long, 0x2), ("range", .long, 0x2), ("code", .long, 0x2), ("this$0", .object "TreeOdds", 0x1010)] (Lib.HandJ.method "<init>" "(LTreeOdds;)V" [.object "TreeOdds"] none 0x2 2 prog_9_method_1_code) with
  linked := true,
  methods := #[Lib.HandJ.method "<init>" "(LTreeOdds;)V" [.object "TreeOdds"] none 0x2 2 prog_9_method_1_code,
    Lib.HandJ.method "part" "(I)J" [.int] (some .long) 0x2 2 prog_9_method_2_code,
    Lib.HandJ.method "out" "()V" [] none 0x2 3 prog_9_method_3_code,
    Lib.HandJ.method "signs" "(II)V" [.int, .int] none 0x2 5 prog_9_method_4_code,
    Lib.HandJ.method "writes" "()V" [] none 0x0 2 prog_9_method_5_code,
    Lib.HandJ.method "takes" "()V" [] none 0x2 1 prog_9_method_6_code,
    Lib.HandJ.method "reads" "(I)I" [.int] (some .int) 0x2 5 prog_9_method_7_code,
    Lib.HandJ.method "reads" "()I" [] (some .int) 0x0 2 prog_9_method_8_code,
    Lib.HandJ.method "lambda$reads$2" "(II)V" [.int, .int] none 0x1002 3 prog_9_method_9_code,
    Lib.HandJ.method "lambda$reads$1" "(I)I" [.int] (some .int) 0x1002 2 prog_9_method_10_code,
    Lib.HandJ.method "lambda$writes$0" "(I)I" [.int] (some .int) 0x1002 2 prog_9_method_11_code],
  nestHost := some 2 })
def bad1.c5 : Class := { sv_own "TreeOdds$Reader" 0x30
    [(0, 3, "TreeOdds$Reader", "this$0", "LTreeOdds;", 5, 3),
     (1, 9, "java/lang/Object", "<init>", "()V", 1, 0),
     (0, 15, "TreeOdds$Reader", "told", "[I", 5, 1),
     (0, 19, "TreeOdds$Reader", "at", "I", 5, 0),
     (0, 23, "TreeOdds", "typed", "I", 2, 15),
     (0, 26, "TreeOdds", "text", "[B", 2, 14),
     (1, 30, "TreeOdds$Reader", "isAt", "(CC)Z", 5, 1),
     (2, 34, "TreeOdds$Fault", "", "", 16, 0),
     (1, 36, "TreeOdds$Fault", "<init>", "(I)V", 16, 0),
     (1, 39, "TreeOdds$Reader", "wants", "(Z)V", 5, 3),
     (1, 43, "TreeOdds$Reader", "goesOn", "()V", 5, 2),
     (0, 46, "TreeOdds$Reader", "lined", "I", 5, 2),
     (0, 49, "TreeOdds", "many", "I", 2, 1),
     (1, 52, "TreeOdds$Reader", "times", "()I", 5, 4),
     (1, 56, "TreeOdds$Reader", "repeats", "(III)V", 5, 5),
     (1, 60, "TreeOdds$Reader", "sign", "()V", 5, 6),
     (1, 63, "TreeOdds$Reader", "group", "()V", 5, 7)]
    [("at", .int, 0x2), ("told", .array .int, 0x12), ("lined", .int, 0x2), ("this$0", .object "TreeOdds", 0x1010)] (Lib.HandJ.method "<init>" "(LTreeOdds;)V" [.object "TreeOdds"] none 0x2 2 prog_5_method_1_code) with
  linked := true,
  methods := #[Lib.HandJ.method "<init>" "(LTreeOdds;)V" [.object "TreeOdds"] none 0x2 2 prog_5_method_1_code,
    Lib.HandJ.method "isAt" "(CC)Z" [.char, .char] (some .boolean) 0x2 3 prog_5_method_2_code,
    Lib.HandJ.method "goesOn" "()V" [] none 0x2 1 prog_5_method_3_code,
    Lib.HandJ.method "wants" "(Z)V" [.boolean] none 0x2 2 prog_5_method_4_code,
    Lib.HandJ.method "times" "()I" [] (some .int) 0x2 4 prog_5_method_5_code,
    Lib.HandJ.method "repeats" "(III)V" [.int, .int, .int] none 0x2 6 prog_5_method_6_code,
    Lib.HandJ.method "sign" "()V" [] none 0x2 2 prog_5_method_7_code,
    Lib.HandJ.method "group" "()V" [] none 0x2 3 prog_5_method_8_code,
    Lib.HandJ.method "reads" "()V" [] none 0x0 1 prog_5_method_9_code],
  nestHost := some 2 }
def bad1.c6 : Class := { sv_own "TreeOdds$Guesser" 0x30
    [(1, 1, "java/lang/Object", "<init>", "()V", 1, 0),
     (0, 7, "TreeOdds$Guesser", "guess", "LTreeOdds$Guess;", 6, 0)]
    [("guess", .object "TreeOdds$Guess", 0x12)] (Lib.HandJ.method "<init>" "(LTreeOdds$Guess;)V" [.object "TreeOdds$Guess"] none 0x0 2 prog_4_method_1_code) with
  linked := true,
  methods := #[Lib.HandJ.method "<init>" "(LTreeOdds$Guess;)V" [.object "TreeOdds$Guess"] none 0x0 2 prog_4_method_1_code],
  nestHost := some 2 }
def bad1.c7 : Class := { sv_own "TreeOddsModel" 0x31
    [(1, 1, "java/lang/Object", "<init>", "()V", 1, 0),
     (0, 7, "TreeOddsModel", "now", "[I", 7, 0),
     (0, 13, "TreeOddsModel", "past", "[I", 7, 1),
     (0, 16, "TreeOddsModel", "refused", "[I", 7, 3),
     (0, 19, "TreeOddsModel", "line", "[I", 7, 4),
     (0, 22, "TreeOddsModel", "noughts", "[I", 7, 8),
     (0, 25, "TreeOddsModel", "ones", "[I", 7, 9),
     (0, 28, "TreeOddsModel", "weights", "[I", 7, 10),
     (0, 31, "TreeOddsModel", "ownCost", "[I", 7, 11),
     (0, 34, "TreeOddsModel", "way", "[I", 7, 12),
     (0, 37, "TreeOddsModel", "own", "[I", 7, 13),
     (0, 40, "TreeOddsModel", "mixed", "[I", 7, 14),
     (0, 43, "TreeOddsModel", "guessAt", "[I", 7, 15),
     (0, 46, "TreeOddsModel", "treeCost", "[I", 7, 16),
     (0, 49, "TreeOddsModel", "isLeaf", "[Z", 7, 17),
     (0, 53, "TreeOddsModel", "inTree", "[I", 7, 18),
     (0, 56, "TreeOddsModel", "out", "[I", 7, 19),
     (0, 59, "TreeOddsModel", "text", "[I", 7, 22),
     (0, 62, "TreeOddsModel", "read", "[I", 7, 25),
     (0, 65, "TreeOddsModel", "states", "I", 7, 2),
     (0, 69, "TreeOddsModel", "came", "I", 7, 5),
     (0, 72, "TreeOddsModel", "byDepth", "I", 7, 6),
     (0, 75, "TreeOddsModel", "byGuesser", "I", 7, 7),
     (5, 78, "", "", "", 32768, 0),
     (4, 79, "", "", "", 65535, 0),
     (5, 81, "", "", "", 65535, 0),
     (4, 82, "", "", "", 65536, 0),
     (1, 84, "TreeOddsModel", "held", "(J)I", 7, 10),
     (1, 88, "TreeOddsModel", "nodeOf", "(II)I", 7, 12),
     (1, 92, "TreeOddsModel", "ownOf", "(I)I", 7, 11),
     (5, 96, "", "", "", 65536, 0),
     (1, 97, "TreeOddsModel", "odds", "(II)I", 7, 14),
     (4, 100, "", "", "", 64, 0),
     (4, 102, "", "", "", 65472, 0),
     (5, 104, "", "", "", 65472, 0),
     (1, 105, "TreeOddsModel", "bitsOf", "(I)I", 7, 15),
     (1, 108, "TreeOddsModel", "begins", "(II)V", 7, 9),
     (1, 112, "TreeOddsModel", "many", "()I", 7, 5),
     (1, 116, "TreeOddsModel", "guesses", "()I", 7, 13),
     (1, 119, "TreeOddsModel", "comes", "(I)V", 7, 16),
     (1, 123, "TreeOddsModel", "depth", "()I", 7, 6),
     (1, 126, "TreeOddsModel", "guesser", "()I", 7, 7),
     (1, 129, "TreeOddsModel", "goes", "(II)I", 7, 17),
     (1, 132, "TreeOddsModel", "goesNow", "()I", 7, 18),
     (1, 135, "TreeOddsModel", "costAt", "(I)I", 7, 19),
     (1, 138, "TreeOddsModel", "in", "(JJJ)Z", 7, 1),
     (1, 142, "TreeOddsModel", "bad", "(I)I", 7, 2),
     (1, 145, "TreeOddsModel", "full", "()I", 7, 4),
     (1, 148, "TreeOddsModel", "keep", "()V", 7, 8),
     (1, 151, "TreeOddsModel", "adds", "(I)V", 7, 20),
     (1, 154, "TreeOddsModel", "costFrom", "(I)I", 7, 21),
     (4, 157, "", "", "", 999999, 0),
     (4, 159, "", "", "", 100, 0),
     (4, 161, "", "", "", 1103515245, 0),
     (4, 163, "", "", "", 12345, 0),
     (4, 165, "", "", "", 2147483648, 0),
     (4, 167, "", "", "", 6, 0),
     (4, 169, "", "", "", 3, 0),
     (1, 171, "TreeOddsModel", "no", "()I", 7, 3),
     (1, 174, "TreeOddsModel", "guessNow", "()I", 7, 29),
     (1, 177, "TreeOddsModel", "isNode", "(II)Z", 7, 32),
     (4, 181, "", "", "", 2, 0),
     (4, 183, "", "", "", 16, 0),
     (1, 185, "TreeOddsModel", "plants", "()V", 7, 38),
     (1, 188, "TreeOddsModel", "leaves", "(Z)I", 7, 39),
     (1, 192, "TreeOddsModel", "treeOf", "(I)I", 7, 40),
     (0, 195, "TreeOddsModel", "low", "J", 7, 21),
     (4, 199, "", "", "", 16777216, 0),
     (4, 201, "", "", "", 255, 0),
     (0, 203, "TreeOddsModel", "outLong", "I", 7, 20),
     (4, 206, "", "", "", 256, 0),
     (4, 208, "", "", "", 4294967296, 0),
     (1, 210, "TreeOddsModel", "goesOut", "()V", 7, 43),
     (1, 213, "TreeOddsModel", "writes", "()V", 7, 44),
     (4, 216, "", "", "", 18446744073709551615, 0),
     (1, 218, "TreeOddsModel", "byteAt", "(I)I", 7, 46),
     (4, 221, "", "", "", 127, 0),
     (0, 223, "TreeOddsModel", "textLong", "I", 7, 23),
     (0, 226, "TreeOddsModel", "place", "I", 7, 24),
     (4, 229, "", "", "", 48, 0),
     (4, 231, "", "", "", 57, 0),
     (1, 233, "TreeOddsModel", "here", "()I", 7, 50),
     (1, 236, "TreeOddsModel", "isFigure", "(I)Z", 7, 51),
     (0, 240, "TreeOddsModel", "readLong", "I", 7, 26),
     (1, 243, "TreeOddsModel", "times", "()I", 7, 52),
     (1, 246, "TreeOddsModel", "readsSign", "()Z", 7, 53),
     (1, 250, "TreeOddsModel", "readsMany", "()Z", 7, 54),
     (4, 253, "", "", "", 7, 0),
     (1, 255, "TreeOddsModel", "counted", "(I)I", 7, 57),
     (4, 258, "", "", "", 2113, 0),
     (4, 260, "", "", "", 31, 0)]
    [("now", .array .int, 0x12), ("past", .array .int, 0x12), ("states", .int, 0x2), ("refused", .array .int, 0x12), ("line", .array .int, 0x12), ("came", .int, 0x2), ("byDepth", .int, 0x2), ("byGuesser", .int, 0x2), ("noughts", .array .int, 0x12), ("ones", .array .int, 0x12), ("weights", .array .int, 0x12), ("ownCost", .array .int, 0x12), ("way", .array .int, 0x12), ("own", .array .int, 0x12), ("mixed", .array .int, 0x12), ("guessAt", .array .int, 0x12), ("treeCost", .array .int, 0x12), ("isLeaf", .array .boolean, 0x12), ("inTree", .array .int, 0x12), ("out", .array .int, 0x12), ("outLong", .int, 0x2), ("low", .long, 0x2), ("text", .array .int, 0x12), ("textLong", .int, 0x2), ("place", .int, 0x2), ("read", .array .int, 0x12), ("readLong", .int, 0x2)] (Lib.HandJ.method "<init>" "()V" [] none 0x1 1 prog_11_method_1_code) with
  linked := true,
  methods := #[Lib.HandJ.method "<init>" "()V" [] none 0x1 1 prog_11_method_1_code,
    Lib.HandJ.method "in" "(JJJ)Z" [.long, .long, .long] (some .boolean) 0xa 6 prog_11_method_3_code,
    Lib.HandJ.method "bad" "(I)I" [.int] (some .int) 0x2 2 prog_11_method_4_code,
    Lib.HandJ.method "no" "()I" [] (some .int) 0x2 1 prog_11_method_5_code,
    Lib.HandJ.method "full" "()I" [] (some .int) 0x2 1 prog_11_method_6_code,
    Lib.HandJ.method "many" "()I" [] (some .int) 0x2 1 prog_11_method_7_code,
    Lib.HandJ.method "depth" "()I" [] (some .int) 0x2 1 prog_11_method_8_code,
    Lib.HandJ.method "guesser" "()I" [] (some .int) 0x2 1 prog_11_method_9_code,
    Lib.HandJ.method "keep" "()V" [] none 0x2 2 prog_11_method_10_code,
    Lib.HandJ.method "begins" "(II)V" [.int, .int] none 0x2 4 prog_11_method_11_code,
    Lib.HandJ.method "held" "(J)I" [.long] (some .int) 0xa 2 prog_11_method_12_code,
    Lib.HandJ.method "ownOf" "(I)I" [.int] (some .int) 0x2 6 prog_11_method_13_code,
    Lib.HandJ.method "nodeOf" "(II)I" [.int, .int] (some .int) 0xa 2 prog_11_method_14_code,
    Lib.HandJ.method "guesses" "()I" [] (some .int) 0x2 5 prog_11_method_15_code,
    Lib.HandJ.method "odds" "(II)I" [.int, .int] (some .int) 0xa 2 prog_11_method_16_code,
    Lib.HandJ.method "bitsOf" "(I)I" [.int] (some .int) 0xa 4 prog_11_method_17_code,
    Lib.HandJ.method "comes" "(I)V" [.int] none 0x2 11 prog_11_method_18_code,
    Lib.HandJ.method "goes" "(II)I" [.int, .int] (some .int) 0x2 5 prog_11_method_19_code,
    Lib.HandJ.method "goesNow" "()I" [] (some .int) 0x2 1 prog_11_method_20_code,
    Lib.HandJ.method "costAt" "(I)I" [.int] (some .int) 0x2 2 prog_11_method_21_code,
    Lib.HandJ.method "adds" "(I)V" [.int] none 0x2 2 prog_11_method_22_code,
    Lib.HandJ.method "costFrom" "(I)I" [.int] (some .int) 0x2 5 prog_11_method_23_code,
    Lib.HandJ.method "sign" "(I)I" [.int] (some .int) 0x1 2 prog_11_method_24_code,
    Lib.HandJ.method "signs" "(JI)I" [.long, .int] (some .int) 0x1 6 prog_11_method_25_code,
    Lib.HandJ.method "draw" "(III)I" [.int, .int, .int] (some .int) 0x1 9 prog_11_method_26_code,
    Lib.HandJ.method "sets" "(II)I" [.int, .int] (some .int) 0x1 4 prog_11_method_27_code,
    Lib.HandJ.method "empties" "()I" [] (some .int) 0x1 2 prog_11_method_28_code,
    Lib.HandJ.method "drop" "()I" [] (some .int) 0x1 1 prog_11_method_29_code,
    Lib.HandJ.method "at" "(I)I" [.int] (some .int) 0x1 2 prog_11_method_30_code,
    Lib.HandJ.method "guessNow" "()I" [] (some .int) 0x2 2 prog_11_method_31_code,
    Lib.HandJ.method "guess" "()I" [] (some .int) 0x1 1 prog_11_method_32_code,
    Lib.HandJ.method "was" "(II)I" [.int, .int] (some .int) 0x1 4 prog_11_method_33_code,
    Lib.HandJ.method "isNode" "(II)Z" [.int, .int] (some .boolean) 0x2 3 prog_11_method_34_code,
    Lib.HandJ.method "node" "(III)I" [.int, .int, .int] (some .int) 0x1 6 prog_11_method_35_code,
    Lib.HandJ.method "cost" "()I" [] (some .int) 0x1 1 prog_11_method_36_code,
    Lib.HandJ.method "costBy" "(II)I" [.int, .int] (some .int) 0x1 3 prog_11_method_37_code,
    Lib.HandJ.method "best" "(I)I" [.int] (some .int) 0x1 6 prog_11_method_38_code,
    Lib.HandJ.method "follows" "(I)I" [.int] (some .int) 0x1 6 prog_11_method_39_code,
    Lib.HandJ.method "plants" "()V" [] none 0x2 7 prog_11_method_40_code,
    Lib.HandJ.method "leaves" "(Z)I" [.boolean] (some .int) 0x2 7 prog_11_method_41_code,
    Lib.HandJ.method "treeOf" "(I)I" [.int] (some .int) 0x2 2 prog_11_method_42_code,
    Lib.HandJ.method "tree" "(I)I" [.int] (some .int) 0x1 2 prog_11_method_43_code,
    Lib.HandJ.method "leaf" "(II)I" [.int, .int] (some .int) 0x1 3 prog_11_method_44_code,
    Lib.HandJ.method "goesOut" "()V" [] none 0x2 4 prog_11_method_45_code,
    Lib.HandJ.method "writes" "()V" [] none 0x2 7 prog_11_method_46_code,
    Lib.HandJ.method "written" "(I)I" [.int] (some .int) 0x1 2 prog_11_method_47_code,
    Lib.HandJ.method "byteAt" "(I)I" [.int] (some .int) 0x2 2 prog_11_method_48_code,
    Lib.HandJ.method "reads" "(II)I" [.int, .int] (some .int) 0x1 13 prog_11_method_49_code,
    Lib.HandJ.method "type" "(I)I" [.int] (some .int) 0x1 2 prog_11_method_50_code,
    Lib.HandJ.method "clear" "()I" [] (some .int) 0x1 2 prog_11_method_51_code,
    Lib.HandJ.method "here" "()I" [] (some .int) 0x2 1 prog_11_method_52_code,
    Lib.HandJ.method "isFigure" "(I)Z" [.int] (some .boolean) 0x2 2 prog_11_method_53_code,
    Lib.HandJ.method "times" "()I" [] (some .int) 0x2 5 prog_11_method_54_code,
    Lib.HandJ.method "readsSign" "()Z" [] (some .boolean) 0x2 5 prog_11_method_55_code,
    Lib.HandJ.method "readsMany" "()Z" [] (some .boolean) 0x2 6 prog_11_method_56_code,
    Lib.HandJ.method "told" "()I" [] (some .int) 0x1 3 prog_11_method_57_code,
    Lib.HandJ.method "back" "()I" [] (some .int) 0x1 2 prog_11_method_58_code,
    Lib.HandJ.method "counted" "(I)I" [.int] (some .int) 0x2 2 prog_11_method_59_code,
    Lib.HandJ.method "count" "(I)I" [.int] (some .int) 0x1 2 prog_11_method_60_code,
    Lib.HandJ.method "digest" "()J" [] (some .long) 0x1 4 prog_11_method_61_code] }
def bad1.c8 : Class := { sv_own "java/lang/System" 0x31
    []
    [] ({ name := "arraycopy", desc := "(Ljava/lang/Object;ILjava/lang/Object;II)V", sig := { parameters := [.object "java/lang/Object", .int, .object "java/lang/Object", .int, .int], returnType := none }, accessFlags := 0x109, code := none }) with
  linked := true,
  methods := #[{ name := "arraycopy", desc := "(Ljava/lang/Object;ILjava/lang/Object;II)V", sig := { parameters := [.object "java/lang/Object", .int, .object "java/lang/Object", .int, .int], returnType := none }, accessFlags := 0x109, code := none }] }
def bad1.c9 : Class := { sv_own "java/lang/Math" 0x31
    []
    [] (Lib.HandJ.method "max" "(II)I" [.int, .int] (some .int) 0x9 2 prog_14_method_65_code) with
  linked := true,
  methods := #[Lib.HandJ.method "max" "(II)I" [.int, .int] (some .int) 0x9 2 prog_14_method_65_code,
    Lib.HandJ.method "max" "(JJ)J" [.long, .long] (some .long) 0x9 4 prog_14_method_66_code,
    Lib.HandJ.method "min" "(II)I" [.int, .int] (some .int) 0x9 2 prog_14_method_69_code,
    Lib.HandJ.method "min" "(JJ)J" [.long, .long] (some .long) 0x9 4 prog_14_method_70_code] }
def bad1.c10 : Class := { sv_own "java/lang/Integer" 0x31
    [(5, 264, "", "", "", 65536, 0)]
    [("value", .int, 0x12)] (Lib.HandJ.method "numberOfLeadingZeros" "(I)I" [.int] (some .int) 0x9 2 prog_13_method_47_code) with
  linked := true,
  methods := #[Lib.HandJ.method "numberOfLeadingZeros" "(I)I" [.int] (some .int) 0x9 2 prog_13_method_47_code] }
def bad1.c11 : Class := { sv_own "java/lang/Throwable" 0x21
    [(1, 1, "java/lang/Object", "<init>", "()V", 1, 0),
     (0, 7, "java/lang/Throwable", "cause", "Ljava/lang/Throwable;", 11, 2),
     (0, 13, "java/lang/Throwable", "UNASSIGNED_STACK", "[Ljava/lang/StackTraceElement;", 11, 7),
     (0, 17, "java/lang/Throwable", "stackTrace", "[Ljava/lang/StackTraceElement;", 11, 3),
     (0, 20, "java/lang/Throwable", "SUPPRESSED_SENTINEL", "Ljava/util/List;", 11, 8),
     (0, 24, "java/lang/Throwable", "suppressedExceptions", "Ljava/util/List;", 11, 5),
     (1, 27, "java/lang/Throwable", "fillInStackTrace", "()Ljava/lang/Throwable;", 11, 3),
     (0, 31, "java/lang/Throwable", "detailMessage", "Ljava/lang/String;", 11, 1),
     (0, 198, "java/lang/Throwable", "backtrace", "Ljava/lang/Object;", 11, 0),
     (1, 202, "java/lang/Throwable", "fillInStackTrace", "(I)Ljava/lang/Throwable;", 11, 4)]
    [("backtrace", .object "java/lang/Object", 0x82), ("detailMessage", .object "java/lang/String", 0x2), ("cause", .object "java/lang/Throwable", 0x2), ("stackTrace", .array (.object "java/lang/StackTraceElement"), 0x2), ("depth", .int, 0x82), ("suppressedExceptions", .object "java/util/List", 0x2)] (Lib.HandJ.method "<init>" "()V" [] none 0x1 1 prog_16_method_1_code) with
  linked := true,
  methods := #[Lib.HandJ.method "<init>" "()V" [] none 0x1 1 prog_16_method_1_code,
    { name := "<init>", desc := "(Ljava/lang/String;)V", sig := { parameters := [.object "java/lang/String"], returnType := none }, accessFlags := 0x1, code := none },
    Lib.HandJ.method "<init>" "(Ljava/lang/String;Ljava/lang/Throwable;ZZ)V" [.object "java/lang/String", .object "java/lang/Throwable", .boolean, .boolean] none 0x4 5 prog_16_method_5_code,
    Lib.HandJ.method "fillInStackTrace" "()Ljava/lang/Throwable;" [] (some (.object "java/lang/Throwable")) 0x21 1 prog_16_method_18_code,
    { name := "fillInStackTrace", desc := "(I)Ljava/lang/Throwable;", sig := { parameters := [.int], returnType := some (.object "java/lang/Throwable") }, accessFlags := 0x102, code := none }],
  fields := (Lib.HandW.fieldsFrom [("backtrace", .object "java/lang/Object", 0x82), ("detailMessage", .object "java/lang/String", 0x2), ("cause", .object "java/lang/Throwable", 0x2), ("stackTrace", .array (.object "java/lang/StackTraceElement"), 0x2), ("depth", .int, 0x82), ("suppressedExceptions", .object "java/util/List", 0x2)] 0).toArray ++ #[{ name := "serialVersionUID", type := .long, accessFlags := 0x1a, slot := 0, constantValue := 0 }, { name := "UNASSIGNED_STACK", type := .array (.object "java/lang/StackTraceElement"), accessFlags := 0x1a, slot := 1, constantValue := 0 }, { name := "SUPPRESSED_SENTINEL", type := .object "java/util/List", accessFlags := 0x1a, slot := 2, constantValue := 0 }, { name := "NULL_CAUSE_MESSAGE", type := .object "java/lang/String", accessFlags := 0x1a, slot := 3, constantValue := 0 }, { name := "SELF_SUPPRESSION_MESSAGE", type := .object "java/lang/String", accessFlags := 0x1a, slot := 4, constantValue := 0 }, { name := "CAUSE_CAPTION", type := .object "java/lang/String", accessFlags := 0x1a, slot := 5, constantValue := 0 }, { name := "SUPPRESSED_CAPTION", type := .object "java/lang/String", accessFlags := 0x1a, slot := 6, constantValue := 0 }, { name := "EMPTY_THROWABLE_ARRAY", type := .array (.object "java/lang/Throwable"), accessFlags := 0x1a, slot := 7, constantValue := 0 }, { name := "$assertionsDisabled", type := .boolean, accessFlags := 0x1018, slot := 8, constantValue := 0 }],
  staticTypes := #[.long, .array (.object "java/lang/StackTraceElement"), .object "java/util/List", .object "java/lang/String", .object "java/lang/String", .object "java/lang/String", .object "java/lang/String", .array (.object "java/lang/Throwable"), .boolean],
  statics := some 1 }
def bad1.c12 : Class := { sv_own "TreeOdds$Guess" 0x600
    []
    [] ({ name := "of", desc := "(II)I", sig := { parameters := [.int, .int], returnType := some .int }, accessFlags := 0x401, code := none }) with
  linked := true,
  methods := #[{ name := "of", desc := "(II)I", sig := { parameters := [.int, .int], returnType := some .int }, accessFlags := 0x401, code := none }],
  nestHost := some 2 }
def bad1.c13 : Class := { sv_own "TreeOdds$Source" 0x600
    []
    [] ({ name := "next", desc := "(I)I", sig := { parameters := [.int], returnType := some .int }, accessFlags := 0x401, code := none }) with
  linked := true,
  methods := #[{ name := "next", desc := "(I)I", sig := { parameters := [.int], returnType := some .int }, accessFlags := 0x401, code := none }],
  nestHost := some 2 }
def bad1.c14 : Class := { sv_own "TreeOdds$Seen" 0x600
    []
    [] ({ name := "sign", desc := "(II)V", sig := { parameters := [.int, .int], returnType := none }, accessFlags := 0x401, code := none }) with
  linked := true,
  methods := #[{ name := "sign", desc := "(II)V", sig := { parameters := [.int, .int], returnType := none }, accessFlags := 0x401, code := none }],
  nestHost := some 2 }
def bad1.c15 : Class := { sv_own "java/lang/Exception" 0x21
    [(1, 16, "java/lang/Throwable", "<init>", "(Ljava/lang/String;Ljava/lang/Throwable;ZZ)V", 11, 2)]
    [] ({ name := "<init>", desc := "()V", sig := { parameters := [], returnType := none }, accessFlags := 0x1, code := none }) with
  linked := true,
  methods := #[{ name := "<init>", desc := "()V", sig := { parameters := [], returnType := none }, accessFlags := 0x1, code := none },
    { name := "<init>", desc := "(Ljava/lang/String;)V", sig := { parameters := [.object "java/lang/String"], returnType := none }, accessFlags := 0x1, code := none },
    Lib.HandJ.method "<init>" "(Ljava/lang/String;Ljava/lang/Throwable;ZZ)V" [.object "java/lang/String", .object "java/lang/Throwable", .boolean, .boolean] none 0x4 5 prog_12_method_5_code],
  super := some 11,
  instanceTypes := #[.object "java/lang/Object", .object "java/lang/String", .object "java/lang/Throwable", .array (.object "java/lang/StackTraceElement"), .int, .object "java/util/List"],
  fields := (Lib.HandW.fieldsFrom [] 6).toArray }
def bad1.c16 : Class := { sv_own "TreeOdds$Fault" 0x30
    [(1, 1, "java/lang/Exception", "<init>", "(Ljava/lang/String;Ljava/lang/Throwable;ZZ)V", 15, 2),
     (0, 7, "TreeOdds$Fault", "place", "I", 16, 0)]
    [("place", .int, 0x12)] (Lib.HandJ.method "<init>" "(I)V" [.int] none 0x0 2 prog_2_method_1_code) with
  linked := true,
  methods := #[Lib.HandJ.method "<init>" "(I)V" [.int] none 0x0 2 prog_2_method_1_code],
  nestHost := some 2,
  super := some 15,
  instanceTypes := #[.object "java/lang/Object", .object "java/lang/String", .object "java/lang/Throwable", .array (.object "java/lang/StackTraceElement"), .int, .object "java/util/List", .int],
  fields := (Lib.HandW.fieldsFrom [("place", .int, 0x12)] 6).toArray }
def bad1.cPrim (name : String) (ch : Char) : Class := { Lib.HandJ.cls name #[] #[] 0x411 #[] #[] #[] with kind := .primitive ch, cf := none }
def bad1.cArr (name : String) (prim : Nat) (t : FieldType) : Class := { Lib.HandJ.cls name #[] #[] 0x411 #[] #[] #[] with kind := .array prim t, super := some 1, cf := none }
def bad1.args0 : Array Value := #[.ref 0]
def bad1.cells0 : Array Value := #[]
def bad1.aboutOf0 (script : Array Value) : State where
  vm := { classes := #[c0, cObj, c2, c3, c4, c5, c6, c7, c8, c9, c10, c11, c12, c13, c14, c15, c16, cPrim "int" 'I', cArr "[I" 17 .int, cPrim "byte" 'B', cArr "[B" 19 .byte, cPrim "boolean" 'Z', cArr "[Z" 21 .boolean, cArr "[LTreeOdds$Guesser;" 6 (.object "TreeOdds$Guesser"), suStub "java/lang/invoke/InnerClassLambdaMetafactory", cPrim "long" 'J', cArr "[J" 25 .long] }
  heap := #[{ cls := 18, slots := script, vm := .none }, { cls := 11, slots := #[.long 0, .null, .null, .null, .null, .null, .null, .null, .int 0], vm := .statics 11 }]
  slotsUsed := script.size + 9
  threads := #[{ frames := .invoking ⟨0, 0⟩ args0 :: Lib.HandBits.below0 }]
def bad1.suSh : Cond → Option Jvm.Lambda.Shape
  | .lambdaSite _ _ _ sh => some sh
  | _ => none
def bad1.suVm0 : Vm := (aboutOf0 #[]).vm
def bad1.suHeap0 : Nat := (aboutOf0 #[]).heap.size
def bad1.suLamCls (vm : Vm) (self : Nat) (dn : String) (host : Nat) (sho : Option Jvm.Lambda.Shape) : Class :=
  ((do
    let sh ← sho
    let cf ← sh.file dn
    let (fields, own, statics) ← layoutFields cf 1
    let methods ← layoutMethods cf
    pure ({ name := dn ++ "$$Lambda", kind := .ordinary, loader := none, accessFlags := cf.accessFlags, super := some 1, interfaces := #[(vm.findClass sh.iface).getD 0], cf := some cf, fields, methods, instanceTypes := #[.int] ++ own, staticTypes := statics, resolved := Jvm.Lambda.resolvedOf { classPath := fun _ => none } vm cf fields self, callSites := [], hidden := some "0x1", handedOver := true, nestHost := some host, linked := true, init := .initialized, statics := none, mirror := none } : Class)) : Option Class).getD Lib.HandBits.cObject
def bad1.aboutLam (script : Array Value) : State := { aboutOf0 script with
  vm := { classes := #[c0, cObj, { c2 with callSites := [(5, 162, .constant (suHeap0 + 0)), (5, 180, .constant (suHeap0 + 1)), (5, 198, .constant (suHeap0 + 2)), (5, 217, .makes (27 + 3)), (27, 32, .makes (27 + 4)), (27, 38, .makes (27 + 5)), (32, 50, .makes (27 + 6)), (32, 55, .constant (suHeap0 + 3)), (32, 78, .constant (suHeap0 + 4)), (32, 84, .makes (27 + 9))] }, c3, { c4 with callSites := [(4, 71, .makes (27 + 10)), (4, 77, .makes (27 + 11)), (7, 99, .makes (27 + 12)), (7, 105, .makes (27 + 13))] }, c5, c6, c7, c8, c9, c10, c11, c12, c13, c14, c15, c16, cPrim "int" 'I', cArr "[I" 17 .int, cPrim "byte" 'B', cArr "[B" 19 .byte, cPrim "boolean" 'Z', cArr "[Z" 21 .boolean, cArr "[LTreeOdds$Guesser;" 6 (.object "TreeOdds$Guesser"), suStub "java/lang/invoke/InnerClassLambdaMetafactory", cPrim "long" 'J', cArr "[J" 25 .long, suLamCls suVm0 (27 + 0) "TreeOdds" 2 (suSh siteWord_1_1), suLamCls suVm0 (27 + 1) "TreeOdds" 2 (suSh siteWord_1_2), suLamCls suVm0 (27 + 2) "TreeOdds" 2 (suSh siteWord_1_3), suLamCls suVm0 (27 + 3) "TreeOdds" 2 (suSh siteWord_1_4), suLamCls suVm0 (27 + 4) "TreeOdds" 2 (suSh siteWord_1_5), suLamCls suVm0 (27 + 5) "TreeOdds" 2 (suSh siteWord_1_6), suLamCls suVm0 (27 + 6) "TreeOdds" 2 (suSh siteWord_1_7), suLamCls suVm0 (27 + 7) "TreeOdds" 2 (suSh siteWord_1_8), suLamCls suVm0 (27 + 8) "TreeOdds" 2 (suSh siteWord_1_9), suLamCls suVm0 (27 + 9) "TreeOdds" 2 (suSh siteWord_1_10), suLamCls suVm0 (27 + 10) "TreeOdds$Writing" 2 (suSh siteWord_1_11), suLamCls suVm0 (27 + 11) "TreeOdds$Writing" 2 (suSh siteWord_1_12), suLamCls suVm0 (27 + 12) "TreeOdds$Writing" 2 (suSh siteWord_1_13), suLamCls suVm0 (27 + 13) "TreeOdds$Writing" 2 (suSh siteWord_1_14)] }
  heap := #[{ cls := 18, slots := script, vm := .none }, { cls := 11, slots := #[.long 0, .null, .null, .null, .null, .null, .null, .null, .int 0], vm := .statics 11 }, { cls := (27 + 0), slots := #[], vm := .none }, { cls := (27 + 1), slots := #[], vm := .none }, { cls := (27 + 2), slots := #[], vm := .none }, { cls := (27 + 7), slots := #[], vm := .none }, { cls := (27 + 8), slots := #[], vm := .none }] }
def bad1.aboutOf (script : Array Value) : State := aboutLam script
def bad1.about : State := aboutOf cells0
def bad1.p0 : Program := .bare "" "" ""
def bad1.e0 : Env := launch0.env 0 0 0
