theorem hd_X5_held : yX5_held.cls ≠ "java/lang/invoke/MethodHandle" ∧ yX5_held.cls ≠ "java/lang/invoke/VarHandle" ∧ (parseMethodDescriptor yX5_held.desc).map (fun d => d.parameters.length) = some 1 := by decide +kernel
theorem cw_X5_84 {R : Room} {s : State} {args : Array Value} (hts : ∀ w ∈ lw_all, w.before args s = true) (hR : rm_X5_held.frames + 1 ≤ R.frames ∧ 8 + (2 + 11) + rm_X5_held.locals ≤ R.locals) : CallB R s args RX5 84 yX5_held cX5_held 2 (some .int) (ws_ yX5_held cX5_held 2 (some .int)) rm_X5_held 0 0 1 ∧ (Cond.static yX5_held).before args s = true := va_cwS 1 hts (lw_S q844 q845 q72 q846) rfl rfl rfl hd_X5_held hR
-- TreeOddsModel.ownOf (I)I
abbrev rm_X5_ownOf : Room := { frames := 1, cells := 0, slots := 0, locals := 21 }
abbrev q_X5_ownOf (E : gE) (a : Nat → Nat) (m_states : Int32) (m_came : Int32) (m_byDepth : Int32) (m_outLong : Int32) (m_low : Int64) (m_textLong : Int32) (m_place : Int32) (m_readLong : Int32) (m_now : Nat → Int32) (m_past : Nat → Int32) (m_refused : Nat → Int32) (m_line : Nat → Int32) (m_weights : Nat → Int32) (m_ownCost : Nat → Int32) (m_way : Nat → Int32) (m_own : Nat → Int32) (m_mixed : Nat → Int32) (m_guessAt : Nat → Int32) (m_treeCost : Nat → Int32) (m_isLeaf : Nat → Int32) (m_inTree : Nat → Int32) (m_out : Nat → Int32) (m_text : Nat → Int32) (m_read : Nat → Int32) (m_byGuesser : Int32) (m_noughts : Nat → Int32) (m_ones : Nat → Int32) (K : Int32 → Prop) (A : Nat → Prop) : Array Value → State → Outcome → State → Prop := va_Qi (fun (r : Int32) (_ : Unit) => K r) (po_ E A (fun (_ : Unit) => wM E a m_states m_came m_byDepth m_byGuesser m_outLong m_low m_textLong m_place m_readLong m_now m_past m_refused m_line m_noughts m_ones m_weights m_ownCost m_way m_own m_mixed m_guessAt m_treeCost m_isLeaf m_inTree m_out m_text m_read)) A
abbrev g_X5_ownOf (p : Program) (l : Launch) (e : Env) (s : State) (m : MethodId) (args : Array Value) (below : List Frame) (meth : Method) (c : Code) (E : gE) (a : Nat → Nat) (A : Nat → Prop) (m_states : Int32) (m_came : Int32) (m_byDepth : Int32) (m_outLong : Int32) (m_low : Int64) (m_textLong : Int32) (m_place : Int32) (m_readLong : Int32) (m_now : Nat → Int32) (m_past : Nat → Int32) (m_refused : Nat → Int32) (m_line : Nat → Int32) (m_weights : Nat → Int32) (m_ownCost : Nat → Int32) (m_way : Nat → Int32) (m_own : Nat → Int32) (m_mixed : Nat → Int32) (m_guessAt : Nat → Int32) (m_treeCost : Nat → Int32) (m_isLeaf : Nat → Int32) (m_inTree : Nat → Int32) (m_out : Nat → Int32) (m_text : Nat → Int32) (m_read : Nat → Int32) (m_byGuesser : Int32) (m_noughts : Nat → Int32) (m_ones : Nat → Int32) (K : Int32 → Prop) (H : Heap) (locs : List Loc) (pc : Nat) (ls : Array Slot) (st : List Value) : Prop := W p l e rm_X5_ownOf s m args below meth c H locs 0 0 (MQ below (q_X5_ownOf E a m_states m_came m_byDepth m_outLong m_low m_textLong m_place m_readLong m_now m_past m_refused m_line m_weights m_ownCost m_way m_own m_mixed m_guessAt m_treeCost m_isLeaf m_inTree m_out m_text m_read m_byGuesser m_noughts m_ones K A) args s 0 0 A) (F0 m pc ls st)
def wp_X5_ownOf_L134 (m_byGuesser : Int32) (m_noughts : Nat → Int32) (m_ones : Nat → Int32) (K : Int32 → Prop)  (x4 : Int32) (s0 : Int32) : Prop :=
  ¬ s0.toInt64 = 0 ∧ (wp_X5_held (((65536 : Int64) * x4.toInt64) / s0.toInt64) (fun r147 =>
  K r147))
set_option maxHeartbeats 4000000 in
set_option maxRecDepth 100000 in
theorem w_X5_ownOf_L134 {p : Program} {l : Launch} {e : Env} {s : State} {m : MethodId} {args : Array Value} {below : List Frame} {meth : Method} {c : Code} {E : gE} {a : Nat → Nat} {A : Nat → Prop} (F : fx_ p s m args meth c RX5 cX5_ownOf 6 (some .int)) (hE : nM E A s) (hA : ∀ q, s.heap.size ≤ q → A q) (m_states : Int32) (m_came : Int32) (m_byDepth : Int32) (m_outLong : Int32) (m_low : Int64) (m_textLong : Int32) (m_place : Int32) (m_readLong : Int32) (m_now : Nat → Int32) (m_past : Nat → Int32) (m_refused : Nat → Int32) (m_line : Nat → Int32) (m_weights : Nat → Int32) (m_ownCost : Nat → Int32) (m_way : Nat → Int32) (m_own : Nat → Int32) (m_mixed : Nat → Int32) (m_guessAt : Nat → Int32) (m_treeCost : Nat → Int32) (m_isLeaf : Nat → Int32) (m_inTree : Nat → Int32) (m_out : Nat → Int32) (m_text : Nat → Int32) (m_read : Nat → Int32) (m_byGuesser : Int32) (m_noughts : Nat → Int32) (m_ones : Nat → Int32) (K : Int32 → Prop)  : ∀ (x4 : Int32) (s0 : Int32) (H : Heap) (locs : List Loc) (ls : Array Slot), wp_X5_ownOf_L134 m_byGuesser m_noughts m_ones K x4 s0 → va_P E.1 vwCl (wM E a m_states m_came m_byDepth m_byGuesser m_outLong m_low m_textLong m_place m_readLong m_now m_past m_refused m_line m_noughts m_ones m_weights m_ownCost m_way m_own m_mixed m_guessAt m_treeCost m_isLeaf m_inTree m_out m_text m_read) H → va_D A (wM E a m_states m_came m_byDepth m_byGuesser m_outLong m_low m_textLong m_place m_readLong m_now m_past m_refused m_line m_noughts m_ones m_weights m_ownCost m_way m_own m_mixed m_guessAt m_treeCost m_isLeaf m_inTree m_out m_text m_read) → va_S A s.heap H locs → lv_has ls 6 [(4, .int x4)] → g_X5_ownOf p l e s m args below meth c E a A m_states m_came m_byDepth m_outLong m_low m_textLong m_place m_readLong m_now m_past m_refused m_line m_weights m_ownCost m_way m_own m_mixed m_guessAt m_treeCost m_isLeaf m_inTree m_out m_text m_read m_byGuesser m_noughts m_ones K H locs 134 ls [.int s0] := by
  obtain ⟨hx, hb, hr, hlk, hml, hown, hts⟩ := id F
  have hK : va_K E.1 vwCl (tyL E) s := hE
  intro x4 s0 H locs ls hw hP hD hS hl
  unfold wp_X5_ownOf_L134 at hw
  refine lv_istore (lv' := [(5, .int s0), (4, .int x4)]) hx hb dX5_ownOf_134 hl (by decide) rfl (fun ls hl => ?_)
  refine lv_ldc2 hx hb hown (hts _ q843) dX5_ownOf_136 ?_
  refine lv_iload hx hb dX5_ownOf_139 (lv_at hl 1 rfl) ?_
  refine lv_i2l hx hb dX5_ownOf_141 rfl ?_
  refine lv_lmul hx hb dX5_ownOf_142 ?_
  refine lv_iload hx hb dX5_ownOf_143 (lv_at hl 0 rfl) ?_
  refine lv_i2l hx hb dX5_ownOf_145 rfl ?_
  obtain ⟨hn_, hw⟩ := hw
  refine lv_ldiv hx hb dX5_ownOf_146 hn_ ?_
  refine cc_si (As := [.long (((65536 : Int64) * x4.toInt64) / s0.toInt64)]) (rest := []) ⟨hx, hb, hml, hown, hts⟩ (met_X5_held l (((65536 : Int64) * x4.toInt64) / s0.toInt64) hw) (cw_X5_84 hts ⟨Nat.le_of_ble_eq_true rfl, Nat.le_of_ble_eq_true rfl⟩) rfl hl.1 rfl (Nat.le_of_ble_eq_true rfl) dX5_ownOf_147 ⟨Nat.le_of_ble_eq_true rfl, Nat.le_of_ble_eq_true rfl⟩ (fun r147 hw => ?_)
  exact W.iret (v := r147) hx hb hr (fun t ht hW => ⟨⟨r147, (), rfl, hw, by rw [ht]; exact hP, hD⟩, hS.F ht⟩) hS.2.2 dX5_ownOf_150 hlk
def wp_X5_ownOf_L87 (m_byGuesser : Int32) (m_noughts : Nat → Int32) (m_ones : Nat → Int32) (K : Int32 → Prop)  (x2 : Int32) (x3 : Int32) (s0 : Int32) : Prop :=
  (m_byGuesser = (1 : Int32) → wp_X5_ownOf_L134 m_byGuesser m_noughts m_ones K s0 ((x2 + x3) + (2 : Int32))) ∧
  (¬ m_byGuesser = (1 : Int32) → (m_byGuesser = (2 : Int32) → wp_X5_ownOf_L134 m_byGuesser m_noughts m_ones K s0 ((((4 : Int32) * x2) + ((4 : Int32) * x3)) + (2 : Int32))) ∧
  (¬ m_byGuesser = (2 : Int32) → wp_X5_ownOf_L134 m_byGuesser m_noughts m_ones K s0 ((((2 : Int32) * x2) + ((2 : Int32) * x3)) + (2 : Int32))))
set_option maxHeartbeats 4000000 in
set_option maxRecDepth 100000 in
theorem w_X5_ownOf_L87 {p : Program} {l : Launch} {e : Env} {s : State} {m : MethodId} {args : Array Value} {below : List Frame} {meth : Method} {c : Code} {E : gE} {a : Nat → Nat} {A : Nat → Prop} (F : fx_ p s m args meth c RX5 cX5_ownOf 6 (some .int)) (hE : nM E A s) (hA : ∀ q, s.heap.size ≤ q → A q) (m_states : Int32) (m_came : Int32) (m_byDepth : Int32) (m_outLong : Int32) (m_low : Int64) (m_textLong : Int32) (m_place : Int32) (m_readLong : Int32) (m_now : Nat → Int32) (m_past : Nat → Int32) (m_refused : Nat → Int32) (m_line : Nat → Int32) (m_weights : Nat → Int32) (m_ownCost : Nat → Int32) (m_way : Nat → Int32) (m_own : Nat → Int32) (m_mixed : Nat → Int32) (m_guessAt : Nat → Int32) (m_treeCost : Nat → Int32) (m_isLeaf : Nat → Int32) (m_inTree : Nat → Int32) (m_out : Nat → Int32) (m_text : Nat → Int32) (m_read : Nat → Int32) (m_byGuesser : Int32) (m_noughts : Nat → Int32) (m_ones : Nat → Int32) (K : Int32 → Prop)  : ∀ (x2 : Int32) (x3 : Int32) (s0 : Int32) (H : Heap) (locs : List Loc) (ls : Array Slot), wp_X5_ownOf_L87 m_byGuesser m_noughts m_ones K x2 x3 s0 → va_P E.1 vwCl (wM E a m_states m_came m_byDepth m_byGuesser m_outLong m_low m_textLong m_place m_readLong m_now m_past m_refused m_line m_noughts m_ones m_weights m_ownCost m_way m_own m_mixed m_guessAt m_treeCost m_isLeaf m_inTree m_out m_text m_read) H → va_D A (wM E a m_states m_came m_byDepth m_byGuesser m_outLong m_low m_textLong m_place m_readLong m_now m_past m_refused m_line m_noughts m_ones m_weights m_ownCost m_way m_own m_mixed m_guessAt m_treeCost m_isLeaf m_inTree m_out m_text m_read) → va_S A s.heap H locs → lv_has ls 6 [(0, .ref (a 0)), (2, .int x2), (3, .int x3)] → g_X5_ownOf p l e s m args below meth c E a A m_states m_came m_byDepth m_outLong m_low m_textLong m_place m_readLong m_now m_past m_refused m_line m_weights m_ownCost m_way m_own m_mixed m_guessAt m_treeCost m_isLeaf m_inTree m_out m_text m_read m_byGuesser m_noughts m_ones K H locs 87 ls [.int s0] := by
  obtain ⟨hx, hb, hr, hlk, hml, hown, hts⟩ := id F
  have hK : va_K E.1 vwCl (tyL E) s := hE
  intro x2 x3 s0 H locs ls hw hP hD hS hl
  unfold wp_X5_ownOf_L87 at hw
  refine lv_istore (lv' := [(4, .int s0), (0, .ref (a 0)), (2, .int x2), (3, .int x3)]) hx hb dX5_ownOf_87 hl (by decide) rfl (fun ls hl => ?_)
  refine lv_aload_n hx hb dX5_ownOf_89 rfl (lv_at hl 1 rfl) ?_
  refine va_get (D := E.1) (ci := 5) (v := .int m_byGuesser) (C := RX5) (T := TX5) (N := 27) hx hb hts in_X5 hown hK hP 0 rfl rfl 7 (by decide) (hts _ q705) (fun _ h9 => h9) rfl dX5_ownOf_90 ?_
  refine lv_iconst (v := 1) hx hb dX5_ownOf_93 (by decide) ?_
  refine lv_icmp_ne (tgt := 105) hx hb dX5_ownOf_94 (by decide) (fun c_ => ?_) (fun c_ => ?_)
  · have hw := hw.2 c_
    refine lv_aload_n hx hb dX5_ownOf_105 rfl (lv_at hl 1 rfl) ?_
    refine va_get (D := E.1) (ci := 5) (v := .int m_byGuesser) (C := RX5) (T := TX5) (N := 27) hx hb hts in_X5 hown hK hP 0 rfl rfl 7 (by decide) (hts _ q705) (fun _ h9 => h9) rfl dX5_ownOf_106 ?_
    refine lv_iconst (v := 2) hx hb dX5_ownOf_109 (by decide) ?_
    refine lv_icmp_ne (tgt := 125) hx hb dX5_ownOf_110 (by decide) (fun c_ => ?_) (fun c_ => ?_)
    · have hw := hw.2 c_
      refine lv_iconst (v := 2) hx hb dX5_ownOf_125 (by decide) ?_
      refine lv_iload_n hx hb dX5_ownOf_126 rfl (lv_at hl 2 rfl) ?_
      refine lv_imul hx hb dX5_ownOf_127 ?_
      refine lv_iconst (v := 2) hx hb dX5_ownOf_128 (by decide) ?_
      refine lv_iload_n hx hb dX5_ownOf_129 rfl (lv_at hl 3 rfl) ?_
      refine lv_imul hx hb dX5_ownOf_130 ?_
      refine lv_iadd hx hb dX5_ownOf_131 ?_
      refine lv_iconst (v := 2) hx hb dX5_ownOf_132 (by decide) ?_
      refine lv_iadd hx hb dX5_ownOf_133 ?_
      exact w_X5_ownOf_L134 F hE hA m_states m_came m_byDepth m_outLong m_low m_textLong m_place m_readLong m_now m_past m_refused m_line m_weights m_ownCost m_way m_own m_mixed m_guessAt m_treeCost m_isLeaf m_inTree m_out m_text m_read m_byGuesser m_noughts m_ones K s0 ((((2 : Int32) * x2) + ((2 : Int32) * x3)) + (2 : Int32)) _ _ _ hw hP hD hS (lv_sub hl [0] rfl)
    · have hw := hw.1 c_
      refine lv_iconst (v := 4) hx hb dX5_ownOf_113 (by decide) ?_
      refine lv_iload_n hx hb dX5_ownOf_114 rfl (lv_at hl 2 rfl) ?_
      refine lv_imul hx hb dX5_ownOf_115 ?_
      refine lv_iconst (v := 4) hx hb dX5_ownOf_116 (by decide) ?_
      refine lv_iload_n hx hb dX5_ownOf_117 rfl (lv_at hl 3 rfl) ?_
      refine lv_imul hx hb dX5_ownOf_118 ?_
      refine lv_iadd hx hb dX5_ownOf_119 ?_
      refine lv_iconst (v := 2) hx hb dX5_ownOf_120 (by decide) ?_
      refine lv_iadd hx hb dX5_ownOf_121 ?_
      refine lv_goto (tgt := 134) hx hb dX5_ownOf_122 (by decide) ?_
      exact w_X5_ownOf_L134 F hE hA m_states m_came m_byDepth m_outLong m_low m_textLong m_place m_readLong m_now m_past m_refused m_line m_weights m_ownCost m_way m_own m_mixed m_guessAt m_treeCost m_isLeaf m_inTree m_out m_text m_read m_byGuesser m_noughts m_ones K s0 ((((4 : Int32) * x2) + ((4 : Int32) * x3)) + (2 : Int32)) _ _ _ hw hP hD hS (lv_sub hl [0] rfl)
  · have hw := hw.1 c_
    refine lv_iload_n hx hb dX5_ownOf_97 rfl (lv_at hl 2 rfl) ?_
    refine lv_iload_n hx hb dX5_ownOf_98 rfl (lv_at hl 3 rfl) ?_
    refine lv_iadd hx hb dX5_ownOf_99 ?_
    refine lv_iconst (v := 2) hx hb dX5_ownOf_100 (by decide) ?_
    refine lv_iadd hx hb dX5_ownOf_101 ?_
    refine lv_goto (tgt := 134) hx hb dX5_ownOf_102 (by decide) ?_
    exact w_X5_ownOf_L134 F hE hA m_states m_came m_byDepth m_outLong m_low m_textLong m_place m_readLong m_now m_past m_refused m_line m_weights m_ownCost m_way m_own m_mixed m_guessAt m_treeCost m_isLeaf m_inTree m_out m_text m_read m_byGuesser m_noughts m_ones K s0 ((x2 + x3) + (2 : Int32)) _ _ _ hw hP hD hS (lv_sub hl [0] rfl)
def wp_X5_ownOf_L51 (m_byGuesser : Int32) (m_noughts : Nat → Int32) (m_ones : Nat → Int32) (K : Int32 → Prop)  (x2 : Int32) (s0 : Int32) : Prop :=
  (m_byGuesser = (1 : Int32) → wp_X5_ownOf_L87 m_byGuesser m_noughts m_ones K x2 s0 (s0 + (1 : Int32))) ∧
  (¬ m_byGuesser = (1 : Int32) → (m_byGuesser = (2 : Int32) → wp_X5_ownOf_L87 m_byGuesser m_noughts m_ones K x2 s0 (((4 : Int32) * s0) + (1 : Int32))) ∧
  (¬ m_byGuesser = (2 : Int32) → wp_X5_ownOf_L87 m_byGuesser m_noughts m_ones K x2 s0 (((2 : Int32) * s0) + (1 : Int32))))
set_option maxHeartbeats 4000000 in
set_option maxRecDepth 100000 in
theorem w_X5_ownOf_L51 {p : Program} {l : Launch} {e : Env} {s : State} {m : MethodId} {args : Array Value} {below : List Frame} {meth : Method} {c : Code} {E : gE} {a : Nat → Nat} {A : Nat → Prop} (F : fx_ p s m args meth c RX5 cX5_ownOf 6 (some .int)) (hE : nM E A s) (hA : ∀ q, s.heap.size ≤ q → A q) (m_states : Int32) (m_came : Int32) (m_byDepth : Int32) (m_outLong : Int32) (m_low : Int64) (m_textLong : Int32) (m_place : Int32) (m_readLong : Int32) (m_now : Nat → Int32) (m_past : Nat → Int32) (m_refused : Nat → Int32) (m_line : Nat → Int32) (m_weights : Nat → Int32) (m_ownCost : Nat → Int32) (m_way : Nat → Int32) (m_own : Nat → Int32) (m_mixed : Nat → Int32) (m_guessAt : Nat → Int32) (m_treeCost : Nat → Int32) (m_isLeaf : Nat → Int32) (m_inTree : Nat → Int32) (m_out : Nat → Int32) (m_text : Nat → Int32) (m_read : Nat → Int32) (m_byGuesser : Int32) (m_noughts : Nat → Int32) (m_ones : Nat → Int32) (K : Int32 → Prop)  : ∀ (x2 : Int32) (s0 : Int32) (H : Heap) (locs : List Loc) (ls : Array Slot), wp_X5_ownOf_L51 m_byGuesser m_noughts m_ones K x2 s0 → va_P E.1 vwCl (wM E a m_states m_came m_byDepth m_byGuesser m_outLong m_low m_textLong m_place m_readLong m_now m_past m_refused m_line m_noughts m_ones m_weights m_ownCost m_way m_own m_mixed m_guessAt m_treeCost m_isLeaf m_inTree m_out m_text m_read) H → va_D A (wM E a m_states m_came m_byDepth m_byGuesser m_outLong m_low m_textLong m_place m_readLong m_now m_past m_refused m_line m_noughts m_ones m_weights m_ownCost m_way m_own m_mixed m_guessAt m_treeCost m_isLeaf m_inTree m_out m_text m_read) → va_S A s.heap H locs → lv_has ls 6 [(0, .ref (a 0)), (2, .int x2)] → g_X5_ownOf p l e s m args below meth c E a A m_states m_came m_byDepth m_outLong m_low m_textLong m_place m_readLong m_now m_past m_refused m_line m_weights m_ownCost m_way m_own m_mixed m_guessAt m_treeCost m_isLeaf m_inTree m_out m_text m_read m_byGuesser m_noughts m_ones K H locs 51 ls [.int s0] := by
  obtain ⟨hx, hb, hr, hlk, hml, hown, hts⟩ := id F
  have hK : va_K E.1 vwCl (tyL E) s := hE
  intro x2 s0 H locs ls hw hP hD hS hl
  unfold wp_X5_ownOf_L51 at hw
  refine lv_istore_n (lv' := [(3, .int s0), (0, .ref (a 0)), (2, .int x2)]) hx hb dX5_ownOf_51 rfl hl (by decide) rfl (fun ls hl => ?_)
  refine lv_aload_n hx hb dX5_ownOf_52 rfl (lv_at hl 1 rfl) ?_
  refine va_get (D := E.1) (ci := 5) (v := .int m_byGuesser) (C := RX5) (T := TX5) (N := 27) hx hb hts in_X5 hown hK hP 0 rfl rfl 7 (by decide) (hts _ q705) (fun _ h9 => h9) rfl dX5_ownOf_53 ?_
  refine lv_iconst (v := 1) hx hb dX5_ownOf_56 (by decide) ?_
  refine lv_icmp_ne (tgt := 66) hx hb dX5_ownOf_57 (by decide) (fun c_ => ?_) (fun c_ => ?_)
  · have hw := hw.2 c_
    refine lv_aload_n hx hb dX5_ownOf_66 rfl (lv_at hl 1 rfl) ?_
    refine va_get (D := E.1) (ci := 5) (v := .int m_byGuesser) (C := RX5) (T := TX5) (N := 27) hx hb hts in_X5 hown hK hP 0 rfl rfl 7 (by decide) (hts _ q705) (fun _ h9 => h9) rfl dX5_ownOf_67 ?_
    refine lv_iconst (v := 2) hx hb dX5_ownOf_70 (by decide) ?_
    refine lv_icmp_ne (tgt := 82) hx hb dX5_ownOf_71 (by decide) (fun c_ => ?_) (fun c_ => ?_)
    · have hw := hw.2 c_
      refine lv_iconst (v := 2) hx hb dX5_ownOf_82 (by decide) ?_
      refine lv_iload_n hx hb dX5_ownOf_83 rfl (lv_at hl 0 rfl) ?_
      refine lv_imul hx hb dX5_ownOf_84 ?_
      refine lv_iconst (v := 1) hx hb dX5_ownOf_85 (by decide) ?_
      refine lv_iadd hx hb dX5_ownOf_86 ?_
      exact w_X5_ownOf_L87 F hE hA m_states m_came m_byDepth m_outLong m_low m_textLong m_place m_readLong m_now m_past m_refused m_line m_weights m_ownCost m_way m_own m_mixed m_guessAt m_treeCost m_isLeaf m_inTree m_out m_text m_read m_byGuesser m_noughts m_ones K x2 s0 (((2 : Int32) * s0) + (1 : Int32)) _ _ _ hw hP hD hS (lv_sub hl [1, 2, 0] rfl)
    · have hw := hw.1 c_
      refine lv_iconst (v := 4) hx hb dX5_ownOf_74 (by decide) ?_
      refine lv_iload_n hx hb dX5_ownOf_75 rfl (lv_at hl 0 rfl) ?_
      refine lv_imul hx hb dX5_ownOf_76 ?_
      refine lv_iconst (v := 1) hx hb dX5_ownOf_77 (by decide) ?_
      refine lv_iadd hx hb dX5_ownOf_78 ?_
      refine lv_goto (tgt := 87) hx hb dX5_ownOf_79 (by decide) ?_
      exact w_X5_ownOf_L87 F hE hA m_states m_came m_byDepth m_outLong m_low m_textLong m_place m_readLong m_now m_past m_refused m_line m_weights m_ownCost m_way m_own m_mixed m_guessAt m_treeCost m_isLeaf m_inTree m_out m_text m_read m_byGuesser m_noughts m_ones K x2 s0 (((4 : Int32) * s0) + (1 : Int32)) _ _ _ hw hP hD hS (lv_sub hl [1, 2, 0] rfl)
  · have hw := hw.1 c_
    refine lv_iload_n hx hb dX5_ownOf_60 rfl (lv_at hl 0 rfl) ?_
    refine lv_iconst (v := 1) hx hb dX5_ownOf_61 (by decide) ?_
    refine lv_iadd hx hb dX5_ownOf_62 ?_
    refine lv_goto (tgt := 87) hx hb dX5_ownOf_63 (by decide) ?_
    exact w_X5_ownOf_L87 F hE hA m_states m_came m_byDepth m_outLong m_low m_textLong m_place m_readLong m_now m_past m_refused m_line m_weights m_ownCost m_way m_own m_mixed m_guessAt m_treeCost m_isLeaf m_inTree m_out m_text m_read m_byGuesser m_noughts m_ones K x2 s0 (s0 + (1 : Int32)) _ _ _ hw hP hD hS (lv_sub hl [1, 2, 0] rfl)
def wp_X5_ownOf_L25 (m_byGuesser : Int32) (m_noughts : Nat → Int32) (m_ones : Nat → Int32) (K : Int32 → Prop)  (x1 : Int32) (s0 : Int32) : Prop :=
  (m_byGuesser = (3 : Int32) → vp_in x1 127 ∧
  (wp_X5_ownOf_L51 m_byGuesser m_noughts m_ones K s0 ((m_ones x1.toNatClampNeg) / (2 : Int32)))) ∧
  (¬ m_byGuesser = (3 : Int32) → vp_in x1 127 ∧
  (wp_X5_ownOf_L51 m_byGuesser m_noughts m_ones K s0 (m_ones x1.toNatClampNeg)))
set_option maxHeartbeats 4000000 in
set_option maxRecDepth 100000 in
theorem w_X5_ownOf_L25 {p : Program} {l : Launch} {e : Env} {s : State} {m : MethodId} {args : Array Value} {below : List Frame} {meth : Method} {c : Code} {E : gE} {a : Nat → Nat} {A : Nat → Prop} (F : fx_ p s m args meth c RX5 cX5_ownOf 6 (some .int)) (hE : nM E A s) (hA : ∀ q, s.heap.size ≤ q → A q) (m_states : Int32) (m_came : Int32) (m_byDepth : Int32) (m_outLong : Int32) (m_low : Int64) (m_textLong : Int32) (m_place : Int32) (m_readLong : Int32) (m_now : Nat → Int32) (m_past : Nat → Int32) (m_refused : Nat → Int32) (m_line : Nat → Int32) (m_weights : Nat → Int32) (m_ownCost : Nat → Int32) (m_way : Nat → Int32) (m_own : Nat → Int32) (m_mixed : Nat → Int32) (m_guessAt : Nat → Int32) (m_treeCost : Nat → Int32) (m_isLeaf : Nat → Int32) (m_inTree : Nat → Int32) (m_out : Nat → Int32) (m_text : Nat → Int32) (m_read : Nat → Int32) (m_byGuesser : Int32) (m_noughts : Nat → Int32) (m_ones : Nat → Int32) (K : Int32 → Prop)  : ∀ (x1 : Int32) (s0 : Int32) (H : Heap) (locs : List Loc) (ls : Array Slot), wp_X5_ownOf_L25 m_byGuesser m_noughts m_ones K x1 s0 → va_P E.1 vwCl (wM E a m_states m_came m_byDepth m_byGuesser m_outLong m_low m_textLong m_place m_readLong m_now m_past m_refused m_line m_noughts m_ones m_weights m_ownCost m_way m_own m_mixed m_guessAt m_treeCost m_isLeaf m_inTree m_out m_text m_read) H → va_D A (wM E a m_states m_came m_byDepth m_byGuesser m_outLong m_low m_textLong m_place m_readLong m_now m_past m_refused m_line m_noughts m_ones m_weights m_ownCost m_way m_own m_mixed m_guessAt m_treeCost m_isLeaf m_inTree m_out m_text m_read) → va_S A s.heap H locs → lv_has ls 6 [(0, .ref (a 0)), (1, .int x1)] → g_X5_ownOf p l e s m args below meth c E a A m_states m_came m_byDepth m_outLong m_low m_textLong m_place m_readLong m_now m_past m_refused m_line m_weights m_ownCost m_way m_own m_mixed m_guessAt m_treeCost m_isLeaf m_inTree m_out m_text m_read m_byGuesser m_noughts m_ones K H locs 25 ls [.int s0] := by
  obtain ⟨hx, hb, hr, hlk, hml, hown, hts⟩ := id F
  have hK : va_K E.1 vwCl (tyL E) s := hE
  intro x1 s0 H locs ls hw hP hD hS hl
  unfold wp_X5_ownOf_L25 at hw
  refine lv_istore_n (lv' := [(2, .int s0), (0, .ref (a 0)), (1, .int x1)]) hx hb dX5_ownOf_25 rfl hl (by decide) rfl (fun ls hl => ?_)
  refine lv_aload_n hx hb dX5_ownOf_26 rfl (lv_at hl 1 rfl) ?_
  refine va_get (D := E.1) (ci := 5) (v := .int m_byGuesser) (C := RX5) (T := TX5) (N := 27) hx hb hts in_X5 hown hK hP 0 rfl rfl 7 (by decide) (hts _ q705) (fun _ h9 => h9) rfl dX5_ownOf_27 ?_
  refine lv_iconst (v := 3) hx hb dX5_ownOf_30 (by decide) ?_
  refine lv_icmp_ne (tgt := 45) hx hb dX5_ownOf_31 (by decide) (fun c_ => ?_) (fun c_ => ?_)
  · have hw := hw.2 c_
    refine lv_aload_n hx hb dX5_ownOf_45 rfl (lv_at hl 1 rfl) ?_
    refine va_get (D := E.1) (ci := 5) (v := .ref (a 6)) (C := RX5) (T := TX5) (N := 27) hx hb hts in_X5 hown hK hP 0 rfl rfl 9 (by decide) (hts _ q707) (fun _ h9 => h9) rfl dX5_ownOf_46 ?_
    refine lv_iload_n hx hb dX5_ownOf_49 rfl (lv_at hl 2 rfl) ?_
    obtain ⟨hi_, hw⟩ := hw
    refine va_iald hx hb hK hP 6 0 rfl rfl hi_ dX5_ownOf_50 ?_
    exact w_X5_ownOf_L51 F hE hA m_states m_came m_byDepth m_outLong m_low m_textLong m_place m_readLong m_now m_past m_refused m_line m_weights m_ownCost m_way m_own m_mixed m_guessAt m_treeCost m_isLeaf m_inTree m_out m_text m_read m_byGuesser m_noughts m_ones K s0 (m_ones x1.toNatClampNeg) _ _ _ hw hP hD hS (lv_sub hl [1, 0] rfl)
  · have hw := hw.1 c_
    refine lv_aload_n hx hb dX5_ownOf_34 rfl (lv_at hl 1 rfl) ?_
    refine va_get (D := E.1) (ci := 5) (v := .ref (a 6)) (C := RX5) (T := TX5) (N := 27) hx hb hts in_X5 hown hK hP 0 rfl rfl 9 (by decide) (hts _ q707) (fun _ h9 => h9) rfl dX5_ownOf_35 ?_
    refine lv_iload_n hx hb dX5_ownOf_38 rfl (lv_at hl 2 rfl) ?_
    obtain ⟨hi_, hw⟩ := hw
    refine va_iald hx hb hK hP 6 0 rfl rfl hi_ dX5_ownOf_39 ?_
    refine lv_iconst (v := 2) hx hb dX5_ownOf_40 (by decide) ?_
    refine lv_idiv hx hb dX5_ownOf_41 (by decide) ?_
    refine lv_goto (tgt := 51) hx hb dX5_ownOf_42 (by decide) ?_
    exact w_X5_ownOf_L51 F hE hA m_states m_came m_byDepth m_outLong m_low m_textLong m_place m_readLong m_now m_past m_refused m_line m_weights m_ownCost m_way m_own m_mixed m_guessAt m_treeCost m_isLeaf m_inTree m_out m_text m_read m_byGuesser m_noughts m_ones K s0 ((m_ones x1.toNatClampNeg) / (2 : Int32)) _ _ _ hw hP hD hS (lv_sub hl [1, 0] rfl)
def wp_X5_ownOf (x1 : Int32) (m_byGuesser : Int32) (m_noughts : Nat → Int32) (m_ones : Nat → Int32) (K : Int32 → Prop) : Prop :=
  (m_byGuesser = (3 : Int32) → vp_in x1 127 ∧
  (wp_X5_ownOf_L25 m_byGuesser m_noughts m_ones K x1 ((m_noughts x1.toNatClampNeg) / (2 : Int32)))) ∧
  (¬ m_byGuesser = (3 : Int32) → vp_in x1 127 ∧
  (wp_X5_ownOf_L25 m_byGuesser m_noughts m_ones K x1 (m_noughts x1.toNatClampNeg)))
set_option maxHeartbeats 4000000 in
set_option maxRecDepth 100000 in
theorem w_X5_ownOf {p : Program} {l : Launch} {e : Env} {s : State} {m : MethodId} {args : Array Value} {below : List Frame} {meth : Method} {c : Code} {E : gE} {a : Nat → Nat} {A : Nat → Prop} (F : fx_ p s m args meth c RX5 cX5_ownOf 6 (some .int)) (hE : nM E A s) (hA : ∀ q, s.heap.size ≤ q → A q) (m_states : Int32) (m_came : Int32) (m_byDepth : Int32) (m_outLong : Int32) (m_low : Int64) (m_textLong : Int32) (m_place : Int32) (m_readLong : Int32) (m_now : Nat → Int32) (m_past : Nat → Int32) (m_refused : Nat → Int32) (m_line : Nat → Int32) (m_weights : Nat → Int32) (m_ownCost : Nat → Int32) (m_way : Nat → Int32) (m_own : Nat → Int32) (m_mixed : Nat → Int32) (m_guessAt : Nat → Int32) (m_treeCost : Nat → Int32) (m_isLeaf : Nat → Int32) (m_inTree : Nat → Int32) (m_out : Nat → Int32) (m_text : Nat → Int32) (m_read : Nat → Int32) (m_byGuesser : Int32) (m_noughts : Nat → Int32) (m_ones : Nat → Int32) (K : Int32 → Prop)  (x1 : Int32) {H : Heap} {locs : List Loc} {ls : Array Slot} (hw : wp_X5_ownOf x1 m_byGuesser m_noughts m_ones K) (hP : va_P E.1 vwCl (wM E a m_states m_came m_byDepth m_byGuesser m_outLong m_low m_textLong m_place m_readLong m_now m_past m_refused m_line m_noughts m_ones m_weights m_ownCost m_way m_own m_mixed m_guessAt m_treeCost m_isLeaf m_inTree m_out m_text m_read) H) (hD : va_D A (wM E a m_states m_came m_byDepth m_byGuesser m_outLong m_low m_textLong m_place m_readLong m_now m_past m_refused m_line m_noughts m_ones m_weights m_ownCost m_way m_own m_mixed m_guessAt m_treeCost m_isLeaf m_inTree m_out m_text m_read)) (hS : va_S A s.heap H locs) (hl : lv_has ls 6 [(0, .ref (a 0)), (1, .int x1)]) : g_X5_ownOf p l e s m args below meth c E a A m_states m_came m_byDepth m_outLong m_low m_textLong m_place m_readLong m_now m_past m_refused m_line m_weights m_ownCost m_way m_own m_mixed m_guessAt m_treeCost m_isLeaf m_inTree m_out m_text m_read m_byGuesser m_noughts m_ones K H locs 0 ls [] := by
  obtain ⟨hx, hb, hr, hlk, hml, hown, hts⟩ := id F
  have hK : va_K E.1 vwCl (tyL E) s := hE
  unfold wp_X5_ownOf at hw
  refine lv_aload_n hx hb dX5_ownOf_0 rfl (lv_at hl 0 rfl) ?_
  refine va_get (D := E.1) (ci := 5) (v := .int m_byGuesser) (C := RX5) (T := TX5) (N := 27) hx hb hts in_X5 hown hK hP 0 rfl rfl 7 (by decide) (hts _ q705) (fun _ h9 => h9) rfl dX5_ownOf_1 ?_
  refine lv_iconst (v := 3) hx hb dX5_ownOf_4 (by decide) ?_
  refine lv_icmp_ne (tgt := 19) hx hb dX5_ownOf_5 (by decide) (fun c_ => ?_) (fun c_ => ?_)
  · have hw := hw.2 c_
    refine lv_aload_n hx hb dX5_ownOf_19 rfl (lv_at hl 0 rfl) ?_
    refine va_get (D := E.1) (ci := 5) (v := .ref (a 5)) (C := RX5) (T := TX5) (N := 27) hx hb hts in_X5 hown hK hP 0 rfl rfl 8 (by decide) (hts _ q706) (fun _ h9 => h9) rfl dX5_ownOf_20 ?_
    refine lv_iload_n hx hb dX5_ownOf_23 rfl (lv_at hl 1 rfl) ?_
    obtain ⟨hi_, hw⟩ := hw
    refine va_iald hx hb hK hP 5 0 rfl rfl hi_ dX5_ownOf_24 ?_
    exact w_X5_ownOf_L25 F hE hA m_states m_came m_byDepth m_outLong m_low m_textLong m_place m_readLong m_now m_past m_refused m_line m_weights m_ownCost m_way m_own m_mixed m_guessAt m_treeCost m_isLeaf m_inTree m_out m_text m_read m_byGuesser m_noughts m_ones K x1 (m_noughts x1.toNatClampNeg) _ _ _ hw hP hD hS (lv_sub hl [0, 1] rfl)
  · have hw := hw.1 c_
    refine lv_aload_n hx hb dX5_ownOf_8 rfl (lv_at hl 0 rfl) ?_
    refine va_get (D := E.1) (ci := 5) (v := .ref (a 5)) (C := RX5) (T := TX5) (N := 27) hx hb hts in_X5 hown hK hP 0 rfl rfl 8 (by decide) (hts _ q706) (fun _ h9 => h9) rfl dX5_ownOf_9 ?_
    refine lv_iload_n hx hb dX5_ownOf_12 rfl (lv_at hl 1 rfl) ?_
    obtain ⟨hi_, hw⟩ := hw
    refine va_iald hx hb hK hP 5 0 rfl rfl hi_ dX5_ownOf_13 ?_
    refine lv_iconst (v := 2) hx hb dX5_ownOf_14 (by decide) ?_
    refine lv_idiv hx hb dX5_ownOf_15 (by decide) ?_
    refine lv_goto (tgt := 25) hx hb dX5_ownOf_16 (by decide) ?_
    exact w_X5_ownOf_L25 F hE hA m_states m_came m_byDepth m_outLong m_low m_textLong m_place m_readLong m_now m_past m_refused m_line m_weights m_ownCost m_way m_own m_mixed m_guessAt m_treeCost m_isLeaf m_inTree m_out m_text m_read m_byGuesser m_noughts m_ones K x1 ((m_noughts x1.toNatClampNeg) / (2 : Int32)) _ _ _ hw hP hD hS (lv_sub hl [0, 1] rfl)
theorem met_X5_ownOf (l : Launch) (E : gE) (a : Nat → Nat) (sz : Nat) (m_states : Int32) (m_came : Int32) (m_byDepth : Int32) (m_byGuesser : Int32) (m_outLong : Int32) (m_low : Int64) (m_textLong : Int32) (m_place : Int32) (m_readLong : Int32) (m_now : Nat → Int32) (m_past : Nat → Int32) (m_refused : Nat → Int32) (m_line : Nat → Int32) (m_noughts : Nat → Int32) (m_ones : Nat → Int32) (m_weights : Nat → Int32) (m_ownCost : Nat → Int32) (m_way : Nat → Int32) (m_own : Nat → Int32) (m_mixed : Nat → Int32) (m_guessAt : Nat → Int32) (m_treeCost : Nat → Int32) (m_isLeaf : Nat → Int32) (m_inTree : Nat → Int32) (m_out : Nat → Int32) (m_text : Nat → Int32) (m_read : Nat → Int32) (x1 : Int32) {K : Int32 → Prop} (hw : wp_X5_ownOf x1 m_byGuesser m_noughts m_ones K) : Met l yX5_ownOf (ws_ yX5_ownOf cX5_ownOf 6 (some .int)) rm_X5_ownOf (pr_ (nM E) E (wM E a m_states m_came m_byDepth m_byGuesser m_outLong m_low m_textLong m_place m_readLong m_now m_past m_refused m_line m_noughts m_ones m_weights m_ownCost m_way m_own m_mixed m_guessAt m_treeCost m_isLeaf m_inTree m_out m_text m_read) sz [.ref (a 0), .int x1]) (q_X5_ownOf E a m_states m_came m_byDepth m_outLong m_low m_textLong m_place m_readLong m_now m_past m_refused m_line m_weights m_ownCost m_way m_own m_mixed m_guessAt m_treeCost m_isLeaf m_inTree m_out m_text m_read m_byGuesser m_noughts m_ones K (va_A (wM E a m_states m_came m_byDepth m_byGuesser m_outLong m_low m_textLong m_place m_readLong m_now m_past m_refused m_line m_noughts m_ones m_weights m_ownCost m_way m_own m_mixed m_guessAt m_treeCost m_isLeaf m_inTree m_out m_text m_read) sz)) 0 0 (va_A (wM E a m_states m_came m_byDepth m_byGuesser m_outLong m_low m_textLong m_place m_readLong m_now m_past m_refused m_line m_noughts m_ones m_weights m_ownCost m_way m_own m_mixed m_guessAt m_treeCost m_isLeaf m_inTree m_out m_text m_read) sz) :=
  met_of (Qc := fun A => q_X5_ownOf E a m_states m_came m_byDepth m_outLong m_low m_textLong m_place m_readLong m_now m_past m_refused m_line m_weights m_ownCost m_way m_own m_mixed m_guessAt m_treeCost m_isLeaf m_inTree m_out m_text m_read m_byGuesser m_noughts m_ones K A) (by decide) (Nat.le_of_ble_eq_true rfl) (fun _ _ _ _ _ _ _ _ _ F hE hA hP hD hl => w_X5_ownOf F hE hA m_states m_came m_byDepth m_outLong m_low m_textLong m_place m_readLong m_now m_past m_refused m_line m_weights m_ownCost m_way m_own m_mixed m_guessAt m_treeCost m_isLeaf m_inTree m_out m_text m_read m_byGuesser m_noughts m_ones K  x1 hw hP hD va_S.rf hl)
theorem hd_X5_nodeOf : yX5_nodeOf.cls ≠ "java/lang/invoke/MethodHandle" ∧ yX5_nodeOf.cls ≠ "java/lang/invoke/VarHandle" ∧ (parseMethodDescriptor yX5_nodeOf.desc).map (fun d => d.parameters.length) = some 2 := by decide +kernel
theorem cw_X5_88 {R : Room} {s : State} {args : Array Value} (hts : ∀ w ∈ lw_all, w.before args s = true) (hR : rm_X5_nodeOf.frames + 1 ≤ R.frames ∧ 8 + (2 + 11) + rm_X5_nodeOf.locals ≤ R.locals) : CallB R s args RX5 88 yX5_nodeOf cX5_nodeOf 2 (some .int) (ws_ yX5_nodeOf cX5_nodeOf 2 (some .int)) rm_X5_nodeOf 0 0 2 ∧ (Cond.static yX5_nodeOf).before args s = true := va_cwS 2 hts (lw_S q836 q837 q72 q838) rfl rfl rfl hd_X5_nodeOf hR
theorem hd_X5_ownOf : yX5_ownOf.cls = RX5 ∧ yX5_ownOf.cls ≠ "java/lang/invoke/MethodHandle" ∧ yX5_ownOf.cls ≠ "java/lang/invoke/VarHandle" ∧ (parseMethodDescriptor yX5_ownOf.desc).map (fun d => d.parameters.length) = some 1 := by decide +kernel
theorem cw_X5_92 {R : Room} {s : State} {args : Array Value} (hts : ∀ w ∈ lw_all, w.before args s = true) (hR : rm_X5_ownOf.frames + 1 ≤ R.frames ∧ 8 + (6 + 11) + rm_X5_ownOf.locals ≤ R.locals) : CallW R s args RX5 RX5 92 yX5_ownOf cX5_ownOf 6 (some .int) (ws_ yX5_ownOf cX5_ownOf 6 (some .int)) rm_X5_ownOf 0 0 1 := cwV 1 hts (lw_V q839 q841 qs48 q72 q842) rfl rfl rfl hd_X5_ownOf hR
-- TreeOddsModel.guesses ()I
abbrev rm_X5_guesses : Room := { frames := 2, cells := 0, slots := 0, locals := 46 }
abbrev q_X5_guesses (E : gE) (a : Nat → Nat) (m_states : Int32) (m_outLong : Int32) (m_low : Int64) (m_textLong : Int32) (m_place : Int32) (m_readLong : Int32) (m_now : Nat → Int32) (m_past : Nat → Int32) (m_refused : Nat → Int32) (m_ownCost : Nat → Int32) (m_guessAt : Nat → Int32) (m_treeCost : Nat → Int32) (m_isLeaf : Nat → Int32) (m_inTree : Nat → Int32) (m_out : Nat → Int32) (m_text : Nat → Int32) (m_read : Nat → Int32) (m_came : Int32) (m_byDepth : Int32) (m_byGuesser : Int32) (m_line : Nat → Int32) (m_noughts : Nat → Int32) (m_ones : Nat → Int32) (m_weights : Nat → Int32) (K : Int32 → (Nat → Int32) → (Nat → Int32) → (Nat → Int32) → Prop) (A : Nat → Prop) : Array Value → State → Outcome → State → Prop := va_Qi (fun (r : Int32) (u : (Nat → Int32) × (Nat → Int32) × (Nat → Int32)) => K r u.1 u.2.1 u.2.2) (po_ E A (fun (u : (Nat → Int32) × (Nat → Int32) × (Nat → Int32)) => wM E a m_states m_came m_byDepth m_byGuesser m_outLong m_low m_textLong m_place m_readLong m_now m_past m_refused m_line m_noughts m_ones m_weights m_ownCost u.1 u.2.1 u.2.2 m_guessAt m_treeCost m_isLeaf m_inTree m_out m_text m_read)) A
abbrev g_X5_guesses (p : Program) (l : Launch) (e : Env) (s : State) (m : MethodId) (args : Array Value) (below : List Frame) (meth : Method) (c : Code) (E : gE) (a : Nat → Nat) (A : Nat → Prop) (m_states : Int32) (m_outLong : Int32) (m_low : Int64) (m_textLong : Int32) (m_place : Int32) (m_readLong : Int32) (m_now : Nat → Int32) (m_past : Nat → Int32) (m_refused : Nat → Int32) (m_ownCost : Nat → Int32) (m_guessAt : Nat → Int32) (m_treeCost : Nat → Int32) (m_isLeaf : Nat → Int32) (m_inTree : Nat → Int32) (m_out : Nat → Int32) (m_text : Nat → Int32) (m_read : Nat → Int32) (m_came : Int32) (m_byDepth : Int32) (m_byGuesser : Int32) (m_line : Nat → Int32) (m_noughts : Nat → Int32) (m_ones : Nat → Int32) (m_weights : Nat → Int32) (K : Int32 → (Nat → Int32) → (Nat → Int32) → (Nat → Int32) → Prop) (H : Heap) (locs : List Loc) (pc : Nat) (ls : Array Slot) (st : List Value) : Prop := W p l e rm_X5_guesses s m args below meth c H locs 0 0 (MQ below (q_X5_guesses E a m_states m_outLong m_low m_textLong m_place m_readLong m_now m_past m_refused m_ownCost m_guessAt m_treeCost m_isLeaf m_inTree m_out m_text m_read m_came m_byDepth m_byGuesser m_line m_noughts m_ones m_weights K A) args s 0 0 A) (F0 m pc ls st)
def wp_X5_guesses_L164 (m_came : Int32) (m_byDepth : Int32) (m_byGuesser : Int32) (m_line : Nat → Int32) (m_noughts : Nat → Int32) (m_ones : Nat → Int32) (m_weights : Nat → Int32) (K : Int32 → (Nat → Int32) → (Nat → Int32) → (Nat → Int32) → Prop)  (m_way : Nat → Int32) (m_own : Nat → Int32) (m_mixed : Nat → Int32) : Prop :=
  vp_in (0 : Int32) 7 ∧
  (K (m_mixed (0 : Int32).toNatClampNeg) m_way m_own m_mixed)
set_option maxHeartbeats 4000000 in
set_option maxRecDepth 100000 in
theorem w_X5_guesses_L164 {p : Program} {l : Launch} {e : Env} {s : State} {m : MethodId} {args : Array Value} {below : List Frame} {meth : Method} {c : Code} {E : gE} {a : Nat → Nat} {A : Nat → Prop} (F : fx_ p s m args meth c RX5 cX5_guesses 5 (some .int)) (hE : nM E A s) (hA : ∀ q, s.heap.size ≤ q → A q) (m_states : Int32) (m_outLong : Int32) (m_low : Int64) (m_textLong : Int32) (m_place : Int32) (m_readLong : Int32) (m_now : Nat → Int32) (m_past : Nat → Int32) (m_refused : Nat → Int32) (m_ownCost : Nat → Int32) (m_guessAt : Nat → Int32) (m_treeCost : Nat → Int32) (m_isLeaf : Nat → Int32) (m_inTree : Nat → Int32) (m_out : Nat → Int32) (m_text : Nat → Int32) (m_read : Nat → Int32) (m_came : Int32) (m_byDepth : Int32) (m_byGuesser : Int32) (m_line : Nat → Int32) (m_noughts : Nat → Int32) (m_ones : Nat → Int32) (m_weights : Nat → Int32) (K : Int32 → (Nat → Int32) → (Nat → Int32) → (Nat → Int32) → Prop)  : ∀ (m_way : Nat → Int32) (m_own : Nat → Int32) (m_mixed : Nat → Int32) (H : Heap) (locs : List Loc) (ls : Array Slot), wp_X5_guesses_L164 m_came m_byDepth m_byGuesser m_line m_noughts m_ones m_weights K m_way m_own m_mixed → va_P E.1 vwCl (wM E a m_states m_came m_byDepth m_byGuesser m_outLong m_low m_textLong m_place m_readLong m_now m_past m_refused m_line m_noughts m_ones m_weights m_ownCost m_way m_own m_mixed m_guessAt m_treeCost m_isLeaf m_inTree m_out m_text m_read) H → va_D A (wM E a m_states m_came m_byDepth m_byGuesser m_outLong m_low m_textLong m_place m_readLong m_now m_past m_refused m_line m_noughts m_ones m_weights m_ownCost m_way m_own m_mixed m_guessAt m_treeCost m_isLeaf m_inTree m_out m_text m_read) → va_S A s.heap H locs → lv_has ls 5 [(0, .ref (a 0))] → g_X5_guesses p l e s m args below meth c E a A m_states m_outLong m_low m_textLong m_place m_readLong m_now m_past m_refused m_ownCost m_guessAt m_treeCost m_isLeaf m_inTree m_out m_text m_read m_came m_byDepth m_byGuesser m_line m_noughts m_ones m_weights K H locs 164 ls [] := by
  obtain ⟨hx, hb, hr, hlk, hml, hown, hts⟩ := id F
  have hK : va_K E.1 vwCl (tyL E) s := hE
  intro m_way m_own m_mixed H locs ls hw hP hD hS hl
  unfold wp_X5_guesses_L164 at hw
  refine lv_aload_n hx hb dX5_guesses_164 rfl (lv_at hl 0 rfl) ?_
  refine va_get (D := E.1) (ci := 5) (v := .ref (a 11)) (C := RX5) (T := TX5) (N := 27) hx hb hts in_X5 hown hK hP 0 rfl rfl 14 (by decide) (hts _ q712) (fun _ h9 => h9) rfl dX5_guesses_165 ?_
  refine lv_iconst (v := 0) hx hb dX5_guesses_168 (by decide) ?_
  obtain ⟨hi_, hw⟩ := hw
  refine va_iald hx hb hK hP 11 0 rfl rfl hi_ dX5_guesses_169 ?_
  exact W.iret (v := m_mixed (0 : Int32).toNatClampNeg) hx hb hr (fun t ht hW => ⟨⟨m_mixed (0 : Int32).toNatClampNeg, (m_way, m_own, m_mixed), rfl, hw, by rw [ht]; exact hP, hD⟩, hS.F ht⟩) hS.2.2 dX5_guesses_170 hlk
def wp_X5_guesses_L103 (m_came : Int32) (m_byDepth : Int32) (m_byGuesser : Int32) (m_line : Nat → Int32) (m_noughts : Nat → Int32) (m_ones : Nat → Int32) (m_weights : Nat → Int32) (K : Int32 → (Nat → Int32) → (Nat → Int32) → (Nat → Int32) → Prop)  : Nat → Int32 → (Nat → Int32) → (Nat → Int32) → (Nat → Int32) → Prop
  | 0 => fun _ _ _ _ => False
  | n_ + 1 => fun x2 m_way m_own m_mixed =>
  (x2 < 0 → wp_X5_guesses_L164 m_came m_byDepth m_byGuesser m_line m_noughts m_ones m_weights K m_way m_own m_mixed) ∧
  (¬ x2 < 0 → vp_in x2 7 ∧
  (vp_in (m_way x2.toNatClampNeg) 127 ∧
  (∀ v119 : Int64, v119 = (m_weights (m_way x2.toNatClampNeg).toNatClampNeg).toInt64 →
  vp_in x2 7 ∧
  (vp_in (x2 + (1 : Int32)) 7 ∧
  (wp_X5_held (((v119 * ((m_own x2.toNatClampNeg).toInt64)) + (((65536 : Int64) - v119) * ((m_mixed (x2 + (1 : Int32)).toNatClampNeg).toInt64))) / (65536 : Int64)) (fun r154 =>
  vp_in x2 7 ∧
  (wp_X5_guesses_L103 m_came m_byDepth m_byGuesser m_line m_noughts m_ones m_weights K n_ (x2 + (-1 : Int32)) m_way m_own (upd m_mixed x2.toNatClampNeg r154))))))))
set_option maxHeartbeats 4000000 in
set_option maxRecDepth 100000 in
theorem w_X5_guesses_L103 {p : Program} {l : Launch} {e : Env} {s : State} {m : MethodId} {args : Array Value} {below : List Frame} {meth : Method} {c : Code} {E : gE} {a : Nat → Nat} {A : Nat → Prop} (F : fx_ p s m args meth c RX5 cX5_guesses 5 (some .int)) (hE : nM E A s) (hA : ∀ q, s.heap.size ≤ q → A q) (m_states : Int32) (m_outLong : Int32) (m_low : Int64) (m_textLong : Int32) (m_place : Int32) (m_readLong : Int32) (m_now : Nat → Int32) (m_past : Nat → Int32) (m_refused : Nat → Int32) (m_ownCost : Nat → Int32) (m_guessAt : Nat → Int32) (m_treeCost : Nat → Int32) (m_isLeaf : Nat → Int32) (m_inTree : Nat → Int32) (m_out : Nat → Int32) (m_text : Nat → Int32) (m_read : Nat → Int32) (m_came : Int32) (m_byDepth : Int32) (m_byGuesser : Int32) (m_line : Nat → Int32) (m_noughts : Nat → Int32) (m_ones : Nat → Int32) (m_weights : Nat → Int32) (K : Int32 → (Nat → Int32) → (Nat → Int32) → (Nat → Int32) → Prop)  : ∀ (n_ : Nat) (x2 : Int32) (m_way : Nat → Int32) (m_own : Nat → Int32) (m_mixed : Nat → Int32) (H : Heap) (locs : List Loc) (ls : Array Slot), wp_X5_guesses_L103 m_came m_byDepth m_byGuesser m_line m_noughts m_ones m_weights K n_ x2 m_way m_own m_mixed → va_P E.1 vwCl (wM E a m_states m_came m_byDepth m_byGuesser m_outLong m_low m_textLong m_place m_readLong m_now m_past m_refused m_line m_noughts m_ones m_weights m_ownCost m_way m_own m_mixed m_guessAt m_treeCost m_isLeaf m_inTree m_out m_text m_read) H → va_D A (wM E a m_states m_came m_byDepth m_byGuesser m_outLong m_low m_textLong m_place m_readLong m_now m_past m_refused m_line m_noughts m_ones m_weights m_ownCost m_way m_own m_mixed m_guessAt m_treeCost m_isLeaf m_inTree m_out m_text m_read) → va_S A s.heap H locs → lv_has ls 5 [(0, .ref (a 0)), (2, .int x2)] → g_X5_guesses p l e s m args below meth c E a A m_states m_outLong m_low m_textLong m_place m_readLong m_now m_past m_refused m_ownCost m_guessAt m_treeCost m_isLeaf m_inTree m_out m_text m_read m_came m_byDepth m_byGuesser m_line m_noughts m_ones m_weights K H locs 103 ls [] := by
  obtain ⟨hx, hb, hr, hlk, hml, hown, hts⟩ := id F
  have hK : va_K E.1 vwCl (tyL E) s := hE
  intro n_
  induction n_ with
  | zero =>
    intro x2 m_way m_own m_mixed H locs ls hw hP hD hS hl
    exact hw.elim
  | succ n_ ih =>
    intro x2 m_way m_own m_mixed H locs ls hw hP hD hS hl
    unfold wp_X5_guesses_L103 at hw
    refine lv_iload_n hx hb dX5_guesses_103 rfl (lv_at hl 1 rfl) ?_
    refine lv_if_lt (tgt := 164) hx hb dX5_guesses_104 (by decide) (fun c_ => ?_) (fun c_ => ?_)
    · have hw := hw.1 c_
      exact w_X5_guesses_L164 F hE hA m_states m_outLong m_low m_textLong m_place m_readLong m_now m_past m_refused m_ownCost m_guessAt m_treeCost m_isLeaf m_inTree m_out m_text m_read m_came m_byDepth m_byGuesser m_line m_noughts m_ones m_weights K m_way m_own m_mixed _ _ _ hw hP hD hS (lv_sub hl [0] rfl)
    · have hw := hw.2 c_
      refine lv_aload_n hx hb dX5_guesses_107 rfl (lv_at hl 0 rfl) ?_
      refine va_get (D := E.1) (ci := 5) (v := .ref (a 7)) (C := RX5) (T := TX5) (N := 27) hx hb hts in_X5 hown hK hP 0 rfl rfl 10 (by decide) (hts _ q708) (fun _ h9 => h9) rfl dX5_guesses_108 ?_
      refine lv_aload_n hx hb dX5_guesses_111 rfl (lv_at hl 0 rfl) ?_
      refine va_get (D := E.1) (ci := 5) (v := .ref (a 9)) (C := RX5) (T := TX5) (N := 27) hx hb hts in_X5 hown hK hP 0 rfl rfl 12 (by decide) (hts _ q710) (fun _ h9 => h9) rfl dX5_guesses_112 ?_
      refine lv_iload_n hx hb dX5_guesses_115 rfl (lv_at hl 1 rfl) ?_
      obtain ⟨hi_, hw⟩ := hw
      refine va_iald hx hb hK hP 9 0 rfl rfl hi_ dX5_guesses_116 ?_
      obtain ⟨hi_, hw⟩ := hw
      refine va_iald hx hb hK hP 7 0 rfl rfl hi_ dX5_guesses_117 ?_
      refine lv_i2l hx hb dX5_guesses_118 rfl ?_
      refine lv_topl (fun v119 e_v119 => ?_)
      have hw := hw v119 e_v119
      refine lv_lstore_n (lv' := [(3, .long v119), (0, .ref (a 0)), (2, .int x2)]) hx hb dX5_guesses_119 rfl hl (by decide) rfl (fun ls hl => ?_)
      refine lv_aload_n hx hb dX5_guesses_120 rfl (lv_at hl 1 rfl) ?_
      refine va_get (D := E.1) (ci := 5) (v := .ref (a 11)) (C := RX5) (T := TX5) (N := 27) hx hb hts in_X5 hown hK hP 0 rfl rfl 14 (by decide) (hts _ q712) (fun _ h9 => h9) rfl dX5_guesses_121 ?_
      refine lv_iload_n hx hb dX5_guesses_124 rfl (lv_at hl 2 rfl) ?_
      refine lv_lload_n hx hb dX5_guesses_125 rfl (lv_at hl 0 rfl) ?_
      refine lv_aload_n hx hb dX5_guesses_126 rfl (lv_at hl 1 rfl) ?_
      refine va_get (D := E.1) (ci := 5) (v := .ref (a 10)) (C := RX5) (T := TX5) (N := 27) hx hb hts in_X5 hown hK hP 0 rfl rfl 13 (by decide) (hts _ q711) (fun _ h9 => h9) rfl dX5_guesses_127 ?_
      refine lv_iload_n hx hb dX5_guesses_130 rfl (lv_at hl 2 rfl) ?_
      obtain ⟨hi_, hw⟩ := hw
      refine va_iald hx hb hK hP 10 0 rfl rfl hi_ dX5_guesses_131 ?_
      refine lv_i2l hx hb dX5_guesses_132 rfl ?_
      refine lv_lmul hx hb dX5_guesses_133 ?_
      refine lv_ldc2 hx hb hown (hts _ q843) dX5_guesses_134 ?_
      refine lv_lload_n hx hb dX5_guesses_137 rfl (lv_at hl 0 rfl) ?_
      refine lv_lsub hx hb dX5_guesses_138 ?_
      refine lv_aload_n hx hb dX5_guesses_139 rfl (lv_at hl 1 rfl) ?_
      refine va_get (D := E.1) (ci := 5) (v := .ref (a 11)) (C := RX5) (T := TX5) (N := 27) hx hb hts in_X5 hown hK hP 0 rfl rfl 14 (by decide) (hts _ q712) (fun _ h9 => h9) rfl dX5_guesses_140 ?_
      refine lv_iload_n hx hb dX5_guesses_143 rfl (lv_at hl 2 rfl) ?_
      refine lv_iconst (v := 1) hx hb dX5_guesses_144 (by decide) ?_
      refine lv_iadd hx hb dX5_guesses_145 ?_
      obtain ⟨hi_, hw⟩ := hw
      refine va_iald hx hb hK hP 11 0 rfl rfl hi_ dX5_guesses_146 ?_
      refine lv_i2l hx hb dX5_guesses_147 rfl ?_
      refine lv_lmul hx hb dX5_guesses_148 ?_
      refine lv_ladd hx hb dX5_guesses_149 ?_
      refine lv_ldc2 hx hb hown (hts _ q843) dX5_guesses_150 ?_
      refine lv_ldiv hx hb dX5_guesses_153 (by decide) ?_
      refine cc_si (As := [.long (((v119 * ((m_own x2.toNatClampNeg).toInt64)) + (((65536 : Int64) - v119) * ((m_mixed (x2 + (1 : Int32)).toNatClampNeg).toInt64))) / (65536 : Int64))]) (rest := [.int x2, .ref (a 11)]) ⟨hx, hb, hml, hown, hts⟩ (met_X5_held l (((v119 * ((m_own x2.toNatClampNeg).toInt64)) + (((65536 : Int64) - v119) * ((m_mixed (x2 + (1 : Int32)).toNatClampNeg).toInt64))) / (65536 : Int64)) hw) (cw_X5_84 hts ⟨Nat.le_of_ble_eq_true rfl, Nat.le_of_ble_eq_true rfl⟩) rfl hl.1 rfl (Nat.le_of_ble_eq_true rfl) dX5_guesses_154 ⟨Nat.le_of_ble_eq_true rfl, Nat.le_of_ble_eq_true rfl⟩ (fun r154 hw => ?_)
      obtain ⟨hi_, hw⟩ := hw
      refine va_iast hx hb hK hP hD hS 11 0 rfl rfl hi_ dX5_guesses_157 (fun H locs hP hD hS => ?_)
      have hP : va_P E.1 vwCl (wM E a m_states m_came m_byDepth m_byGuesser m_outLong m_low m_textLong m_place m_readLong m_now m_past m_refused m_line m_noughts m_ones m_weights m_ownCost m_way m_own (upd m_mixed x2.toNatClampNeg r154) m_guessAt m_treeCost m_isLeaf m_inTree m_out m_text m_read) H := hP
      have hD : va_D A (wM E a m_states m_came m_byDepth m_byGuesser m_outLong m_low m_textLong m_place m_readLong m_now m_past m_refused m_line m_noughts m_ones m_weights m_ownCost m_way m_own (upd m_mixed x2.toNatClampNeg r154) m_guessAt m_treeCost m_isLeaf m_inTree m_out m_text m_read) := hD
      refine lv_iinc (v := x2 + (-1 : Int32)) (lv' := [(2, .int (x2 + (-1 : Int32))), (3, .long v119), (0, .ref (a 0))]) hx hb dX5_guesses_158 hl (k := 2) rfl (by rfl) (by decide) rfl (fun ls hl => ?_)
      refine lv_goto (tgt := 103) hx hb dX5_guesses_161 (by decide) ?_
      exact ih (x2 + (-1 : Int32)) m_way m_own (upd m_mixed x2.toNatClampNeg r154) _ _ _ hw hP hD hS (lv_sub hl [2, 0] rfl)
def wp_X5_guesses_L78 (m_came : Int32) (m_byDepth : Int32) (m_byGuesser : Int32) (m_line : Nat → Int32) (m_noughts : Nat → Int32) (m_ones : Nat → Int32) (m_weights : Nat → Int32) (K : Int32 → (Nat → Int32) → (Nat → Int32) → (Nat → Int32) → Prop)  (m_way : Nat → Int32) (m_own : Nat → Int32) (m_mixed : Nat → Int32) : Prop :=
  vp_in m_byDepth 7 ∧
  (vp_in m_byDepth 7 ∧
  (∀ v102 : Int32, v102 = m_byDepth - (1 : Int32) →
  ∃ k_, wp_X5_guesses_L103 m_came m_byDepth m_byGuesser m_line m_noughts m_ones m_weights K k_ v102 m_way m_own (upd m_mixed m_byDepth.toNatClampNeg (m_own m_byDepth.toNatClampNeg))))
set_option maxHeartbeats 4000000 in
set_option maxRecDepth 100000 in
theorem w_X5_guesses_L78 {p : Program} {l : Launch} {e : Env} {s : State} {m : MethodId} {args : Array Value} {below : List Frame} {meth : Method} {c : Code} {E : gE} {a : Nat → Nat} {A : Nat → Prop} (F : fx_ p s m args meth c RX5 cX5_guesses 5 (some .int)) (hE : nM E A s) (hA : ∀ q, s.heap.size ≤ q → A q) (m_states : Int32) (m_outLong : Int32) (m_low : Int64) (m_textLong : Int32) (m_place : Int32) (m_readLong : Int32) (m_now : Nat → Int32) (m_past : Nat → Int32) (m_refused : Nat → Int32) (m_ownCost : Nat → Int32) (m_guessAt : Nat → Int32) (m_treeCost : Nat → Int32) (m_isLeaf : Nat → Int32) (m_inTree : Nat → Int32) (m_out : Nat → Int32) (m_text : Nat → Int32) (m_read : Nat → Int32) (m_came : Int32) (m_byDepth : Int32) (m_byGuesser : Int32) (m_line : Nat → Int32) (m_noughts : Nat → Int32) (m_ones : Nat → Int32) (m_weights : Nat → Int32) (K : Int32 → (Nat → Int32) → (Nat → Int32) → (Nat → Int32) → Prop)  : ∀ (m_way : Nat → Int32) (m_own : Nat → Int32) (m_mixed : Nat → Int32) (H : Heap) (locs : List Loc) (ls : Array Slot), wp_X5_guesses_L78 m_came m_byDepth m_byGuesser m_line m_noughts m_ones m_weights K m_way m_own m_mixed → va_P E.1 vwCl (wM E a m_states m_came m_byDepth m_byGuesser m_outLong m_low m_textLong m_place m_readLong m_now m_past m_refused m_line m_noughts m_ones m_weights m_ownCost m_way m_own m_mixed m_guessAt m_treeCost m_isLeaf m_inTree m_out m_text m_read) H → va_D A (wM E a m_states m_came m_byDepth m_byGuesser m_outLong m_low m_textLong m_place m_readLong m_now m_past m_refused m_line m_noughts m_ones m_weights m_ownCost m_way m_own m_mixed m_guessAt m_treeCost m_isLeaf m_inTree m_out m_text m_read) → va_S A s.heap H locs → lv_has ls 5 [(0, .ref (a 0))] → g_X5_guesses p l e s m args below meth c E a A m_states m_outLong m_low m_textLong m_place m_readLong m_now m_past m_refused m_ownCost m_guessAt m_treeCost m_isLeaf m_inTree m_out m_text m_read m_came m_byDepth m_byGuesser m_line m_noughts m_ones m_weights K H locs 78 ls [] := by
  obtain ⟨hx, hb, hr, hlk, hml, hown, hts⟩ := id F
  have hK : va_K E.1 vwCl (tyL E) s := hE
  intro m_way m_own m_mixed H locs ls hw hP hD hS hl
  unfold wp_X5_guesses_L78 at hw
  refine lv_aload_n hx hb dX5_guesses_78 rfl (lv_at hl 0 rfl) ?_
  refine va_get (D := E.1) (ci := 5) (v := .ref (a 11)) (C := RX5) (T := TX5) (N := 27) hx hb hts in_X5 hown hK hP 0 rfl rfl 14 (by decide) (hts _ q712) (fun _ h9 => h9) rfl dX5_guesses_79 ?_
  refine lv_aload_n hx hb dX5_guesses_82 rfl (lv_at hl 0 rfl) ?_
  refine va_get (D := E.1) (ci := 5) (v := .int m_byDepth) (C := RX5) (T := TX5) (N := 27) hx hb hts in_X5 hown hK hP 0 rfl rfl 6 (by decide) (hts _ q704) (fun _ h9 => h9) rfl dX5_guesses_83 ?_
  refine lv_aload_n hx hb dX5_guesses_86 rfl (lv_at hl 0 rfl) ?_
  refine va_get (D := E.1) (ci := 5) (v := .ref (a 10)) (C := RX5) (T := TX5) (N := 27) hx hb hts in_X5 hown hK hP 0 rfl rfl 13 (by decide) (hts _ q711) (fun _ h9 => h9) rfl dX5_guesses_87 ?_
  refine lv_aload_n hx hb dX5_guesses_90 rfl (lv_at hl 0 rfl) ?_
  refine va_get (D := E.1) (ci := 5) (v := .int m_byDepth) (C := RX5) (T := TX5) (N := 27) hx hb hts in_X5 hown hK hP 0 rfl rfl 6 (by decide) (hts _ q704) (fun _ h9 => h9) rfl dX5_guesses_91 ?_
  obtain ⟨hi_, hw⟩ := hw
  refine va_iald hx hb hK hP 10 0 rfl rfl hi_ dX5_guesses_94 ?_
  obtain ⟨hi_, hw⟩ := hw
  refine va_iast hx hb hK hP hD hS 11 0 rfl rfl hi_ dX5_guesses_95 (fun H locs hP hD hS => ?_)
  have hP : va_P E.1 vwCl (wM E a m_states m_came m_byDepth m_byGuesser m_outLong m_low m_textLong m_place m_readLong m_now m_past m_refused m_line m_noughts m_ones m_weights m_ownCost m_way m_own (upd m_mixed m_byDepth.toNatClampNeg (m_own m_byDepth.toNatClampNeg)) m_guessAt m_treeCost m_isLeaf m_inTree m_out m_text m_read) H := hP
  have hD : va_D A (wM E a m_states m_came m_byDepth m_byGuesser m_outLong m_low m_textLong m_place m_readLong m_now m_past m_refused m_line m_noughts m_ones m_weights m_ownCost m_way m_own (upd m_mixed m_byDepth.toNatClampNeg (m_own m_byDepth.toNatClampNeg)) m_guessAt m_treeCost m_isLeaf m_inTree m_out m_text m_read) := hD
  refine lv_aload_n hx hb dX5_guesses_96 rfl (lv_at hl 0 rfl) ?_
  refine va_get (D := E.1) (ci := 5) (v := .int m_byDepth) (C := RX5) (T := TX5) (N := 27) hx hb hts in_X5 hown hK hP 0 rfl rfl 6 (by decide) (hts _ q704) (fun _ h9 => h9) rfl dX5_guesses_97 ?_
  refine lv_iconst (v := 1) hx hb dX5_guesses_100 (by decide) ?_
  refine lv_isub hx hb dX5_guesses_101 ?_
  refine lv_topi (fun v102 e_v102 => ?_)
  have hw := hw v102 e_v102
  refine lv_istore_n (lv' := [(2, .int v102), (0, .ref (a 0))]) hx hb dX5_guesses_102 rfl hl (by decide) rfl (fun ls hl => ?_)
  obtain ⟨k_, hw⟩ := hw
  exact w_X5_guesses_L103 F hE hA m_states m_outLong m_low m_textLong m_place m_readLong m_now m_past m_refused m_ownCost m_guessAt m_treeCost m_isLeaf m_inTree m_out m_text m_read m_came m_byDepth m_byGuesser m_line m_noughts m_ones m_weights K k_ v102 m_way m_own (upd m_mixed m_byDepth.toNatClampNeg (m_own m_byDepth.toNatClampNeg)) _ _ _ hw hP hD hS (lv_sub hl [1, 0] rfl)
def wp_X5_guesses_L70 (m_came : Int32) (m_byDepth : Int32) (m_byGuesser : Int32) (m_line : Nat → Int32) (m_noughts : Nat → Int32) (m_ones : Nat → Int32) (m_weights : Nat → Int32) (K : Int32 → (Nat → Int32) → (Nat → Int32) → (Nat → Int32) → Prop) (J4 : Int32 → Int32 → (Nat → Int32) → (Nat → Int32) → (Nat → Int32) → Prop) (x2 : Int32) (s0 : Int32) (s1 : Int32) (m_way : Nat → Int32) (m_own : Nat → Int32) (m_mixed : Nat → Int32) : Prop :=
  ∀ v71 : Int32, v71 = s0 ||| s1 →
  J4 v71 (x2 + (1 : Int32)) m_way m_own m_mixed
set_option maxHeartbeats 4000000 in
set_option maxRecDepth 100000 in
theorem w_X5_guesses_L70 {p : Program} {l : Launch} {e : Env} {s : State} {m : MethodId} {args : Array Value} {below : List Frame} {meth : Method} {c : Code} {E : gE} {a : Nat → Nat} {A : Nat → Prop} (F : fx_ p s m args meth c RX5 cX5_guesses 5 (some .int)) (hE : nM E A s) (hA : ∀ q, s.heap.size ≤ q → A q) (m_states : Int32) (m_outLong : Int32) (m_low : Int64) (m_textLong : Int32) (m_place : Int32) (m_readLong : Int32) (m_now : Nat → Int32) (m_past : Nat → Int32) (m_refused : Nat → Int32) (m_ownCost : Nat → Int32) (m_guessAt : Nat → Int32) (m_treeCost : Nat → Int32) (m_isLeaf : Nat → Int32) (m_inTree : Nat → Int32) (m_out : Nat → Int32) (m_text : Nat → Int32) (m_read : Nat → Int32) (m_came : Int32) (m_byDepth : Int32) (m_byGuesser : Int32) (m_line : Nat → Int32) (m_noughts : Nat → Int32) (m_ones : Nat → Int32) (m_weights : Nat → Int32) (K : Int32 → (Nat → Int32) → (Nat → Int32) → (Nat → Int32) → Prop) (J4 : Int32 → Int32 → (Nat → Int32) → (Nat → Int32) → (Nat → Int32) → Prop) (hJ4 : ∀ (x1 : Int32) (x2 : Int32) (m_way : Nat → Int32) (m_own : Nat → Int32) (m_mixed : Nat → Int32) (H : Heap) (locs : List Loc) (ls : Array Slot), J4 x1 x2 m_way m_own m_mixed → va_P E.1 vwCl (wM E a m_states m_came m_byDepth m_byGuesser m_outLong m_low m_textLong m_place m_readLong m_now m_past m_refused m_line m_noughts m_ones m_weights m_ownCost m_way m_own m_mixed m_guessAt m_treeCost m_isLeaf m_inTree m_out m_text m_read) H → va_D A (wM E a m_states m_came m_byDepth m_byGuesser m_outLong m_low m_textLong m_place m_readLong m_now m_past m_refused m_line m_noughts m_ones m_weights m_ownCost m_way m_own m_mixed m_guessAt m_treeCost m_isLeaf m_inTree m_out m_text m_read) → va_S A s.heap H locs → lv_has ls 5 [(0, .ref (a 0)), (1, .int x1), (2, .int x2)] → g_X5_guesses p l e s m args below meth c E a A m_states m_outLong m_low m_textLong m_place m_readLong m_now m_past m_refused m_ownCost m_guessAt m_treeCost m_isLeaf m_inTree m_out m_text m_read m_came m_byDepth m_byGuesser m_line m_noughts m_ones m_weights K H locs 4 ls []) : ∀ (x2 : Int32) (s0 : Int32) (s1 : Int32) (m_way : Nat → Int32) (m_own : Nat → Int32) (m_mixed : Nat → Int32) (H : Heap) (locs : List Loc) (ls : Array Slot), wp_X5_guesses_L70 m_came m_byDepth m_byGuesser m_line m_noughts m_ones m_weights K J4 x2 s0 s1 m_way m_own m_mixed → va_P E.1 vwCl (wM E a m_states m_came m_byDepth m_byGuesser m_outLong m_low m_textLong m_place m_readLong m_now m_past m_refused m_line m_noughts m_ones m_weights m_ownCost m_way m_own m_mixed m_guessAt m_treeCost m_isLeaf m_inTree m_out m_text m_read) H → va_D A (wM E a m_states m_came m_byDepth m_byGuesser m_outLong m_low m_textLong m_place m_readLong m_now m_past m_refused m_line m_noughts m_ones m_weights m_ownCost m_way m_own m_mixed m_guessAt m_treeCost m_isLeaf m_inTree m_out m_text m_read) → va_S A s.heap H locs → lv_has ls 5 [(0, .ref (a 0)), (2, .int x2)] → g_X5_guesses p l e s m args below meth c E a A m_states m_outLong m_low m_textLong m_place m_readLong m_now m_past m_refused m_ownCost m_guessAt m_treeCost m_isLeaf m_inTree m_out m_text m_read m_came m_byDepth m_byGuesser m_line m_noughts m_ones m_weights K H locs 70 ls [.int s1, .int s0] := by
  obtain ⟨hx, hb, hr, hlk, hml, hown, hts⟩ := id F
  have hK : va_K E.1 vwCl (tyL E) s := hE
  intro x2 s0 s1 m_way m_own m_mixed H locs ls hw hP hD hS hl
  unfold wp_X5_guesses_L70 at hw
  refine lv_ior hx hb dX5_guesses_70 ?_
  refine lv_topi (fun v71 e_v71 => ?_)
  have hw := hw v71 e_v71
  refine lv_istore_n (lv' := [(1, .int v71), (0, .ref (a 0)), (2, .int x2)]) hx hb dX5_guesses_71 rfl hl (by decide) rfl (fun ls hl => ?_)
  refine lv_iinc (v := x2 + (1 : Int32)) (lv' := [(2, .int (x2 + (1 : Int32))), (1, .int v71), (0, .ref (a 0))]) hx hb dX5_guesses_72 hl (k := 2) rfl (by rfl) (by decide) rfl (fun ls hl => ?_)
  refine lv_goto (tgt := 4) hx hb dX5_guesses_75 (by decide) ?_
  exact hJ4 v71 (x2 + (1 : Int32)) m_way m_own m_mixed _ _ _ hw hP hD hS (lv_sub hl [2, 1, 0] rfl)
def wp_X5_guesses_L4 (m_came : Int32) (m_byDepth : Int32) (m_byGuesser : Int32) (m_line : Nat → Int32) (m_noughts : Nat → Int32) (m_ones : Nat → Int32) (m_weights : Nat → Int32) (K : Int32 → (Nat → Int32) → (Nat → Int32) → (Nat → Int32) → Prop)  : Nat → Int32 → Int32 → (Nat → Int32) → (Nat → Int32) → (Nat → Int32) → Prop
  | 0 => fun _ _ _ _ _ => False
  | n_ + 1 => fun x1 x2 m_way m_own m_mixed =>
  (m_byDepth < x2 → wp_X5_guesses_L78 m_came m_byDepth m_byGuesser m_line m_noughts m_ones m_weights K m_way m_own m_mixed) ∧
  (¬ m_byDepth < x2 → wp_X5_nodeOf x2 x1 (fun r19 =>
  vp_in x2 7 ∧
  (vp_in x2 7 ∧
  (wp_X5_ownOf ((upd m_way x2.toNatClampNeg r19) x2.toNatClampNeg) m_byGuesser m_noughts m_ones (fun r35 =>
  vp_in x2 7 ∧
  ((((m_came - (1 : Int32)) - x2) < 0 → wp_X5_guesses_L70 m_came m_byDepth m_byGuesser m_line m_noughts m_ones m_weights K (wp_X5_guesses_L4 m_came m_byDepth m_byGuesser m_line m_noughts m_ones m_weights K n_) x2 x1 (0 : Int32) (upd m_way x2.toNatClampNeg r19) (upd m_own x2.toNatClampNeg r35) m_mixed) ∧
  (¬ ((m_came - (1 : Int32)) - x2) < 0 → vp_in ((m_came - (1 : Int32)) - x2) 128 ∧
  (wp_X5_guesses_L70 m_came m_byDepth m_byGuesser m_line m_noughts m_ones m_weights K (wp_X5_guesses_L4 m_came m_byDepth m_byGuesser m_line m_noughts m_ones m_weights K n_) x2 x1 ((m_line ((m_came - (1 : Int32)) - x2).toNatClampNeg) <<< (x2 &&& 31)) (upd m_way x2.toNatClampNeg r19) (upd m_own x2.toNatClampNeg r35) m_mixed))))))))
set_option maxHeartbeats 4000000 in
set_option maxRecDepth 100000 in
theorem w_X5_guesses_L4 {p : Program} {l : Launch} {e : Env} {s : State} {m : MethodId} {args : Array Value} {below : List Frame} {meth : Method} {c : Code} {E : gE} {a : Nat → Nat} {A : Nat → Prop} (F : fx_ p s m args meth c RX5 cX5_guesses 5 (some .int)) (hE : nM E A s) (hA : ∀ q, s.heap.size ≤ q → A q) (m_states : Int32) (m_outLong : Int32) (m_low : Int64) (m_textLong : Int32) (m_place : Int32) (m_readLong : Int32) (m_now : Nat → Int32) (m_past : Nat → Int32) (m_refused : Nat → Int32) (m_ownCost : Nat → Int32) (m_guessAt : Nat → Int32) (m_treeCost : Nat → Int32) (m_isLeaf : Nat → Int32) (m_inTree : Nat → Int32) (m_out : Nat → Int32) (m_text : Nat → Int32) (m_read : Nat → Int32) (m_came : Int32) (m_byDepth : Int32) (m_byGuesser : Int32) (m_line : Nat → Int32) (m_noughts : Nat → Int32) (m_ones : Nat → Int32) (m_weights : Nat → Int32) (K : Int32 → (Nat → Int32) → (Nat → Int32) → (Nat → Int32) → Prop)  : ∀ (n_ : Nat) (x1 : Int32) (x2 : Int32) (m_way : Nat → Int32) (m_own : Nat → Int32) (m_mixed : Nat → Int32) (H : Heap) (locs : List Loc) (ls : Array Slot), wp_X5_guesses_L4 m_came m_byDepth m_byGuesser m_line m_noughts m_ones m_weights K n_ x1 x2 m_way m_own m_mixed → va_P E.1 vwCl (wM E a m_states m_came m_byDepth m_byGuesser m_outLong m_low m_textLong m_place m_readLong m_now m_past m_refused m_line m_noughts m_ones m_weights m_ownCost m_way m_own m_mixed m_guessAt m_treeCost m_isLeaf m_inTree m_out m_text m_read) H → va_D A (wM E a m_states m_came m_byDepth m_byGuesser m_outLong m_low m_textLong m_place m_readLong m_now m_past m_refused m_line m_noughts m_ones m_weights m_ownCost m_way m_own m_mixed m_guessAt m_treeCost m_isLeaf m_inTree m_out m_text m_read) → va_S A s.heap H locs → lv_has ls 5 [(0, .ref (a 0)), (1, .int x1), (2, .int x2)] → g_X5_guesses p l e s m args below meth c E a A m_states m_outLong m_low m_textLong m_place m_readLong m_now m_past m_refused m_ownCost m_guessAt m_treeCost m_isLeaf m_inTree m_out m_text m_read m_came m_byDepth m_byGuesser m_line m_noughts m_ones m_weights K H locs 4 ls [] := by
  obtain ⟨hx, hb, hr, hlk, hml, hown, hts⟩ := id F
  have hK : va_K E.1 vwCl (tyL E) s := hE
  intro n_
  induction n_ with
  | zero =>
    intro x1 x2 m_way m_own m_mixed H locs ls hw hP hD hS hl
    exact hw.elim
  | succ n_ ih =>
    intro x1 x2 m_way m_own m_mixed H locs ls hw hP hD hS hl
    unfold wp_X5_guesses_L4 at hw
    refine lv_iload_n hx hb dX5_guesses_4 rfl (lv_at hl 2 rfl) ?_
    refine lv_aload_n hx hb dX5_guesses_5 rfl (lv_at hl 0 rfl) ?_
    refine va_get (D := E.1) (ci := 5) (v := .int m_byDepth) (C := RX5) (T := TX5) (N := 27) hx hb hts in_X5 hown hK hP 0 rfl rfl 6 (by decide) (hts _ q704) (fun _ h9 => h9) rfl dX5_guesses_6 ?_
    refine lv_icmp_gt (tgt := 78) hx hb dX5_guesses_9 (by decide) (fun c_ => ?_) (fun c_ => ?_)
    · have hw := hw.1 c_
      exact w_X5_guesses_L78 F hE hA m_states m_outLong m_low m_textLong m_place m_readLong m_now m_past m_refused m_ownCost m_guessAt m_treeCost m_isLeaf m_inTree m_out m_text m_read m_came m_byDepth m_byGuesser m_line m_noughts m_ones m_weights K m_way m_own m_mixed _ _ _ hw hP hD hS (lv_sub hl [0] rfl)
    · have hw := hw.2 c_
      refine lv_aload_n hx hb dX5_guesses_12 rfl (lv_at hl 0 rfl) ?_
      refine va_get (D := E.1) (ci := 5) (v := .ref (a 9)) (C := RX5) (T := TX5) (N := 27) hx hb hts in_X5 hown hK hP 0 rfl rfl 12 (by decide) (hts _ q710) (fun _ h9 => h9) rfl dX5_guesses_13 ?_
      refine lv_iload_n hx hb dX5_guesses_16 rfl (lv_at hl 2 rfl) ?_
      refine lv_iload_n hx hb dX5_guesses_17 rfl (lv_at hl 2 rfl) ?_
      refine lv_iload_n hx hb dX5_guesses_18 rfl (lv_at hl 1 rfl) ?_
      refine cc_si (As := [.int x2, .int x1]) (rest := [.int x2, .ref (a 9)]) ⟨hx, hb, hml, hown, hts⟩ (met_X5_nodeOf l x2 x1 hw) (cw_X5_88 hts ⟨Nat.le_of_ble_eq_true rfl, Nat.le_of_ble_eq_true rfl⟩) rfl hl.1 rfl (Nat.le_of_ble_eq_true rfl) dX5_guesses_19 ⟨Nat.le_of_ble_eq_true rfl, Nat.le_of_ble_eq_true rfl⟩ (fun r19 hw => ?_)
      obtain ⟨hi_, hw⟩ := hw
      refine va_iast hx hb hK hP hD hS 9 0 rfl rfl hi_ dX5_guesses_22 (fun H locs hP hD hS => ?_)
      have hP : va_P E.1 vwCl (wM E a m_states m_came m_byDepth m_byGuesser m_outLong m_low m_textLong m_place m_readLong m_now m_past m_refused m_line m_noughts m_ones m_weights m_ownCost (upd m_way x2.toNatClampNeg r19) m_own m_mixed m_guessAt m_treeCost m_isLeaf m_inTree m_out m_text m_read) H := hP
      have hD : va_D A (wM E a m_states m_came m_byDepth m_byGuesser m_outLong m_low m_textLong m_place m_readLong m_now m_past m_refused m_line m_noughts m_ones m_weights m_ownCost (upd m_way x2.toNatClampNeg r19) m_own m_mixed m_guessAt m_treeCost m_isLeaf m_inTree m_out m_text m_read) := hD
      refine lv_aload_n hx hb dX5_guesses_23 rfl (lv_at hl 0 rfl) ?_
      refine va_get (D := E.1) (ci := 5) (v := .ref (a 10)) (C := RX5) (T := TX5) (N := 27) hx hb hts in_X5 hown hK hP 0 rfl rfl 13 (by decide) (hts _ q711) (fun _ h9 => h9) rfl dX5_guesses_24 ?_
      refine lv_iload_n hx hb dX5_guesses_27 rfl (lv_at hl 2 rfl) ?_
      refine lv_aload_n hx hb dX5_guesses_28 rfl (lv_at hl 0 rfl) ?_
      refine lv_aload_n hx hb dX5_guesses_29 rfl (lv_at hl 0 rfl) ?_
      refine va_get (D := E.1) (ci := 5) (v := .ref (a 9)) (C := RX5) (T := TX5) (N := 27) hx hb hts in_X5 hown hK hP 0 rfl rfl 12 (by decide) (hts _ q710) (fun _ h9 => h9) rfl dX5_guesses_30 ?_
      refine lv_iload_n hx hb dX5_guesses_33 rfl (lv_at hl 2 rfl) ?_
      obtain ⟨hi_, hw⟩ := hw
      refine va_iald hx hb hK hP 9 0 rfl rfl hi_ dX5_guesses_34 ?_
      refine cc_vi (N := nM E) (ws := wM E a m_states m_came m_byDepth m_byGuesser m_outLong m_low m_textLong m_place m_readLong m_now m_past m_refused m_line m_noughts m_ones m_weights m_ownCost (upd m_way x2.toNatClampNeg r19) m_own m_mixed m_guessAt m_treeCost m_isLeaf m_inTree m_out m_text m_read) (As := [.int ((upd m_way x2.toNatClampNeg r19) x2.toNatClampNeg)]) (rest := [.int x2, .ref (a 10)]) ⟨hx, hb, hml, hown, hts⟩ (nM_ok E) hE hA hP hD hS (met_X5_ownOf l E a _ m_states m_came m_byDepth m_byGuesser m_outLong m_low m_textLong m_place m_readLong m_now m_past m_refused m_line m_noughts m_ones m_weights m_ownCost (upd m_way x2.toNatClampNeg r19) m_own m_mixed m_guessAt m_treeCost m_isLeaf m_inTree m_out m_text m_read ((upd m_way x2.toNatClampNeg r19) x2.toNatClampNeg) hw) (cw_X5_92 hts ⟨Nat.le_of_ble_eq_true rfl, Nat.le_of_ble_eq_true rfl⟩) (va_recv hK hP (ci := 5) (q0 := 0) rfl rfl) rfl hl.1 rfl (Nat.le_of_ble_eq_true rfl) dX5_guesses_35 ⟨Nat.le_of_ble_eq_true rfl, Nat.le_of_ble_eq_true rfl⟩ (fun r35 u H locs hw hP hD hS => ?_)
      have hP : va_P E.1 vwCl (wM E a m_states m_came m_byDepth m_byGuesser m_outLong m_low m_textLong m_place m_readLong m_now m_past m_refused m_line m_noughts m_ones m_weights m_ownCost (upd m_way x2.toNatClampNeg r19) m_own m_mixed m_guessAt m_treeCost m_isLeaf m_inTree m_out m_text m_read) H := hP
      have hD : va_D A (wM E a m_states m_came m_byDepth m_byGuesser m_outLong m_low m_textLong m_place m_readLong m_now m_past m_refused m_line m_noughts m_ones m_weights m_ownCost (upd m_way x2.toNatClampNeg r19) m_own m_mixed m_guessAt m_treeCost m_isLeaf m_inTree m_out m_text m_read) := hD
      obtain ⟨hi_, hw⟩ := hw
      refine va_iast hx hb hK hP hD hS 10 0 rfl rfl hi_ dX5_guesses_38 (fun H locs hP hD hS => ?_)
      have hP : va_P E.1 vwCl (wM E a m_states m_came m_byDepth m_byGuesser m_outLong m_low m_textLong m_place m_readLong m_now m_past m_refused m_line m_noughts m_ones m_weights m_ownCost (upd m_way x2.toNatClampNeg r19) (upd m_own x2.toNatClampNeg r35) m_mixed m_guessAt m_treeCost m_isLeaf m_inTree m_out m_text m_read) H := hP
      have hD : va_D A (wM E a m_states m_came m_byDepth m_byGuesser m_outLong m_low m_textLong m_place m_readLong m_now m_past m_refused m_line m_noughts m_ones m_weights m_ownCost (upd m_way x2.toNatClampNeg r19) (upd m_own x2.toNatClampNeg r35) m_mixed m_guessAt m_treeCost m_isLeaf m_inTree m_out m_text m_read) := hD
      refine lv_iload_n hx hb dX5_guesses_39 rfl (lv_at hl 1 rfl) ?_
      refine lv_aload_n hx hb dX5_guesses_40 rfl (lv_at hl 0 rfl) ?_
      refine va_get (D := E.1) (ci := 5) (v := .int m_came) (C := RX5) (T := TX5) (N := 27) hx hb hts in_X5 hown hK hP 0 rfl rfl 5 (by decide) (hts _ q703) (fun _ h9 => h9) rfl dX5_guesses_41 ?_
      refine lv_iconst (v := 1) hx hb dX5_guesses_44 (by decide) ?_
      refine lv_isub hx hb dX5_guesses_45 ?_
      refine lv_iload_n hx hb dX5_guesses_46 rfl (lv_at hl 2 rfl) ?_
      refine lv_isub hx hb dX5_guesses_47 ?_
      refine lv_if_lt (tgt := 69) hx hb dX5_guesses_48 (by decide) (fun c_ => ?_) (fun c_ => ?_)
      · have hw := hw.1 c_
        refine lv_iconst (v := 0) hx hb dX5_guesses_69 (by decide) ?_
        exact w_X5_guesses_L70 F hE hA m_states m_outLong m_low m_textLong m_place m_readLong m_now m_past m_refused m_ownCost m_guessAt m_treeCost m_isLeaf m_inTree m_out m_text m_read m_came m_byDepth m_byGuesser m_line m_noughts m_ones m_weights K (wp_X5_guesses_L4 m_came m_byDepth m_byGuesser m_line m_noughts m_ones m_weights K n_) ih x2 x1 (0 : Int32) (upd m_way x2.toNatClampNeg r19) (upd m_own x2.toNatClampNeg r35) m_mixed _ _ _ hw hP hD hS (lv_sub hl [0, 2] rfl)
      · have hw := hw.2 c_
        refine lv_aload_n hx hb dX5_guesses_51 rfl (lv_at hl 0 rfl) ?_
        refine va_get (D := E.1) (ci := 5) (v := .ref (a 4)) (C := RX5) (T := TX5) (N := 27) hx hb hts in_X5 hown hK hP 0 rfl rfl 4 (by decide) (hts _ q702) (fun _ h9 => h9) rfl dX5_guesses_52 ?_
        refine lv_aload_n hx hb dX5_guesses_55 rfl (lv_at hl 0 rfl) ?_
        refine va_get (D := E.1) (ci := 5) (v := .int m_came) (C := RX5) (T := TX5) (N := 27) hx hb hts in_X5 hown hK hP 0 rfl rfl 5 (by decide) (hts _ q703) (fun _ h9 => h9) rfl dX5_guesses_56 ?_
        refine lv_iconst (v := 1) hx hb dX5_guesses_59 (by decide) ?_
        refine lv_isub hx hb dX5_guesses_60 ?_
        refine lv_iload_n hx hb dX5_guesses_61 rfl (lv_at hl 2 rfl) ?_
        refine lv_isub hx hb dX5_guesses_62 ?_
        obtain ⟨hi_, hw⟩ := hw
        refine va_iald hx hb hK hP 4 0 rfl rfl hi_ dX5_guesses_63 ?_
        refine lv_iload_n hx hb dX5_guesses_64 rfl (lv_at hl 2 rfl) ?_
        refine lv_ishl hx hb dX5_guesses_65 ?_
        refine lv_goto (tgt := 70) hx hb dX5_guesses_66 (by decide) ?_
        exact w_X5_guesses_L70 F hE hA m_states m_outLong m_low m_textLong m_place m_readLong m_now m_past m_refused m_ownCost m_guessAt m_treeCost m_isLeaf m_inTree m_out m_text m_read m_came m_byDepth m_byGuesser m_line m_noughts m_ones m_weights K (wp_X5_guesses_L4 m_came m_byDepth m_byGuesser m_line m_noughts m_ones m_weights K n_) ih x2 x1 ((m_line ((m_came - (1 : Int32)) - x2).toNatClampNeg) <<< (x2 &&& 31)) (upd m_way x2.toNatClampNeg r19) (upd m_own x2.toNatClampNeg r35) m_mixed _ _ _ hw hP hD hS (lv_sub hl [0, 2] rfl)
def wp_X5_guesses  (m_came : Int32) (m_byDepth : Int32) (m_byGuesser : Int32) (m_line : Nat → Int32) (m_noughts : Nat → Int32) (m_ones : Nat → Int32) (m_weights : Nat → Int32) (m_way : Nat → Int32) (m_own : Nat → Int32) (m_mixed : Nat → Int32) (K : Int32 → (Nat → Int32) → (Nat → Int32) → (Nat → Int32) → Prop) : Prop :=
  ∃ k_, wp_X5_guesses_L4 m_came m_byDepth m_byGuesser m_line m_noughts m_ones m_weights K k_ (0 : Int32) (0 : Int32) m_way m_own m_mixed
set_option maxHeartbeats 4000000 in
set_option maxRecDepth 100000 in
theorem w_X5_guesses {p : Program} {l : Launch} {e : Env} {s : State} {m : MethodId} {args : Array Value} {below : List Frame} {meth : Method} {c : Code} {E : gE} {a : Nat → Nat} {A : Nat → Prop} (F : fx_ p s m args meth c RX5 cX5_guesses 5 (some .int)) (hE : nM E A s) (hA : ∀ q, s.heap.size ≤ q → A q) (m_states : Int32) (m_outLong : Int32) (m_low : Int64) (m_textLong : Int32) (m_place : Int32) (m_readLong : Int32) (m_now : Nat → Int32) (m_past : Nat → Int32) (m_refused : Nat → Int32) (m_ownCost : Nat → Int32) (m_guessAt : Nat → Int32) (m_treeCost : Nat → Int32) (m_isLeaf : Nat → Int32) (m_inTree : Nat → Int32) (m_out : Nat → Int32) (m_text : Nat → Int32) (m_read : Nat → Int32) (m_came : Int32) (m_byDepth : Int32) (m_byGuesser : Int32) (m_line : Nat → Int32) (m_noughts : Nat → Int32) (m_ones : Nat → Int32) (m_weights : Nat → Int32) (K : Int32 → (Nat → Int32) → (Nat → Int32) → (Nat → Int32) → Prop) (m_way : Nat → Int32) (m_own : Nat → Int32) (m_mixed : Nat → Int32)  {H : Heap} {locs : List Loc} {ls : Array Slot} (hw : wp_X5_guesses m_came m_byDepth m_byGuesser m_line m_noughts m_ones m_weights m_way m_own m_mixed K) (hP : va_P E.1 vwCl (wM E a m_states m_came m_byDepth m_byGuesser m_outLong m_low m_textLong m_place m_readLong m_now m_past m_refused m_line m_noughts m_ones m_weights m_ownCost m_way m_own m_mixed m_guessAt m_treeCost m_isLeaf m_inTree m_out m_text m_read) H) (hD : va_D A (wM E a m_states m_came m_byDepth m_byGuesser m_outLong m_low m_textLong m_place m_readLong m_now m_past m_refused m_line m_noughts m_ones m_weights m_ownCost m_way m_own m_mixed m_guessAt m_treeCost m_isLeaf m_inTree m_out m_text m_read)) (hS : va_S A s.heap H locs) (hl : lv_has ls 5 [(0, .ref (a 0))]) : g_X5_guesses p l e s m args below meth c E a A m_states m_outLong m_low m_textLong m_place m_readLong m_now m_past m_refused m_ownCost m_guessAt m_treeCost m_isLeaf m_inTree m_out m_text m_read m_came m_byDepth m_byGuesser m_line m_noughts m_ones m_weights K H locs 0 ls [] := by
  obtain ⟨hx, hb, hr, hlk, hml, hown, hts⟩ := id F
  have hK : va_K E.1 vwCl (tyL E) s := hE
  unfold wp_X5_guesses at hw
  refine lv_iconst (v := 0) hx hb dX5_guesses_0 (by decide) ?_
  refine lv_istore_n (lv' := [(1, .int (0 : Int32)), (0, .ref (a 0))]) hx hb dX5_guesses_1 rfl hl (by decide) rfl (fun ls hl => ?_)
  refine lv_iconst (v := 0) hx hb dX5_guesses_2 (by decide) ?_
  refine lv_istore_n (lv' := [(2, .int (0 : Int32)), (1, .int (0 : Int32)), (0, .ref (a 0))]) hx hb dX5_guesses_3 rfl hl (by decide) rfl (fun ls hl => ?_)
  obtain ⟨k_, hw⟩ := hw
  exact w_X5_guesses_L4 F hE hA m_states m_outLong m_low m_textLong m_place m_readLong m_now m_past m_refused m_ownCost m_guessAt m_treeCost m_isLeaf m_inTree m_out m_text m_read m_came m_byDepth m_byGuesser m_line m_noughts m_ones m_weights K k_ (0 : Int32) (0 : Int32) m_way m_own m_mixed _ _ _ hw hP hD hS (lv_sub hl [2, 1, 0] rfl)
theorem met_X5_guesses (l : Launch) (E : gE) (a : Nat → Nat) (sz : Nat) (m_states : Int32) (m_came : Int32) (m_byDepth : Int32) (m_byGuesser : Int32) (m_outLong : Int32) (m_low : Int64) (m_textLong : Int32) (m_place : Int32) (m_readLong : Int32) (m_now : Nat → Int32) (m_past : Nat → Int32) (m_refused : Nat → Int32) (m_line : Nat → Int32) (m_noughts : Nat → Int32) (m_ones : Nat → Int32) (m_weights : Nat → Int32) (m_ownCost : Nat → Int32) (m_way : Nat → Int32) (m_own : Nat → Int32) (m_mixed : Nat → Int32) (m_guessAt : Nat → Int32) (m_treeCost : Nat → Int32) (m_isLeaf : Nat → Int32) (m_inTree : Nat → Int32) (m_out : Nat → Int32) (m_text : Nat → Int32) (m_read : Nat → Int32)  {K : Int32 → (Nat → Int32) → (Nat → Int32) → (Nat → Int32) → Prop} (hw : wp_X5_guesses m_came m_byDepth m_byGuesser m_line m_noughts m_ones m_weights m_way m_own m_mixed K) : Met l yX5_guesses (ws_ yX5_guesses cX5_guesses 5 (some .int)) rm_X5_guesses (pr_ (nM E) E (wM E a m_states m_came m_byDepth m_byGuesser m_outLong m_low m_textLong m_place m_readLong m_now m_past m_refused m_line m_noughts m_ones m_weights m_ownCost m_way m_own m_mixed m_guessAt m_treeCost m_isLeaf m_inTree m_out m_text m_read) sz [.ref (a 0)]) (q_X5_guesses E a m_states m_outLong m_low m_textLong m_place m_readLong m_now m_past m_refused m_ownCost m_guessAt m_treeCost m_isLeaf m_inTree m_out m_text m_read m_came m_byDepth m_byGuesser m_line m_noughts m_ones m_weights K (va_A (wM E a m_states m_came m_byDepth m_byGuesser m_outLong m_low m_textLong m_place m_readLong m_now m_past m_refused m_line m_noughts m_ones m_weights m_ownCost m_way m_own m_mixed m_guessAt m_treeCost m_isLeaf m_inTree m_out m_text m_read) sz)) 0 0 (va_A (wM E a m_states m_came m_byDepth m_byGuesser m_outLong m_low m_textLong m_place m_readLong m_now m_past m_refused m_line m_noughts m_ones m_weights m_ownCost m_way m_own m_mixed m_guessAt m_treeCost m_isLeaf m_inTree m_out m_text m_read) sz) :=
  met_of (Qc := fun A => q_X5_guesses E a m_states m_outLong m_low m_textLong m_place m_readLong m_now m_past m_refused m_ownCost m_guessAt m_treeCost m_isLeaf m_inTree m_out m_text m_read m_came m_byDepth m_byGuesser m_line m_noughts m_ones m_weights K A) (by decide) (Nat.le_of_ble_eq_true rfl) (fun _ _ _ _ _ _ _ _ _ F hE hA hP hD hl => w_X5_guesses F hE hA m_states m_outLong m_low m_textLong m_place m_readLong m_now m_past m_refused m_ownCost m_guessAt m_treeCost m_isLeaf m_inTree m_out m_text m_read m_came m_byDepth m_byGuesser m_line m_noughts m_ones m_weights K m_way m_own m_mixed  hw hP hD va_S.rf hl)
theorem hd_X5_odds : yX5_odds.cls ≠ "java/lang/invoke/MethodHandle" ∧ yX5_odds.cls ≠ "java/lang/invoke/VarHandle" ∧ (parseMethodDescriptor yX5_odds.desc).map (fun d => d.parameters.length) = some 2 := by decide +kernel
theorem cw_X5_97 {R : Room} {s : State} {args : Array Value} (hts : ∀ w ∈ lw_all, w.before args s = true) (hR : rm_X5_odds.frames + 1 ≤ R.frames ∧ 8 + (2 + 11) + rm_X5_odds.locals ≤ R.locals) : CallB R s args RX5 97 yX5_odds cX5_odds 2 (some .int) (ws_ yX5_odds cX5_odds 2 (some .int)) rm_X5_odds 0 0 2 ∧ (Cond.static yX5_odds).before args s = true := va_cwS 2 hts (lw_S q849 q850 q72 q851) rfl rfl rfl hd_X5_odds hR
theorem hd_X5_bitsOf : yX5_bitsOf.cls ≠ "java/lang/invoke/MethodHandle" ∧ yX5_bitsOf.cls ≠ "java/lang/invoke/VarHandle" ∧ (parseMethodDescriptor yX5_bitsOf.desc).map (fun d => d.parameters.length) = some 1 := by decide +kernel
theorem cw_X5_105 {R : Room} {s : State} {args : Array Value} (hts : ∀ w ∈ lw_all, w.before args s = true) (hR : rm_X5_bitsOf.frames + 1 ≤ R.frames ∧ 8 + (4 + 11) + rm_X5_bitsOf.locals ≤ R.locals) : CallB R s args RX5 105 yX5_bitsOf cX5_bitsOf 4 (some .int) (ws_ yX5_bitsOf cX5_bitsOf 4 (some .int)) rm_X5_bitsOf 0 0 1 ∧ (Cond.static yX5_bitsOf).before args s = true := va_cwS 1 hts (lw_S q853 q854 q72 q855) rfl rfl rfl hd_X5_bitsOf hR
-- TreeOddsModel.comes (I)V
abbrev rm_X5_comes : Room := { frames := 1, cells := 0, slots := 0, locals := 23 }
abbrev q_X5_comes (E : gE) (a : Nat → Nat) (m_states : Int32) (m_byGuesser : Int32) (m_outLong : Int32) (m_low : Int64) (m_textLong : Int32) (m_place : Int32) (m_readLong : Int32) (m_now : Nat → Int32) (m_past : Nat → Int32) (m_refused : Nat → Int32) (m_treeCost : Nat → Int32) (m_isLeaf : Nat → Int32) (m_inTree : Nat → Int32) (m_out : Nat → Int32) (m_text : Nat → Int32) (m_read : Nat → Int32) (m_byDepth : Int32) (m_way : Nat → Int32) (m_own : Nat → Int32) (m_mixed : Nat → Int32) (K : Int32 → (Nat → Int32) → (Nat → Int32) → (Nat → Int32) → (Nat → Int32) → (Nat → Int32) → (Nat → Int32) → Prop) (A : Nat → Prop) : Array Value → State → Outcome → State → Prop := va_Qv (fun (u : Int32 × (Nat → Int32) × (Nat → Int32) × (Nat → Int32) × (Nat → Int32) × (Nat → Int32) × (Nat → Int32)) => K u.1 u.2.1 u.2.2.1 u.2.2.2.1 u.2.2.2.2.1 u.2.2.2.2.2.1 u.2.2.2.2.2.2) (po_ E A (fun (u : Int32 × (Nat → Int32) × (Nat → Int32) × (Nat → Int32) × (Nat → Int32) × (Nat → Int32) × (Nat → Int32)) => wM E a m_states u.1 m_byDepth m_byGuesser m_outLong m_low m_textLong m_place m_readLong m_now m_past m_refused u.2.1 u.2.2.1 u.2.2.2.1 u.2.2.2.2.1 u.2.2.2.2.2.1 m_way m_own m_mixed u.2.2.2.2.2.2 m_treeCost m_isLeaf m_inTree m_out m_text m_read)) A
abbrev g_X5_comes (p : Program) (l : Launch) (e : Env) (s : State) (m : MethodId) (args : Array Value) (below : List Frame) (meth : Method) (c : Code) (E : gE) (a : Nat → Nat) (A : Nat → Prop) (m_states : Int32) (m_byGuesser : Int32) (m_outLong : Int32) (m_low : Int64) (m_textLong : Int32) (m_place : Int32) (m_readLong : Int32) (m_now : Nat → Int32) (m_past : Nat → Int32) (m_refused : Nat → Int32) (m_treeCost : Nat → Int32) (m_isLeaf : Nat → Int32) (m_inTree : Nat → Int32) (m_out : Nat → Int32) (m_text : Nat → Int32) (m_read : Nat → Int32) (m_byDepth : Int32) (m_way : Nat → Int32) (m_own : Nat → Int32) (m_mixed : Nat → Int32) (K : Int32 → (Nat → Int32) → (Nat → Int32) → (Nat → Int32) → (Nat → Int32) → (Nat → Int32) → (Nat → Int32) → Prop) (H : Heap) (locs : List Loc) (pc : Nat) (ls : Array Slot) (st : List Value) : Prop := W p l e rm_X5_comes s m args below meth c H locs 0 0 (MQ below (q_X5_comes E a m_states m_byGuesser m_outLong m_low m_textLong m_place m_readLong m_now m_past m_refused m_treeCost m_isLeaf m_inTree m_out m_text m_read m_byDepth m_way m_own m_mixed K A) args s 0 0 A) (F0 m pc ls st)
def wp_X5_comes_L232 (m_byDepth : Int32) (m_way : Nat → Int32) (m_own : Nat → Int32) (m_mixed : Nat → Int32) (K : Int32 → (Nat → Int32) → (Nat → Int32) → (Nat → Int32) → (Nat → Int32) → (Nat → Int32) → (Nat → Int32) → Prop)  (x1 : Int32) (m_came : Int32) (m_line : Nat → Int32) (m_noughts : Nat → Int32) (m_ones : Nat → Int32) (m_weights : Nat → Int32) (m_ownCost : Nat → Int32) (m_guessAt : Nat → Int32) : Prop :=
  vp_in (0 : Int32) 7 ∧
  (vp_in m_came 128 ∧
  (vp_in m_came 128 ∧
  (K (m_came + (1 : Int32)) (upd m_line m_came.toNatClampNeg x1) m_noughts m_ones m_weights m_ownCost (upd m_guessAt m_came.toNatClampNeg (m_mixed (0 : Int32).toNatClampNeg)))))
set_option maxHeartbeats 4000000 in
set_option maxRecDepth 100000 in
theorem w_X5_comes_L232 {p : Program} {l : Launch} {e : Env} {s : State} {m : MethodId} {args : Array Value} {below : List Frame} {meth : Method} {c : Code} {E : gE} {a : Nat → Nat} {A : Nat → Prop} (F : fx_ p s m args meth c RX5 cX5_comes 11 (none)) (hE : nM E A s) (hA : ∀ q, s.heap.size ≤ q → A q) (m_states : Int32) (m_byGuesser : Int32) (m_outLong : Int32) (m_low : Int64) (m_textLong : Int32) (m_place : Int32) (m_readLong : Int32) (m_now : Nat → Int32) (m_past : Nat → Int32) (m_refused : Nat → Int32) (m_treeCost : Nat → Int32) (m_isLeaf : Nat → Int32) (m_inTree : Nat → Int32) (m_out : Nat → Int32) (m_text : Nat → Int32) (m_read : Nat → Int32) (m_byDepth : Int32) (m_way : Nat → Int32) (m_own : Nat → Int32) (m_mixed : Nat → Int32) (K : Int32 → (Nat → Int32) → (Nat → Int32) → (Nat → Int32) → (Nat → Int32) → (Nat → Int32) → (Nat → Int32) → Prop)  : ∀ (x1 : Int32) (m_came : Int32) (m_line : Nat → Int32) (m_noughts : Nat → Int32) (m_ones : Nat → Int32) (m_weights : Nat → Int32) (m_ownCost : Nat → Int32) (m_guessAt : Nat → Int32) (H : Heap) (locs : List Loc) (ls : Array Slot), wp_X5_comes_L232 m_byDepth m_way m_own m_mixed K x1 m_came m_line m_noughts m_ones m_weights m_ownCost m_guessAt → va_P E.1 vwCl (wM E a m_states m_came m_byDepth m_byGuesser m_outLong m_low m_textLong m_place m_readLong m_now m_past m_refused m_line m_noughts m_ones m_weights m_ownCost m_way m_own m_mixed m_guessAt m_treeCost m_isLeaf m_inTree m_out m_text m_read) H → va_D A (wM E a m_states m_came m_byDepth m_byGuesser m_outLong m_low m_textLong m_place m_readLong m_now m_past m_refused m_line m_noughts m_ones m_weights m_ownCost m_way m_own m_mixed m_guessAt m_treeCost m_isLeaf m_inTree m_out m_text m_read) → va_S A s.heap H locs → lv_has ls 11 [(0, .ref (a 0)), (1, .int x1)] → g_X5_comes p l e s m args below meth c E a A m_states m_byGuesser m_outLong m_low m_textLong m_place m_readLong m_now m_past m_refused m_treeCost m_isLeaf m_inTree m_out m_text m_read m_byDepth m_way m_own m_mixed K H locs 232 ls [] := by
  obtain ⟨hx, hb, hr, hlk, hml, hown, hts⟩ := id F
  have hK : va_K E.1 vwCl (tyL E) s := hE
  intro x1 m_came m_line m_noughts m_ones m_weights m_ownCost m_guessAt H locs ls hw hP hD hS hl
  unfold wp_X5_comes_L232 at hw
  refine lv_aload_n hx hb dX5_comes_232 rfl (lv_at hl 0 rfl) ?_
  refine va_get (D := E.1) (ci := 5) (v := .ref (a 12)) (C := RX5) (T := TX5) (N := 27) hx hb hts in_X5 hown hK hP 0 rfl rfl 15 (by decide) (hts _ q713) (fun _ h9 => h9) rfl dX5_comes_233 ?_
  refine lv_aload_n hx hb dX5_comes_236 rfl (lv_at hl 0 rfl) ?_
  refine va_get (D := E.1) (ci := 5) (v := .int m_came) (C := RX5) (T := TX5) (N := 27) hx hb hts in_X5 hown hK hP 0 rfl rfl 5 (by decide) (hts _ q703) (fun _ h9 => h9) rfl dX5_comes_237 ?_
  refine lv_aload_n hx hb dX5_comes_240 rfl (lv_at hl 0 rfl) ?_
  refine va_get (D := E.1) (ci := 5) (v := .ref (a 11)) (C := RX5) (T := TX5) (N := 27) hx hb hts in_X5 hown hK hP 0 rfl rfl 14 (by decide) (hts _ q712) (fun _ h9 => h9) rfl dX5_comes_241 ?_
  refine lv_iconst (v := 0) hx hb dX5_comes_244 (by decide) ?_
  obtain ⟨hi_, hw⟩ := hw
  refine va_iald hx hb hK hP 11 0 rfl rfl hi_ dX5_comes_245 ?_
  obtain ⟨hi_, hw⟩ := hw
  refine va_iast hx hb hK hP hD hS 12 0 rfl rfl hi_ dX5_comes_246 (fun H locs hP hD hS => ?_)
  have hP : va_P E.1 vwCl (wM E a m_states m_came m_byDepth m_byGuesser m_outLong m_low m_textLong m_place m_readLong m_now m_past m_refused m_line m_noughts m_ones m_weights m_ownCost m_way m_own m_mixed (upd m_guessAt m_came.toNatClampNeg (m_mixed (0 : Int32).toNatClampNeg)) m_treeCost m_isLeaf m_inTree m_out m_text m_read) H := hP
  have hD : va_D A (wM E a m_states m_came m_byDepth m_byGuesser m_outLong m_low m_textLong m_place m_readLong m_now m_past m_refused m_line m_noughts m_ones m_weights m_ownCost m_way m_own m_mixed (upd m_guessAt m_came.toNatClampNeg (m_mixed (0 : Int32).toNatClampNeg)) m_treeCost m_isLeaf m_inTree m_out m_text m_read) := hD
  refine lv_aload_n hx hb dX5_comes_247 rfl (lv_at hl 0 rfl) ?_
  refine va_get (D := E.1) (ci := 5) (v := .ref (a 4)) (C := RX5) (T := TX5) (N := 27) hx hb hts in_X5 hown hK hP 0 rfl rfl 4 (by decide) (hts _ q702) (fun _ h9 => h9) rfl dX5_comes_248 ?_
  refine lv_aload_n hx hb dX5_comes_251 rfl (lv_at hl 0 rfl) ?_
  refine va_get (D := E.1) (ci := 5) (v := .int m_came) (C := RX5) (T := TX5) (N := 27) hx hb hts in_X5 hown hK hP 0 rfl rfl 5 (by decide) (hts _ q703) (fun _ h9 => h9) rfl dX5_comes_252 ?_
  refine lv_iload_n hx hb dX5_comes_255 rfl (lv_at hl 1 rfl) ?_
  obtain ⟨hi_, hw⟩ := hw
  refine va_iast hx hb hK hP hD hS 4 0 rfl rfl hi_ dX5_comes_256 (fun H locs hP hD hS => ?_)
  have hP : va_P E.1 vwCl (wM E a m_states m_came m_byDepth m_byGuesser m_outLong m_low m_textLong m_place m_readLong m_now m_past m_refused (upd m_line m_came.toNatClampNeg x1) m_noughts m_ones m_weights m_ownCost m_way m_own m_mixed (upd m_guessAt m_came.toNatClampNeg (m_mixed (0 : Int32).toNatClampNeg)) m_treeCost m_isLeaf m_inTree m_out m_text m_read) H := hP
  have hD : va_D A (wM E a m_states m_came m_byDepth m_byGuesser m_outLong m_low m_textLong m_place m_readLong m_now m_past m_refused (upd m_line m_came.toNatClampNeg x1) m_noughts m_ones m_weights m_ownCost m_way m_own m_mixed (upd m_guessAt m_came.toNatClampNeg (m_mixed (0 : Int32).toNatClampNeg)) m_treeCost m_isLeaf m_inTree m_out m_text m_read) := hD
  refine lv_aload_n hx hb dX5_comes_257 rfl (lv_at hl 0 rfl) ?_
  refine lv_dup hx hb dX5_comes_258 rfl ?_
  refine va_get (D := E.1) (ci := 5) (v := .int m_came) (C := RX5) (T := TX5) (N := 27) hx hb hts in_X5 hown hK hP 0 rfl rfl 5 (by decide) (hts _ q703) (fun _ h9 => h9) rfl dX5_comes_259 ?_
  refine lv_iconst (v := 1) hx hb dX5_comes_262 (by decide) ?_
  refine lv_iadd hx hb dX5_comes_263 ?_
  refine va_put (D := E.1) (ci := 5) (v := .int (m_came + (1 : Int32))) (ty := .int) (C := RX5) (T := TX5) (N := 27) hx hb hts in_X5 tyX5 tyX5_ok nmX5 hown hK hP hD hS 0 rfl rfl 5 (by decide) (hts _ q703) (fun _ h9 => h9) rfl (tyX5_ok 5 (by decide)) rfl rfl (Nat.le_of_ble_eq_true rfl) dX5_comes_264 (fun H locs hP hD hS => ?_)
  have hP : va_P E.1 vwCl (wM E a m_states (m_came + (1 : Int32)) m_byDepth m_byGuesser m_outLong m_low m_textLong m_place m_readLong m_now m_past m_refused (upd m_line m_came.toNatClampNeg x1) m_noughts m_ones m_weights m_ownCost m_way m_own m_mixed (upd m_guessAt m_came.toNatClampNeg (m_mixed (0 : Int32).toNatClampNeg)) m_treeCost m_isLeaf m_inTree m_out m_text m_read) H := hP
  have hD : va_D A (wM E a m_states (m_came + (1 : Int32)) m_byDepth m_byGuesser m_outLong m_low m_textLong m_place m_readLong m_now m_past m_refused (upd m_line m_came.toNatClampNeg x1) m_noughts m_ones m_weights m_ownCost m_way m_own m_mixed (upd m_guessAt m_came.toNatClampNeg (m_mixed (0 : Int32).toNatClampNeg)) m_treeCost m_isLeaf m_inTree m_out m_text m_read) := hD
  exact W.vret hx hb hr (fun t ht hW => ⟨⟨(m_came + (1 : Int32), upd m_line m_came.toNatClampNeg x1, m_noughts, m_ones, m_weights, m_ownCost, upd m_guessAt m_came.toNatClampNeg (m_mixed (0 : Int32).toNatClampNeg)), rfl, hw, by rw [ht]; exact hP, hD⟩, hS.F ht⟩) hS.2.2 dX5_comes_267 hlk
def wp_X5_comes_L226 (m_byDepth : Int32) (m_way : Nat → Int32) (m_own : Nat → Int32) (m_mixed : Nat → Int32) (K : Int32 → (Nat → Int32) → (Nat → Int32) → (Nat → Int32) → (Nat → Int32) → (Nat → Int32) → (Nat → Int32) → Prop) (J125 : Int32 → Int32 → Int32 → (Nat → Int32) → (Nat → Int32) → (Nat → Int32) → (Nat → Int32) → (Nat → Int32) → (Nat → Int32) → Prop) (x1 : Int32) (x2 : Int32) (m_came : Int32) (m_line : Nat → Int32) (m_noughts : Nat → Int32) (m_ones : Nat → Int32) (m_weights : Nat → Int32) (m_ownCost : Nat → Int32) (m_guessAt : Nat → Int32) : Prop :=
  J125 x1 (x2 + (1 : Int32)) m_came m_line m_noughts m_ones m_weights m_ownCost m_guessAt
set_option maxHeartbeats 4000000 in
set_option maxRecDepth 100000 in
theorem w_X5_comes_L226 {p : Program} {l : Launch} {e : Env} {s : State} {m : MethodId} {args : Array Value} {below : List Frame} {meth : Method} {c : Code} {E : gE} {a : Nat → Nat} {A : Nat → Prop} (F : fx_ p s m args meth c RX5 cX5_comes 11 (none)) (hE : nM E A s) (hA : ∀ q, s.heap.size ≤ q → A q) (m_states : Int32) (m_byGuesser : Int32) (m_outLong : Int32) (m_low : Int64) (m_textLong : Int32) (m_place : Int32) (m_readLong : Int32) (m_now : Nat → Int32) (m_past : Nat → Int32) (m_refused : Nat → Int32) (m_treeCost : Nat → Int32) (m_isLeaf : Nat → Int32) (m_inTree : Nat → Int32) (m_out : Nat → Int32) (m_text : Nat → Int32) (m_read : Nat → Int32) (m_byDepth : Int32) (m_way : Nat → Int32) (m_own : Nat → Int32) (m_mixed : Nat → Int32) (K : Int32 → (Nat → Int32) → (Nat → Int32) → (Nat → Int32) → (Nat → Int32) → (Nat → Int32) → (Nat → Int32) → Prop) (J125 : Int32 → Int32 → Int32 → (Nat → Int32) → (Nat → Int32) → (Nat → Int32) → (Nat → Int32) → (Nat → Int32) → (Nat → Int32) → Prop) (hJ125 : ∀ (x1 : Int32) (x2 : Int32) (m_came : Int32) (m_line : Nat → Int32) (m_noughts : Nat → Int32) (m_ones : Nat → Int32) (m_weights : Nat → Int32) (m_ownCost : Nat → Int32) (m_guessAt : Nat → Int32) (H : Heap) (locs : List Loc) (ls : Array Slot), J125 x1 x2 m_came m_line m_noughts m_ones m_weights m_ownCost m_guessAt → va_P E.1 vwCl (wM E a m_states m_came m_byDepth m_byGuesser m_outLong m_low m_textLong m_place m_readLong m_now m_past m_refused m_line m_noughts m_ones m_weights m_ownCost m_way m_own m_mixed m_guessAt m_treeCost m_isLeaf m_inTree m_out m_text m_read) H → va_D A (wM E a m_states m_came m_byDepth m_byGuesser m_outLong m_low m_textLong m_place m_readLong m_now m_past m_refused m_line m_noughts m_ones m_weights m_ownCost m_way m_own m_mixed m_guessAt m_treeCost m_isLeaf m_inTree m_out m_text m_read) → va_S A s.heap H locs → lv_has ls 11 [(0, .ref (a 0)), (1, .int x1), (2, .int x2)] → g_X5_comes p l e s m args below meth c E a A m_states m_byGuesser m_outLong m_low m_textLong m_place m_readLong m_now m_past m_refused m_treeCost m_isLeaf m_inTree m_out m_text m_read m_byDepth m_way m_own m_mixed K H locs 125 ls []) : ∀ (x1 : Int32) (x2 : Int32) (m_came : Int32) (m_line : Nat → Int32) (m_noughts : Nat → Int32) (m_ones : Nat → Int32) (m_weights : Nat → Int32) (m_ownCost : Nat → Int32) (m_guessAt : Nat → Int32) (H : Heap) (locs : List Loc) (ls : Array Slot), wp_X5_comes_L226 m_byDepth m_way m_own m_mixed K J125 x1 x2 m_came m_line m_noughts m_ones m_weights m_ownCost m_guessAt → va_P E.1 vwCl (wM E a m_states m_came m_byDepth m_byGuesser m_outLong m_low m_textLong m_place m_readLong m_now m_past m_refused m_line m_noughts m_ones m_weights m_ownCost m_way m_own m_mixed m_guessAt m_treeCost m_isLeaf m_inTree m_out m_text m_read) H → va_D A (wM E a m_states m_came m_byDepth m_byGuesser m_outLong m_low m_textLong m_place m_readLong m_now m_past m_refused m_line m_noughts m_ones m_weights m_ownCost m_way m_own m_mixed m_guessAt m_treeCost m_isLeaf m_inTree m_out m_text m_read) → va_S A s.heap H locs → lv_has ls 11 [(0, .ref (a 0)), (1, .int x1), (2, .int x2)] → g_X5_comes p l e s m args below meth c E a A m_states m_byGuesser m_outLong m_low m_textLong m_place m_readLong m_now m_past m_refused m_treeCost m_isLeaf m_inTree m_out m_text m_read m_byDepth m_way m_own m_mixed K H locs 226 ls [] := by
  obtain ⟨hx, hb, hr, hlk, hml, hown, hts⟩ := id F
  have hK : va_K E.1 vwCl (tyL E) s := hE
  intro x1 x2 m_came m_line m_noughts m_ones m_weights m_ownCost m_guessAt H locs ls hw hP hD hS hl
  unfold wp_X5_comes_L226 at hw
  refine lv_iinc (v := x2 + (1 : Int32)) (lv' := [(2, .int (x2 + (1 : Int32))), (0, .ref (a 0)), (1, .int x1)]) hx hb dX5_comes_226 hl (k := 2) rfl (by rfl) (by decide) rfl (fun ls hl => ?_)
  refine lv_goto (tgt := 125) hx hb dX5_comes_229 (by decide) ?_
  exact hJ125 x1 (x2 + (1 : Int32)) m_came m_line m_noughts m_ones m_weights m_ownCost m_guessAt _ _ _ hw hP hD hS (lv_sub hl [1, 2, 0] rfl)
def wp_X5_comes_L206 (m_byDepth : Int32) (m_way : Nat → Int32) (m_own : Nat → Int32) (m_mixed : Nat → Int32) (K : Int32 → (Nat → Int32) → (Nat → Int32) → (Nat → Int32) → (Nat → Int32) → (Nat → Int32) → (Nat → Int32) → Prop) (J125 : Int32 → Int32 → Int32 → (Nat → Int32) → (Nat → Int32) → (Nat → Int32) → (Nat → Int32) → (Nat → Int32) → (Nat → Int32) → Prop) (x1 : Int32) (x2 : Int32) (x3 : Int32) (m_came : Int32) (m_line : Nat → Int32) (m_noughts : Nat → Int32) (m_ones : Nat → Int32) (m_weights : Nat → Int32) (m_ownCost : Nat → Int32) (m_guessAt : Nat → Int32) : Prop :=
  vp_in x3 127 ∧
  (vp_in x3 127 ∧
  (vp_in x3 127 ∧
  (vp_in x3 127 ∧
  (wp_X5_comes_L226 m_byDepth m_way m_own m_mixed K J125 x1 x2 m_came m_line (upd m_noughts x3.toNatClampNeg ((m_noughts x3.toNatClampNeg) / (2 : Int32))) (upd m_ones x3.toNatClampNeg ((m_ones x3.toNatClampNeg) / (2 : Int32))) m_weights m_ownCost m_guessAt))))
set_option maxHeartbeats 4000000 in
set_option maxRecDepth 100000 in
theorem w_X5_comes_L206 {p : Program} {l : Launch} {e : Env} {s : State} {m : MethodId} {args : Array Value} {below : List Frame} {meth : Method} {c : Code} {E : gE} {a : Nat → Nat} {A : Nat → Prop} (F : fx_ p s m args meth c RX5 cX5_comes 11 (none)) (hE : nM E A s) (hA : ∀ q, s.heap.size ≤ q → A q) (m_states : Int32) (m_byGuesser : Int32) (m_outLong : Int32) (m_low : Int64) (m_textLong : Int32) (m_place : Int32) (m_readLong : Int32) (m_now : Nat → Int32) (m_past : Nat → Int32) (m_refused : Nat → Int32) (m_treeCost : Nat → Int32) (m_isLeaf : Nat → Int32) (m_inTree : Nat → Int32) (m_out : Nat → Int32) (m_text : Nat → Int32) (m_read : Nat → Int32) (m_byDepth : Int32) (m_way : Nat → Int32) (m_own : Nat → Int32) (m_mixed : Nat → Int32) (K : Int32 → (Nat → Int32) → (Nat → Int32) → (Nat → Int32) → (Nat → Int32) → (Nat → Int32) → (Nat → Int32) → Prop) (J125 : Int32 → Int32 → Int32 → (Nat → Int32) → (Nat → Int32) → (Nat → Int32) → (Nat → Int32) → (Nat → Int32) → (Nat → Int32) → Prop) (hJ125 : ∀ (x1 : Int32) (x2 : Int32) (m_came : Int32) (m_line : Nat → Int32) (m_noughts : Nat → Int32) (m_ones : Nat → Int32) (m_weights : Nat → Int32) (m_ownCost : Nat → Int32) (m_guessAt : Nat → Int32) (H : Heap) (locs : List Loc) (ls : Array Slot), J125 x1 x2 m_came m_line m_noughts m_ones m_weights m_ownCost m_guessAt → va_P E.1 vwCl (wM E a m_states m_came m_byDepth m_byGuesser m_outLong m_low m_textLong m_place m_readLong m_now m_past m_refused m_line m_noughts m_ones m_weights m_ownCost m_way m_own m_mixed m_guessAt m_treeCost m_isLeaf m_inTree m_out m_text m_read) H → va_D A (wM E a m_states m_came m_byDepth m_byGuesser m_outLong m_low m_textLong m_place m_readLong m_now m_past m_refused m_line m_noughts m_ones m_weights m_ownCost m_way m_own m_mixed m_guessAt m_treeCost m_isLeaf m_inTree m_out m_text m_read) → va_S A s.heap H locs → lv_has ls 11 [(0, .ref (a 0)), (1, .int x1), (2, .int x2)] → g_X5_comes p l e s m args below meth c E a A m_states m_byGuesser m_outLong m_low m_textLong m_place m_readLong m_now m_past m_refused m_treeCost m_isLeaf m_inTree m_out m_text m_read m_byDepth m_way m_own m_mixed K H locs 125 ls []) : ∀ (x1 : Int32) (x2 : Int32) (x3 : Int32) (m_came : Int32) (m_line : Nat → Int32) (m_noughts : Nat → Int32) (m_ones : Nat → Int32) (m_weights : Nat → Int32) (m_ownCost : Nat → Int32) (m_guessAt : Nat → Int32) (H : Heap) (locs : List Loc) (ls : Array Slot), wp_X5_comes_L206 m_byDepth m_way m_own m_mixed K J125 x1 x2 x3 m_came m_line m_noughts m_ones m_weights m_ownCost m_guessAt → va_P E.1 vwCl (wM E a m_states m_came m_byDepth m_byGuesser m_outLong m_low m_textLong m_place m_readLong m_now m_past m_refused m_line m_noughts m_ones m_weights m_ownCost m_way m_own m_mixed m_guessAt m_treeCost m_isLeaf m_inTree m_out m_text m_read) H → va_D A (wM E a m_states m_came m_byDepth m_byGuesser m_outLong m_low m_textLong m_place m_readLong m_now m_past m_refused m_line m_noughts m_ones m_weights m_ownCost m_way m_own m_mixed m_guessAt m_treeCost m_isLeaf m_inTree m_out m_text m_read) → va_S A s.heap H locs → lv_has ls 11 [(0, .ref (a 0)), (1, .int x1), (2, .int x2), (3, .int x3)] → g_X5_comes p l e s m args below meth c E a A m_states m_byGuesser m_outLong m_low m_textLong m_place m_readLong m_now m_past m_refused m_treeCost m_isLeaf m_inTree m_out m_text m_read m_byDepth m_way m_own m_mixed K H locs 206 ls [] := by
  obtain ⟨hx, hb, hr, hlk, hml, hown, hts⟩ := id F
  have hK : va_K E.1 vwCl (tyL E) s := hE
  intro x1 x2 x3 m_came m_line m_noughts m_ones m_weights m_ownCost m_guessAt H locs ls hw hP hD hS hl
  unfold wp_X5_comes_L206 at hw
  refine lv_aload_n hx hb dX5_comes_206 rfl (lv_at hl 0 rfl) ?_
  refine va_get (D := E.1) (ci := 5) (v := .ref (a 5)) (C := RX5) (T := TX5) (N := 27) hx hb hts in_X5 hown hK hP 0 rfl rfl 8 (by decide) (hts _ q706) (fun _ h9 => h9) rfl dX5_comes_207 ?_
  refine lv_iload_n hx hb dX5_comes_210 rfl (lv_at hl 3 rfl) ?_
  refine lv_dup2_11 hx hb dX5_comes_211 rfl rfl ?_
  obtain ⟨hi_, hw⟩ := hw
  refine va_iald hx hb hK hP 5 0 rfl rfl hi_ dX5_comes_212 ?_
  refine lv_iconst (v := 2) hx hb dX5_comes_213 (by decide) ?_
  refine lv_idiv hx hb dX5_comes_214 (by decide) ?_
  obtain ⟨hi_, hw⟩ := hw
  refine va_iast hx hb hK hP hD hS 5 0 rfl rfl hi_ dX5_comes_215 (fun H locs hP hD hS => ?_)
  have hP : va_P E.1 vwCl (wM E a m_states m_came m_byDepth m_byGuesser m_outLong m_low m_textLong m_place m_readLong m_now m_past m_refused m_line (upd m_noughts x3.toNatClampNeg ((m_noughts x3.toNatClampNeg) / (2 : Int32))) m_ones m_weights m_ownCost m_way m_own m_mixed m_guessAt m_treeCost m_isLeaf m_inTree m_out m_text m_read) H := hP
  have hD : va_D A (wM E a m_states m_came m_byDepth m_byGuesser m_outLong m_low m_textLong m_place m_readLong m_now m_past m_refused m_line (upd m_noughts x3.toNatClampNeg ((m_noughts x3.toNatClampNeg) / (2 : Int32))) m_ones m_weights m_ownCost m_way m_own m_mixed m_guessAt m_treeCost m_isLeaf m_inTree m_out m_text m_read) := hD
  refine lv_aload_n hx hb dX5_comes_216 rfl (lv_at hl 0 rfl) ?_
  refine va_get (D := E.1) (ci := 5) (v := .ref (a 6)) (C := RX5) (T := TX5) (N := 27) hx hb hts in_X5 hown hK hP 0 rfl rfl 9 (by decide) (hts _ q707) (fun _ h9 => h9) rfl dX5_comes_217 ?_
  refine lv_iload_n hx hb dX5_comes_220 rfl (lv_at hl 3 rfl) ?_
  refine lv_dup2_11 hx hb dX5_comes_221 rfl rfl ?_
  obtain ⟨hi_, hw⟩ := hw
  refine va_iald hx hb hK hP 6 0 rfl rfl hi_ dX5_comes_222 ?_
  refine lv_iconst (v := 2) hx hb dX5_comes_223 (by decide) ?_
  refine lv_idiv hx hb dX5_comes_224 (by decide) ?_
  obtain ⟨hi_, hw⟩ := hw
  refine va_iast hx hb hK hP hD hS 6 0 rfl rfl hi_ dX5_comes_225 (fun H locs hP hD hS => ?_)
  have hP : va_P E.1 vwCl (wM E a m_states m_came m_byDepth m_byGuesser m_outLong m_low m_textLong m_place m_readLong m_now m_past m_refused m_line (upd m_noughts x3.toNatClampNeg ((m_noughts x3.toNatClampNeg) / (2 : Int32))) (upd m_ones x3.toNatClampNeg ((m_ones x3.toNatClampNeg) / (2 : Int32))) m_weights m_ownCost m_way m_own m_mixed m_guessAt m_treeCost m_isLeaf m_inTree m_out m_text m_read) H := hP
  have hD : va_D A (wM E a m_states m_came m_byDepth m_byGuesser m_outLong m_low m_textLong m_place m_readLong m_now m_past m_refused m_line (upd m_noughts x3.toNatClampNeg ((m_noughts x3.toNatClampNeg) / (2 : Int32))) (upd m_ones x3.toNatClampNeg ((m_ones x3.toNatClampNeg) / (2 : Int32))) m_weights m_ownCost m_way m_own m_mixed m_guessAt m_treeCost m_isLeaf m_inTree m_out m_text m_read) := hD
  exact w_X5_comes_L226 F hE hA m_states m_byGuesser m_outLong m_low m_textLong m_place m_readLong m_now m_past m_refused m_treeCost m_isLeaf m_inTree m_out m_text m_read m_byDepth m_way m_own m_mixed K J125 hJ125 x1 x2 m_came m_line (upd m_noughts x3.toNatClampNeg ((m_noughts x3.toNatClampNeg) / (2 : Int32))) (upd m_ones x3.toNatClampNeg ((m_ones x3.toNatClampNeg) / (2 : Int32))) m_weights m_ownCost m_guessAt _ _ _ hw hP hD hS (lv_sub hl [0, 1, 2] rfl)
def wp_X5_comes_L125 (m_byDepth : Int32) (m_way : Nat → Int32) (m_own : Nat → Int32) (m_mixed : Nat → Int32) (K : Int32 → (Nat → Int32) → (Nat → Int32) → (Nat → Int32) → (Nat → Int32) → (Nat → Int32) → (Nat → Int32) → Prop)  : Nat → Int32 → Int32 → Int32 → (Nat → Int32) → (Nat → Int32) → (Nat → Int32) → (Nat → Int32) → (Nat → Int32) → (Nat → Int32) → Prop
  | 0 => fun _ _ _ _ _ _ _ _ _ => False
  | n_ + 1 => fun x1 x2 m_came m_line m_noughts m_ones m_weights m_ownCost m_guessAt =>
  (m_byDepth < x2 → wp_X5_comes_L232 m_byDepth m_way m_own m_mixed K x1 m_came m_line m_noughts m_ones m_weights m_ownCost m_guessAt) ∧
  (¬ m_byDepth < x2 → vp_in x2 7 ∧
  (∀ v139 : Int32, v139 = m_way x2.toNatClampNeg →
  vp_in v139 127 ∧
  (vp_in x2 7 ∧
  (wp_X5_odds (m_own x2.toNatClampNeg) x1 (fun r154 =>
  wp_X5_bitsOf r154 (fun r157 =>
  vp_in v139 127 ∧
  (vp_in v139 127 ∧
  (vp_in v139 127 ∧
  (vp_in v139 127 ∧
  (vp_in v139 127 ∧
  (vp_in v139 127 ∧
  (((60 : Int32) < ((upd m_noughts v139.toNatClampNeg ((m_noughts v139.toNatClampNeg) + ((1 : Int32) - x1))) v139.toNatClampNeg) → wp_X5_comes_L206 m_byDepth m_way m_own m_mixed K (wp_X5_comes_L125 m_byDepth m_way m_own m_mixed K n_) x1 x2 v139 m_came m_line (upd m_noughts v139.toNatClampNeg ((m_noughts v139.toNatClampNeg) + ((1 : Int32) - x1))) (upd m_ones v139.toNatClampNeg ((m_ones v139.toNatClampNeg) + x1)) m_weights (upd m_ownCost v139.toNatClampNeg ((m_ownCost v139.toNatClampNeg) + r157)) m_guessAt) ∧
  (¬ (60 : Int32) < ((upd m_noughts v139.toNatClampNeg ((m_noughts v139.toNatClampNeg) + ((1 : Int32) - x1))) v139.toNatClampNeg) → vp_in v139 127 ∧
  ((((upd m_ones v139.toNatClampNeg ((m_ones v139.toNatClampNeg) + x1)) v139.toNatClampNeg) ≤ (60 : Int32) → wp_X5_comes_L226 m_byDepth m_way m_own m_mixed K (wp_X5_comes_L125 m_byDepth m_way m_own m_mixed K n_) x1 x2 m_came m_line (upd m_noughts v139.toNatClampNeg ((m_noughts v139.toNatClampNeg) + ((1 : Int32) - x1))) (upd m_ones v139.toNatClampNeg ((m_ones v139.toNatClampNeg) + x1)) m_weights (upd m_ownCost v139.toNatClampNeg ((m_ownCost v139.toNatClampNeg) + r157)) m_guessAt) ∧
  (¬ ((upd m_ones v139.toNatClampNeg ((m_ones v139.toNatClampNeg) + x1)) v139.toNatClampNeg) ≤ (60 : Int32) → wp_X5_comes_L206 m_byDepth m_way m_own m_mixed K (wp_X5_comes_L125 m_byDepth m_way m_own m_mixed K n_) x1 x2 v139 m_came m_line (upd m_noughts v139.toNatClampNeg ((m_noughts v139.toNatClampNeg) + ((1 : Int32) - x1))) (upd m_ones v139.toNatClampNeg ((m_ones v139.toNatClampNeg) + x1)) m_weights (upd m_ownCost v139.toNatClampNeg ((m_ownCost v139.toNatClampNeg) + r157)) m_guessAt)))))))))))))))
set_option maxHeartbeats 4000000 in
set_option maxRecDepth 100000 in
theorem w_X5_comes_L125 {p : Program} {l : Launch} {e : Env} {s : State} {m : MethodId} {args : Array Value} {below : List Frame} {meth : Method} {c : Code} {E : gE} {a : Nat → Nat} {A : Nat → Prop} (F : fx_ p s m args meth c RX5 cX5_comes 11 (none)) (hE : nM E A s) (hA : ∀ q, s.heap.size ≤ q → A q) (m_states : Int32) (m_byGuesser : Int32) (m_outLong : Int32) (m_low : Int64) (m_textLong : Int32) (m_place : Int32) (m_readLong : Int32) (m_now : Nat → Int32) (m_past : Nat → Int32) (m_refused : Nat → Int32) (m_treeCost : Nat → Int32) (m_isLeaf : Nat → Int32) (m_inTree : Nat → Int32) (m_out : Nat → Int32) (m_text : Nat → Int32) (m_read : Nat → Int32) (m_byDepth : Int32) (m_way : Nat → Int32) (m_own : Nat → Int32) (m_mixed : Nat → Int32) (K : Int32 → (Nat → Int32) → (Nat → Int32) → (Nat → Int32) → (Nat → Int32) → (Nat → Int32) → (Nat → Int32) → Prop)  : ∀ (n_ : Nat) (x1 : Int32) (x2 : Int32) (m_came : Int32) (m_line : Nat → Int32) (m_noughts : Nat → Int32) (m_ones : Nat → Int32) (m_weights : Nat → Int32) (m_ownCost : Nat → Int32) (m_guessAt : Nat → Int32) (H : Heap) (locs : List Loc) (ls : Array Slot), wp_X5_comes_L125 m_byDepth m_way m_own m_mixed K n_ x1 x2 m_came m_line m_noughts m_ones m_weights m_ownCost m_guessAt → va_P E.1 vwCl (wM E a m_states m_came m_byDepth m_byGuesser m_outLong m_low m_textLong m_place m_readLong m_now m_past m_refused m_line m_noughts m_ones m_weights m_ownCost m_way m_own m_mixed m_guessAt m_treeCost m_isLeaf m_inTree m_out m_text m_read) H → va_D A (wM E a m_states m_came m_byDepth m_byGuesser m_outLong m_low m_textLong m_place m_readLong m_now m_past m_refused m_line m_noughts m_ones m_weights m_ownCost m_way m_own m_mixed m_guessAt m_treeCost m_isLeaf m_inTree m_out m_text m_read) → va_S A s.heap H locs → lv_has ls 11 [(0, .ref (a 0)), (1, .int x1), (2, .int x2)] → g_X5_comes p l e s m args below meth c E a A m_states m_byGuesser m_outLong m_low m_textLong m_place m_readLong m_now m_past m_refused m_treeCost m_isLeaf m_inTree m_out m_text m_read m_byDepth m_way m_own m_mixed K H locs 125 ls [] := by
  obtain ⟨hx, hb, hr, hlk, hml, hown, hts⟩ := id F
  have hK : va_K E.1 vwCl (tyL E) s := hE
  intro n_
  induction n_ with
  | zero =>
    intro x1 x2 m_came m_line m_noughts m_ones m_weights m_ownCost m_guessAt H locs ls hw hP hD hS hl
    exact hw.elim
  | succ n_ ih =>
    intro x1 x2 m_came m_line m_noughts m_ones m_weights m_ownCost m_guessAt H locs ls hw hP hD hS hl
    unfold wp_X5_comes_L125 at hw
    refine lv_iload_n hx hb dX5_comes_125 rfl (lv_at hl 2 rfl) ?_
    refine lv_aload_n hx hb dX5_comes_126 rfl (lv_at hl 0 rfl) ?_
    refine va_get (D := E.1) (ci := 5) (v := .int m_byDepth) (C := RX5) (T := TX5) (N := 27) hx hb hts in_X5 hown hK hP 0 rfl rfl 6 (by decide) (hts _ q704) (fun _ h9 => h9) rfl dX5_comes_127 ?_
    refine lv_icmp_gt (tgt := 232) hx hb dX5_comes_130 (by decide) (fun c_ => ?_) (fun c_ => ?_)
    · have hw := hw.1 c_
      exact w_X5_comes_L232 F hE hA m_states m_byGuesser m_outLong m_low m_textLong m_place m_readLong m_now m_past m_refused m_treeCost m_isLeaf m_inTree m_out m_text m_read m_byDepth m_way m_own m_mixed K x1 m_came m_line m_noughts m_ones m_weights m_ownCost m_guessAt _ _ _ hw hP hD hS (lv_sub hl [0, 1] rfl)
    · have hw := hw.2 c_
      refine lv_aload_n hx hb dX5_comes_133 rfl (lv_at hl 0 rfl) ?_
      refine va_get (D := E.1) (ci := 5) (v := .ref (a 9)) (C := RX5) (T := TX5) (N := 27) hx hb hts in_X5 hown hK hP 0 rfl rfl 12 (by decide) (hts _ q710) (fun _ h9 => h9) rfl dX5_comes_134 ?_
      refine lv_iload_n hx hb dX5_comes_137 rfl (lv_at hl 2 rfl) ?_
      obtain ⟨hi_, hw⟩ := hw
      refine va_iald hx hb hK hP 9 0 rfl rfl hi_ dX5_comes_138 ?_
      refine lv_topi (fun v139 e_v139 => ?_)
      have hw := hw v139 e_v139
      refine lv_istore_n (lv' := [(3, .int v139), (0, .ref (a 0)), (1, .int x1), (2, .int x2)]) hx hb dX5_comes_139 rfl hl (by decide) rfl (fun ls hl => ?_)
      refine lv_aload_n hx hb dX5_comes_140 rfl (lv_at hl 1 rfl) ?_
      refine va_get (D := E.1) (ci := 5) (v := .ref (a 8)) (C := RX5) (T := TX5) (N := 27) hx hb hts in_X5 hown hK hP 0 rfl rfl 11 (by decide) (hts _ q709) (fun _ h9 => h9) rfl dX5_comes_141 ?_
      refine lv_iload_n hx hb dX5_comes_144 rfl (lv_at hl 0 rfl) ?_
      refine lv_dup2_11 hx hb dX5_comes_145 rfl rfl ?_
      obtain ⟨hi_, hw⟩ := hw
      refine va_iald hx hb hK hP 8 0 rfl rfl hi_ dX5_comes_146 ?_
      refine lv_aload_n hx hb dX5_comes_147 rfl (lv_at hl 1 rfl) ?_
      refine va_get (D := E.1) (ci := 5) (v := .ref (a 10)) (C := RX5) (T := TX5) (N := 27) hx hb hts in_X5 hown hK hP 0 rfl rfl 13 (by decide) (hts _ q711) (fun _ h9 => h9) rfl dX5_comes_148 ?_
      refine lv_iload_n hx hb dX5_comes_151 rfl (lv_at hl 3 rfl) ?_
      obtain ⟨hi_, hw⟩ := hw
      refine va_iald hx hb hK hP 10 0 rfl rfl hi_ dX5_comes_152 ?_
      refine lv_iload_n hx hb dX5_comes_153 rfl (lv_at hl 2 rfl) ?_
      refine cc_si (As := [.int (m_own x2.toNatClampNeg), .int x1]) (rest := [.int (m_ownCost v139.toNatClampNeg), .int v139, .ref (a 8)]) ⟨hx, hb, hml, hown, hts⟩ (met_X5_odds l (m_own x2.toNatClampNeg) x1 hw) (cw_X5_97 hts ⟨Nat.le_of_ble_eq_true rfl, Nat.le_of_ble_eq_true rfl⟩) rfl hl.1 rfl (Nat.le_of_ble_eq_true rfl) dX5_comes_154 ⟨Nat.le_of_ble_eq_true rfl, Nat.le_of_ble_eq_true rfl⟩ (fun r154 hw => ?_)
      refine cc_si (As := [.int r154]) (rest := [.int (m_ownCost v139.toNatClampNeg), .int v139, .ref (a 8)]) ⟨hx, hb, hml, hown, hts⟩ (met_X5_bitsOf l r154 hw) (cw_X5_105 hts ⟨Nat.le_of_ble_eq_true rfl, Nat.le_of_ble_eq_true rfl⟩) rfl hl.1 rfl (Nat.le_of_ble_eq_true rfl) dX5_comes_157 ⟨Nat.le_of_ble_eq_true rfl, Nat.le_of_ble_eq_true rfl⟩ (fun r157 hw => ?_)
      refine lv_iadd hx hb dX5_comes_160 ?_
      obtain ⟨hi_, hw⟩ := hw
      refine va_iast hx hb hK hP hD hS 8 0 rfl rfl hi_ dX5_comes_161 (fun H locs hP hD hS => ?_)
      have hP : va_P E.1 vwCl (wM E a m_states m_came m_byDepth m_byGuesser m_outLong m_low m_textLong m_place m_readLong m_now m_past m_refused m_line m_noughts m_ones m_weights (upd m_ownCost v139.toNatClampNeg ((m_ownCost v139.toNatClampNeg) + r157)) m_way m_own m_mixed m_guessAt m_treeCost m_isLeaf m_inTree m_out m_text m_read) H := hP
      have hD : va_D A (wM E a m_states m_came m_byDepth m_byGuesser m_outLong m_low m_textLong m_place m_readLong m_now m_past m_refused m_line m_noughts m_ones m_weights (upd m_ownCost v139.toNatClampNeg ((m_ownCost v139.toNatClampNeg) + r157)) m_way m_own m_mixed m_guessAt m_treeCost m_isLeaf m_inTree m_out m_text m_read) := hD
      refine lv_aload_n hx hb dX5_comes_162 rfl (lv_at hl 1 rfl) ?_
      refine va_get (D := E.1) (ci := 5) (v := .ref (a 5)) (C := RX5) (T := TX5) (N := 27) hx hb hts in_X5 hown hK hP 0 rfl rfl 8 (by decide) (hts _ q706) (fun _ h9 => h9) rfl dX5_comes_163 ?_
      refine lv_iload_n hx hb dX5_comes_166 rfl (lv_at hl 0 rfl) ?_
      refine lv_dup2_11 hx hb dX5_comes_167 rfl rfl ?_
      obtain ⟨hi_, hw⟩ := hw
      refine va_iald hx hb hK hP 5 0 rfl rfl hi_ dX5_comes_168 ?_
      refine lv_iconst (v := 1) hx hb dX5_comes_169 (by decide) ?_
      refine lv_iload_n hx hb dX5_comes_170 rfl (lv_at hl 2 rfl) ?_
      refine lv_isub hx hb dX5_comes_171 ?_
      refine lv_iadd hx hb dX5_comes_172 ?_
      obtain ⟨hi_, hw⟩ := hw
      refine va_iast hx hb hK hP hD hS 5 0 rfl rfl hi_ dX5_comes_173 (fun H locs hP hD hS => ?_)
      have hP : va_P E.1 vwCl (wM E a m_states m_came m_byDepth m_byGuesser m_outLong m_low m_textLong m_place m_readLong m_now m_past m_refused m_line (upd m_noughts v139.toNatClampNeg ((m_noughts v139.toNatClampNeg) + ((1 : Int32) - x1))) m_ones m_weights (upd m_ownCost v139.toNatClampNeg ((m_ownCost v139.toNatClampNeg) + r157)) m_way m_own m_mixed m_guessAt m_treeCost m_isLeaf m_inTree m_out m_text m_read) H := hP
      have hD : va_D A (wM E a m_states m_came m_byDepth m_byGuesser m_outLong m_low m_textLong m_place m_readLong m_now m_past m_refused m_line (upd m_noughts v139.toNatClampNeg ((m_noughts v139.toNatClampNeg) + ((1 : Int32) - x1))) m_ones m_weights (upd m_ownCost v139.toNatClampNeg ((m_ownCost v139.toNatClampNeg) + r157)) m_way m_own m_mixed m_guessAt m_treeCost m_isLeaf m_inTree m_out m_text m_read) := hD
      refine lv_aload_n hx hb dX5_comes_174 rfl (lv_at hl 1 rfl) ?_
      refine va_get (D := E.1) (ci := 5) (v := .ref (a 6)) (C := RX5) (T := TX5) (N := 27) hx hb hts in_X5 hown hK hP 0 rfl rfl 9 (by decide) (hts _ q707) (fun _ h9 => h9) rfl dX5_comes_175 ?_
      refine lv_iload_n hx hb dX5_comes_178 rfl (lv_at hl 0 rfl) ?_
      refine lv_dup2_11 hx hb dX5_comes_179 rfl rfl ?_
      obtain ⟨hi_, hw⟩ := hw
      refine va_iald hx hb hK hP 6 0 rfl rfl hi_ dX5_comes_180 ?_
      refine lv_iload_n hx hb dX5_comes_181 rfl (lv_at hl 2 rfl) ?_
      refine lv_iadd hx hb dX5_comes_182 ?_
      obtain ⟨hi_, hw⟩ := hw
      refine va_iast hx hb hK hP hD hS 6 0 rfl rfl hi_ dX5_comes_183 (fun H locs hP hD hS => ?_)
      have hP : va_P E.1 vwCl (wM E a m_states m_came m_byDepth m_byGuesser m_outLong m_low m_textLong m_place m_readLong m_now m_past m_refused m_line (upd m_noughts v139.toNatClampNeg ((m_noughts v139.toNatClampNeg) + ((1 : Int32) - x1))) (upd m_ones v139.toNatClampNeg ((m_ones v139.toNatClampNeg) + x1)) m_weights (upd m_ownCost v139.toNatClampNeg ((m_ownCost v139.toNatClampNeg) + r157)) m_way m_own m_mixed m_guessAt m_treeCost m_isLeaf m_inTree m_out m_text m_read) H := hP
      have hD : va_D A (wM E a m_states m_came m_byDepth m_byGuesser m_outLong m_low m_textLong m_place m_readLong m_now m_past m_refused m_line (upd m_noughts v139.toNatClampNeg ((m_noughts v139.toNatClampNeg) + ((1 : Int32) - x1))) (upd m_ones v139.toNatClampNeg ((m_ones v139.toNatClampNeg) + x1)) m_weights (upd m_ownCost v139.toNatClampNeg ((m_ownCost v139.toNatClampNeg) + r157)) m_way m_own m_mixed m_guessAt m_treeCost m_isLeaf m_inTree m_out m_text m_read) := hD
      refine lv_aload_n hx hb dX5_comes_184 rfl (lv_at hl 1 rfl) ?_
      refine va_get (D := E.1) (ci := 5) (v := .ref (a 5)) (C := RX5) (T := TX5) (N := 27) hx hb hts in_X5 hown hK hP 0 rfl rfl 8 (by decide) (hts _ q706) (fun _ h9 => h9) rfl dX5_comes_185 ?_
      refine lv_iload_n hx hb dX5_comes_188 rfl (lv_at hl 0 rfl) ?_
      obtain ⟨hi_, hw⟩ := hw
      refine va_iald hx hb hK hP 5 0 rfl rfl hi_ dX5_comes_189 ?_
      refine lv_bipush (v := 60) hx hb dX5_comes_190 (by decide) ?_
      refine lv_icmp_gt (tgt := 206) hx hb dX5_comes_192 (by decide) (fun c_ => ?_) (fun c_ => ?_)
      · have hw := hw.1 c_
        exact w_X5_comes_L206 F hE hA m_states m_byGuesser m_outLong m_low m_textLong m_place m_readLong m_now m_past m_refused m_treeCost m_isLeaf m_inTree m_out m_text m_read m_byDepth m_way m_own m_mixed K (wp_X5_comes_L125 m_byDepth m_way m_own m_mixed K n_) ih x1 x2 v139 m_came m_line (upd m_noughts v139.toNatClampNeg ((m_noughts v139.toNatClampNeg) + ((1 : Int32) - x1))) (upd m_ones v139.toNatClampNeg ((m_ones v139.toNatClampNeg) + x1)) m_weights (upd m_ownCost v139.toNatClampNeg ((m_ownCost v139.toNatClampNeg) + r157)) m_guessAt _ _ _ hw hP hD hS (lv_sub hl [1, 2, 3, 0] rfl)
      · have hw := hw.2 c_
        refine lv_aload_n hx hb dX5_comes_195 rfl (lv_at hl 1 rfl) ?_
        refine va_get (D := E.1) (ci := 5) (v := .ref (a 6)) (C := RX5) (T := TX5) (N := 27) hx hb hts in_X5 hown hK hP 0 rfl rfl 9 (by decide) (hts _ q707) (fun _ h9 => h9) rfl dX5_comes_196 ?_
        refine lv_iload_n hx hb dX5_comes_199 rfl (lv_at hl 0 rfl) ?_
        obtain ⟨hi_, hw⟩ := hw
        refine va_iald hx hb hK hP 6 0 rfl rfl hi_ dX5_comes_200 ?_
        refine lv_bipush (v := 60) hx hb dX5_comes_201 (by decide) ?_
        refine lv_icmp_le (tgt := 226) hx hb dX5_comes_203 (by decide) (fun c_ => ?_) (fun c_ => ?_)
        · have hw := hw.1 c_
          exact w_X5_comes_L226 F hE hA m_states m_byGuesser m_outLong m_low m_textLong m_place m_readLong m_now m_past m_refused m_treeCost m_isLeaf m_inTree m_out m_text m_read m_byDepth m_way m_own m_mixed K (wp_X5_comes_L125 m_byDepth m_way m_own m_mixed K n_) ih x1 x2 m_came m_line (upd m_noughts v139.toNatClampNeg ((m_noughts v139.toNatClampNeg) + ((1 : Int32) - x1))) (upd m_ones v139.toNatClampNeg ((m_ones v139.toNatClampNeg) + x1)) m_weights (upd m_ownCost v139.toNatClampNeg ((m_ownCost v139.toNatClampNeg) + r157)) m_guessAt _ _ _ hw hP hD hS (lv_sub hl [1, 2, 3] rfl)
        · have hw := hw.2 c_
          exact w_X5_comes_L206 F hE hA m_states m_byGuesser m_outLong m_low m_textLong m_place m_readLong m_now m_past m_refused m_treeCost m_isLeaf m_inTree m_out m_text m_read m_byDepth m_way m_own m_mixed K (wp_X5_comes_L125 m_byDepth m_way m_own m_mixed K n_) ih x1 x2 v139 m_came m_line (upd m_noughts v139.toNatClampNeg ((m_noughts v139.toNatClampNeg) + ((1 : Int32) - x1))) (upd m_ones v139.toNatClampNeg ((m_ones v139.toNatClampNeg) + x1)) m_weights (upd m_ownCost v139.toNatClampNeg ((m_ownCost v139.toNatClampNeg) + r157)) m_guessAt _ _ _ hw hP hD hS (lv_sub hl [1, 2, 3, 0] rfl)
def wp_X5_comes_L123 (m_byDepth : Int32) (m_way : Nat → Int32) (m_own : Nat → Int32) (m_mixed : Nat → Int32) (K : Int32 → (Nat → Int32) → (Nat → Int32) → (Nat → Int32) → (Nat → Int32) → (Nat → Int32) → (Nat → Int32) → Prop)  (x1 : Int32) (m_came : Int32) (m_line : Nat → Int32) (m_noughts : Nat → Int32) (m_ones : Nat → Int32) (m_weights : Nat → Int32) (m_ownCost : Nat → Int32) (m_guessAt : Nat → Int32) : Prop :=
  ∃ k_, wp_X5_comes_L125 m_byDepth m_way m_own m_mixed K k_ x1 (0 : Int32) m_came m_line m_noughts m_ones m_weights m_ownCost m_guessAt
set_option maxHeartbeats 4000000 in
set_option maxRecDepth 100000 in
theorem w_X5_comes_L123 {p : Program} {l : Launch} {e : Env} {s : State} {m : MethodId} {args : Array Value} {below : List Frame} {meth : Method} {c : Code} {E : gE} {a : Nat → Nat} {A : Nat → Prop} (F : fx_ p s m args meth c RX5 cX5_comes 11 (none)) (hE : nM E A s) (hA : ∀ q, s.heap.size ≤ q → A q) (m_states : Int32) (m_byGuesser : Int32) (m_outLong : Int32) (m_low : Int64) (m_textLong : Int32) (m_place : Int32) (m_readLong : Int32) (m_now : Nat → Int32) (m_past : Nat → Int32) (m_refused : Nat → Int32) (m_treeCost : Nat → Int32) (m_isLeaf : Nat → Int32) (m_inTree : Nat → Int32) (m_out : Nat → Int32) (m_text : Nat → Int32) (m_read : Nat → Int32) (m_byDepth : Int32) (m_way : Nat → Int32) (m_own : Nat → Int32) (m_mixed : Nat → Int32) (K : Int32 → (Nat → Int32) → (Nat → Int32) → (Nat → Int32) → (Nat → Int32) → (Nat → Int32) → (Nat → Int32) → Prop)  : ∀ (x1 : Int32) (m_came : Int32) (m_line : Nat → Int32) (m_noughts : Nat → Int32) (m_ones : Nat → Int32) (m_weights : Nat → Int32) (m_ownCost : Nat → Int32) (m_guessAt : Nat → Int32) (H : Heap) (locs : List Loc) (ls : Array Slot), wp_X5_comes_L123 m_byDepth m_way m_own m_mixed K x1 m_came m_line m_noughts m_ones m_weights m_ownCost m_guessAt → va_P E.1 vwCl (wM E a m_states m_came m_byDepth m_byGuesser m_outLong m_low m_textLong m_place m_readLong m_now m_past m_refused m_line m_noughts m_ones m_weights m_ownCost m_way m_own m_mixed m_guessAt m_treeCost m_isLeaf m_inTree m_out m_text m_read) H → va_D A (wM E a m_states m_came m_byDepth m_byGuesser m_outLong m_low m_textLong m_place m_readLong m_now m_past m_refused m_line m_noughts m_ones m_weights m_ownCost m_way m_own m_mixed m_guessAt m_treeCost m_isLeaf m_inTree m_out m_text m_read) → va_S A s.heap H locs → lv_has ls 11 [(0, .ref (a 0)), (1, .int x1)] → g_X5_comes p l e s m args below meth c E a A m_states m_byGuesser m_outLong m_low m_textLong m_place m_readLong m_now m_past m_refused m_treeCost m_isLeaf m_inTree m_out m_text m_read m_byDepth m_way m_own m_mixed K H locs 123 ls [] := by
  obtain ⟨hx, hb, hr, hlk, hml, hown, hts⟩ := id F
  have hK : va_K E.1 vwCl (tyL E) s := hE
  intro x1 m_came m_line m_noughts m_ones m_weights m_ownCost m_guessAt H locs ls hw hP hD hS hl
  unfold wp_X5_comes_L123 at hw
  refine lv_iconst (v := 0) hx hb dX5_comes_123 (by decide) ?_
  refine lv_istore_n (lv' := [(2, .int (0 : Int32)), (0, .ref (a 0)), (1, .int x1)]) hx hb dX5_comes_124 rfl hl (by decide) rfl (fun ls hl => ?_)
  obtain ⟨k_, hw⟩ := hw
  exact w_X5_comes_L125 F hE hA m_states m_byGuesser m_outLong m_low m_textLong m_place m_readLong m_now m_past m_refused m_treeCost m_isLeaf m_inTree m_out m_text m_read m_byDepth m_way m_own m_mixed K k_ x1 (0 : Int32) m_came m_line m_noughts m_ones m_weights m_ownCost m_guessAt _ _ _ hw hP hD hS (lv_sub hl [1, 2, 0] rfl)
def wp_X5_comes_L116 (m_byDepth : Int32) (m_way : Nat → Int32) (m_own : Nat → Int32) (m_mixed : Nat → Int32) (K : Int32 → (Nat → Int32) → (Nat → Int32) → (Nat → Int32) → (Nat → Int32) → (Nat → Int32) → (Nat → Int32) → Prop) (J2 : Int32 → Int32 → Int32 → (Nat → Int32) → (Nat → Int32) → (Nat → Int32) → (Nat → Int32) → (Nat → Int32) → (Nat → Int32) → Prop) (x1 : Int32) (x2 : Int32) (s1 : Int32) (s2 : Int32) (m_came : Int32) (m_line : Nat → Int32) (m_noughts : Nat → Int32) (m_ones : Nat → Int32) (m_weights : Nat → Int32) (m_ownCost : Nat → Int32) (m_guessAt : Nat → Int32) : Prop :=
  vp_in s1 127 ∧
  (J2 x1 (x2 + (1 : Int32)) m_came m_line m_noughts m_ones (upd m_weights s1.toNatClampNeg s2) m_ownCost m_guessAt)
set_option maxHeartbeats 4000000 in
set_option maxRecDepth 100000 in
theorem w_X5_comes_L116 {p : Program} {l : Launch} {e : Env} {s : State} {m : MethodId} {args : Array Value} {below : List Frame} {meth : Method} {c : Code} {E : gE} {a : Nat → Nat} {A : Nat → Prop} (F : fx_ p s m args meth c RX5 cX5_comes 11 (none)) (hE : nM E A s) (hA : ∀ q, s.heap.size ≤ q → A q) (m_states : Int32) (m_byGuesser : Int32) (m_outLong : Int32) (m_low : Int64) (m_textLong : Int32) (m_place : Int32) (m_readLong : Int32) (m_now : Nat → Int32) (m_past : Nat → Int32) (m_refused : Nat → Int32) (m_treeCost : Nat → Int32) (m_isLeaf : Nat → Int32) (m_inTree : Nat → Int32) (m_out : Nat → Int32) (m_text : Nat → Int32) (m_read : Nat → Int32) (m_byDepth : Int32) (m_way : Nat → Int32) (m_own : Nat → Int32) (m_mixed : Nat → Int32) (K : Int32 → (Nat → Int32) → (Nat → Int32) → (Nat → Int32) → (Nat → Int32) → (Nat → Int32) → (Nat → Int32) → Prop) (J2 : Int32 → Int32 → Int32 → (Nat → Int32) → (Nat → Int32) → (Nat → Int32) → (Nat → Int32) → (Nat → Int32) → (Nat → Int32) → Prop) (hJ2 : ∀ (x1 : Int32) (x2 : Int32) (m_came : Int32) (m_line : Nat → Int32) (m_noughts : Nat → Int32) (m_ones : Nat → Int32) (m_weights : Nat → Int32) (m_ownCost : Nat → Int32) (m_guessAt : Nat → Int32) (H : Heap) (locs : List Loc) (ls : Array Slot), J2 x1 x2 m_came m_line m_noughts m_ones m_weights m_ownCost m_guessAt → va_P E.1 vwCl (wM E a m_states m_came m_byDepth m_byGuesser m_outLong m_low m_textLong m_place m_readLong m_now m_past m_refused m_line m_noughts m_ones m_weights m_ownCost m_way m_own m_mixed m_guessAt m_treeCost m_isLeaf m_inTree m_out m_text m_read) H → va_D A (wM E a m_states m_came m_byDepth m_byGuesser m_outLong m_low m_textLong m_place m_readLong m_now m_past m_refused m_line m_noughts m_ones m_weights m_ownCost m_way m_own m_mixed m_guessAt m_treeCost m_isLeaf m_inTree m_out m_text m_read) → va_S A s.heap H locs → lv_has ls 11 [(0, .ref (a 0)), (1, .int x1), (2, .int x2)] → g_X5_comes p l e s m args below meth c E a A m_states m_byGuesser m_outLong m_low m_textLong m_place m_readLong m_now m_past m_refused m_treeCost m_isLeaf m_inTree m_out m_text m_read m_byDepth m_way m_own m_mixed K H locs 2 ls []) : ∀ (x1 : Int32) (x2 : Int32) (s1 : Int32) (s2 : Int32) (m_came : Int32) (m_line : Nat → Int32) (m_noughts : Nat → Int32) (m_ones : Nat → Int32) (m_weights : Nat → Int32) (m_ownCost : Nat → Int32) (m_guessAt : Nat → Int32) (H : Heap) (locs : List Loc) (ls : Array Slot), wp_X5_comes_L116 m_byDepth m_way m_own m_mixed K J2 x1 x2 s1 s2 m_came m_line m_noughts m_ones m_weights m_ownCost m_guessAt → va_P E.1 vwCl (wM E a m_states m_came m_byDepth m_byGuesser m_outLong m_low m_textLong m_place m_readLong m_now m_past m_refused m_line m_noughts m_ones m_weights m_ownCost m_way m_own m_mixed m_guessAt m_treeCost m_isLeaf m_inTree m_out m_text m_read) H → va_D A (wM E a m_states m_came m_byDepth m_byGuesser m_outLong m_low m_textLong m_place m_readLong m_now m_past m_refused m_line m_noughts m_ones m_weights m_ownCost m_way m_own m_mixed m_guessAt m_treeCost m_isLeaf m_inTree m_out m_text m_read) → va_S A s.heap H locs → lv_has ls 11 [(0, .ref (a 0)), (1, .int x1), (2, .int x2)] → g_X5_comes p l e s m args below meth c E a A m_states m_byGuesser m_outLong m_low m_textLong m_place m_readLong m_now m_past m_refused m_treeCost m_isLeaf m_inTree m_out m_text m_read m_byDepth m_way m_own m_mixed K H locs 116 ls [.int s2, .int s1, .ref (a 7)] := by
  obtain ⟨hx, hb, hr, hlk, hml, hown, hts⟩ := id F
  have hK : va_K E.1 vwCl (tyL E) s := hE
  intro x1 x2 s1 s2 m_came m_line m_noughts m_ones m_weights m_ownCost m_guessAt H locs ls hw hP hD hS hl
  unfold wp_X5_comes_L116 at hw
  obtain ⟨hi_, hw⟩ := hw
  refine va_iast hx hb hK hP hD hS 7 0 rfl rfl hi_ dX5_comes_116 (fun H locs hP hD hS => ?_)
  have hP : va_P E.1 vwCl (wM E a m_states m_came m_byDepth m_byGuesser m_outLong m_low m_textLong m_place m_readLong m_now m_past m_refused m_line m_noughts m_ones (upd m_weights s1.toNatClampNeg s2) m_ownCost m_way m_own m_mixed m_guessAt m_treeCost m_isLeaf m_inTree m_out m_text m_read) H := hP
  have hD : va_D A (wM E a m_states m_came m_byDepth m_byGuesser m_outLong m_low m_textLong m_place m_readLong m_now m_past m_refused m_line m_noughts m_ones (upd m_weights s1.toNatClampNeg s2) m_ownCost m_way m_own m_mixed m_guessAt m_treeCost m_isLeaf m_inTree m_out m_text m_read) := hD
  refine lv_iinc (v := x2 + (1 : Int32)) (lv' := [(2, .int (x2 + (1 : Int32))), (0, .ref (a 0)), (1, .int x1)]) hx hb dX5_comes_117 hl (k := 2) rfl (by rfl) (by decide) rfl (fun ls hl => ?_)
  refine lv_goto (tgt := 2) hx hb dX5_comes_120 (by decide) ?_
  exact hJ2 x1 (x2 + (1 : Int32)) m_came m_line m_noughts m_ones (upd m_weights s1.toNatClampNeg s2) m_ownCost m_guessAt _ _ _ hw hP hD hS (lv_sub hl [1, 2, 0] rfl)
def wp_X5_comes_L2 (m_byDepth : Int32) (m_way : Nat → Int32) (m_own : Nat → Int32) (m_mixed : Nat → Int32) (K : Int32 → (Nat → Int32) → (Nat → Int32) → (Nat → Int32) → (Nat → Int32) → (Nat → Int32) → (Nat → Int32) → Prop)  : Nat → Int32 → Int32 → Int32 → (Nat → Int32) → (Nat → Int32) → (Nat → Int32) → (Nat → Int32) → (Nat → Int32) → (Nat → Int32) → Prop
  | 0 => fun _ _ _ _ _ _ _ _ _ => False
  | n_ + 1 => fun x1 x2 m_came m_line m_noughts m_ones m_weights m_ownCost m_guessAt =>
  (m_byDepth ≤ x2 → wp_X5_comes_L123 m_byDepth m_way m_own m_mixed K x1 m_came m_line m_noughts m_ones m_weights m_ownCost m_guessAt) ∧
  (¬ m_byDepth ≤ x2 → vp_in x2 7 ∧
  (vp_in (m_way x2.toNatClampNeg) 127 ∧
  (∀ v22 : Int64, v22 = (m_weights (m_way x2.toNatClampNeg).toNatClampNeg).toInt64 →
  vp_in x2 7 ∧
  (wp_X5_odds (m_own x2.toNatClampNeg) x1 (fun r30 =>
  vp_in (x2 + (1 : Int32)) 7 ∧
  (wp_X5_odds (m_mixed (x2 + (1 : Int32)).toNatClampNeg) x1 (fun r45 =>
  ¬ ((v22 * r30.toInt64) + (((65536 : Int64) - v22) * r45.toInt64)) = 0 ∧ (∀ v73 : Int64, v73 = ((65536 : Int64) * (v22 * r30.toInt64)) / ((v22 * r30.toInt64) + (((65536 : Int64) - v22) * r45.toInt64)) →
  vp_in x2 7 ∧
  (((64 : Int64) ≤ v73 → (v73 ≤ (65472 : Int64) → wp_X5_comes_L116 m_byDepth m_way m_own m_mixed K (wp_X5_comes_L2 m_byDepth m_way m_own m_mixed K n_) x1 x2 (m_way x2.toNatClampNeg) v73.toInt32 m_came m_line m_noughts m_ones m_weights m_ownCost m_guessAt) ∧
  (¬ v73 ≤ (65472 : Int64) → wp_X5_comes_L116 m_byDepth m_way m_own m_mixed K (wp_X5_comes_L2 m_byDepth m_way m_own m_mixed K n_) x1 x2 (m_way x2.toNatClampNeg) (65472 : Int32) m_came m_line m_noughts m_ones m_weights m_ownCost m_guessAt)) ∧
  (¬ (64 : Int64) ≤ v73 → wp_X5_comes_L116 m_byDepth m_way m_own m_mixed K (wp_X5_comes_L2 m_byDepth m_way m_own m_mixed K n_) x1 x2 (m_way x2.toNatClampNeg) (64 : Int32) m_came m_line m_noughts m_ones m_weights m_ownCost m_guessAt))))))))))
set_option maxHeartbeats 4000000 in
set_option maxRecDepth 100000 in
theorem w_X5_comes_L2 {p : Program} {l : Launch} {e : Env} {s : State} {m : MethodId} {args : Array Value} {below : List Frame} {meth : Method} {c : Code} {E : gE} {a : Nat → Nat} {A : Nat → Prop} (F : fx_ p s m args meth c RX5 cX5_comes 11 (none)) (hE : nM E A s) (hA : ∀ q, s.heap.size ≤ q → A q) (m_states : Int32) (m_byGuesser : Int32) (m_outLong : Int32) (m_low : Int64) (m_textLong : Int32) (m_place : Int32) (m_readLong : Int32) (m_now : Nat → Int32) (m_past : Nat → Int32) (m_refused : Nat → Int32) (m_treeCost : Nat → Int32) (m_isLeaf : Nat → Int32) (m_inTree : Nat → Int32) (m_out : Nat → Int32) (m_text : Nat → Int32) (m_read : Nat → Int32) (m_byDepth : Int32) (m_way : Nat → Int32) (m_own : Nat → Int32) (m_mixed : Nat → Int32) (K : Int32 → (Nat → Int32) → (Nat → Int32) → (Nat → Int32) → (Nat → Int32) → (Nat → Int32) → (Nat → Int32) → Prop)  : ∀ (n_ : Nat) (x1 : Int32) (x2 : Int32) (m_came : Int32) (m_line : Nat → Int32) (m_noughts : Nat → Int32) (m_ones : Nat → Int32) (m_weights : Nat → Int32) (m_ownCost : Nat → Int32) (m_guessAt : Nat → Int32) (H : Heap) (locs : List Loc) (ls : Array Slot), wp_X5_comes_L2 m_byDepth m_way m_own m_mixed K n_ x1 x2 m_came m_line m_noughts m_ones m_weights m_ownCost m_guessAt → va_P E.1 vwCl (wM E a m_states m_came m_byDepth m_byGuesser m_outLong m_low m_textLong m_place m_readLong m_now m_past m_refused m_line m_noughts m_ones m_weights m_ownCost m_way m_own m_mixed m_guessAt m_treeCost m_isLeaf m_inTree m_out m_text m_read) H → va_D A (wM E a m_states m_came m_byDepth m_byGuesser m_outLong m_low m_textLong m_place m_readLong m_now m_past m_refused m_line m_noughts m_ones m_weights m_ownCost m_way m_own m_mixed m_guessAt m_treeCost m_isLeaf m_inTree m_out m_text m_read) → va_S A s.heap H locs → lv_has ls 11 [(0, .ref (a 0)), (1, .int x1), (2, .int x2)] → g_X5_comes p l e s m args below meth c E a A m_states m_byGuesser m_outLong m_low m_textLong m_place m_readLong m_now m_past m_refused m_treeCost m_isLeaf m_inTree m_out m_text m_read m_byDepth m_way m_own m_mixed K H locs 2 ls [] := by
  obtain ⟨hx, hb, hr, hlk, hml, hown, hts⟩ := id F
  have hK : va_K E.1 vwCl (tyL E) s := hE
  intro n_
  induction n_ with
  | zero =>
    intro x1 x2 m_came m_line m_noughts m_ones m_weights m_ownCost m_guessAt H locs ls hw hP hD hS hl
    exact hw.elim
  | succ n_ ih =>
    intro x1 x2 m_came m_line m_noughts m_ones m_weights m_ownCost m_guessAt H locs ls hw hP hD hS hl
    unfold wp_X5_comes_L2 at hw
    refine lv_iload_n hx hb dX5_comes_2 rfl (lv_at hl 2 rfl) ?_
    refine lv_aload_n hx hb dX5_comes_3 rfl (lv_at hl 0 rfl) ?_
    refine va_get (D := E.1) (ci := 5) (v := .int m_byDepth) (C := RX5) (T := TX5) (N := 27) hx hb hts in_X5 hown hK hP 0 rfl rfl 6 (by decide) (hts _ q704) (fun _ h9 => h9) rfl dX5_comes_4 ?_
    refine lv_icmp_ge (tgt := 123) hx hb dX5_comes_7 (by decide) (fun c_ => ?_) (fun c_ => ?_)
    · have hw := hw.1 c_
      exact w_X5_comes_L123 F hE hA m_states m_byGuesser m_outLong m_low m_textLong m_place m_readLong m_now m_past m_refused m_treeCost m_isLeaf m_inTree m_out m_text m_read m_byDepth m_way m_own m_mixed K x1 m_came m_line m_noughts m_ones m_weights m_ownCost m_guessAt _ _ _ hw hP hD hS (lv_sub hl [0, 1] rfl)
    · have hw := hw.2 c_
      refine lv_aload_n hx hb dX5_comes_10 rfl (lv_at hl 0 rfl) ?_
      refine va_get (D := E.1) (ci := 5) (v := .ref (a 7)) (C := RX5) (T := TX5) (N := 27) hx hb hts in_X5 hown hK hP 0 rfl rfl 10 (by decide) (hts _ q708) (fun _ h9 => h9) rfl dX5_comes_11 ?_
      refine lv_aload_n hx hb dX5_comes_14 rfl (lv_at hl 0 rfl) ?_
      refine va_get (D := E.1) (ci := 5) (v := .ref (a 9)) (C := RX5) (T := TX5) (N := 27) hx hb hts in_X5 hown hK hP 0 rfl rfl 12 (by decide) (hts _ q710) (fun _ h9 => h9) rfl dX5_comes_15 ?_
      refine lv_iload_n hx hb dX5_comes_18 rfl (lv_at hl 2 rfl) ?_
      obtain ⟨hi_, hw⟩ := hw
      refine va_iald hx hb hK hP 9 0 rfl rfl hi_ dX5_comes_19 ?_
      obtain ⟨hi_, hw⟩ := hw
      refine va_iald hx hb hK hP 7 0 rfl rfl hi_ dX5_comes_20 ?_
      refine lv_i2l hx hb dX5_comes_21 rfl ?_
      refine lv_topl (fun v22 e_v22 => ?_)
      have hw := hw v22 e_v22
      refine lv_lstore_n (lv' := [(3, .long v22), (0, .ref (a 0)), (1, .int x1), (2, .int x2)]) hx hb dX5_comes_22 rfl hl (by decide) rfl (fun ls hl => ?_)
      refine lv_aload_n hx hb dX5_comes_23 rfl (lv_at hl 1 rfl) ?_
      refine va_get (D := E.1) (ci := 5) (v := .ref (a 10)) (C := RX5) (T := TX5) (N := 27) hx hb hts in_X5 hown hK hP 0 rfl rfl 13 (by decide) (hts _ q711) (fun _ h9 => h9) rfl dX5_comes_24 ?_
      refine lv_iload_n hx hb dX5_comes_27 rfl (lv_at hl 3 rfl) ?_
      obtain ⟨hi_, hw⟩ := hw
      refine va_iald hx hb hK hP 10 0 rfl rfl hi_ dX5_comes_28 ?_
      refine lv_iload_n hx hb dX5_comes_29 rfl (lv_at hl 2 rfl) ?_
      refine cc_si (As := [.int (m_own x2.toNatClampNeg), .int x1]) (rest := []) ⟨hx, hb, hml, hown, hts⟩ (met_X5_odds l (m_own x2.toNatClampNeg) x1 hw) (cw_X5_97 hts ⟨Nat.le_of_ble_eq_true rfl, Nat.le_of_ble_eq_true rfl⟩) rfl hl.1 rfl (Nat.le_of_ble_eq_true rfl) dX5_comes_30 ⟨Nat.le_of_ble_eq_true rfl, Nat.le_of_ble_eq_true rfl⟩ (fun r30 hw => ?_)
      refine lv_i2l hx hb dX5_comes_33 rfl ?_
      refine lv_lstore (lv' := [(5, .long r30.toInt64), (3, .long v22), (0, .ref (a 0)), (1, .int x1), (2, .int x2)]) hx hb dX5_comes_34 hl (by decide) rfl (fun ls hl => ?_)
      refine lv_aload_n hx hb dX5_comes_36 rfl (lv_at hl 2 rfl) ?_
      refine va_get (D := E.1) (ci := 5) (v := .ref (a 11)) (C := RX5) (T := TX5) (N := 27) hx hb hts in_X5 hown hK hP 0 rfl rfl 14 (by decide) (hts _ q712) (fun _ h9 => h9) rfl dX5_comes_37 ?_
      refine lv_iload_n hx hb dX5_comes_40 rfl (lv_at hl 4 rfl) ?_
      refine lv_iconst (v := 1) hx hb dX5_comes_41 (by decide) ?_
      refine lv_iadd hx hb dX5_comes_42 ?_
      obtain ⟨hi_, hw⟩ := hw
      refine va_iald hx hb hK hP 11 0 rfl rfl hi_ dX5_comes_43 ?_
      refine lv_iload_n hx hb dX5_comes_44 rfl (lv_at hl 3 rfl) ?_
      refine cc_si (As := [.int (m_mixed (x2 + (1 : Int32)).toNatClampNeg), .int x1]) (rest := []) ⟨hx, hb, hml, hown, hts⟩ (met_X5_odds l (m_mixed (x2 + (1 : Int32)).toNatClampNeg) x1 hw) (cw_X5_97 hts ⟨Nat.le_of_ble_eq_true rfl, Nat.le_of_ble_eq_true rfl⟩) rfl hl.1 rfl (Nat.le_of_ble_eq_true rfl) dX5_comes_45 ⟨Nat.le_of_ble_eq_true rfl, Nat.le_of_ble_eq_true rfl⟩ (fun r45 hw => ?_)
      refine lv_i2l hx hb dX5_comes_48 rfl ?_
      refine lv_lstore (lv' := [(7, .long r45.toInt64), (5, .long r30.toInt64), (3, .long v22), (0, .ref (a 0)), (1, .int x1), (2, .int x2)]) hx hb dX5_comes_49 hl (by decide) rfl (fun ls hl => ?_)
      refine lv_ldc2 hx hb hown (hts _ q843) dX5_comes_51 ?_
      refine lv_lload_n hx hb dX5_comes_54 rfl (lv_at hl 2 rfl) ?_
      refine lv_lload hx hb dX5_comes_55 (lv_at hl 1 rfl) ?_
      refine lv_lmul hx hb dX5_comes_57 ?_
      refine lv_lmul hx hb dX5_comes_58 ?_
      refine lv_lload_n hx hb dX5_comes_59 rfl (lv_at hl 2 rfl) ?_
      refine lv_lload hx hb dX5_comes_60 (lv_at hl 1 rfl) ?_
      refine lv_lmul hx hb dX5_comes_62 ?_
      refine lv_ldc2 hx hb hown (hts _ q843) dX5_comes_63 ?_
      refine lv_lload_n hx hb dX5_comes_66 rfl (lv_at hl 2 rfl) ?_
      refine lv_lsub hx hb dX5_comes_67 ?_
      refine lv_lload hx hb dX5_comes_68 (lv_at hl 0 rfl) ?_
      refine lv_lmul hx hb dX5_comes_70 ?_
      refine lv_ladd hx hb dX5_comes_71 ?_
      obtain ⟨hn_, hw⟩ := hw
      refine lv_ldiv hx hb dX5_comes_72 hn_ ?_
      refine lv_topl (fun v73 e_v73 => ?_)
      have hw := hw v73 e_v73
      refine lv_lstore (lv' := [(9, .long v73), (7, .long r45.toInt64), (5, .long r30.toInt64), (3, .long v22), (0, .ref (a 0)), (1, .int x1), (2, .int x2)]) hx hb dX5_comes_73 hl (by decide) rfl (fun ls hl => ?_)
      refine lv_aload_n hx hb dX5_comes_75 rfl (lv_at hl 4 rfl) ?_
      refine va_get (D := E.1) (ci := 5) (v := .ref (a 7)) (C := RX5) (T := TX5) (N := 27) hx hb hts in_X5 hown hK hP 0 rfl rfl 10 (by decide) (hts _ q708) (fun _ h9 => h9) rfl dX5_comes_76 ?_
      refine lv_aload_n hx hb dX5_comes_79 rfl (lv_at hl 4 rfl) ?_
      refine va_get (D := E.1) (ci := 5) (v := .ref (a 9)) (C := RX5) (T := TX5) (N := 27) hx hb hts in_X5 hown hK hP 0 rfl rfl 12 (by decide) (hts _ q710) (fun _ h9 => h9) rfl dX5_comes_80 ?_
      refine lv_iload_n hx hb dX5_comes_83 rfl (lv_at hl 6 rfl) ?_
      obtain ⟨hi_, hw⟩ := hw
      refine va_iald hx hb hK hP 9 0 rfl rfl hi_ dX5_comes_84 ?_
      refine lv_lload hx hb dX5_comes_85 (lv_at hl 0 rfl) ?_
      refine lv_ldc2 hx hb hown (hts _ q860) dX5_comes_87 ?_
      refine W.lcmp hx hb dX5_comes_90 ?_
      refine lv_if_ge (tgt := 99) hx hb dX5_comes_91 (by decide) (fun c_ => ?_) (fun c_ => ?_)
      · have hw := hw.1 ((lg_cmp_ge _ _).mp c_)
        refine lv_lload hx hb dX5_comes_99 (lv_at hl 0 rfl) ?_
        refine lv_ldc2 hx hb hown (hts _ q861) dX5_comes_101 ?_
        refine W.lcmp hx hb dX5_comes_104 ?_
        refine lv_if_le (tgt := 113) hx hb dX5_comes_105 (by decide) (fun c_ => ?_) (fun c_ => ?_)
        · have hw := hw.1 ((lg_cmp_le _ _).mp c_)
          refine lv_lload hx hb dX5_comes_113 (lv_at hl 0 rfl) ?_
          refine lv_l2i hx hb dX5_comes_115 rfl ?_
          exact w_X5_comes_L116 F hE hA m_states m_byGuesser m_outLong m_low m_textLong m_place m_readLong m_now m_past m_refused m_treeCost m_isLeaf m_inTree m_out m_text m_read m_byDepth m_way m_own m_mixed K (wp_X5_comes_L2 m_byDepth m_way m_own m_mixed K n_) ih x1 x2 (m_way x2.toNatClampNeg) v73.toInt32 m_came m_line m_noughts m_ones m_weights m_ownCost m_guessAt _ _ _ hw hP hD hS (lv_sub hl [4, 5, 6] rfl)
        · have hw := hw.2 (fun h9 => c_ ((lg_cmp_le _ _).mpr h9))
          refine lv_ldc hx hb hown (hts _ q862) dX5_comes_108 ?_
          refine lv_goto (tgt := 116) hx hb dX5_comes_110 (by decide) ?_
          exact w_X5_comes_L116 F hE hA m_states m_byGuesser m_outLong m_low m_textLong m_place m_readLong m_now m_past m_refused m_treeCost m_isLeaf m_inTree m_out m_text m_read m_byDepth m_way m_own m_mixed K (wp_X5_comes_L2 m_byDepth m_way m_own m_mixed K n_) ih x1 x2 (m_way x2.toNatClampNeg) (65472 : Int32) m_came m_line m_noughts m_ones m_weights m_ownCost m_guessAt _ _ _ hw hP hD hS (lv_sub hl [4, 5, 6] rfl)
      · have hw := hw.2 (fun h9 => c_ ((lg_cmp_ge _ _).mpr h9))
        refine lv_bipush (v := 64) hx hb dX5_comes_94 (by decide) ?_
        refine lv_goto (tgt := 116) hx hb dX5_comes_96 (by decide) ?_
        exact w_X5_comes_L116 F hE hA m_states m_byGuesser m_outLong m_low m_textLong m_place m_readLong m_now m_past m_refused m_treeCost m_isLeaf m_inTree m_out m_text m_read m_byDepth m_way m_own m_mixed K (wp_X5_comes_L2 m_byDepth m_way m_own m_mixed K n_) ih x1 x2 (m_way x2.toNatClampNeg) (64 : Int32) m_came m_line m_noughts m_ones m_weights m_ownCost m_guessAt _ _ _ hw hP hD hS (lv_sub hl [4, 5, 6] rfl)
def wp_X5_comes (x1 : Int32) (m_came : Int32) (m_byDepth : Int32) (m_line : Nat → Int32) (m_noughts : Nat → Int32) (m_ones : Nat → Int32) (m_weights : Nat → Int32) (m_ownCost : Nat → Int32) (m_way : Nat → Int32) (m_own : Nat → Int32) (m_mixed : Nat → Int32) (m_guessAt : Nat → Int32) (K : Int32 → (Nat → Int32) → (Nat → Int32) → (Nat → Int32) → (Nat → Int32) → (Nat → Int32) → (Nat → Int32) → Prop) : Prop :=
  ∃ k_, wp_X5_comes_L2 m_byDepth m_way m_own m_mixed K k_ x1 (0 : Int32) m_came m_line m_noughts m_ones m_weights m_ownCost m_guessAt
set_option maxHeartbeats 4000000 in
set_option maxRecDepth 100000 in
theorem w_X5_comes {p : Program} {l : Launch} {e : Env} {s : State} {m : MethodId} {args : Array Value} {below : List Frame} {meth : Method} {c : Code} {E : gE} {a : Nat → Nat} {A : Nat → Prop} (F : fx_ p s m args meth c RX5 cX5_comes 11 (none)) (hE : nM E A s) (hA : ∀ q, s.heap.size ≤ q → A q) (m_states : Int32) (m_byGuesser : Int32) (m_outLong : Int32) (m_low : Int64) (m_textLong : Int32) (m_place : Int32) (m_readLong : Int32) (m_now : Nat → Int32) (m_past : Nat → Int32) (m_refused : Nat → Int32) (m_treeCost : Nat → Int32) (m_isLeaf : Nat → Int32) (m_inTree : Nat → Int32) (m_out : Nat → Int32) (m_text : Nat → Int32) (m_read : Nat → Int32) (m_byDepth : Int32) (m_way : Nat → Int32) (m_own : Nat → Int32) (m_mixed : Nat → Int32) (K : Int32 → (Nat → Int32) → (Nat → Int32) → (Nat → Int32) → (Nat → Int32) → (Nat → Int32) → (Nat → Int32) → Prop) (m_came : Int32) (m_line : Nat → Int32) (m_noughts : Nat → Int32) (m_ones : Nat → Int32) (m_weights : Nat → Int32) (m_ownCost : Nat → Int32) (m_guessAt : Nat → Int32) (x1 : Int32) {H : Heap} {locs : List Loc} {ls : Array Slot} (hw : wp_X5_comes x1 m_came m_byDepth m_line m_noughts m_ones m_weights m_ownCost m_way m_own m_mixed m_guessAt K) (hP : va_P E.1 vwCl (wM E a m_states m_came m_byDepth m_byGuesser m_outLong m_low m_textLong m_place m_readLong m_now m_past m_refused m_line m_noughts m_ones m_weights m_ownCost m_way m_own m_mixed m_guessAt m_treeCost m_isLeaf m_inTree m_out m_text m_read) H) (hD : va_D A (wM E a m_states m_came m_byDepth m_byGuesser m_outLong m_low m_textLong m_place m_readLong m_now m_past m_refused m_line m_noughts m_ones m_weights m_ownCost m_way m_own m_mixed m_guessAt m_treeCost m_isLeaf m_inTree m_out m_text m_read)) (hS : va_S A s.heap H locs) (hl : lv_has ls 11 [(0, .ref (a 0)), (1, .int x1)]) : g_X5_comes p l e s m args below meth c E a A m_states m_byGuesser m_outLong m_low m_textLong m_place m_readLong m_now m_past m_refused m_treeCost m_isLeaf m_inTree m_out m_text m_read m_byDepth m_way m_own m_mixed K H locs 0 ls [] := by
  obtain ⟨hx, hb, hr, hlk, hml, hown, hts⟩ := id F
  have hK : va_K E.1 vwCl (tyL E) s := hE
  unfold wp_X5_comes at hw
  refine lv_iconst (v := 0) hx hb dX5_comes_0 (by decide) ?_
  refine lv_istore_n (lv' := [(2, .int (0 : Int32)), (0, .ref (a 0)), (1, .int x1)]) hx hb dX5_comes_1 rfl hl (by decide) rfl (fun ls hl => ?_)
  obtain ⟨k_, hw⟩ := hw
  exact w_X5_comes_L2 F hE hA m_states m_byGuesser m_outLong m_low m_textLong m_place m_readLong m_now m_past m_refused m_treeCost m_isLeaf m_inTree m_out m_text m_read m_byDepth m_way m_own m_mixed K k_ x1 (0 : Int32) m_came m_line m_noughts m_ones m_weights m_ownCost m_guessAt _ _ _ hw hP hD hS (lv_sub hl [1, 2, 0] rfl)
theorem met_X5_comes (l : Launch) (E : gE) (a : Nat → Nat) (sz : Nat) (m_states : Int32) (m_came : Int32) (m_byDepth : Int32) (m_byGuesser : Int32) (m_outLong : Int32) (m_low : Int64) (m_textLong : Int32) (m_place : Int32) (m_readLong : Int32) (m_now : Nat → Int32) (m_past : Nat → Int32) (m_refused : Nat → Int32) (m_line : Nat → Int32) (m_noughts : Nat → Int32) (m_ones : Nat → Int32) (m_weights : Nat → Int32) (m_ownCost : Nat → Int32) (m_way : Nat → Int32) (m_own : Nat → Int32) (m_mixed : Nat → Int32) (m_guessAt : Nat → Int32) (m_treeCost : Nat → Int32) (m_isLeaf : Nat → Int32) (m_inTree : Nat → Int32) (m_out : Nat → Int32) (m_text : Nat → Int32) (m_read : Nat → Int32) (x1 : Int32) {K : Int32 → (Nat → Int32) → (Nat → Int32) → (Nat → Int32) → (Nat → Int32) → (Nat → Int32) → (Nat → Int32) → Prop} (hw : wp_X5_comes x1 m_came m_byDepth m_line m_noughts m_ones m_weights m_ownCost m_way m_own m_mixed m_guessAt K) : Met l yX5_comes (ws_ yX5_comes cX5_comes 11 (none)) rm_X5_comes (pr_ (nM E) E (wM E a m_states m_came m_byDepth m_byGuesser m_outLong m_low m_textLong m_place m_readLong m_now m_past m_refused m_line m_noughts m_ones m_weights m_ownCost m_way m_own m_mixed m_guessAt m_treeCost m_isLeaf m_inTree m_out m_text m_read) sz [.ref (a 0), .int x1]) (q_X5_comes E a m_states m_byGuesser m_outLong m_low m_textLong m_place m_readLong m_now m_past m_refused m_treeCost m_isLeaf m_inTree m_out m_text m_read m_byDepth m_way m_own m_mixed K (va_A (wM E a m_states m_came m_byDepth m_byGuesser m_outLong m_low m_textLong m_place m_readLong m_now m_past m_refused m_line m_noughts m_ones m_weights m_ownCost m_way m_own m_mixed m_guessAt m_treeCost m_isLeaf m_inTree m_out m_text m_read) sz)) 0 0 (va_A (wM E a m_states m_came m_byDepth m_byGuesser m_outLong m_low m_textLong m_place m_readLong m_now m_past m_refused m_line m_noughts m_ones m_weights m_ownCost m_way m_own m_mixed m_guessAt m_treeCost m_isLeaf m_inTree m_out m_text m_read) sz) :=
  met_of (Qc := fun A => q_X5_comes E a m_states m_byGuesser m_outLong m_low m_textLong m_place m_readLong m_now m_past m_refused m_treeCost m_isLeaf m_inTree m_out m_text m_read m_byDepth m_way m_own m_mixed K A) (by decide) (Nat.le_of_ble_eq_true rfl) (fun _ _ _ _ _ _ _ _ _ F hE hA hP hD hl => w_X5_comes F hE hA m_states m_byGuesser m_outLong m_low m_textLong m_place m_readLong m_now m_past m_refused m_treeCost m_isLeaf m_inTree m_out m_text m_read m_byDepth m_way m_own m_mixed K m_came m_line m_noughts m_ones m_weights m_ownCost m_guessAt x1 hw hP hD va_S.rf hl)
theorem hd_X5_begins : yX5_begins.cls = RX5 ∧ yX5_begins.cls ≠ "java/lang/invoke/MethodHandle" ∧ yX5_begins.cls ≠ "java/lang/invoke/VarHandle" ∧ (parseMethodDescriptor yX5_begins.desc).map (fun d => d.parameters.length) = some 2 := by decide +kernel
theorem cw_X5_108 {R : Room} {s : State} {args : Array Value} (hts : ∀ w ∈ lw_all, w.before args s = true) (hR : rm_X5_begins.frames + 1 ≤ R.frames ∧ 8 + (4 + 11) + rm_X5_begins.locals ≤ R.locals) : CallW R s args RX5 RX5 108 yX5_begins cX5_begins 4 (none) (ws_ yX5_begins cX5_begins 4 (none)) rm_X5_begins 0 0 2 := cwV 2 hts (lw_V q827 q829 qs46 q72 q830) rfl rfl rfl hd_X5_begins hR
theorem hd_X5_many : yX5_many.cls = RX5 ∧ yX5_many.cls ≠ "java/lang/invoke/MethodHandle" ∧ yX5_many.cls ≠ "java/lang/invoke/VarHandle" ∧ (parseMethodDescriptor yX5_many.desc).map (fun d => d.parameters.length) = some 0 := by decide +kernel
theorem cw_X5_112 {R : Room} {s : State} {args : Array Value} (hts : ∀ w ∈ lw_all, w.before args s = true) (hR : rm_X5_many.frames + 1 ≤ R.frames ∧ 8 + (1 + 11) + rm_X5_many.locals ≤ R.locals) : CallW R s args RX5 RX5 112 yX5_many cX5_many 1 (some .int) (ws_ yX5_many cX5_many 1 (some .int)) rm_X5_many 0 0 0 := cwV 0 hts (lw_V q791 q793 qs37 q72 q794) rfl rfl rfl hd_X5_many hR
theorem hd_X5_guesses : yX5_guesses.cls = RX5 ∧ yX5_guesses.cls ≠ "java/lang/invoke/MethodHandle" ∧ yX5_guesses.cls ≠ "java/lang/invoke/VarHandle" ∧ (parseMethodDescriptor yX5_guesses.desc).map (fun d => d.parameters.length) = some 0 := by decide +kernel
theorem cw_X5_116 {R : Room} {s : State} {args : Array Value} (hts : ∀ w ∈ lw_all, w.before args s = true) (hR : rm_X5_guesses.frames + 1 ≤ R.frames ∧ 8 + (5 + 11) + rm_X5_guesses.locals ≤ R.locals) : CallW R s args RX5 RX5 116 yX5_guesses cX5_guesses 5 (some .int) (ws_ yX5_guesses cX5_guesses 5 (some .int)) rm_X5_guesses 0 0 0 := cwV 0 hts (lw_V q832 q834 qs47 q72 q835) rfl rfl rfl hd_X5_guesses hR
theorem hd_X5_comes : yX5_comes.cls = RX5 ∧ yX5_comes.cls ≠ "java/lang/invoke/MethodHandle" ∧ yX5_comes.cls ≠ "java/lang/invoke/VarHandle" ∧ (parseMethodDescriptor yX5_comes.desc).map (fun d => d.parameters.length) = some 1 := by decide +kernel
theorem cw_X5_119 {R : Room} {s : State} {args : Array Value} (hts : ∀ w ∈ lw_all, w.before args s = true) (hR : rm_X5_comes.frames + 1 ≤ R.frames ∧ 8 + (11 + 11) + rm_X5_comes.locals ≤ R.locals) : CallW R s args RX5 RX5 119 yX5_comes cX5_comes 11 (none) (ws_ yX5_comes cX5_comes 11 (none)) rm_X5_comes 0 0 1 := cwV 1 hts (lw_V q856 q858 qs49 q72 q859) rfl rfl rfl hd_X5_comes hR
-- TreeOddsModel.goes (II)I
abbrev rm_X5_goes : Room := { frames := 3, cells := 0, slots := 0, locals := 70 }
abbrev q_X5_goes (E : gE) (a : Nat → Nat) (m_states : Int32) (m_outLong : Int32) (m_low : Int64) (m_textLong : Int32) (m_place : Int32) (m_readLong : Int32) (m_past : Nat → Int32) (m_refused : Nat → Int32) (m_treeCost : Nat → Int32) (m_isLeaf : Nat → Int32) (m_inTree : Nat → Int32) (m_out : Nat → Int32) (m_text : Nat → Int32) (m_read : Nat → Int32) (m_now : Nat → Int32) (K : Int32 → Int32 → Int32 → Int32 → (Nat → Int32) → (Nat → Int32) → (Nat → Int32) → (Nat → Int32) → (Nat → Int32) → (Nat → Int32) → (Nat → Int32) → (Nat → Int32) → (Nat → Int32) → Prop) (A : Nat → Prop) : Array Value → State → Outcome → State → Prop := va_Qi (fun (r : Int32) (u : Int32 × Int32 × Int32 × (Nat → Int32) × (Nat → Int32) × (Nat → Int32) × (Nat → Int32) × (Nat → Int32) × (Nat → Int32) × (Nat → Int32) × (Nat → Int32) × (Nat → Int32)) => K r u.1 u.2.1 u.2.2.1 u.2.2.2.1 u.2.2.2.2.1 u.2.2.2.2.2.1 u.2.2.2.2.2.2.1 u.2.2.2.2.2.2.2.1 u.2.2.2.2.2.2.2.2.1 u.2.2.2.2.2.2.2.2.2.1 u.2.2.2.2.2.2.2.2.2.2.1 u.2.2.2.2.2.2.2.2.2.2.2) (po_ E A (fun (u : Int32 × Int32 × Int32 × (Nat → Int32) × (Nat → Int32) × (Nat → Int32) × (Nat → Int32) × (Nat → Int32) × (Nat → Int32) × (Nat → Int32) × (Nat → Int32) × (Nat → Int32)) => wM E a m_states u.1 u.2.1 u.2.2.1 m_outLong m_low m_textLong m_place m_readLong m_now m_past m_refused u.2.2.2.1 u.2.2.2.2.1 u.2.2.2.2.2.1 u.2.2.2.2.2.2.1 u.2.2.2.2.2.2.2.1 u.2.2.2.2.2.2.2.2.1 u.2.2.2.2.2.2.2.2.2.1 u.2.2.2.2.2.2.2.2.2.2.1 u.2.2.2.2.2.2.2.2.2.2.2 m_treeCost m_isLeaf m_inTree m_out m_text m_read)) A
abbrev g_X5_goes (p : Program) (l : Launch) (e : Env) (s : State) (m : MethodId) (args : Array Value) (below : List Frame) (meth : Method) (c : Code) (E : gE) (a : Nat → Nat) (A : Nat → Prop) (m_states : Int32) (m_outLong : Int32) (m_low : Int64) (m_textLong : Int32) (m_place : Int32) (m_readLong : Int32) (m_past : Nat → Int32) (m_refused : Nat → Int32) (m_treeCost : Nat → Int32) (m_isLeaf : Nat → Int32) (m_inTree : Nat → Int32) (m_out : Nat → Int32) (m_text : Nat → Int32) (m_read : Nat → Int32) (m_now : Nat → Int32) (K : Int32 → Int32 → Int32 → Int32 → (Nat → Int32) → (Nat → Int32) → (Nat → Int32) → (Nat → Int32) → (Nat → Int32) → (Nat → Int32) → (Nat → Int32) → (Nat → Int32) → (Nat → Int32) → Prop) (H : Heap) (locs : List Loc) (pc : Nat) (ls : Array Slot) (st : List Value) : Prop := W p l e rm_X5_goes s m args below meth c H locs 0 0 (MQ below (q_X5_goes E a m_states m_outLong m_low m_textLong m_place m_readLong m_past m_refused m_treeCost m_isLeaf m_inTree m_out m_text m_read m_now K A) args s 0 0 A) (F0 m pc ls st)
def wp_X5_goes_L11 (m_now : Nat → Int32) (K : Int32 → Int32 → Int32 → Int32 → (Nat → Int32) → (Nat → Int32) → (Nat → Int32) → (Nat → Int32) → (Nat → Int32) → (Nat → Int32) → (Nat → Int32) → (Nat → Int32) → (Nat → Int32) → Prop)  : Nat → Int32 → Int32 → Int32 → Int32 → Int32 → (Nat → Int32) → (Nat → Int32) → (Nat → Int32) → (Nat → Int32) → (Nat → Int32) → (Nat → Int32) → (Nat → Int32) → (Nat → Int32) → (Nat → Int32) → Prop
  | 0 => fun _ _ _ _ _ _ _ _ _ _ _ _ _ _ => False
  | n_ + 1 => fun x3 x4 m_came m_byDepth m_byGuesser m_line m_noughts m_ones m_weights m_ownCost m_way m_own m_mixed m_guessAt =>
  wp_X5_many m_now (fun r14 =>
  (r14 ≤ x4 → K x3 m_came m_byDepth m_byGuesser m_line m_noughts m_ones m_weights m_ownCost m_way m_own m_mixed m_guessAt) ∧
  (¬ r14 ≤ x4 → wp_X5_guesses m_came m_byDepth m_byGuesser m_line m_noughts m_ones m_weights m_way m_own m_mixed (fun r22 m_way_22 m_own_22 m_mixed_22 =>
  vp_in x4 103 ∧
  (wp_X5_odds r22 (m_now x4.toNatClampNeg) (fun r32 =>
  wp_X5_bitsOf r32 (fun r35 =>
  ∀ v39 : Int32, v39 = x3 + r35 →
  vp_in x4 103 ∧
  (wp_X5_comes (m_now x4.toNatClampNeg) m_came m_byDepth m_line m_noughts m_ones m_weights m_ownCost m_way_22 m_own_22 m_mixed_22 m_guessAt (fun m_came_48 m_line_48 m_noughts_48 m_ones_48 m_weights_48 m_ownCost_48 m_guessAt_48 =>
  wp_X5_goes_L11 m_now K n_ v39 (x4 + (1 : Int32)) m_came_48 m_byDepth m_byGuesser m_line_48 m_noughts_48 m_ones_48 m_weights_48 m_ownCost_48 m_way_22 m_own_22 m_mixed_22 m_guessAt_48))))))))
set_option maxHeartbeats 4000000 in
set_option maxRecDepth 100000 in
theorem w_X5_goes_L11 {p : Program} {l : Launch} {e : Env} {s : State} {m : MethodId} {args : Array Value} {below : List Frame} {meth : Method} {c : Code} {E : gE} {a : Nat → Nat} {A : Nat → Prop} (F : fx_ p s m args meth c RX5 cX5_goes 5 (some .int)) (hE : nM E A s) (hA : ∀ q, s.heap.size ≤ q → A q) (m_states : Int32) (m_outLong : Int32) (m_low : Int64) (m_textLong : Int32) (m_place : Int32) (m_readLong : Int32) (m_past : Nat → Int32) (m_refused : Nat → Int32) (m_treeCost : Nat → Int32) (m_isLeaf : Nat → Int32) (m_inTree : Nat → Int32) (m_out : Nat → Int32) (m_text : Nat → Int32) (m_read : Nat → Int32) (m_now : Nat → Int32) (K : Int32 → Int32 → Int32 → Int32 → (Nat → Int32) → (Nat → Int32) → (Nat → Int32) → (Nat → Int32) → (Nat → Int32) → (Nat → Int32) → (Nat → Int32) → (Nat → Int32) → (Nat → Int32) → Prop)  : ∀ (n_ : Nat) (x3 : Int32) (x4 : Int32) (m_came : Int32) (m_byDepth : Int32) (m_byGuesser : Int32) (m_line : Nat → Int32) (m_noughts : Nat → Int32) (m_ones : Nat → Int32) (m_weights : Nat → Int32) (m_ownCost : Nat → Int32) (m_way : Nat → Int32) (m_own : Nat → Int32) (m_mixed : Nat → Int32) (m_guessAt : Nat → Int32) (H : Heap) (locs : List Loc) (ls : Array Slot), wp_X5_goes_L11 m_now K n_ x3 x4 m_came m_byDepth m_byGuesser m_line m_noughts m_ones m_weights m_ownCost m_way m_own m_mixed m_guessAt → va_P E.1 vwCl (wM E a m_states m_came m_byDepth m_byGuesser m_outLong m_low m_textLong m_place m_readLong m_now m_past m_refused m_line m_noughts m_ones m_weights m_ownCost m_way m_own m_mixed m_guessAt m_treeCost m_isLeaf m_inTree m_out m_text m_read) H → va_D A (wM E a m_states m_came m_byDepth m_byGuesser m_outLong m_low m_textLong m_place m_readLong m_now m_past m_refused m_line m_noughts m_ones m_weights m_ownCost m_way m_own m_mixed m_guessAt m_treeCost m_isLeaf m_inTree m_out m_text m_read) → va_S A s.heap H locs → lv_has ls 5 [(0, .ref (a 0)), (3, .int x3), (4, .int x4)] → g_X5_goes p l e s m args below meth c E a A m_states m_outLong m_low m_textLong m_place m_readLong m_past m_refused m_treeCost m_isLeaf m_inTree m_out m_text m_read m_now K H locs 11 ls [] := by
  obtain ⟨hx, hb, hr, hlk, hml, hown, hts⟩ := id F
  have hK : va_K E.1 vwCl (tyL E) s := hE
  intro n_
  induction n_ with
  | zero =>
    intro x3 x4 m_came m_byDepth m_byGuesser m_line m_noughts m_ones m_weights m_ownCost m_way m_own m_mixed m_guessAt H locs ls hw hP hD hS hl
    exact hw.elim
  | succ n_ ih =>
    intro x3 x4 m_came m_byDepth m_byGuesser m_line m_noughts m_ones m_weights m_ownCost m_way m_own m_mixed m_guessAt H locs ls hw hP hD hS hl
    unfold wp_X5_goes_L11 at hw
    refine lv_iload hx hb dX5_goes_11 (lv_at hl 2 rfl) ?_
    refine lv_aload_n hx hb dX5_goes_13 rfl (lv_at hl 0 rfl) ?_
    refine cc_vi (N := nM E) (ws := wM E a m_states m_came m_byDepth m_byGuesser m_outLong m_low m_textLong m_place m_readLong m_now m_past m_refused m_line m_noughts m_ones m_weights m_ownCost m_way m_own m_mixed m_guessAt m_treeCost m_isLeaf m_inTree m_out m_text m_read) (As := []) (rest := [.int x4]) ⟨hx, hb, hml, hown, hts⟩ (nM_ok E) hE hA hP hD hS (met_X5_many l E a _ m_states m_came m_byDepth m_byGuesser m_outLong m_low m_textLong m_place m_readLong m_now m_past m_refused m_line m_noughts m_ones m_weights m_ownCost m_way m_own m_mixed m_guessAt m_treeCost m_isLeaf m_inTree m_out m_text m_read hw) (cw_X5_112 hts ⟨Nat.le_of_ble_eq_true rfl, Nat.le_of_ble_eq_true rfl⟩) (va_recv hK hP (ci := 5) (q0 := 0) rfl rfl) rfl hl.1 rfl (Nat.le_of_ble_eq_true rfl) dX5_goes_14 ⟨Nat.le_of_ble_eq_true rfl, Nat.le_of_ble_eq_true rfl⟩ (fun r14 u H locs hw hP hD hS => ?_)
    have hP : va_P E.1 vwCl (wM E a m_states m_came m_byDepth m_byGuesser m_outLong m_low m_textLong m_place m_readLong m_now m_past m_refused m_line m_noughts m_ones m_weights m_ownCost m_way m_own m_mixed m_guessAt m_treeCost m_isLeaf m_inTree m_out m_text m_read) H := hP
    have hD : va_D A (wM E a m_states m_came m_byDepth m_byGuesser m_outLong m_low m_textLong m_place m_readLong m_now m_past m_refused m_line m_noughts m_ones m_weights m_ownCost m_way m_own m_mixed m_guessAt m_treeCost m_isLeaf m_inTree m_out m_text m_read) := hD
    refine lv_icmp_ge (tgt := 57) hx hb dX5_goes_17 (by decide) (fun c_ => ?_) (fun c_ => ?_)
    · have hw := hw.1 c_
      refine lv_iload_n hx hb dX5_goes_57 rfl (lv_at hl 1 rfl) ?_
      exact W.iret (v := x3) hx hb hr (fun t ht hW => ⟨⟨x3, (m_came, m_byDepth, m_byGuesser, m_line, m_noughts, m_ones, m_weights, m_ownCost, m_way, m_own, m_mixed, m_guessAt), rfl, hw, by rw [ht]; exact hP, hD⟩, hS.F ht⟩) hS.2.2 dX5_goes_58 hlk
    · have hw := hw.2 c_
      refine lv_iload_n hx hb dX5_goes_20 rfl (lv_at hl 1 rfl) ?_
      refine lv_aload_n hx hb dX5_goes_21 rfl (lv_at hl 0 rfl) ?_
      refine cc_vi (N := nM E) (ws := wM E a m_states m_came m_byDepth m_byGuesser m_outLong m_low m_textLong m_place m_readLong m_now m_past m_refused m_line m_noughts m_ones m_weights m_ownCost m_way m_own m_mixed m_guessAt m_treeCost m_isLeaf m_inTree m_out m_text m_read) (As := []) (rest := [.int x3]) ⟨hx, hb, hml, hown, hts⟩ (nM_ok E) hE hA hP hD hS (met_X5_guesses l E a _ m_states m_came m_byDepth m_byGuesser m_outLong m_low m_textLong m_place m_readLong m_now m_past m_refused m_line m_noughts m_ones m_weights m_ownCost m_way m_own m_mixed m_guessAt m_treeCost m_isLeaf m_inTree m_out m_text m_read hw) (cw_X5_116 hts ⟨Nat.le_of_ble_eq_true rfl, Nat.le_of_ble_eq_true rfl⟩) (va_recv hK hP (ci := 5) (q0 := 0) rfl rfl) rfl hl.1 rfl (Nat.le_of_ble_eq_true rfl) dX5_goes_22 ⟨Nat.le_of_ble_eq_true rfl, Nat.le_of_ble_eq_true rfl⟩ (fun r22 u H locs hw hP hD hS => ?_)
      obtain ⟨m_way_22, m_own_22, m_mixed_22⟩ := u
      dsimp only at hw
      have hP : va_P E.1 vwCl (wM E a m_states m_came m_byDepth m_byGuesser m_outLong m_low m_textLong m_place m_readLong m_now m_past m_refused m_line m_noughts m_ones m_weights m_ownCost m_way_22 m_own_22 m_mixed_22 m_guessAt m_treeCost m_isLeaf m_inTree m_out m_text m_read) H := hP
      have hD : va_D A (wM E a m_states m_came m_byDepth m_byGuesser m_outLong m_low m_textLong m_place m_readLong m_now m_past m_refused m_line m_noughts m_ones m_weights m_ownCost m_way_22 m_own_22 m_mixed_22 m_guessAt m_treeCost m_isLeaf m_inTree m_out m_text m_read) := hD
      refine lv_aload_n hx hb dX5_goes_25 rfl (lv_at hl 0 rfl) ?_
      refine va_get (D := E.1) (ci := 5) (v := .ref (a 1)) (C := RX5) (T := TX5) (N := 27) hx hb hts in_X5 hown hK hP 0 rfl rfl 0 (by decide) (hts _ q698) (fun _ h9 => h9) rfl dX5_goes_26 ?_
      refine lv_iload hx hb dX5_goes_29 (lv_at hl 2 rfl) ?_
      obtain ⟨hi_, hw⟩ := hw
      refine va_iald hx hb hK hP 1 0 rfl rfl hi_ dX5_goes_31 ?_
      refine cc_si (As := [.int r22, .int (m_now x4.toNatClampNeg)]) (rest := [.int x3]) ⟨hx, hb, hml, hown, hts⟩ (met_X5_odds l r22 (m_now x4.toNatClampNeg) hw) (cw_X5_97 hts ⟨Nat.le_of_ble_eq_true rfl, Nat.le_of_ble_eq_true rfl⟩) rfl hl.1 rfl (Nat.le_of_ble_eq_true rfl) dX5_goes_32 ⟨Nat.le_of_ble_eq_true rfl, Nat.le_of_ble_eq_true rfl⟩ (fun r32 hw => ?_)
      refine cc_si (As := [.int r32]) (rest := [.int x3]) ⟨hx, hb, hml, hown, hts⟩ (met_X5_bitsOf l r32 hw) (cw_X5_105 hts ⟨Nat.le_of_ble_eq_true rfl, Nat.le_of_ble_eq_true rfl⟩) rfl hl.1 rfl (Nat.le_of_ble_eq_true rfl) dX5_goes_35 ⟨Nat.le_of_ble_eq_true rfl, Nat.le_of_ble_eq_true rfl⟩ (fun r35 hw => ?_)
      refine lv_iadd hx hb dX5_goes_38 ?_
      refine lv_topi (fun v39 e_v39 => ?_)
      have hw := hw v39 e_v39
      refine lv_istore_n (lv' := [(3, .int v39), (0, .ref (a 0)), (4, .int x4)]) hx hb dX5_goes_39 rfl hl (by decide) rfl (fun ls hl => ?_)
      refine lv_aload_n hx hb dX5_goes_40 rfl (lv_at hl 1 rfl) ?_
      refine lv_aload_n hx hb dX5_goes_41 rfl (lv_at hl 1 rfl) ?_
      refine va_get (D := E.1) (ci := 5) (v := .ref (a 1)) (C := RX5) (T := TX5) (N := 27) hx hb hts in_X5 hown hK hP 0 rfl rfl 0 (by decide) (hts _ q698) (fun _ h9 => h9) rfl dX5_goes_42 ?_
      refine lv_iload hx hb dX5_goes_45 (lv_at hl 2 rfl) ?_
      obtain ⟨hi_, hw⟩ := hw
      refine va_iald hx hb hK hP 1 0 rfl rfl hi_ dX5_goes_47 ?_
      refine cc_vv (N := nM E) (ws := wM E a m_states m_came m_byDepth m_byGuesser m_outLong m_low m_textLong m_place m_readLong m_now m_past m_refused m_line m_noughts m_ones m_weights m_ownCost m_way_22 m_own_22 m_mixed_22 m_guessAt m_treeCost m_isLeaf m_inTree m_out m_text m_read) (As := [.int (m_now x4.toNatClampNeg)]) (rest := []) ⟨hx, hb, hml, hown, hts⟩ (nM_ok E) hE hA hP hD hS (met_X5_comes l E a _ m_states m_came m_byDepth m_byGuesser m_outLong m_low m_textLong m_place m_readLong m_now m_past m_refused m_line m_noughts m_ones m_weights m_ownCost m_way_22 m_own_22 m_mixed_22 m_guessAt m_treeCost m_isLeaf m_inTree m_out m_text m_read (m_now x4.toNatClampNeg) hw) (cw_X5_119 hts ⟨Nat.le_of_ble_eq_true rfl, Nat.le_of_ble_eq_true rfl⟩) (va_recv hK hP (ci := 5) (q0 := 0) rfl rfl) rfl hl.1 rfl (Nat.le_of_ble_eq_true rfl) dX5_goes_48 ⟨Nat.le_of_ble_eq_true rfl, Nat.le_of_ble_eq_true rfl⟩ (fun u H locs hw hP hD hS => ?_)
      obtain ⟨m_came_48, m_line_48, m_noughts_48, m_ones_48, m_weights_48, m_ownCost_48, m_guessAt_48⟩ := u
      dsimp only at hw
      have hP : va_P E.1 vwCl (wM E a m_states m_came_48 m_byDepth m_byGuesser m_outLong m_low m_textLong m_place m_readLong m_now m_past m_refused m_line_48 m_noughts_48 m_ones_48 m_weights_48 m_ownCost_48 m_way_22 m_own_22 m_mixed_22 m_guessAt_48 m_treeCost m_isLeaf m_inTree m_out m_text m_read) H := hP
      have hD : va_D A (wM E a m_states m_came_48 m_byDepth m_byGuesser m_outLong m_low m_textLong m_place m_readLong m_now m_past m_refused m_line_48 m_noughts_48 m_ones_48 m_weights_48 m_ownCost_48 m_way_22 m_own_22 m_mixed_22 m_guessAt_48 m_treeCost m_isLeaf m_inTree m_out m_text m_read) := hD
      refine lv_iinc (v := x4 + (1 : Int32)) (lv' := [(4, .int (x4 + (1 : Int32))), (3, .int v39), (0, .ref (a 0))]) hx hb dX5_goes_51 hl (k := 2) rfl (by rfl) (by decide) rfl (fun ls hl => ?_)
      refine lv_goto (tgt := 11) hx hb dX5_goes_54 (by decide) ?_
      exact ih v39 (x4 + (1 : Int32)) m_came_48 m_byDepth m_byGuesser m_line_48 m_noughts_48 m_ones_48 m_weights_48 m_ownCost_48 m_way_22 m_own_22 m_mixed_22 m_guessAt_48 _ _ _ hw hP hD hS (lv_sub hl [2, 1, 0] rfl)
def wp_X5_goes (x1 : Int32) (x2 : Int32) (m_came : Int32) (m_byDepth : Int32) (m_byGuesser : Int32) (m_now : Nat → Int32) (m_line : Nat → Int32) (m_noughts : Nat → Int32) (m_ones : Nat → Int32) (m_weights : Nat → Int32) (m_ownCost : Nat → Int32) (m_way : Nat → Int32) (m_own : Nat → Int32) (m_mixed : Nat → Int32) (m_guessAt : Nat → Int32) (K : Int32 → Int32 → Int32 → Int32 → (Nat → Int32) → (Nat → Int32) → (Nat → Int32) → (Nat → Int32) → (Nat → Int32) → (Nat → Int32) → (Nat → Int32) → (Nat → Int32) → (Nat → Int32) → Prop) : Prop :=
  wp_X5_begins x1 x2 m_came m_byDepth m_byGuesser m_noughts m_ones m_weights m_ownCost (fun m_came_5 m_byDepth_5 m_byGuesser_5 m_noughts_5 m_ones_5 m_weights_5 m_ownCost_5 =>
  ∃ k_, wp_X5_goes_L11 m_now K k_ (0 : Int32) (0 : Int32) m_came_5 m_byDepth_5 m_byGuesser_5 m_line m_noughts_5 m_ones_5 m_weights_5 m_ownCost_5 m_way m_own m_mixed m_guessAt)
set_option maxHeartbeats 4000000 in
set_option maxRecDepth 100000 in
theorem w_X5_goes {p : Program} {l : Launch} {e : Env} {s : State} {m : MethodId} {args : Array Value} {below : List Frame} {meth : Method} {c : Code} {E : gE} {a : Nat → Nat} {A : Nat → Prop} (F : fx_ p s m args meth c RX5 cX5_goes 5 (some .int)) (hE : nM E A s) (hA : ∀ q, s.heap.size ≤ q → A q) (m_states : Int32) (m_outLong : Int32) (m_low : Int64) (m_textLong : Int32) (m_place : Int32) (m_readLong : Int32) (m_past : Nat → Int32) (m_refused : Nat → Int32) (m_treeCost : Nat → Int32) (m_isLeaf : Nat → Int32) (m_inTree : Nat → Int32) (m_out : Nat → Int32) (m_text : Nat → Int32) (m_read : Nat → Int32) (m_now : Nat → Int32) (K : Int32 → Int32 → Int32 → Int32 → (Nat → Int32) → (Nat → Int32) → (Nat → Int32) → (Nat → Int32) → (Nat → Int32) → (Nat → Int32) → (Nat → Int32) → (Nat → Int32) → (Nat → Int32) → Prop) (m_came : Int32) (m_byDepth : Int32) (m_byGuesser : Int32) (m_line : Nat → Int32) (m_noughts : Nat → Int32) (m_ones : Nat → Int32) (m_weights : Nat → Int32) (m_ownCost : Nat → Int32) (m_way : Nat → Int32) (m_own : Nat → Int32) (m_mixed : Nat → Int32) (m_guessAt : Nat → Int32) (x1 : Int32) (x2 : Int32) {H : Heap} {locs : List Loc} {ls : Array Slot} (hw : wp_X5_goes x1 x2 m_came m_byDepth m_byGuesser m_now m_line m_noughts m_ones m_weights m_ownCost m_way m_own m_mixed m_guessAt K) (hP : va_P E.1 vwCl (wM E a m_states m_came m_byDepth m_byGuesser m_outLong m_low m_textLong m_place m_readLong m_now m_past m_refused m_line m_noughts m_ones m_weights m_ownCost m_way m_own m_mixed m_guessAt m_treeCost m_isLeaf m_inTree m_out m_text m_read) H) (hD : va_D A (wM E a m_states m_came m_byDepth m_byGuesser m_outLong m_low m_textLong m_place m_readLong m_now m_past m_refused m_line m_noughts m_ones m_weights m_ownCost m_way m_own m_mixed m_guessAt m_treeCost m_isLeaf m_inTree m_out m_text m_read)) (hS : va_S A s.heap H locs) (hl : lv_has ls 5 [(0, .ref (a 0)), (1, .int x1), (2, .int x2)]) : g_X5_goes p l e s m args below meth c E a A m_states m_outLong m_low m_textLong m_place m_readLong m_past m_refused m_treeCost m_isLeaf m_inTree m_out m_text m_read m_now K H locs 0 ls [] := by
  obtain ⟨hx, hb, hr, hlk, hml, hown, hts⟩ := id F
  have hK : va_K E.1 vwCl (tyL E) s := hE
  unfold wp_X5_goes at hw
  refine lv_iconst (v := 0) hx hb dX5_goes_0 (by decide) ?_
  refine lv_istore_n (lv' := [(3, .int (0 : Int32)), (0, .ref (a 0)), (1, .int x1), (2, .int x2)]) hx hb dX5_goes_1 rfl hl (by decide) rfl (fun ls hl => ?_)
  refine lv_aload_n hx hb dX5_goes_2 rfl (lv_at hl 1 rfl) ?_
  refine lv_iload_n hx hb dX5_goes_3 rfl (lv_at hl 2 rfl) ?_
  refine lv_iload_n hx hb dX5_goes_4 rfl (lv_at hl 3 rfl) ?_
  refine cc_vv (N := nM E) (ws := wM E a m_states m_came m_byDepth m_byGuesser m_outLong m_low m_textLong m_place m_readLong m_now m_past m_refused m_line m_noughts m_ones m_weights m_ownCost m_way m_own m_mixed m_guessAt m_treeCost m_isLeaf m_inTree m_out m_text m_read) (As := [.int x1, .int x2]) (rest := []) ⟨hx, hb, hml, hown, hts⟩ (nM_ok E) hE hA hP hD hS (met_X5_begins l E a _ m_states m_came m_byDepth m_byGuesser m_outLong m_low m_textLong m_place m_readLong m_now m_past m_refused m_line m_noughts m_ones m_weights m_ownCost m_way m_own m_mixed m_guessAt m_treeCost m_isLeaf m_inTree m_out m_text m_read x1 x2 hw) (cw_X5_108 hts ⟨Nat.le_of_ble_eq_true rfl, Nat.le_of_ble_eq_true rfl⟩) (va_recv hK hP (ci := 5) (q0 := 0) rfl rfl) rfl hl.1 rfl (Nat.le_of_ble_eq_true rfl) dX5_goes_5 ⟨Nat.le_of_ble_eq_true rfl, Nat.le_of_ble_eq_true rfl⟩ (fun u H locs hw hP hD hS => ?_)
  obtain ⟨m_came_5, m_byDepth_5, m_byGuesser_5, m_noughts_5, m_ones_5, m_weights_5, m_ownCost_5⟩ := u
  dsimp only at hw
  have hP : va_P E.1 vwCl (wM E a m_states m_came_5 m_byDepth_5 m_byGuesser_5 m_outLong m_low m_textLong m_place m_readLong m_now m_past m_refused m_line m_noughts_5 m_ones_5 m_weights_5 m_ownCost_5 m_way m_own m_mixed m_guessAt m_treeCost m_isLeaf m_inTree m_out m_text m_read) H := hP
  have hD : va_D A (wM E a m_states m_came_5 m_byDepth_5 m_byGuesser_5 m_outLong m_low m_textLong m_place m_readLong m_now m_past m_refused m_line m_noughts_5 m_ones_5 m_weights_5 m_ownCost_5 m_way m_own m_mixed m_guessAt m_treeCost m_isLeaf m_inTree m_out m_text m_read) := hD
  refine lv_iconst (v := 0) hx hb dX5_goes_8 (by decide) ?_
  refine lv_istore (lv' := [(4, .int (0 : Int32)), (3, .int (0 : Int32)), (0, .ref (a 0)), (1, .int x1), (2, .int x2)]) hx hb dX5_goes_9 hl (by decide) rfl (fun ls hl => ?_)
  obtain ⟨k_, hw⟩ := hw
  exact w_X5_goes_L11 F hE hA m_states m_outLong m_low m_textLong m_place m_readLong m_past m_refused m_treeCost m_isLeaf m_inTree m_out m_text m_read m_now K k_ (0 : Int32) (0 : Int32) m_came_5 m_byDepth_5 m_byGuesser_5 m_line m_noughts_5 m_ones_5 m_weights_5 m_ownCost_5 m_way m_own m_mixed m_guessAt _ _ _ hw hP hD hS (lv_sub hl [2, 1, 0] rfl)
theorem met_X5_goes (l : Launch) (E : gE) (a : Nat → Nat) (sz : Nat) (m_states : Int32) (m_came : Int32) (m_byDepth : Int32) (m_byGuesser : Int32) (m_outLong : Int32) (m_low : Int64) (m_textLong : Int32) (m_place : Int32) (m_readLong : Int32) (m_now : Nat → Int32) (m_past : Nat → Int32) (m_refused : Nat → Int32) (m_line : Nat → Int32) (m_noughts : Nat → Int32) (m_ones : Nat → Int32) (m_weights : Nat → Int32) (m_ownCost : Nat → Int32) (m_way : Nat → Int32) (m_own : Nat → Int32) (m_mixed : Nat → Int32) (m_guessAt : Nat → Int32) (m_treeCost : Nat → Int32) (m_isLeaf : Nat → Int32) (m_inTree : Nat → Int32) (m_out : Nat → Int32) (m_text : Nat → Int32) (m_read : Nat → Int32) (x1 : Int32) (x2 : Int32) {K : Int32 → Int32 → Int32 → Int32 → (Nat → Int32) → (Nat → Int32) → (Nat → Int32) → (Nat → Int32) → (Nat → Int32) → (Nat → Int32) → (Nat → Int32) → (Nat → Int32) → (Nat → Int32) → Prop} (hw : wp_X5_goes x1 x2 m_came m_byDepth m_byGuesser m_now m_line m_noughts m_ones m_weights m_ownCost m_way m_own m_mixed m_guessAt K) : Met l yX5_goes (ws_ yX5_goes cX5_goes 5 (some .int)) rm_X5_goes (pr_ (nM E) E (wM E a m_states m_came m_byDepth m_byGuesser m_outLong m_low m_textLong m_place m_readLong m_now m_past m_refused m_line m_noughts m_ones m_weights m_ownCost m_way m_own m_mixed m_guessAt m_treeCost m_isLeaf m_inTree m_out m_text m_read) sz [.ref (a 0), .int x1, .int x2]) (q_X5_goes E a m_states m_outLong m_low m_textLong m_place m_readLong m_past m_refused m_treeCost m_isLeaf m_inTree m_out m_text m_read m_now K (va_A (wM E a m_states m_came m_byDepth m_byGuesser m_outLong m_low m_textLong m_place m_readLong m_now m_past m_refused m_line m_noughts m_ones m_weights m_ownCost m_way m_own m_mixed m_guessAt m_treeCost m_isLeaf m_inTree m_out m_text m_read) sz)) 0 0 (va_A (wM E a m_states m_came m_byDepth m_byGuesser m_outLong m_low m_textLong m_place m_readLong m_now m_past m_refused m_line m_noughts m_ones m_weights m_ownCost m_way m_own m_mixed m_guessAt m_treeCost m_isLeaf m_inTree m_out m_text m_read) sz) :=
  met_of (Qc := fun A => q_X5_goes E a m_states m_outLong m_low m_textLong m_place m_readLong m_past m_refused m_treeCost m_isLeaf m_inTree m_out m_text m_read m_now K A) (by decide) (Nat.le_of_ble_eq_true rfl) (fun _ _ _ _ _ _ _ _ _ F hE hA hP hD hl => w_X5_goes F hE hA m_states m_outLong m_low m_textLong m_place m_readLong m_past m_refused m_treeCost m_isLeaf m_inTree m_out m_text m_read m_now K m_came m_byDepth m_byGuesser m_line m_noughts m_ones m_weights m_ownCost m_way m_own m_mixed m_guessAt x1 x2 hw hP hD va_S.rf hl)
