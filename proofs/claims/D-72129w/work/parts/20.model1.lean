-- printed by wip/gen/gen_model.py
abbrev wM (E : gE) (a : Nat → Nat) (m_states : Int32) (m_came : Int32) (m_byDepth : Int32) (m_byGuesser : Int32) (m_outLong : Int32) (m_low : Int64) (m_textLong : Int32) (m_place : Int32) (m_readLong : Int32) (m_now : Nat → Int32) (m_past : Nat → Int32) (m_refused : Nat → Int32) (m_line : Nat → Int32) (m_noughts : Nat → Int32) (m_ones : Nat → Int32) (m_weights : Nat → Int32) (m_ownCost : Nat → Int32) (m_way : Nat → Int32) (m_own : Nat → Int32) (m_mixed : Nat → Int32) (m_guessAt : Nat → Int32) (m_treeCost : Nat → Int32) (m_isLeaf : Nat → Int32) (m_inTree : Nat → Int32) (m_out : Nat → Int32) (m_text : Nat → Int32) (m_read : Nat → Int32) : va_W := [(a 0, .inr (5, [.ref (a 1), .ref (a 2), .int m_states, .ref (a 3), .ref (a 4), .int m_came, .int m_byDepth, .int m_byGuesser, .ref (a 5), .ref (a 6), .ref (a 7), .ref (a 8), .ref (a 9), .ref (a 10), .ref (a 11), .ref (a 12), .ref (a 13), .ref (a 14), .ref (a 15), .ref (a 16), .int m_outLong, .long m_low, .ref (a 17), .int m_textLong, .int m_place, .ref (a 18), .int m_readLong])),
  (a 1, .inl (E.2 0, 103, .inl m_now)),
  (a 2, .inl (E.2 0, 618, .inl m_past)),
  (a 3, .inl (E.2 0, 3, .inl m_refused)),
  (a 4, .inl (E.2 0, 128, .inl m_line)),
  (a 5, .inl (E.2 0, 127, .inl m_noughts)),
  (a 6, .inl (E.2 0, 127, .inl m_ones)),
  (a 7, .inl (E.2 0, 127, .inl m_weights)),
  (a 8, .inl (E.2 0, 127, .inl m_ownCost)),
  (a 9, .inl (E.2 0, 7, .inl m_way)),
  (a 10, .inl (E.2 0, 7, .inl m_own)),
  (a 11, .inl (E.2 0, 7, .inl m_mixed)),
  (a 12, .inl (E.2 0, 128, .inl m_guessAt)),
  (a 13, .inl (E.2 0, 127, .inl m_treeCost)),
  (a 14, .inl (E.2 1, 127, .inl m_isLeaf)),
  (a 15, .inl (E.2 0, 127, .inl m_inTree)),
  (a 16, .inl (E.2 0, 256, .inl m_out)),
  (a 17, .inl (E.2 0, 120, .inl m_text)),
  (a 18, .inl (E.2 0, 128, .inl m_read))]
-- TreeOddsModel.in (JJJ)Z
abbrev rm_X5_in : Room := { frames := 0, cells := 0, slots := 0, locals := 0 }
abbrev g_X5_in (p : Program) (l : Launch) (e : Env) (s : State) (m : MethodId) (args : Array Value) (below : List Frame) (meth : Method) (c : Code) (K : Int32 → Prop) (pc : Nat) (ls : Array Slot) (st : List Value) : Prop := W p l e rm_X5_in s m args below meth c s.heap [] 0 0 (MQ below (vp_Si K) args s 0 0 (fun _ => False)) (F0 m pc ls st)
def wp_X5_in (x0 : Int64) (x2 : Int64) (x4 : Int64)  (K : Int32 → Prop) : Prop :=
  (x0 < x2 → K (0 : Int32)) ∧
  (¬ x0 < x2 → (x4 < x0 → K (0 : Int32)) ∧
  (¬ x4 < x0 → K (1 : Int32)))
set_option maxHeartbeats 4000000 in
set_option maxRecDepth 100000 in
theorem w_X5_in {p : Program} {l : Launch} {e : Env} {s : State} {m : MethodId} {args : Array Value} {below : List Frame} {meth : Method} {c : Code} (F : fx_ p s m args meth c RX5 cX5_in 6 (some .boolean)) (K : Int32 → Prop)  (x0 : Int64) (x2 : Int64) (x4 : Int64) {ls : Array Slot} (hw : wp_X5_in x0 x2 x4 K) (hl : lv_has ls 6 [(0, .long x0), (2, .long x2), (4, .long x4)]) : g_X5_in p l e s m args below meth c K 0 ls [] := by
  obtain ⟨hx, hb, hr, hlk, hml, hown, hts⟩ := id F
  unfold wp_X5_in at hw
  refine lv_lload_n hx hb dX5_in_0 rfl (lv_at hl 0 rfl) ?_
  refine lv_lload_n hx hb dX5_in_1 rfl (lv_at hl 1 rfl) ?_
  refine W.lcmp hx hb dX5_in_2 ?_
  refine lv_if_lt (tgt := 17) hx hb dX5_in_3 (by decide) (fun c_ => ?_) (fun c_ => ?_)
  · have hw := hw.1 ((lg_cmp_lt _ _).mp c_)
    refine lv_iconst (v := 0) hx hb dX5_in_17 (by decide) ?_
    exact W.zret (v := (0 : Int32)) hx hb hr rfl (fun t ht hW => ⟨(0 : Int32), rfl, hw, ht⟩) (fun _ h => by cases h) dX5_in_18 hlk
  · have hw := hw.2 (fun h9 => c_ ((lg_cmp_lt _ _).mpr h9))
    refine lv_lload_n hx hb dX5_in_6 rfl (lv_at hl 0 rfl) ?_
    refine lv_lload hx hb dX5_in_7 (lv_at hl 2 rfl) ?_
    refine W.lcmp hx hb dX5_in_9 ?_
    refine lv_if_gt (tgt := 17) hx hb dX5_in_10 (by decide) (fun c_ => ?_) (fun c_ => ?_)
    · have hw := hw.1 ((lg_cmp_gt _ _).mp c_)
      refine lv_iconst (v := 0) hx hb dX5_in_17 (by decide) ?_
      exact W.zret (v := (0 : Int32)) hx hb hr rfl (fun t ht hW => ⟨(0 : Int32), rfl, hw, ht⟩) (fun _ h => by cases h) dX5_in_18 hlk
    · have hw := hw.2 (fun h9 => c_ ((lg_cmp_gt _ _).mpr h9))
      refine lv_iconst (v := 1) hx hb dX5_in_13 (by decide) ?_
      refine lv_goto (tgt := 18) hx hb dX5_in_14 (by decide) ?_
      exact W.zret (v := (1 : Int32)) hx hb hr rfl (fun t ht hW => ⟨(1 : Int32), rfl, hw, ht⟩) (fun _ h => by cases h) dX5_in_18 hlk
theorem met_X5_in (l : Launch) (x0 : Int64) (x2 : Int64) (x4 : Int64) {K : Int32 → Prop} (hw : wp_X5_in x0 x2 x4 K) : Met l yX5_in (ws_ yX5_in cX5_in 6 (some .boolean)) rm_X5_in (va_Pc [.long x0, .long x2, .long x4] (fun _ => True)) (vp_Si K) 0 0 (fun _ => False) :=
  met_ofS (by decide) (Nat.le_of_ble_eq_true rfl) (fun _ _ _ _ _ _ _ _ F hl => w_X5_in F K x0 x2 x4 hw hl)
-- TreeOddsModel.nodeOf (II)I
abbrev rm_X5_nodeOf : Room := { frames := 0, cells := 0, slots := 0, locals := 0 }
abbrev g_X5_nodeOf (p : Program) (l : Launch) (e : Env) (s : State) (m : MethodId) (args : Array Value) (below : List Frame) (meth : Method) (c : Code) (K : Int32 → Prop) (pc : Nat) (ls : Array Slot) (st : List Value) : Prop := W p l e rm_X5_nodeOf s m args below meth c s.heap [] 0 0 (MQ below (vp_Si K) args s 0 0 (fun _ => False)) (F0 m pc ls st)
def wp_X5_nodeOf (x0 : Int32) (x1 : Int32)  (K : Int32 → Prop) : Prop :=
  K ((((1 : Int32) <<< (x0 &&& 31)) - (1 : Int32)) + x1)
set_option maxHeartbeats 4000000 in
set_option maxRecDepth 100000 in
theorem w_X5_nodeOf {p : Program} {l : Launch} {e : Env} {s : State} {m : MethodId} {args : Array Value} {below : List Frame} {meth : Method} {c : Code} (F : fx_ p s m args meth c RX5 cX5_nodeOf 2 (some .int)) (K : Int32 → Prop)  (x0 : Int32) (x1 : Int32) {ls : Array Slot} (hw : wp_X5_nodeOf x0 x1 K) (hl : lv_has ls 2 [(0, .int x0), (1, .int x1)]) : g_X5_nodeOf p l e s m args below meth c K 0 ls [] := by
  obtain ⟨hx, hb, hr, hlk, hml, hown, hts⟩ := id F
  unfold wp_X5_nodeOf at hw
  refine lv_iconst (v := 1) hx hb dX5_nodeOf_0 (by decide) ?_
  refine lv_iload_n hx hb dX5_nodeOf_1 rfl (lv_at hl 0 rfl) ?_
  refine lv_ishl hx hb dX5_nodeOf_2 ?_
  refine lv_iconst (v := 1) hx hb dX5_nodeOf_3 (by decide) ?_
  refine lv_isub hx hb dX5_nodeOf_4 ?_
  refine lv_iload_n hx hb dX5_nodeOf_5 rfl (lv_at hl 1 rfl) ?_
  refine lv_iadd hx hb dX5_nodeOf_6 ?_
  exact W.iret (v := (((1 : Int32) <<< (x0 &&& 31)) - (1 : Int32)) + x1) hx hb hr (fun t ht hW => ⟨(((1 : Int32) <<< (x0 &&& 31)) - (1 : Int32)) + x1, rfl, hw, ht⟩) (fun _ h => by cases h) dX5_nodeOf_7 hlk
theorem met_X5_nodeOf (l : Launch) (x0 : Int32) (x1 : Int32) {K : Int32 → Prop} (hw : wp_X5_nodeOf x0 x1 K) : Met l yX5_nodeOf (ws_ yX5_nodeOf cX5_nodeOf 2 (some .int)) rm_X5_nodeOf (va_Pc [.int x0, .int x1] (fun _ => True)) (vp_Si K) 0 0 (fun _ => False) :=
  met_ofS (by decide) (Nat.le_of_ble_eq_true rfl) (fun _ _ _ _ _ _ _ _ F hl => w_X5_nodeOf F K x0 x1 hw hl)
-- TreeOddsModel.held (J)I
abbrev rm_X5_held : Room := { frames := 0, cells := 0, slots := 0, locals := 0 }
abbrev g_X5_held (p : Program) (l : Launch) (e : Env) (s : State) (m : MethodId) (args : Array Value) (below : List Frame) (meth : Method) (c : Code) (K : Int32 → Prop) (pc : Nat) (ls : Array Slot) (st : List Value) : Prop := W p l e rm_X5_held s m args below meth c s.heap [] 0 0 (MQ below (vp_Si K) args s 0 0 (fun _ => False)) (F0 m pc ls st)
def wp_X5_held (x0 : Int64)  (K : Int32 → Prop) : Prop :=
  ((1 : Int64) ≤ x0 → (x0 ≤ (65535 : Int64) → K x0.toInt32) ∧
  (¬ x0 ≤ (65535 : Int64) → K (65535 : Int32))) ∧
  (¬ (1 : Int64) ≤ x0 → K (1 : Int32))
set_option maxHeartbeats 4000000 in
set_option maxRecDepth 100000 in
theorem w_X5_held {p : Program} {l : Launch} {e : Env} {s : State} {m : MethodId} {args : Array Value} {below : List Frame} {meth : Method} {c : Code} (F : fx_ p s m args meth c RX5 cX5_held 2 (some .int)) (K : Int32 → Prop)  (x0 : Int64) {ls : Array Slot} (hw : wp_X5_held x0 K) (hl : lv_has ls 2 [(0, .long x0)]) : g_X5_held p l e s m args below meth c K 0 ls [] := by
  obtain ⟨hx, hb, hr, hlk, hml, hown, hts⟩ := id F
  unfold wp_X5_held at hw
  refine lv_lload_n hx hb dX5_held_0 rfl (lv_at hl 0 rfl) ?_
  refine lv_lconst (v := 1) hx hb dX5_held_1 (by decide) ?_
  refine W.lcmp hx hb dX5_held_2 ?_
  refine lv_if_ge (tgt := 10) hx hb dX5_held_3 (by decide) (fun c_ => ?_) (fun c_ => ?_)
  · have hw := hw.1 ((lg_cmp_ge _ _).mp c_)
    refine lv_lload_n hx hb dX5_held_10 rfl (lv_at hl 0 rfl) ?_
    refine lv_ldc2 hx hb hown (hts _ q847) dX5_held_11 ?_
    refine W.lcmp hx hb dX5_held_14 ?_
    refine lv_if_le (tgt := 23) hx hb dX5_held_15 (by decide) (fun c_ => ?_) (fun c_ => ?_)
    · have hw := hw.1 ((lg_cmp_le _ _).mp c_)
      refine lv_lload_n hx hb dX5_held_23 rfl (lv_at hl 0 rfl) ?_
      refine lv_l2i hx hb dX5_held_24 rfl ?_
      exact W.iret (v := x0.toInt32) hx hb hr (fun t ht hW => ⟨x0.toInt32, rfl, hw, ht⟩) (fun _ h => by cases h) dX5_held_25 hlk
    · have hw := hw.2 (fun h9 => c_ ((lg_cmp_le _ _).mpr h9))
      refine lv_ldc hx hb hown (hts _ q848) dX5_held_18 ?_
      refine lv_goto (tgt := 25) hx hb dX5_held_20 (by decide) ?_
      exact W.iret (v := (65535 : Int32)) hx hb hr (fun t ht hW => ⟨(65535 : Int32), rfl, hw, ht⟩) (fun _ h => by cases h) dX5_held_25 hlk
  · have hw := hw.2 (fun h9 => c_ ((lg_cmp_ge _ _).mpr h9))
    refine lv_iconst (v := 1) hx hb dX5_held_6 (by decide) ?_
    refine lv_goto (tgt := 25) hx hb dX5_held_7 (by decide) ?_
    exact W.iret (v := (1 : Int32)) hx hb hr (fun t ht hW => ⟨(1 : Int32), rfl, hw, ht⟩) (fun _ h => by cases h) dX5_held_25 hlk
theorem met_X5_held (l : Launch) (x0 : Int64) {K : Int32 → Prop} (hw : wp_X5_held x0 K) : Met l yX5_held (ws_ yX5_held cX5_held 2 (some .int)) rm_X5_held (va_Pc [.long x0] (fun _ => True)) (vp_Si K) 0 0 (fun _ => False) :=
  met_ofS (by decide) (Nat.le_of_ble_eq_true rfl) (fun _ _ _ _ _ _ _ _ F hl => w_X5_held F K x0 hw hl)
-- TreeOddsModel.odds (II)I
abbrev rm_X5_odds : Room := { frames := 0, cells := 0, slots := 0, locals := 0 }
abbrev g_X5_odds (p : Program) (l : Launch) (e : Env) (s : State) (m : MethodId) (args : Array Value) (below : List Frame) (meth : Method) (c : Code) (K : Int32 → Prop) (pc : Nat) (ls : Array Slot) (st : List Value) : Prop := W p l e rm_X5_odds s m args below meth c s.heap [] 0 0 (MQ below (vp_Si K) args s 0 0 (fun _ => False)) (F0 m pc ls st)
def wp_X5_odds (x0 : Int32) (x1 : Int32)  (K : Int32 → Prop) : Prop :=
  (x1 = (1 : Int32) → K x0) ∧
  (¬ x1 = (1 : Int32) → K ((65536 : Int32) - x0))
set_option maxHeartbeats 4000000 in
set_option maxRecDepth 100000 in
theorem w_X5_odds {p : Program} {l : Launch} {e : Env} {s : State} {m : MethodId} {args : Array Value} {below : List Frame} {meth : Method} {c : Code} (F : fx_ p s m args meth c RX5 cX5_odds 2 (some .int)) (K : Int32 → Prop)  (x0 : Int32) (x1 : Int32) {ls : Array Slot} (hw : wp_X5_odds x0 x1 K) (hl : lv_has ls 2 [(0, .int x0), (1, .int x1)]) : g_X5_odds p l e s m args below meth c K 0 ls [] := by
  obtain ⟨hx, hb, hr, hlk, hml, hown, hts⟩ := id F
  unfold wp_X5_odds at hw
  refine lv_iload_n hx hb dX5_odds_0 rfl (lv_at hl 1 rfl) ?_
  refine lv_iconst (v := 1) hx hb dX5_odds_1 (by decide) ?_
  refine lv_icmp_ne (tgt := 9) hx hb dX5_odds_2 (by decide) (fun c_ => ?_) (fun c_ => ?_)
  · have hw := hw.2 c_
    refine lv_ldc hx hb hown (hts _ q852) dX5_odds_9 ?_
    refine lv_iload_n hx hb dX5_odds_11 rfl (lv_at hl 0 rfl) ?_
    refine lv_isub hx hb dX5_odds_12 ?_
    exact W.iret (v := (65536 : Int32) - x0) hx hb hr (fun t ht hW => ⟨(65536 : Int32) - x0, rfl, hw, ht⟩) (fun _ h => by cases h) dX5_odds_13 hlk
  · have hw := hw.1 c_
    refine lv_iload_n hx hb dX5_odds_5 rfl (lv_at hl 0 rfl) ?_
    refine lv_goto (tgt := 13) hx hb dX5_odds_6 (by decide) ?_
    exact W.iret (v := x0) hx hb hr (fun t ht hW => ⟨x0, rfl, hw, ht⟩) (fun _ h => by cases h) dX5_odds_13 hlk
theorem met_X5_odds (l : Launch) (x0 : Int32) (x1 : Int32) {K : Int32 → Prop} (hw : wp_X5_odds x0 x1 K) : Met l yX5_odds (ws_ yX5_odds cX5_odds 2 (some .int)) rm_X5_odds (va_Pc [.int x0, .int x1] (fun _ => True)) (vp_Si K) 0 0 (fun _ => False) :=
  met_ofS (by decide) (Nat.le_of_ble_eq_true rfl) (fun _ _ _ _ _ _ _ _ F hl => w_X5_odds F K x0 x1 hw hl)
-- TreeOddsModel.bitsOf (I)I
abbrev rm_X5_bitsOf : Room := { frames := 0, cells := 0, slots := 0, locals := 0 }
abbrev g_X5_bitsOf (p : Program) (l : Launch) (e : Env) (s : State) (m : MethodId) (args : Array Value) (below : List Frame) (meth : Method) (c : Code) (K : Int32 → Prop) (pc : Nat) (ls : Array Slot) (st : List Value) : Prop := W p l e rm_X5_bitsOf s m args below meth c s.heap [] 0 0 (MQ below (vp_Si K) args s 0 0 (fun _ => False)) (F0 m pc ls st)
def wp_X5_bitsOf_L41  (K : Int32 → Prop)  (x1 : Int32) (s0 : Int32) : Prop :=
  K (((16 : Int32) * ((16 : Int32) - x1)) - s0)
set_option maxHeartbeats 4000000 in
set_option maxRecDepth 100000 in
theorem w_X5_bitsOf_L41 {p : Program} {l : Launch} {e : Env} {s : State} {m : MethodId} {args : Array Value} {below : List Frame} {meth : Method} {c : Code} (F : fx_ p s m args meth c RX5 cX5_bitsOf 4 (some .int)) (K : Int32 → Prop)  : ∀ (x1 : Int32) (s0 : Int32) (ls : Array Slot), wp_X5_bitsOf_L41 K x1 s0 → lv_has ls 4 [(1, .int x1)] → g_X5_bitsOf p l e s m args below meth c K 41 ls [.int s0] := by
  obtain ⟨hx, hb, hr, hlk, hml, hown, hts⟩ := id F
  intro x1 s0 ls hw hl
  unfold wp_X5_bitsOf_L41 at hw
  refine lv_istore_n (lv' := [(3, .int s0), (1, .int x1)]) hx hb dX5_bitsOf_41 rfl hl (by decide) rfl (fun ls hl => ?_)
  refine lv_bipush (v := 16) hx hb dX5_bitsOf_42 (by decide) ?_
  refine lv_bipush (v := 16) hx hb dX5_bitsOf_44 (by decide) ?_
  refine lv_iload_n hx hb dX5_bitsOf_46 rfl (lv_at hl 1 rfl) ?_
  refine lv_isub hx hb dX5_bitsOf_47 ?_
  refine lv_imul hx hb dX5_bitsOf_48 ?_
  refine lv_iload_n hx hb dX5_bitsOf_49 rfl (lv_at hl 0 rfl) ?_
  refine lv_isub hx hb dX5_bitsOf_50 ?_
  exact W.iret (v := ((16 : Int32) * ((16 : Int32) - x1)) - s0) hx hb hr (fun t ht hW => ⟨((16 : Int32) * ((16 : Int32) - x1)) - s0, rfl, hw, ht⟩) (fun _ h => by cases h) dX5_bitsOf_51 hlk
def wp_X5_bitsOf_L17  (K : Int32 → Prop)  (x0 : Int32) (x1 : Int32) : Prop :=
  ∀ v22 : Int32, v22 = x0 - ((1 : Int32) <<< (x1 &&& 31)) →
  (x1 < (4 : Int32) → wp_X5_bitsOf_L41 K x1 (v22 <<< (((4 : Int32) - x1) &&& 31))) ∧
  (¬ x1 < (4 : Int32) → wp_X5_bitsOf_L41 K x1 (v22 >>> ((x1 - (4 : Int32)) &&& 31)))
set_option maxHeartbeats 4000000 in
set_option maxRecDepth 100000 in
theorem w_X5_bitsOf_L17 {p : Program} {l : Launch} {e : Env} {s : State} {m : MethodId} {args : Array Value} {below : List Frame} {meth : Method} {c : Code} (F : fx_ p s m args meth c RX5 cX5_bitsOf 4 (some .int)) (K : Int32 → Prop)  : ∀ (x0 : Int32) (x1 : Int32) (ls : Array Slot), wp_X5_bitsOf_L17 K x0 x1 → lv_has ls 4 [(0, .int x0), (1, .int x1)] → g_X5_bitsOf p l e s m args below meth c K 17 ls [] := by
  obtain ⟨hx, hb, hr, hlk, hml, hown, hts⟩ := id F
  intro x0 x1 ls hw hl
  unfold wp_X5_bitsOf_L17 at hw
  refine lv_iload_n hx hb dX5_bitsOf_17 rfl (lv_at hl 0 rfl) ?_
  refine lv_iconst (v := 1) hx hb dX5_bitsOf_18 (by decide) ?_
  refine lv_iload_n hx hb dX5_bitsOf_19 rfl (lv_at hl 1 rfl) ?_
  refine lv_ishl hx hb dX5_bitsOf_20 ?_
  refine lv_isub hx hb dX5_bitsOf_21 ?_
  refine lv_topi (fun v22 e_v22 => ?_)
  have hw := hw v22 e_v22
  refine lv_istore_n (lv' := [(2, .int v22), (0, .int x0), (1, .int x1)]) hx hb dX5_bitsOf_22 rfl hl (by decide) rfl (fun ls hl => ?_)
  refine lv_iload_n hx hb dX5_bitsOf_23 rfl (lv_at hl 2 rfl) ?_
  refine lv_iconst (v := 4) hx hb dX5_bitsOf_24 (by decide) ?_
  refine lv_icmp_lt (tgt := 36) hx hb dX5_bitsOf_25 (by decide) (fun c_ => ?_) (fun c_ => ?_)
  · have hw := hw.1 c_
    refine lv_iload_n hx hb dX5_bitsOf_36 rfl (lv_at hl 0 rfl) ?_
    refine lv_iconst (v := 4) hx hb dX5_bitsOf_37 (by decide) ?_
    refine lv_iload_n hx hb dX5_bitsOf_38 rfl (lv_at hl 2 rfl) ?_
    refine lv_isub hx hb dX5_bitsOf_39 ?_
    refine lv_ishl hx hb dX5_bitsOf_40 ?_
    exact w_X5_bitsOf_L41 F K x1 (v22 <<< (((4 : Int32) - x1) &&& 31)) _ hw (lv_sub hl [2] rfl)
  · have hw := hw.2 c_
    refine lv_iload_n hx hb dX5_bitsOf_28 rfl (lv_at hl 0 rfl) ?_
    refine lv_iload_n hx hb dX5_bitsOf_29 rfl (lv_at hl 2 rfl) ?_
    refine lv_iconst (v := 4) hx hb dX5_bitsOf_30 (by decide) ?_
    refine lv_isub hx hb dX5_bitsOf_31 ?_
    refine lv_ishr hx hb dX5_bitsOf_32 ?_
    refine lv_goto (tgt := 41) hx hb dX5_bitsOf_33 (by decide) ?_
    exact w_X5_bitsOf_L41 F K x1 (v22 >>> ((x1 - (4 : Int32)) &&& 31)) _ hw (lv_sub hl [2] rfl)
def wp_X5_bitsOf_L3  (K : Int32 → Prop)  : Nat → Int32 → Int32 → Prop
  | 0 => fun _ _ => False
  | n_ + 1 => fun x0 x1 =>
  (((x0 >>> (x1 &&& 31)) &&& (1 : Int32)) = 0 → wp_X5_bitsOf_L3 K n_ x0 (x1 + (-1 : Int32))) ∧
  (¬ ((x0 >>> (x1 &&& 31)) &&& (1 : Int32)) = 0 → wp_X5_bitsOf_L17 K x0 x1)
set_option maxHeartbeats 4000000 in
set_option maxRecDepth 100000 in
theorem w_X5_bitsOf_L3 {p : Program} {l : Launch} {e : Env} {s : State} {m : MethodId} {args : Array Value} {below : List Frame} {meth : Method} {c : Code} (F : fx_ p s m args meth c RX5 cX5_bitsOf 4 (some .int)) (K : Int32 → Prop)  : ∀ (n_ : Nat) (x0 : Int32) (x1 : Int32) (ls : Array Slot), wp_X5_bitsOf_L3 K n_ x0 x1 → lv_has ls 4 [(0, .int x0), (1, .int x1)] → g_X5_bitsOf p l e s m args below meth c K 3 ls [] := by
  obtain ⟨hx, hb, hr, hlk, hml, hown, hts⟩ := id F
  intro n_
  induction n_ with
  | zero =>
    intro x0 x1 ls hw hl
    exact hw.elim
  | succ n_ ih =>
    intro x0 x1 ls hw hl
    unfold wp_X5_bitsOf_L3 at hw
    refine lv_iload_n hx hb dX5_bitsOf_3 rfl (lv_at hl 0 rfl) ?_
    refine lv_iload_n hx hb dX5_bitsOf_4 rfl (lv_at hl 1 rfl) ?_
    refine lv_ishr hx hb dX5_bitsOf_5 ?_
    refine lv_iconst (v := 1) hx hb dX5_bitsOf_6 (by decide) ?_
    refine lv_iand hx hb dX5_bitsOf_7 ?_
    refine lv_if_ne (tgt := 17) hx hb dX5_bitsOf_8 (by decide) (fun c_ => ?_) (fun c_ => ?_)
    · have hw := hw.2 c_
      exact w_X5_bitsOf_L17 F K x0 x1 _ hw (lv_sub hl [0, 1] rfl)
    · have hw := hw.1 c_
      refine lv_iinc (v := x1 + (-1 : Int32)) (lv' := [(1, .int (x1 + (-1 : Int32))), (0, .int x0)]) hx hb dX5_bitsOf_11 hl (k := 1) rfl (by rfl) (by decide) rfl (fun ls hl => ?_)
      refine lv_goto (tgt := 3) hx hb dX5_bitsOf_14 (by decide) ?_
      exact ih x0 (x1 + (-1 : Int32)) _ hw (lv_sub hl [1, 0] rfl)
def wp_X5_bitsOf (x0 : Int32)  (K : Int32 → Prop) : Prop :=
  ∃ k_, wp_X5_bitsOf_L3 K k_ x0 (15 : Int32)
set_option maxHeartbeats 4000000 in
set_option maxRecDepth 100000 in
theorem w_X5_bitsOf {p : Program} {l : Launch} {e : Env} {s : State} {m : MethodId} {args : Array Value} {below : List Frame} {meth : Method} {c : Code} (F : fx_ p s m args meth c RX5 cX5_bitsOf 4 (some .int)) (K : Int32 → Prop)  (x0 : Int32) {ls : Array Slot} (hw : wp_X5_bitsOf x0 K) (hl : lv_has ls 4 [(0, .int x0)]) : g_X5_bitsOf p l e s m args below meth c K 0 ls [] := by
  obtain ⟨hx, hb, hr, hlk, hml, hown, hts⟩ := id F
  unfold wp_X5_bitsOf at hw
  refine lv_bipush (v := 15) hx hb dX5_bitsOf_0 (by decide) ?_
  refine lv_istore_n (lv' := [(1, .int (15 : Int32)), (0, .int x0)]) hx hb dX5_bitsOf_2 rfl hl (by decide) rfl (fun ls hl => ?_)
  obtain ⟨k_, hw⟩ := hw
  exact w_X5_bitsOf_L3 F K k_ x0 (15 : Int32) _ hw (lv_sub hl [1, 0] rfl)
theorem met_X5_bitsOf (l : Launch) (x0 : Int32) {K : Int32 → Prop} (hw : wp_X5_bitsOf x0 K) : Met l yX5_bitsOf (ws_ yX5_bitsOf cX5_bitsOf 4 (some .int)) rm_X5_bitsOf (va_Pc [.int x0] (fun _ => True)) (vp_Si K) 0 0 (fun _ => False) :=
  met_ofS (by decide) (Nat.le_of_ble_eq_true rfl) (fun _ _ _ _ _ _ _ _ F hl => w_X5_bitsOf F K x0 hw hl)
-- TreeOddsModel.bad (I)I
abbrev rm_X5_bad : Room := { frames := 0, cells := 0, slots := 0, locals := 0 }
abbrev q_X5_bad (E : gE) (a : Nat → Nat) (m_states : Int32) (m_came : Int32) (m_byDepth : Int32) (m_byGuesser : Int32) (m_outLong : Int32) (m_low : Int64) (m_textLong : Int32) (m_place : Int32) (m_readLong : Int32) (m_now : Nat → Int32) (m_past : Nat → Int32) (m_line : Nat → Int32) (m_noughts : Nat → Int32) (m_ones : Nat → Int32) (m_weights : Nat → Int32) (m_ownCost : Nat → Int32) (m_way : Nat → Int32) (m_own : Nat → Int32) (m_mixed : Nat → Int32) (m_guessAt : Nat → Int32) (m_treeCost : Nat → Int32) (m_isLeaf : Nat → Int32) (m_inTree : Nat → Int32) (m_out : Nat → Int32) (m_text : Nat → Int32) (m_read : Nat → Int32)  (K : Int32 → (Nat → Int32) → Prop) (A : Nat → Prop) : Array Value → State → Outcome → State → Prop := va_Qi (fun (r : Int32) (u : (Nat → Int32)) => K r u) (po_ E A (fun (u : (Nat → Int32)) => wM E a m_states m_came m_byDepth m_byGuesser m_outLong m_low m_textLong m_place m_readLong m_now m_past u m_line m_noughts m_ones m_weights m_ownCost m_way m_own m_mixed m_guessAt m_treeCost m_isLeaf m_inTree m_out m_text m_read)) A
abbrev g_X5_bad (p : Program) (l : Launch) (e : Env) (s : State) (m : MethodId) (args : Array Value) (below : List Frame) (meth : Method) (c : Code) (E : gE) (a : Nat → Nat) (A : Nat → Prop) (m_states : Int32) (m_came : Int32) (m_byDepth : Int32) (m_byGuesser : Int32) (m_outLong : Int32) (m_low : Int64) (m_textLong : Int32) (m_place : Int32) (m_readLong : Int32) (m_now : Nat → Int32) (m_past : Nat → Int32) (m_line : Nat → Int32) (m_noughts : Nat → Int32) (m_ones : Nat → Int32) (m_weights : Nat → Int32) (m_ownCost : Nat → Int32) (m_way : Nat → Int32) (m_own : Nat → Int32) (m_mixed : Nat → Int32) (m_guessAt : Nat → Int32) (m_treeCost : Nat → Int32) (m_isLeaf : Nat → Int32) (m_inTree : Nat → Int32) (m_out : Nat → Int32) (m_text : Nat → Int32) (m_read : Nat → Int32)  (K : Int32 → (Nat → Int32) → Prop) (H : Heap) (locs : List Loc) (pc : Nat) (ls : Array Slot) (st : List Value) : Prop := W p l e rm_X5_bad s m args below meth c H locs 0 0 (MQ below (q_X5_bad E a m_states m_came m_byDepth m_byGuesser m_outLong m_low m_textLong m_place m_readLong m_now m_past m_line m_noughts m_ones m_weights m_ownCost m_way m_own m_mixed m_guessAt m_treeCost m_isLeaf m_inTree m_out m_text m_read K A) args s 0 0 A) (F0 m pc ls st)
def wp_X5_bad (x1 : Int32) (m_refused : Nat → Int32) (K : Int32 → (Nat → Int32) → Prop) : Prop :=
  vp_in (0 : Int32) 3 ∧
  (vp_in (0 : Int32) 3 ∧
  (K x1 (upd m_refused (0 : Int32).toNatClampNeg ((m_refused (0 : Int32).toNatClampNeg) + (1 : Int32)))))
set_option maxHeartbeats 4000000 in
set_option maxRecDepth 100000 in
theorem w_X5_bad {p : Program} {l : Launch} {e : Env} {s : State} {m : MethodId} {args : Array Value} {below : List Frame} {meth : Method} {c : Code} {E : gE} {a : Nat → Nat} {A : Nat → Prop} (F : fx_ p s m args meth c RX5 cX5_bad 2 (some .int)) (hE : nM E A s) (hA : ∀ q, s.heap.size ≤ q → A q) (m_states : Int32) (m_came : Int32) (m_byDepth : Int32) (m_byGuesser : Int32) (m_outLong : Int32) (m_low : Int64) (m_textLong : Int32) (m_place : Int32) (m_readLong : Int32) (m_now : Nat → Int32) (m_past : Nat → Int32) (m_line : Nat → Int32) (m_noughts : Nat → Int32) (m_ones : Nat → Int32) (m_weights : Nat → Int32) (m_ownCost : Nat → Int32) (m_way : Nat → Int32) (m_own : Nat → Int32) (m_mixed : Nat → Int32) (m_guessAt : Nat → Int32) (m_treeCost : Nat → Int32) (m_isLeaf : Nat → Int32) (m_inTree : Nat → Int32) (m_out : Nat → Int32) (m_text : Nat → Int32) (m_read : Nat → Int32)  (K : Int32 → (Nat → Int32) → Prop) (m_refused : Nat → Int32) (x1 : Int32) {H : Heap} {locs : List Loc} {ls : Array Slot} (hw : wp_X5_bad x1 m_refused K) (hP : va_P E.1 vwCl (wM E a m_states m_came m_byDepth m_byGuesser m_outLong m_low m_textLong m_place m_readLong m_now m_past m_refused m_line m_noughts m_ones m_weights m_ownCost m_way m_own m_mixed m_guessAt m_treeCost m_isLeaf m_inTree m_out m_text m_read) H) (hD : va_D A (wM E a m_states m_came m_byDepth m_byGuesser m_outLong m_low m_textLong m_place m_readLong m_now m_past m_refused m_line m_noughts m_ones m_weights m_ownCost m_way m_own m_mixed m_guessAt m_treeCost m_isLeaf m_inTree m_out m_text m_read)) (hS : va_S A s.heap H locs) (hl : lv_has ls 2 [(0, .ref (a 0)), (1, .int x1)]) : g_X5_bad p l e s m args below meth c E a A m_states m_came m_byDepth m_byGuesser m_outLong m_low m_textLong m_place m_readLong m_now m_past m_line m_noughts m_ones m_weights m_ownCost m_way m_own m_mixed m_guessAt m_treeCost m_isLeaf m_inTree m_out m_text m_read K H locs 0 ls [] := by
  obtain ⟨hx, hb, hr, hlk, hml, hown, hts⟩ := id F
  have hK : va_K E.1 vwCl (tyL E) s := hE
  unfold wp_X5_bad at hw
  refine lv_aload_n hx hb dX5_bad_0 rfl (lv_at hl 0 rfl) ?_
  refine va_get (D := E.1) (ci := 5) (v := .ref (a 3)) (C := RX5) (T := TX5) (N := 27) hx hb hts in_X5 hown hK hP 0 rfl rfl 3 (by decide) (hts _ q701) (fun _ h9 => h9) rfl dX5_bad_1 ?_
  refine lv_iconst (v := 0) hx hb dX5_bad_4 (by decide) ?_
  refine lv_dup2_11 hx hb dX5_bad_5 rfl rfl ?_
  obtain ⟨hi_, hw⟩ := hw
  refine va_iald hx hb hK hP 3 0 rfl rfl hi_ dX5_bad_6 ?_
  refine lv_iconst (v := 1) hx hb dX5_bad_7 (by decide) ?_
  refine lv_iadd hx hb dX5_bad_8 ?_
  obtain ⟨hi_, hw⟩ := hw
  refine va_iast hx hb hK hP hD hS 3 0 rfl rfl hi_ dX5_bad_9 (fun H locs hP hD hS => ?_)
  have hP : va_P E.1 vwCl (wM E a m_states m_came m_byDepth m_byGuesser m_outLong m_low m_textLong m_place m_readLong m_now m_past (upd m_refused (0 : Int32).toNatClampNeg ((m_refused (0 : Int32).toNatClampNeg) + (1 : Int32))) m_line m_noughts m_ones m_weights m_ownCost m_way m_own m_mixed m_guessAt m_treeCost m_isLeaf m_inTree m_out m_text m_read) H := hP
  have hD : va_D A (wM E a m_states m_came m_byDepth m_byGuesser m_outLong m_low m_textLong m_place m_readLong m_now m_past (upd m_refused (0 : Int32).toNatClampNeg ((m_refused (0 : Int32).toNatClampNeg) + (1 : Int32))) m_line m_noughts m_ones m_weights m_ownCost m_way m_own m_mixed m_guessAt m_treeCost m_isLeaf m_inTree m_out m_text m_read) := hD
  refine lv_iload_n hx hb dX5_bad_10 rfl (lv_at hl 1 rfl) ?_
  exact W.iret (v := x1) hx hb hr (fun t ht hW => ⟨⟨x1, (upd m_refused (0 : Int32).toNatClampNeg ((m_refused (0 : Int32).toNatClampNeg) + (1 : Int32))), rfl, hw, by rw [ht]; exact hP, hD⟩, hS.F ht⟩) hS.2.2 dX5_bad_11 hlk
theorem met_X5_bad (l : Launch) (E : gE) (a : Nat → Nat) (sz : Nat) (m_states : Int32) (m_came : Int32) (m_byDepth : Int32) (m_byGuesser : Int32) (m_outLong : Int32) (m_low : Int64) (m_textLong : Int32) (m_place : Int32) (m_readLong : Int32) (m_now : Nat → Int32) (m_past : Nat → Int32) (m_refused : Nat → Int32) (m_line : Nat → Int32) (m_noughts : Nat → Int32) (m_ones : Nat → Int32) (m_weights : Nat → Int32) (m_ownCost : Nat → Int32) (m_way : Nat → Int32) (m_own : Nat → Int32) (m_mixed : Nat → Int32) (m_guessAt : Nat → Int32) (m_treeCost : Nat → Int32) (m_isLeaf : Nat → Int32) (m_inTree : Nat → Int32) (m_out : Nat → Int32) (m_text : Nat → Int32) (m_read : Nat → Int32) (x1 : Int32) {K : Int32 → (Nat → Int32) → Prop} (hw : wp_X5_bad x1 m_refused K) : Met l yX5_bad (ws_ yX5_bad cX5_bad 2 (some .int)) rm_X5_bad (pr_ (nM E) E (wM E a m_states m_came m_byDepth m_byGuesser m_outLong m_low m_textLong m_place m_readLong m_now m_past m_refused m_line m_noughts m_ones m_weights m_ownCost m_way m_own m_mixed m_guessAt m_treeCost m_isLeaf m_inTree m_out m_text m_read) sz [.ref (a 0), .int x1]) (q_X5_bad E a m_states m_came m_byDepth m_byGuesser m_outLong m_low m_textLong m_place m_readLong m_now m_past m_line m_noughts m_ones m_weights m_ownCost m_way m_own m_mixed m_guessAt m_treeCost m_isLeaf m_inTree m_out m_text m_read K (va_A (wM E a m_states m_came m_byDepth m_byGuesser m_outLong m_low m_textLong m_place m_readLong m_now m_past m_refused m_line m_noughts m_ones m_weights m_ownCost m_way m_own m_mixed m_guessAt m_treeCost m_isLeaf m_inTree m_out m_text m_read) sz)) 0 0 (va_A (wM E a m_states m_came m_byDepth m_byGuesser m_outLong m_low m_textLong m_place m_readLong m_now m_past m_refused m_line m_noughts m_ones m_weights m_ownCost m_way m_own m_mixed m_guessAt m_treeCost m_isLeaf m_inTree m_out m_text m_read) sz) :=
  met_of (Qc := fun A => q_X5_bad E a m_states m_came m_byDepth m_byGuesser m_outLong m_low m_textLong m_place m_readLong m_now m_past m_line m_noughts m_ones m_weights m_ownCost m_way m_own m_mixed m_guessAt m_treeCost m_isLeaf m_inTree m_out m_text m_read K A) (by decide) (Nat.le_of_ble_eq_true rfl) (fun _ _ _ _ _ _ _ _ _ F hE hA hP hD hl => w_X5_bad F hE hA m_states m_came m_byDepth m_byGuesser m_outLong m_low m_textLong m_place m_readLong m_now m_past m_line m_noughts m_ones m_weights m_ownCost m_way m_own m_mixed m_guessAt m_treeCost m_isLeaf m_inTree m_out m_text m_read K m_refused x1 hw hP hD va_S.rf hl)
-- TreeOddsModel.no ()I
abbrev rm_X5_no : Room := { frames := 0, cells := 0, slots := 0, locals := 0 }
abbrev q_X5_no (E : gE) (a : Nat → Nat) (m_states : Int32) (m_came : Int32) (m_byDepth : Int32) (m_byGuesser : Int32) (m_outLong : Int32) (m_low : Int64) (m_textLong : Int32) (m_place : Int32) (m_readLong : Int32) (m_now : Nat → Int32) (m_past : Nat → Int32) (m_line : Nat → Int32) (m_noughts : Nat → Int32) (m_ones : Nat → Int32) (m_weights : Nat → Int32) (m_ownCost : Nat → Int32) (m_way : Nat → Int32) (m_own : Nat → Int32) (m_mixed : Nat → Int32) (m_guessAt : Nat → Int32) (m_treeCost : Nat → Int32) (m_isLeaf : Nat → Int32) (m_inTree : Nat → Int32) (m_out : Nat → Int32) (m_text : Nat → Int32) (m_read : Nat → Int32)  (K : Int32 → (Nat → Int32) → Prop) (A : Nat → Prop) : Array Value → State → Outcome → State → Prop := va_Qi (fun (r : Int32) (u : (Nat → Int32)) => K r u) (po_ E A (fun (u : (Nat → Int32)) => wM E a m_states m_came m_byDepth m_byGuesser m_outLong m_low m_textLong m_place m_readLong m_now m_past u m_line m_noughts m_ones m_weights m_ownCost m_way m_own m_mixed m_guessAt m_treeCost m_isLeaf m_inTree m_out m_text m_read)) A
abbrev g_X5_no (p : Program) (l : Launch) (e : Env) (s : State) (m : MethodId) (args : Array Value) (below : List Frame) (meth : Method) (c : Code) (E : gE) (a : Nat → Nat) (A : Nat → Prop) (m_states : Int32) (m_came : Int32) (m_byDepth : Int32) (m_byGuesser : Int32) (m_outLong : Int32) (m_low : Int64) (m_textLong : Int32) (m_place : Int32) (m_readLong : Int32) (m_now : Nat → Int32) (m_past : Nat → Int32) (m_line : Nat → Int32) (m_noughts : Nat → Int32) (m_ones : Nat → Int32) (m_weights : Nat → Int32) (m_ownCost : Nat → Int32) (m_way : Nat → Int32) (m_own : Nat → Int32) (m_mixed : Nat → Int32) (m_guessAt : Nat → Int32) (m_treeCost : Nat → Int32) (m_isLeaf : Nat → Int32) (m_inTree : Nat → Int32) (m_out : Nat → Int32) (m_text : Nat → Int32) (m_read : Nat → Int32)  (K : Int32 → (Nat → Int32) → Prop) (H : Heap) (locs : List Loc) (pc : Nat) (ls : Array Slot) (st : List Value) : Prop := W p l e rm_X5_no s m args below meth c H locs 0 0 (MQ below (q_X5_no E a m_states m_came m_byDepth m_byGuesser m_outLong m_low m_textLong m_place m_readLong m_now m_past m_line m_noughts m_ones m_weights m_ownCost m_way m_own m_mixed m_guessAt m_treeCost m_isLeaf m_inTree m_out m_text m_read K A) args s 0 0 A) (F0 m pc ls st)
def wp_X5_no  (m_refused : Nat → Int32) (K : Int32 → (Nat → Int32) → Prop) : Prop :=
  vp_in (1 : Int32) 3 ∧
  (vp_in (1 : Int32) 3 ∧
  (K (-3 : Int32) (upd m_refused (1 : Int32).toNatClampNeg ((m_refused (1 : Int32).toNatClampNeg) + (1 : Int32)))))
set_option maxHeartbeats 4000000 in
set_option maxRecDepth 100000 in
theorem w_X5_no {p : Program} {l : Launch} {e : Env} {s : State} {m : MethodId} {args : Array Value} {below : List Frame} {meth : Method} {c : Code} {E : gE} {a : Nat → Nat} {A : Nat → Prop} (F : fx_ p s m args meth c RX5 cX5_no 1 (some .int)) (hE : nM E A s) (hA : ∀ q, s.heap.size ≤ q → A q) (m_states : Int32) (m_came : Int32) (m_byDepth : Int32) (m_byGuesser : Int32) (m_outLong : Int32) (m_low : Int64) (m_textLong : Int32) (m_place : Int32) (m_readLong : Int32) (m_now : Nat → Int32) (m_past : Nat → Int32) (m_line : Nat → Int32) (m_noughts : Nat → Int32) (m_ones : Nat → Int32) (m_weights : Nat → Int32) (m_ownCost : Nat → Int32) (m_way : Nat → Int32) (m_own : Nat → Int32) (m_mixed : Nat → Int32) (m_guessAt : Nat → Int32) (m_treeCost : Nat → Int32) (m_isLeaf : Nat → Int32) (m_inTree : Nat → Int32) (m_out : Nat → Int32) (m_text : Nat → Int32) (m_read : Nat → Int32)  (K : Int32 → (Nat → Int32) → Prop) (m_refused : Nat → Int32)  {H : Heap} {locs : List Loc} {ls : Array Slot} (hw : wp_X5_no m_refused K) (hP : va_P E.1 vwCl (wM E a m_states m_came m_byDepth m_byGuesser m_outLong m_low m_textLong m_place m_readLong m_now m_past m_refused m_line m_noughts m_ones m_weights m_ownCost m_way m_own m_mixed m_guessAt m_treeCost m_isLeaf m_inTree m_out m_text m_read) H) (hD : va_D A (wM E a m_states m_came m_byDepth m_byGuesser m_outLong m_low m_textLong m_place m_readLong m_now m_past m_refused m_line m_noughts m_ones m_weights m_ownCost m_way m_own m_mixed m_guessAt m_treeCost m_isLeaf m_inTree m_out m_text m_read)) (hS : va_S A s.heap H locs) (hl : lv_has ls 1 [(0, .ref (a 0))]) : g_X5_no p l e s m args below meth c E a A m_states m_came m_byDepth m_byGuesser m_outLong m_low m_textLong m_place m_readLong m_now m_past m_line m_noughts m_ones m_weights m_ownCost m_way m_own m_mixed m_guessAt m_treeCost m_isLeaf m_inTree m_out m_text m_read K H locs 0 ls [] := by
  obtain ⟨hx, hb, hr, hlk, hml, hown, hts⟩ := id F
  have hK : va_K E.1 vwCl (tyL E) s := hE
  unfold wp_X5_no at hw
  refine lv_aload_n hx hb dX5_no_0 rfl (lv_at hl 0 rfl) ?_
  refine va_get (D := E.1) (ci := 5) (v := .ref (a 3)) (C := RX5) (T := TX5) (N := 27) hx hb hts in_X5 hown hK hP 0 rfl rfl 3 (by decide) (hts _ q701) (fun _ h9 => h9) rfl dX5_no_1 ?_
  refine lv_iconst (v := 1) hx hb dX5_no_4 (by decide) ?_
  refine lv_dup2_11 hx hb dX5_no_5 rfl rfl ?_
  obtain ⟨hi_, hw⟩ := hw
  refine va_iald hx hb hK hP 3 0 rfl rfl hi_ dX5_no_6 ?_
  refine lv_iconst (v := 1) hx hb dX5_no_7 (by decide) ?_
  refine lv_iadd hx hb dX5_no_8 ?_
  obtain ⟨hi_, hw⟩ := hw
  refine va_iast hx hb hK hP hD hS 3 0 rfl rfl hi_ dX5_no_9 (fun H locs hP hD hS => ?_)
  have hP : va_P E.1 vwCl (wM E a m_states m_came m_byDepth m_byGuesser m_outLong m_low m_textLong m_place m_readLong m_now m_past (upd m_refused (1 : Int32).toNatClampNeg ((m_refused (1 : Int32).toNatClampNeg) + (1 : Int32))) m_line m_noughts m_ones m_weights m_ownCost m_way m_own m_mixed m_guessAt m_treeCost m_isLeaf m_inTree m_out m_text m_read) H := hP
  have hD : va_D A (wM E a m_states m_came m_byDepth m_byGuesser m_outLong m_low m_textLong m_place m_readLong m_now m_past (upd m_refused (1 : Int32).toNatClampNeg ((m_refused (1 : Int32).toNatClampNeg) + (1 : Int32))) m_line m_noughts m_ones m_weights m_ownCost m_way m_own m_mixed m_guessAt m_treeCost m_isLeaf m_inTree m_out m_text m_read) := hD
  refine lv_bipush (v := (-3)) hx hb dX5_no_10 (by decide) ?_
  exact W.iret (v := (-3 : Int32)) hx hb hr (fun t ht hW => ⟨⟨(-3 : Int32), (upd m_refused (1 : Int32).toNatClampNeg ((m_refused (1 : Int32).toNatClampNeg) + (1 : Int32))), rfl, hw, by rw [ht]; exact hP, hD⟩, hS.F ht⟩) hS.2.2 dX5_no_12 hlk
theorem met_X5_no (l : Launch) (E : gE) (a : Nat → Nat) (sz : Nat) (m_states : Int32) (m_came : Int32) (m_byDepth : Int32) (m_byGuesser : Int32) (m_outLong : Int32) (m_low : Int64) (m_textLong : Int32) (m_place : Int32) (m_readLong : Int32) (m_now : Nat → Int32) (m_past : Nat → Int32) (m_refused : Nat → Int32) (m_line : Nat → Int32) (m_noughts : Nat → Int32) (m_ones : Nat → Int32) (m_weights : Nat → Int32) (m_ownCost : Nat → Int32) (m_way : Nat → Int32) (m_own : Nat → Int32) (m_mixed : Nat → Int32) (m_guessAt : Nat → Int32) (m_treeCost : Nat → Int32) (m_isLeaf : Nat → Int32) (m_inTree : Nat → Int32) (m_out : Nat → Int32) (m_text : Nat → Int32) (m_read : Nat → Int32)  {K : Int32 → (Nat → Int32) → Prop} (hw : wp_X5_no m_refused K) : Met l yX5_no (ws_ yX5_no cX5_no 1 (some .int)) rm_X5_no (pr_ (nM E) E (wM E a m_states m_came m_byDepth m_byGuesser m_outLong m_low m_textLong m_place m_readLong m_now m_past m_refused m_line m_noughts m_ones m_weights m_ownCost m_way m_own m_mixed m_guessAt m_treeCost m_isLeaf m_inTree m_out m_text m_read) sz [.ref (a 0)]) (q_X5_no E a m_states m_came m_byDepth m_byGuesser m_outLong m_low m_textLong m_place m_readLong m_now m_past m_line m_noughts m_ones m_weights m_ownCost m_way m_own m_mixed m_guessAt m_treeCost m_isLeaf m_inTree m_out m_text m_read K (va_A (wM E a m_states m_came m_byDepth m_byGuesser m_outLong m_low m_textLong m_place m_readLong m_now m_past m_refused m_line m_noughts m_ones m_weights m_ownCost m_way m_own m_mixed m_guessAt m_treeCost m_isLeaf m_inTree m_out m_text m_read) sz)) 0 0 (va_A (wM E a m_states m_came m_byDepth m_byGuesser m_outLong m_low m_textLong m_place m_readLong m_now m_past m_refused m_line m_noughts m_ones m_weights m_ownCost m_way m_own m_mixed m_guessAt m_treeCost m_isLeaf m_inTree m_out m_text m_read) sz) :=
  met_of (Qc := fun A => q_X5_no E a m_states m_came m_byDepth m_byGuesser m_outLong m_low m_textLong m_place m_readLong m_now m_past m_line m_noughts m_ones m_weights m_ownCost m_way m_own m_mixed m_guessAt m_treeCost m_isLeaf m_inTree m_out m_text m_read K A) (by decide) (Nat.le_of_ble_eq_true rfl) (fun _ _ _ _ _ _ _ _ _ F hE hA hP hD hl => w_X5_no F hE hA m_states m_came m_byDepth m_byGuesser m_outLong m_low m_textLong m_place m_readLong m_now m_past m_line m_noughts m_ones m_weights m_ownCost m_way m_own m_mixed m_guessAt m_treeCost m_isLeaf m_inTree m_out m_text m_read K m_refused  hw hP hD va_S.rf hl)
-- TreeOddsModel.full ()I
abbrev rm_X5_full : Room := { frames := 0, cells := 0, slots := 0, locals := 0 }
abbrev q_X5_full (E : gE) (a : Nat → Nat) (m_states : Int32) (m_came : Int32) (m_byDepth : Int32) (m_byGuesser : Int32) (m_outLong : Int32) (m_low : Int64) (m_textLong : Int32) (m_place : Int32) (m_readLong : Int32) (m_now : Nat → Int32) (m_past : Nat → Int32) (m_line : Nat → Int32) (m_noughts : Nat → Int32) (m_ones : Nat → Int32) (m_weights : Nat → Int32) (m_ownCost : Nat → Int32) (m_way : Nat → Int32) (m_own : Nat → Int32) (m_mixed : Nat → Int32) (m_guessAt : Nat → Int32) (m_treeCost : Nat → Int32) (m_isLeaf : Nat → Int32) (m_inTree : Nat → Int32) (m_out : Nat → Int32) (m_text : Nat → Int32) (m_read : Nat → Int32)  (K : Int32 → (Nat → Int32) → Prop) (A : Nat → Prop) : Array Value → State → Outcome → State → Prop := va_Qi (fun (r : Int32) (u : (Nat → Int32)) => K r u) (po_ E A (fun (u : (Nat → Int32)) => wM E a m_states m_came m_byDepth m_byGuesser m_outLong m_low m_textLong m_place m_readLong m_now m_past u m_line m_noughts m_ones m_weights m_ownCost m_way m_own m_mixed m_guessAt m_treeCost m_isLeaf m_inTree m_out m_text m_read)) A
abbrev g_X5_full (p : Program) (l : Launch) (e : Env) (s : State) (m : MethodId) (args : Array Value) (below : List Frame) (meth : Method) (c : Code) (E : gE) (a : Nat → Nat) (A : Nat → Prop) (m_states : Int32) (m_came : Int32) (m_byDepth : Int32) (m_byGuesser : Int32) (m_outLong : Int32) (m_low : Int64) (m_textLong : Int32) (m_place : Int32) (m_readLong : Int32) (m_now : Nat → Int32) (m_past : Nat → Int32) (m_line : Nat → Int32) (m_noughts : Nat → Int32) (m_ones : Nat → Int32) (m_weights : Nat → Int32) (m_ownCost : Nat → Int32) (m_way : Nat → Int32) (m_own : Nat → Int32) (m_mixed : Nat → Int32) (m_guessAt : Nat → Int32) (m_treeCost : Nat → Int32) (m_isLeaf : Nat → Int32) (m_inTree : Nat → Int32) (m_out : Nat → Int32) (m_text : Nat → Int32) (m_read : Nat → Int32)  (K : Int32 → (Nat → Int32) → Prop) (H : Heap) (locs : List Loc) (pc : Nat) (ls : Array Slot) (st : List Value) : Prop := W p l e rm_X5_full s m args below meth c H locs 0 0 (MQ below (q_X5_full E a m_states m_came m_byDepth m_byGuesser m_outLong m_low m_textLong m_place m_readLong m_now m_past m_line m_noughts m_ones m_weights m_ownCost m_way m_own m_mixed m_guessAt m_treeCost m_isLeaf m_inTree m_out m_text m_read K A) args s 0 0 A) (F0 m pc ls st)
def wp_X5_full  (m_refused : Nat → Int32) (K : Int32 → (Nat → Int32) → Prop) : Prop :=
  vp_in (2 : Int32) 3 ∧
  (vp_in (2 : Int32) 3 ∧
  (K (-4 : Int32) (upd m_refused (2 : Int32).toNatClampNeg ((m_refused (2 : Int32).toNatClampNeg) + (1 : Int32)))))
set_option maxHeartbeats 4000000 in
set_option maxRecDepth 100000 in
theorem w_X5_full {p : Program} {l : Launch} {e : Env} {s : State} {m : MethodId} {args : Array Value} {below : List Frame} {meth : Method} {c : Code} {E : gE} {a : Nat → Nat} {A : Nat → Prop} (F : fx_ p s m args meth c RX5 cX5_full 1 (some .int)) (hE : nM E A s) (hA : ∀ q, s.heap.size ≤ q → A q) (m_states : Int32) (m_came : Int32) (m_byDepth : Int32) (m_byGuesser : Int32) (m_outLong : Int32) (m_low : Int64) (m_textLong : Int32) (m_place : Int32) (m_readLong : Int32) (m_now : Nat → Int32) (m_past : Nat → Int32) (m_line : Nat → Int32) (m_noughts : Nat → Int32) (m_ones : Nat → Int32) (m_weights : Nat → Int32) (m_ownCost : Nat → Int32) (m_way : Nat → Int32) (m_own : Nat → Int32) (m_mixed : Nat → Int32) (m_guessAt : Nat → Int32) (m_treeCost : Nat → Int32) (m_isLeaf : Nat → Int32) (m_inTree : Nat → Int32) (m_out : Nat → Int32) (m_text : Nat → Int32) (m_read : Nat → Int32)  (K : Int32 → (Nat → Int32) → Prop) (m_refused : Nat → Int32)  {H : Heap} {locs : List Loc} {ls : Array Slot} (hw : wp_X5_full m_refused K) (hP : va_P E.1 vwCl (wM E a m_states m_came m_byDepth m_byGuesser m_outLong m_low m_textLong m_place m_readLong m_now m_past m_refused m_line m_noughts m_ones m_weights m_ownCost m_way m_own m_mixed m_guessAt m_treeCost m_isLeaf m_inTree m_out m_text m_read) H) (hD : va_D A (wM E a m_states m_came m_byDepth m_byGuesser m_outLong m_low m_textLong m_place m_readLong m_now m_past m_refused m_line m_noughts m_ones m_weights m_ownCost m_way m_own m_mixed m_guessAt m_treeCost m_isLeaf m_inTree m_out m_text m_read)) (hS : va_S A s.heap H locs) (hl : lv_has ls 1 [(0, .ref (a 0))]) : g_X5_full p l e s m args below meth c E a A m_states m_came m_byDepth m_byGuesser m_outLong m_low m_textLong m_place m_readLong m_now m_past m_line m_noughts m_ones m_weights m_ownCost m_way m_own m_mixed m_guessAt m_treeCost m_isLeaf m_inTree m_out m_text m_read K H locs 0 ls [] := by
  obtain ⟨hx, hb, hr, hlk, hml, hown, hts⟩ := id F
  have hK : va_K E.1 vwCl (tyL E) s := hE
  unfold wp_X5_full at hw
  refine lv_aload_n hx hb dX5_full_0 rfl (lv_at hl 0 rfl) ?_
  refine va_get (D := E.1) (ci := 5) (v := .ref (a 3)) (C := RX5) (T := TX5) (N := 27) hx hb hts in_X5 hown hK hP 0 rfl rfl 3 (by decide) (hts _ q701) (fun _ h9 => h9) rfl dX5_full_1 ?_
  refine lv_iconst (v := 2) hx hb dX5_full_4 (by decide) ?_
  refine lv_dup2_11 hx hb dX5_full_5 rfl rfl ?_
  obtain ⟨hi_, hw⟩ := hw
  refine va_iald hx hb hK hP 3 0 rfl rfl hi_ dX5_full_6 ?_
  refine lv_iconst (v := 1) hx hb dX5_full_7 (by decide) ?_
  refine lv_iadd hx hb dX5_full_8 ?_
  obtain ⟨hi_, hw⟩ := hw
  refine va_iast hx hb hK hP hD hS 3 0 rfl rfl hi_ dX5_full_9 (fun H locs hP hD hS => ?_)
  have hP : va_P E.1 vwCl (wM E a m_states m_came m_byDepth m_byGuesser m_outLong m_low m_textLong m_place m_readLong m_now m_past (upd m_refused (2 : Int32).toNatClampNeg ((m_refused (2 : Int32).toNatClampNeg) + (1 : Int32))) m_line m_noughts m_ones m_weights m_ownCost m_way m_own m_mixed m_guessAt m_treeCost m_isLeaf m_inTree m_out m_text m_read) H := hP
  have hD : va_D A (wM E a m_states m_came m_byDepth m_byGuesser m_outLong m_low m_textLong m_place m_readLong m_now m_past (upd m_refused (2 : Int32).toNatClampNeg ((m_refused (2 : Int32).toNatClampNeg) + (1 : Int32))) m_line m_noughts m_ones m_weights m_ownCost m_way m_own m_mixed m_guessAt m_treeCost m_isLeaf m_inTree m_out m_text m_read) := hD
  refine lv_bipush (v := (-4)) hx hb dX5_full_10 (by decide) ?_
  exact W.iret (v := (-4 : Int32)) hx hb hr (fun t ht hW => ⟨⟨(-4 : Int32), (upd m_refused (2 : Int32).toNatClampNeg ((m_refused (2 : Int32).toNatClampNeg) + (1 : Int32))), rfl, hw, by rw [ht]; exact hP, hD⟩, hS.F ht⟩) hS.2.2 dX5_full_12 hlk
theorem met_X5_full (l : Launch) (E : gE) (a : Nat → Nat) (sz : Nat) (m_states : Int32) (m_came : Int32) (m_byDepth : Int32) (m_byGuesser : Int32) (m_outLong : Int32) (m_low : Int64) (m_textLong : Int32) (m_place : Int32) (m_readLong : Int32) (m_now : Nat → Int32) (m_past : Nat → Int32) (m_refused : Nat → Int32) (m_line : Nat → Int32) (m_noughts : Nat → Int32) (m_ones : Nat → Int32) (m_weights : Nat → Int32) (m_ownCost : Nat → Int32) (m_way : Nat → Int32) (m_own : Nat → Int32) (m_mixed : Nat → Int32) (m_guessAt : Nat → Int32) (m_treeCost : Nat → Int32) (m_isLeaf : Nat → Int32) (m_inTree : Nat → Int32) (m_out : Nat → Int32) (m_text : Nat → Int32) (m_read : Nat → Int32)  {K : Int32 → (Nat → Int32) → Prop} (hw : wp_X5_full m_refused K) : Met l yX5_full (ws_ yX5_full cX5_full 1 (some .int)) rm_X5_full (pr_ (nM E) E (wM E a m_states m_came m_byDepth m_byGuesser m_outLong m_low m_textLong m_place m_readLong m_now m_past m_refused m_line m_noughts m_ones m_weights m_ownCost m_way m_own m_mixed m_guessAt m_treeCost m_isLeaf m_inTree m_out m_text m_read) sz [.ref (a 0)]) (q_X5_full E a m_states m_came m_byDepth m_byGuesser m_outLong m_low m_textLong m_place m_readLong m_now m_past m_line m_noughts m_ones m_weights m_ownCost m_way m_own m_mixed m_guessAt m_treeCost m_isLeaf m_inTree m_out m_text m_read K (va_A (wM E a m_states m_came m_byDepth m_byGuesser m_outLong m_low m_textLong m_place m_readLong m_now m_past m_refused m_line m_noughts m_ones m_weights m_ownCost m_way m_own m_mixed m_guessAt m_treeCost m_isLeaf m_inTree m_out m_text m_read) sz)) 0 0 (va_A (wM E a m_states m_came m_byDepth m_byGuesser m_outLong m_low m_textLong m_place m_readLong m_now m_past m_refused m_line m_noughts m_ones m_weights m_ownCost m_way m_own m_mixed m_guessAt m_treeCost m_isLeaf m_inTree m_out m_text m_read) sz) :=
  met_of (Qc := fun A => q_X5_full E a m_states m_came m_byDepth m_byGuesser m_outLong m_low m_textLong m_place m_readLong m_now m_past m_line m_noughts m_ones m_weights m_ownCost m_way m_own m_mixed m_guessAt m_treeCost m_isLeaf m_inTree m_out m_text m_read K A) (by decide) (Nat.le_of_ble_eq_true rfl) (fun _ _ _ _ _ _ _ _ _ F hE hA hP hD hl => w_X5_full F hE hA m_states m_came m_byDepth m_byGuesser m_outLong m_low m_textLong m_place m_readLong m_now m_past m_line m_noughts m_ones m_weights m_ownCost m_way m_own m_mixed m_guessAt m_treeCost m_isLeaf m_inTree m_out m_text m_read K m_refused  hw hP hD va_S.rf hl)
-- TreeOddsModel.many ()I
abbrev rm_X5_many : Room := { frames := 0, cells := 0, slots := 0, locals := 0 }
abbrev q_X5_many (E : gE) (a : Nat → Nat) (m_states : Int32) (m_came : Int32) (m_byDepth : Int32) (m_byGuesser : Int32) (m_outLong : Int32) (m_low : Int64) (m_textLong : Int32) (m_place : Int32) (m_readLong : Int32) (m_past : Nat → Int32) (m_refused : Nat → Int32) (m_line : Nat → Int32) (m_noughts : Nat → Int32) (m_ones : Nat → Int32) (m_weights : Nat → Int32) (m_ownCost : Nat → Int32) (m_way : Nat → Int32) (m_own : Nat → Int32) (m_mixed : Nat → Int32) (m_guessAt : Nat → Int32) (m_treeCost : Nat → Int32) (m_isLeaf : Nat → Int32) (m_inTree : Nat → Int32) (m_out : Nat → Int32) (m_text : Nat → Int32) (m_read : Nat → Int32) (m_now : Nat → Int32) (K : Int32 → Prop) (A : Nat → Prop) : Array Value → State → Outcome → State → Prop := va_Qi (fun (r : Int32) (_ : Unit) => K r) (po_ E A (fun (_ : Unit) => wM E a m_states m_came m_byDepth m_byGuesser m_outLong m_low m_textLong m_place m_readLong m_now m_past m_refused m_line m_noughts m_ones m_weights m_ownCost m_way m_own m_mixed m_guessAt m_treeCost m_isLeaf m_inTree m_out m_text m_read)) A
abbrev g_X5_many (p : Program) (l : Launch) (e : Env) (s : State) (m : MethodId) (args : Array Value) (below : List Frame) (meth : Method) (c : Code) (E : gE) (a : Nat → Nat) (A : Nat → Prop) (m_states : Int32) (m_came : Int32) (m_byDepth : Int32) (m_byGuesser : Int32) (m_outLong : Int32) (m_low : Int64) (m_textLong : Int32) (m_place : Int32) (m_readLong : Int32) (m_past : Nat → Int32) (m_refused : Nat → Int32) (m_line : Nat → Int32) (m_noughts : Nat → Int32) (m_ones : Nat → Int32) (m_weights : Nat → Int32) (m_ownCost : Nat → Int32) (m_way : Nat → Int32) (m_own : Nat → Int32) (m_mixed : Nat → Int32) (m_guessAt : Nat → Int32) (m_treeCost : Nat → Int32) (m_isLeaf : Nat → Int32) (m_inTree : Nat → Int32) (m_out : Nat → Int32) (m_text : Nat → Int32) (m_read : Nat → Int32) (m_now : Nat → Int32) (K : Int32 → Prop) (H : Heap) (locs : List Loc) (pc : Nat) (ls : Array Slot) (st : List Value) : Prop := W p l e rm_X5_many s m args below meth c H locs 0 0 (MQ below (q_X5_many E a m_states m_came m_byDepth m_byGuesser m_outLong m_low m_textLong m_place m_readLong m_past m_refused m_line m_noughts m_ones m_weights m_ownCost m_way m_own m_mixed m_guessAt m_treeCost m_isLeaf m_inTree m_out m_text m_read m_now K A) args s 0 0 A) (F0 m pc ls st)
def wp_X5_many  (m_now : Nat → Int32) (K : Int32 → Prop) : Prop :=
  vp_in (100 : Int32) 103 ∧
  (K (m_now (100 : Int32).toNatClampNeg))
set_option maxHeartbeats 4000000 in
set_option maxRecDepth 100000 in
theorem w_X5_many {p : Program} {l : Launch} {e : Env} {s : State} {m : MethodId} {args : Array Value} {below : List Frame} {meth : Method} {c : Code} {E : gE} {a : Nat → Nat} {A : Nat → Prop} (F : fx_ p s m args meth c RX5 cX5_many 1 (some .int)) (hE : nM E A s) (hA : ∀ q, s.heap.size ≤ q → A q) (m_states : Int32) (m_came : Int32) (m_byDepth : Int32) (m_byGuesser : Int32) (m_outLong : Int32) (m_low : Int64) (m_textLong : Int32) (m_place : Int32) (m_readLong : Int32) (m_past : Nat → Int32) (m_refused : Nat → Int32) (m_line : Nat → Int32) (m_noughts : Nat → Int32) (m_ones : Nat → Int32) (m_weights : Nat → Int32) (m_ownCost : Nat → Int32) (m_way : Nat → Int32) (m_own : Nat → Int32) (m_mixed : Nat → Int32) (m_guessAt : Nat → Int32) (m_treeCost : Nat → Int32) (m_isLeaf : Nat → Int32) (m_inTree : Nat → Int32) (m_out : Nat → Int32) (m_text : Nat → Int32) (m_read : Nat → Int32) (m_now : Nat → Int32) (K : Int32 → Prop)   {H : Heap} {locs : List Loc} {ls : Array Slot} (hw : wp_X5_many m_now K) (hP : va_P E.1 vwCl (wM E a m_states m_came m_byDepth m_byGuesser m_outLong m_low m_textLong m_place m_readLong m_now m_past m_refused m_line m_noughts m_ones m_weights m_ownCost m_way m_own m_mixed m_guessAt m_treeCost m_isLeaf m_inTree m_out m_text m_read) H) (hD : va_D A (wM E a m_states m_came m_byDepth m_byGuesser m_outLong m_low m_textLong m_place m_readLong m_now m_past m_refused m_line m_noughts m_ones m_weights m_ownCost m_way m_own m_mixed m_guessAt m_treeCost m_isLeaf m_inTree m_out m_text m_read)) (hS : va_S A s.heap H locs) (hl : lv_has ls 1 [(0, .ref (a 0))]) : g_X5_many p l e s m args below meth c E a A m_states m_came m_byDepth m_byGuesser m_outLong m_low m_textLong m_place m_readLong m_past m_refused m_line m_noughts m_ones m_weights m_ownCost m_way m_own m_mixed m_guessAt m_treeCost m_isLeaf m_inTree m_out m_text m_read m_now K H locs 0 ls [] := by
  obtain ⟨hx, hb, hr, hlk, hml, hown, hts⟩ := id F
  have hK : va_K E.1 vwCl (tyL E) s := hE
  unfold wp_X5_many at hw
  refine lv_aload_n hx hb dX5_many_0 rfl (lv_at hl 0 rfl) ?_
  refine va_get (D := E.1) (ci := 5) (v := .ref (a 1)) (C := RX5) (T := TX5) (N := 27) hx hb hts in_X5 hown hK hP 0 rfl rfl 0 (by decide) (hts _ q698) (fun _ h9 => h9) rfl dX5_many_1 ?_
  refine lv_bipush (v := 100) hx hb dX5_many_4 (by decide) ?_
  obtain ⟨hi_, hw⟩ := hw
  refine va_iald hx hb hK hP 1 0 rfl rfl hi_ dX5_many_6 ?_
  exact W.iret (v := m_now (100 : Int32).toNatClampNeg) hx hb hr (fun t ht hW => ⟨⟨m_now (100 : Int32).toNatClampNeg, (), rfl, hw, by rw [ht]; exact hP, hD⟩, hS.F ht⟩) hS.2.2 dX5_many_7 hlk
theorem met_X5_many (l : Launch) (E : gE) (a : Nat → Nat) (sz : Nat) (m_states : Int32) (m_came : Int32) (m_byDepth : Int32) (m_byGuesser : Int32) (m_outLong : Int32) (m_low : Int64) (m_textLong : Int32) (m_place : Int32) (m_readLong : Int32) (m_now : Nat → Int32) (m_past : Nat → Int32) (m_refused : Nat → Int32) (m_line : Nat → Int32) (m_noughts : Nat → Int32) (m_ones : Nat → Int32) (m_weights : Nat → Int32) (m_ownCost : Nat → Int32) (m_way : Nat → Int32) (m_own : Nat → Int32) (m_mixed : Nat → Int32) (m_guessAt : Nat → Int32) (m_treeCost : Nat → Int32) (m_isLeaf : Nat → Int32) (m_inTree : Nat → Int32) (m_out : Nat → Int32) (m_text : Nat → Int32) (m_read : Nat → Int32)  {K : Int32 → Prop} (hw : wp_X5_many m_now K) : Met l yX5_many (ws_ yX5_many cX5_many 1 (some .int)) rm_X5_many (pr_ (nM E) E (wM E a m_states m_came m_byDepth m_byGuesser m_outLong m_low m_textLong m_place m_readLong m_now m_past m_refused m_line m_noughts m_ones m_weights m_ownCost m_way m_own m_mixed m_guessAt m_treeCost m_isLeaf m_inTree m_out m_text m_read) sz [.ref (a 0)]) (q_X5_many E a m_states m_came m_byDepth m_byGuesser m_outLong m_low m_textLong m_place m_readLong m_past m_refused m_line m_noughts m_ones m_weights m_ownCost m_way m_own m_mixed m_guessAt m_treeCost m_isLeaf m_inTree m_out m_text m_read m_now K (va_A (wM E a m_states m_came m_byDepth m_byGuesser m_outLong m_low m_textLong m_place m_readLong m_now m_past m_refused m_line m_noughts m_ones m_weights m_ownCost m_way m_own m_mixed m_guessAt m_treeCost m_isLeaf m_inTree m_out m_text m_read) sz)) 0 0 (va_A (wM E a m_states m_came m_byDepth m_byGuesser m_outLong m_low m_textLong m_place m_readLong m_now m_past m_refused m_line m_noughts m_ones m_weights m_ownCost m_way m_own m_mixed m_guessAt m_treeCost m_isLeaf m_inTree m_out m_text m_read) sz) :=
  met_of (Qc := fun A => q_X5_many E a m_states m_came m_byDepth m_byGuesser m_outLong m_low m_textLong m_place m_readLong m_past m_refused m_line m_noughts m_ones m_weights m_ownCost m_way m_own m_mixed m_guessAt m_treeCost m_isLeaf m_inTree m_out m_text m_read m_now K A) (by decide) (Nat.le_of_ble_eq_true rfl) (fun _ _ _ _ _ _ _ _ _ F hE hA hP hD hl => w_X5_many F hE hA m_states m_came m_byDepth m_byGuesser m_outLong m_low m_textLong m_place m_readLong m_past m_refused m_line m_noughts m_ones m_weights m_ownCost m_way m_own m_mixed m_guessAt m_treeCost m_isLeaf m_inTree m_out m_text m_read m_now K   hw hP hD va_S.rf hl)
-- TreeOddsModel.depth ()I
abbrev rm_X5_depth : Room := { frames := 0, cells := 0, slots := 0, locals := 0 }
abbrev q_X5_depth (E : gE) (a : Nat → Nat) (m_states : Int32) (m_came : Int32) (m_byDepth : Int32) (m_byGuesser : Int32) (m_outLong : Int32) (m_low : Int64) (m_textLong : Int32) (m_place : Int32) (m_readLong : Int32) (m_past : Nat → Int32) (m_refused : Nat → Int32) (m_line : Nat → Int32) (m_noughts : Nat → Int32) (m_ones : Nat → Int32) (m_weights : Nat → Int32) (m_ownCost : Nat → Int32) (m_way : Nat → Int32) (m_own : Nat → Int32) (m_mixed : Nat → Int32) (m_guessAt : Nat → Int32) (m_treeCost : Nat → Int32) (m_isLeaf : Nat → Int32) (m_inTree : Nat → Int32) (m_out : Nat → Int32) (m_text : Nat → Int32) (m_read : Nat → Int32) (m_now : Nat → Int32) (K : Int32 → Prop) (A : Nat → Prop) : Array Value → State → Outcome → State → Prop := va_Qi (fun (r : Int32) (_ : Unit) => K r) (po_ E A (fun (_ : Unit) => wM E a m_states m_came m_byDepth m_byGuesser m_outLong m_low m_textLong m_place m_readLong m_now m_past m_refused m_line m_noughts m_ones m_weights m_ownCost m_way m_own m_mixed m_guessAt m_treeCost m_isLeaf m_inTree m_out m_text m_read)) A
abbrev g_X5_depth (p : Program) (l : Launch) (e : Env) (s : State) (m : MethodId) (args : Array Value) (below : List Frame) (meth : Method) (c : Code) (E : gE) (a : Nat → Nat) (A : Nat → Prop) (m_states : Int32) (m_came : Int32) (m_byDepth : Int32) (m_byGuesser : Int32) (m_outLong : Int32) (m_low : Int64) (m_textLong : Int32) (m_place : Int32) (m_readLong : Int32) (m_past : Nat → Int32) (m_refused : Nat → Int32) (m_line : Nat → Int32) (m_noughts : Nat → Int32) (m_ones : Nat → Int32) (m_weights : Nat → Int32) (m_ownCost : Nat → Int32) (m_way : Nat → Int32) (m_own : Nat → Int32) (m_mixed : Nat → Int32) (m_guessAt : Nat → Int32) (m_treeCost : Nat → Int32) (m_isLeaf : Nat → Int32) (m_inTree : Nat → Int32) (m_out : Nat → Int32) (m_text : Nat → Int32) (m_read : Nat → Int32) (m_now : Nat → Int32) (K : Int32 → Prop) (H : Heap) (locs : List Loc) (pc : Nat) (ls : Array Slot) (st : List Value) : Prop := W p l e rm_X5_depth s m args below meth c H locs 0 0 (MQ below (q_X5_depth E a m_states m_came m_byDepth m_byGuesser m_outLong m_low m_textLong m_place m_readLong m_past m_refused m_line m_noughts m_ones m_weights m_ownCost m_way m_own m_mixed m_guessAt m_treeCost m_isLeaf m_inTree m_out m_text m_read m_now K A) args s 0 0 A) (F0 m pc ls st)
def wp_X5_depth  (m_now : Nat → Int32) (K : Int32 → Prop) : Prop :=
  vp_in (101 : Int32) 103 ∧
  (K (m_now (101 : Int32).toNatClampNeg))
set_option maxHeartbeats 4000000 in
set_option maxRecDepth 100000 in
theorem w_X5_depth {p : Program} {l : Launch} {e : Env} {s : State} {m : MethodId} {args : Array Value} {below : List Frame} {meth : Method} {c : Code} {E : gE} {a : Nat → Nat} {A : Nat → Prop} (F : fx_ p s m args meth c RX5 cX5_depth 1 (some .int)) (hE : nM E A s) (hA : ∀ q, s.heap.size ≤ q → A q) (m_states : Int32) (m_came : Int32) (m_byDepth : Int32) (m_byGuesser : Int32) (m_outLong : Int32) (m_low : Int64) (m_textLong : Int32) (m_place : Int32) (m_readLong : Int32) (m_past : Nat → Int32) (m_refused : Nat → Int32) (m_line : Nat → Int32) (m_noughts : Nat → Int32) (m_ones : Nat → Int32) (m_weights : Nat → Int32) (m_ownCost : Nat → Int32) (m_way : Nat → Int32) (m_own : Nat → Int32) (m_mixed : Nat → Int32) (m_guessAt : Nat → Int32) (m_treeCost : Nat → Int32) (m_isLeaf : Nat → Int32) (m_inTree : Nat → Int32) (m_out : Nat → Int32) (m_text : Nat → Int32) (m_read : Nat → Int32) (m_now : Nat → Int32) (K : Int32 → Prop)   {H : Heap} {locs : List Loc} {ls : Array Slot} (hw : wp_X5_depth m_now K) (hP : va_P E.1 vwCl (wM E a m_states m_came m_byDepth m_byGuesser m_outLong m_low m_textLong m_place m_readLong m_now m_past m_refused m_line m_noughts m_ones m_weights m_ownCost m_way m_own m_mixed m_guessAt m_treeCost m_isLeaf m_inTree m_out m_text m_read) H) (hD : va_D A (wM E a m_states m_came m_byDepth m_byGuesser m_outLong m_low m_textLong m_place m_readLong m_now m_past m_refused m_line m_noughts m_ones m_weights m_ownCost m_way m_own m_mixed m_guessAt m_treeCost m_isLeaf m_inTree m_out m_text m_read)) (hS : va_S A s.heap H locs) (hl : lv_has ls 1 [(0, .ref (a 0))]) : g_X5_depth p l e s m args below meth c E a A m_states m_came m_byDepth m_byGuesser m_outLong m_low m_textLong m_place m_readLong m_past m_refused m_line m_noughts m_ones m_weights m_ownCost m_way m_own m_mixed m_guessAt m_treeCost m_isLeaf m_inTree m_out m_text m_read m_now K H locs 0 ls [] := by
  obtain ⟨hx, hb, hr, hlk, hml, hown, hts⟩ := id F
  have hK : va_K E.1 vwCl (tyL E) s := hE
  unfold wp_X5_depth at hw
  refine lv_aload_n hx hb dX5_depth_0 rfl (lv_at hl 0 rfl) ?_
  refine va_get (D := E.1) (ci := 5) (v := .ref (a 1)) (C := RX5) (T := TX5) (N := 27) hx hb hts in_X5 hown hK hP 0 rfl rfl 0 (by decide) (hts _ q698) (fun _ h9 => h9) rfl dX5_depth_1 ?_
  refine lv_bipush (v := 101) hx hb dX5_depth_4 (by decide) ?_
  obtain ⟨hi_, hw⟩ := hw
  refine va_iald hx hb hK hP 1 0 rfl rfl hi_ dX5_depth_6 ?_
  exact W.iret (v := m_now (101 : Int32).toNatClampNeg) hx hb hr (fun t ht hW => ⟨⟨m_now (101 : Int32).toNatClampNeg, (), rfl, hw, by rw [ht]; exact hP, hD⟩, hS.F ht⟩) hS.2.2 dX5_depth_7 hlk
theorem met_X5_depth (l : Launch) (E : gE) (a : Nat → Nat) (sz : Nat) (m_states : Int32) (m_came : Int32) (m_byDepth : Int32) (m_byGuesser : Int32) (m_outLong : Int32) (m_low : Int64) (m_textLong : Int32) (m_place : Int32) (m_readLong : Int32) (m_now : Nat → Int32) (m_past : Nat → Int32) (m_refused : Nat → Int32) (m_line : Nat → Int32) (m_noughts : Nat → Int32) (m_ones : Nat → Int32) (m_weights : Nat → Int32) (m_ownCost : Nat → Int32) (m_way : Nat → Int32) (m_own : Nat → Int32) (m_mixed : Nat → Int32) (m_guessAt : Nat → Int32) (m_treeCost : Nat → Int32) (m_isLeaf : Nat → Int32) (m_inTree : Nat → Int32) (m_out : Nat → Int32) (m_text : Nat → Int32) (m_read : Nat → Int32)  {K : Int32 → Prop} (hw : wp_X5_depth m_now K) : Met l yX5_depth (ws_ yX5_depth cX5_depth 1 (some .int)) rm_X5_depth (pr_ (nM E) E (wM E a m_states m_came m_byDepth m_byGuesser m_outLong m_low m_textLong m_place m_readLong m_now m_past m_refused m_line m_noughts m_ones m_weights m_ownCost m_way m_own m_mixed m_guessAt m_treeCost m_isLeaf m_inTree m_out m_text m_read) sz [.ref (a 0)]) (q_X5_depth E a m_states m_came m_byDepth m_byGuesser m_outLong m_low m_textLong m_place m_readLong m_past m_refused m_line m_noughts m_ones m_weights m_ownCost m_way m_own m_mixed m_guessAt m_treeCost m_isLeaf m_inTree m_out m_text m_read m_now K (va_A (wM E a m_states m_came m_byDepth m_byGuesser m_outLong m_low m_textLong m_place m_readLong m_now m_past m_refused m_line m_noughts m_ones m_weights m_ownCost m_way m_own m_mixed m_guessAt m_treeCost m_isLeaf m_inTree m_out m_text m_read) sz)) 0 0 (va_A (wM E a m_states m_came m_byDepth m_byGuesser m_outLong m_low m_textLong m_place m_readLong m_now m_past m_refused m_line m_noughts m_ones m_weights m_ownCost m_way m_own m_mixed m_guessAt m_treeCost m_isLeaf m_inTree m_out m_text m_read) sz) :=
  met_of (Qc := fun A => q_X5_depth E a m_states m_came m_byDepth m_byGuesser m_outLong m_low m_textLong m_place m_readLong m_past m_refused m_line m_noughts m_ones m_weights m_ownCost m_way m_own m_mixed m_guessAt m_treeCost m_isLeaf m_inTree m_out m_text m_read m_now K A) (by decide) (Nat.le_of_ble_eq_true rfl) (fun _ _ _ _ _ _ _ _ _ F hE hA hP hD hl => w_X5_depth F hE hA m_states m_came m_byDepth m_byGuesser m_outLong m_low m_textLong m_place m_readLong m_past m_refused m_line m_noughts m_ones m_weights m_ownCost m_way m_own m_mixed m_guessAt m_treeCost m_isLeaf m_inTree m_out m_text m_read m_now K   hw hP hD va_S.rf hl)
-- TreeOddsModel.guesser ()I
abbrev rm_X5_guesser : Room := { frames := 0, cells := 0, slots := 0, locals := 0 }
abbrev q_X5_guesser (E : gE) (a : Nat → Nat) (m_states : Int32) (m_came : Int32) (m_byDepth : Int32) (m_byGuesser : Int32) (m_outLong : Int32) (m_low : Int64) (m_textLong : Int32) (m_place : Int32) (m_readLong : Int32) (m_past : Nat → Int32) (m_refused : Nat → Int32) (m_line : Nat → Int32) (m_noughts : Nat → Int32) (m_ones : Nat → Int32) (m_weights : Nat → Int32) (m_ownCost : Nat → Int32) (m_way : Nat → Int32) (m_own : Nat → Int32) (m_mixed : Nat → Int32) (m_guessAt : Nat → Int32) (m_treeCost : Nat → Int32) (m_isLeaf : Nat → Int32) (m_inTree : Nat → Int32) (m_out : Nat → Int32) (m_text : Nat → Int32) (m_read : Nat → Int32) (m_now : Nat → Int32) (K : Int32 → Prop) (A : Nat → Prop) : Array Value → State → Outcome → State → Prop := va_Qi (fun (r : Int32) (_ : Unit) => K r) (po_ E A (fun (_ : Unit) => wM E a m_states m_came m_byDepth m_byGuesser m_outLong m_low m_textLong m_place m_readLong m_now m_past m_refused m_line m_noughts m_ones m_weights m_ownCost m_way m_own m_mixed m_guessAt m_treeCost m_isLeaf m_inTree m_out m_text m_read)) A
abbrev g_X5_guesser (p : Program) (l : Launch) (e : Env) (s : State) (m : MethodId) (args : Array Value) (below : List Frame) (meth : Method) (c : Code) (E : gE) (a : Nat → Nat) (A : Nat → Prop) (m_states : Int32) (m_came : Int32) (m_byDepth : Int32) (m_byGuesser : Int32) (m_outLong : Int32) (m_low : Int64) (m_textLong : Int32) (m_place : Int32) (m_readLong : Int32) (m_past : Nat → Int32) (m_refused : Nat → Int32) (m_line : Nat → Int32) (m_noughts : Nat → Int32) (m_ones : Nat → Int32) (m_weights : Nat → Int32) (m_ownCost : Nat → Int32) (m_way : Nat → Int32) (m_own : Nat → Int32) (m_mixed : Nat → Int32) (m_guessAt : Nat → Int32) (m_treeCost : Nat → Int32) (m_isLeaf : Nat → Int32) (m_inTree : Nat → Int32) (m_out : Nat → Int32) (m_text : Nat → Int32) (m_read : Nat → Int32) (m_now : Nat → Int32) (K : Int32 → Prop) (H : Heap) (locs : List Loc) (pc : Nat) (ls : Array Slot) (st : List Value) : Prop := W p l e rm_X5_guesser s m args below meth c H locs 0 0 (MQ below (q_X5_guesser E a m_states m_came m_byDepth m_byGuesser m_outLong m_low m_textLong m_place m_readLong m_past m_refused m_line m_noughts m_ones m_weights m_ownCost m_way m_own m_mixed m_guessAt m_treeCost m_isLeaf m_inTree m_out m_text m_read m_now K A) args s 0 0 A) (F0 m pc ls st)
def wp_X5_guesser  (m_now : Nat → Int32) (K : Int32 → Prop) : Prop :=
  vp_in (102 : Int32) 103 ∧
  (K (m_now (102 : Int32).toNatClampNeg))
set_option maxHeartbeats 4000000 in
set_option maxRecDepth 100000 in
theorem w_X5_guesser {p : Program} {l : Launch} {e : Env} {s : State} {m : MethodId} {args : Array Value} {below : List Frame} {meth : Method} {c : Code} {E : gE} {a : Nat → Nat} {A : Nat → Prop} (F : fx_ p s m args meth c RX5 cX5_guesser 1 (some .int)) (hE : nM E A s) (hA : ∀ q, s.heap.size ≤ q → A q) (m_states : Int32) (m_came : Int32) (m_byDepth : Int32) (m_byGuesser : Int32) (m_outLong : Int32) (m_low : Int64) (m_textLong : Int32) (m_place : Int32) (m_readLong : Int32) (m_past : Nat → Int32) (m_refused : Nat → Int32) (m_line : Nat → Int32) (m_noughts : Nat → Int32) (m_ones : Nat → Int32) (m_weights : Nat → Int32) (m_ownCost : Nat → Int32) (m_way : Nat → Int32) (m_own : Nat → Int32) (m_mixed : Nat → Int32) (m_guessAt : Nat → Int32) (m_treeCost : Nat → Int32) (m_isLeaf : Nat → Int32) (m_inTree : Nat → Int32) (m_out : Nat → Int32) (m_text : Nat → Int32) (m_read : Nat → Int32) (m_now : Nat → Int32) (K : Int32 → Prop)   {H : Heap} {locs : List Loc} {ls : Array Slot} (hw : wp_X5_guesser m_now K) (hP : va_P E.1 vwCl (wM E a m_states m_came m_byDepth m_byGuesser m_outLong m_low m_textLong m_place m_readLong m_now m_past m_refused m_line m_noughts m_ones m_weights m_ownCost m_way m_own m_mixed m_guessAt m_treeCost m_isLeaf m_inTree m_out m_text m_read) H) (hD : va_D A (wM E a m_states m_came m_byDepth m_byGuesser m_outLong m_low m_textLong m_place m_readLong m_now m_past m_refused m_line m_noughts m_ones m_weights m_ownCost m_way m_own m_mixed m_guessAt m_treeCost m_isLeaf m_inTree m_out m_text m_read)) (hS : va_S A s.heap H locs) (hl : lv_has ls 1 [(0, .ref (a 0))]) : g_X5_guesser p l e s m args below meth c E a A m_states m_came m_byDepth m_byGuesser m_outLong m_low m_textLong m_place m_readLong m_past m_refused m_line m_noughts m_ones m_weights m_ownCost m_way m_own m_mixed m_guessAt m_treeCost m_isLeaf m_inTree m_out m_text m_read m_now K H locs 0 ls [] := by
  obtain ⟨hx, hb, hr, hlk, hml, hown, hts⟩ := id F
  have hK : va_K E.1 vwCl (tyL E) s := hE
  unfold wp_X5_guesser at hw
  refine lv_aload_n hx hb dX5_guesser_0 rfl (lv_at hl 0 rfl) ?_
  refine va_get (D := E.1) (ci := 5) (v := .ref (a 1)) (C := RX5) (T := TX5) (N := 27) hx hb hts in_X5 hown hK hP 0 rfl rfl 0 (by decide) (hts _ q698) (fun _ h9 => h9) rfl dX5_guesser_1 ?_
  refine lv_bipush (v := 102) hx hb dX5_guesser_4 (by decide) ?_
  obtain ⟨hi_, hw⟩ := hw
  refine va_iald hx hb hK hP 1 0 rfl rfl hi_ dX5_guesser_6 ?_
  exact W.iret (v := m_now (102 : Int32).toNatClampNeg) hx hb hr (fun t ht hW => ⟨⟨m_now (102 : Int32).toNatClampNeg, (), rfl, hw, by rw [ht]; exact hP, hD⟩, hS.F ht⟩) hS.2.2 dX5_guesser_7 hlk
theorem met_X5_guesser (l : Launch) (E : gE) (a : Nat → Nat) (sz : Nat) (m_states : Int32) (m_came : Int32) (m_byDepth : Int32) (m_byGuesser : Int32) (m_outLong : Int32) (m_low : Int64) (m_textLong : Int32) (m_place : Int32) (m_readLong : Int32) (m_now : Nat → Int32) (m_past : Nat → Int32) (m_refused : Nat → Int32) (m_line : Nat → Int32) (m_noughts : Nat → Int32) (m_ones : Nat → Int32) (m_weights : Nat → Int32) (m_ownCost : Nat → Int32) (m_way : Nat → Int32) (m_own : Nat → Int32) (m_mixed : Nat → Int32) (m_guessAt : Nat → Int32) (m_treeCost : Nat → Int32) (m_isLeaf : Nat → Int32) (m_inTree : Nat → Int32) (m_out : Nat → Int32) (m_text : Nat → Int32) (m_read : Nat → Int32)  {K : Int32 → Prop} (hw : wp_X5_guesser m_now K) : Met l yX5_guesser (ws_ yX5_guesser cX5_guesser 1 (some .int)) rm_X5_guesser (pr_ (nM E) E (wM E a m_states m_came m_byDepth m_byGuesser m_outLong m_low m_textLong m_place m_readLong m_now m_past m_refused m_line m_noughts m_ones m_weights m_ownCost m_way m_own m_mixed m_guessAt m_treeCost m_isLeaf m_inTree m_out m_text m_read) sz [.ref (a 0)]) (q_X5_guesser E a m_states m_came m_byDepth m_byGuesser m_outLong m_low m_textLong m_place m_readLong m_past m_refused m_line m_noughts m_ones m_weights m_ownCost m_way m_own m_mixed m_guessAt m_treeCost m_isLeaf m_inTree m_out m_text m_read m_now K (va_A (wM E a m_states m_came m_byDepth m_byGuesser m_outLong m_low m_textLong m_place m_readLong m_now m_past m_refused m_line m_noughts m_ones m_weights m_ownCost m_way m_own m_mixed m_guessAt m_treeCost m_isLeaf m_inTree m_out m_text m_read) sz)) 0 0 (va_A (wM E a m_states m_came m_byDepth m_byGuesser m_outLong m_low m_textLong m_place m_readLong m_now m_past m_refused m_line m_noughts m_ones m_weights m_ownCost m_way m_own m_mixed m_guessAt m_treeCost m_isLeaf m_inTree m_out m_text m_read) sz) :=
  met_of (Qc := fun A => q_X5_guesser E a m_states m_came m_byDepth m_byGuesser m_outLong m_low m_textLong m_place m_readLong m_past m_refused m_line m_noughts m_ones m_weights m_ownCost m_way m_own m_mixed m_guessAt m_treeCost m_isLeaf m_inTree m_out m_text m_read m_now K A) (by decide) (Nat.le_of_ble_eq_true rfl) (fun _ _ _ _ _ _ _ _ _ F hE hA hP hD hl => w_X5_guesser F hE hA m_states m_came m_byDepth m_byGuesser m_outLong m_low m_textLong m_place m_readLong m_past m_refused m_line m_noughts m_ones m_weights m_ownCost m_way m_own m_mixed m_guessAt m_treeCost m_isLeaf m_inTree m_out m_text m_read m_now K   hw hP hD va_S.rf hl)
-- TreeOddsModel.keep ()V
abbrev rm_X5_keep : Room := { frames := 0, cells := 0, slots := 0, locals := 0 }
abbrev q_X5_keep (E : gE) (a : Nat → Nat) (m_came : Int32) (m_byDepth : Int32) (m_byGuesser : Int32) (m_outLong : Int32) (m_low : Int64) (m_textLong : Int32) (m_place : Int32) (m_readLong : Int32) (m_refused : Nat → Int32) (m_line : Nat → Int32) (m_noughts : Nat → Int32) (m_ones : Nat → Int32) (m_weights : Nat → Int32) (m_ownCost : Nat → Int32) (m_way : Nat → Int32) (m_own : Nat → Int32) (m_mixed : Nat → Int32) (m_guessAt : Nat → Int32) (m_treeCost : Nat → Int32) (m_isLeaf : Nat → Int32) (m_inTree : Nat → Int32) (m_out : Nat → Int32) (m_text : Nat → Int32) (m_read : Nat → Int32) (m_now : Nat → Int32) (K : Int32 → (Nat → Int32) → Prop) (A : Nat → Prop) : Array Value → State → Outcome → State → Prop := va_Qv (fun (u : Int32 × (Nat → Int32)) => K u.1 u.2) (po_ E A (fun (u : Int32 × (Nat → Int32)) => wM E a u.1 m_came m_byDepth m_byGuesser m_outLong m_low m_textLong m_place m_readLong m_now u.2 m_refused m_line m_noughts m_ones m_weights m_ownCost m_way m_own m_mixed m_guessAt m_treeCost m_isLeaf m_inTree m_out m_text m_read)) A
abbrev g_X5_keep (p : Program) (l : Launch) (e : Env) (s : State) (m : MethodId) (args : Array Value) (below : List Frame) (meth : Method) (c : Code) (E : gE) (a : Nat → Nat) (A : Nat → Prop) (m_came : Int32) (m_byDepth : Int32) (m_byGuesser : Int32) (m_outLong : Int32) (m_low : Int64) (m_textLong : Int32) (m_place : Int32) (m_readLong : Int32) (m_refused : Nat → Int32) (m_line : Nat → Int32) (m_noughts : Nat → Int32) (m_ones : Nat → Int32) (m_weights : Nat → Int32) (m_ownCost : Nat → Int32) (m_way : Nat → Int32) (m_own : Nat → Int32) (m_mixed : Nat → Int32) (m_guessAt : Nat → Int32) (m_treeCost : Nat → Int32) (m_isLeaf : Nat → Int32) (m_inTree : Nat → Int32) (m_out : Nat → Int32) (m_text : Nat → Int32) (m_read : Nat → Int32) (m_now : Nat → Int32) (K : Int32 → (Nat → Int32) → Prop) (H : Heap) (locs : List Loc) (pc : Nat) (ls : Array Slot) (st : List Value) : Prop := W p l e rm_X5_keep s m args below meth c H locs 0 0 (MQ below (q_X5_keep E a m_came m_byDepth m_byGuesser m_outLong m_low m_textLong m_place m_readLong m_refused m_line m_noughts m_ones m_weights m_ownCost m_way m_own m_mixed m_guessAt m_treeCost m_isLeaf m_inTree m_out m_text m_read m_now K A) args s 0 0 A) (F0 m pc ls st)
def wp_X5_keep_L83 (m_now : Nat → Int32) (K : Int32 → (Nat → Int32) → Prop)  (m_states : Int32) (m_past : Nat → Int32) : Prop :=
  K (m_states + (1 : Int32)) m_past
set_option maxHeartbeats 4000000 in
set_option maxRecDepth 100000 in
theorem w_X5_keep_L83 {p : Program} {l : Launch} {e : Env} {s : State} {m : MethodId} {args : Array Value} {below : List Frame} {meth : Method} {c : Code} {E : gE} {a : Nat → Nat} {A : Nat → Prop} (F : fx_ p s m args meth c RX5 cX5_keep 2 (none)) (hE : nM E A s) (hA : ∀ q, s.heap.size ≤ q → A q) (m_came : Int32) (m_byDepth : Int32) (m_byGuesser : Int32) (m_outLong : Int32) (m_low : Int64) (m_textLong : Int32) (m_place : Int32) (m_readLong : Int32) (m_refused : Nat → Int32) (m_line : Nat → Int32) (m_noughts : Nat → Int32) (m_ones : Nat → Int32) (m_weights : Nat → Int32) (m_ownCost : Nat → Int32) (m_way : Nat → Int32) (m_own : Nat → Int32) (m_mixed : Nat → Int32) (m_guessAt : Nat → Int32) (m_treeCost : Nat → Int32) (m_isLeaf : Nat → Int32) (m_inTree : Nat → Int32) (m_out : Nat → Int32) (m_text : Nat → Int32) (m_read : Nat → Int32) (m_now : Nat → Int32) (K : Int32 → (Nat → Int32) → Prop)  : ∀ (m_states : Int32) (m_past : Nat → Int32) (H : Heap) (locs : List Loc) (ls : Array Slot), wp_X5_keep_L83 m_now K m_states m_past → va_P E.1 vwCl (wM E a m_states m_came m_byDepth m_byGuesser m_outLong m_low m_textLong m_place m_readLong m_now m_past m_refused m_line m_noughts m_ones m_weights m_ownCost m_way m_own m_mixed m_guessAt m_treeCost m_isLeaf m_inTree m_out m_text m_read) H → va_D A (wM E a m_states m_came m_byDepth m_byGuesser m_outLong m_low m_textLong m_place m_readLong m_now m_past m_refused m_line m_noughts m_ones m_weights m_ownCost m_way m_own m_mixed m_guessAt m_treeCost m_isLeaf m_inTree m_out m_text m_read) → va_S A s.heap H locs → lv_has ls 2 [(0, .ref (a 0))] → g_X5_keep p l e s m args below meth c E a A m_came m_byDepth m_byGuesser m_outLong m_low m_textLong m_place m_readLong m_refused m_line m_noughts m_ones m_weights m_ownCost m_way m_own m_mixed m_guessAt m_treeCost m_isLeaf m_inTree m_out m_text m_read m_now K H locs 83 ls [] := by
  obtain ⟨hx, hb, hr, hlk, hml, hown, hts⟩ := id F
  have hK : va_K E.1 vwCl (tyL E) s := hE
  intro m_states m_past H locs ls hw hP hD hS hl
  unfold wp_X5_keep_L83 at hw
  refine lv_aload_n hx hb dX5_keep_83 rfl (lv_at hl 0 rfl) ?_
  refine lv_dup hx hb dX5_keep_84 rfl ?_
  refine va_get (D := E.1) (ci := 5) (v := .int m_states) (C := RX5) (T := TX5) (N := 27) hx hb hts in_X5 hown hK hP 0 rfl rfl 2 (by decide) (hts _ q700) (fun _ h9 => h9) rfl dX5_keep_85 ?_
  refine lv_iconst (v := 1) hx hb dX5_keep_88 (by decide) ?_
  refine lv_iadd hx hb dX5_keep_89 ?_
  refine va_put (D := E.1) (ci := 5) (v := .int (m_states + (1 : Int32))) (ty := .int) (C := RX5) (T := TX5) (N := 27) hx hb hts in_X5 tyX5 tyX5_ok nmX5 hown hK hP hD hS 0 rfl rfl 2 (by decide) (hts _ q700) (fun _ h9 => h9) rfl (tyX5_ok 2 (by decide)) rfl rfl (Nat.le_of_ble_eq_true rfl) dX5_keep_90 (fun H locs hP hD hS => ?_)
  have hP : va_P E.1 vwCl (wM E a (m_states + (1 : Int32)) m_came m_byDepth m_byGuesser m_outLong m_low m_textLong m_place m_readLong m_now m_past m_refused m_line m_noughts m_ones m_weights m_ownCost m_way m_own m_mixed m_guessAt m_treeCost m_isLeaf m_inTree m_out m_text m_read) H := hP
  have hD : va_D A (wM E a (m_states + (1 : Int32)) m_came m_byDepth m_byGuesser m_outLong m_low m_textLong m_place m_readLong m_now m_past m_refused m_line m_noughts m_ones m_weights m_ownCost m_way m_own m_mixed m_guessAt m_treeCost m_isLeaf m_inTree m_out m_text m_read) := hD
  exact W.vret hx hb hr (fun t ht hW => ⟨⟨(m_states + (1 : Int32), m_past), rfl, hw, by rw [ht]; exact hP, hD⟩, hS.F ht⟩) hS.2.2 dX5_keep_93 hlk
def wp_X5_keep_L51 (m_now : Nat → Int32) (K : Int32 → (Nat → Int32) → Prop)  : Nat → Int32 → Int32 → (Nat → Int32) → Prop
  | 0 => fun _ _ _ => False
  | n_ + 1 => fun x1 m_states m_past =>
  ((103 : Int32) ≤ x1 → wp_X5_keep_L83 m_now K m_states m_past) ∧
  (¬ (103 : Int32) ≤ x1 → vp_in x1 103 ∧
  (vp_in (((103 : Int32) * m_states) + x1) 618 ∧
  (wp_X5_keep_L51 m_now K n_ (x1 + (1 : Int32)) m_states (upd m_past (((103 : Int32) * m_states) + x1).toNatClampNeg (m_now x1.toNatClampNeg)))))
set_option maxHeartbeats 4000000 in
set_option maxRecDepth 100000 in
theorem w_X5_keep_L51 {p : Program} {l : Launch} {e : Env} {s : State} {m : MethodId} {args : Array Value} {below : List Frame} {meth : Method} {c : Code} {E : gE} {a : Nat → Nat} {A : Nat → Prop} (F : fx_ p s m args meth c RX5 cX5_keep 2 (none)) (hE : nM E A s) (hA : ∀ q, s.heap.size ≤ q → A q) (m_came : Int32) (m_byDepth : Int32) (m_byGuesser : Int32) (m_outLong : Int32) (m_low : Int64) (m_textLong : Int32) (m_place : Int32) (m_readLong : Int32) (m_refused : Nat → Int32) (m_line : Nat → Int32) (m_noughts : Nat → Int32) (m_ones : Nat → Int32) (m_weights : Nat → Int32) (m_ownCost : Nat → Int32) (m_way : Nat → Int32) (m_own : Nat → Int32) (m_mixed : Nat → Int32) (m_guessAt : Nat → Int32) (m_treeCost : Nat → Int32) (m_isLeaf : Nat → Int32) (m_inTree : Nat → Int32) (m_out : Nat → Int32) (m_text : Nat → Int32) (m_read : Nat → Int32) (m_now : Nat → Int32) (K : Int32 → (Nat → Int32) → Prop)  : ∀ (n_ : Nat) (x1 : Int32) (m_states : Int32) (m_past : Nat → Int32) (H : Heap) (locs : List Loc) (ls : Array Slot), wp_X5_keep_L51 m_now K n_ x1 m_states m_past → va_P E.1 vwCl (wM E a m_states m_came m_byDepth m_byGuesser m_outLong m_low m_textLong m_place m_readLong m_now m_past m_refused m_line m_noughts m_ones m_weights m_ownCost m_way m_own m_mixed m_guessAt m_treeCost m_isLeaf m_inTree m_out m_text m_read) H → va_D A (wM E a m_states m_came m_byDepth m_byGuesser m_outLong m_low m_textLong m_place m_readLong m_now m_past m_refused m_line m_noughts m_ones m_weights m_ownCost m_way m_own m_mixed m_guessAt m_treeCost m_isLeaf m_inTree m_out m_text m_read) → va_S A s.heap H locs → lv_has ls 2 [(0, .ref (a 0)), (1, .int x1)] → g_X5_keep p l e s m args below meth c E a A m_came m_byDepth m_byGuesser m_outLong m_low m_textLong m_place m_readLong m_refused m_line m_noughts m_ones m_weights m_ownCost m_way m_own m_mixed m_guessAt m_treeCost m_isLeaf m_inTree m_out m_text m_read m_now K H locs 51 ls [] := by
  obtain ⟨hx, hb, hr, hlk, hml, hown, hts⟩ := id F
  have hK : va_K E.1 vwCl (tyL E) s := hE
  intro n_
  induction n_ with
  | zero =>
    intro x1 m_states m_past H locs ls hw hP hD hS hl
    exact hw.elim
  | succ n_ ih =>
    intro x1 m_states m_past H locs ls hw hP hD hS hl
    unfold wp_X5_keep_L51 at hw
    refine lv_iload_n hx hb dX5_keep_51 rfl (lv_at hl 1 rfl) ?_
    refine lv_bipush (v := 103) hx hb dX5_keep_52 (by decide) ?_
    refine lv_icmp_ge (tgt := 83) hx hb dX5_keep_54 (by decide) (fun c_ => ?_) (fun c_ => ?_)
    · have hw := hw.1 c_
      exact w_X5_keep_L83 F hE hA m_came m_byDepth m_byGuesser m_outLong m_low m_textLong m_place m_readLong m_refused m_line m_noughts m_ones m_weights m_ownCost m_way m_own m_mixed m_guessAt m_treeCost m_isLeaf m_inTree m_out m_text m_read m_now K m_states m_past _ _ _ hw hP hD hS (lv_sub hl [0] rfl)
    · have hw := hw.2 c_
      refine lv_aload_n hx hb dX5_keep_57 rfl (lv_at hl 0 rfl) ?_
      refine va_get (D := E.1) (ci := 5) (v := .ref (a 2)) (C := RX5) (T := TX5) (N := 27) hx hb hts in_X5 hown hK hP 0 rfl rfl 1 (by decide) (hts _ q699) (fun _ h9 => h9) rfl dX5_keep_58 ?_
      refine lv_bipush (v := 103) hx hb dX5_keep_61 (by decide) ?_
      refine lv_aload_n hx hb dX5_keep_63 rfl (lv_at hl 0 rfl) ?_
      refine va_get (D := E.1) (ci := 5) (v := .int m_states) (C := RX5) (T := TX5) (N := 27) hx hb hts in_X5 hown hK hP 0 rfl rfl 2 (by decide) (hts _ q700) (fun _ h9 => h9) rfl dX5_keep_64 ?_
      refine lv_imul hx hb dX5_keep_67 ?_
      refine lv_iload_n hx hb dX5_keep_68 rfl (lv_at hl 1 rfl) ?_
      refine lv_iadd hx hb dX5_keep_69 ?_
      refine lv_aload_n hx hb dX5_keep_70 rfl (lv_at hl 0 rfl) ?_
      refine va_get (D := E.1) (ci := 5) (v := .ref (a 1)) (C := RX5) (T := TX5) (N := 27) hx hb hts in_X5 hown hK hP 0 rfl rfl 0 (by decide) (hts _ q698) (fun _ h9 => h9) rfl dX5_keep_71 ?_
      refine lv_iload_n hx hb dX5_keep_74 rfl (lv_at hl 1 rfl) ?_
      obtain ⟨hi_, hw⟩ := hw
      refine va_iald hx hb hK hP 1 0 rfl rfl hi_ dX5_keep_75 ?_
      obtain ⟨hi_, hw⟩ := hw
      refine va_iast hx hb hK hP hD hS 2 0 rfl rfl hi_ dX5_keep_76 (fun H locs hP hD hS => ?_)
      have hP : va_P E.1 vwCl (wM E a m_states m_came m_byDepth m_byGuesser m_outLong m_low m_textLong m_place m_readLong m_now (upd m_past (((103 : Int32) * m_states) + x1).toNatClampNeg (m_now x1.toNatClampNeg)) m_refused m_line m_noughts m_ones m_weights m_ownCost m_way m_own m_mixed m_guessAt m_treeCost m_isLeaf m_inTree m_out m_text m_read) H := hP
      have hD : va_D A (wM E a m_states m_came m_byDepth m_byGuesser m_outLong m_low m_textLong m_place m_readLong m_now (upd m_past (((103 : Int32) * m_states) + x1).toNatClampNeg (m_now x1.toNatClampNeg)) m_refused m_line m_noughts m_ones m_weights m_ownCost m_way m_own m_mixed m_guessAt m_treeCost m_isLeaf m_inTree m_out m_text m_read) := hD
      refine lv_iinc (v := x1 + (1 : Int32)) (lv' := [(1, .int (x1 + (1 : Int32))), (0, .ref (a 0))]) hx hb dX5_keep_77 hl (k := 1) rfl (by rfl) (by decide) rfl (fun ls hl => ?_)
      refine lv_goto (tgt := 51) hx hb dX5_keep_80 (by decide) ?_
      exact ih (x1 + (1 : Int32)) m_states (upd m_past (((103 : Int32) * m_states) + x1).toNatClampNeg (m_now x1.toNatClampNeg)) _ _ _ hw hP hD hS (lv_sub hl [1, 0] rfl)
def wp_X5_keep_L49 (m_now : Nat → Int32) (K : Int32 → (Nat → Int32) → Prop)  (m_states : Int32) (m_past : Nat → Int32) : Prop :=
  ∃ k_, wp_X5_keep_L51 m_now K k_ (0 : Int32) m_states m_past
set_option maxHeartbeats 4000000 in
set_option maxRecDepth 100000 in
theorem w_X5_keep_L49 {p : Program} {l : Launch} {e : Env} {s : State} {m : MethodId} {args : Array Value} {below : List Frame} {meth : Method} {c : Code} {E : gE} {a : Nat → Nat} {A : Nat → Prop} (F : fx_ p s m args meth c RX5 cX5_keep 2 (none)) (hE : nM E A s) (hA : ∀ q, s.heap.size ≤ q → A q) (m_came : Int32) (m_byDepth : Int32) (m_byGuesser : Int32) (m_outLong : Int32) (m_low : Int64) (m_textLong : Int32) (m_place : Int32) (m_readLong : Int32) (m_refused : Nat → Int32) (m_line : Nat → Int32) (m_noughts : Nat → Int32) (m_ones : Nat → Int32) (m_weights : Nat → Int32) (m_ownCost : Nat → Int32) (m_way : Nat → Int32) (m_own : Nat → Int32) (m_mixed : Nat → Int32) (m_guessAt : Nat → Int32) (m_treeCost : Nat → Int32) (m_isLeaf : Nat → Int32) (m_inTree : Nat → Int32) (m_out : Nat → Int32) (m_text : Nat → Int32) (m_read : Nat → Int32) (m_now : Nat → Int32) (K : Int32 → (Nat → Int32) → Prop)  : ∀ (m_states : Int32) (m_past : Nat → Int32) (H : Heap) (locs : List Loc) (ls : Array Slot), wp_X5_keep_L49 m_now K m_states m_past → va_P E.1 vwCl (wM E a m_states m_came m_byDepth m_byGuesser m_outLong m_low m_textLong m_place m_readLong m_now m_past m_refused m_line m_noughts m_ones m_weights m_ownCost m_way m_own m_mixed m_guessAt m_treeCost m_isLeaf m_inTree m_out m_text m_read) H → va_D A (wM E a m_states m_came m_byDepth m_byGuesser m_outLong m_low m_textLong m_place m_readLong m_now m_past m_refused m_line m_noughts m_ones m_weights m_ownCost m_way m_own m_mixed m_guessAt m_treeCost m_isLeaf m_inTree m_out m_text m_read) → va_S A s.heap H locs → lv_has ls 2 [(0, .ref (a 0))] → g_X5_keep p l e s m args below meth c E a A m_came m_byDepth m_byGuesser m_outLong m_low m_textLong m_place m_readLong m_refused m_line m_noughts m_ones m_weights m_ownCost m_way m_own m_mixed m_guessAt m_treeCost m_isLeaf m_inTree m_out m_text m_read m_now K H locs 49 ls [] := by
  obtain ⟨hx, hb, hr, hlk, hml, hown, hts⟩ := id F
  have hK : va_K E.1 vwCl (tyL E) s := hE
  intro m_states m_past H locs ls hw hP hD hS hl
  unfold wp_X5_keep_L49 at hw
  refine lv_iconst (v := 0) hx hb dX5_keep_49 (by decide) ?_
  refine lv_istore_n (lv' := [(1, .int (0 : Int32)), (0, .ref (a 0))]) hx hb dX5_keep_50 rfl hl (by decide) rfl (fun ls hl => ?_)
  obtain ⟨k_, hw⟩ := hw
  exact w_X5_keep_L51 F hE hA m_came m_byDepth m_byGuesser m_outLong m_low m_textLong m_place m_readLong m_refused m_line m_noughts m_ones m_weights m_ownCost m_way m_own m_mixed m_guessAt m_treeCost m_isLeaf m_inTree m_out m_text m_read m_now K k_ (0 : Int32) m_states m_past _ _ _ hw hP hD hS (lv_sub hl [1, 0] rfl)
def wp_X5_keep_L39 (m_now : Nat → Int32) (K : Int32 → (Nat → Int32) → Prop)  (m_states : Int32) (m_past : Nat → Int32) : Prop :=
  wp_X5_keep_L49 m_now K (m_states - (1 : Int32)) m_past
set_option maxHeartbeats 4000000 in
set_option maxRecDepth 100000 in
theorem w_X5_keep_L39 {p : Program} {l : Launch} {e : Env} {s : State} {m : MethodId} {args : Array Value} {below : List Frame} {meth : Method} {c : Code} {E : gE} {a : Nat → Nat} {A : Nat → Prop} (F : fx_ p s m args meth c RX5 cX5_keep 2 (none)) (hE : nM E A s) (hA : ∀ q, s.heap.size ≤ q → A q) (m_came : Int32) (m_byDepth : Int32) (m_byGuesser : Int32) (m_outLong : Int32) (m_low : Int64) (m_textLong : Int32) (m_place : Int32) (m_readLong : Int32) (m_refused : Nat → Int32) (m_line : Nat → Int32) (m_noughts : Nat → Int32) (m_ones : Nat → Int32) (m_weights : Nat → Int32) (m_ownCost : Nat → Int32) (m_way : Nat → Int32) (m_own : Nat → Int32) (m_mixed : Nat → Int32) (m_guessAt : Nat → Int32) (m_treeCost : Nat → Int32) (m_isLeaf : Nat → Int32) (m_inTree : Nat → Int32) (m_out : Nat → Int32) (m_text : Nat → Int32) (m_read : Nat → Int32) (m_now : Nat → Int32) (K : Int32 → (Nat → Int32) → Prop)  : ∀ (m_states : Int32) (m_past : Nat → Int32) (H : Heap) (locs : List Loc) (ls : Array Slot), wp_X5_keep_L39 m_now K m_states m_past → va_P E.1 vwCl (wM E a m_states m_came m_byDepth m_byGuesser m_outLong m_low m_textLong m_place m_readLong m_now m_past m_refused m_line m_noughts m_ones m_weights m_ownCost m_way m_own m_mixed m_guessAt m_treeCost m_isLeaf m_inTree m_out m_text m_read) H → va_D A (wM E a m_states m_came m_byDepth m_byGuesser m_outLong m_low m_textLong m_place m_readLong m_now m_past m_refused m_line m_noughts m_ones m_weights m_ownCost m_way m_own m_mixed m_guessAt m_treeCost m_isLeaf m_inTree m_out m_text m_read) → va_S A s.heap H locs → lv_has ls 2 [(0, .ref (a 0))] → g_X5_keep p l e s m args below meth c E a A m_came m_byDepth m_byGuesser m_outLong m_low m_textLong m_place m_readLong m_refused m_line m_noughts m_ones m_weights m_ownCost m_way m_own m_mixed m_guessAt m_treeCost m_isLeaf m_inTree m_out m_text m_read m_now K H locs 39 ls [] := by
  obtain ⟨hx, hb, hr, hlk, hml, hown, hts⟩ := id F
  have hK : va_K E.1 vwCl (tyL E) s := hE
  intro m_states m_past H locs ls hw hP hD hS hl
  unfold wp_X5_keep_L39 at hw
  refine lv_aload_n hx hb dX5_keep_39 rfl (lv_at hl 0 rfl) ?_
  refine lv_dup hx hb dX5_keep_40 rfl ?_
  refine va_get (D := E.1) (ci := 5) (v := .int m_states) (C := RX5) (T := TX5) (N := 27) hx hb hts in_X5 hown hK hP 0 rfl rfl 2 (by decide) (hts _ q700) (fun _ h9 => h9) rfl dX5_keep_41 ?_
  refine lv_iconst (v := 1) hx hb dX5_keep_44 (by decide) ?_
  refine lv_isub hx hb dX5_keep_45 ?_
  refine va_put (D := E.1) (ci := 5) (v := .int (m_states - (1 : Int32))) (ty := .int) (C := RX5) (T := TX5) (N := 27) hx hb hts in_X5 tyX5 tyX5_ok nmX5 hown hK hP hD hS 0 rfl rfl 2 (by decide) (hts _ q700) (fun _ h9 => h9) rfl (tyX5_ok 2 (by decide)) rfl rfl (Nat.le_of_ble_eq_true rfl) dX5_keep_46 (fun H locs hP hD hS => ?_)
  have hP : va_P E.1 vwCl (wM E a (m_states - (1 : Int32)) m_came m_byDepth m_byGuesser m_outLong m_low m_textLong m_place m_readLong m_now m_past m_refused m_line m_noughts m_ones m_weights m_ownCost m_way m_own m_mixed m_guessAt m_treeCost m_isLeaf m_inTree m_out m_text m_read) H := hP
  have hD : va_D A (wM E a (m_states - (1 : Int32)) m_came m_byDepth m_byGuesser m_outLong m_low m_textLong m_place m_readLong m_now m_past m_refused m_line m_noughts m_ones m_weights m_ownCost m_way m_own m_mixed m_guessAt m_treeCost m_isLeaf m_inTree m_out m_text m_read) := hD
  exact w_X5_keep_L49 F hE hA m_came m_byDepth m_byGuesser m_outLong m_low m_textLong m_place m_readLong m_refused m_line m_noughts m_ones m_weights m_ownCost m_way m_own m_mixed m_guessAt m_treeCost m_isLeaf m_inTree m_out m_text m_read m_now K (m_states - (1 : Int32)) m_past _ _ _ hw hP hD hS (lv_sub hl [0] rfl)
def wp_X5_keep_L11 (m_now : Nat → Int32) (K : Int32 → (Nat → Int32) → Prop)  : Nat → Int32 → Int32 → (Nat → Int32) → Prop
  | 0 => fun _ _ _ => False
  | n_ + 1 => fun x1 m_states m_past =>
  ((515 : Int32) ≤ x1 → wp_X5_keep_L39 m_now K m_states m_past) ∧
  (¬ (515 : Int32) ≤ x1 → vp_in (x1 + (103 : Int32)) 618 ∧
  (vp_in x1 618 ∧
  (wp_X5_keep_L11 m_now K n_ (x1 + (1 : Int32)) m_states (upd m_past x1.toNatClampNeg (m_past (x1 + (103 : Int32)).toNatClampNeg)))))
set_option maxHeartbeats 4000000 in
set_option maxRecDepth 100000 in
theorem w_X5_keep_L11 {p : Program} {l : Launch} {e : Env} {s : State} {m : MethodId} {args : Array Value} {below : List Frame} {meth : Method} {c : Code} {E : gE} {a : Nat → Nat} {A : Nat → Prop} (F : fx_ p s m args meth c RX5 cX5_keep 2 (none)) (hE : nM E A s) (hA : ∀ q, s.heap.size ≤ q → A q) (m_came : Int32) (m_byDepth : Int32) (m_byGuesser : Int32) (m_outLong : Int32) (m_low : Int64) (m_textLong : Int32) (m_place : Int32) (m_readLong : Int32) (m_refused : Nat → Int32) (m_line : Nat → Int32) (m_noughts : Nat → Int32) (m_ones : Nat → Int32) (m_weights : Nat → Int32) (m_ownCost : Nat → Int32) (m_way : Nat → Int32) (m_own : Nat → Int32) (m_mixed : Nat → Int32) (m_guessAt : Nat → Int32) (m_treeCost : Nat → Int32) (m_isLeaf : Nat → Int32) (m_inTree : Nat → Int32) (m_out : Nat → Int32) (m_text : Nat → Int32) (m_read : Nat → Int32) (m_now : Nat → Int32) (K : Int32 → (Nat → Int32) → Prop)  : ∀ (n_ : Nat) (x1 : Int32) (m_states : Int32) (m_past : Nat → Int32) (H : Heap) (locs : List Loc) (ls : Array Slot), wp_X5_keep_L11 m_now K n_ x1 m_states m_past → va_P E.1 vwCl (wM E a m_states m_came m_byDepth m_byGuesser m_outLong m_low m_textLong m_place m_readLong m_now m_past m_refused m_line m_noughts m_ones m_weights m_ownCost m_way m_own m_mixed m_guessAt m_treeCost m_isLeaf m_inTree m_out m_text m_read) H → va_D A (wM E a m_states m_came m_byDepth m_byGuesser m_outLong m_low m_textLong m_place m_readLong m_now m_past m_refused m_line m_noughts m_ones m_weights m_ownCost m_way m_own m_mixed m_guessAt m_treeCost m_isLeaf m_inTree m_out m_text m_read) → va_S A s.heap H locs → lv_has ls 2 [(0, .ref (a 0)), (1, .int x1)] → g_X5_keep p l e s m args below meth c E a A m_came m_byDepth m_byGuesser m_outLong m_low m_textLong m_place m_readLong m_refused m_line m_noughts m_ones m_weights m_ownCost m_way m_own m_mixed m_guessAt m_treeCost m_isLeaf m_inTree m_out m_text m_read m_now K H locs 11 ls [] := by
  obtain ⟨hx, hb, hr, hlk, hml, hown, hts⟩ := id F
  have hK : va_K E.1 vwCl (tyL E) s := hE
  intro n_
  induction n_ with
  | zero =>
    intro x1 m_states m_past H locs ls hw hP hD hS hl
    exact hw.elim
  | succ n_ ih =>
    intro x1 m_states m_past H locs ls hw hP hD hS hl
    unfold wp_X5_keep_L11 at hw
    refine lv_iload_n hx hb dX5_keep_11 rfl (lv_at hl 1 rfl) ?_
    refine lv_sipush (v := 515) hx hb dX5_keep_12 (by decide) ?_
    refine lv_icmp_ge (tgt := 39) hx hb dX5_keep_15 (by decide) (fun c_ => ?_) (fun c_ => ?_)
    · have hw := hw.1 c_
      exact w_X5_keep_L39 F hE hA m_came m_byDepth m_byGuesser m_outLong m_low m_textLong m_place m_readLong m_refused m_line m_noughts m_ones m_weights m_ownCost m_way m_own m_mixed m_guessAt m_treeCost m_isLeaf m_inTree m_out m_text m_read m_now K m_states m_past _ _ _ hw hP hD hS (lv_sub hl [0] rfl)
    · have hw := hw.2 c_
      refine lv_aload_n hx hb dX5_keep_18 rfl (lv_at hl 0 rfl) ?_
      refine va_get (D := E.1) (ci := 5) (v := .ref (a 2)) (C := RX5) (T := TX5) (N := 27) hx hb hts in_X5 hown hK hP 0 rfl rfl 1 (by decide) (hts _ q699) (fun _ h9 => h9) rfl dX5_keep_19 ?_
      refine lv_iload_n hx hb dX5_keep_22 rfl (lv_at hl 1 rfl) ?_
      refine lv_aload_n hx hb dX5_keep_23 rfl (lv_at hl 0 rfl) ?_
      refine va_get (D := E.1) (ci := 5) (v := .ref (a 2)) (C := RX5) (T := TX5) (N := 27) hx hb hts in_X5 hown hK hP 0 rfl rfl 1 (by decide) (hts _ q699) (fun _ h9 => h9) rfl dX5_keep_24 ?_
      refine lv_iload_n hx hb dX5_keep_27 rfl (lv_at hl 1 rfl) ?_
      refine lv_bipush (v := 103) hx hb dX5_keep_28 (by decide) ?_
      refine lv_iadd hx hb dX5_keep_30 ?_
      obtain ⟨hi_, hw⟩ := hw
      refine va_iald hx hb hK hP 2 0 rfl rfl hi_ dX5_keep_31 ?_
      obtain ⟨hi_, hw⟩ := hw
      refine va_iast hx hb hK hP hD hS 2 0 rfl rfl hi_ dX5_keep_32 (fun H locs hP hD hS => ?_)
      have hP : va_P E.1 vwCl (wM E a m_states m_came m_byDepth m_byGuesser m_outLong m_low m_textLong m_place m_readLong m_now (upd m_past x1.toNatClampNeg (m_past (x1 + (103 : Int32)).toNatClampNeg)) m_refused m_line m_noughts m_ones m_weights m_ownCost m_way m_own m_mixed m_guessAt m_treeCost m_isLeaf m_inTree m_out m_text m_read) H := hP
      have hD : va_D A (wM E a m_states m_came m_byDepth m_byGuesser m_outLong m_low m_textLong m_place m_readLong m_now (upd m_past x1.toNatClampNeg (m_past (x1 + (103 : Int32)).toNatClampNeg)) m_refused m_line m_noughts m_ones m_weights m_ownCost m_way m_own m_mixed m_guessAt m_treeCost m_isLeaf m_inTree m_out m_text m_read) := hD
      refine lv_iinc (v := x1 + (1 : Int32)) (lv' := [(1, .int (x1 + (1 : Int32))), (0, .ref (a 0))]) hx hb dX5_keep_33 hl (k := 1) rfl (by rfl) (by decide) rfl (fun ls hl => ?_)
      refine lv_goto (tgt := 11) hx hb dX5_keep_36 (by decide) ?_
      exact ih (x1 + (1 : Int32)) m_states (upd m_past x1.toNatClampNeg (m_past (x1 + (103 : Int32)).toNatClampNeg)) _ _ _ hw hP hD hS (lv_sub hl [1, 0] rfl)
def wp_X5_keep  (m_states : Int32) (m_now : Nat → Int32) (m_past : Nat → Int32) (K : Int32 → (Nat → Int32) → Prop) : Prop :=
  (m_states = (6 : Int32) → ∃ k_, wp_X5_keep_L11 m_now K k_ (0 : Int32) m_states m_past) ∧
  (¬ m_states = (6 : Int32) → wp_X5_keep_L49 m_now K m_states m_past)
set_option maxHeartbeats 4000000 in
set_option maxRecDepth 100000 in
theorem w_X5_keep {p : Program} {l : Launch} {e : Env} {s : State} {m : MethodId} {args : Array Value} {below : List Frame} {meth : Method} {c : Code} {E : gE} {a : Nat → Nat} {A : Nat → Prop} (F : fx_ p s m args meth c RX5 cX5_keep 2 (none)) (hE : nM E A s) (hA : ∀ q, s.heap.size ≤ q → A q) (m_came : Int32) (m_byDepth : Int32) (m_byGuesser : Int32) (m_outLong : Int32) (m_low : Int64) (m_textLong : Int32) (m_place : Int32) (m_readLong : Int32) (m_refused : Nat → Int32) (m_line : Nat → Int32) (m_noughts : Nat → Int32) (m_ones : Nat → Int32) (m_weights : Nat → Int32) (m_ownCost : Nat → Int32) (m_way : Nat → Int32) (m_own : Nat → Int32) (m_mixed : Nat → Int32) (m_guessAt : Nat → Int32) (m_treeCost : Nat → Int32) (m_isLeaf : Nat → Int32) (m_inTree : Nat → Int32) (m_out : Nat → Int32) (m_text : Nat → Int32) (m_read : Nat → Int32) (m_now : Nat → Int32) (K : Int32 → (Nat → Int32) → Prop) (m_states : Int32) (m_past : Nat → Int32)  {H : Heap} {locs : List Loc} {ls : Array Slot} (hw : wp_X5_keep m_states m_now m_past K) (hP : va_P E.1 vwCl (wM E a m_states m_came m_byDepth m_byGuesser m_outLong m_low m_textLong m_place m_readLong m_now m_past m_refused m_line m_noughts m_ones m_weights m_ownCost m_way m_own m_mixed m_guessAt m_treeCost m_isLeaf m_inTree m_out m_text m_read) H) (hD : va_D A (wM E a m_states m_came m_byDepth m_byGuesser m_outLong m_low m_textLong m_place m_readLong m_now m_past m_refused m_line m_noughts m_ones m_weights m_ownCost m_way m_own m_mixed m_guessAt m_treeCost m_isLeaf m_inTree m_out m_text m_read)) (hS : va_S A s.heap H locs) (hl : lv_has ls 2 [(0, .ref (a 0))]) : g_X5_keep p l e s m args below meth c E a A m_came m_byDepth m_byGuesser m_outLong m_low m_textLong m_place m_readLong m_refused m_line m_noughts m_ones m_weights m_ownCost m_way m_own m_mixed m_guessAt m_treeCost m_isLeaf m_inTree m_out m_text m_read m_now K H locs 0 ls [] := by
  obtain ⟨hx, hb, hr, hlk, hml, hown, hts⟩ := id F
  have hK : va_K E.1 vwCl (tyL E) s := hE
  unfold wp_X5_keep at hw
  refine lv_aload_n hx hb dX5_keep_0 rfl (lv_at hl 0 rfl) ?_
  refine va_get (D := E.1) (ci := 5) (v := .int m_states) (C := RX5) (T := TX5) (N := 27) hx hb hts in_X5 hown hK hP 0 rfl rfl 2 (by decide) (hts _ q700) (fun _ h9 => h9) rfl dX5_keep_1 ?_
  refine lv_bipush (v := 6) hx hb dX5_keep_4 (by decide) ?_
  refine lv_icmp_ne (tgt := 49) hx hb dX5_keep_6 (by decide) (fun c_ => ?_) (fun c_ => ?_)
  · have hw := hw.2 c_
    exact w_X5_keep_L49 F hE hA m_came m_byDepth m_byGuesser m_outLong m_low m_textLong m_place m_readLong m_refused m_line m_noughts m_ones m_weights m_ownCost m_way m_own m_mixed m_guessAt m_treeCost m_isLeaf m_inTree m_out m_text m_read m_now K m_states m_past _ _ _ hw hP hD hS (lv_sub hl [0] rfl)
  · have hw := hw.1 c_
    refine lv_iconst (v := 0) hx hb dX5_keep_9 (by decide) ?_
    refine lv_istore_n (lv' := [(1, .int (0 : Int32)), (0, .ref (a 0))]) hx hb dX5_keep_10 rfl hl (by decide) rfl (fun ls hl => ?_)
    obtain ⟨k_, hw⟩ := hw
    exact w_X5_keep_L11 F hE hA m_came m_byDepth m_byGuesser m_outLong m_low m_textLong m_place m_readLong m_refused m_line m_noughts m_ones m_weights m_ownCost m_way m_own m_mixed m_guessAt m_treeCost m_isLeaf m_inTree m_out m_text m_read m_now K k_ (0 : Int32) m_states m_past _ _ _ hw hP hD hS (lv_sub hl [1, 0] rfl)
theorem met_X5_keep (l : Launch) (E : gE) (a : Nat → Nat) (sz : Nat) (m_states : Int32) (m_came : Int32) (m_byDepth : Int32) (m_byGuesser : Int32) (m_outLong : Int32) (m_low : Int64) (m_textLong : Int32) (m_place : Int32) (m_readLong : Int32) (m_now : Nat → Int32) (m_past : Nat → Int32) (m_refused : Nat → Int32) (m_line : Nat → Int32) (m_noughts : Nat → Int32) (m_ones : Nat → Int32) (m_weights : Nat → Int32) (m_ownCost : Nat → Int32) (m_way : Nat → Int32) (m_own : Nat → Int32) (m_mixed : Nat → Int32) (m_guessAt : Nat → Int32) (m_treeCost : Nat → Int32) (m_isLeaf : Nat → Int32) (m_inTree : Nat → Int32) (m_out : Nat → Int32) (m_text : Nat → Int32) (m_read : Nat → Int32)  {K : Int32 → (Nat → Int32) → Prop} (hw : wp_X5_keep m_states m_now m_past K) : Met l yX5_keep (ws_ yX5_keep cX5_keep 2 (none)) rm_X5_keep (pr_ (nM E) E (wM E a m_states m_came m_byDepth m_byGuesser m_outLong m_low m_textLong m_place m_readLong m_now m_past m_refused m_line m_noughts m_ones m_weights m_ownCost m_way m_own m_mixed m_guessAt m_treeCost m_isLeaf m_inTree m_out m_text m_read) sz [.ref (a 0)]) (q_X5_keep E a m_came m_byDepth m_byGuesser m_outLong m_low m_textLong m_place m_readLong m_refused m_line m_noughts m_ones m_weights m_ownCost m_way m_own m_mixed m_guessAt m_treeCost m_isLeaf m_inTree m_out m_text m_read m_now K (va_A (wM E a m_states m_came m_byDepth m_byGuesser m_outLong m_low m_textLong m_place m_readLong m_now m_past m_refused m_line m_noughts m_ones m_weights m_ownCost m_way m_own m_mixed m_guessAt m_treeCost m_isLeaf m_inTree m_out m_text m_read) sz)) 0 0 (va_A (wM E a m_states m_came m_byDepth m_byGuesser m_outLong m_low m_textLong m_place m_readLong m_now m_past m_refused m_line m_noughts m_ones m_weights m_ownCost m_way m_own m_mixed m_guessAt m_treeCost m_isLeaf m_inTree m_out m_text m_read) sz) :=
  met_of (Qc := fun A => q_X5_keep E a m_came m_byDepth m_byGuesser m_outLong m_low m_textLong m_place m_readLong m_refused m_line m_noughts m_ones m_weights m_ownCost m_way m_own m_mixed m_guessAt m_treeCost m_isLeaf m_inTree m_out m_text m_read m_now K A) (by decide) (Nat.le_of_ble_eq_true rfl) (fun _ _ _ _ _ _ _ _ _ F hE hA hP hD hl => w_X5_keep F hE hA m_came m_byDepth m_byGuesser m_outLong m_low m_textLong m_place m_readLong m_refused m_line m_noughts m_ones m_weights m_ownCost m_way m_own m_mixed m_guessAt m_treeCost m_isLeaf m_inTree m_out m_text m_read m_now K m_states m_past  hw hP hD va_S.rf hl)
-- TreeOddsModel.begins (II)V
abbrev rm_X5_begins : Room := { frames := 0, cells := 0, slots := 0, locals := 0 }
abbrev q_X5_begins (E : gE) (a : Nat → Nat) (m_states : Int32) (m_outLong : Int32) (m_low : Int64) (m_textLong : Int32) (m_place : Int32) (m_readLong : Int32) (m_now : Nat → Int32) (m_past : Nat → Int32) (m_refused : Nat → Int32) (m_line : Nat → Int32) (m_way : Nat → Int32) (m_own : Nat → Int32) (m_mixed : Nat → Int32) (m_guessAt : Nat → Int32) (m_treeCost : Nat → Int32) (m_isLeaf : Nat → Int32) (m_inTree : Nat → Int32) (m_out : Nat → Int32) (m_text : Nat → Int32) (m_read : Nat → Int32)  (K : Int32 → Int32 → Int32 → (Nat → Int32) → (Nat → Int32) → (Nat → Int32) → (Nat → Int32) → Prop) (A : Nat → Prop) : Array Value → State → Outcome → State → Prop := va_Qv (fun (u : Int32 × Int32 × Int32 × (Nat → Int32) × (Nat → Int32) × (Nat → Int32) × (Nat → Int32)) => K u.1 u.2.1 u.2.2.1 u.2.2.2.1 u.2.2.2.2.1 u.2.2.2.2.2.1 u.2.2.2.2.2.2) (po_ E A (fun (u : Int32 × Int32 × Int32 × (Nat → Int32) × (Nat → Int32) × (Nat → Int32) × (Nat → Int32)) => wM E a m_states u.1 u.2.1 u.2.2.1 m_outLong m_low m_textLong m_place m_readLong m_now m_past m_refused m_line u.2.2.2.1 u.2.2.2.2.1 u.2.2.2.2.2.1 u.2.2.2.2.2.2 m_way m_own m_mixed m_guessAt m_treeCost m_isLeaf m_inTree m_out m_text m_read)) A
abbrev g_X5_begins (p : Program) (l : Launch) (e : Env) (s : State) (m : MethodId) (args : Array Value) (below : List Frame) (meth : Method) (c : Code) (E : gE) (a : Nat → Nat) (A : Nat → Prop) (m_states : Int32) (m_outLong : Int32) (m_low : Int64) (m_textLong : Int32) (m_place : Int32) (m_readLong : Int32) (m_now : Nat → Int32) (m_past : Nat → Int32) (m_refused : Nat → Int32) (m_line : Nat → Int32) (m_way : Nat → Int32) (m_own : Nat → Int32) (m_mixed : Nat → Int32) (m_guessAt : Nat → Int32) (m_treeCost : Nat → Int32) (m_isLeaf : Nat → Int32) (m_inTree : Nat → Int32) (m_out : Nat → Int32) (m_text : Nat → Int32) (m_read : Nat → Int32)  (K : Int32 → Int32 → Int32 → (Nat → Int32) → (Nat → Int32) → (Nat → Int32) → (Nat → Int32) → Prop) (H : Heap) (locs : List Loc) (pc : Nat) (ls : Array Slot) (st : List Value) : Prop := W p l e rm_X5_begins s m args below meth c H locs 0 0 (MQ below (q_X5_begins E a m_states m_outLong m_low m_textLong m_place m_readLong m_now m_past m_refused m_line m_way m_own m_mixed m_guessAt m_treeCost m_isLeaf m_inTree m_out m_text m_read K A) args s 0 0 A) (F0 m pc ls st)
def wp_X5_begins_L17  (K : Int32 → Int32 → Int32 → (Nat → Int32) → (Nat → Int32) → (Nat → Int32) → (Nat → Int32) → Prop)  : Nat → Int32 → Int32 → Int32 → Int32 → (Nat → Int32) → (Nat → Int32) → (Nat → Int32) → (Nat → Int32) → Prop
  | 0 => fun _ _ _ _ _ _ _ _ => False
  | n_ + 1 => fun x3 m_came m_byDepth m_byGuesser m_noughts m_ones m_weights m_ownCost =>
  ((127 : Int32) ≤ x3 → K m_came m_byDepth m_byGuesser m_noughts m_ones m_weights m_ownCost) ∧
  (¬ (127 : Int32) ≤ x3 → vp_in x3 127 ∧
  (vp_in x3 127 ∧
  (vp_in x3 127 ∧
  (vp_in x3 127 ∧
  (wp_X5_begins_L17 K n_ (x3 + (1 : Int32)) m_came m_byDepth m_byGuesser (upd m_noughts x3.toNatClampNeg (0 : Int32)) (upd m_ones x3.toNatClampNeg (0 : Int32)) (upd m_weights x3.toNatClampNeg (32768 : Int32)) (upd m_ownCost x3.toNatClampNeg (0 : Int32)))))))
set_option maxHeartbeats 4000000 in
set_option maxRecDepth 100000 in
theorem w_X5_begins_L17 {p : Program} {l : Launch} {e : Env} {s : State} {m : MethodId} {args : Array Value} {below : List Frame} {meth : Method} {c : Code} {E : gE} {a : Nat → Nat} {A : Nat → Prop} (F : fx_ p s m args meth c RX5 cX5_begins 4 (none)) (hE : nM E A s) (hA : ∀ q, s.heap.size ≤ q → A q) (m_states : Int32) (m_outLong : Int32) (m_low : Int64) (m_textLong : Int32) (m_place : Int32) (m_readLong : Int32) (m_now : Nat → Int32) (m_past : Nat → Int32) (m_refused : Nat → Int32) (m_line : Nat → Int32) (m_way : Nat → Int32) (m_own : Nat → Int32) (m_mixed : Nat → Int32) (m_guessAt : Nat → Int32) (m_treeCost : Nat → Int32) (m_isLeaf : Nat → Int32) (m_inTree : Nat → Int32) (m_out : Nat → Int32) (m_text : Nat → Int32) (m_read : Nat → Int32)  (K : Int32 → Int32 → Int32 → (Nat → Int32) → (Nat → Int32) → (Nat → Int32) → (Nat → Int32) → Prop)  : ∀ (n_ : Nat) (x3 : Int32) (m_came : Int32) (m_byDepth : Int32) (m_byGuesser : Int32) (m_noughts : Nat → Int32) (m_ones : Nat → Int32) (m_weights : Nat → Int32) (m_ownCost : Nat → Int32) (H : Heap) (locs : List Loc) (ls : Array Slot), wp_X5_begins_L17 K n_ x3 m_came m_byDepth m_byGuesser m_noughts m_ones m_weights m_ownCost → va_P E.1 vwCl (wM E a m_states m_came m_byDepth m_byGuesser m_outLong m_low m_textLong m_place m_readLong m_now m_past m_refused m_line m_noughts m_ones m_weights m_ownCost m_way m_own m_mixed m_guessAt m_treeCost m_isLeaf m_inTree m_out m_text m_read) H → va_D A (wM E a m_states m_came m_byDepth m_byGuesser m_outLong m_low m_textLong m_place m_readLong m_now m_past m_refused m_line m_noughts m_ones m_weights m_ownCost m_way m_own m_mixed m_guessAt m_treeCost m_isLeaf m_inTree m_out m_text m_read) → va_S A s.heap H locs → lv_has ls 4 [(0, .ref (a 0)), (3, .int x3)] → g_X5_begins p l e s m args below meth c E a A m_states m_outLong m_low m_textLong m_place m_readLong m_now m_past m_refused m_line m_way m_own m_mixed m_guessAt m_treeCost m_isLeaf m_inTree m_out m_text m_read K H locs 17 ls [] := by
  obtain ⟨hx, hb, hr, hlk, hml, hown, hts⟩ := id F
  have hK : va_K E.1 vwCl (tyL E) s := hE
  intro n_
  induction n_ with
  | zero =>
    intro x3 m_came m_byDepth m_byGuesser m_noughts m_ones m_weights m_ownCost H locs ls hw hP hD hS hl
    exact hw.elim
  | succ n_ ih =>
    intro x3 m_came m_byDepth m_byGuesser m_noughts m_ones m_weights m_ownCost H locs ls hw hP hD hS hl
    unfold wp_X5_begins_L17 at hw
    refine lv_iload_n hx hb dX5_begins_17 rfl (lv_at hl 1 rfl) ?_
    refine lv_bipush (v := 127) hx hb dX5_begins_18 (by decide) ?_
    refine lv_icmp_ge (tgt := 58) hx hb dX5_begins_20 (by decide) (fun c_ => ?_) (fun c_ => ?_)
    · have hw := hw.1 c_
      exact W.vret hx hb hr (fun t ht hW => ⟨⟨(m_came, m_byDepth, m_byGuesser, m_noughts, m_ones, m_weights, m_ownCost), rfl, hw, by rw [ht]; exact hP, hD⟩, hS.F ht⟩) hS.2.2 dX5_begins_58 hlk
    · have hw := hw.2 c_
      refine lv_aload_n hx hb dX5_begins_23 rfl (lv_at hl 0 rfl) ?_
      refine va_get (D := E.1) (ci := 5) (v := .ref (a 5)) (C := RX5) (T := TX5) (N := 27) hx hb hts in_X5 hown hK hP 0 rfl rfl 8 (by decide) (hts _ q706) (fun _ h9 => h9) rfl dX5_begins_24 ?_
      refine lv_iload_n hx hb dX5_begins_27 rfl (lv_at hl 1 rfl) ?_
      refine lv_iconst (v := 0) hx hb dX5_begins_28 (by decide) ?_
      obtain ⟨hi_, hw⟩ := hw
      refine va_iast hx hb hK hP hD hS 5 0 rfl rfl hi_ dX5_begins_29 (fun H locs hP hD hS => ?_)
      have hP : va_P E.1 vwCl (wM E a m_states m_came m_byDepth m_byGuesser m_outLong m_low m_textLong m_place m_readLong m_now m_past m_refused m_line (upd m_noughts x3.toNatClampNeg (0 : Int32)) m_ones m_weights m_ownCost m_way m_own m_mixed m_guessAt m_treeCost m_isLeaf m_inTree m_out m_text m_read) H := hP
      have hD : va_D A (wM E a m_states m_came m_byDepth m_byGuesser m_outLong m_low m_textLong m_place m_readLong m_now m_past m_refused m_line (upd m_noughts x3.toNatClampNeg (0 : Int32)) m_ones m_weights m_ownCost m_way m_own m_mixed m_guessAt m_treeCost m_isLeaf m_inTree m_out m_text m_read) := hD
      refine lv_aload_n hx hb dX5_begins_30 rfl (lv_at hl 0 rfl) ?_
      refine va_get (D := E.1) (ci := 5) (v := .ref (a 6)) (C := RX5) (T := TX5) (N := 27) hx hb hts in_X5 hown hK hP 0 rfl rfl 9 (by decide) (hts _ q707) (fun _ h9 => h9) rfl dX5_begins_31 ?_
      refine lv_iload_n hx hb dX5_begins_34 rfl (lv_at hl 1 rfl) ?_
      refine lv_iconst (v := 0) hx hb dX5_begins_35 (by decide) ?_
      obtain ⟨hi_, hw⟩ := hw
      refine va_iast hx hb hK hP hD hS 6 0 rfl rfl hi_ dX5_begins_36 (fun H locs hP hD hS => ?_)
      have hP : va_P E.1 vwCl (wM E a m_states m_came m_byDepth m_byGuesser m_outLong m_low m_textLong m_place m_readLong m_now m_past m_refused m_line (upd m_noughts x3.toNatClampNeg (0 : Int32)) (upd m_ones x3.toNatClampNeg (0 : Int32)) m_weights m_ownCost m_way m_own m_mixed m_guessAt m_treeCost m_isLeaf m_inTree m_out m_text m_read) H := hP
      have hD : va_D A (wM E a m_states m_came m_byDepth m_byGuesser m_outLong m_low m_textLong m_place m_readLong m_now m_past m_refused m_line (upd m_noughts x3.toNatClampNeg (0 : Int32)) (upd m_ones x3.toNatClampNeg (0 : Int32)) m_weights m_ownCost m_way m_own m_mixed m_guessAt m_treeCost m_isLeaf m_inTree m_out m_text m_read) := hD
      refine lv_aload_n hx hb dX5_begins_37 rfl (lv_at hl 0 rfl) ?_
      refine va_get (D := E.1) (ci := 5) (v := .ref (a 7)) (C := RX5) (T := TX5) (N := 27) hx hb hts in_X5 hown hK hP 0 rfl rfl 10 (by decide) (hts _ q708) (fun _ h9 => h9) rfl dX5_begins_38 ?_
      refine lv_iload_n hx hb dX5_begins_41 rfl (lv_at hl 1 rfl) ?_
      refine lv_ldc hx hb hown (hts _ q831) dX5_begins_42 ?_
      obtain ⟨hi_, hw⟩ := hw
      refine va_iast hx hb hK hP hD hS 7 0 rfl rfl hi_ dX5_begins_44 (fun H locs hP hD hS => ?_)
      have hP : va_P E.1 vwCl (wM E a m_states m_came m_byDepth m_byGuesser m_outLong m_low m_textLong m_place m_readLong m_now m_past m_refused m_line (upd m_noughts x3.toNatClampNeg (0 : Int32)) (upd m_ones x3.toNatClampNeg (0 : Int32)) (upd m_weights x3.toNatClampNeg (32768 : Int32)) m_ownCost m_way m_own m_mixed m_guessAt m_treeCost m_isLeaf m_inTree m_out m_text m_read) H := hP
      have hD : va_D A (wM E a m_states m_came m_byDepth m_byGuesser m_outLong m_low m_textLong m_place m_readLong m_now m_past m_refused m_line (upd m_noughts x3.toNatClampNeg (0 : Int32)) (upd m_ones x3.toNatClampNeg (0 : Int32)) (upd m_weights x3.toNatClampNeg (32768 : Int32)) m_ownCost m_way m_own m_mixed m_guessAt m_treeCost m_isLeaf m_inTree m_out m_text m_read) := hD
      refine lv_aload_n hx hb dX5_begins_45 rfl (lv_at hl 0 rfl) ?_
      refine va_get (D := E.1) (ci := 5) (v := .ref (a 8)) (C := RX5) (T := TX5) (N := 27) hx hb hts in_X5 hown hK hP 0 rfl rfl 11 (by decide) (hts _ q709) (fun _ h9 => h9) rfl dX5_begins_46 ?_
      refine lv_iload_n hx hb dX5_begins_49 rfl (lv_at hl 1 rfl) ?_
      refine lv_iconst (v := 0) hx hb dX5_begins_50 (by decide) ?_
      obtain ⟨hi_, hw⟩ := hw
      refine va_iast hx hb hK hP hD hS 8 0 rfl rfl hi_ dX5_begins_51 (fun H locs hP hD hS => ?_)
      have hP : va_P E.1 vwCl (wM E a m_states m_came m_byDepth m_byGuesser m_outLong m_low m_textLong m_place m_readLong m_now m_past m_refused m_line (upd m_noughts x3.toNatClampNeg (0 : Int32)) (upd m_ones x3.toNatClampNeg (0 : Int32)) (upd m_weights x3.toNatClampNeg (32768 : Int32)) (upd m_ownCost x3.toNatClampNeg (0 : Int32)) m_way m_own m_mixed m_guessAt m_treeCost m_isLeaf m_inTree m_out m_text m_read) H := hP
      have hD : va_D A (wM E a m_states m_came m_byDepth m_byGuesser m_outLong m_low m_textLong m_place m_readLong m_now m_past m_refused m_line (upd m_noughts x3.toNatClampNeg (0 : Int32)) (upd m_ones x3.toNatClampNeg (0 : Int32)) (upd m_weights x3.toNatClampNeg (32768 : Int32)) (upd m_ownCost x3.toNatClampNeg (0 : Int32)) m_way m_own m_mixed m_guessAt m_treeCost m_isLeaf m_inTree m_out m_text m_read) := hD
      refine lv_iinc (v := x3 + (1 : Int32)) (lv' := [(3, .int (x3 + (1 : Int32))), (0, .ref (a 0))]) hx hb dX5_begins_52 hl (k := 1) rfl (by rfl) (by decide) rfl (fun ls hl => ?_)
      refine lv_goto (tgt := 17) hx hb dX5_begins_55 (by decide) ?_
      exact ih (x3 + (1 : Int32)) m_came m_byDepth m_byGuesser (upd m_noughts x3.toNatClampNeg (0 : Int32)) (upd m_ones x3.toNatClampNeg (0 : Int32)) (upd m_weights x3.toNatClampNeg (32768 : Int32)) (upd m_ownCost x3.toNatClampNeg (0 : Int32)) _ _ _ hw hP hD hS (lv_sub hl [1, 0] rfl)
def wp_X5_begins (x1 : Int32) (x2 : Int32) (m_came : Int32) (m_byDepth : Int32) (m_byGuesser : Int32) (m_noughts : Nat → Int32) (m_ones : Nat → Int32) (m_weights : Nat → Int32) (m_ownCost : Nat → Int32) (K : Int32 → Int32 → Int32 → (Nat → Int32) → (Nat → Int32) → (Nat → Int32) → (Nat → Int32) → Prop) : Prop :=
  ∃ k_, wp_X5_begins_L17 K k_ (0 : Int32) (0 : Int32) x1 x2 m_noughts m_ones m_weights m_ownCost
set_option maxHeartbeats 4000000 in
set_option maxRecDepth 100000 in
theorem w_X5_begins {p : Program} {l : Launch} {e : Env} {s : State} {m : MethodId} {args : Array Value} {below : List Frame} {meth : Method} {c : Code} {E : gE} {a : Nat → Nat} {A : Nat → Prop} (F : fx_ p s m args meth c RX5 cX5_begins 4 (none)) (hE : nM E A s) (hA : ∀ q, s.heap.size ≤ q → A q) (m_states : Int32) (m_outLong : Int32) (m_low : Int64) (m_textLong : Int32) (m_place : Int32) (m_readLong : Int32) (m_now : Nat → Int32) (m_past : Nat → Int32) (m_refused : Nat → Int32) (m_line : Nat → Int32) (m_way : Nat → Int32) (m_own : Nat → Int32) (m_mixed : Nat → Int32) (m_guessAt : Nat → Int32) (m_treeCost : Nat → Int32) (m_isLeaf : Nat → Int32) (m_inTree : Nat → Int32) (m_out : Nat → Int32) (m_text : Nat → Int32) (m_read : Nat → Int32)  (K : Int32 → Int32 → Int32 → (Nat → Int32) → (Nat → Int32) → (Nat → Int32) → (Nat → Int32) → Prop) (m_came : Int32) (m_byDepth : Int32) (m_byGuesser : Int32) (m_noughts : Nat → Int32) (m_ones : Nat → Int32) (m_weights : Nat → Int32) (m_ownCost : Nat → Int32) (x1 : Int32) (x2 : Int32) {H : Heap} {locs : List Loc} {ls : Array Slot} (hw : wp_X5_begins x1 x2 m_came m_byDepth m_byGuesser m_noughts m_ones m_weights m_ownCost K) (hP : va_P E.1 vwCl (wM E a m_states m_came m_byDepth m_byGuesser m_outLong m_low m_textLong m_place m_readLong m_now m_past m_refused m_line m_noughts m_ones m_weights m_ownCost m_way m_own m_mixed m_guessAt m_treeCost m_isLeaf m_inTree m_out m_text m_read) H) (hD : va_D A (wM E a m_states m_came m_byDepth m_byGuesser m_outLong m_low m_textLong m_place m_readLong m_now m_past m_refused m_line m_noughts m_ones m_weights m_ownCost m_way m_own m_mixed m_guessAt m_treeCost m_isLeaf m_inTree m_out m_text m_read)) (hS : va_S A s.heap H locs) (hl : lv_has ls 4 [(0, .ref (a 0)), (1, .int x1), (2, .int x2)]) : g_X5_begins p l e s m args below meth c E a A m_states m_outLong m_low m_textLong m_place m_readLong m_now m_past m_refused m_line m_way m_own m_mixed m_guessAt m_treeCost m_isLeaf m_inTree m_out m_text m_read K H locs 0 ls [] := by
  obtain ⟨hx, hb, hr, hlk, hml, hown, hts⟩ := id F
  have hK : va_K E.1 vwCl (tyL E) s := hE
  unfold wp_X5_begins at hw
  refine lv_aload_n hx hb dX5_begins_0 rfl (lv_at hl 0 rfl) ?_
  refine lv_iconst (v := 0) hx hb dX5_begins_1 (by decide) ?_
  refine va_put (D := E.1) (ci := 5) (v := .int (0 : Int32)) (ty := .int) (C := RX5) (T := TX5) (N := 27) hx hb hts in_X5 tyX5 tyX5_ok nmX5 hown hK hP hD hS 0 rfl rfl 5 (by decide) (hts _ q703) (fun _ h9 => h9) rfl (tyX5_ok 5 (by decide)) rfl rfl (Nat.le_of_ble_eq_true rfl) dX5_begins_2 (fun H locs hP hD hS => ?_)
  have hP : va_P E.1 vwCl (wM E a m_states (0 : Int32) m_byDepth m_byGuesser m_outLong m_low m_textLong m_place m_readLong m_now m_past m_refused m_line m_noughts m_ones m_weights m_ownCost m_way m_own m_mixed m_guessAt m_treeCost m_isLeaf m_inTree m_out m_text m_read) H := hP
  have hD : va_D A (wM E a m_states (0 : Int32) m_byDepth m_byGuesser m_outLong m_low m_textLong m_place m_readLong m_now m_past m_refused m_line m_noughts m_ones m_weights m_ownCost m_way m_own m_mixed m_guessAt m_treeCost m_isLeaf m_inTree m_out m_text m_read) := hD
  refine lv_aload_n hx hb dX5_begins_5 rfl (lv_at hl 0 rfl) ?_
  refine lv_iload_n hx hb dX5_begins_6 rfl (lv_at hl 1 rfl) ?_
  refine va_put (D := E.1) (ci := 5) (v := .int x1) (ty := .int) (C := RX5) (T := TX5) (N := 27) hx hb hts in_X5 tyX5 tyX5_ok nmX5 hown hK hP hD hS 0 rfl rfl 6 (by decide) (hts _ q704) (fun _ h9 => h9) rfl (tyX5_ok 6 (by decide)) rfl rfl (Nat.le_of_ble_eq_true rfl) dX5_begins_7 (fun H locs hP hD hS => ?_)
  have hP : va_P E.1 vwCl (wM E a m_states (0 : Int32) x1 m_byGuesser m_outLong m_low m_textLong m_place m_readLong m_now m_past m_refused m_line m_noughts m_ones m_weights m_ownCost m_way m_own m_mixed m_guessAt m_treeCost m_isLeaf m_inTree m_out m_text m_read) H := hP
  have hD : va_D A (wM E a m_states (0 : Int32) x1 m_byGuesser m_outLong m_low m_textLong m_place m_readLong m_now m_past m_refused m_line m_noughts m_ones m_weights m_ownCost m_way m_own m_mixed m_guessAt m_treeCost m_isLeaf m_inTree m_out m_text m_read) := hD
  refine lv_aload_n hx hb dX5_begins_10 rfl (lv_at hl 0 rfl) ?_
  refine lv_iload_n hx hb dX5_begins_11 rfl (lv_at hl 2 rfl) ?_
  refine va_put (D := E.1) (ci := 5) (v := .int x2) (ty := .int) (C := RX5) (T := TX5) (N := 27) hx hb hts in_X5 tyX5 tyX5_ok nmX5 hown hK hP hD hS 0 rfl rfl 7 (by decide) (hts _ q705) (fun _ h9 => h9) rfl (tyX5_ok 7 (by decide)) rfl rfl (Nat.le_of_ble_eq_true rfl) dX5_begins_12 (fun H locs hP hD hS => ?_)
  have hP : va_P E.1 vwCl (wM E a m_states (0 : Int32) x1 x2 m_outLong m_low m_textLong m_place m_readLong m_now m_past m_refused m_line m_noughts m_ones m_weights m_ownCost m_way m_own m_mixed m_guessAt m_treeCost m_isLeaf m_inTree m_out m_text m_read) H := hP
  have hD : va_D A (wM E a m_states (0 : Int32) x1 x2 m_outLong m_low m_textLong m_place m_readLong m_now m_past m_refused m_line m_noughts m_ones m_weights m_ownCost m_way m_own m_mixed m_guessAt m_treeCost m_isLeaf m_inTree m_out m_text m_read) := hD
  refine lv_iconst (v := 0) hx hb dX5_begins_15 (by decide) ?_
  refine lv_istore_n (lv' := [(3, .int (0 : Int32)), (0, .ref (a 0)), (1, .int x1), (2, .int x2)]) hx hb dX5_begins_16 rfl hl (by decide) rfl (fun ls hl => ?_)
  obtain ⟨k_, hw⟩ := hw
  exact w_X5_begins_L17 F hE hA m_states m_outLong m_low m_textLong m_place m_readLong m_now m_past m_refused m_line m_way m_own m_mixed m_guessAt m_treeCost m_isLeaf m_inTree m_out m_text m_read K k_ (0 : Int32) (0 : Int32) x1 x2 m_noughts m_ones m_weights m_ownCost _ _ _ hw hP hD hS (lv_sub hl [1, 0] rfl)
theorem met_X5_begins (l : Launch) (E : gE) (a : Nat → Nat) (sz : Nat) (m_states : Int32) (m_came : Int32) (m_byDepth : Int32) (m_byGuesser : Int32) (m_outLong : Int32) (m_low : Int64) (m_textLong : Int32) (m_place : Int32) (m_readLong : Int32) (m_now : Nat → Int32) (m_past : Nat → Int32) (m_refused : Nat → Int32) (m_line : Nat → Int32) (m_noughts : Nat → Int32) (m_ones : Nat → Int32) (m_weights : Nat → Int32) (m_ownCost : Nat → Int32) (m_way : Nat → Int32) (m_own : Nat → Int32) (m_mixed : Nat → Int32) (m_guessAt : Nat → Int32) (m_treeCost : Nat → Int32) (m_isLeaf : Nat → Int32) (m_inTree : Nat → Int32) (m_out : Nat → Int32) (m_text : Nat → Int32) (m_read : Nat → Int32) (x1 : Int32) (x2 : Int32) {K : Int32 → Int32 → Int32 → (Nat → Int32) → (Nat → Int32) → (Nat → Int32) → (Nat → Int32) → Prop} (hw : wp_X5_begins x1 x2 m_came m_byDepth m_byGuesser m_noughts m_ones m_weights m_ownCost K) : Met l yX5_begins (ws_ yX5_begins cX5_begins 4 (none)) rm_X5_begins (pr_ (nM E) E (wM E a m_states m_came m_byDepth m_byGuesser m_outLong m_low m_textLong m_place m_readLong m_now m_past m_refused m_line m_noughts m_ones m_weights m_ownCost m_way m_own m_mixed m_guessAt m_treeCost m_isLeaf m_inTree m_out m_text m_read) sz [.ref (a 0), .int x1, .int x2]) (q_X5_begins E a m_states m_outLong m_low m_textLong m_place m_readLong m_now m_past m_refused m_line m_way m_own m_mixed m_guessAt m_treeCost m_isLeaf m_inTree m_out m_text m_read K (va_A (wM E a m_states m_came m_byDepth m_byGuesser m_outLong m_low m_textLong m_place m_readLong m_now m_past m_refused m_line m_noughts m_ones m_weights m_ownCost m_way m_own m_mixed m_guessAt m_treeCost m_isLeaf m_inTree m_out m_text m_read) sz)) 0 0 (va_A (wM E a m_states m_came m_byDepth m_byGuesser m_outLong m_low m_textLong m_place m_readLong m_now m_past m_refused m_line m_noughts m_ones m_weights m_ownCost m_way m_own m_mixed m_guessAt m_treeCost m_isLeaf m_inTree m_out m_text m_read) sz) :=
  met_of (Qc := fun A => q_X5_begins E a m_states m_outLong m_low m_textLong m_place m_readLong m_now m_past m_refused m_line m_way m_own m_mixed m_guessAt m_treeCost m_isLeaf m_inTree m_out m_text m_read K A) (by decide) (Nat.le_of_ble_eq_true rfl) (fun _ _ _ _ _ _ _ _ _ F hE hA hP hD hl => w_X5_begins F hE hA m_states m_outLong m_low m_textLong m_place m_readLong m_now m_past m_refused m_line m_way m_own m_mixed m_guessAt m_treeCost m_isLeaf m_inTree m_out m_text m_read K m_came m_byDepth m_byGuesser m_noughts m_ones m_weights m_ownCost x1 x2 hw hP hD va_S.rf hl)
