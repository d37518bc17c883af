def N0_ (E : gE) : (Nat → Prop) → State → Prop := fun _ U => va_K E.1 vwCl [] U
theorem N0_ok (E : gE) : enOK (N0_ E) := ⟨fun _ U g mk a h => va_K.moved (u := U) (U := U.calling g mk a) (Vm.Alike.refl U.vm) h, fun _ _ _ _ _ _ h _ _ _ hW => va_K.moved hW.alike h⟩
theorem met_ofI {l : Launch} {y : MethodName} {cc : ByteArray} {nL mc ms : Nat} {ret : Option FieldType} {rm : Room} {N : (Nat → Prop) → State → Prop} {E : gE} {ws : va_W} {sz : Nat} {av : List Value} {Qc : (Nat → Prop) → Array Value → State → Outcome → State → Prop} (hy : plainName y.cls = true) (hlen : (lg_sl av).length ≤ nL)
    (k : ∀ (p : Program) (e : Env) (s : State) (m : MethodId) (below : List Frame) (meth : Method) (c : Code) (A : Nat → Prop) (ls : Array Slot), meth.name = y.name → fx_ p s m av.toArray meth c y.cls cc nL ret → N A s → (∀ q, s.heap.size ≤ q → A q) → va_P E.1 vwCl ws s.heap → va_D A ws → lv_has ls nL (lv_args 0 av) →
      W p l e rm s m av.toArray below meth c s.heap [] 0 0 (MQ below (Qc A) av.toArray s mc ms A) (F0 m 0 ls [])) : Met l y (ws_ y cc nL ret) rm (pr_ N E ws sz av) (Qc (va_A ws sz)) mc ms (va_A ws sz) := by
  refine Met.ofW (cc := cc) (maxL := nL) (ret := ret) hy rfl ?_
  intro p e s m args below meth c s₁ B hml hv
  obtain ⟨rfl, hsz, hP, hD0, hE⟩ := hv
  subst hsz
  have hts := atoms_spec (ws := ws_ y cc nL ret) B.pre
  have F : fx_ p s m av.toArray meth c y.cls cc nL ret := ⟨B.exec, B.bytes, B.returns, B.notSynchronized, hml, findClass_of_methodNamed B.named, fun w h => hts w (List.mem_cons_of_mem _ h)⟩
  have hl := lv_entry av hlen
  rw [lg_entry_eq]
  exact k p e s m below meth c _ _ (name_of_methodNamed B.named B.method).1 F hE (fun q h => Or.inr h) hP (hD0.self (sz := s.heap.size)) hl
section DRI
variable {p : Program} {l : Launch} {e : Env} {R : Room} {s : State} {m : MethodId} {args : Array Value} {below : List Frame} {meth : Method} {c : Code} {H : Heap} {locs : List Loc} {cells slots : Nat} {Q : State → Prop}
variable {y : MethodName} {bytes cc : ByteArray} {maxL nL mc ms n index : Nat} {wsy : List Cond} {rm : Room} {Ts : List Cond} {own host : String} {b : Addr} {As rest : List Value} {pc : Nat} {ls : Array Slot} {st0 : List Value} {E : gE} {A : Nat → Prop} {ws wc wr : va_W} {tys : List (ClassId × FieldType)}
theorem dr_pre (hK : va_K E.1 vwCl tys s) (hP : va_P E.1 vwCl ws H) (hD : va_D A ws) (hS : va_S A s.heap H locs) (hA : ∀ q, s.heap.size ≤ q → A q) (isC : List Nat) (hC : isC.map (fun i => ws[i]?) = wc.map some) (hnC : va_nd isC = true) (av : List Value) :
    (∀ q, va_A wc H.size q → A q) ∧ FrameBlind (pr_ (N0_ E) E wc H.size av) ∧ ∀ U : State, U.heap = H → s.WarmedH U.vm → pr_ (N0_ E) E wc H.size av av.toArray U := by
  have hPc : va_P E.1 vwCl wc H := fun k q hk => by
    have h1 : (isC.map (fun i => ws[i]?))[k]? = some (some q) := by rw [hC, List.getElem?_map, hk]; rfl
    rw [List.getElem?_map] at h1
    cases hi : isC[k]? with
    | none => rw [hi] at h1; cases h1
    | some i => rw [hi] at h1; exact hP i q (Option.some.inj h1)
  have hDc : va_D A wc := hD.sub isC hnC hC
  have hF := frA hDc hS hA
  exact ⟨hF, pr_pre (N0_ok E) (hK.sub [] rfl) hPc hDc hS hF⟩
theorem dr_I (X : CallFix p m c cc nL s args Ts own) (hK : va_K E.1 vwCl tys s) (hP : va_P E.1 vwCl ws H) (hD : va_D A ws) (hS : va_S A s.heap H locs) (hA : ∀ q, s.heap.size ≤ q → A q) (isC isR : List Nat) (hC : isC.map (fun i => ws[i]?) = wc.map some) (hR' : isR.map (fun i => ws[i]?) = wr.map some) (hnd : va_nd isC = true ∧ va_nd isR = true) (hdis : ∀ i ∈ isR, i ∉ isC)
    (hM : Met l y wsy rm (pr_ (N0_ E) E wc H.size (.ref b :: As)) (va_Qv (fun _ : Unit => True) (fun _ _ => True) (va_A wc H.size)) mc ms (va_A wc H.size)) (cw : CallB R s args own index y bytes maxL none wsy rm mc ms n ∧ y.name = "<init>" ∧ (Cond.instanceMethod y).before args s = true)
    (hn : As.length = n) (hsize : ls.size = nL) (hst : st0 = As.reverse ++ .ref b :: rest) (hW : (rest.map fun v => v.category).sum ≤ 8) (hdg : decode cc pc = .ok (.invokespecial index, 3)) (hf : cells + mc ≤ R.cells ∧ slots + ms ≤ R.slots)
    (kk : ∀ (H1 : Heap) (locs1 : List Loc), va_P E.1 vwCl wr H1 → va_D A wr → va_S A s.heap H1 locs1 → W p l e R s m args below meth c H1 locs1 (cells + mc) (slots + ms) Q (F0 m (pc + 3) ls rest)) :
    W p l e R s m args below meth c H locs cells slots Q (F0 m pc ls st0) := by
  obtain ⟨hF, hb1, hb2⟩ := dr_pre hK hP hD hS hA isC hC hnd.1 (.ref b :: As)
  subst hst
  refine va_callv (va_runI (As := As) (rest := rest) X hM cw ⟨hb1, hb2⟩ rfl hn hsize rfl (lv_room hW) hdg hf) hS (fun q _ h => hF q h) hF (fun u t H1 locs1 ht _ _ _ _ hk1 hS1 => ?_)
  obtain ⟨hP2, hD2⟩ := va_join (wr := wr) (w1 := []) hP hD isC isR hC hR' hnd.2 hdis hk1 hF (fun k q h => by simp at h) ⟨fun i j p q h => by simp at h, fun k q h => by simp at h⟩
  rw [List.append_nil] at hP2 hD2
  exact kk H1 locs1 hP2 hD2 hS1
theorem dr_IN (X : CallFix p m c cc nL s args Ts own) (hK : va_K E.1 vwCl tys s) (hP : va_P E.1 vwCl ws H) (hD : va_D A ws) (hS : va_S A s.heap H locs) (hA : ∀ q, s.heap.size ≤ q → A q) (isC isR : List Nat) (hC : isC.map (fun i => ws[i]?) = wc.map some) (hR' : isR.map (fun i => ws[i]?) = wr.map some) (hnd : va_nd isC = true ∧ va_nd isR = true) (hdis : ∀ i ∈ isR, i ∉ isC)
    (hM : Met l y wsy rm (pr_ (N0_ E) E wc H.size (.ref b :: As)) (va_Qv (fun _ : Unit => True) (fun _ _ => True) (va_A wc H.size)) mc ms (va_A wc H.size)) (cw : va_CN R s args own index y host bytes maxL none wsy rm mc ms n ∧ y.name = "<init>" ∧ (Cond.instanceMethod y).before args s = true)
    (hn : As.length = n) (hsize : ls.size = nL) (hst : st0 = As.reverse ++ .ref b :: rest) (hW : (rest.map fun v => v.category).sum ≤ 8) (hdg : decode cc pc = .ok (.invokespecial index, 3)) (hf : cells + mc ≤ R.cells ∧ slots + ms ≤ R.slots)
    (kk : ∀ (H1 : Heap) (locs1 : List Loc), va_P E.1 vwCl wr H1 → va_D A wr → va_S A s.heap H1 locs1 → W p l e R s m args below meth c H1 locs1 (cells + mc) (slots + ms) Q (F0 m (pc + 3) ls rest)) :
    W p l e R s m args below meth c H locs cells slots Q (F0 m pc ls st0) := by
  obtain ⟨hF, hb1, hb2⟩ := dr_pre hK hP hD hS hA isC hC hnd.1 (.ref b :: As)
  subst hst
  refine va_callv (va_runIN (As := As) (rest := rest) X hM cw ⟨hb1, hb2⟩ rfl hn hsize rfl (lv_room hW) hdg hf) hS (fun q _ h => hF q h) hF (fun u t H1 locs1 ht _ _ _ _ hk1 hS1 => ?_)
  obtain ⟨hP2, hD2⟩ := va_join (wr := wr) (w1 := []) hP hD isC isR hC hR' hnd.2 hdis hk1 hF (fun k q h => by simp at h) ⟨fun i j p q h => by simp at h, fun k q h => by simp at h⟩
  rw [List.append_nil] at hP2 hD2
  exact kk H1 locs1 hP2 hD2 hS1
end DRI

abbrev rm0_X1 : Room := { frames := 1, cells := 5, slots := 398, locals := 30 }
set_option maxHeartbeats 4000000 in
set_option maxRecDepth 100000 in
theorem m0_X1 (l : Launch) (E : gE) (q sz : Nat)  : Met l yX1_init (ws_ yX1_init cX1_init 1 none) rm0_X1 (pr_ (N0_ E) E [(q, .inr (1, [.null, .null, .null, .null, .null, .int 0, .null, .int 0]))] sz [.ref q]) (va_Qv (fun _ : Unit => True) (fun _ _ => True) (va_A [(q, .inr (1, [.null, .null, .null, .null, .null, .int 0, .null, .int 0]))] sz)) 5 398 (va_A [(q, .inr (1, [.null, .null, .null, .null, .null, .int 0, .null, .int 0]))] sz) := by
  refine met_ofI (Qc := fun A => va_Qv (fun _ : Unit => True) (fun _ _ => True) A) (by decide) (Nat.le_of_ble_eq_true rfl) (fun p e s m below meth c A ls hin F hE hA hP hD hl => ?_)
  obtain ⟨hx, hb, hr, hlk, hml, hown, hts⟩ := id F
  have hK : va_K E.1 vwCl [] s := hE
  have hS : va_S A s.heap s.heap [] := va_S.rf
  have hl : lv_has ls 1 [(0, .ref q)] := hl
  have hP : va_P E.1 vwCl [(q, .inr (1, [.null, .null, .null, .null, .null, .int 0, .null, .int 0]))] s.heap := hP
  have hD : va_D A [(q, .inr (1, [.null, .null, .null, .null, .null, .int 0, .null, .int 0]))] := hD
  refine lv_aload_n hx hb dX1_init_0 rfl (lv_at hl 0 rfl) ?_
  refine W.objInit hx hb hown (hts _ q94) (hts _ q85) (hts _ q86) rfl (by rw [hml]; exact hl.1) rfl dX1_init_1 (Nat.le_of_ble_eq_true rfl) (Nat.le_of_ble_eq_true rfl) ?_
  refine W.eq (g2 := F0 m 4 ls []) rfl ?_
  refine lv_aload_n hx hb dX1_init_4 rfl (lv_at hl 0 rfl) ?_
  refine lv_sipush (v := 128) hx hb dX1_init_5 (by decide) ?_
  refine va_newa (atype := .int) (ty := .int) (N' := 128) (a0 := (128, .inl (fun _ => 0))) hx hb (hts _ q123) rfl hK hP hD hS hA (fun _ => rfl) (by decide) (by decide) (Nat.le_of_ble_eq_true rfl) (Nat.le_of_ble_eq_true rfl) (Nat.le_of_ble_eq_true rfl) dX1_init_8 (fun qa1 cA1 H hK1 hP hD hS => ?_)
  have hP : va_P E.1 vwCl [(q, .inr (1, [.null, .null, .null, .null, .null, .int 0, .null, .int 0])), (qa1, .inl (cA1, 128, .inl (fun _ => 0)))] H := hP
  have hD : va_D A [(q, .inr (1, [.null, .null, .null, .null, .null, .int 0, .null, .int 0])), (qa1, .inl (cA1, 128, .inl (fun _ => 0)))] := hD
  refine va_putF (D := E.1) (ci := 1) (v := .ref qa1) (ty := .array .int) (C := RX1) (T := TX1) (N := 8) hx hb hts in_X1 tyX1 tyX1_ok nmX1 hown hK hP hD hS 0 rfl rfl 0 (by decide) (hts _ q95) (fun _ h9 => h9) rfl hin rfl (tyX1_ok 0 (by decide)) rfl rfl (Nat.le_of_ble_eq_true rfl) dX1_init_10 (fun H locs hP hD hS => ?_)
  have hP : va_P E.1 vwCl [(q, .inr (1, [.ref qa1, .null, .null, .null, .null, .int 0, .null, .int 0])), (qa1, .inl (cA1, 128, .inl (fun _ => 0)))] H := hP
  have hD : va_D A [(q, .inr (1, [.ref qa1, .null, .null, .null, .null, .int 0, .null, .int 0])), (qa1, .inl (cA1, 128, .inl (fun _ => 0)))] := hD
  have hP := hP.sub (ws' := [(q, .inr (1, [.ref qa1, .null, .null, .null, .null, .int 0, .null, .int 0]))]) [0] rfl
  have hD := hD.sub (ws' := [(q, .inr (1, [.ref qa1, .null, .null, .null, .null, .int 0, .null, .int 0]))]) [0] (by decide) rfl
  refine lv_aload_n hx hb dX1_init_13 rfl (lv_at hl 0 rfl) ?_
  refine lv_sipush (v := 128) hx hb dX1_init_14 (by decide) ?_
  refine va_newa (atype := .int) (ty := .int) (N' := 128) (a0 := (128, .inl (fun _ => 0))) hx hb (hts _ q123) rfl hK hP hD hS hA (fun _ => rfl) (by decide) (by decide) (Nat.le_of_ble_eq_true rfl) (Nat.le_of_ble_eq_true rfl) (Nat.le_of_ble_eq_true rfl) dX1_init_17 (fun qa2 cA2 H hK2 hP hD hS => ?_)
  have hP : va_P E.1 vwCl [(q, .inr (1, [.ref qa1, .null, .null, .null, .null, .int 0, .null, .int 0])), (qa2, .inl (cA2, 128, .inl (fun _ => 0)))] H := hP
  have hD : va_D A [(q, .inr (1, [.ref qa1, .null, .null, .null, .null, .int 0, .null, .int 0])), (qa2, .inl (cA2, 128, .inl (fun _ => 0)))] := hD
  refine va_putF (D := E.1) (ci := 1) (v := .ref qa2) (ty := .array .int) (C := RX1) (T := TX1) (N := 8) hx hb hts in_X1 tyX1 tyX1_ok nmX1 hown hK hP hD hS 0 rfl rfl 1 (by decide) (hts _ q97) (fun _ h9 => h9) rfl hin rfl (tyX1_ok 1 (by decide)) rfl rfl (Nat.le_of_ble_eq_true rfl) dX1_init_19 (fun H locs hP hD hS => ?_)
  have hP : va_P E.1 vwCl [(q, .inr (1, [.ref qa1, .ref qa2, .null, .null, .null, .int 0, .null, .int 0])), (qa2, .inl (cA2, 128, .inl (fun _ => 0)))] H := hP
  have hD : va_D A [(q, .inr (1, [.ref qa1, .ref qa2, .null, .null, .null, .int 0, .null, .int 0])), (qa2, .inl (cA2, 128, .inl (fun _ => 0)))] := hD
  have hP := hP.sub (ws' := [(q, .inr (1, [.ref qa1, .ref qa2, .null, .null, .null, .int 0, .null, .int 0]))]) [0] rfl
  have hD := hD.sub (ws' := [(q, .inr (1, [.ref qa1, .ref qa2, .null, .null, .null, .int 0, .null, .int 0]))]) [0] (by decide) rfl
  refine lv_aload_n hx hb dX1_init_22 rfl (lv_at hl 0 rfl) ?_
  refine lv_sipush (v := 128) hx hb dX1_init_23 (by decide) ?_
  refine va_newa (atype := .int) (ty := .int) (N' := 128) (a0 := (128, .inl (fun _ => 0))) hx hb (hts _ q123) rfl hK hP hD hS hA (fun _ => rfl) (by decide) (by decide) (Nat.le_of_ble_eq_true rfl) (Nat.le_of_ble_eq_true rfl) (Nat.le_of_ble_eq_true rfl) dX1_init_26 (fun qa3 cA3 H hK3 hP hD hS => ?_)
  have hP : va_P E.1 vwCl [(q, .inr (1, [.ref qa1, .ref qa2, .null, .null, .null, .int 0, .null, .int 0])), (qa3, .inl (cA3, 128, .inl (fun _ => 0)))] H := hP
  have hD : va_D A [(q, .inr (1, [.ref qa1, .ref qa2, .null, .null, .null, .int 0, .null, .int 0])), (qa3, .inl (cA3, 128, .inl (fun _ => 0)))] := hD
  refine va_putF (D := E.1) (ci := 1) (v := .ref qa3) (ty := .array .int) (C := RX1) (T := TX1) (N := 8) hx hb hts in_X1 tyX1 tyX1_ok nmX1 hown hK hP hD hS 0 rfl rfl 2 (by decide) (hts _ q99) (fun _ h9 => h9) rfl hin rfl (tyX1_ok 2 (by decide)) rfl rfl (Nat.le_of_ble_eq_true rfl) dX1_init_28 (fun H locs hP hD hS => ?_)
  have hP : va_P E.1 vwCl [(q, .inr (1, [.ref qa1, .ref qa2, .ref qa3, .null, .null, .int 0, .null, .int 0])), (qa3, .inl (cA3, 128, .inl (fun _ => 0)))] H := hP
  have hD : va_D A [(q, .inr (1, [.ref qa1, .ref qa2, .ref qa3, .null, .null, .int 0, .null, .int 0])), (qa3, .inl (cA3, 128, .inl (fun _ => 0)))] := hD
  have hP := hP.sub (ws' := [(q, .inr (1, [.ref qa1, .ref qa2, .ref qa3, .null, .null, .int 0, .null, .int 0]))]) [0] rfl
  have hD := hD.sub (ws' := [(q, .inr (1, [.ref qa1, .ref qa2, .ref qa3, .null, .null, .int 0, .null, .int 0]))]) [0] (by decide) rfl
  refine lv_aload_n hx hb dX1_init_31 rfl (lv_at hl 0 rfl) ?_
  refine lv_bipush (v := 7) hx hb dX1_init_32 (by decide) ?_
  refine va_newa (atype := .int) (ty := .int) (N' := 7) (a0 := (7, .inl (fun _ => 0))) hx hb (hts _ q123) rfl hK hP hD hS hA (fun _ => rfl) (by decide) (by decide) (Nat.le_of_ble_eq_true rfl) (Nat.le_of_ble_eq_true rfl) (Nat.le_of_ble_eq_true rfl) dX1_init_34 (fun qa4 cA4 H hK4 hP hD hS => ?_)
  have hP : va_P E.1 vwCl [(q, .inr (1, [.ref qa1, .ref qa2, .ref qa3, .null, .null, .int 0, .null, .int 0])), (qa4, .inl (cA4, 7, .inl (fun _ => 0)))] H := hP
  have hD : va_D A [(q, .inr (1, [.ref qa1, .ref qa2, .ref qa3, .null, .null, .int 0, .null, .int 0])), (qa4, .inl (cA4, 7, .inl (fun _ => 0)))] := hD
  refine va_putF (D := E.1) (ci := 1) (v := .ref qa4) (ty := .array .int) (C := RX1) (T := TX1) (N := 8) hx hb hts in_X1 tyX1 tyX1_ok nmX1 hown hK hP hD hS 0 rfl rfl 3 (by decide) (hts _ q101) (fun _ h9 => h9) rfl hin rfl (tyX1_ok 3 (by decide)) rfl rfl (Nat.le_of_ble_eq_true rfl) dX1_init_36 (fun H locs hP hD hS => ?_)
  have hP : va_P E.1 vwCl [(q, .inr (1, [.ref qa1, .ref qa2, .ref qa3, .ref qa4, .null, .int 0, .null, .int 0])), (qa4, .inl (cA4, 7, .inl (fun _ => 0)))] H := hP
  have hD : va_D A [(q, .inr (1, [.ref qa1, .ref qa2, .ref qa3, .ref qa4, .null, .int 0, .null, .int 0])), (qa4, .inl (cA4, 7, .inl (fun _ => 0)))] := hD
  have hP := hP.sub (ws' := [(q, .inr (1, [.ref qa1, .ref qa2, .ref qa3, .ref qa4, .null, .int 0, .null, .int 0]))]) [0] rfl
  have hD := hD.sub (ws' := [(q, .inr (1, [.ref qa1, .ref qa2, .ref qa3, .ref qa4, .null, .int 0, .null, .int 0]))]) [0] (by decide) rfl
  refine lv_aload_n hx hb dX1_init_39 rfl (lv_at hl 0 rfl) ?_
  refine lv_bipush (v := 7) hx hb dX1_init_40 (by decide) ?_
  refine va_newa (atype := .int) (ty := .int) (N' := 7) (a0 := (7, .inl (fun _ => 0))) hx hb (hts _ q123) rfl hK hP hD hS hA (fun _ => rfl) (by decide) (by decide) (Nat.le_of_ble_eq_true rfl) (Nat.le_of_ble_eq_true rfl) (Nat.le_of_ble_eq_true rfl) dX1_init_42 (fun qa5 cA5 H hK5 hP hD hS => ?_)
  have hP : va_P E.1 vwCl [(q, .inr (1, [.ref qa1, .ref qa2, .ref qa3, .ref qa4, .null, .int 0, .null, .int 0])), (qa5, .inl (cA5, 7, .inl (fun _ => 0)))] H := hP
  have hD : va_D A [(q, .inr (1, [.ref qa1, .ref qa2, .ref qa3, .ref qa4, .null, .int 0, .null, .int 0])), (qa5, .inl (cA5, 7, .inl (fun _ => 0)))] := hD
  refine va_putF (D := E.1) (ci := 1) (v := .ref qa5) (ty := .array .int) (C := RX1) (T := TX1) (N := 8) hx hb hts in_X1 tyX1 tyX1_ok nmX1 hown hK hP hD hS 0 rfl rfl 4 (by decide) (hts _ q102) (fun _ h9 => h9) rfl hin rfl (tyX1_ok 4 (by decide)) rfl rfl (Nat.le_of_ble_eq_true rfl) dX1_init_44 (fun H locs hP hD hS => ?_)
  have hP : va_P E.1 vwCl [(q, .inr (1, [.ref qa1, .ref qa2, .ref qa3, .ref qa4, .ref qa5, .int 0, .null, .int 0])), (qa5, .inl (cA5, 7, .inl (fun _ => 0)))] H := hP
  have hD : va_D A [(q, .inr (1, [.ref qa1, .ref qa2, .ref qa3, .ref qa4, .ref qa5, .int 0, .null, .int 0])), (qa5, .inl (cA5, 7, .inl (fun _ => 0)))] := hD
  have hP := hP.sub (ws' := [(q, .inr (1, [.ref qa1, .ref qa2, .ref qa3, .ref qa4, .ref qa5, .int 0, .null, .int 0]))]) [0] rfl
  have hD := hD.sub (ws' := [(q, .inr (1, [.ref qa1, .ref qa2, .ref qa3, .ref qa4, .ref qa5, .int 0, .null, .int 0]))]) [0] (by decide) rfl
  refine W.widen (k := 5) (n := 398) (Nat.le_of_ble_eq_true rfl) (Nat.le_of_ble_eq_true rfl) ?_
  exact W.vret hx hb hr (fun t ht hW => ⟨⟨(), rfl, trivial, trivial⟩, hS.F ht⟩) hS.2.2 dX1_init_47 hlk
abbrev rm0_X2 : Room := { frames := 1, cells := 1, slots := 256, locals := 30 }
set_option maxHeartbeats 4000000 in
set_option maxRecDepth 100000 in
theorem m0_X2 (l : Launch) (E : gE) (q sz : Nat) (o : Nat) : Met l yX2_init (ws_ yX2_init cX2_init 2 none) rm0_X2 (pr_ (N0_ E) E [(q, .inr (2, [.null, .int 0, .long 0, .long 0, .long 0, .null]))] sz [.ref q, .ref o]) (va_Qv (fun _ : Unit => True) (fun _ _ => True) (va_A [(q, .inr (2, [.null, .int 0, .long 0, .long 0, .long 0, .null]))] sz)) 1 256 (va_A [(q, .inr (2, [.null, .int 0, .long 0, .long 0, .long 0, .null]))] sz) := by
  refine met_ofI (Qc := fun A => va_Qv (fun _ : Unit => True) (fun _ _ => True) A) (by decide) (Nat.le_of_ble_eq_true rfl) (fun p e s m below meth c A ls hin F hE hA hP hD hl => ?_)
  obtain ⟨hx, hb, hr, hlk, hml, hown, hts⟩ := id F
  have hK : va_K E.1 vwCl [] s := hE
  have hS : va_S A s.heap s.heap [] := va_S.rf
  have hl : lv_has ls 2 [(0, .ref q), (1, .ref o)] := hl
  have hP : va_P E.1 vwCl [(q, .inr (2, [.null, .int 0, .long 0, .long 0, .long 0, .null]))] s.heap := hP
  have hD : va_D A [(q, .inr (2, [.null, .int 0, .long 0, .long 0, .long 0, .null]))] := hD
  refine lv_aload_n hx hb dX2_init_0 rfl (lv_at hl 0 rfl) ?_
  refine lv_aload_n hx hb dX2_init_1 rfl (lv_at hl 1 rfl) ?_
  refine va_putF (D := E.1) (ci := 2) (v := .ref o) (ty := .object "TreeOdds") (C := RX2) (T := TX2) (N := 6) hx hb hts in_X2 tyX2 tyX2_ok nmX2 hown hK hP hD hS 0 rfl rfl 5 (by decide) (hts _ q137) (fun _ h9 => h9) rfl hin rfl (tyX2_ok 5 (by decide)) rfl rfl (Nat.le_of_ble_eq_true rfl) dX2_init_2 (fun H locs hP hD hS => ?_)
  have hP : va_P E.1 vwCl [(q, .inr (2, [.null, .int 0, .long 0, .long 0, .long 0, .ref o]))] H := hP
  have hD : va_D A [(q, .inr (2, [.null, .int 0, .long 0, .long 0, .long 0, .ref o]))] := hD
  refine lv_aload_n hx hb dX2_init_5 rfl (lv_at hl 0 rfl) ?_
  refine W.objInit hx hb hown (hts _ q129) (hts _ q85) (hts _ q86) rfl (by rw [hml]; exact hl.1) rfl dX2_init_6 (Nat.le_of_ble_eq_true rfl) (Nat.le_of_ble_eq_true rfl) ?_
  refine W.eq (g2 := F0 m 9 ls []) rfl ?_
  refine lv_aload_n hx hb dX2_init_9 rfl (lv_at hl 0 rfl) ?_
  refine lv_sipush (v := 256) hx hb dX2_init_10 (by decide) ?_
  refine va_newa (atype := .int) (ty := .int) (N' := 256) (a0 := (256, .inl (fun _ => 0))) hx hb (hts _ q123) rfl hK hP hD hS hA (fun _ => rfl) (by decide) (by decide) (Nat.le_of_ble_eq_true rfl) (Nat.le_of_ble_eq_true rfl) (Nat.le_of_ble_eq_true rfl) dX2_init_13 (fun qa1 cA1 H hK1 hP hD hS => ?_)
  have hP : va_P E.1 vwCl [(q, .inr (2, [.null, .int 0, .long 0, .long 0, .long 0, .ref o])), (qa1, .inl (cA1, 256, .inl (fun _ => 0)))] H := hP
  have hD : va_D A [(q, .inr (2, [.null, .int 0, .long 0, .long 0, .long 0, .ref o])), (qa1, .inl (cA1, 256, .inl (fun _ => 0)))] := hD
  refine va_putF (D := E.1) (ci := 2) (v := .ref qa1) (ty := .array .int) (C := RX2) (T := TX2) (N := 6) hx hb hts in_X2 tyX2 tyX2_ok nmX2 hown hK hP hD hS 0 rfl rfl 0 (by decide) (hts _ q130) (fun _ h9 => h9) rfl hin rfl (tyX2_ok 0 (by decide)) rfl rfl (Nat.le_of_ble_eq_true rfl) dX2_init_15 (fun H locs hP hD hS => ?_)
  have hP : va_P E.1 vwCl [(q, .inr (2, [.ref qa1, .int 0, .long 0, .long 0, .long 0, .ref o])), (qa1, .inl (cA1, 256, .inl (fun _ => 0)))] H := hP
  have hD : va_D A [(q, .inr (2, [.ref qa1, .int 0, .long 0, .long 0, .long 0, .ref o])), (qa1, .inl (cA1, 256, .inl (fun _ => 0)))] := hD
  have hP := hP.sub (ws' := [(q, .inr (2, [.ref qa1, .int 0, .long 0, .long 0, .long 0, .ref o]))]) [0] rfl
  have hD := hD.sub (ws' := [(q, .inr (2, [.ref qa1, .int 0, .long 0, .long 0, .long 0, .ref o]))]) [0] (by decide) rfl
  refine W.widen (k := 1) (n := 256) (Nat.le_of_ble_eq_true rfl) (Nat.le_of_ble_eq_true rfl) ?_
  exact W.vret hx hb hr (fun t ht hW => ⟨⟨(), rfl, trivial, trivial⟩, hS.F ht⟩) hS.2.2 dX2_init_18 hlk
abbrev rm0_X3 : Room := { frames := 1, cells := 1, slots := 100, locals := 30 }
set_option maxHeartbeats 4000000 in
set_option maxRecDepth 100000 in
theorem m0_X3 (l : Launch) (E : gE) (q sz : Nat) (o : Nat) : Met l yX3_init (ws_ yX3_init cX3_init 2 none) rm0_X3 (pr_ (N0_ E) E [(q, .inr (3, [.int 0, .null, .int 0, .null]))] sz [.ref q, .ref o]) (va_Qv (fun _ : Unit => True) (fun _ _ => True) (va_A [(q, .inr (3, [.int 0, .null, .int 0, .null]))] sz)) 1 100 (va_A [(q, .inr (3, [.int 0, .null, .int 0, .null]))] sz) := by
  refine met_ofI (Qc := fun A => va_Qv (fun _ : Unit => True) (fun _ _ => True) A) (by decide) (Nat.le_of_ble_eq_true rfl) (fun p e s m below meth c A ls hin F hE hA hP hD hl => ?_)
  obtain ⟨hx, hb, hr, hlk, hml, hown, hts⟩ := id F
  have hK : va_K E.1 vwCl [] s := hE
  have hS : va_S A s.heap s.heap [] := va_S.rf
  have hl : lv_has ls 2 [(0, .ref q), (1, .ref o)] := hl
  have hP : va_P E.1 vwCl [(q, .inr (3, [.int 0, .null, .int 0, .null]))] s.heap := hP
  have hD : va_D A [(q, .inr (3, [.int 0, .null, .int 0, .null]))] := hD
  refine lv_aload_n hx hb dX3_init_0 rfl (lv_at hl 0 rfl) ?_
  refine lv_aload_n hx hb dX3_init_1 rfl (lv_at hl 1 rfl) ?_
  refine va_putF (D := E.1) (ci := 3) (v := .ref o) (ty := .object "TreeOdds") (C := RX3) (T := TX3) (N := 4) hx hb hts in_X3 tyX3 tyX3_ok nmX3 hown hK hP hD hS 0 rfl rfl 3 (by decide) (hts _ q164) (fun _ h9 => h9) rfl hin rfl (tyX3_ok 3 (by decide)) rfl rfl (Nat.le_of_ble_eq_true rfl) dX3_init_2 (fun H locs hP hD hS => ?_)
  have hP : va_P E.1 vwCl [(q, .inr (3, [.int 0, .null, .int 0, .ref o]))] H := hP
  have hD : va_D A [(q, .inr (3, [.int 0, .null, .int 0, .ref o]))] := hD
  refine lv_aload_n hx hb dX3_init_5 rfl (lv_at hl 0 rfl) ?_
  refine W.objInit hx hb hown (hts _ q158) (hts _ q85) (hts _ q86) rfl (by rw [hml]; exact hl.1) rfl dX3_init_6 (Nat.le_of_ble_eq_true rfl) (Nat.le_of_ble_eq_true rfl) ?_
  refine W.eq (g2 := F0 m 9 ls []) rfl ?_
  refine lv_aload_n hx hb dX3_init_9 rfl (lv_at hl 0 rfl) ?_
  refine lv_bipush (v := 100) hx hb dX3_init_10 (by decide) ?_
  refine va_newa (atype := .int) (ty := .int) (N' := 100) (a0 := (100, .inl (fun _ => 0))) hx hb (hts _ q123) rfl hK hP hD hS hA (fun _ => rfl) (by decide) (by decide) (Nat.le_of_ble_eq_true rfl) (Nat.le_of_ble_eq_true rfl) (Nat.le_of_ble_eq_true rfl) dX3_init_12 (fun qa1 cA1 H hK1 hP hD hS => ?_)
  have hP : va_P E.1 vwCl [(q, .inr (3, [.int 0, .null, .int 0, .ref o])), (qa1, .inl (cA1, 100, .inl (fun _ => 0)))] H := hP
  have hD : va_D A [(q, .inr (3, [.int 0, .null, .int 0, .ref o])), (qa1, .inl (cA1, 100, .inl (fun _ => 0)))] := hD
  refine va_putF (D := E.1) (ci := 3) (v := .ref qa1) (ty := .array .int) (C := RX3) (T := TX3) (N := 4) hx hb hts in_X3 tyX3 tyX3_ok nmX3 hown hK hP hD hS 0 rfl rfl 1 (by decide) (hts _ q160) (fun _ h9 => h9) rfl hin rfl (tyX3_ok 1 (by decide)) rfl rfl (Nat.le_of_ble_eq_true rfl) dX3_init_14 (fun H locs hP hD hS => ?_)
  have hP : va_P E.1 vwCl [(q, .inr (3, [.int 0, .ref qa1, .int 0, .ref o])), (qa1, .inl (cA1, 100, .inl (fun _ => 0)))] H := hP
  have hD : va_D A [(q, .inr (3, [.int 0, .ref qa1, .int 0, .ref o])), (qa1, .inl (cA1, 100, .inl (fun _ => 0)))] := hD
  have hP := hP.sub (ws' := [(q, .inr (3, [.int 0, .ref qa1, .int 0, .ref o]))]) [0] rfl
  have hD := hD.sub (ws' := [(q, .inr (3, [.int 0, .ref qa1, .int 0, .ref o]))]) [0] (by decide) rfl
  refine W.widen (k := 1) (n := 100) (Nat.le_of_ble_eq_true rfl) (Nat.le_of_ble_eq_true rfl) ?_
  exact W.vret hx hb hr (fun t ht hW => ⟨⟨(), rfl, trivial, trivial⟩, hS.F ht⟩) hS.2.2 dX3_init_17 hlk
abbrev rm0_X4 : Room := { frames := 1, cells := 0, slots := 0, locals := 30 }
set_option maxHeartbeats 4000000 in
set_option maxRecDepth 100000 in
theorem m0_X4 (l : Launch) (E : gE) (q sz : Nat) (o : Nat) : Met l yX4_init (ws_ yX4_init cX4_init 2 none) rm0_X4 (pr_ (N0_ E) E [(q, .inr (4, [.null]))] sz [.ref q, .ref o]) (va_Qv (fun _ : Unit => True) (fun _ _ => True) (va_A [(q, .inr (4, [.null]))] sz)) 0 0 (va_A [(q, .inr (4, [.null]))] sz) := by
  refine met_ofI (Qc := fun A => va_Qv (fun _ : Unit => True) (fun _ _ => True) A) (by decide) (Nat.le_of_ble_eq_true rfl) (fun p e s m below meth c A ls hin F hE hA hP hD hl => ?_)
  obtain ⟨hx, hb, hr, hlk, hml, hown, hts⟩ := id F
  have hK : va_K E.1 vwCl [] s := hE
  have hS : va_S A s.heap s.heap [] := va_S.rf
  have hl : lv_has ls 2 [(0, .ref q), (1, .ref o)] := hl
  have hP : va_P E.1 vwCl [(q, .inr (4, [.null]))] s.heap := hP
  have hD : va_D A [(q, .inr (4, [.null]))] := hD
  refine lv_aload_n hx hb dX4_init_0 rfl (lv_at hl 0 rfl) ?_
  refine W.objInit hx hb hown (hts _ q184) (hts _ q85) (hts _ q86) rfl (by rw [hml]; exact hl.1) rfl dX4_init_1 (Nat.le_of_ble_eq_true rfl) (Nat.le_of_ble_eq_true rfl) ?_
  refine W.eq (g2 := F0 m 4 ls []) rfl ?_
  refine lv_aload_n hx hb dX4_init_4 rfl (lv_at hl 0 rfl) ?_
  refine lv_aload_n hx hb dX4_init_5 rfl (lv_at hl 1 rfl) ?_
  refine va_putF (D := E.1) (ci := 4) (v := .ref o) (ty := .object "TreeOdds$Guess") (C := RX4) (T := TX4) (N := 1) hx hb hts in_X4 tyX4 tyX4_ok nmX4 hown hK hP hD hS 0 rfl rfl 0 (by decide) (hts _ q185) (fun _ h9 => h9) rfl hin rfl (tyX4_ok 0 (by decide)) rfl rfl (Nat.le_of_ble_eq_true rfl) dX4_init_6 (fun H locs hP hD hS => ?_)
  have hP : va_P E.1 vwCl [(q, .inr (4, [.ref o]))] H := hP
  have hD : va_D A [(q, .inr (4, [.ref o]))] := hD
  refine W.widen (k := 0) (n := 0) (Nat.le_of_ble_eq_true rfl) (Nat.le_of_ble_eq_true rfl) ?_
  exact W.vret hx hb hr (fun t ht hW => ⟨⟨(), rfl, trivial, trivial⟩, hS.F ht⟩) hS.2.2 dX4_init_9 hlk
