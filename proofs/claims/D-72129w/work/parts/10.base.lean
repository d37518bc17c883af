/-! the classes, the static part of a world, contracts' starts and ends, calls -/
abbrev vwCl : List vw_C := [(RX0, TX0, 24), (RX1, TX1, 8), (RX2, TX2, 6), (RX3, TX3, 4), (RX4, TX4, 1), (RX5, TX5, 27), (RX6, TX6, 7)]
abbrev gE : Type := va_G × (Nat → ClassId)
abbrev tyL (E : gE) : List (ClassId × FieldType) := [(E.2 0, .int), (E.2 1, .boolean), (E.2 2, .byte), (E.2 3, .object "TreeOdds$Guesser")]
/-- what a method's walk keeps at hand -/
def fx_ (p : Program) (s : State) (m : MethodId) (args : Array Value) (meth : Method) (c : Code) (own : String) (cc : ByteArray) (nL : Nat) (ret : Option FieldType) : Prop :=
  p.tables.exec = Jvm.exec ∧ c.code = cc ∧ meth.sig.returnType = ret ∧ meth.locks = false ∧ c.maxLocals = nL ∧ s.vm.findClass own = some m.cls ∧ (∀ w ∈ lw_all, w.before args s = true)
/-- a static environment that every call hands on -/
def enOK (N : (Nat → Prop) → State → Prop) : Prop :=
  (∀ (A : Nat → Prop) (U : State) (g : JFrame) (mk : MethodId) (a : Array Value), N A U → N A (U.calling g mk a)) ∧
  (∀ (A A' : Nat → Prop) (s U : State) (H : Heap) (locs : List Loc), N A s → va_S A s.heap H locs → (∀ q, A' q → A q) → U.heap = H → s.WarmedH U.vm → N A' U)
def pr_ (N : (Nat → Prop) → State → Prop) (E : gE) (ws : va_W) (sz : Nat) (av : List Value) : Array Value → State → Prop :=
  va_Pc av (fun U => U.heap.size = sz ∧ va_P E.1 vwCl ws U.heap ∧ va_D (fun _ => True) ws ∧ N (va_A ws sz) U)
def po_ {S : Type} (E : gE) (A : Nat → Prop) (wf : S → va_W) : S → State → Prop := fun u t => va_P E.1 vwCl (wf u) t.heap ∧ va_D A (wf u)
/-- the model's environment: the classes -/
def nM (E : gE) : (Nat → Prop) → State → Prop := fun _ U => va_K E.1 vwCl (tyL E) U
theorem nM_ok (E : gE) : enOK (nM E) := ⟨fun _ U g mk a h => va_K.moved (u := U) (U := U.calling g mk a) (Vm.Alike.refl U.vm) h, fun _ _ _ _ _ _ h _ _ _ hW => va_K.moved hW.alike h⟩
theorem frA {A : Nat → Prop} {ws : va_W} {H0 H : Heap} {locs : List Loc} (hD : va_D A ws) (hS : va_S A H0 H locs) (hA : ∀ q, H0.size ≤ q → A q) : ∀ q, va_A ws H.size q → A q := by
  intro q h
  rcases h with ⟨k, e, h⟩ | h
  · exact hD.2 k (q, e) h
  · exact hA q (Nat.le_trans hS.1 h)
theorem pr_pre {N : (Nat → Prop) → State → Prop} {E : gE} {A : Nat → Prop} {s : State} {H : Heap} {locs : List Loc} {wc : va_W} {av : List Value} (hN : enOK N) (hE : N A s) (hP : va_P E.1 vwCl wc H) (hD : va_D A wc) (hS : va_S A s.heap H locs) (hF : ∀ q, va_A wc H.size q → A q) :
    FrameBlind (pr_ N E wc H.size av) ∧ ∀ U : State, U.heap = H → s.WarmedH U.vm → pr_ N E wc H.size av av.toArray U := by
  refine ⟨fun a U g mk q => ?_, fun U hU hW => ?_⟩
  · obtain ⟨q0, q1, qP, qD, qN⟩ := q
    exact ⟨q0, q1, qP, qD, hN.1 _ _ _ _ _ qN⟩
  · exact ⟨rfl, by rw [hU], by rw [hU]; exact hP, hD.weaken (fun _ _ _ _ => trivial), hN.2 _ _ _ _ _ _ hE hS hF hU hW⟩
section CC
variable {p : Program} {l : Launch} {e : Env} {R : Room} {s : State} {m : MethodId} {args : Array Value} {below : List Frame} {meth : Method} {c : Code} {H : Heap} {locs : List Loc} {cells slots : Nat} {Q : State → Prop}
variable {y : MethodName} {bytes cc : ByteArray} {maxL nL mc ms n index : Nat} {ret : Option FieldType} {wsy : List Cond} {rm : Room} {Ts : List Cond} {own C : String} {b : Addr} {As rest : List Value} {pc : Nat} {ls : Array Slot} {st0 : List Value} {E : gE} {N : (Nat → Prop) → State → Prop} {A : Nat → Prop} {ws : va_W}
/-- a call of a method on the whole world: an int comes back -/
theorem cc_vi {S : Type} {post : Int32 → S → Prop} {wf : S → va_W} (X : CallFix p m c cc nL s args Ts own) (hN : enOK N) (hE : N A s) (hA : ∀ q, s.heap.size ≤ q → A q) (hP : va_P E.1 vwCl ws H) (hD : va_D A ws) (hS : va_S A s.heap H locs)
    (hM : Met l y wsy rm (pr_ N E ws H.size (.ref b :: As)) (va_Qi post (po_ E (va_A ws H.size) wf) (va_A ws H.size)) mc ms (va_A ws H.size))
    (cw : CallW R s args own C index y bytes maxL ret wsy rm mc ms n) (hrecv : ∃ cell : Cell, H[b]? = some cell ∧ cell.vm.isStatics = false ∧ s.vm.findClass C = some cell.cls)
    (hn : As.length = n) (hsize : ls.size = nL) (hst : st0 = As.reverse ++ .ref b :: rest) (hW : (rest.map fun v => v.category).sum ≤ 8) (hdg : decode cc pc = .ok (.invokevirtual index, 3)) (hf : cells + mc ≤ R.cells ∧ slots + ms ≤ R.slots)
    (kk : ∀ (r : Int32) (u : S) (H1 : Heap) (locs1 : List Loc), post r u → va_P E.1 vwCl (wf u) H1 → va_D A (wf u) → va_S A s.heap H1 locs1 → W p l e R s m args below meth c H1 locs1 (cells + mc) (slots + ms) Q (F0 m (pc + 3) ls (.int r :: rest))) :
    W p l e R s m args below meth c H locs cells slots Q (F0 m pc ls st0) := by
  have hF := frA hD hS hA
  obtain ⟨hb1, hb2⟩ := pr_pre (av := .ref b :: As) hN hE hP hD hS hF
  subst hst
  refine va_calli (va_runV (As := As) (rest := rest) X hM cw ⟨hb1, hrecv, hb2⟩ rfl hn hsize rfl (lv_room hW) hdg hf) hS (fun q _ h => hF q h) hF (fun r u t H1 locs1 ht _ hp hB _ _ hS1 => ?_)
  obtain ⟨hB1, hB2⟩ := hB
  exact kk r u H1 locs1 hp (by rw [← ht]; exact hB1) (hB2.weaken (fun _ q _ h => hF q.1 h)) hS1
theorem cc_vl {S : Type} {post : Int64 → S → Prop} {wf : S → va_W} (X : CallFix p m c cc nL s args Ts own) (hN : enOK N) (hE : N A s) (hA : ∀ q, s.heap.size ≤ q → A q) (hP : va_P E.1 vwCl ws H) (hD : va_D A ws) (hS : va_S A s.heap H locs)
    (hM : Met l y wsy rm (pr_ N E ws H.size (.ref b :: As)) (va_Ql post (po_ E (va_A ws H.size) wf) (va_A ws H.size)) mc ms (va_A ws H.size))
    (cw : CallW R s args own C index y bytes maxL ret wsy rm mc ms n) (hrecv : ∃ cell : Cell, H[b]? = some cell ∧ cell.vm.isStatics = false ∧ s.vm.findClass C = some cell.cls)
    (hn : As.length = n) (hsize : ls.size = nL) (hst : st0 = As.reverse ++ .ref b :: rest) (hW : (rest.map fun v => v.category).sum ≤ 8) (hdg : decode cc pc = .ok (.invokevirtual index, 3)) (hf : cells + mc ≤ R.cells ∧ slots + ms ≤ R.slots)
    (kk : ∀ (r : Int64) (u : S) (H1 : Heap) (locs1 : List Loc), post r u → va_P E.1 vwCl (wf u) H1 → va_D A (wf u) → va_S A s.heap H1 locs1 → W p l e R s m args below meth c H1 locs1 (cells + mc) (slots + ms) Q (F0 m (pc + 3) ls (.long r :: rest))) :
    W p l e R s m args below meth c H locs cells slots Q (F0 m pc ls st0) := by
  have hF := frA hD hS hA
  obtain ⟨hb1, hb2⟩ := pr_pre (av := .ref b :: As) hN hE hP hD hS hF
  subst hst
  refine va_calll (va_runV (As := As) (rest := rest) X hM cw ⟨hb1, hrecv, hb2⟩ rfl hn hsize rfl (lv_room hW) hdg hf) hS (fun q _ h => hF q h) hF (fun r u t H1 locs1 ht _ hp hB _ _ hS1 => ?_)
  obtain ⟨hB1, hB2⟩ := hB
  exact kk r u H1 locs1 hp (by rw [← ht]; exact hB1) (hB2.weaken (fun _ q _ h => hF q.1 h)) hS1
theorem cc_vv {S : Type} {post : S → Prop} {wf : S → va_W} (X : CallFix p m c cc nL s args Ts own) (hN : enOK N) (hE : N A s) (hA : ∀ q, s.heap.size ≤ q → A q) (hP : va_P E.1 vwCl ws H) (hD : va_D A ws) (hS : va_S A s.heap H locs)
    (hM : Met l y wsy rm (pr_ N E ws H.size (.ref b :: As)) (va_Qv post (po_ E (va_A ws H.size) wf) (va_A ws H.size)) mc ms (va_A ws H.size))
    (cw : CallW R s args own C index y bytes maxL ret wsy rm mc ms n) (hrecv : ∃ cell : Cell, H[b]? = some cell ∧ cell.vm.isStatics = false ∧ s.vm.findClass C = some cell.cls)
    (hn : As.length = n) (hsize : ls.size = nL) (hst : st0 = As.reverse ++ .ref b :: rest) (hW : (rest.map fun v => v.category).sum ≤ 8) (hdg : decode cc pc = .ok (.invokevirtual index, 3)) (hf : cells + mc ≤ R.cells ∧ slots + ms ≤ R.slots)
    (kk : ∀ (u : S) (H1 : Heap) (locs1 : List Loc), post u → va_P E.1 vwCl (wf u) H1 → va_D A (wf u) → va_S A s.heap H1 locs1 → W p l e R s m args below meth c H1 locs1 (cells + mc) (slots + ms) Q (F0 m (pc + 3) ls rest)) :
    W p l e R s m args below meth c H locs cells slots Q (F0 m pc ls st0) := by
  have hF := frA hD hS hA
  obtain ⟨hb1, hb2⟩ := pr_pre (av := .ref b :: As) hN hE hP hD hS hF
  subst hst
  refine va_callv (va_runV (As := As) (rest := rest) X hM cw ⟨hb1, hrecv, hb2⟩ rfl hn hsize rfl (lv_room hW) hdg hf) hS (fun q _ h => hF q h) hF (fun u t H1 locs1 ht _ hp hB _ _ hS1 => ?_)
  obtain ⟨hB1, hB2⟩ := hB
  exact kk u H1 locs1 hp (by rw [← ht]; exact hB1) (hB2.weaken (fun _ q _ h => hF q.1 h)) hS1
/-- a call of a static method that has no world -/
theorem cc_si {post : Int32 → Prop} (X : CallFix p m c cc nL s args Ts own) (hM : Met l y wsy rm (va_Pc As (fun _ => True)) (vp_Si post) 0 0 (fun _ => False))
    (cw : CallB R s args own index y bytes maxL ret wsy rm 0 0 n ∧ (Cond.static y).before args s = true)
    (hn : As.length = n) (hsize : ls.size = nL) (hst : st0 = As.reverse ++ rest) (hW : (rest.map fun v => v.category).sum ≤ 8) (hdg : decode cc pc = .ok (.invokestatic index, 3)) (hf : cells + 0 ≤ R.cells ∧ slots + 0 ≤ R.slots)
    (kk : ∀ r : Int32, post r → W p l e R s m args below meth c H locs cells slots Q (F0 m (pc + 3) ls (.int r :: rest))) :
    W p l e R s m args below meth c H locs cells slots Q (F0 m pc ls st0) := by
  subst hst
  exact vp_callSi (W.runS (As := As) (rest := rest) X hM cw ⟨fun _ _ _ _ h => h, fun U _ _ => ⟨rfl, trivial⟩⟩ rfl hn hsize rfl (lv_room hW) hdg hf) kk
end CC
/-- a contract out of the walk from the entry -/
theorem met_of {l : Launch} {y : MethodName} {cc : ByteArray} {nL mc ms : Nat} {ret : Option FieldType} {rm : Room} {N : (Nat → Prop) → State → Prop} {E : gE} {ws : va_W} {sz : Nat} {av : List Value} {Qc : (Nat → Prop) → Array Value → State → Outcome → State → Prop} (hy : plainName y.cls = true) (hlen : (lg_sl av).length ≤ nL)
    (k : ∀ (p : Program) (e : Env) (s : State) (m : MethodId) (below : List Frame) (meth : Method) (c : Code) (A : Nat → Prop) (ls : Array Slot), fx_ p s m av.toArray meth c y.cls cc nL ret → N A s → (∀ q, s.heap.size ≤ q → A q) → va_P E.1 vwCl ws s.heap → va_D A ws → lv_has ls nL (lv_args 0 av) →
      W p l e rm s m av.toArray below meth c s.heap [] 0 0 (MQ below (Qc A) av.toArray s mc ms A) (F0 m 0 ls [])) : Met l y (ws_ y cc nL ret) rm (pr_ N E ws sz av) (Qc (va_A ws sz)) mc ms (va_A ws sz) := by
  refine Met.ofW (cc := cc) (maxL := nL) (ret := ret) hy rfl ?_
  intro p e s m args below meth c s₁ B hml hv
  obtain ⟨rfl, hsz, hP, hD0, hE⟩ := hv
  subst hsz
  have hts := atoms_spec (ws := ws_ y cc nL ret) B.pre
  have F : fx_ p s m av.toArray meth c y.cls cc nL ret := ⟨B.exec, B.bytes, B.returns, B.notSynchronized, hml, findClass_of_methodNamed B.named, fun w h => hts w (List.mem_cons_of_mem _ h)⟩
  have hl := lv_entry av hlen
  rw [lg_entry_eq]
  exact k p e s m below meth c _ _ F hE (fun q h => Or.inr h) hP (hD0.self (sz := s.heap.size)) hl
/-- the same, of a static method that has no world -/
theorem met_ofS {l : Launch} {y : MethodName} {cc : ByteArray} {nL : Nat} {ret : Option FieldType} {rm : Room} {av : List Value} {Qc : Array Value → State → Outcome → State → Prop} (hy : plainName y.cls = true) (hlen : (lg_sl av).length ≤ nL)
    (k : ∀ (p : Program) (e : Env) (s : State) (m : MethodId) (below : List Frame) (meth : Method) (c : Code) (ls : Array Slot), fx_ p s m av.toArray meth c y.cls cc nL ret → lv_has ls nL (lv_args 0 av) →
      W p l e rm s m av.toArray below meth c s.heap [] 0 0 (MQ below Qc av.toArray s 0 0 (fun _ => False)) (F0 m 0 ls [])) : Met l y (ws_ y cc nL ret) rm (va_Pc av (fun _ => True)) Qc 0 0 (fun _ => False) := by
  refine Met.ofW (cc := cc) (maxL := nL) (ret := ret) hy rfl ?_
  intro p e s m args below meth c s₁ B hml hv
  obtain ⟨rfl, -⟩ := hv
  have hts := atoms_spec (ws := ws_ y cc nL ret) B.pre
  have F : fx_ p s m av.toArray meth c y.cls cc nL ret := ⟨B.exec, B.bytes, B.returns, B.notSynchronized, hml, findClass_of_methodNamed B.named, fun w h => hts w (List.mem_cons_of_mem _ h)⟩
  have hl := lv_entry av hlen
  rw [lg_entry_eq]
  exact k p e s m below meth c _ F hl
