/-- the machine has stopped -/
def Dead_ (t : State) : Prop := t.status ≠ .running
section DEAD
variable {p : Program} {l : Launch} {e : Env} {R : Room} {s : State} {m : MethodId} {args : Array Value} {below : List Frame} {meth : Method} {c : Code} {H : Heap} {locs : List Loc} {cells slots : Nat} {Q : State → Prop}
variable {cc : ByteArray} {pc index : Nat} {ls : Array Slot} {rest : List Value}
/-- a lambda's site, nothing captured -/
theorem W.lamC (hexec : p.tables.exec = Jvm.exec) (hb : c.code = cc) (hsz : ls.size = c.maxLocals) {k : Class} {i0 p0 : Nat} {a : Addr} (hk : s.vm.classes[m.cls]? = some k)
    (hsite : (k.callSites.find? fun y => y.1 == m.idx && y.2.1 == pc) = some (i0, p0, .constant a)) (hdg : decode cc pc = .ok (.invokedynamic index, 5)) (hwords : (rest.map fun v => v.category).sum + 3072 ≤ R.locals)
    (kk : W p l e R s m args below meth c H locs cells slots Q (F0 m (pc + 5) ls (.ref a :: rest))) : W p l e R s m args below meth c H locs cells slots Q (F0 m pc ls rest) := by
  intro T hT X
  obtain ⟨t, a1, b1⟩ := kk T hT X
  have h3 : e.platform.lambdaLinkWords = 3072 := by rw [X.admits.platform]
  refine ⟨t, X.lambdaConstant hexec (g := F0 m pc ls rest) rfl hsz (by rw [hb]; exact hdg) hk hsite ?_ a1, b1⟩
  rw [h3]
  show 2 * 0 + (rest.map fun v => v.category).sum + 3072 ≤ R.locals
  omega
/-- a lambda's site, one reference captured, whose made class begins with an int: the machine stops -/
theorem W.lamDead (hexec : p.tables.exec = Jvm.exec) (hb : c.code = cc) (hsz : ls.size = c.maxLocals) {k kc : Class} {cf : ClassFile} {i0 p0 bsm nt : Nat} {cK : ClassId} {name desc : String} {sig : MethodDescriptor} {a : Addr}
    (hk : s.vm.classes[m.cls]? = some k) (hsite : (k.callSites.find? fun y => y.1 == m.idx && y.2.1 == pc) = some (i0, p0, .makes cK)) (hcf : k.cf = some cf)
    (hc : cf.constantPool[index]? = some (.invokeDynamic bsm nt)) (hnt : cf.constantPool.nameAndType? nt = some (name, desc)) (hsig : parseLongMethodDescriptor desc = some sig) (hone : sig.parameters.length = 1)
    (hkc : s.vm.classes[cK]? = some kc) (hkd : kc.kind = .ordinary) {ts : List FieldType} (hty : kc.instanceTypes.toList = .int :: ts) (hdg : decode cc pc = .ok (.invokedynamic index, 5)) (hwords : 1 + (rest.map fun v => v.category).sum + 3072 ≤ R.locals) :
    W p l e R s m args below meth c H locs cells slots Dead_ (F0 m pc ls (.ref a :: rest)) := by
  intro T hT X
  obtain ⟨k', hk', he'⟩ := X.warmed.alike.2.2 _ _ hk
  obtain ⟨kc', hkc', hec'⟩ := X.warmed.alike.2.2 _ _ hkc
  have h3 : e.platform.lambdaLinkWords = 3072 := by rw [X.admits.platform]
  have hd : decode c.code (F0 m pc ls (.ref a :: rest)).pc = .ok (.invokedynamic index, 5) := by rw [hb]; exact hdg
  have hsite' : (k'.callSites.find? fun y => y.1 == m.idx && y.2.1 == pc) = some (i0, p0, .makes cK) := by rw [he']; exact hsite
  have hit : kc'.instanceTypes.toList = .int :: ts := by rw [hec']; exact hty
  have hkd' : kc'.kind = .ordinary := by rw [hec']; exact hkd
  have hroom : (T.setTop (F0 m pc ls (.ref a :: rest))).stackHas e.platform e.platform.lambdaLinkWords := X.wordsFree hsz (by
    rw [h3]
    show 2 * 0 + (1 + (rest.map fun v => v.category).sum) + 3072 ≤ R.locals
    omega)
  have hnw : ¬ wpRun (p.tables.exec (.invokedynamic index)) (fun _ _ _ => True) (fun _ _ _ => True) e (T.setTop (F0 m pc ls (.ref a :: rest))) := by
    intro h
    unfold wpRun at h
    rw [hexec] at h
    have h2 := (Op.invokedynamic.wp_makes (e := e) (s := T) (f := F0 m pc ls (.ref a :: rest)) (index := index) (kc := kc') (args := [.ref a]) (rest := rest) X.here.top hk' hsite' hroom (by rw [he']; exact hcf) hc hnt hsig hone.symm rfl hkc').mp h
    obtain ⟨-, -, hfit, -⟩ := h2
    have h4 := hfit 0 (.ref a) (by rw [hit]; rfl)
    have hlt : kc'.instanceTypes[0]? = some .int := by
      rw [← Array.getElem?_toList, hit]; rfl
    have h5 : T.fitsSlot cK .none 0 (.ref a) = false := by
      simp only [State.fitsSlot, State.slotType?, hkc', hkd', hlt, Option.bind_eq_bind, Option.bind_some]
      rfl
    rw [h5] at h4
    cases h4
  refine ⟨stepsAlone p.tables e 1 (T.setTop (F0 m pc ls (.ref a :: rest))), ⟨1, rfl, fun j hj => ?_⟩, ?_⟩
  · have : j = 0 := by omega
    subst this
    exact X.here.within _
  · have hgo : (T.setTop (F0 m pc ls (.ref a :: rest))).goesOn := ⟨X.here.running, by rw [State.curStatus?_setTop]; exact X.here.runnable, by rw [State.alone_setTop]; exact X.here.alone⟩
    rw [stepsAlone_succ _ hgo]
    show ((stepThread p.tables e (T.setTop (F0 m pc ls (.ref a :: rest)))).1).status ≠ .running
    rw [stepThread_java (State.frames_setTop' (F0 m pc ls (.ref a :: rest)) X.here.top) X.here.plain X.here.code hd]
    have hq := fun z => hnw ((wpRun_iff_run _ _ _ _ _).mpr z)
    cases hr : (p.tables.exec (.invokedynamic index)).run e (T.setTop (F0 m pc ls (.ref a :: rest))) with
    | ok u s₁ acts => exact absurd (by rw [hr]; trivial) hq
    | ctl x s₁ acts =>
      cases x with
      | stop st => intro h; cases h
      | _ => exact absurd (by rw [hr]; trivial) hq
/-- into a constructor that never comes back -/
theorem W.enterI (hexec : p.tables.exec = Jvm.exec) (hb : c.code = cc) (hsz : ls.size = c.maxLocals) {own : String} (hown : s.vm.findClass own = some m.cls) {y : MethodName} {bytes : ByteArray} {maxL : Nat} (hy1 : y.name = "<init>")
    (hlink : (Cond.methodLink own index y).before args s = true) (hinst : (Cond.instanceMethod y).before args s = true) (hcode : (Cond.code y bytes maxL none).before args s = true) (hy : y.cls ≠ "java/lang/invoke/MethodHandle" ∧ y.cls ≠ "java/lang/invoke/VarHandle")
    (hpn : plainName y.cls = true) (h0 : ∀ sig, parseMethodDescriptor y.desc = some sig → 0 = sig.parameters.length) {b : Addr} (hdg : decode cc pc = .ok (.invokespecial index, 3)) {R' : Room} (hfr : R'.frames + 1 ≤ R.frames) (hlo : (rest.map fun v => v.category).sum + (maxL + 11) + R'.locals ≤ R.locals) (hce : cells + R'.cells ≤ R.cells) (hsl : slots + R'.slots ≤ R.slots)
    (kk : ∀ (s' : State) (mk : MethodId) (methM : Method) (cM : Code) (below' : List Frame), s'.heap = H → s.WarmedH s'.vm → s'.methodNamed? y = some mk → s'.vm.method? mk = some methM → cM.code = bytes → cM.maxLocals = maxL → methM.locks = false →
      W p l e R' s' mk #[.ref b] below' methM cM H [] 0 0 Dead_ (entryFrame mk #[.ref b] maxL)) :
    W p l e R s m args below meth c H locs cells slots Dead_ (F0 m pc ls (.ref b :: rest)) := by
  intro T hT X
  have hpl : e.platform.magicAccessors = ({} : Platform).magicAccessors := by rw [X.admits.platform]
  obtain ⟨mk, methM, cM, kP, vm₁, hnamed, hmethM, hcodeM, hbytesM, hlocalsM, hlkM, hkP, hkn, hW₁, hstep₁⟩ := Steps.initColdArgs (e := e) X.here hexec X.warmed hpl hown hy1 hy hlink hinst hcode (f := F0 m pc ls (.ref b :: rest)) rfl (argsL := []) (rest := rest) h0 rfl (by rw [hb]; exact hdg)
  have X₁ := X.noted hW₁
  have hmT : (T.setVm vm₁).vm.method? mk = some methM := by rw [show (T.setVm vm₁).vm = vm₁ from rfl, hW₁.alike.method?]; exact hmethM
  have hpk : (T.setVm vm₁).plainMethod mk := State.plainMethod.of_name (fun k' hk' => by
    obtain ⟨k2, hk2, he2⟩ := hW₁.alike.2.2 _ _ hkP
    have hk3 : vm₁.classes[mk.cls]? = some k' := hk'
    cases hk2.symm.trans hk3
    rw [he2]
    show plainName kP.name = true
    rw [hkn]; exact hpn)
  obtain ⟨Y₀, hin⟩ := X₁.into (g := F0 m pc ls rest) rfl hsz (by rw [hb]; exact hdg) #[.ref b] (R' := R') hmT hcodeM hlkM hpk hfr (by rw [hlocalsM]; show 2 * 0 + (rest.map fun v => v.category).sum + (maxL + 11) + R'.locals ≤ R.locals; omega) hce hsl
  have hnU : ((T.setVm vm₁).calling (F0 m pc ls rest) mk #[.ref b]).methodNamed? y = some mk := by
    have := State.methodNamed?_setVm (s := s) hW₁.alike y
    rw [hnamed] at this
    exact this
  obtain ⟨t, hs, hq⟩ := kk ((T.setVm vm₁).calling (F0 m pc ls rest) mk #[.ref b]) mk methM cM (.java (F0 m pc ls rest) :: below) hT hW₁ hnU hmT hbytesM hlocalsM hlkM (((T.setVm vm₁).setTop (F0 m pc ls rest)).pushFrame (.java (entryFrame mk #[.ref b] cM.maxLocals))) hT Y₀
  refine ⟨t, hstep₁ t (fun acts => ?_), hq⟩
  show Steps p.tables e below (doInvoke e ((T.setVm vm₁).setTop (F0 m pc ls rest)) acts mk #[.ref b]).1 t
  rw [hin acts]
  rw [hlocalsM] at hs ⊢
  exact Steps.weaken (mid := [.java (F0 m pc ls rest)]) hs
end DEAD
/-- a run that stops never ends -/
theorem dead_never {tb : Tables} {e : Env} {below : List Frame} {s t : State} (h : Steps tb e below s t) (hd : Dead_ t) {n : Nat} {o : Outcome} (hw : ∀ k, k < n → Within (stepsAlone tb e k s) below) (hr : (stepsAlone tb e n s).status = .running) (he : Ended (stepsAlone tb e n s) below o) : False := by
  obtain ⟨n', hn, wn⟩ := h
  rcases Nat.lt_or_ge n n' with q | q
  · exact he.not_within (wn n q)
  · obtain ⟨j, rfl⟩ := Nat.exists_eq_add_of_le q
    rw [stepsAlone_add, hn] at hr
    apply hd
    cases j with
    | zero => exact hr
    | succ j =>
      cases hs : t.status with
      | running => rfl
      | _ => simp [stepsAlone, hs] at hr
