/-- the sites of TreeOdds.<init> as the table has them; the class that the fourth makes begins with an int -/
def tst_ (s : State) : Bool := (s.vm.classes[2]?).any fun k =>
  (match k.callSites.find? (fun y => y.1 == 5 && y.2.1 == 162) with | some (_, _, .constant _) => true | _ => false) &&
  (match k.callSites.find? (fun y => y.1 == 5 && y.2.1 == 180) with | some (_, _, .constant _) => true | _ => false) &&
  (match k.callSites.find? (fun y => y.1 == 5 && y.2.1 == 198) with | some (_, _, .constant _) => true | _ => false) &&
  (match k.callSites.find? (fun y => y.1 == 5 && y.2.1 == 217) with
    | some (_, _, .makes cK) => (s.vm.classes[cK]?).any (fun kc => (match kc.kind with | .ordinary => true | _ => false) && (match kc.instanceTypes.toList with | .int :: _ => true | _ => false))
    | _ => false) &&
  (match k.cf with
    | some cf => (match (cf.constantPool[110]? : Option CpInfo) with
      | some (CpInfo.invokeDynamic _ nt) => (match cf.constantPool.nameAndType? nt with
        | some (_, desc) => (match parseLongMethodDescriptor desc with | some sig => sig.parameters.length == 1 | none => false)
        | none => false)
      | _ => false)
    | none => false)
theorem tst_spec {s : State} (h : tst_ s = true) : ∃ (k kc : Class) (cf : ClassFile) (g1 g2 g3 cK i1 p1 i2 p2 i3 p3 i4 p4 bsm nt : Nat) (name desc : String) (sig : MethodDescriptor) (ts : List FieldType), s.vm.classes[2]? = some k ∧
    (k.callSites.find? fun y => y.1 == 5 && y.2.1 == 162) = some (i1, p1, .constant g1) ∧ (k.callSites.find? fun y => y.1 == 5 && y.2.1 == 180) = some (i2, p2, .constant g2) ∧ (k.callSites.find? fun y => y.1 == 5 && y.2.1 == 198) = some (i3, p3, .constant g3) ∧
    (k.callSites.find? fun y => y.1 == 5 && y.2.1 == 217) = some (i4, p4, .makes cK) ∧ k.cf = some cf ∧ cf.constantPool[110]? = some (.invokeDynamic bsm nt) ∧ cf.constantPool.nameAndType? nt = some (name, desc) ∧ parseLongMethodDescriptor desc = some sig ∧ sig.parameters.length = 1 ∧
    s.vm.classes[cK]? = some kc ∧ kc.kind = .ordinary ∧ kc.instanceTypes.toList = .int :: ts := by
  unfold tst_ at h
  cases hk : s.vm.classes[2]? with
  | none => rw [hk] at h; cases h
  | some k =>
    rw [hk] at h
    simp only [Option.any_some, Bool.and_eq_true] at h
    obtain ⟨⟨⟨⟨h1, h2⟩, h3⟩, h4⟩, h5⟩ := h
    split at h1
    · rename_i i1 p1 g1 e1
      split at h2
      · rename_i i2 p2 g2 e2
        split at h3
        · rename_i i3 p3 g3 e3
          split at h4
          · rename_i i4 p4 cK e4
            cases hkc : s.vm.classes[cK]? with
            | none => rw [hkc] at h4; cases h4
            | some kc =>
              rw [hkc] at h4
              simp only [Option.any_some, Bool.and_eq_true] at h4
              obtain ⟨h4, h6⟩ := h4
              split at h4
              · rename_i ekd
                split at h6
                · rename_i ts ets
                  split at h5
                  · rename_i cf ecf
                    split at h5
                    · rename_i bsm nt ecp
                      split at h5
                      · rename_i name desc ent
                        split at h5
                        · rename_i sig esig
                          exact ⟨k, kc, cf, g1, g2, g3, cK, i1, p1, i2, p2, i3, p3, i4, p4, bsm, nt, name, desc, sig, ts, rfl, e1, e2, e3, e4, ecf, ecp, ent, esig, by simpa using h5, hkc, ekd, ets⟩
                        · cases h5
                      · cases h5
                    · cases h5
                  · cases h5
                · cases h6
              · cases h4
          · cases h4
        · cases h3
      · cases h2
    · cases h1
theorem dL_0 : decode code 0 = .ok (.new 7, 3) := by decide +kernel
theorem dL_3 : decode code 3 = .ok (.dup, 1) := by decide +kernel
theorem dL_4 : decode code 4 = .ok (.invokespecial 9, 3) := by decide +kernel
set_option maxHeartbeats 4000000 in
set_option maxRecDepth 100000 in
/-- from a start whose tables are so, the law's run stops inside 'new TreeOdds()' -/
theorem law_dead {p : Program} {l : Launch} {e : Env} {s : State} {m : MethodId} {args : Array Value} {below : List Frame} {meth : Method} {c : Code} {s₁ : State} {b : Addr} (hargs : args = #[.ref b])
    (B : BodyLoose p l x (headSpec (Cond.code x code maxLocals ret :: tables_1) room_1) code maxLocals ret e s m args below meth c s₁) (hml : c.maxLocals = 4) (hmk : s.methodNamed? yX0_init = some ⟨2, 5⟩) (htst : tst_ s = true) :
    ∃ t, Steps p.tables e below (s₁.setTop (entryFrame m args 4)) t ∧ Dead_ t := by
  subst hargs
  have hx := B.exec
  have hb := B.bytes
  have hown : s.vm.findClass "TreeOddsLaw" = some m.cls := findClass_of_methodNamed B.named
  have hts0 : ∀ c ∈ (Cond.code x code maxLocals ret :: tables_1), c.before #[Value.ref b] s = true := atoms_spec (ws := Cond.code x code maxLocals ret :: tables_1) B.pre
  have htb : ∀ w ∈ lw_tbl, w.before #[Value.ref b] s = true := k2_hts_sels lw_privs (fun w hw => hts0 w (List.mem_cons_of_mem _ hw)) lw_privs_ok
  have hts : ∀ w ∈ lw_all, w.before #[Value.ref b] s = true := fun w h => htb w (lw_all_tbl h)
  have hpay := pay_in hts lw_self
  obtain ⟨k, kc, cf, g1, g2, g3, cK, i1, p1, i2, p2, i3, p3, i4, p4, bsm, nt, name, desc, sig, ts, e1, e2, e3, e4, e5, e6, e7, e8, e9, e10, e11, e12, e13⟩ := tst_spec htst
  have X₀ : Stand p l e room_1 s m #[Value.ref b] below meth c s₁ [] 0 0 := Stand.of_body B
  have hh0 : s₁.heap = s.heap := by rw [B.state]; rfl
  obtain ⟨c0_, iS0, hKn0⟩ := u_known (C := RX0) (T := TX0) (N := 24) (n := 24) htb (fun w h => lw_all_tbl (in_X0 w h)) (htb _ (lw_all_tbl q80))
  obtain ⟨c1_, iS1, hKn1⟩ := u_known (C := RX1) (T := TX1) (N := 8) (n := 8) htb (fun w h => lw_all_tbl (in_X1 w h)) (htb _ (lw_all_tbl q90))
  obtain ⟨c2_, iS2, hKn2⟩ := u_known (C := RX2) (T := TX2) (N := 6) (n := 6) htb (fun w h => lw_all_tbl (in_X2 w h)) (htb _ (lw_all_tbl q125))
  obtain ⟨c3_, iS3, hKn3⟩ := u_known (C := RX3) (T := TX3) (N := 4) (n := 4) htb (fun w h => lw_all_tbl (in_X3 w h)) (htb _ (lw_all_tbl q154))
  obtain ⟨c4_, iS4, hKn4⟩ := u_known (C := RX4) (T := TX4) (N := 1) (n := 1) htb (fun w h => lw_all_tbl (in_X4 w h)) (htb _ (lw_all_tbl q174))
  obtain ⟨c5_, iS5, hKn5⟩ := u_known (C := RX5) (T := TX5) (N := 27) (n := 27) htb (fun w h => lw_all_tbl (in_X5 w h)) (htb _ (lw_all_tbl q693))
  obtain ⟨c6_, iS6, hKn6⟩ := u_known (C := RX6) (T := TX6) (N := 7) (n := 7) htb (fun w h => lw_all_tbl (in_X6 w h)) (htb _ (lw_all_tbl q603))
  obtain ⟨E, hK⟩ : ∃ E : gE, va_K E.1 vwCl [] s := by
    refine ⟨((fun k => if k = 0 then c0_ else if k = 1 then c1_ else if k = 2 then c2_ else if k = 3 then c3_ else if k = 4 then c4_ else if k = 5 then c5_ else c6_, fun k => if k = 0 then iS0 else if k = 1 then iS1 else if k = 2 then iS2 else if k = 3 then iS3 else if k = 4 then iS4 else if k = 5 then iS5 else iS6), fun _ => 0), ?_, fun k q h => by simp at h⟩
    intro j q hq
    match j, hq with
    | 0, hq => cases hq; exact hKn0
    | 1, hq => cases hq; exact hKn1
    | 2, hq => cases hq; exact hKn2
    | 3, hq => cases hq; exact hKn3
    | 4, hq => cases hq; exact hKn4
    | 5, hq => cases hq; exact hKn5
    | 6, hq => cases hq; exact hKn6
    | j + 7, hq => simp [vwCl] at hq
  have hA : ∀ q, s.heap.size ≤ q → (fun q => s.heap.size ≤ q) q := fun q h => h
  have hP : va_P E.1 vwCl [] s.heap := fun k q h => by simp at h
  have hD : va_D (fun q => s.heap.size ≤ q) ([] : va_W) := ⟨fun i j p q h => by simp at h, fun k q h => by simp at h⟩
  have hS : va_S (fun q => s.heap.size ≤ q) s.heap s.heap [] := va_S.rf
  have K : W p l e room_1 s m #[Value.ref b] below meth c s.heap [] 0 0 Dead_ (entryFrame m ([Value.ref b] : List Value).toArray 4) := by
    have hl := lv_entry ([Value.ref b]) (n := 4) (Nat.le_of_ble_eq_true rfl)
    rw [lg_entry_eq]
    generalize (lg_sl ([Value.ref b]) ++ List.replicate (4 - (lg_sl ([Value.ref b])).length) Slot.unset).toArray = ls at hl ⊢
    have hl : lv_has ls 4 [(0, .ref b)] := hl
    refine va_new (ci := 0) (fs := [.null, .int 0, .int 0, .int 0, .null, .null, .null, .null, .null, .null, .null, .null, .null, .int 0, .null, .int 0, .null, .int 0, .int 0, .null, .null, .int 0, .null, .null]) (C := RX0) (T := TX0) (N := 24) hx hb hts in_X0 tyX0 tyX0_ok hown (hts _ q79) (hts _ q80) (hts _ q67) hK hP hD hS hA rfl (fun j hj => by rcases (show j = 0 ∨ j = 1 ∨ j = 2 ∨ j = 3 ∨ j = 4 ∨ j = 5 ∨ j = 6 ∨ j = 7 ∨ j = 8 ∨ j = 9 ∨ j = 10 ∨ j = 11 ∨ j = 12 ∨ j = 13 ∨ j = 14 ∨ j = 15 ∨ j = 16 ∨ j = 17 ∨ j = 18 ∨ j = 19 ∨ j = 20 ∨ j = 21 ∨ j = 22 ∨ j = 23 by omega) with rfl | rfl | rfl | rfl | rfl | rfl | rfl | rfl | rfl | rfl | rfl | rfl | rfl | rfl | rfl | rfl | rfl | rfl | rfl | rfl | rfl | rfl | rfl | rfl <;> rfl) (Nat.le_of_ble_eq_true rfl) (Nat.le_of_ble_eq_true rfl) dL_0 (fun q H hP hD hS => ?_)
    refine lv_dup hx hb dL_3 rfl ?_
    refine W.enterI (R' := rmD_) (y := yX0_init) (bytes := cX0_init) (maxL := 1) hx hb (hl.1.trans hml.symm) hown rfl (hts _ q81) (hts _ q82) (hts _ q83) (by decide +kernel) (by decide) (fun sig h => by
      have h2 : (parseMethodDescriptor yX0_init.desc).map (fun d => d.parameters.length) = some 0 := by decide +kernel
      rw [h] at h2
      exact (Option.some.inj h2).symm) dL_4 (Nat.le_of_ble_eq_true rfl) (Nat.le_of_ble_eq_true rfl) (Nat.le_of_ble_eq_true rfl) (Nat.le_of_ble_eq_true rfl) ?_
    intro s' mk methM cM below' hH hW hn hm hbM hlM hlk
    subst hH
    have hmk2 : mk = ⟨2, 5⟩ := by
      have h1 := State.methodNamed?_setVm (s := s) hW.alike yX0_init
      rw [hmk] at h1
      exact (Option.some.inj ((show s'.methodNamed? yX0_init = some ⟨2, 5⟩ from h1).symm.trans hn)).symm
    subst hmk2
    obtain ⟨k', hk', he'⟩ := hW.alike.2.2 _ _ e1
    obtain ⟨kc', hkc', hec'⟩ := hW.alike.2.2 _ _ e11
    have hin : methM.name = "<init>" := (name_of_methodNamed hn hm).1
    have F' : fx_ p s' ⟨2, 5⟩ #[Value.ref q] methM cM RX0 cX0_init 1 methM.sig.returnType := ⟨hx, hbM, rfl, hlk, hlM, findClass_of_methodNamed hn, fun w h => hpay w h _ _ hW⟩
    have hl2 := lv_entry ([Value.ref q]) (n := 1) (Nat.le_of_ble_eq_true rfl)
    show W p l e rmD_ s' ⟨2, 5⟩ #[Value.ref q] below' methM cM s'.heap [] 0 0 Dead_ (entryFrame ⟨2, 5⟩ ([Value.ref q] : List Value).toArray 1)
    rw [lg_entry_eq]
    exact ctor_dead hin F' (va_K.moved hW.alike hK) (A := va_A _ s'.heap.size) (fun z h => Or.inr h) hP (hD.self (sz := s'.heap.size)) (va_AO.moved hW.alike (va_AO.of (htb _ q88)))
      (va_Nw.warmM hW (va_Nw.of rfl (htb _ q91))) (va_Nw.warmM hW (va_Nw.of rfl (htb _ q126))) (va_Nw.warmM hW (va_Nw.of rfl (htb _ q155)))
      hk' (by rw [he']; exact e2) (by rw [he']; exact e3) (by rw [he']; exact e4) (by rw [he']; exact e5) (by rw [he']; exact e6) e7 e8 e9 e10 hkc' (by rw [hec']; exact e12) (by rw [hec']; exact e13) hl2
  obtain ⟨t, a1, b1⟩ := K s₁ hh0 X₀
  exact ⟨t, a1, b1⟩
