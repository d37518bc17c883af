set_option maxRecDepth 1000000
theorem bad1.pre : (Cond.and given_1 narrow_1).before bad1.args0 bad1.about = true := by
  simp only [narrow_1, Cond.before_and, Bool.and_eq_true]
  refine ⟨bad1.given, ⟨⟨⟨by decide +kernel, by decide +kernel, by decide +kernel⟩, by decide +kernel, by decide +kernel, by decide +kernel⟩, ⟨by decide +kernel, by decide +kernel, by decide +kernel⟩, by decide +kernel, bad1.site1, bad1.site2⟩, ⟨⟨bad1.site3, bad1.site4, bad1.site5⟩, bad1.site6, bad1.site7, bad1.site8⟩, ⟨bad1.site9, bad1.site10, bad1.site11⟩, bad1.site12, bad1.site13, bad1.site14⟩
theorem bad1.tstB : tst_ bad1.about = true := by decide +kernel
theorem bad1.mk : bad1.about.methodNamed? yX0_init = some ⟨2, 5⟩ := by decide +kernel
theorem not_claimed (hL : Lists launch0 classFile x code maxLocals ret tables_1 room_1) : ¬ Claimed_1_1 := by
  intro hC
  obtain ⟨n, o, hw, hr, he, -⟩ := hC launch0 rfl hL trivial bad1.p0 bad1.e0 (launch0.admits_env _ _ _) fairChoices_fair.cas fairChoices_fair.clock bad1.about ⟨0, 0⟩ bad1.args0 Lib.HandBits.below0 rfl bad1.fit1 bad1.fit2 bad1.applies ⟨trivial, bad1.rest, bad1.pre⟩
  have hM : MetFree launch0 x (headSpec (Cond.code x code maxLocals ret :: tables_1) room_1) (fun a s => a = #[.ref 0] ∧ s.methodNamed? yX0_init = some ⟨2, 5⟩ ∧ tst_ s = true)
      (fun p e below s args => ∃ n o, (∀ k, k < n → Within (stepsAlone p.tables e k s) below) ∧ (stepsAlone p.tables e n s).status = .running ∧ Ended (stepsAlone p.tables e n s) below o) (fun _ _ _ _ => False) := by
    refine MetFree.of_bodyS (code := code) (maxLocals := maxLocals) (ret := ret) (by decide) ?_ ?_
    · intro args s m h hn
      obtain ⟨meth, c, h1, h2, h3, h4, h5, h6, -, -⟩ := Cond.code_spec hn (atoms_spec (ws := Cond.code x code maxLocals ret :: tables_1) h _ List.mem_cons_self)
      exact ⟨meth, c, h1, h2, h3, h4, h5, h6⟩
    · intro p e s m args below meth c s₁ B hml hP hK
      obtain ⟨hargs, hmk, htst⟩ := hP
      obtain ⟨n, o, hw, hr, he⟩ := hK
      have hml4 : c.maxLocals = 4 := hml
      obtain ⟨t, hs, hd⟩ := law_dead hargs B hml4 hmk htst
      exfalso
      have X₀ : Stand p launch0 e room_1 s m args below meth c s₁ [] 0 0 := Stand.of_body B
      have hst := B.state
      have hgo : s.goesOn := by
        have a1 := B.here.running
        have a2 := B.here.runnable
        have a3 := B.here.alone
        rw [hst] at a1 a2 a3
        exact ⟨a1, by simpa using a2, by simpa using a3⟩
      have h1 : stepsAlone p.tables e 1 s = s₁ := by
        rw [stepsAlone_one_invoking B.frames hgo B.method X₀.code B.notSynchronized B.room, hst, hml4]
        rfl
      have hcur := State.cur_lt_of_frames B.frames
      have hf1 : s₁.frames = .java (entryFrame m args 4) :: below := by rw [hst]; exact State.frames_setFrames _ hcur
      have h2 : s₁.setTop (entryFrame m args 4) = s₁ := State.setTop_self (State.topJava?_of_frames hf1)
      rw [h2] at hs
      have hs2 : Steps p.tables e below s t := Steps.trans ⟨1, h1, fun j hj => by
        have : j = 0 := by omega
        subst this
        exact ⟨[.invoking m args], B.frames, by simp, by simp⟩⟩ hs
      exact dead_never hs2 hd hw hr he
  obtain ⟨k, o', -, -, -, hF⟩ := hM bad1.p0 bad1.e0 (launch0.admits_env _ _ _) fairChoices_fair.cas fairChoices_fair.clock bad1.about ⟨0, 0⟩ bad1.args0 Lib.HandBits.below0 rfl ((Spec.applies_iff_loose rfl).mp bad1.applies).1 ⟨rfl, bad1.mk, bad1.tstB⟩ ⟨n, o, hw, hr, he⟩
  exact hF
