set_option maxRecDepth 1000000
def siteT_ (s : State) (pc index midx : Nat) (σ : Lambda.Shape) : Bool := (s.vm.classes[2]?).any fun k =>
  (match k.cf with | some cf => decide (Lambda.shapeOf? cf index = some σ) | none => false) && !jdkName k.name && ((s.vm.findClass σ.iface).bind (Lambda.owesInit s.vm)).isNone &&
  (match k.methods[midx]? with | some meth => (match meth.code with | some code => (Lambda.sitesFrom code.code code.code.size 0).any (fun y => decide (y = (pc, index))) | none => false) | none => false) &&
  (match k.callSites.find? (fun y => y.1 == midx && y.2.1 == pc) with
    | some (_, _, .constant a) => (match s.heap[a]? with | some cell => σ.captured.isEmpty && Lambda.isMade { classPath := fun _ => none } s.vm 2 σ cell.cls && s.lambdaCallable σ cell.cls && decide (cell.vm = .none) && cell.slots.isEmpty | none => false)
    | some (_, _, .makes c) => !σ.captured.isEmpty && Lambda.isMade { classPath := fun _ => none } s.vm 2 σ c && s.lambdaCallable σ c
    | _ => false)
theorem siteT_ok {s : State} {x : MethodName} {pc index midx : Nat} {σ : Lambda.Shape} {args : Array Value} (hm : s.methodNamed? x = some ⟨2, midx⟩) (h : siteT_ s pc index midx σ = true) : (Cond.lambdaSite x pc index σ).before args s = true := by
  unfold siteT_ at h
  cases hk : s.vm.classes[2]? with
  | none => rw [hk] at h; cases h
  | some k =>
    rw [hk] at h
    simp only [Option.any_some, Bool.and_eq_true] at h
    obtain ⟨⟨⟨⟨h1, h2⟩, h3⟩, h4⟩, h5⟩ := h
    cases hcf : k.cf with
    | none => rw [hcf] at h1; cases h1
    | some cf =>
      rw [hcf] at h1
      have hsh : Lambda.shapeOf? cf index = some σ := by simpa using h1
      cases hme : k.methods[midx]? with
      | none => rw [hme] at h4; cases h4
      | some meth =>
        rw [hme] at h4
        cases hco : meth.code with
        | none => simp only [hco] at h4; cases h4
        | some code =>
          simp only [hco] at h4
          have hmem : (pc, index) ∈ Lambda.sitesFrom code.code code.code.size 0 := by simpa using h4
          have hin : (midx, pc, index, σ) ∈ Lambda.sitesOf k := by
            unfold Lambda.sitesOf
            rw [hcf]
            refine List.mem_flatMap.mpr ⟨(meth, midx), ?_, ?_⟩
            · rw [List.mem_zipIdx_iff_getElem?]
              simpa using hme
            · simp only [hco]
              exact List.mem_filterMap.mpr ⟨(pc, index), hmem, by simp [hsh]⟩
          have hany : ((Lambda.sitesOf k).any fun y => decide (y = (midx, pc, index, σ))) = true := by simpa using hin
          have hj : jdkName k.name = false := by simpa using h2
          have ho : ((s.vm.findClass σ.iface).bind (Lambda.owesInit s.vm)).isNone = true := h3
          have key : (s.lambdaAt? x pc index σ).isSome = true := by
            split at h5
            · rename_i i0 p0 a e5
              cases hc : s.heap[a]? with
              | none => rw [hc] at h5; cases h5
              | some cell =>
                rw [hc] at h5
                simp only [Bool.and_eq_true, decide_eq_true_eq] at h5
                obtain ⟨⟨⟨⟨a1, a2⟩, a3⟩, a4⟩, a5⟩ := h5
                simp [State.lambdaAt?, guard, hm, hk, hcf, hsh, hj, ho, hany, e5, hc, a1, a2, a3, a4, a5]
            · rename_i i0 p0 c0 e5
              simp only [Bool.and_eq_true] at h5
              obtain ⟨⟨a1, a2⟩, a3⟩ := h5
              simp [State.lambdaAt?, guard, hm, hk, hcf, hsh, hj, ho, hany, e5, a1, a2, a3]
            · cases h5
          obtain ⟨w, hw⟩ := Option.isSome_iff_exists.mp key
          simp [Cond.before, Cond.holds, Cond.value, hw]
def shp_ : Cond → Lambda.Shape
  | .lambdaSite _ _ _ σ => σ
  | _ => default
theorem bad1.site8 : siteWord_1_8.before bad1.args0 bad1.about = true := siteT_ok (x := ⟨"TreeOdds", "follows", "(I)I"⟩) (midx := 32) (σ := shp_ siteWord_1_8) (pc := 55) (index := 244) (by decide +kernel) (by decide +kernel)
