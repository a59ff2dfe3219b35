/-! BASE 11: objects made by 'invokedynamic' -/
/-- the site at pc of method x makes objects of the class c, of shape σ -/
def LM (x : MethodName) (pc index : Nat) (σ : Lambda.Shape) (c : ClassId) (U : State) : Prop :=
  ∃ (m : MethodId) (k : Class) (cf : ClassFile) (i0 p0 : Nat), U.methodNamed? x = some m ∧ U.vm.classes[m.cls]? = some k ∧ k.cf = some cf ∧ Lambda.shapeOf? cf index = some σ ∧ (k.callSites.find? fun y => y.1 == m.idx && y.2.1 == pc) = some (i0, p0, .makes c) ∧
    Lambda.isMade { classPath := fun _ => none } U.vm m.cls σ c = true ∧ U.lambdaCallable σ c = true
theorem LM.of {x : MethodName} {pc index : Nat} {σ : Lambda.Shape} {c : ClassId} {one : Option Addr} {U : State} (h : U.lambdaAt? x pc index σ = some (c, one)) (hcap : σ.captured ≠ []) : LM x pc index σ c U := by
  obtain ⟨m, k, cf, i0, p0, l, hm, hk, hcf, hsh, -, hfind, hmade, hcan, hl⟩ := State.lambdaAt?_spec h
  rcases hl with ⟨a, cell, -, -, h9, -⟩ | ⟨rfl, -, -⟩
  · exact absurd h9 hcap
  · exact ⟨m, k, cf, i0, p0, hm, hk, hcf, hsh, hfind, hmade, hcan⟩
theorem LM.warm {x : MethodName} {pc index : Nat} {σ : Lambda.Shape} {c : ClassId} {s U : State} (hW : s.WarmedH U.vm) (h : LM x pc index σ c s) : LM x pc index σ c U := by
  obtain ⟨m, k, cf, i0, p0, hm, hk, hcf, hsh, hfind, hmade, hcan⟩ := h
  obtain ⟨k', hk', he⟩ := hW.alike.2.2 _ _ hk
  refine ⟨m, k', cf, i0, p0, ?_, hk', by rw [he]; exact hcf, hsh, by rw [he]; exact hfind, Lambda.isMade_warmer hW hmade, ?_⟩
  · have h9 := State.methodNamed?_setVm (s := s) hW.alike x
    rw [hm] at h9
    exact h9
  · have hA := hW.alike
    simp only [State.lambdaCallable, hA.findClass, hA.assignable, hA.superclasses, hA.declaredIn] at hcan ⊢
    exact hcan
theorem LM.same {x : MethodName} {pc index : Nat} {σ : Lambda.Shape} {c : ClassId} {u U : State} (e : U.vm = u.vm) (h : LM x pc index σ c u) : LM x pc index σ c U := LM.warm (by rw [e]; exact State.WarmedH.refl u) h
theorem lam_arr {α : Type} {x : Array Nat} {f : Nat → Nat → Nat → Option α} {r : α} (h : Lambda.shapeOf?.match_15 (fun _ => Option α) x f (fun _ => none) = some r) : ∃ a b c, f a b c = some r := by
  rcases x with ⟨_ | ⟨a, _ | ⟨b, _ | ⟨c, _ | ⟨d, L⟩⟩⟩⟩⟩
  · cases h
  · cases h
  · cases h
  · exact ⟨a, b, c, h⟩
  · cases h
theorem lam_site {cf : ClassFile} {index : Nat} {σ : Lambda.Shape} (h : Lambda.shapeOf? cf index = some σ) : ∃ (b nt : Nat) (desc : String) (site : MethodDescriptor), cf.constantPool[index]? = some (.invokeDynamic b nt) ∧ cf.constantPool.nameAndType? nt = some (σ.name, desc) ∧ parseMethodDescriptor desc = some site ∧ site.parameters = σ.captured := by
  unfold Lambda.shapeOf? at h
  split at h
  · rename_i b nt heq
    obtain ⟨_, -, h⟩ := Option.bind_eq_some_iff.mp h
    obtain ⟨_, -, h⟩ := Option.bind_eq_some_iff.mp h
    split at h
    · obtain ⟨_, -, h⟩ := Option.bind_eq_some_iff.mp h
      obtain ⟨a0, a1, a2, h⟩ := lam_arr h
      split at h
      · split at h
        · split at h
          · obtain ⟨⟨name, desc⟩, hnt, h⟩ := Option.bind_eq_some_iff.mp h
            obtain ⟨site, hsite, h⟩ := Option.bind_eq_some_iff.mp h
            split at h
            · simp only [Option.bind_eq_bind, Option.bind_eq_some_iff] at h
              obtain ⟨_, -, _, -, _, -, _, -, _, -, _, -, h⟩ := h
              cases h
              exact ⟨b, nt, desc, site, heq, hnt, hsite, rfl⟩
            · cases h
          · cases h
        · cases h
      · cases h
    · cases h
  · cases h
