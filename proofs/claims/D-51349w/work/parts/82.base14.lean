/-! BASE 14: what is known of a made class -/
theorem la_facts {s : State} {args : Array Value} {d c : ClassId} {σ : Lambda.Shape} {y : MethodName} {code : ByteArray} {mi : Nat} {fs : List (Nat × Nat)} {dk : Class} {t : MethodId} (hd : s.vm.classes[d]? = some dk) (hn : dk.name = "BadCodes") (h : Lambda.isMade { classPath := fun _ => none } s.vm d σ c = true) (hK : laOK σ code mi y fs = true)
    (hN1 : σ.implClass = y.cls) (hN2 : σ.implName = y.name) (hN3 : σ.implDesc.toString = y.desc) (hN4 : σ.implItf = false) (hyc : y.cls = "BadCodes") (hO : (Cond.instantiable "java/lang/Object" 0).before args s = true) (hy : s.methodNamed? y = some t) :
    ∃ (k tk : Class) (file : ClassFile) (methk : Method) (ck : Code) (ci nt : Nat), s.vm.classes[c]? = some k ∧ k.name = "BadCodes$$Lambda" ∧ k.cf = some file ∧ s.vm.method? ⟨c, 1⟩ = some methk ∧ methk.code = some ck ∧ ck.code = code ∧ ck.maxLocals = 2 ∧ methk.locks = false ∧ methk.accessFlags = 0x0001 ∧ methk.sig.returnType = some .boolean ∧
      s.vm.classes[t.cls]? = some tk ∧ tk.isInterface = false ∧ s.vm.methodReady c mi t ∧ s.vm.classReady c ci t.cls ∧ file.constantPool[mi]? = some (.methodref ci nt) ∧ file.constantPool.nameAndType? nt = some (y.name, y.desc) ∧ ∀ q ∈ fs, ∃ f : Field, s.vm.fieldReady c q.1 c f ∧ f.isStatic = false ∧ f.slot = q.2 := by
  obtain ⟨dk', k, ok, tk, file, cf, object, iface, toy, lay, methods, target, found, hd', hk, hfile, hcf, hobj, -, hok, hlay, hms, ht, htk, hg, -, hrec, -, -, -, hitf, hpool, hmeth, hfields, -, hres, -⟩ := Lambda.isMade_spec h
  cases hd.symm.trans hd'
  obtain ⟨cO, kO, hfO, hkO, -, -, -, hsz⟩ := Cond.instantiable_spec hO
  cases hfO.symm.trans hobj
  cases hkO.symm.trans hok
  rw [hsz] at hlay
  have htc : s.vm.findClass y.cls = some t.cls := findClass_of_methodNamed hy
  rw [hN1] at ht
  cases ht.symm.trans htc
  have hfnd : s.methodFound? y.cls y.name y.desc = some t := State.methodFound?_of_named hy (by rw [hyc]; decide)
  simp only [State.methodFound?, htc, htk, Option.bind_eq_bind, Option.bind_some] at hfnd
  rw [hN2, hN3] at hg
  rw [hg] at hfnd
  have htt : target = t := Option.some.inj hfnd
  subst htt
  rw [hn] at hcf
  unfold laOK at hK
  rw [hcf] at hK
  dsimp only at hK
  rw [hms, hlay] at hK
  dsimp only at hK
  rw [Bool.and_eq_true, Bool.and_eq_true] at hK
  obtain ⟨⟨h1, h2⟩, h3⟩ := hK
  cases hfw : methods[1]? with
  | none => rw [hfw] at h1; cases h1
  | some fw =>
    rw [hfw] at h1
    dsimp only at h1
    rw [Bool.and_eq_true, Bool.and_eq_true, decide_eq_true_eq, decide_eq_true_eq] at h1
    obtain ⟨⟨h1, hfl⟩, hrt⟩ := h1
    cases hcd : fw.code with
    | none => rw [hcd] at h1; cases h1
    | some x =>
      rw [hcd] at h1
      dsimp only at h1
      rw [Bool.and_eq_true, decide_eq_true_eq, decide_eq_true_eq] at h1
      obtain ⟨b, hb, hsame⟩ := hmeth 1 fw hfw
      obtain ⟨-, -, hsig, hfl2, x', y', hx', hy', -, hml, hby, -⟩ := Lambda.sameMethod_spec hsame
      cases hcd.symm.trans hx'
      cases hcp : cf.constantPool[mi]? with
      | none => rw [hcp] at h2; cases h2
      | some en =>
        rw [hcp] at h2
        cases en <;> try (cases h2; done)
        rename_i ci nt
        dsimp only at h2
        rw [Bool.and_eq_true, Bool.and_eq_true, decide_eq_true_eq, decide_eq_true_eq] at h2
        obtain ⟨⟨hcn, hnt⟩, h2⟩ := h2
        cases hcc : cf.constantPool[ci]? with
        | none => rw [hcc] at h2; cases h2
        | some en2 =>
          rw [hcc] at h2
          cases en2 <;> try (cases h2; done)
          rename_i n
          dsimp only at h2
          rw [Bool.and_eq_true, decide_eq_true_eq, decide_eq_true_eq] at h2
          refine ⟨k, tk, file, b, y', ci, nt, hk, by rw [hrec.1, hn]; rfl, hfile, by simp [Vm.method?, hk, hb], hy', ByteArray.ext (by rw [hby]; exact h1.1), by rw [hml]; exact h1.2, by simp [Method.locks, Method.isSynchronized, hfl2, hfl, hasFlag, Acc.synchronized], by rw [hfl2]; exact hfl, by rw [hsig]; exact hrt, htk, by rw [hitf]; exact hN4,
            ⟨k, hk, hres mi _ (Lambda.resolvedOf_method hcp hcn htc htk hnt hg)⟩, ⟨k, hk, hres ci _ (Lambda.resolvedOf_class hcc h2.2 h2.1 htc)⟩, by rw [hpool.2.1]; exact hcp, by rw [hpool.2.1]; exact hnt, fun q hq => ?_⟩
          have h4 := List.all_eq_true.mp h3 q hq
          cases hcf2 : cf.constantPool[q.1]? with
          | none => rw [hcf2] at h4; cases h4
          | some en3 =>
            rw [hcf2] at h4
            cases en3 <;> try (cases h4; done)
            rename_i fc fnt
            dsimp only at h4
            cases hfn : cf.constantPool.nameAndType? fnt with
            | none => rw [hfn] at h4; cases h4
            | some nd =>
              obtain ⟨nm, ds⟩ := nd
              rw [hfn] at h4
              dsimp only at h4
              rw [Bool.and_eq_true, decide_eq_true_eq] at h4
              cases hf : lay.1[q.2]? with
              | none => rw [hf] at h4; cases h4.2
              | some f =>
                rw [hf] at h4
                have h5 := h4.2
                dsimp only at h5
                rw [Bool.and_eq_true, decide_eq_true_eq, decide_eq_true_eq] at h5
                exact ⟨f, ⟨k, q.2, k, hk, hres q.1 _ (Lambda.resolvedOf_field hcf2 hfn h4.1), hk, hfields q.2 _ hf⟩, h5.1, h5.2⟩
