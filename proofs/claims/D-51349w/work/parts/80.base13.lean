/-! BASE 13: what a made class forwards to -/
theorem lam_find {vm : Vm} {c i : Nat} {name desc : String} {ck : Class} (hc : vm.classes[c]? = some ck) (hpoly : ∀ y, signaturePolymorphic ck y = false) (hi : ck.findMethod name desc = some i) :
    ((methodIn c name desc ck.isInterface none).ask { classPath := fun _ => none } vm).1 = .ok ⟨c, i⟩ := by
  have h : (methodIn c name desc ck.isInterface none).Gives { classPath := fun _ => none } vm (.ok ⟨c, i⟩) vm := by
    generalize hv : ck.isInterface = via
    unfold methodIn
    refine (getClass_gives _ hc).bind ?_
    have hany : ∀ j : Nat, Option.any (signaturePolymorphic ck) ck.methods[j]? = false := fun j => by cases ck.methods[j]? <;> simp [hpoly]
    have hlook : lookupInSuperclasses vm name desc (vm.classes.size + 1) c = some ⟨c, i⟩ := by simp [lookupInSuperclasses, hc, hi]
    have hor : ∀ (x : MethodId) (y : Option MethodId), (some x <|> y) = some x := fun _ _ => rfl
    simp only [hv, bne_self_eq_false, Bool.false_eq_true, if_false, hany]
    generalize (List.filter (fun i => Option.any (fun x => x.name == name) ck.methods[i]?) (List.range ck.methods.size)) = L
    rcases L with _ | ⟨j, _ | ⟨j', L⟩⟩ <;> cases via <;>
    · simp only [Option.isSome_none, Option.isNone_none, Bool.false_eq_true, if_false, Bool.and_self, if_true]
      refine VmM.Gives.getVm.bind ?_
      simp only [hlook, hor, hi]
      refine (getEnv_gives _ vm).bind ?_
      refine (getClass_gives _ hc).bind ?_
      exact (VmM.Gives.mark _).bind (.pure _)
  obtain ⟨ms, h9⟩ := h []
  show ((methodIn c name desc ck.isInterface none) { classPath := fun _ => none } vm []).1 = _
  rw [h9]
