/-! BASE 3: calls of nest mates, over a start that speaks of the state -/
section BASE3
variable {p : Program} {l : Launch} {e : Env} {R : Room} {s : State} {m : MethodId} {args : Array Value} {below : List Frame} {meth : Method} {c : Code} {H : Heap} {locs : List Loc} {cells slots : Nat} {Q : State → Prop}
variable {cc : ByteArray} {pc : Nat} {ls : Array Slot} {rest st : List Value} {dC : Nat → ClassId} {dI : Nat → Nat → Nat} {dA : Nat → ClassId}
/-- a nest mate's static method -/
theorem x_rSN {nL index d maxL n : Nat} {y : MethodName} {bytes : ByteArray} {ret : Option FieldType} {X : State → Heap → Prop} {Qc : Array Value → State → Outcome → State → Prop} {free : Addr → Prop} {own host : String} {As : List Value} (SF : CallFix p m c cc nL s args lw_all own) (hK : KK dC dI dA s) (rk : rmOK (d + 1) R) (hM : Met l y (ws_ y bytes maxL ret) (rmD d 0 0) (uPx As X dC dI dA) Qc 0 0 free)
    (hl : va_Nw (.methodLinkNest own index y host) s) (h2 : Cond.static y ∈ lw_all) (h3 : Cond.initialized y.cls ∈ lw_all) (h4 : Cond.code y bytes maxL ret ∈ lw_all) (hd : y.cls ≠ "java/lang/invoke/MethodHandle" ∧ y.cls ≠ "java/lang/invoke/VarHandle" ∧ (parseMethodDescriptor y.desc).map (fun d => d.parameters.length) = some n) (hn : As.length = n) (hm : maxL ≤ 45)
    (hX : XOK X) (hΨ : X s H) (hsz : ls.size = nL) (hcat : (rest.map fun v => v.category).sum ≤ 8) (hcs : cells ≤ R.cells ∧ slots ≤ R.slots) (hst : st = As.reverse ++ rest) (hdg : decode cc pc = .ok (.invokestatic index, 3)) :
    va_Run p l e R s m args below meth c H locs cells slots 0 0 (F0 m pc ls st) rest (Qc As.toArray) free :=
  va_runSN SF hM ⟨va_cnB n SF.2.2.2.2 (lw_meth h4) rfl rfl rfl hl (SF.2.2.2.2 _ h3) hd (rk.call hm), SF.2.2.2.2 _ h2, trivial⟩ ⟨u_blindX hX, fun U hU hW => ⟨rfl, by rw [hU]; exact hX.2 s U H hW hΨ, va_K.moved hW.alike hK⟩⟩ rfl hn hsz hst (lv_room hcat) hdg hcs
theorem lw_F {own : String} {idx : Nat} {C : String} {x y : MethodName} {b : ByteArray} {L : Nat} {r : Option FieldType} (h1 : Cond.methodLink own idx x ∈ lw_all) (h2 : Cond.selects C x y ∈ lw_all) (h3 : Cond.instanceMethod y ∈ lw_all) (h4 : Cond.initialized y.cls ∈ lw_all) (h5 : Cond.code y b L r ∈ lw_all) : GoodIn lw_all (va_wsF own idx C x y (ws_ y b L r)) := by
  refine lw_app ?_ (lw_meth h5)
  intro w hw
  simp only [List.mem_cons, List.not_mem_nil, or_false] at hw
  rcases hw with rfl | rfl | rfl | rfl
  · exact h1
  · exact h2
  · exact h3
  · exact h4
/-- an interface's method, of an object of a known class -/
theorem x_rF {nL index count d maxL n : Nat} {x y : MethodName} {bytes : ByteArray} {ret : Option FieldType} {X : State → Heap → Prop} {Qc : Array Value → State → Outcome → State → Prop} {free : Addr → Prop} {own C : String} {cC : ClassId} {b : Nat} {As : List Value} (hat : ClassAt s C cC) (SF : CallFix p m c cc nL s args lw_all own) (hK : KK dC dI dA s) (rk : rmOK (d + 1) R) (hM : Met l y (ws_ y bytes maxL ret) (rmD d 0 0) (uPx (.ref b :: As) X dC dI dA) Qc 0 0 free)
    (hw : GoodIn lw_all (va_wsF own index C x y (ws_ y bytes maxL ret))) (hF : va_Fw C x y s) (hd : x.cls ≠ "java/lang/invoke/MethodHandle" ∧ x.cls ≠ "java/lang/invoke/VarHandle" ∧ (parseMethodDescriptor x.desc).map (fun d => d.parameters.length) = some n) (hn : As.length = n) (hm : maxL ≤ 45)
    (hcell : ∃ cell : Cell, H[b]? = some cell ∧ cell.vm.isStatics = false ∧ s.vm.findClass C = some cell.cls) (hX : XOK X) (hΨ : X s H) (hsz : ls.size = nL) (hcat : (rest.map fun v => v.category).sum ≤ 8) (hcs : cells ≤ R.cells ∧ slots ≤ R.slots) (hst : st = As.reverse ++ .ref b :: rest) (hdg : decode cc pc = .ok (.invokeinterface index count, 5)) :
    va_Run5 p l e R s m args below meth c H locs cells slots 0 0 (F0 m pc ls st) rest (Qc (Value.ref b :: As).toArray) free :=
  va_runF hat SF hM (va_cwF n SF.2.2.2.2 hw rfl rfl rfl hF hd (rk.call hm)) ⟨u_blindX hX, hcell, fun U hU hW => ⟨rfl, by rw [hU]; exact hX.2 s U H hW hΨ, va_K.moved hW.alike hK⟩⟩ rfl hn hsz hst (lv_room hcat) hdg hcs
theorem x_run5 {r : Int32} {a : Array Value} (hr : va_Run5 p l e R s m args below meth c H locs cells slots 0 0 (F0 m pc ls st) rest (uQi r a) noF) (k : W p l e R s m args below meth c H locs cells slots Q (F0 m (pc + 5) ls (.int r :: rest))) : W p l e R s m args below meth c H locs cells slots Q (F0 m pc ls st) := by
  intro T hT X
  obtain ⟨v, st₀, t, T', L, h0, X', hL, e1, e2, ⟨hv, hh⟩, st⟩ := hr T hT X
  cases hv
  obtain ⟨t2, a1, b1⟩ := k T' (by rw [e1, hh, h0]) (Stand.forget X' (fun q h => (hL q h).elim))
  exact ⟨t2, st t2 a1, b1⟩
theorem x_run5a {r : Value} {a : Array Value} (hr : va_Run5 p l e R s m args below meth c H locs cells slots 0 0 (F0 m pc ls st) rest (uQa r a) noF) (k : W p l e R s m args below meth c H locs cells slots Q (F0 m (pc + 5) ls (r :: rest))) : W p l e R s m args below meth c H locs cells slots Q (F0 m pc ls st) := by
  intro T hT X
  obtain ⟨v, st₀, t, T', L, h0, X', hL, e1, e2, ⟨hv, hh⟩, st⟩ := hr T hT X
  cases hv
  obtain ⟨t2, a1, b1⟩ := k T' (by rw [e1, hh, h0]) (Stand.forget X' (fun q h => (hL q h).elim))
  exact ⟨t2, st t2 a1, b1⟩
end BASE3
