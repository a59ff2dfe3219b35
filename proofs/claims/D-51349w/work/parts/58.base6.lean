/-! BASE 6: what rides in every contract of the class side; facts that last -/
def caW : Nat → String × String
  | 0 => ("BadCodes$Undecided", "BadCodes$Undecided")
  | 1 => ("BadCodes$ClosedRoute", "BadCodes$ClosedRoute")
  | 2 => ("BadCodes$Returned", "BadCodes$Returned")
  | 3 => ("BadCodes$FormatException", "BadCodes$FormatException")
  | 4 => ("java/lang/IndexOutOfBoundsException", "java/lang/IndexOutOfBoundsException")
  | 5 => ("java/lang/IllegalArgumentException", "java/lang/IllegalArgumentException")
  | 6 => ("java/lang/IllegalStateException", "java/lang/IllegalStateException")
  | 7 => ("BadCodes$Town", "java/lang/Object")
  | 8 => ("BadCodes$Letter", "java/lang/Object")
  | _ => ("BadCodes$Office", "java/lang/Object")
def ncP : Nat → String × String
  | 0 => ("BadCodes$ClosedRoute", "BadCodes$Undecided")
  | 1 => ("java/lang/IndexOutOfBoundsException", "java/lang/IllegalStateException")
  | 2 => ("java/lang/IllegalArgumentException", "java/lang/IllegalStateException")
  | 3 => ("java/lang/IllegalArgumentException", "java/lang/IndexOutOfBoundsException")
  | _ => ("java/lang/IllegalStateException", "java/lang/IndexOutOfBoundsException")
def aoC : Nat → String
  | 0 => "java/lang/Object"
  | 1 => "BadCodes$Office"
  | _ => "BadCodes$Test"
def CT9 (U : State) : Prop := (∀ i, i < 10 → va_Nw (.castable (caW i).1 (caW i).2) U) ∧ (∀ i, i < 5 → va_Nc (ncP i).1 (ncP i).2 U) ∧ ∀ i, i < 3 → va_AO (aoC i) U
theorem CT9.ok : XOK (fun U _ => CT9 U) := ⟨fun u U H e q => ⟨fun i hi => va_Nw.same rfl e.symm (q.1 i hi), fun i hi => va_Nc.moved (by rw [e]; exact Vm.Alike.refl _) (q.2.1 i hi), fun i hi => va_AO.moved (by rw [e]; exact Vm.Alike.refl _) (q.2.2 i hi)⟩, fun s U H hW q => ⟨fun i hi => va_Nw.warmC hW (q.1 i hi), fun i hi => va_Nc.moved hW.alike (q.2.1 i hi), fun i hi => va_AO.moved hW.alike (q.2.2 i hi)⟩⟩
/-- the environment: words, statics below sz -/
def EN (sz : Nat) (U : State) (H : Heap) : Prop := CE U ∧ EX sz U H ∧ CT9 U
theorem EN.ok {sz : Nat} : XOK (EN sz) := CE.ok.and (EX.ok.and CT9.ok)
theorem EN.at {sz : Nat} {A : Nat → Prop} {U : State} {H0 H : Heap} {locs : List Loc} (h : EN sz U H0) (hS : va_S A H0 H locs) (hA : ∀ q, A q → sz ≤ q) : EN sz U H := ⟨h.1, h.2.1.at hS hA, h.2.2⟩
section BASE6
variable {p : Program} {l : Launch} {e : Env} {R : Room} {s : State} {m : MethodId} {args : Array Value} {below : List Frame} {meth : Method} {c : Code} {H H0 H1 : Heap} {locs : List Loc} {cells slots : Nat} {Q : State → Prop}
variable {cc : ByteArray} {pc : Nat} {ls : Array Slot} {rest st : List Value} {dC : Nat → ClassId} {dI : Nat → Nat → Nat} {dA : Nat → ClassId} {A : Nat → Prop} {hs : Nat} {b : Nat → Nat} {E : Nat → Option va_E}
/-- cells outside of what may change -/
theorem cP.at {x : Nat} {en : va_E} (h : cP dC dI x en H0) (hS : va_S (gF A hs) H0 H locs) (hz : H0.size = hs) (hx : ¬ A x) : cP dC dI x en H := h.kept ((hS.fr hz).2 x (hz ▸ h.lt) hx)
theorem famP.at (h : famP dC dI b E H0) (hS : va_S (gF A hs) H0 H locs) (hz : H0.size = hs) (hA : ∀ k, (E k).isSome = true → ¬ A (b k)) : famP dC dI b E H := fun k en hk => (h k en hk).at hS hz (hA k (by rw [hk]; rfl))
theorem cP.stay {x : Nat} {en : va_E} (h : cP dC dI x en H) (oq : ∀ q : Nat, q < H.size → ¬ A q → H1[q]? = H[q]?) (hx : ¬ A x) : cP dC dI x en H1 := h.kept (oq x h.lt hx)
theorem famP.stay (h : famP dC dI b E H) (oq : ∀ q : Nat, q < H.size → ¬ A q → H1[q]? = H[q]?) (hA : ∀ k, (E k).isSome = true → ¬ A (b k)) : famP dC dI b E H1 := fun k en hk => (h k en hk).stay oq (hA k (by rw [hk]; rfl))
/-- .. after something has been made -/
theorem cP.made {x : Nat} {en : va_E} (h : cP dC dI x en H) (oq : ∀ q : Nat, q < H.size → H1[q]? = H[q]?) : cP dC dI x en H1 := h.kept (oq x h.lt)
theorem famP.made (h : famP dC dI b E H) (oq : ∀ q : Nat, q < H.size → H1[q]? = H[q]?) : famP dC dI b E H1 := fun k en hk => (h k en hk).made oq
theorem g_thrown {x ci : Nat} {fs : List Value} {r : vw_C} (hK : KK dC dI dA s) (hP : cP dC dI x (.inr (ci, fs)) H) (hc : CL[ci]? = some r) : ∃ ce : Cell, H[x]? = some ce ∧ ce.vm = .none ∧ s.vm.findClass r.1 = some ce.cls := by
  obtain ⟨r', hr', cell, g1, g2, g3, -⟩ := hP 0 _ rfl
  exact ⟨cell, g1, g3, by rw [g2]; exact (hK.1 ci r hc).2.1⟩
theorem lw_U {own C owner : String} {idx : Nat} {x y : MethodName} {b : ByteArray} {L : Nat} {r : Option FieldType} (h1 : Cond.methodLink own idx x ∈ lw_all) (h2 : Cond.sameMethod x.cls owner x.name x.desc ∈ lw_all) (h3 : Cond.selects C x y ∈ lw_all) (h4 : Cond.instanceMethod y ∈ lw_all) (h5 : Cond.initialized y.cls ∈ lw_all) (h6 : Cond.code y b L r ∈ lw_all) : GoodIn lw_all (va_wsU own idx C owner x y (ws_ y b L r)) := by
  refine lw_app ?_ (lw_meth h6)
  intro w hw
  simp only [List.mem_cons, List.not_mem_nil, or_false] at hw
  rcases hw with rfl | rfl | rfl | rfl | rfl
  · exact h1
  · exact h2
  · exact h3
  · exact h4
  · exact h5
/-- an inherited method -/
theorem x_rU {nL index d maxL n : Nat} {x y : MethodName} {bytes : ByteArray} {ret : Option FieldType} {X : State → Heap → Prop} {Qc : Array Value → State → Outcome → State → Prop} {free : Addr → Prop} {own C owner : String} {b : Nat} {As : List Value} (SF : CallFix p m c cc nL s args lw_all own) (hK : KK dC dI dA s) (rk : rmOK (d + 1) R) (hM : Met l y (ws_ y bytes maxL ret) (rmD d 0 0) (uPx (.ref b :: As) X dC dI dA) Qc 0 0 free)
    (hw : GoodIn lw_all (va_wsU own index C owner x y (ws_ y bytes maxL ret))) (hyx : y = ⟨owner, x.name, x.desc⟩) (hd : owner ≠ "java/lang/invoke/MethodHandle" ∧ owner ≠ "java/lang/invoke/VarHandle" ∧ (parseMethodDescriptor x.desc).map (fun d => d.parameters.length) = some n) (hn : As.length = n) (hm : maxL ≤ 45)
    (hcell : ∃ cell : Cell, H[b]? = some cell ∧ cell.vm.isStatics = false ∧ s.vm.findClass C = some cell.cls) (hX : XOK X) (hΨ : X s H) (hsz : ls.size = nL) (hcat : (rest.map fun v => v.category).sum ≤ 8) (hcs : cells ≤ R.cells ∧ slots ≤ R.slots) (hst : st = As.reverse ++ .ref b :: rest) (hdg : decode cc pc = .ok (.invokevirtual index, 3)) :
    va_Run p l e R s m args below meth c H locs cells slots 0 0 (F0 m pc ls st) rest (Qc (Value.ref b :: As).toArray) free :=
  va_runU SF hM (va_cwU n SF.2.2.2.2 hw rfl rfl rfl hyx hd (rk.call hm)) ⟨u_blindX hX, hcell, fun U hU hW => ⟨rfl, by rw [hU]; exact hX.2 s U H hW hΨ, va_K.moved hW.alike hK⟩⟩ rfl hn hsz hst (lv_room hcat) hdg hcs
/-- places of arrays -/
theorem g_zald {x n i : Nat} {f : Nat → Int32} (hx : p.tables.exec = Jvm.exec) (hb : c.code = cc) (hK : KK dC dI dA s) (hP : cP dC dI x (.inl (dA 1, n, .inl f)) H) (hi : i < n) (hn : n < 2 ^ 31) (hdg : decode cc pc = .ok (.baload, 1))
    (kk : W p l e R s m args below meth c H locs cells slots Q (F0 m (pc + 1) ls (.int (f i) :: rest))) : W p l e R s m args below meth c H locs cells slots Q (F0 m pc ls (.int (nI i) :: .ref x :: rest)) := by
  refine va_zald hx hb hK hP 0 1 rfl rfl (vp_in_nI hi hn) hdg ?_
  rw [nI_clamp (Nat.lt_trans hi hn)]
  exact kk
theorem g_bald {x n i : Nat} {f : Nat → Int32} (hx : p.tables.exec = Jvm.exec) (hb : c.code = cc) (hK : KK dC dI dA s) (hP : cP dC dI x (.inl (dA 2, n, .inl f)) H) (hi : i < n) (hn : n < 2 ^ 31) (hdg : decode cc pc = .ok (.baload, 1))
    (kk : W p l e R s m args below meth c H locs cells slots Q (F0 m (pc + 1) ls (.int (f i) :: rest))) : W p l e R s m args below meth c H locs cells slots Q (F0 m pc ls (.int (nI i) :: .ref x :: rest)) := by
  refine va_bald hx hb hK hP 0 2 rfl rfl (vp_in_nI hi hn) hdg ?_
  rw [nI_clamp (Nat.lt_trans hi hn)]
  exact kk
end BASE6
