/-! BASE 16: a call of an object made by 'invokedynamic' -/
abbrev xIs : MethodName := ⟨"BadCodes$Test", "isSo", "(I)Z"⟩
/-- what a call through Test asks of the tables -/
def FT9 (U : State) : Prop := (Cond.declares xIs).before #[] U = true ∧ (Cond.interfaceMethod xIs.cls xIs.cls xIs.name xIs.desc).before #[] U = true
theorem FT9.moved {u U : State} (hvm : u.vm.Alike U.vm) (h : FT9 u) : FT9 U := by
  obtain ⟨h1, h2⟩ := h
  obtain ⟨r, meth, hn, -⟩ := Cond.declares_spec h1
  have tr : ∀ {c : Cond}, c.onTables = true → c.before #[] (u.setVm U.vm) = true → c.before #[] U = true := by
    intro c hc h
    have e := Cond.onTables_vm (A := #[]) (A' := #[]) (U := u) (U' := U) U.vm c hc
    have hU : U.setVm U.vm = U := rfl
    rw [hU] at e
    rw [← e]
    exact h
  exact ⟨tr rfl (by rw [Cond.declares_setVm hvm]; exact h1), tr rfl (by rw [Cond.interfaceMethod_setVm hvm (r := r) hn (by decide)]; exact h2)⟩
theorem FT9.ok : XOK (fun U _ => FT9 U) := ⟨fun u U H e q => q.moved (by rw [e]; exact Vm.Alike.refl _), fun s U H hW q => q.moved hW.alike⟩
section BASE16
variable {p : Program} {l : Launch} {e : Env} {R : Room} {s : State} {m : MethodId} {args : Array Value} {below : List Frame} {meth : Method} {c : Code} {H H0 H1 : Heap} {locs : List Loc} {cells slots : Nat} {Q : State → Prop}
variable {cc : ByteArray} {pc : Nat} {ls : Array Slot} {rest st : List Value}
theorem lam_run5 {own : String} {index count pc0 ix0 mi : Nat} {x0 y : MethodName} {σ : Lambda.Shape} {cK : ClassId} {code : ByteArray} {fs : List (Nat × Nat)} {vals : List Value} {a : Nat} {x : Int32} {r : Bool} {R' : Room} (hexec : p.tables.exec = Jvm.exec) (hb : c.code = cc) (hml : ls.size = c.maxLocals) (hown : s.vm.findClass own = some m.cls)
    (hlink : (Cond.methodLink own index xIs).before args s = true) (hF : FT9 s) (hL : LM x0 pc0 ix0 σ cK s) (hx0 : x0.cls = "BadCodes") (hO : (Cond.instantiable "java/lang/Object" 0).before args s = true) (hK : laOK σ code mi y fs = true)
    (hN1 : σ.implClass = y.cls) (hN2 : σ.implName = y.name) (hN3 : σ.implDesc.toString = y.desc) (hN4 : σ.implItf = false) (hN5 : σ.iface = "BadCodes$Test") (hN6 : σ.name = "isSo") (hN7 : σ.sam.toString = "(I)Z") (hyc : y.cls = "BadCodes") (hy : ∃ t, s.methodNamed? y = some t)
    (hP : lamP cK vals a H) (hst : st = .int x :: .ref a :: rest) (hW : (rest.map fun v => v.category).sum ≤ 8) (hdg : decode cc pc = .ok (.invokeinterface index count, 5)) (hfr : R'.frames + 1 ≤ R.frames) (hlo : 8 + 13 + R'.locals ≤ R.locals) (hRc : R'.cells = 0) (hRs : R'.slots = 0) (hcs : cells ≤ R.cells ∧ slots ≤ R.slots)
    (hbody : ∀ (U : State) (g' : JFrame) (methk : Method) (ck : Code) (ls' : Array Slot), s.WarmedH U.vm → U.heap = H → LM x0 pc0 ix0 σ cK U → methk.sig.returnType = some .boolean → methk.locks = false → ck.code = code → ck.maxLocals = 2 → lv_has ls' 2 [(0, .ref a), (1, .int x)] →
      W p l e R' U ⟨cK, 1⟩ #[.ref a, .int x] (.java g' :: below) methk ck H [] 0 0 (MQ (.java g' :: below) (uQi (nI r.toNat)) #[.ref a, .int x] U 0 0 noF) (F0 ⟨cK, 1⟩ 0 ls' [])) :
    va_Run5 p l e R s m args below meth c H locs cells slots 0 0 (F0 m pc ls st) rest (uQi (nI r.toNat) #[.ref a, .int x]) noF := by
  intro T hT X
  obtain ⟨hdecl, hface⟩ := hF
  obtain ⟨r0, rm, hn, hrm, hstR, hsigR⟩ := Cond.declares_spec hdecl
  obtain ⟨cL, kL, r1, hcL, hkL, hiL, hfoundL, hn1⟩ := Cond.interfaceMethod_spec hface
  cases hn.symm.trans hn1
  have hr0cls : r0.cls = cL := Option.some.inj ((findClass_of_methodNamed hn).symm.trans hcL)
  obtain ⟨hnameR, hdescR⟩ := name_of_methodNamed hn hrm
  obtain ⟨t, hyt⟩ := hy
  have hL' := hL
  obtain ⟨m0, kS, cfS, i0, p0, hm0, hkS, hcfS, hshape, hfind, hmade, hcan⟩ := hL'
  obtain ⟨kS', hkS', hnameS⟩ := className_of_methodNamed hm0
  cases hkS.symm.trans hkS'
  obtain ⟨k, tk, file, methk, ck, ci, nt, hk, hkn, hfile, hmk, hck, hbytes, hmlK, hlk, hfl, hretk, htk, hitf, hready, hclsR, hcp, hnt, hfs⟩ := la_facts hkS (hnameS.trans hx0) hmade hK hN1 hN2 hN3 hN4 hyc hO hyt
  obtain ⟨-, -, -, -, -, -, -, iface', -, -, -, -, found, -, -, -, -, -, hi', -, -, -, -, -, -, hfound', -, -, -, -, -, -, -, -, -, -, hsel⟩ := Lambda.isMade_spec hmade
  rw [hN5] at hi'
  cases hcL.symm.trans hi'
  have hfr0 : found = r0 := by
    have h1 : s.methodFound? "BadCodes$Test" "isSo" "(I)Z" = some r0 := hfoundL
    have hcL' : s.vm.findClass "BadCodes$Test" = some cL := hcL
    simp only [State.methodFound?, hcL', hkL, hiL, Option.bind_eq_bind, Option.bind_some] at h1
    rw [hN6, hN7] at hfound'
    rw [hfound'] at h1
    exact Option.some.inj h1
  subst hfr0
  obtain ⟨i2, hi2, hasg, hway⟩ := State.lambdaCallable_spec hcan
  rw [hN5] at hi2
  cases hcL.symm.trans hi2
  have hcell : T.heap[a]? = some { cls := cK, slots := vals.toArray, vm := .none } := by rw [hT]; exact hP
  have hselP : selectMethod e.platform s.vm cK found = .method ⟨cK, 1⟩ := by rw [Launch.admits_selectMethod X.admits]; exact hsel
  obtain ⟨vm₁, X₁, hstep₁⟩ := X.invokeinterface hexec hown hlink hn hrm hstR (by rw [hr0cls]; exact hkL) hiL (by decide) (a := a) (cell := { cls := cK, slots := vals.toArray, vm := .none }) (kcell := k) hcell
    (fun z h => by cases h) hk (by rw [hr0cls]; exact hasg) hselP hmk (by rw [hnameR, hdescR]; rw [hN6, hN7] at hway; exact hway) (by rw [hfl]; decide) (by simp [Method.isAbstract, hfl, hasFlag, Acc.abstract]) (g := F0 m pc ls st) rfl (argsL := [.int x]) (rest := rest)
    (by have h9 := hsigR; have h8 : parseMethodDescriptor "(I)Z" = some ⟨[.int], some .boolean⟩ := by decide +kernel
        have h7 : parseMethodDescriptor xIs.desc = some rm.sig := h9
        rw [show xIs.desc = "(I)Z" from rfl, h8] at h7
        rw [← Option.some.inj h7]; rfl) (by rw [hst]; rfl) (by rw [hb]; exact hdg)
  have hW1 : s.WarmedH (T.setVm vm₁).vm := X₁.warmed
  have hmk1 : (T.setVm vm₁).vm.method? ⟨cK, 1⟩ = some methk := by rw [hW1.alike.method?]; exact hmk
  obtain ⟨k1, hk1, he1⟩ := hW1.alike.2.2 _ _ hk
  obtain ⟨Y₀, hin⟩ := X₁.into (g := F0 m pc ls rest) rfl hml (by rw [hb]; exact hdg) #[.ref a, .int x] (R' := R') hmk1 hck hlk (State.plainMethod.of_name (fun k' hk' => by cases hk1.symm.trans hk'; rw [he1, show ({ k with } : Class).name = k.name from rfl, hkn]; decide)) hfr (by rw [hmlK]; show 2 * 0 + (rest.map fun v => v.category).sum + (2 + 11) + R'.locals ≤ R.locals; omega) (by rw [hRc]; exact hcs.1) (by rw [hRs]; exact hcs.2)
  have hwk : s.WarmedH ((T.setVm vm₁).calling (F0 m pc ls rest) ⟨cK, 1⟩ #[.ref a, .int x]).vm := hW1
  have hb1 := hbody ((T.setVm vm₁).calling (F0 m pc ls rest) ⟨cK, 1⟩ #[.ref a, .int x]) (F0 m pc ls rest) methk ck _ hwk hT (LM.warm hwk hL) hretk hlk hbytes hmlK (lv_entry [.ref a, .int x] (Nat.le_refl _))
  obtain ⟨t9, hst9, o, hrun, hend, hq, L, hFE, hLf⟩ := hb1 (((T.setVm vm₁).setTop (F0 m pc ls rest)).pushFrame (.java (entryFrame ⟨cK, 1⟩ #[.ref a, .int x] ck.maxLocals))) hT Y₀
  obtain ⟨⟨v, rfl⟩, hWe, hsame⟩ := hFE
  obtain ⟨T', X', hW', hsb, ht⟩ := X₁.outOf (g := F0 m pc ls rest) rfl (by rw [hb]; exact hdg) hend hWe hsame
  have hL0 : L = [] := by
    cases L with
    | nil => rfl
    | cons z L => exact (hLf z List.mem_cons_self).elim
  subst hL0
  refine ⟨v, (T.setVm vm₁).calling (F0 m pc ls rest) ⟨cK, 1⟩ #[.ref a, .int x], t9, T', [], hT, X', fun q h => (List.not_mem_nil h).elim, (show T'.heap = t9.heap by rw [ht]; rfl), (show T'.vm = t9.vm by rw [ht]; rfl), hq, fun target h => hstep₁ _ fun acts => ?_⟩
  show Steps p.tables e below (doInvoke e ((T.setVm vm₁).setTop (F0 m pc ls rest)) acts ⟨cK, 1⟩ #[.ref a, .int x]).1 target
  rw [hin acts]
  refine Steps.trans (s₂ := t9) (Steps.weaken (mid := [.java (F0 m pc ls rest)]) ?_) (by rw [ht]; exact h)
  have he9 : entryFrame ⟨cK, 1⟩ #[.ref a, .int x] ck.maxLocals = F0 ⟨cK, 1⟩ 0 ((lg_sl [.ref a, .int x] ++ List.replicate (2 - (lg_sl [.ref a, .int x]).length) Slot.unset).toArray) [] := by rw [hmlK]; exact lg_entry_eq _ _ _
  rw [he9]
  rw [he9] at hst9
  exact hst9
end BASE16
