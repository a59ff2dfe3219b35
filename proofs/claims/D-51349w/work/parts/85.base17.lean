/-! BASE 17: calls of objects made by 'invokedynamic', by their four forms -/
theorem laDA_0 : decode laBA 0 = .ok (.aload_n 0, 1) := by decide +kernel
theorem laDA_1 : decode laBA 1 = .ok (.getfield 15, 3) := by decide +kernel
theorem laDA_4 : decode laBA 4 = .ok (.iload_n 1, 1) := by decide +kernel
theorem laDA_5 : decode laBA 5 = .ok (.invokevirtual 22, 3) := by decide +kernel
theorem laDA_8 : decode laBA 8 = .ok (.ireturn, 1) := by decide +kernel
theorem laDB_0 : decode laBB 0 = .ok (.aload_n 0, 1) := by decide +kernel
theorem laDB_1 : decode laBB 1 = .ok (.getfield 15, 3) := by decide +kernel
theorem laDB_4 : decode laBB 4 = .ok (.iload_n 1, 1) := by decide +kernel
theorem laDB_5 : decode laBB 5 = .ok (.invokestatic 23, 3) := by decide +kernel
theorem laDB_8 : decode laBB 8 = .ok (.ireturn, 1) := by decide +kernel
theorem laDC_0 : decode laBC 0 = .ok (.aload_n 0, 1) := by decide +kernel
theorem laDC_1 : decode laBC 1 = .ok (.getfield 17, 3) := by decide +kernel
theorem laDC_4 : decode laBC 4 = .ok (.aload_n 0, 1) := by decide +kernel
theorem laDC_5 : decode laBC 5 = .ok (.getfield 19, 3) := by decide +kernel
theorem laDC_8 : decode laBC 8 = .ok (.iload_n 1, 1) := by decide +kernel
theorem laDC_9 : decode laBC 9 = .ok (.invokestatic 27, 3) := by decide +kernel
theorem laDC_12 : decode laBC 12 = .ok (.ireturn, 1) := by decide +kernel
theorem laDD_0 : decode laBD 0 = .ok (.aload_n 0, 1) := by decide +kernel
theorem laDD_1 : decode laBD 1 = .ok (.getfield 17, 3) := by decide +kernel
theorem laDD_4 : decode laBD 4 = .ok (.aload_n 0, 1) := by decide +kernel
theorem laDD_5 : decode laBD 5 = .ok (.getfield 19, 3) := by decide +kernel
theorem laDD_8 : decode laBD 8 = .ok (.iload_n 1, 1) := by decide +kernel
theorem laDD_9 : decode laBD 9 = .ok (.invokevirtual 27, 3) := by decide +kernel
theorem laDD_12 : decode laBD 12 = .ok (.ireturn, 1) := by decide +kernel
section BASE17
variable {p : Program} {l : Launch} {e : Env} {R : Room} {s : State} {m : MethodId} {args : Array Value} {below : List Frame} {meth : Method} {c : Code} {H H0 H1 : Heap} {locs : List Loc} {cells slots : Nat} {Q : State → Prop}
variable {cc : ByteArray} {pc nL : Nat} {ls : Array Slot} {rest st : List Value} {dC : Nat → ClassId} {dI : Nat → Nat → Nat} {dA : Nat → ClassId}
theorem lam_callA {own : String} {index count pc0 ix0 d maxL : Nat} {x0 y : MethodName} {bytes : ByteArray} {σ : Lambda.Shape} {cK : ClassId} {X : State → Heap → Prop} {a b : Nat} {x : Int32} {r : Bool} (SF : CallFix p m c cc nL s args lw_all own) (hKK : KK dC dI dA s) (rk : rmOK (d + 2) R)
    (hM : Met l y (ws_ y bytes maxL (some .boolean)) (rmD d 0 0) (uPx [.ref b, .int x] X dC dI dA) (uQi (nI r.toNat)) 0 0 noF) (hcode : Cond.code y bytes maxL (some .boolean) ∈ lw_all) (hini : Cond.initialized y.cls ∈ lw_all) (hinst : Cond.instanceMethod y ∈ lw_all) (hsel : Cond.selects "BadCodes" y y ∈ lw_all) (hcB : ∃ cell : Cell, H[b]? = some cell ∧ cell.vm.isStatics = false ∧ s.vm.findClass "BadCodes" = some cell.cls) (hlink : Cond.methodLink own index xIs ∈ lw_all) (hO0 : Cond.instantiable "java/lang/Object" 0 ∈ lw_all)
    (hd : (parseMethodDescriptor y.desc).map (fun d => d.parameters.length) = some 1) (hm : maxL ≤ 45) (hF : FT9 s) (hL : LM x0 pc0 ix0 σ cK s) (hx0 : x0.cls = "BadCodes") (hK : laOK σ laBA 22 y [(15, 0)] = true)
    (hN1 : σ.implClass = y.cls) (hN2 : σ.implName = y.name) (hN3 : σ.implDesc.toString = y.desc) (hN4 : σ.implItf = false) (hN5 : σ.iface = "BadCodes$Test") (hN6 : σ.name = "isSo") (hN7 : σ.sam.toString = "(I)Z") (hyc : y.cls = "BadCodes")
    (hXok : XOK X) (hX : X s H) (hP : lamP cK [.ref b] a H) (hsize : ls.size = nL) (hst : st = .int x :: .ref a :: rest) (hcat : (rest.map fun v => v.category).sum ≤ 8) (hcs : cells ≤ R.cells ∧ slots ≤ R.slots) (hdg : decode cc pc = .ok (.invokeinterface index count, 5)) :
    va_Run5 p l e R s m args below meth c H locs cells slots 0 0 (F0 m pc ls st) rest (uQi (nI r.toNat) #[.ref a, .int x]) noF := by
  obtain ⟨hexec, hb, hml, hown, hts⟩ := SF
  obtain ⟨t0, ht0⟩ := Cond.code_named (hts _ hcode)
  refine lam_run5 (R' := rmD (d + 1) 0 0) hexec hb (hsize.trans hml.symm) hown (hts _ hlink) hF hL hx0 (hts _ hO0) hK hN1 hN2 hN3 hN4 hN5 hN6 hN7 hyc ⟨t0, ht0⟩ hP hst hcat hdg rk.1 (by have := rk.2; show 8 + 13 + 64 * (d + 1) ≤ R.locals; omega) rfl rfl hcs fun U g' methk ck ls' hW hUH hLU hret hlk hcd hml2 hl => ?_
  have htU : ∀ w ∈ lw_all, w.before #[.ref a, .int x] U = true := fun w h => word_at hW (good_of_word (List.mem_filter.mp h).2) (hts w h)
  have hXU := hXok.2 s U H hW hX
  have hKU : KK dC dI dA U := va_K.moved hW.alike hKK
  obtain ⟨t, hyt⟩ := Cond.code_named (htU _ hcode)
  obtain ⟨m0, kS, cfS, i0, p0, hm0, hkS, hcfS, hshape, hfind, hmade, hcan⟩ := hLU
  obtain ⟨kS', hkS', hnameS⟩ := className_of_methodNamed hm0
  cases hkS.symm.trans hkS'
  obtain ⟨k, tk, file, methk2, ck2, ci, nt, hk, hkn, hfile, -, -, -, -, -, -, -, htk, hitf, hready, hclsR, hcp, hnt, hfs⟩ := la_facts hkS (hnameS.trans hx0) hmade hK hN1 hN2 hN3 hN4 hyc (htU _ hO0) hyt
  obtain ⟨tk', htk', htn⟩ := className_of_methodNamed hyt
  cases htk.symm.trans htk'
  obtain ⟨metht, ct, hmt, -, -, -, -, -, -, hsig⟩ := Cond.code_spec hyt (htU _ hcode)
  have hlen : ∀ n9, (parseMethodDescriptor y.desc).map (fun d => d.parameters.length) = some n9 → n9 = metht.sig.parameters.length := fun n9 h => by
    rw [hsig] at h
    exact (Option.some.inj h).symm
  have hG : GoodIn lw_all (ws_ y bytes maxL (some .boolean)) := lw_meth hcode
  have hBack : Back l (rmD (d + 1) 0 0) p e (.java g' :: below) U #[.ref a, .int x] y 3 8 (PreOf (rmD (d + 1) 0 0) 0 0 (uPx [.ref b, .int x] X dC dI dA)) (PostOf (uQi (nI r.toNat)) 0 0 noF) :=
    back_of (bytes := bytes) (maxL := maxL) (ret := some .boolean) hM (u_blindX hXok) rfl rfl (Nat.le_refl _) (by show 8 + (maxL + 11) + 64 * d ≤ 64 * (d + 1); omega) (pay_in htU hG) List.mem_cons_self (fun a' U' hW' => word_at hW' (good_of_word (List.mem_filter.mp hini).2) (htU _ hini))
  obtain ⟨f0, hf0, hs0, hq0⟩ := hfs (15, 0) (by decide)
  refine lv_aload_n hexec hcd laDA_0 rfl (lv_at hl 0 rfl) ?_
  refine w_getR (cell := { cls := cK, slots := ([.ref b] : List Value).toArray, vm := .none }) hexec hcd hf0 hs0 hP (fun h => by cases h) (by rw [hq0]; rfl) laDA_1 ?_
  refine lv_iload_n hexec hcd laDA_4 rfl (lv_at hl 1 rfl) ?_
  obtain ⟨cellB, hcB1, hcB2, hcB3⟩ := hcB
  obtain ⟨mk9, mI, hnI, hmI, hstI, habI⟩ := Cond.instanceMethod_spec (htU _ hinst)
  cases hyt.symm.trans hnI
  cases hmt.symm.trans hmI
  obtain ⟨c2, r2, m2, q1, q2, q3, q4, -⟩ := Cond.selects_spec (htU _ hsel)
  cases (State.methodFound?_of_named hyt (by rw [hyc]; decide)).symm.trans q2
  cases hyt.symm.trans q3
  have hc2 : c2 = cellB.cls := by
    have h9 : U.vm.findClass "BadCodes" = s.vm.findClass "BadCodes" := hW.alike.findClass _ _
    rw [hcB3] at h9
    exact Option.some.inj (q1.symm.trans h9)
  subst hc2
  refine u_run (fw_runV (As := [.int x]) hexec hcd (hl.1.trans hml2.symm) hBack hk hfile hcp hclsR hready hyt htk (by rw [htn, hyc]; decide) hitf hmt hstI habI hcB1 hcB2 q4 (hlen _ hd) rfl (Nat.zero_le _) (fun T hT hW' => ⟨rfl, by rw [hT]; exact hXok.2 U T H hW' hXU, va_K.moved hW'.alike hKU⟩) laDA_5 ⟨Nat.le_refl _, Nat.le_refl _⟩) ?_
  exact W.zret hexec hcd hret (by cases r <;> rfl) (fun t9 ht9 _ => ⟨rfl, ht9.trans hUH.symm⟩) (fun q h => (List.not_mem_nil h).elim) laDA_8 hlk
theorem lam_callB {own : String} {index count pc0 ix0 d maxL : Nat} {x0 y : MethodName} {bytes : ByteArray} {σ : Lambda.Shape} {cK : ClassId} {X : State → Heap → Prop} {a b : Nat} {x : Int32} {r : Bool} (SF : CallFix p m c cc nL s args lw_all own) (hKK : KK dC dI dA s) (rk : rmOK (d + 2) R)
    (hM : Met l y (ws_ y bytes maxL (some .boolean)) (rmD d 0 0) (uPx [.ref b, .int x] X dC dI dA) (uQi (nI r.toNat)) 0 0 noF) (hcode : Cond.code y bytes maxL (some .boolean) ∈ lw_all) (hini : Cond.initialized y.cls ∈ lw_all) (hstt : Cond.static y ∈ lw_all) (hlink : Cond.methodLink own index xIs ∈ lw_all) (hO0 : Cond.instantiable "java/lang/Object" 0 ∈ lw_all)
    (hd : (parseMethodDescriptor y.desc).map (fun d => d.parameters.length) = some 2) (hm : maxL ≤ 45) (hF : FT9 s) (hL : LM x0 pc0 ix0 σ cK s) (hx0 : x0.cls = "BadCodes") (hK : laOK σ laBB 23 y [(15, 0)] = true)
    (hN1 : σ.implClass = y.cls) (hN2 : σ.implName = y.name) (hN3 : σ.implDesc.toString = y.desc) (hN4 : σ.implItf = false) (hN5 : σ.iface = "BadCodes$Test") (hN6 : σ.name = "isSo") (hN7 : σ.sam.toString = "(I)Z") (hyc : y.cls = "BadCodes")
    (hXok : XOK X) (hX : X s H) (hP : lamP cK [.ref b] a H) (hsize : ls.size = nL) (hst : st = .int x :: .ref a :: rest) (hcat : (rest.map fun v => v.category).sum ≤ 8) (hcs : cells ≤ R.cells ∧ slots ≤ R.slots) (hdg : decode cc pc = .ok (.invokeinterface index count, 5)) :
    va_Run5 p l e R s m args below meth c H locs cells slots 0 0 (F0 m pc ls st) rest (uQi (nI r.toNat) #[.ref a, .int x]) noF := by
  obtain ⟨hexec, hb, hml, hown, hts⟩ := SF
  obtain ⟨t0, ht0⟩ := Cond.code_named (hts _ hcode)
  refine lam_run5 (R' := rmD (d + 1) 0 0) hexec hb (hsize.trans hml.symm) hown (hts _ hlink) hF hL hx0 (hts _ hO0) hK hN1 hN2 hN3 hN4 hN5 hN6 hN7 hyc ⟨t0, ht0⟩ hP hst hcat hdg rk.1 (by have := rk.2; show 8 + 13 + 64 * (d + 1) ≤ R.locals; omega) rfl rfl hcs fun U g' methk ck ls' hW hUH hLU hret hlk hcd hml2 hl => ?_
  have htU : ∀ w ∈ lw_all, w.before #[.ref a, .int x] U = true := fun w h => word_at hW (good_of_word (List.mem_filter.mp h).2) (hts w h)
  have hXU := hXok.2 s U H hW hX
  have hKU : KK dC dI dA U := va_K.moved hW.alike hKK
  obtain ⟨t, hyt⟩ := Cond.code_named (htU _ hcode)
  obtain ⟨m0, kS, cfS, i0, p0, hm0, hkS, hcfS, hshape, hfind, hmade, hcan⟩ := hLU
  obtain ⟨kS', hkS', hnameS⟩ := className_of_methodNamed hm0
  cases hkS.symm.trans hkS'
  obtain ⟨k, tk, file, methk2, ck2, ci, nt, hk, hkn, hfile, -, -, -, -, -, -, -, htk, hitf, hready, hclsR, hcp, hnt, hfs⟩ := la_facts hkS (hnameS.trans hx0) hmade hK hN1 hN2 hN3 hN4 hyc (htU _ hO0) hyt
  obtain ⟨tk', htk', htn⟩ := className_of_methodNamed hyt
  cases htk.symm.trans htk'
  obtain ⟨metht, ct, hmt, -, -, -, -, -, -, hsig⟩ := Cond.code_spec hyt (htU _ hcode)
  have hlen : ∀ n9, (parseMethodDescriptor y.desc).map (fun d => d.parameters.length) = some n9 → n9 = metht.sig.parameters.length := fun n9 h => by
    rw [hsig] at h
    exact (Option.some.inj h).symm
  have hG : GoodIn lw_all (ws_ y bytes maxL (some .boolean)) := lw_meth hcode
  have hBack : Back l (rmD (d + 1) 0 0) p e (.java g' :: below) U #[.ref a, .int x] y 3 8 (PreOf (rmD (d + 1) 0 0) 0 0 (uPx [.ref b, .int x] X dC dI dA)) (PostOf (uQi (nI r.toNat)) 0 0 noF) :=
    back_of (bytes := bytes) (maxL := maxL) (ret := some .boolean) hM (u_blindX hXok) rfl rfl (Nat.le_refl _) (by show 8 + (maxL + 11) + 64 * d ≤ 64 * (d + 1); omega) (pay_in htU hG) List.mem_cons_self (fun a' U' hW' => word_at hW' (good_of_word (List.mem_filter.mp hini).2) (htU _ hini))
  obtain ⟨f0, hf0, hs0, hq0⟩ := hfs (15, 0) (by decide)
  refine lv_aload_n hexec hcd laDB_0 rfl (lv_at hl 0 rfl) ?_
  refine w_getR (cell := { cls := cK, slots := ([.ref b] : List Value).toArray, vm := .none }) hexec hcd hf0 hs0 hP (fun h => by cases h) (by rw [hq0]; rfl) laDB_1 ?_
  refine lv_iload_n hexec hcd laDB_4 rfl (lv_at hl 1 rfl) ?_
  refine u_run (fw_runS (As := [.ref b, .int x]) hexec hcd (hl.1.trans hml2.symm) hBack hk hfile hcp hnt hclsR hready hyt htk (by rw [htn, hyc]; decide) hmt (Cond.static_spec hyt hmt (htU _ hstt)) (Cond.initialized_spec (findClass_of_methodNamed hyt) htk (htU _ hini)) (hlen _ hd) rfl (Nat.zero_le _) (fun T hT hW' => ⟨rfl, by rw [hT]; exact hXok.2 U T H hW' hXU, va_K.moved hW'.alike hKU⟩) laDB_5 ⟨Nat.le_refl _, Nat.le_refl _⟩) ?_
  exact W.zret hexec hcd hret (by cases r <;> rfl) (fun t9 ht9 _ => ⟨rfl, ht9.trans hUH.symm⟩) (fun q h => (List.not_mem_nil h).elim) laDB_8 hlk
theorem lam_callC {own : String} {index count pc0 ix0 d maxL : Nat} {x0 y : MethodName} {bytes : ByteArray} {σ : Lambda.Shape} {cK : ClassId} {X : State → Heap → Prop} {a b : Nat} {z : Int32} {x : Int32} {r : Bool} (SF : CallFix p m c cc nL s args lw_all own) (hKK : KK dC dI dA s) (rk : rmOK (d + 2) R)
    (hM : Met l y (ws_ y bytes maxL (some .boolean)) (rmD d 0 0) (uPx [.ref b, .int z, .int x] X dC dI dA) (uQi (nI r.toNat)) 0 0 noF) (hcode : Cond.code y bytes maxL (some .boolean) ∈ lw_all) (hini : Cond.initialized y.cls ∈ lw_all) (hstt : Cond.static y ∈ lw_all) (hlink : Cond.methodLink own index xIs ∈ lw_all) (hO0 : Cond.instantiable "java/lang/Object" 0 ∈ lw_all)
    (hd : (parseMethodDescriptor y.desc).map (fun d => d.parameters.length) = some 3) (hm : maxL ≤ 45) (hF : FT9 s) (hL : LM x0 pc0 ix0 σ cK s) (hx0 : x0.cls = "BadCodes") (hK : laOK σ laBC 27 y [(17, 0), (19, 1)] = true)
    (hN1 : σ.implClass = y.cls) (hN2 : σ.implName = y.name) (hN3 : σ.implDesc.toString = y.desc) (hN4 : σ.implItf = false) (hN5 : σ.iface = "BadCodes$Test") (hN6 : σ.name = "isSo") (hN7 : σ.sam.toString = "(I)Z") (hyc : y.cls = "BadCodes")
    (hXok : XOK X) (hX : X s H) (hP : lamP cK [.ref b, .int z] a H) (hsize : ls.size = nL) (hst : st = .int x :: .ref a :: rest) (hcat : (rest.map fun v => v.category).sum ≤ 8) (hcs : cells ≤ R.cells ∧ slots ≤ R.slots) (hdg : decode cc pc = .ok (.invokeinterface index count, 5)) :
    va_Run5 p l e R s m args below meth c H locs cells slots 0 0 (F0 m pc ls st) rest (uQi (nI r.toNat) #[.ref a, .int x]) noF := by
  obtain ⟨hexec, hb, hml, hown, hts⟩ := SF
  obtain ⟨t0, ht0⟩ := Cond.code_named (hts _ hcode)
  refine lam_run5 (R' := rmD (d + 1) 0 0) hexec hb (hsize.trans hml.symm) hown (hts _ hlink) hF hL hx0 (hts _ hO0) hK hN1 hN2 hN3 hN4 hN5 hN6 hN7 hyc ⟨t0, ht0⟩ hP hst hcat hdg rk.1 (by have := rk.2; show 8 + 13 + 64 * (d + 1) ≤ R.locals; omega) rfl rfl hcs fun U g' methk ck ls' hW hUH hLU hret hlk hcd hml2 hl => ?_
  have htU : ∀ w ∈ lw_all, w.before #[.ref a, .int x] U = true := fun w h => word_at hW (good_of_word (List.mem_filter.mp h).2) (hts w h)
  have hXU := hXok.2 s U H hW hX
  have hKU : KK dC dI dA U := va_K.moved hW.alike hKK
  obtain ⟨t, hyt⟩ := Cond.code_named (htU _ hcode)
  obtain ⟨m0, kS, cfS, i0, p0, hm0, hkS, hcfS, hshape, hfind, hmade, hcan⟩ := hLU
  obtain ⟨kS', hkS', hnameS⟩ := className_of_methodNamed hm0
  cases hkS.symm.trans hkS'
  obtain ⟨k, tk, file, methk2, ck2, ci, nt, hk, hkn, hfile, -, -, -, -, -, -, -, htk, hitf, hready, hclsR, hcp, hnt, hfs⟩ := la_facts hkS (hnameS.trans hx0) hmade hK hN1 hN2 hN3 hN4 hyc (htU _ hO0) hyt
  obtain ⟨tk', htk', htn⟩ := className_of_methodNamed hyt
  cases htk.symm.trans htk'
  obtain ⟨metht, ct, hmt, -, -, -, -, -, -, hsig⟩ := Cond.code_spec hyt (htU _ hcode)
  have hlen : ∀ n9, (parseMethodDescriptor y.desc).map (fun d => d.parameters.length) = some n9 → n9 = metht.sig.parameters.length := fun n9 h => by
    rw [hsig] at h
    exact (Option.some.inj h).symm
  have hG : GoodIn lw_all (ws_ y bytes maxL (some .boolean)) := lw_meth hcode
  have hBack : Back l (rmD (d + 1) 0 0) p e (.java g' :: below) U #[.ref a, .int x] y 3 8 (PreOf (rmD (d + 1) 0 0) 0 0 (uPx [.ref b, .int z, .int x] X dC dI dA)) (PostOf (uQi (nI r.toNat)) 0 0 noF) :=
    back_of (bytes := bytes) (maxL := maxL) (ret := some .boolean) hM (u_blindX hXok) rfl rfl (Nat.le_refl _) (by show 8 + (maxL + 11) + 64 * d ≤ 64 * (d + 1); omega) (pay_in htU hG) List.mem_cons_self (fun a' U' hW' => word_at hW' (good_of_word (List.mem_filter.mp hini).2) (htU _ hini))
  obtain ⟨f0, hf0, hs0, hq0⟩ := hfs (17, 0) (by decide)
  obtain ⟨f1, hf1, hs1, hq1⟩ := hfs (19, 1) (by decide)
  refine lv_aload_n hexec hcd laDC_0 rfl (lv_at hl 0 rfl) ?_
  refine w_getR (cell := { cls := cK, slots := ([.ref b, .int z] : List Value).toArray, vm := .none }) hexec hcd hf0 hs0 hP (fun h => by cases h) (by rw [hq0]; rfl) laDC_1 ?_
  refine lv_aload_n hexec hcd laDC_4 rfl (lv_at hl 0 rfl) ?_
  refine w_getR (cell := { cls := cK, slots := ([.ref b, .int z] : List Value).toArray, vm := .none }) hexec hcd hf1 hs1 hP (fun h => by cases h) (by rw [hq1]; rfl) laDC_5 ?_
  refine lv_iload_n hexec hcd laDC_8 rfl (lv_at hl 1 rfl) ?_
  refine u_run (fw_runS (As := [.ref b, .int z, .int x]) hexec hcd (hl.1.trans hml2.symm) hBack hk hfile hcp hnt hclsR hready hyt htk (by rw [htn, hyc]; decide) hmt (Cond.static_spec hyt hmt (htU _ hstt)) (Cond.initialized_spec (findClass_of_methodNamed hyt) htk (htU _ hini)) (hlen _ hd) rfl (Nat.zero_le _) (fun T hT hW' => ⟨rfl, by rw [hT]; exact hXok.2 U T H hW' hXU, va_K.moved hW'.alike hKU⟩) laDC_9 ⟨Nat.le_refl _, Nat.le_refl _⟩) ?_
  exact W.zret hexec hcd hret (by cases r <;> rfl) (fun t9 ht9 _ => ⟨rfl, ht9.trans hUH.symm⟩) (fun q h => (List.not_mem_nil h).elim) laDC_12 hlk
theorem lam_callD {own : String} {index count pc0 ix0 d maxL : Nat} {x0 y : MethodName} {bytes : ByteArray} {σ : Lambda.Shape} {cK : ClassId} {X : State → Heap → Prop} {a b : Nat} {z : Nat} {x : Int32} {r : Bool} (SF : CallFix p m c cc nL s args lw_all own) (hKK : KK dC dI dA s) (rk : rmOK (d + 2) R)
    (hM : Met l y (ws_ y bytes maxL (some .boolean)) (rmD d 0 0) (uPx [.ref b, .ref z, .int x] X dC dI dA) (uQi (nI r.toNat)) 0 0 noF) (hcode : Cond.code y bytes maxL (some .boolean) ∈ lw_all) (hini : Cond.initialized y.cls ∈ lw_all) (hinst : Cond.instanceMethod y ∈ lw_all) (hsel : Cond.selects "BadCodes" y y ∈ lw_all) (hcB : ∃ cell : Cell, H[b]? = some cell ∧ cell.vm.isStatics = false ∧ s.vm.findClass "BadCodes" = some cell.cls) (hlink : Cond.methodLink own index xIs ∈ lw_all) (hO0 : Cond.instantiable "java/lang/Object" 0 ∈ lw_all)
    (hd : (parseMethodDescriptor y.desc).map (fun d => d.parameters.length) = some 2) (hm : maxL ≤ 45) (hF : FT9 s) (hL : LM x0 pc0 ix0 σ cK s) (hx0 : x0.cls = "BadCodes") (hK : laOK σ laBD 27 y [(17, 0), (19, 1)] = true)
    (hN1 : σ.implClass = y.cls) (hN2 : σ.implName = y.name) (hN3 : σ.implDesc.toString = y.desc) (hN4 : σ.implItf = false) (hN5 : σ.iface = "BadCodes$Test") (hN6 : σ.name = "isSo") (hN7 : σ.sam.toString = "(I)Z") (hyc : y.cls = "BadCodes")
    (hXok : XOK X) (hX : X s H) (hP : lamP cK [.ref b, .ref z] a H) (hsize : ls.size = nL) (hst : st = .int x :: .ref a :: rest) (hcat : (rest.map fun v => v.category).sum ≤ 8) (hcs : cells ≤ R.cells ∧ slots ≤ R.slots) (hdg : decode cc pc = .ok (.invokeinterface index count, 5)) :
    va_Run5 p l e R s m args below meth c H locs cells slots 0 0 (F0 m pc ls st) rest (uQi (nI r.toNat) #[.ref a, .int x]) noF := by
  obtain ⟨hexec, hb, hml, hown, hts⟩ := SF
  obtain ⟨t0, ht0⟩ := Cond.code_named (hts _ hcode)
  refine lam_run5 (R' := rmD (d + 1) 0 0) hexec hb (hsize.trans hml.symm) hown (hts _ hlink) hF hL hx0 (hts _ hO0) hK hN1 hN2 hN3 hN4 hN5 hN6 hN7 hyc ⟨t0, ht0⟩ hP hst hcat hdg rk.1 (by have := rk.2; show 8 + 13 + 64 * (d + 1) ≤ R.locals; omega) rfl rfl hcs fun U g' methk ck ls' hW hUH hLU hret hlk hcd hml2 hl => ?_
  have htU : ∀ w ∈ lw_all, w.before #[.ref a, .int x] U = true := fun w h => word_at hW (good_of_word (List.mem_filter.mp h).2) (hts w h)
  have hXU := hXok.2 s U H hW hX
  have hKU : KK dC dI dA U := va_K.moved hW.alike hKK
  obtain ⟨t, hyt⟩ := Cond.code_named (htU _ hcode)
  obtain ⟨m0, kS, cfS, i0, p0, hm0, hkS, hcfS, hshape, hfind, hmade, hcan⟩ := hLU
  obtain ⟨kS', hkS', hnameS⟩ := className_of_methodNamed hm0
  cases hkS.symm.trans hkS'
  obtain ⟨k, tk, file, methk2, ck2, ci, nt, hk, hkn, hfile, -, -, -, -, -, -, -, htk, hitf, hready, hclsR, hcp, hnt, hfs⟩ := la_facts hkS (hnameS.trans hx0) hmade hK hN1 hN2 hN3 hN4 hyc (htU _ hO0) hyt
  obtain ⟨tk', htk', htn⟩ := className_of_methodNamed hyt
  cases htk.symm.trans htk'
  obtain ⟨metht, ct, hmt, -, -, -, -, -, -, hsig⟩ := Cond.code_spec hyt (htU _ hcode)
  have hlen : ∀ n9, (parseMethodDescriptor y.desc).map (fun d => d.parameters.length) = some n9 → n9 = metht.sig.parameters.length := fun n9 h => by
    rw [hsig] at h
    exact (Option.some.inj h).symm
  have hG : GoodIn lw_all (ws_ y bytes maxL (some .boolean)) := lw_meth hcode
  have hBack : Back l (rmD (d + 1) 0 0) p e (.java g' :: below) U #[.ref a, .int x] y 3 8 (PreOf (rmD (d + 1) 0 0) 0 0 (uPx [.ref b, .ref z, .int x] X dC dI dA)) (PostOf (uQi (nI r.toNat)) 0 0 noF) :=
    back_of (bytes := bytes) (maxL := maxL) (ret := some .boolean) hM (u_blindX hXok) rfl rfl (Nat.le_refl _) (by show 8 + (maxL + 11) + 64 * d ≤ 64 * (d + 1); omega) (pay_in htU hG) List.mem_cons_self (fun a' U' hW' => word_at hW' (good_of_word (List.mem_filter.mp hini).2) (htU _ hini))
  obtain ⟨f0, hf0, hs0, hq0⟩ := hfs (17, 0) (by decide)
  obtain ⟨f1, hf1, hs1, hq1⟩ := hfs (19, 1) (by decide)
  refine lv_aload_n hexec hcd laDD_0 rfl (lv_at hl 0 rfl) ?_
  refine w_getR (cell := { cls := cK, slots := ([.ref b, .ref z] : List Value).toArray, vm := .none }) hexec hcd hf0 hs0 hP (fun h => by cases h) (by rw [hq0]; rfl) laDD_1 ?_
  refine lv_aload_n hexec hcd laDD_4 rfl (lv_at hl 0 rfl) ?_
  refine w_getR (cell := { cls := cK, slots := ([.ref b, .ref z] : List Value).toArray, vm := .none }) hexec hcd hf1 hs1 hP (fun h => by cases h) (by rw [hq1]; rfl) laDD_5 ?_
  refine lv_iload_n hexec hcd laDD_8 rfl (lv_at hl 1 rfl) ?_
  obtain ⟨cellB, hcB1, hcB2, hcB3⟩ := hcB
  obtain ⟨mk9, mI, hnI, hmI, hstI, habI⟩ := Cond.instanceMethod_spec (htU _ hinst)
  cases hyt.symm.trans hnI
  cases hmt.symm.trans hmI
  obtain ⟨c2, r2, m2, q1, q2, q3, q4, -⟩ := Cond.selects_spec (htU _ hsel)
  cases (State.methodFound?_of_named hyt (by rw [hyc]; decide)).symm.trans q2
  cases hyt.symm.trans q3
  have hc2 : c2 = cellB.cls := by
    have h9 : U.vm.findClass "BadCodes" = s.vm.findClass "BadCodes" := hW.alike.findClass _ _
    rw [hcB3] at h9
    exact Option.some.inj (q1.symm.trans h9)
  subst hc2
  refine u_run (fw_runV (As := [.ref z, .int x]) hexec hcd (hl.1.trans hml2.symm) hBack hk hfile hcp hclsR hready hyt htk (by rw [htn, hyc]; decide) hitf hmt hstI habI hcB1 hcB2 q4 (hlen _ hd) rfl (Nat.zero_le _) (fun T hT hW' => ⟨rfl, by rw [hT]; exact hXok.2 U T H hW' hXU, va_K.moved hW'.alike hKU⟩) laDD_9 ⟨Nat.le_refl _, Nat.le_refl _⟩) ?_
  exact W.zret hexec hcd hret (by cases r <;> rfl) (fun t9 ht9 _ => ⟨rfl, ht9.trans hUH.symm⟩) (fun q h => (List.not_mem_nil h).elim) laDD_12 hlk
end BASE17
