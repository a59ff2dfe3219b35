/-! BASE 15: rows inside of a made class's method -/
section BASE15
variable {p : Program} {l : Launch} {e : Env} {R : Room} {s : State} {m : MethodId} {args : Array Value} {below : List Frame} {meth : Method} {c : Code} {H H0 H1 : Heap} {locs : List Loc} {cells slots : Nat} {Q : State → Prop}
variable {cc : ByteArray} {pc : Nat} {ls : Array Slot} {rest st : List Value} {T : State}
theorem fieldRides (X : Stand p l e R s m args below meth c T locs cells slots) {d ci cl : Nat} {f : Field} (h : s.vm.fieldReady d ci cl f) : T.vm.fieldReady d ci cl f := by
  obtain ⟨k, i, kc, hk, hres, hkc, hf⟩ := h
  obtain ⟨k', hk', -⟩ := X.warmed.alike.2.2 _ _ hk
  obtain ⟨kc', hkc', he⟩ := X.warmed.alike.2.2 _ _ hkc
  refine ⟨k', i, kc', hk', ?_, hkc', by rw [he]; exact hf⟩
  rcases X.warmed.entry hk hk' ci with e1 | ⟨e1, -⟩
  · rw [e1]; exact hres
  · rw [hres] at e1; cases e1
theorem methodRides (X : Stand p l e R s m args below meth c T locs cells slots) {d ci : Nat} {t : MethodId} (h : s.vm.methodReady d ci t) : T.vm.methodReady d ci t := by
  obtain ⟨k, hk, hres⟩ := h
  obtain ⟨k', hk', -⟩ := X.warmed.alike.2.2 _ _ hk
  refine ⟨k', hk', ?_⟩
  rcases X.warmed.entry hk hk' ci with e1 | ⟨e1, -⟩
  · rw [e1]; exact hres
  · rw [hres] at e1; cases e1
theorem w_getR {index : Nat} {f : Field} {a : Nat} {v : Value} {cell : Cell} (hexec : p.tables.exec = Jvm.exec) (hb : c.code = cc) (hr : s.vm.fieldReady m.cls index m.cls f) (hst : f.isStatic = false) (hcell : H[a]? = some cell) (hk : cell.vm ≠ .unknown) (hslot : cell.slots[f.slot]? = some v) (hdg : decode cc pc = .ok (.getfield index, 3))
    (kk : W p l e R s m args below meth c H locs cells slots Q (F0 m (pc + 3) ls (v :: rest))) : W p l e R s m args below meth c H locs cells slots Q (F0 m pc ls (.ref a :: rest)) := by
  intro T hT X
  obtain ⟨t, h1, h2⟩ := kk T hT X
  refine ⟨t, ?_, h2⟩
  jvm_step X.here [X.here.top, hexec, hb, hdg, getfield.wp_ready (e := e) (s := T) (c := m.cls) (field := f) (a := a) (rest := rest) (cell := cell) (v := v) (f := F0 m pc ls (.ref a :: rest)) X.here.top (fieldRides X hr) hst rfl (by rw [hT]; exact hcell) hk hslot]
  exact h1
theorem fw_runS {index mc ms ci nt : Nat} {y : MethodName} {t : MethodId} {metht : Method} {kt km : Class} {file : ClassFile} {Pc : Array Value → State → Prop} {Qc : Array Value → State → Outcome → State → Prop} {free : Addr → Prop} {As : List Value} (hexec : p.tables.exec = Jvm.exec) (hb : c.code = cc) (hml : ls.size = c.maxLocals)
    (hBack : Back l R p e below s args y 3 8 (PreOf R mc ms Pc) (PostOf Qc mc ms free)) (hkm : s.vm.classes[m.cls]? = some km) (hfile : km.cf = some file) (hcp : file.constantPool[index]? = some (.methodref ci nt)) (hnt : file.constantPool.nameAndType? nt = some (y.name, y.desc)) (hcl : s.vm.classReady m.cls ci t.cls)
    (hready : s.vm.methodReady m.cls index t) (hy : s.methodNamed? y = some t) (hkt : s.vm.classes[t.cls]? = some kt) (hkn : kt.name ≠ "java/lang/invoke/MethodHandle" ∧ kt.name ≠ "java/lang/invoke/VarHandle") (hmt : s.vm.method? t = some metht) (hstatic : metht.isStatic = true) (hinit : kt.init = .initialized)
    (hlen : As.length = metht.sig.parameters.length) (hst : st = As.reverse ++ rest) (hW : (rest.map fun v => v.category).sum ≤ 8) (hPc : ∀ T : State, T.heap = H → s.WarmedH T.vm → Pc As.toArray T) (hdg : decode cc pc = .ok (.invokestatic index, 3)) (hcs : cells + mc ≤ R.cells ∧ slots + ms ≤ R.slots) :
    va_Run p l e R s m args below meth c H locs cells slots mc ms (F0 m pc ls st) rest (Qc As.toArray) free := by
  intro T hT X
  obtain ⟨kt', hkt', he⟩ := X.warmed.alike.2.2 _ _ hkt
  obtain ⟨km', hkm', hem⟩ := X.warmed.alike.2.2 _ _ hkm
  have hpoly : ∀ z, signaturePolymorphic kt' z = false := signaturePolymorphic_of_name (by rw [he]; exact hkn)
  have hm' : T.vm.method? t = some metht := by rw [X.warmed.alike.method?]; exact hmt
  obtain ⟨b, hmem⟩ := memberRef_ask' (e := e) (vm := T.vm) (d := m.cls) (index := index) hkm' (by rw [hem]; exact hfile) (Or.inl hcp) hnt
  have href : plainRef T e m.cls index := ⟨ci, _, _, b, t.cls, kt', hmem, X.classReady_rides hcl, hkt', by
    rw [Array.any_eq_false]
    intro i hi
    simp [hpoly]⟩
  obtain ⟨v, B, X', hpost, hsteps⟩ := hBack m meth c ⟨T, locs, cells, slots⟩ (F0 m pc ls rest) (.invokestatic index) t As.toArray X rfl hml (by rw [hb]; exact hdg) (by show 2 * 0 + (rest.map fun v => v.category).sum ≤ 8; omega) (X.named hy) ⟨hcs.1, hcs.2, hPc T hT X.warmed⟩
  obtain ⟨U', l2, c2, s2⟩ := B
  obtain ⟨g', mk, t', L, e1, e2, hq, h1, hL, h2, h3⟩ := hpost
  dsimp only [Pt.U, Pt.locs, Pt.cells, Pt.slots] at X' e1 e2 h1 h2 h3 hsteps hq
  subst h1; subst h2; subst h3
  refine ⟨v, T.calling g' mk As.toArray, t', U', L, hT, X', hL, e1, e2, hq, fun target h => ?_⟩
  jvm_step X.here [X.here.top, hexec, hb, hdg, invokestatic.wp_ready (e := e) (s := T) (m := t) (k := kt') (meth := metht) (args := As) (rest := rest) (f := F0 m pc ls st) X.here.top href (methodRides X hready) hkt' hm' (hpoly _) hstatic (by rw [he]; exact hinit) hlen hst]
  intro acts
  rw [doInvoke_state]
  exact hsteps.trans h
theorem fw_runV {index mc ms ci nt b : Nat} {y : MethodName} {t : MethodId} {metht : Method} {kt km : Class} {cellB : Cell} {file : ClassFile} {Pc : Array Value → State → Prop} {Qc : Array Value → State → Outcome → State → Prop} {free : Addr → Prop} {As : List Value} (hexec : p.tables.exec = Jvm.exec) (hb : c.code = cc) (hml : ls.size = c.maxLocals)
    (hBack : Back l R p e below s args y 3 8 (PreOf R mc ms Pc) (PostOf Qc mc ms free)) (hkm : s.vm.classes[m.cls]? = some km) (hfile : km.cf = some file) (hcp : file.constantPool[index]? = some (.methodref ci nt)) (hcl : s.vm.classReady m.cls ci t.cls)
    (hready : s.vm.methodReady m.cls index t) (hy : s.methodNamed? y = some t) (hkt : s.vm.classes[t.cls]? = some kt) (hkn : kt.name ≠ "java/lang/invoke/MethodHandle" ∧ kt.name ≠ "java/lang/invoke/VarHandle") (hki : kt.isInterface = false) (hmt : s.vm.method? t = some metht) (hstatic : metht.isStatic = false) (habs : metht.isAbstract = false)
    (hcB : H[b]? = some cellB) (hoB : cellB.vm.isStatics = false) (hsel : selectMethod {} s.vm cellB.cls t = .method t)
    (hlen : As.length = metht.sig.parameters.length) (hst : st = As.reverse ++ .ref b :: rest) (hW : (rest.map fun v => v.category).sum ≤ 8) (hPc : ∀ T : State, T.heap = H → s.WarmedH T.vm → Pc (Value.ref b :: As).toArray T) (hdg : decode cc pc = .ok (.invokevirtual index, 3)) (hcs : cells + mc ≤ R.cells ∧ slots + ms ≤ R.slots) :
    va_Run p l e R s m args below meth c H locs cells slots mc ms (F0 m pc ls st) rest (Qc (Value.ref b :: As).toArray) free := by
  intro T hT X
  obtain ⟨kt', hkt', he⟩ := X.warmed.alike.2.2 _ _ hkt
  obtain ⟨km', hkm', hem⟩ := X.warmed.alike.2.2 _ _ hkm
  have hpoly : ∀ z, signaturePolymorphic kt' z = false := signaturePolymorphic_of_name (by rw [he]; exact hkn)
  have hm' : T.vm.method? t = some metht := by rw [X.warmed.alike.method?]; exact hmt
  have hki' : kt'.isInterface = false := by rw [he]; exact hki
  have hnm : namesAClass T m.cls index := ⟨km', file, ci, nt, t.cls, kt', hkm', by rw [hem]; exact hfile, hcp, X.classReady_rides hcl, hkt', hki'⟩
  have hsel' : selectMethod e.platform T.vm cellB.cls t = .method t := by rw [Launch.admits_selectMethod X.admits, X.warmed.alike.selectMethod]; exact hsel
  obtain ⟨v, B, X', hpost, hsteps⟩ := hBack m meth c ⟨T, locs, cells, slots⟩ (F0 m pc ls rest) (.invokevirtual index) t (Value.ref b :: As).toArray X rfl hml (by rw [hb]; exact hdg) (by show 2 * 0 + (rest.map fun v => v.category).sum ≤ 8; omega) (X.named hy) ⟨hcs.1, hcs.2, hPc T hT X.warmed⟩
  obtain ⟨U', l2, c2, s2⟩ := B
  obtain ⟨g', mk, t', L, e1, e2, hq, h1, hL, h2, h3⟩ := hpost
  dsimp only [Pt.U, Pt.locs, Pt.cells, Pt.slots] at X' e1 e2 h1 h2 h3 hsteps hq
  subst h1; subst h2; subst h3
  refine ⟨v, T.calling g' mk (Value.ref b :: As).toArray, t', U', L, hT, X', hL, e1, e2, hq, fun target h => ?_⟩
  jvm_step X.here [X.here.top, hexec, hb, hdg, invokevirtual.wp_ready (e := e) (s := T) (r := t) (m := t) (k := kt') (mk := kt') (rmeth := metht) (meth := metht) (a := b) (args := As) (rest := rest) (cell := cellB) (f := F0 m pc ls st) X.here.top hnm (methodRides X hready) hkt' hm' (hpoly _) hstatic hlen hst (by rw [hT]; exact hcB) (fun z h => by rw [h] at hoB; cases hoB) hsel' hm' habs hkt' hki']
  intro acts
  rw [doInvoke_state]
  exact hsteps.trans h
end BASE15
