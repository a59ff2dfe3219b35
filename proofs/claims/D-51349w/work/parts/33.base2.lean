/-! BASE 2: starts that speak of the whole state -/
abbrev uPx (vs : List Value) (X : State → Heap → Prop) (dC : Nat → ClassId) (dI : Nat → Nat → Nat) (dA : Nat → ClassId) : Array Value → State → Prop := va_Pc vs (fun U => X U U.heap ∧ KK dC dI dA U)
/-- it lasts while classes are only looked up and made ready -/
def XOK (X : State → Heap → Prop) : Prop := (∀ (u U : State) (H : Heap), U.vm = u.vm → X u H → X U H) ∧ ∀ (s U : State) (H : Heap), s.WarmedH U.vm → X s H → X U H
theorem XOK.and {X Y : State → Heap → Prop} (hX : XOK X) (hY : XOK Y) : XOK (fun U H => X U H ∧ Y U H) := ⟨fun u U H h q => ⟨hX.1 u U H h q.1, hY.1 u U H h q.2⟩, fun s U H h q => ⟨hX.2 s U H h q.1, hY.2 s U H h q.2⟩⟩
theorem XOK.of {X : State → Heap → Prop} (h : ∀ (u U : State) (H : Heap), u.vm.Alike U.vm → X u H → X U H) : XOK X := ⟨fun u U H e q => h u U H (by rw [e]; exact Vm.Alike.refl _) q, fun s U H hW q => h s U H hW.alike q⟩
theorem XOK.hp {P : Heap → Prop} : XOK (fun _ H => P H) := XOK.of fun _ _ _ _ q => q
theorem u_blindX {vs : List Value} {X : State → Heap → Prop} {dC : Nat → ClassId} {dI : Nat → Nat → Nat} {dA : Nat → ClassId} (hX : XOK X) : FrameBlind (uPx vs X dC dI dA) := fun a U g mk q => ⟨q.1, hX.1 U (U.calling g mk a) _ rfl q.2.1, va_K.moved (u := U) (U := U.calling g mk a) (Vm.Alike.refl U.vm) q.2.2⟩
section BASE2
variable {p : Program} {l : Launch} {e : Env} {R : Room} {s : State} {m : MethodId} {args : Array Value} {below : List Frame} {meth : Method} {c : Code} {H : Heap} {locs : List Loc} {cells slots : Nat} {Q : State → Prop}
variable {cc : ByteArray} {pc : Nat} {ls : Array Slot} {rest st : List Value} {dC : Nat → ClassId} {dI : Nat → Nat → Nat} {dA : Nat → ClassId}
theorem x_meti {y : MethodName} {maxL d : Nat} {vs : List Value} {X : State → Heap → Prop} {r : Int32} {own : String} (hy : plainName y.cls = true) (hcls : y.cls = own) (hn : (lg_sl vs).length ≤ maxL)
    (body : ∀ (p : Program) (e : Env) (R : Room) (s : State) (m : MethodId) (args : Array Value) (below : List Frame) (meth : Method) (c : Code) (Q : State → Prop), CallFix p m c cc maxL s args lw_all own → rmOK d R → X s s.heap → KK dC dI dA s →
      (∀ (pc : Nat) (ls : Array Slot) (v : Int32), v = r → decode cc pc = .ok (.ireturn, 1) → W p l e R s m args below meth c s.heap [] 0 0 Q (F0 m pc ls [.int v])) →
      ∀ ls : Array Slot, lv_has ls maxL (lv_args 0 vs) → W p l e R s m args below meth c s.heap [] 0 0 Q (F0 m 0 ls [])) : Met l y (ws_ y cc maxL (some .int)) (rmD d 0 0) (uPx vs X dC dI dA) (uQi r) 0 0 noF := by
  refine u_start hy hcls hn fun p e s m below meth c SF hr hlk hB ls hl => ?_
  exact body p e (rmD d 0 0) s m vs.toArray below meth c _ SF ⟨Nat.le_refl _, Nat.le_refl _⟩ hB.1 hB.2 (fun pc ls v hv d => W.iret SF.1 SF.2.1 hr (fun t ht _ => ⟨by rw [hv], ht⟩) (fun _ h => nomatch h) d hlk) ls hl
theorem x_metz {y : MethodName} {maxL d : Nat} {vs : List Value} {X : State → Heap → Prop} {r : Bool} {own : String} (hy : plainName y.cls = true) (hcls : y.cls = own) (hn : (lg_sl vs).length ≤ maxL)
    (body : ∀ (p : Program) (e : Env) (R : Room) (s : State) (m : MethodId) (args : Array Value) (below : List Frame) (meth : Method) (c : Code) (Q : State → Prop), CallFix p m c cc maxL s args lw_all own → rmOK d R → X s s.heap → KK dC dI dA s →
      (∀ (pc : Nat) (ls : Array Slot) (v : Int32), v = nI r.toNat → decode cc pc = .ok (.ireturn, 1) → W p l e R s m args below meth c s.heap [] 0 0 Q (F0 m pc ls [.int v])) →
      ∀ ls : Array Slot, lv_has ls maxL (lv_args 0 vs) → W p l e R s m args below meth c s.heap [] 0 0 Q (F0 m 0 ls [])) : Met l y (ws_ y cc maxL (some .boolean)) (rmD d 0 0) (uPx vs X dC dI dA) (uQi (nI r.toNat)) 0 0 noF := by
  refine u_start hy hcls hn fun p e s m below meth c SF hr hlk hB ls hl => ?_
  exact body p e (rmD d 0 0) s m vs.toArray below meth c _ SF ⟨Nat.le_refl _, Nat.le_refl _⟩ hB.1 hB.2 (fun pc ls v hv d => W.zret SF.1 SF.2.1 hr (by rw [hv]; cases r <;> rfl) (fun t ht _ => ⟨by rw [hv], ht⟩) (fun _ h => nomatch h) d hlk) ls hl
theorem x_metMi {y : MethodName} {maxL d : Nat} {vs : List Value} {X : State → Heap → Prop} {Φ : Heap → Prop} {A : Nat → Prop} {r : Int32} {own : String} (hy : plainName y.cls = true) (hcls : y.cls = own) (hn : (lg_sl vs).length ≤ maxL)
    (body : ∀ (p : Program) (e : Env) (R : Room) (s : State) (m : MethodId) (args : Array Value) (below : List Frame) (meth : Method) (c : Code) (Q : State → Prop), CallFix p m c cc maxL s args lw_all own → rmOK d R → X s s.heap → KK dC dI dA s →
      (∀ (pc : Nat) (ls : Array Slot) (H : Heap) (locs : List Loc) (v : Int32), v = r → Φ H → uS A s.heap H locs → decode cc pc = .ok (.ireturn, 1) → W p l e R s m args below meth c H locs 0 0 Q (F0 m pc ls [.int v])) →
      ∀ ls : Array Slot, lv_has ls maxL (lv_args 0 vs) → W p l e R s m args below meth c s.heap [] 0 0 Q (F0 m 0 ls [])) : Met l y (ws_ y cc maxL (some .int)) (rmD d 0 0) (uPx vs X dC dI dA) (uMi A r Φ) 0 0 A := by
  refine u_start hy hcls hn fun p e s m below meth c SF hr hlk hB ls hl => ?_
  exact body p e (rmD d 0 0) s m vs.toArray below meth c _ SF ⟨Nat.le_refl _, Nat.le_refl _⟩ hB.1 hB.2 (fun pc ls H locs v hv hΦ hS d => W.iret SF.1 SF.2.1 hr (fun t ht _ => ⟨by rw [hv], by rw [ht]; exact hΦ, by rw [ht]; exact hS.1, by rw [ht]; exact hS.2.1⟩) hS.2.2 d hlk) ls hl
theorem x_metMz {y : MethodName} {maxL d : Nat} {vs : List Value} {X : State → Heap → Prop} {Φ : Heap → Prop} {A : Nat → Prop} {r : Bool} {own : String} (hy : plainName y.cls = true) (hcls : y.cls = own) (hn : (lg_sl vs).length ≤ maxL)
    (body : ∀ (p : Program) (e : Env) (R : Room) (s : State) (m : MethodId) (args : Array Value) (below : List Frame) (meth : Method) (c : Code) (Q : State → Prop), CallFix p m c cc maxL s args lw_all own → rmOK d R → X s s.heap → KK dC dI dA s →
      (∀ (pc : Nat) (ls : Array Slot) (H : Heap) (locs : List Loc) (v : Int32), v = nI r.toNat → Φ H → uS A s.heap H locs → decode cc pc = .ok (.ireturn, 1) → W p l e R s m args below meth c H locs 0 0 Q (F0 m pc ls [.int v])) →
      ∀ ls : Array Slot, lv_has ls maxL (lv_args 0 vs) → W p l e R s m args below meth c s.heap [] 0 0 Q (F0 m 0 ls [])) : Met l y (ws_ y cc maxL (some .boolean)) (rmD d 0 0) (uPx vs X dC dI dA) (uMi A (nI r.toNat) Φ) 0 0 A := by
  refine u_start hy hcls hn fun p e s m below meth c SF hr hlk hB ls hl => ?_
  exact body p e (rmD d 0 0) s m vs.toArray below meth c _ SF ⟨Nat.le_refl _, Nat.le_refl _⟩ hB.1 hB.2 (fun pc ls H locs v hv hΦ hS d => W.zret SF.1 SF.2.1 hr (by rw [hv]; cases r <;> rfl) (fun t ht _ => ⟨by rw [hv], by rw [ht]; exact hΦ, by rw [ht]; exact hS.1, by rw [ht]; exact hS.2.1⟩) hS.2.2 d hlk) ls hl
theorem x_metMf {y : MethodName} {maxL d : Nat} {vs : List Value} {X : State → Heap → Prop} {Φ : Heap → Prop} {A : Nat → Prop} {r : UInt32} {own : String} (hy : plainName y.cls = true) (hcls : y.cls = own) (hn : (lg_sl vs).length ≤ maxL)
    (body : ∀ (p : Program) (e : Env) (R : Room) (s : State) (m : MethodId) (args : Array Value) (below : List Frame) (meth : Method) (c : Code) (Q : State → Prop), CallFix p m c cc maxL s args lw_all own → rmOK d R → X s s.heap → KK dC dI dA s →
      (∀ (pc : Nat) (ls : Array Slot) (H : Heap) (locs : List Loc) (v : UInt32), v = r → Φ H → uS A s.heap H locs → decode cc pc = .ok (.freturn, 1) → W p l e R s m args below meth c H locs 0 0 Q (F0 m pc ls [.float v])) →
      ∀ ls : Array Slot, lv_has ls maxL (lv_args 0 vs) → W p l e R s m args below meth c s.heap [] 0 0 Q (F0 m 0 ls [])) : Met l y (ws_ y cc maxL (some .float)) (rmD d 0 0) (uPx vs X dC dI dA) (uMf A r Φ) 0 0 A := by
  refine u_start hy hcls hn fun p e s m below meth c SF hr hlk hB ls hl => ?_
  exact body p e (rmD d 0 0) s m vs.toArray below meth c _ SF ⟨Nat.le_refl _, Nat.le_refl _⟩ hB.1 hB.2 (fun pc ls H locs v hv hΦ hS d => W.fret SF.1 SF.2.1 hr (fun t ht _ => ⟨by rw [hv], by rw [ht]; exact hΦ, by rw [ht]; exact hS.1, by rw [ht]; exact hS.2.1⟩) hS.2.2 d (hlocks := hlk)) ls hl
theorem x_metMd {y : MethodName} {maxL d : Nat} {vs : List Value} {X : State → Heap → Prop} {Φ : Heap → Prop} {A : Nat → Prop} {r : UInt64} {own : String} (hy : plainName y.cls = true) (hcls : y.cls = own) (hn : (lg_sl vs).length ≤ maxL)
    (body : ∀ (p : Program) (e : Env) (R : Room) (s : State) (m : MethodId) (args : Array Value) (below : List Frame) (meth : Method) (c : Code) (Q : State → Prop), CallFix p m c cc maxL s args lw_all own → rmOK d R → X s s.heap → KK dC dI dA s →
      (∀ (pc : Nat) (ls : Array Slot) (H : Heap) (locs : List Loc) (v : UInt64), v = r → Φ H → uS A s.heap H locs → decode cc pc = .ok (.dreturn, 1) → W p l e R s m args below meth c H locs 0 0 Q (F0 m pc ls [.double v])) →
      ∀ ls : Array Slot, lv_has ls maxL (lv_args 0 vs) → W p l e R s m args below meth c s.heap [] 0 0 Q (F0 m 0 ls [])) : Met l y (ws_ y cc maxL (some .double)) (rmD d 0 0) (uPx vs X dC dI dA) (uMd A r Φ) 0 0 A := by
  refine u_start hy hcls hn fun p e s m below meth c SF hr hlk hB ls hl => ?_
  exact body p e (rmD d 0 0) s m vs.toArray below meth c _ SF ⟨Nat.le_refl _, Nat.le_refl _⟩ hB.1 hB.2 (fun pc ls H locs v hv hΦ hS d => W.dret SF.1 SF.2.1 hr (fun t ht _ => ⟨by rw [hv], by rw [ht]; exact hΦ, by rw [ht]; exact hS.1, by rw [ht]; exact hS.2.1⟩) hS.2.2 d (hlocks := hlk)) ls hl
theorem x_metMv {y : MethodName} {maxL d : Nat} {vs : List Value} {X : State → Heap → Prop} {Φ : Heap → Prop} {A : Nat → Prop} {own : String} (hy : plainName y.cls = true) (hcls : y.cls = own) (hn : (lg_sl vs).length ≤ maxL)
    (body : ∀ (p : Program) (e : Env) (R : Room) (s : State) (m : MethodId) (args : Array Value) (below : List Frame) (meth : Method) (c : Code) (Q : State → Prop), CallFix p m c cc maxL s args lw_all own → rmOK d R → X s s.heap → KK dC dI dA s →
      (∀ (pc : Nat) (ls : Array Slot) (H : Heap) (locs : List Loc), Φ H → uS A s.heap H locs → decode cc pc = .ok (.return_, 1) → W p l e R s m args below meth c H locs 0 0 Q (F0 m pc ls [])) →
      ∀ ls : Array Slot, lv_has ls maxL (lv_args 0 vs) → W p l e R s m args below meth c s.heap [] 0 0 Q (F0 m 0 ls [])) : Met l y (ws_ y cc maxL none) (rmD d 0 0) (uPx vs X dC dI dA) (uMv A Φ) 0 0 A := by
  refine u_start hy hcls hn fun p e s m below meth c SF hr hlk hB ls hl => ?_
  exact body p e (rmD d 0 0) s m vs.toArray below meth c _ SF ⟨Nat.le_refl _, Nat.le_refl _⟩ hB.1 hB.2 (fun pc ls H locs hΦ hS d => W.vret SF.1 SF.2.1 hr (fun t ht _ => ⟨rfl, by rw [ht]; exact hΦ, by rw [ht]; exact hS.1, by rw [ht]; exact hS.2.1⟩) hS.2.2 d hlk) ls hl
theorem x_metn {y : MethodName} {maxL d : Nat} {vs : List Value} {X : State → Heap → Prop} {ty : FieldType} {r : Int32} {own : String} (hy : plainName y.cls = true) (hcls : y.cls = own) (hn : (lg_sl vs).length ≤ maxL) (hnr : narrow ty (.int r) = .int r)
    (body : ∀ (p : Program) (e : Env) (R : Room) (s : State) (m : MethodId) (args : Array Value) (below : List Frame) (meth : Method) (c : Code) (Q : State → Prop), CallFix p m c cc maxL s args lw_all own → rmOK d R → X s s.heap → KK dC dI dA s →
      (∀ (pc : Nat) (ls : Array Slot) (v : Int32), v = r → decode cc pc = .ok (.ireturn, 1) → W p l e R s m args below meth c s.heap [] 0 0 Q (F0 m pc ls [.int v])) →
      ∀ ls : Array Slot, lv_has ls maxL (lv_args 0 vs) → W p l e R s m args below meth c s.heap [] 0 0 Q (F0 m 0 ls [])) : Met l y (ws_ y cc maxL (some ty)) (rmD d 0 0) (uPx vs X dC dI dA) (uQi r) 0 0 noF := by
  refine u_start hy hcls hn fun p e s m below meth c SF hr hlk hB ls hl => ?_
  exact body p e (rmD d 0 0) s m vs.toArray below meth c _ SF ⟨Nat.le_refl _, Nat.le_refl _⟩ hB.1 hB.2 (fun pc ls v hv d => W.zret SF.1 SF.2.1 hr (by rw [hv]; exact hnr) (fun t ht _ => ⟨by rw [hv], ht⟩) (fun _ h => nomatch h) d hlk) ls hl
theorem x_metv {y : MethodName} {maxL d : Nat} {vs : List Value} {X : State → Heap → Prop} {own : String} (hy : plainName y.cls = true) (hcls : y.cls = own) (hn : (lg_sl vs).length ≤ maxL)
    (body : ∀ (p : Program) (e : Env) (R : Room) (s : State) (m : MethodId) (args : Array Value) (below : List Frame) (meth : Method) (c : Code) (Q : State → Prop), CallFix p m c cc maxL s args lw_all own → rmOK d R → X s s.heap → KK dC dI dA s →
      (∀ (pc : Nat) (ls : Array Slot), decode cc pc = .ok (.return_, 1) → W p l e R s m args below meth c s.heap [] 0 0 Q (F0 m pc ls [])) →
      ∀ ls : Array Slot, lv_has ls maxL (lv_args 0 vs) → W p l e R s m args below meth c s.heap [] 0 0 Q (F0 m 0 ls [])) : Met l y (ws_ y cc maxL none) (rmD d 0 0) (uPx vs X dC dI dA) uQv 0 0 noF := by
  refine u_start hy hcls hn fun p e s m below meth c SF hr hlk hB ls hl => ?_
  exact body p e (rmD d 0 0) s m vs.toArray below meth c _ SF ⟨Nat.le_refl _, Nat.le_refl _⟩ hB.1 hB.2 (fun pc ls d => W.vret SF.1 SF.2.1 hr (fun t ht _ => ⟨rfl, ht⟩) (fun _ h => nomatch h) d hlk) ls hl
theorem x_rV {nL index d maxL n : Nat} {y : MethodName} {bytes : ByteArray} {ret : Option FieldType} {X : State → Heap → Prop} {Qc : Array Value → State → Outcome → State → Prop} {free : Addr → Prop} {own C : String} {b : Nat} {As : List Value} (SF : CallFix p m c cc nL s args lw_all own) (hK : KK dC dI dA s) (rk : rmOK (d + 1) R) (hM : Met l y (ws_ y bytes maxL ret) (rmD d 0 0) (uPx (.ref b :: As) X dC dI dA) Qc 0 0 free)
    (hw : GoodIn lw_all (wsV own index C y (ws_ y bytes maxL ret))) (hd : y.cls = C ∧ y.cls ≠ "java/lang/invoke/MethodHandle" ∧ y.cls ≠ "java/lang/invoke/VarHandle" ∧ (parseMethodDescriptor y.desc).map (fun d => d.parameters.length) = some n) (hn : As.length = n) (hm : maxL ≤ 45)
    (hcell : ∃ cell : Cell, H[b]? = some cell ∧ cell.vm.isStatics = false ∧ s.vm.findClass C = some cell.cls) (hX : XOK X) (hΨ : X s H) (hsz : ls.size = nL) (hcat : (rest.map fun v => v.category).sum ≤ 8) (hcs : cells ≤ R.cells ∧ slots ≤ R.slots) (hst : st = As.reverse ++ .ref b :: rest) (hdg : decode cc pc = .ok (.invokevirtual index, 3)) :
    va_Run p l e R s m args below meth c H locs cells slots 0 0 (F0 m pc ls st) rest (Qc (Value.ref b :: As).toArray) free :=
  va_runV SF hM (cwV n SF.2.2.2.2 hw rfl rfl rfl hd (rk.call hm)) ⟨u_blindX hX, hcell, fun U hU hW => ⟨rfl, by rw [hU]; exact hX.2 s U H hW hΨ, va_K.moved hW.alike hK⟩⟩ rfl hn hsz hst (lv_room hcat) hdg hcs
theorem x_rS {nL index d maxL n : Nat} {y : MethodName} {bytes : ByteArray} {ret : Option FieldType} {X : State → Heap → Prop} {Qc : Array Value → State → Outcome → State → Prop} {free : Addr → Prop} {own : String} {As : List Value} (SF : CallFix p m c cc nL s args lw_all own) (hK : KK dC dI dA s) (rk : rmOK (d + 1) R) (hM : Met l y (ws_ y bytes maxL ret) (rmD d 0 0) (uPx As X dC dI dA) Qc 0 0 free)
    (hw : GoodIn lw_all (va_wsS own index y (ws_ y bytes maxL ret))) (hd : y.cls ≠ "java/lang/invoke/MethodHandle" ∧ y.cls ≠ "java/lang/invoke/VarHandle" ∧ (parseMethodDescriptor y.desc).map (fun d => d.parameters.length) = some n) (hn : As.length = n) (hm : maxL ≤ 45)
    (hX : XOK X) (hΨ : X s H) (hsz : ls.size = nL) (hcat : (rest.map fun v => v.category).sum ≤ 8) (hcs : cells ≤ R.cells ∧ slots ≤ R.slots) (hst : st = As.reverse ++ rest) (hdg : decode cc pc = .ok (.invokestatic index, 3)) :
    va_Run p l e R s m args below meth c H locs cells slots 0 0 (F0 m pc ls st) rest (Qc As.toArray) free :=
  va_runS SF hM (va_cwS n SF.2.2.2.2 hw rfl rfl rfl hd (rk.call hm)) ⟨u_blindX hX, fun U hU hW => ⟨rfl, by rw [hU]; exact hX.2 s U H hW hΨ, va_K.moved hW.alike hK⟩⟩ rfl hn hsz hst (lv_room hcat) hdg hcs
theorem x_runv {a : Array Value} (hr : va_Run p l e R s m args below meth c H locs cells slots 0 0 (F0 m pc ls st) rest (uQv a) noF) (k : W p l e R s m args below meth c H locs cells slots Q (F0 m (pc + 3) ls rest)) : W p l e R s m args below meth c H locs cells slots Q (F0 m pc ls st) := by
  intro T hT X
  obtain ⟨v, st₀, t, T', L, h0, X', hL, e1, e2, ⟨hv, hh⟩, st⟩ := hr T hT X
  cases hv
  obtain ⟨t2, a1, b1⟩ := k T' (by rw [e1, hh, h0]) (Stand.forget X' (fun q h => (hL q h).elim))
  exact ⟨t2, st t2 a1, b1⟩
theorem x_runa {r : Value} {a : Array Value} (hr : va_Run p l e R s m args below meth c H locs cells slots 0 0 (F0 m pc ls st) rest (uQa r a) noF) (k : W p l e R s m args below meth c H locs cells slots Q (F0 m (pc + 3) ls (r :: rest))) : W p l e R s m args below meth c H locs cells slots Q (F0 m pc ls st) := by
  intro T hT X
  obtain ⟨v, st₀, t, T', L, h0, X', hL, e1, e2, ⟨hv, hh⟩, st⟩ := hr T hT X
  cases hv
  obtain ⟨t2, a1, b1⟩ := k T' (by rw [e1, hh, h0]) (Stand.forget X' (fun q h => (hL q h).elim))
  exact ⟨t2, st t2 a1, b1⟩
end BASE2
/-- a String with these bytes -/
def SV (q v n : Nat) (f : Nat → Int32) (U : State) (H : Heap) : Prop := va_O "java/lang/String" q noF U H ∧ va_OF "java/lang/String" "coder" "B" (.int 0) q noF U H ∧ va_OF "java/lang/String" "value" "[B" (.ref v) q noF U H ∧ va_T .byte v n (fun j => .int (f j)) noF U H
theorem SV.ok {q v n : Nat} {f : Nat → Int32} : XOK (SV q v n f) := XOK.of fun u U H h q => ⟨va_O.moved h q.1, va_OF.moved h q.2.1, va_OF.moved h q.2.2.1, va_T.moved h q.2.2.2⟩
/-- what the strings' methods read besides: compact strings, the formatter of messages -/
def CS (U : State) (H : Heap) : Prop := va_Z "java/lang/String" "COMPACT_STRINGS" "Z" (.int 1) noF U H ∧ va_Zq "jdk/internal/util/Preconditions" "SIOOBE_FORMATTER" "Ljava/util/function/BiFunction;" noF U H
theorem CS.ok : XOK CS := XOK.of fun u U H h q => ⟨va_Z.moved h q.1, va_Zq.moved h q.2⟩
