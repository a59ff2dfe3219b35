/-! BASE 10: methods that throw and hand back a float, a double, a char -/
section BASE10
variable {p : Program} {l : Launch} {e : Env} {R : Room} {s : State} {m : MethodId} {args : Array Value} {below : List Frame} {meth : Method} {c : Code} {H H0 : Heap} {locs : List Loc} {cells slots : Nat} {Q : State → Prop}
variable {cc : ByteArray} {pc : Nat} {ls : Array Slot} {rest st : List Value} {dC : Nat → ClassId} {dI : Nat → Nat → Nat} {dA : Nat → ClassId} {A A0 : Nat → Prop} {hs : Nat}

theorem v_metf {y : MethodName} {maxL d mc ms : Nat} {vs : List Value} {X : State → Heap → Prop} {P : Option Value → Heap → Prop} {PX : String → Addr → Heap → Prop} {own : String} (hy : plainName y.cls = true) (hcls : y.cls = own) (hn : (lg_sl vs).length ≤ maxL) 
    (body : ∀ (p : Program) (e : Env) (R : Room) (s : State) (m : MethodId) (args : Array Value) (below : List Frame) (meth : Method) (c : Code) (Q : State → Prop), CallFix p m c cc maxL s args lw_all own → rmOK d R → R.cells = mc ∧ R.slots = ms → X s s.heap ∧ s.heap.size = hs → KK dC dI dA s → meth.name = y.name → (∀ x ∈ c.exceptionTable.toList, False) → (∀ (pc : Nat) (ls : Array Slot) (H : Heap) (locs : List Loc) (cells slots : Nat) (v : UInt32), P (some (.float v)) H → va_S (gF A hs) s.heap H locs → cells ≤ mc → slots ≤ ms → decode cc pc = .ok (.freturn, 1) → W p l e R s m args below meth c H locs cells slots Q (F0 m pc ls [.float v])) → (∀ (pc : Nat) (ls : Array Slot) (rest : List Value) (H : Heap) (locs : List Loc) (cells slots : Nat) (E : String) (q : Addr) (ce : Cell),  PX E q H → va_S (gF A hs) s.heap H locs → cells ≤ mc → slots ≤ ms → H[q]? = some ce → ce.vm = .none → s.vm.findClass E = some ce.cls → vx_W p l e R s m args below meth c H locs cells slots Q (F0 m pc ls rest) q) → (meth.locks = false ∧ Q = vx_MQ below (gQ hs A P) (gX hs A PX) args s mc ms (gF A hs)) → ∀ ls : Array Slot, lv_has ls maxL (lv_args 0 vs) → W p l e R s m args below meth c s.heap [] 0 0 Q (F0 m 0 ls [])) : vx_Met l y (ws_ y cc maxL (some .float)) (rmD d mc ms) (gPx vs X hs dC dI dA) (gQ hs A P) (gX hs A PX) mc ms (gF A hs) := by
  refine vx_ofW (cc := cc) (maxL := maxL) (ret := some .float) hy rfl ?_
  intro p e s m args below meth c s₁ B0 hml hE hv
  obtain ⟨rfl, hX, hK⟩ := hv
  have hts := atoms_spec (ws := ws_ y cc maxL (some .float)) B0.pre
  have hown : s.vm.findClass y.cls = some m.cls := findClass_of_methodNamed B0.named
  have hin : meth.name = y.name := (name_of_methodNamed B0.named B0.method).1
  have hr := B0.returns
  have hlk := B0.notSynchronized
  have SF : CallFix p m c cc maxL s vs.toArray lw_all own := ⟨B0.exec, B0.bytes, hml, hcls ▸ hown, fun w h => hts w (List.mem_cons_of_mem _ h)⟩
  rw [lg_entry_eq]
  exact body p e (rmD d mc ms) s m vs.toArray below meth c (vx_MQ below (gQ hs A P) (gX hs A PX) vs.toArray s mc ms (gF A hs)) SF ⟨Nat.le_refl _, Nat.le_refl _⟩ ⟨rfl, rfl⟩ hX hK hin hE (fun pc ls H locs cells slots v hP9 hS h1 h2 d9 => vx_ret ( W.widen h1 h2 (W.fret SF.1 SF.2.1 hr (v := v) (fun t ht _ => ⟨_, rfl, by rw [ht]; exact hP9, by rw [ht]; exact (hS.fr hX.2).1, by rw [ht]; exact (hS.fr hX.2).2⟩) hS.2.2 d9 (hlocks := hlk)))) (fun pc ls rest H locs cells slots E q ce hP9 hS h1 h2 a1 a2 a3 => vx_out (fun x hx => (hE x hx).elim) hlk a1 a2 a3 (fun t ht _ => ⟨by rw [ht]; exact hP9, by rw [ht]; exact (hS.fr hX.2).1, by rw [ht]; exact (hS.fr hX.2).2⟩) hS.2.2 h1 h2) ⟨hlk, rfl⟩ _ (lv_entry vs hn)
theorem v_metd {y : MethodName} {maxL d mc ms : Nat} {vs : List Value} {X : State → Heap → Prop} {P : Option Value → Heap → Prop} {PX : String → Addr → Heap → Prop} {own : String} (hy : plainName y.cls = true) (hcls : y.cls = own) (hn : (lg_sl vs).length ≤ maxL) 
    (body : ∀ (p : Program) (e : Env) (R : Room) (s : State) (m : MethodId) (args : Array Value) (below : List Frame) (meth : Method) (c : Code) (Q : State → Prop), CallFix p m c cc maxL s args lw_all own → rmOK d R → R.cells = mc ∧ R.slots = ms → X s s.heap ∧ s.heap.size = hs → KK dC dI dA s → meth.name = y.name → (∀ x ∈ c.exceptionTable.toList, False) → (∀ (pc : Nat) (ls : Array Slot) (H : Heap) (locs : List Loc) (cells slots : Nat) (v : UInt64), P (some (.double v)) H → va_S (gF A hs) s.heap H locs → cells ≤ mc → slots ≤ ms → decode cc pc = .ok (.dreturn, 1) → W p l e R s m args below meth c H locs cells slots Q (F0 m pc ls [.double v])) → (∀ (pc : Nat) (ls : Array Slot) (rest : List Value) (H : Heap) (locs : List Loc) (cells slots : Nat) (E : String) (q : Addr) (ce : Cell),  PX E q H → va_S (gF A hs) s.heap H locs → cells ≤ mc → slots ≤ ms → H[q]? = some ce → ce.vm = .none → s.vm.findClass E = some ce.cls → vx_W p l e R s m args below meth c H locs cells slots Q (F0 m pc ls rest) q) → (meth.locks = false ∧ Q = vx_MQ below (gQ hs A P) (gX hs A PX) args s mc ms (gF A hs)) → ∀ ls : Array Slot, lv_has ls maxL (lv_args 0 vs) → W p l e R s m args below meth c s.heap [] 0 0 Q (F0 m 0 ls [])) : vx_Met l y (ws_ y cc maxL (some .double)) (rmD d mc ms) (gPx vs X hs dC dI dA) (gQ hs A P) (gX hs A PX) mc ms (gF A hs) := by
  refine vx_ofW (cc := cc) (maxL := maxL) (ret := some .double) hy rfl ?_
  intro p e s m args below meth c s₁ B0 hml hE hv
  obtain ⟨rfl, hX, hK⟩ := hv
  have hts := atoms_spec (ws := ws_ y cc maxL (some .double)) B0.pre
  have hown : s.vm.findClass y.cls = some m.cls := findClass_of_methodNamed B0.named
  have hin : meth.name = y.name := (name_of_methodNamed B0.named B0.method).1
  have hr := B0.returns
  have hlk := B0.notSynchronized
  have SF : CallFix p m c cc maxL s vs.toArray lw_all own := ⟨B0.exec, B0.bytes, hml, hcls ▸ hown, fun w h => hts w (List.mem_cons_of_mem _ h)⟩
  rw [lg_entry_eq]
  exact body p e (rmD d mc ms) s m vs.toArray below meth c (vx_MQ below (gQ hs A P) (gX hs A PX) vs.toArray s mc ms (gF A hs)) SF ⟨Nat.le_refl _, Nat.le_refl _⟩ ⟨rfl, rfl⟩ hX hK hin hE (fun pc ls H locs cells slots v hP9 hS h1 h2 d9 => vx_ret ( W.widen h1 h2 (W.dret SF.1 SF.2.1 hr (v := v) (fun t ht _ => ⟨_, rfl, by rw [ht]; exact hP9, by rw [ht]; exact (hS.fr hX.2).1, by rw [ht]; exact (hS.fr hX.2).2⟩) hS.2.2 d9 (hlocks := hlk)))) (fun pc ls rest H locs cells slots E q ce hP9 hS h1 h2 a1 a2 a3 => vx_out (fun x hx => (hE x hx).elim) hlk a1 a2 a3 (fun t ht _ => ⟨by rw [ht]; exact hP9, by rw [ht]; exact (hS.fr hX.2).1, by rw [ht]; exact (hS.fr hX.2).2⟩) hS.2.2 h1 h2) ⟨hlk, rfl⟩ _ (lv_entry vs hn)
end BASE10
