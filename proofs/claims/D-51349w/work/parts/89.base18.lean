/-! BASE 18: methods that make objects by 'invokedynamic' -/
section BASE18
variable {p : Program} {l : Launch} {e : Env} {R : Room} {s : State} {m : MethodId} {args : Array Value} {below : List Frame} {meth : Method} {c : Code} {H H0 : Heap} {locs : List Loc} {cells slots : Nat} {Q : State → Prop}
variable {cc : ByteArray} {pc : Nat} {ls : Array Slot} {rest st : List Value} {dC : Nat → ClassId} {dI : Nat → Nat → Nat} {dA : Nat → ClassId} {A A0 : Nat → Prop} {hs : Nat}

theorem l_meti {y : MethodName} {maxL d mc ms : Nat} {vs : List Value} {X : State → Heap → Prop} {P : Option Value → Heap → Prop} {PX : String → Addr → Heap → Prop} {own : String} (hy : plainName y.cls = true) (hcls : y.cls = own) (hn : (lg_sl vs).length ≤ maxL) 
    (body : ∀ (p : Program) (e : Env) (R : Room) (s : State) (m : MethodId) (args : Array Value) (below : List Frame) (meth : Method) (c : Code) (Q : State → Prop), CallFix p m c cc maxL s args lw_all own → rmOK d R → R.cells = mc ∧ R.slots = ms → X s s.heap ∧ s.heap.size = hs → KK dC dI dA s → meth.name = y.name → s.methodNamed? y = some m → (∀ x ∈ c.exceptionTable.toList, False) → (∀ (pc : Nat) (ls : Array Slot) (H : Heap) (locs : List Loc) (cells slots : Nat) (v : Int32), P (some (.int v)) H → va_S (gF A hs) s.heap H locs → cells ≤ mc → slots ≤ ms → decode cc pc = .ok (.ireturn, 1) → W p l e R s m args below meth c H locs cells slots Q (F0 m pc ls [.int v])) → (∀ (pc : Nat) (ls : Array Slot) (rest : List Value) (H : Heap) (locs : List Loc) (cells slots : Nat) (E : String) (q : Addr) (ce : Cell),  PX E q H → va_S (gF A hs) s.heap H locs → cells ≤ mc → slots ≤ ms → H[q]? = some ce → ce.vm = .none → s.vm.findClass E = some ce.cls → vx_W p l e R s m args below meth c H locs cells slots Q (F0 m pc ls rest) q) → (meth.locks = false ∧ Q = vx_MQ below (gQ hs A P) (gX hs A PX) args s mc ms (gF A hs)) → ∀ ls : Array Slot, lv_has ls maxL (lv_args 0 vs) → W p l e R s m args below meth c s.heap [] 0 0 Q (F0 m 0 ls [])) : vx_Met l y (ws_ y cc maxL (some .int)) (rmD d mc ms) (gPx vs X hs dC dI dA) (gQ hs A P) (gX hs A PX) mc ms (gF A hs) := by
  refine vx_ofW (cc := cc) (maxL := maxL) (ret := some .int) hy rfl ?_
  intro p e s m args below meth c s₁ B0 hml hE hv
  obtain ⟨rfl, hX, hK⟩ := hv
  have hts := atoms_spec (ws := ws_ y cc maxL (some .int)) B0.pre
  have hown : s.vm.findClass y.cls = some m.cls := findClass_of_methodNamed B0.named
  have hin : meth.name = y.name := (name_of_methodNamed B0.named B0.method).1
  have hr := B0.returns
  have hlk := B0.notSynchronized
  have SF : CallFix p m c cc maxL s vs.toArray lw_all own := ⟨B0.exec, B0.bytes, hml, hcls ▸ hown, fun w h => hts w (List.mem_cons_of_mem _ h)⟩
  rw [lg_entry_eq]
  exact body p e (rmD d mc ms) s m vs.toArray below meth c (vx_MQ below (gQ hs A P) (gX hs A PX) vs.toArray s mc ms (gF A hs)) SF ⟨Nat.le_refl _, Nat.le_refl _⟩ ⟨rfl, rfl⟩ hX hK hin B0.named hE (fun pc ls H locs cells slots v hP9 hS h1 h2 d9 => vx_ret ( W.widen h1 h2 (W.iret SF.1 SF.2.1 hr (v := v) (fun t ht _ => ⟨_, rfl, by rw [ht]; exact hP9, by rw [ht]; exact (hS.fr hX.2).1, by rw [ht]; exact (hS.fr hX.2).2⟩) hS.2.2 d9 hlk))) (fun pc ls rest H locs cells slots E q ce hP9 hS h1 h2 a1 a2 a3 => vx_out (fun x hx => (hE x hx).elim) hlk a1 a2 a3 (fun t ht _ => ⟨by rw [ht]; exact hP9, by rw [ht]; exact (hS.fr hX.2).1, by rw [ht]; exact (hS.fr hX.2).2⟩) hS.2.2 h1 h2) ⟨hlk, rfl⟩ _ (lv_entry vs hn)
theorem l_metv {y : MethodName} {maxL d mc ms : Nat} {vs : List Value} {X : State → Heap → Prop} {P : Option Value → Heap → Prop} {PX : String → Addr → Heap → Prop} {own : String} (hy : plainName y.cls = true) (hcls : y.cls = own) (hn : (lg_sl vs).length ≤ maxL) 
    (body : ∀ (p : Program) (e : Env) (R : Room) (s : State) (m : MethodId) (args : Array Value) (below : List Frame) (meth : Method) (c : Code) (Q : State → Prop), CallFix p m c cc maxL s args lw_all own → rmOK d R → R.cells = mc ∧ R.slots = ms → X s s.heap ∧ s.heap.size = hs → KK dC dI dA s → meth.name = y.name → s.methodNamed? y = some m → (∀ x ∈ c.exceptionTable.toList, False) → (∀ (pc : Nat) (ls : Array Slot) (H : Heap) (locs : List Loc) (cells slots : Nat), P none H → va_S (gF A hs) s.heap H locs → cells ≤ mc → slots ≤ ms → decode cc pc = .ok (.return_, 1) → W p l e R s m args below meth c H locs cells slots Q (F0 m pc ls [])) → (∀ (pc : Nat) (ls : Array Slot) (rest : List Value) (H : Heap) (locs : List Loc) (cells slots : Nat) (E : String) (q : Addr) (ce : Cell),  PX E q H → va_S (gF A hs) s.heap H locs → cells ≤ mc → slots ≤ ms → H[q]? = some ce → ce.vm = .none → s.vm.findClass E = some ce.cls → vx_W p l e R s m args below meth c H locs cells slots Q (F0 m pc ls rest) q) → (meth.locks = false ∧ Q = vx_MQ below (gQ hs A P) (gX hs A PX) args s mc ms (gF A hs)) → ∀ ls : Array Slot, lv_has ls maxL (lv_args 0 vs) → W p l e R s m args below meth c s.heap [] 0 0 Q (F0 m 0 ls [])) : vx_Met l y (ws_ y cc maxL (none)) (rmD d mc ms) (gPx vs X hs dC dI dA) (gQ hs A P) (gX hs A PX) mc ms (gF A hs) := by
  refine vx_ofW (cc := cc) (maxL := maxL) (ret := none) hy rfl ?_
  intro p e s m args below meth c s₁ B0 hml hE hv
  obtain ⟨rfl, hX, hK⟩ := hv
  have hts := atoms_spec (ws := ws_ y cc maxL (none)) B0.pre
  have hown : s.vm.findClass y.cls = some m.cls := findClass_of_methodNamed B0.named
  have hin : meth.name = y.name := (name_of_methodNamed B0.named B0.method).1
  have hr := B0.returns
  have hlk := B0.notSynchronized
  have SF : CallFix p m c cc maxL s vs.toArray lw_all own := ⟨B0.exec, B0.bytes, hml, hcls ▸ hown, fun w h => hts w (List.mem_cons_of_mem _ h)⟩
  rw [lg_entry_eq]
  exact body p e (rmD d mc ms) s m vs.toArray below meth c (vx_MQ below (gQ hs A P) (gX hs A PX) vs.toArray s mc ms (gF A hs)) SF ⟨Nat.le_refl _, Nat.le_refl _⟩ ⟨rfl, rfl⟩ hX hK hin B0.named hE (fun pc ls H locs cells slots hP9 hS h1 h2 d9 => vx_ret ( W.widen h1 h2 (W.vret SF.1 SF.2.1 hr (fun t ht _ => ⟨_, rfl, by rw [ht]; exact hP9, by rw [ht]; exact (hS.fr hX.2).1, by rw [ht]; exact (hS.fr hX.2).2⟩) hS.2.2 d9 hlk))) (fun pc ls rest H locs cells slots E q ce hP9 hS h1 h2 a1 a2 a3 => vx_out (fun x hx => (hE x hx).elim) hlk a1 a2 a3 (fun t ht _ => ⟨by rw [ht]; exact hP9, by rw [ht]; exact (hS.fr hX.2).1, by rw [ht]; exact (hS.fr hX.2).2⟩) hS.2.2 h1 h2) ⟨hlk, rfl⟩ _ (lv_entry vs hn)
theorem lam_fit1 {n : String} {a : Nat} : ∀ (i : Nat) (v : Value), ([.ref a] : List Value)[i]? = some v → ∃ t, (#[.object n] : Array FieldType)[i]? = some t ∧ fits t v = true
  | 0, v, h => by cases h; exact ⟨_, rfl, rfl⟩
  | i + 1, v, h => by cases h
theorem lam_fit2 {n : String} {a : Nat} {z : Int32} : ∀ (i : Nat) (v : Value), ([.ref a, .int z] : List Value)[i]? = some v → ∃ t, (#[.object n, .int] : Array FieldType)[i]? = some t ∧ fits t v = true
  | 0, v, h => by cases h; exact ⟨_, rfl, rfl⟩
  | 1, v, h => by cases h; exact ⟨_, rfl, rfl⟩
  | i + 2, v, h => by cases h
theorem lam_fit3 {n n2 : String} {a a2 : Nat} : ∀ (i : Nat) (v : Value), ([.ref a, .ref a2] : List Value)[i]? = some v → ∃ t, (#[.object n, .object n2] : Array FieldType)[i]? = some t ∧ fits t v = true
  | 0, v, h => by cases h; exact ⟨_, rfl, rfl⟩
  | 1, v, h => by cases h; exact ⟨_, rfl, rfl⟩
  | i + 2, v, h => by cases h
theorem LM.kls {x : MethodName} {pc0 ix0 : Nat} {σ : Lambda.Shape} {cK : ClassId} (h : LM x pc0 ix0 σ cK s) : ∃ k, s.vm.classes[cK]? = some k := by
  obtain ⟨m0, kS, cfS, i0, p0, hm0, hkS, hcfS, hshape, hfind, hmade, hcan⟩ := h
  obtain ⟨-, k, -, -, -, -, -, -, -, -, -, -, -, -, hk, -⟩ := Lambda.isMade_spec hmade
  exact ⟨k, hk⟩
theorem LM.asg {x : MethodName} {pc0 ix0 : Nat} {σ : Lambda.Shape} {cK : ClassId} (h : LM x pc0 ix0 σ cK s) (hN5 : σ.iface = "BadCodes$Test") : ∀ comp : ClassId, s.vm.findClass "BadCodes$Test" = some comp → s.vm.assignable cK comp = true := by
  obtain ⟨m0, kS, cfS, i0, p0, hm0, hkS, hcfS, hshape, hfind, hmade, hcan⟩ := h
  obtain ⟨i2, hi2, hasg, -⟩ := State.lambdaCallable_spec hcan
  intro comp hc
  rw [hN5] at hi2
  cases hc.symm.trans hi2
  exact hasg
theorem g_aastL {x n i t0 y : Nat} {cA cK : ClassId} {f : Nat → Option Nat} {vals : List Value} {C0 : String} (hx : p.tables.exec = Jvm.exec) (hb : c.code = cc) (hK : KK dC dI dA s) (hP : cP dC dI x (.inl (cA, n, .inr (.inr (.inr (.inr f))))) H) (hS : va_S A0 H0 H locs) (hA : A0 x) (ht : (TY dA)[t0]? = some (cA, .object C0)) (hkl : ∃ k, s.vm.classes[cK]? = some k) (hasg : ∀ comp : ClassId, s.vm.findClass C0 = some comp → s.vm.assignable cK comp = true) (hv : lamP cK vals y H) (hi : i < n) (hn : n < 2 ^ 31) (hdg : decode cc pc = .ok (.aastore, 1))
    (kk : ∀ (H1 : Heap) (locs1 : List Loc), cP dC dI x (.inl (cA, n, .inr (.inr (.inr (.inr (va_up f i (some y))))))) H1 → H1.size = H.size → (∀ q : Nat, q ≠ x → H1[q]? = H[q]?) → va_S A0 H0 H1 locs1 → W p l e R s m args below meth c H1 locs1 cells slots Q (F0 m (pc + 1) ls rest)) : W p l e R s m args below meth c H locs cells slots Q (F0 m pc ls (.ref y :: .int (nI i) :: .ref x :: rest)) := by
  have hcl := nI_clamp (Nat.lt_trans hi hn)
  obtain ⟨kA, comp, k1, k2, k3, -⟩ := (hK.2 t0 _ ht).2
  obtain ⟨kE, hkE, -⟩ := Vm.findClass_spec k3
  obtain ⟨kC, hkC⟩ := hkl
  refine W.aast hx hb (hP 0 _ rfl) (fun q h => by cases h) (fun h => by cases h) k1 k2 rfl hkE ⟨fun q => (vp_in_nI hi hn) (Or.inl q), by show _ < (arrV _ _ _).slots.size; rw [arrV_size, hcl]; exact hi⟩ hv (fun q h => by cases h) hkC (hasg _ k3) rfl rfl hdg fun H1 e z oq => ?_
  rw [hcl] at e ⊢
  refine kk H1 _ (va_P.set hP cD (rfl : ([(x, _)] : va_W)[0]? = some (x, _)) ?_ oq) z oq (hS.put z oq hA)
  show H1[x]? = some (vp_cell _ _)
  rw [e, vp_cell_q, vp_cell_q, arrV_store]
  congr 2
  funext q
  by_cases hq : q = i
  · subst hq
    simp [updV, va_up, va_rf]
  · simp [updV, va_up, hq]
end BASE18
