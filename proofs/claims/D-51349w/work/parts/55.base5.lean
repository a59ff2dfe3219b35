/-! BASE 5: methods that make and change cells, that throw -/
def gF (A : Nat → Prop) (hs : Nat) : Addr → Prop := fun q => A q ∨ hs ≤ q
/-- an end: what comes back and the heap are of kind P; of what there was nothing outside A has changed -/
def gQ (hs : Nat) (A : Nat → Prop) (P : Option Value → Heap → Prop) : Array Value → State → Outcome → State → Prop := fun _ st o t => ∃ v, o = .returned v ∧ P v t.heap ∧ hs ≤ t.heap.size ∧ ∀ q : Nat, q < hs → ¬ A q → t.heap[q]? = st.heap[q]?
/-- q is thrown, an E -/
def gX (hs : Nat) (A : Nat → Prop) (P : String → Addr → Heap → Prop) : String → Addr → State → State → Prop := fun E q st t => P E q t.heap ∧ hs ≤ t.heap.size ∧ ∀ z : Nat, z < hs → ¬ A z → t.heap[z]? = st.heap[z]?
abbrev gPx (vs : List Value) (X : State → Heap → Prop) (hs : Nat) (dC : Nat → ClassId) (dI : Nat → Nat → Nat) (dA : Nat → ClassId) : Array Value → State → Prop := uPx vs (fun U H => X U H ∧ H.size = hs) dC dI dA
theorem XOK.hs {X : State → Heap → Prop} {hs : Nat} (h : XOK X) : XOK (fun U H => X U H ∧ H.size = hs) := h.and (XOK.hp (P := fun H => H.size = hs))
theorem va_S.more {A : Nat → Prop} {H0 H H1 : Heap} {locs : List Loc} (h : va_S A H0 H locs) (z : H.size ≤ H1.size) (oq : ∀ q : Nat, q < H.size → H1[q]? = H[q]?) : va_S A H0 H1 locs := ⟨Nat.le_trans h.1 z, fun q h1 h2 => (oq q (Nat.lt_of_lt_of_le h1 h.1)).trans (h.2.1 q h1 h2), h.2.2⟩
theorem va_S.called {A A0 : Nat → Prop} {H0 H H1 : Heap} {locs L : List Loc} {hs : Nat} (h : va_S A0 H0 H locs) (hz : H.size = hs) (z : hs ≤ H1.size) (oq : ∀ q : Nat, q < hs → ¬ A q → H1[q]? = H[q]?) (hA : ∀ q, A q → A0 q) (h0 : ∀ q, H0.size ≤ q → A0 q) (hL : ∀ q ∈ L, gF A hs q.base) : va_S A0 H0 H1 (locs ++ L) := by
  subst hz
  refine ⟨Nat.le_trans h.1 z, fun q h1 h2 => (oq q (Nat.lt_of_lt_of_le h1 h.1) (fun g => h2 (hA q g))).trans (h.2.1 q h1 h2), fun x hx => ?_⟩
  rcases List.mem_append.mp hx with g | g
  · exact h.2.2 x g
  · rcases hL x g with g | g
    · exact hA _ g
    · exact h0 _ (Nat.le_trans h.1 g)
theorem va_S.fr {A : Nat → Prop} {H0 H : Heap} {locs : List Loc} {hs : Nat} (h : va_S (gF A hs) H0 H locs) (z : H0.size = hs) : hs ≤ H.size ∧ ∀ q : Nat, q < hs → ¬ A q → H[q]? = H0[q]? := by
  subst z
  exact ⟨h.1, fun q h1 h2 => h.2.1 q h1 (fun g => g.elim h2 (fun g => absurd g (Nat.not_le_of_lt h1)))⟩
theorem gF_new {A : Nat → Prop} {hs : Nat} : ∀ q, hs ≤ q → gF A hs q := fun _ h => Or.inr h
section BASE5
variable {p : Program} {l : Launch} {e : Env} {R : Room} {s : State} {m : MethodId} {args : Array Value} {below : List Frame} {meth : Method} {c : Code} {H H0 : Heap} {locs : List Loc} {cells slots : Nat} {Q : State → Prop}
variable {cc : ByteArray} {pc : Nat} {ls : Array Slot} {rest st : List Value} {dC : Nat → ClassId} {dI : Nat → Nat → Nat} {dA : Nat → ClassId} {A A0 : Nat → Prop} {hs : Nat}

theorem g_meti {y : MethodName} {maxL d mc ms : Nat} {vs : List Value} {X : State → Heap → Prop} {P : Option Value → Heap → Prop} {own : String} (hy : plainName y.cls = true) (hcls : y.cls = own) (hn : (lg_sl vs).length ≤ maxL) 
    (body : ∀ (p : Program) (e : Env) (R : Room) (s : State) (m : MethodId) (args : Array Value) (below : List Frame) (meth : Method) (c : Code) (Q : State → Prop), CallFix p m c cc maxL s args lw_all own → rmOK d R → R.cells = mc ∧ R.slots = ms → X s s.heap ∧ s.heap.size = hs → KK dC dI dA s → meth.name = y.name → (∀ (pc : Nat) (ls : Array Slot) (H : Heap) (locs : List Loc) (cells slots : Nat) (v : Int32), P (some (.int v)) H → va_S (gF A hs) s.heap H locs → cells ≤ mc → slots ≤ ms → decode cc pc = .ok (.ireturn, 1) → W p l e R s m args below meth c H locs cells slots Q (F0 m pc ls [.int v])) → ∀ ls : Array Slot, lv_has ls maxL (lv_args 0 vs) → W p l e R s m args below meth c s.heap [] 0 0 Q (F0 m 0 ls [])) : Met l y (ws_ y cc maxL (some .int)) (rmD d mc ms) (gPx vs X hs dC dI dA) (gQ hs A P) mc ms (gF A hs) := by
  refine Met.ofW (cc := cc) (maxL := maxL) (ret := some .int) hy rfl ?_
  intro p e s m args below meth c s₁ B0 hml hv
  obtain ⟨rfl, hX, hK⟩ := hv
  have hts := atoms_spec (ws := ws_ y cc maxL (some .int)) B0.pre
  have hown : s.vm.findClass y.cls = some m.cls := findClass_of_methodNamed B0.named
  have hin : meth.name = y.name := (name_of_methodNamed B0.named B0.method).1
  have hr := B0.returns
  have hlk := B0.notSynchronized
  have SF : CallFix p m c cc maxL s vs.toArray lw_all own := ⟨B0.exec, B0.bytes, hml, hcls ▸ hown, fun w h => hts w (List.mem_cons_of_mem _ h)⟩
  rw [lg_entry_eq]
  exact body p e (rmD d mc ms) s m vs.toArray below meth c (MQ below (gQ hs A P) vs.toArray s mc ms (gF A hs)) SF ⟨Nat.le_refl _, Nat.le_refl _⟩ ⟨rfl, rfl⟩ hX hK hin (fun pc ls H locs cells slots v hP9 hS h1 h2 d9 => W.widen h1 h2 (W.iret SF.1 SF.2.1 hr (v := v) (fun t ht _ => ⟨_, rfl, by rw [ht]; exact hP9, by rw [ht]; exact (hS.fr hX.2).1, by rw [ht]; exact (hS.fr hX.2).2⟩) hS.2.2 d9 hlk)) _ (lv_entry vs hn)
theorem g_metz {y : MethodName} {maxL d mc ms : Nat} {vs : List Value} {X : State → Heap → Prop} {P : Option Value → Heap → Prop} {own : String} (hy : plainName y.cls = true) (hcls : y.cls = own) (hn : (lg_sl vs).length ≤ maxL) 
    (body : ∀ (p : Program) (e : Env) (R : Room) (s : State) (m : MethodId) (args : Array Value) (below : List Frame) (meth : Method) (c : Code) (Q : State → Prop), CallFix p m c cc maxL s args lw_all own → rmOK d R → R.cells = mc ∧ R.slots = ms → X s s.heap ∧ s.heap.size = hs → KK dC dI dA s → meth.name = y.name → (∀ (pc : Nat) (ls : Array Slot) (H : Heap) (locs : List Loc) (cells slots : Nat) (v : Int32) (b9 : Bool), v = nI b9.toNat → P (some (.int v)) H → va_S (gF A hs) s.heap H locs → cells ≤ mc → slots ≤ ms → decode cc pc = .ok (.ireturn, 1) → W p l e R s m args below meth c H locs cells slots Q (F0 m pc ls [.int v])) → ∀ ls : Array Slot, lv_has ls maxL (lv_args 0 vs) → W p l e R s m args below meth c s.heap [] 0 0 Q (F0 m 0 ls [])) : Met l y (ws_ y cc maxL (some .boolean)) (rmD d mc ms) (gPx vs X hs dC dI dA) (gQ hs A P) mc ms (gF A hs) := by
  refine Met.ofW (cc := cc) (maxL := maxL) (ret := some .boolean) hy rfl ?_
  intro p e s m args below meth c s₁ B0 hml hv
  obtain ⟨rfl, hX, hK⟩ := hv
  have hts := atoms_spec (ws := ws_ y cc maxL (some .boolean)) B0.pre
  have hown : s.vm.findClass y.cls = some m.cls := findClass_of_methodNamed B0.named
  have hin : meth.name = y.name := (name_of_methodNamed B0.named B0.method).1
  have hr := B0.returns
  have hlk := B0.notSynchronized
  have SF : CallFix p m c cc maxL s vs.toArray lw_all own := ⟨B0.exec, B0.bytes, hml, hcls ▸ hown, fun w h => hts w (List.mem_cons_of_mem _ h)⟩
  rw [lg_entry_eq]
  exact body p e (rmD d mc ms) s m vs.toArray below meth c (MQ below (gQ hs A P) vs.toArray s mc ms (gF A hs)) SF ⟨Nat.le_refl _, Nat.le_refl _⟩ ⟨rfl, rfl⟩ hX hK hin (fun pc ls H locs cells slots v b9 hz hP9 hS h1 h2 d9 => W.widen h1 h2 (W.zret SF.1 SF.2.1 hr (v := v) (by rw [hz]; cases b9 <;> rfl) (fun t ht _ => ⟨_, rfl, by rw [ht]; exact hP9, by rw [ht]; exact (hS.fr hX.2).1, by rw [ht]; exact (hS.fr hX.2).2⟩) hS.2.2 d9 hlk)) _ (lv_entry vs hn)
theorem g_meta {y : MethodName} {maxL d mc ms : Nat} {vs : List Value} {X : State → Heap → Prop} {P : Option Value → Heap → Prop} {own : String} (hy : plainName y.cls = true) (hcls : y.cls = own) (hn : (lg_sl vs).length ≤ maxL) {rt : FieldType} (hrt : (∃ n, rt = .object n) ∨ ∃ t, rt = .array t) 
    (body : ∀ (p : Program) (e : Env) (R : Room) (s : State) (m : MethodId) (args : Array Value) (below : List Frame) (meth : Method) (c : Code) (Q : State → Prop), CallFix p m c cc maxL s args lw_all own → rmOK d R → R.cells = mc ∧ R.slots = ms → X s s.heap ∧ s.heap.size = hs → KK dC dI dA s → meth.name = y.name → (∀ (pc : Nat) (ls : Array Slot) (H : Heap) (locs : List Loc) (cells slots : Nat) (v : Value), (v = .null ∨ ∃ a, v = .ref a) → P (some v) H → va_S (gF A hs) s.heap H locs → cells ≤ mc → slots ≤ ms → decode cc pc = .ok (.areturn, 1) → W p l e R s m args below meth c H locs cells slots Q (F0 m pc ls [v])) → ∀ ls : Array Slot, lv_has ls maxL (lv_args 0 vs) → W p l e R s m args below meth c s.heap [] 0 0 Q (F0 m 0 ls [])) : Met l y (ws_ y cc maxL (some rt)) (rmD d mc ms) (gPx vs X hs dC dI dA) (gQ hs A P) mc ms (gF A hs) := by
  refine Met.ofW (cc := cc) (maxL := maxL) (ret := some rt) hy rfl ?_
  intro p e s m args below meth c s₁ B0 hml hv
  obtain ⟨rfl, hX, hK⟩ := hv
  have hts := atoms_spec (ws := ws_ y cc maxL (some rt)) B0.pre
  have hown : s.vm.findClass y.cls = some m.cls := findClass_of_methodNamed B0.named
  have hin : meth.name = y.name := (name_of_methodNamed B0.named B0.method).1
  have hr := B0.returns
  have hlk := B0.notSynchronized
  have SF : CallFix p m c cc maxL s vs.toArray lw_all own := ⟨B0.exec, B0.bytes, hml, hcls ▸ hown, fun w h => hts w (List.mem_cons_of_mem _ h)⟩
  rw [lg_entry_eq]
  exact body p e (rmD d mc ms) s m vs.toArray below meth c (MQ below (gQ hs A P) vs.toArray s mc ms (gF A hs)) SF ⟨Nat.le_refl _, Nat.le_refl _⟩ ⟨rfl, rfl⟩ hX hK hin (fun pc ls H locs cells slots v hv hP9 hS h1 h2 d9 => W.widen h1 h2 (W.aret SF.1 SF.2.1 hr hrt hv (v := v) (fun t ht _ => ⟨_, rfl, by rw [ht]; exact hP9, by rw [ht]; exact (hS.fr hX.2).1, by rw [ht]; exact (hS.fr hX.2).2⟩) hS.2.2 d9 hlk)) _ (lv_entry vs hn)
theorem g_metv {y : MethodName} {maxL d mc ms : Nat} {vs : List Value} {X : State → Heap → Prop} {P : Option Value → Heap → Prop} {own : String} (hy : plainName y.cls = true) (hcls : y.cls = own) (hn : (lg_sl vs).length ≤ maxL) 
    (body : ∀ (p : Program) (e : Env) (R : Room) (s : State) (m : MethodId) (args : Array Value) (below : List Frame) (meth : Method) (c : Code) (Q : State → Prop), CallFix p m c cc maxL s args lw_all own → rmOK d R → R.cells = mc ∧ R.slots = ms → X s s.heap ∧ s.heap.size = hs → KK dC dI dA s → meth.name = y.name → (∀ (pc : Nat) (ls : Array Slot) (H : Heap) (locs : List Loc) (cells slots : Nat), P none H → va_S (gF A hs) s.heap H locs → cells ≤ mc → slots ≤ ms → decode cc pc = .ok (.return_, 1) → W p l e R s m args below meth c H locs cells slots Q (F0 m pc ls [])) → ∀ ls : Array Slot, lv_has ls maxL (lv_args 0 vs) → W p l e R s m args below meth c s.heap [] 0 0 Q (F0 m 0 ls [])) : Met l y (ws_ y cc maxL (none)) (rmD d mc ms) (gPx vs X hs dC dI dA) (gQ hs A P) mc ms (gF A hs) := by
  refine Met.ofW (cc := cc) (maxL := maxL) (ret := none) hy rfl ?_
  intro p e s m args below meth c s₁ B0 hml hv
  obtain ⟨rfl, hX, hK⟩ := hv
  have hts := atoms_spec (ws := ws_ y cc maxL (none)) B0.pre
  have hown : s.vm.findClass y.cls = some m.cls := findClass_of_methodNamed B0.named
  have hin : meth.name = y.name := (name_of_methodNamed B0.named B0.method).1
  have hr := B0.returns
  have hlk := B0.notSynchronized
  have SF : CallFix p m c cc maxL s vs.toArray lw_all own := ⟨B0.exec, B0.bytes, hml, hcls ▸ hown, fun w h => hts w (List.mem_cons_of_mem _ h)⟩
  rw [lg_entry_eq]
  exact body p e (rmD d mc ms) s m vs.toArray below meth c (MQ below (gQ hs A P) vs.toArray s mc ms (gF A hs)) SF ⟨Nat.le_refl _, Nat.le_refl _⟩ ⟨rfl, rfl⟩ hX hK hin (fun pc ls H locs cells slots hP9 hS h1 h2 d9 => W.widen h1 h2 (W.vret SF.1 SF.2.1 hr (fun t ht _ => ⟨_, rfl, by rw [ht]; exact hP9, by rw [ht]; exact (hS.fr hX.2).1, by rw [ht]; exact (hS.fr hX.2).2⟩) hS.2.2 d9 hlk)) _ (lv_entry vs hn)
theorem v_meti {y : MethodName} {maxL d mc ms : Nat} {vs : List Value} {X : State → Heap → Prop} {P : Option Value → Heap → Prop} {PX : String → Addr → Heap → Prop} {own : String} (hy : plainName y.cls = true) (hcls : y.cls = own) (hn : (lg_sl vs).length ≤ maxL) 
    (body : ∀ (p : Program) (e : Env) (R : Room) (s : State) (m : MethodId) (args : Array Value) (below : List Frame) (meth : Method) (c : Code) (Q : State → Prop), CallFix p m c cc maxL s args lw_all own → rmOK d R → R.cells = mc ∧ R.slots = ms → X s s.heap ∧ s.heap.size = hs → KK dC dI dA s → meth.name = y.name → (∀ x ∈ c.exceptionTable.toList, False) → (∀ (pc : Nat) (ls : Array Slot) (H : Heap) (locs : List Loc) (cells slots : Nat) (v : Int32), P (some (.int v)) H → va_S (gF A hs) s.heap H locs → cells ≤ mc → slots ≤ ms → decode cc pc = .ok (.ireturn, 1) → W p l e R s m args below meth c H locs cells slots Q (F0 m pc ls [.int v])) → (∀ (pc : Nat) (ls : Array Slot) (rest : List Value) (H : Heap) (locs : List Loc) (cells slots : Nat) (E : String) (q : Addr) (ce : Cell),  PX E q H → va_S (gF A hs) s.heap H locs → cells ≤ mc → slots ≤ ms → H[q]? = some ce → ce.vm = .none → s.vm.findClass E = some ce.cls → vx_W p l e R s m args below meth c H locs cells slots Q (F0 m pc ls rest) q) → (meth.locks = false ∧ Q = vx_MQ below (gQ hs A P) (gX hs A PX) args s mc ms (gF A hs)) → ∀ ls : Array Slot, lv_has ls maxL (lv_args 0 vs) → W p l e R s m args below meth c s.heap [] 0 0 Q (F0 m 0 ls [])) : vx_Met l y (ws_ y cc maxL (some .int)) (rmD d mc ms) (gPx vs X hs dC dI dA) (gQ hs A P) (gX hs A PX) mc ms (gF A hs) := by
  refine vx_ofW (cc := cc) (maxL := maxL) (ret := some .int) hy rfl ?_
  intro p e s m args below meth c s₁ B0 hml hE hv
  obtain ⟨rfl, hX, hK⟩ := hv
  have hts := atoms_spec (ws := ws_ y cc maxL (some .int)) B0.pre
  have hown : s.vm.findClass y.cls = some m.cls := findClass_of_methodNamed B0.named
  have hin : meth.name = y.name := (name_of_methodNamed B0.named B0.method).1
  have hr := B0.returns
  have hlk := B0.notSynchronized
  have SF : CallFix p m c cc maxL s vs.toArray lw_all own := ⟨B0.exec, B0.bytes, hml, hcls ▸ hown, fun w h => hts w (List.mem_cons_of_mem _ h)⟩
  rw [lg_entry_eq]
  exact body p e (rmD d mc ms) s m vs.toArray below meth c (vx_MQ below (gQ hs A P) (gX hs A PX) vs.toArray s mc ms (gF A hs)) SF ⟨Nat.le_refl _, Nat.le_refl _⟩ ⟨rfl, rfl⟩ hX hK hin hE (fun pc ls H locs cells slots v hP9 hS h1 h2 d9 => vx_ret ( W.widen h1 h2 (W.iret SF.1 SF.2.1 hr (v := v) (fun t ht _ => ⟨_, rfl, by rw [ht]; exact hP9, by rw [ht]; exact (hS.fr hX.2).1, by rw [ht]; exact (hS.fr hX.2).2⟩) hS.2.2 d9 hlk))) (fun pc ls rest H locs cells slots E q ce hP9 hS h1 h2 a1 a2 a3 => vx_out (fun x hx => (hE x hx).elim) hlk a1 a2 a3 (fun t ht _ => ⟨by rw [ht]; exact hP9, by rw [ht]; exact (hS.fr hX.2).1, by rw [ht]; exact (hS.fr hX.2).2⟩) hS.2.2 h1 h2) ⟨hlk, rfl⟩ _ (lv_entry vs hn)
theorem v_metz {y : MethodName} {maxL d mc ms : Nat} {vs : List Value} {X : State → Heap → Prop} {P : Option Value → Heap → Prop} {PX : String → Addr → Heap → Prop} {own : String} (hy : plainName y.cls = true) (hcls : y.cls = own) (hn : (lg_sl vs).length ≤ maxL) 
    (body : ∀ (p : Program) (e : Env) (R : Room) (s : State) (m : MethodId) (args : Array Value) (below : List Frame) (meth : Method) (c : Code) (Q : State → Prop), CallFix p m c cc maxL s args lw_all own → rmOK d R → R.cells = mc ∧ R.slots = ms → X s s.heap ∧ s.heap.size = hs → KK dC dI dA s → meth.name = y.name → (∀ x ∈ c.exceptionTable.toList, False) → (∀ (pc : Nat) (ls : Array Slot) (H : Heap) (locs : List Loc) (cells slots : Nat) (v : Int32) (b9 : Bool), v = nI b9.toNat → P (some (.int v)) H → va_S (gF A hs) s.heap H locs → cells ≤ mc → slots ≤ ms → decode cc pc = .ok (.ireturn, 1) → W p l e R s m args below meth c H locs cells slots Q (F0 m pc ls [.int v])) → (∀ (pc : Nat) (ls : Array Slot) (rest : List Value) (H : Heap) (locs : List Loc) (cells slots : Nat) (E : String) (q : Addr) (ce : Cell),  PX E q H → va_S (gF A hs) s.heap H locs → cells ≤ mc → slots ≤ ms → H[q]? = some ce → ce.vm = .none → s.vm.findClass E = some ce.cls → vx_W p l e R s m args below meth c H locs cells slots Q (F0 m pc ls rest) q) → (meth.locks = false ∧ Q = vx_MQ below (gQ hs A P) (gX hs A PX) args s mc ms (gF A hs)) → ∀ ls : Array Slot, lv_has ls maxL (lv_args 0 vs) → W p l e R s m args below meth c s.heap [] 0 0 Q (F0 m 0 ls [])) : vx_Met l y (ws_ y cc maxL (some .boolean)) (rmD d mc ms) (gPx vs X hs dC dI dA) (gQ hs A P) (gX hs A PX) mc ms (gF A hs) := by
  refine vx_ofW (cc := cc) (maxL := maxL) (ret := some .boolean) hy rfl ?_
  intro p e s m args below meth c s₁ B0 hml hE hv
  obtain ⟨rfl, hX, hK⟩ := hv
  have hts := atoms_spec (ws := ws_ y cc maxL (some .boolean)) B0.pre
  have hown : s.vm.findClass y.cls = some m.cls := findClass_of_methodNamed B0.named
  have hin : meth.name = y.name := (name_of_methodNamed B0.named B0.method).1
  have hr := B0.returns
  have hlk := B0.notSynchronized
  have SF : CallFix p m c cc maxL s vs.toArray lw_all own := ⟨B0.exec, B0.bytes, hml, hcls ▸ hown, fun w h => hts w (List.mem_cons_of_mem _ h)⟩
  rw [lg_entry_eq]
  exact body p e (rmD d mc ms) s m vs.toArray below meth c (vx_MQ below (gQ hs A P) (gX hs A PX) vs.toArray s mc ms (gF A hs)) SF ⟨Nat.le_refl _, Nat.le_refl _⟩ ⟨rfl, rfl⟩ hX hK hin hE (fun pc ls H locs cells slots v b9 hz hP9 hS h1 h2 d9 => vx_ret ( W.widen h1 h2 (W.zret SF.1 SF.2.1 hr (v := v) (by rw [hz]; cases b9 <;> rfl) (fun t ht _ => ⟨_, rfl, by rw [ht]; exact hP9, by rw [ht]; exact (hS.fr hX.2).1, by rw [ht]; exact (hS.fr hX.2).2⟩) hS.2.2 d9 hlk))) (fun pc ls rest H locs cells slots E q ce hP9 hS h1 h2 a1 a2 a3 => vx_out (fun x hx => (hE x hx).elim) hlk a1 a2 a3 (fun t ht _ => ⟨by rw [ht]; exact hP9, by rw [ht]; exact (hS.fr hX.2).1, by rw [ht]; exact (hS.fr hX.2).2⟩) hS.2.2 h1 h2) ⟨hlk, rfl⟩ _ (lv_entry vs hn)
theorem v_meta {y : MethodName} {maxL d mc ms : Nat} {vs : List Value} {X : State → Heap → Prop} {P : Option Value → Heap → Prop} {PX : String → Addr → Heap → Prop} {own : String} (hy : plainName y.cls = true) (hcls : y.cls = own) (hn : (lg_sl vs).length ≤ maxL) {rt : FieldType} (hrt : (∃ n, rt = .object n) ∨ ∃ t, rt = .array t) 
    (body : ∀ (p : Program) (e : Env) (R : Room) (s : State) (m : MethodId) (args : Array Value) (below : List Frame) (meth : Method) (c : Code) (Q : State → Prop), CallFix p m c cc maxL s args lw_all own → rmOK d R → R.cells = mc ∧ R.slots = ms → X s s.heap ∧ s.heap.size = hs → KK dC dI dA s → meth.name = y.name → (∀ x ∈ c.exceptionTable.toList, False) → (∀ (pc : Nat) (ls : Array Slot) (H : Heap) (locs : List Loc) (cells slots : Nat) (v : Value), (v = .null ∨ ∃ a, v = .ref a) → P (some v) H → va_S (gF A hs) s.heap H locs → cells ≤ mc → slots ≤ ms → decode cc pc = .ok (.areturn, 1) → W p l e R s m args below meth c H locs cells slots Q (F0 m pc ls [v])) → (∀ (pc : Nat) (ls : Array Slot) (rest : List Value) (H : Heap) (locs : List Loc) (cells slots : Nat) (E : String) (q : Addr) (ce : Cell),  PX E q H → va_S (gF A hs) s.heap H locs → cells ≤ mc → slots ≤ ms → H[q]? = some ce → ce.vm = .none → s.vm.findClass E = some ce.cls → vx_W p l e R s m args below meth c H locs cells slots Q (F0 m pc ls rest) q) → (meth.locks = false ∧ Q = vx_MQ below (gQ hs A P) (gX hs A PX) args s mc ms (gF A hs)) → ∀ ls : Array Slot, lv_has ls maxL (lv_args 0 vs) → W p l e R s m args below meth c s.heap [] 0 0 Q (F0 m 0 ls [])) : vx_Met l y (ws_ y cc maxL (some rt)) (rmD d mc ms) (gPx vs X hs dC dI dA) (gQ hs A P) (gX hs A PX) mc ms (gF A hs) := by
  refine vx_ofW (cc := cc) (maxL := maxL) (ret := some rt) hy rfl ?_
  intro p e s m args below meth c s₁ B0 hml hE hv
  obtain ⟨rfl, hX, hK⟩ := hv
  have hts := atoms_spec (ws := ws_ y cc maxL (some rt)) B0.pre
  have hown : s.vm.findClass y.cls = some m.cls := findClass_of_methodNamed B0.named
  have hin : meth.name = y.name := (name_of_methodNamed B0.named B0.method).1
  have hr := B0.returns
  have hlk := B0.notSynchronized
  have SF : CallFix p m c cc maxL s vs.toArray lw_all own := ⟨B0.exec, B0.bytes, hml, hcls ▸ hown, fun w h => hts w (List.mem_cons_of_mem _ h)⟩
  rw [lg_entry_eq]
  exact body p e (rmD d mc ms) s m vs.toArray below meth c (vx_MQ below (gQ hs A P) (gX hs A PX) vs.toArray s mc ms (gF A hs)) SF ⟨Nat.le_refl _, Nat.le_refl _⟩ ⟨rfl, rfl⟩ hX hK hin hE (fun pc ls H locs cells slots v hv hP9 hS h1 h2 d9 => vx_ret ( W.widen h1 h2 (W.aret SF.1 SF.2.1 hr hrt hv (v := v) (fun t ht _ => ⟨_, rfl, by rw [ht]; exact hP9, by rw [ht]; exact (hS.fr hX.2).1, by rw [ht]; exact (hS.fr hX.2).2⟩) hS.2.2 d9 hlk))) (fun pc ls rest H locs cells slots E q ce hP9 hS h1 h2 a1 a2 a3 => vx_out (fun x hx => (hE x hx).elim) hlk a1 a2 a3 (fun t ht _ => ⟨by rw [ht]; exact hP9, by rw [ht]; exact (hS.fr hX.2).1, by rw [ht]; exact (hS.fr hX.2).2⟩) hS.2.2 h1 h2) ⟨hlk, rfl⟩ _ (lv_entry vs hn)
theorem v_metv {y : MethodName} {maxL d mc ms : Nat} {vs : List Value} {X : State → Heap → Prop} {P : Option Value → Heap → Prop} {PX : String → Addr → Heap → Prop} {own : String} (hy : plainName y.cls = true) (hcls : y.cls = own) (hn : (lg_sl vs).length ≤ maxL) 
    (body : ∀ (p : Program) (e : Env) (R : Room) (s : State) (m : MethodId) (args : Array Value) (below : List Frame) (meth : Method) (c : Code) (Q : State → Prop), CallFix p m c cc maxL s args lw_all own → rmOK d R → R.cells = mc ∧ R.slots = ms → X s s.heap ∧ s.heap.size = hs → KK dC dI dA s → meth.name = y.name → (∀ x ∈ c.exceptionTable.toList, False) → (∀ (pc : Nat) (ls : Array Slot) (H : Heap) (locs : List Loc) (cells slots : Nat), P none H → va_S (gF A hs) s.heap H locs → cells ≤ mc → slots ≤ ms → decode cc pc = .ok (.return_, 1) → W p l e R s m args below meth c H locs cells slots Q (F0 m pc ls [])) → (∀ (pc : Nat) (ls : Array Slot) (rest : List Value) (H : Heap) (locs : List Loc) (cells slots : Nat) (E : String) (q : Addr) (ce : Cell),  PX E q H → va_S (gF A hs) s.heap H locs → cells ≤ mc → slots ≤ ms → H[q]? = some ce → ce.vm = .none → s.vm.findClass E = some ce.cls → vx_W p l e R s m args below meth c H locs cells slots Q (F0 m pc ls rest) q) → (meth.locks = false ∧ Q = vx_MQ below (gQ hs A P) (gX hs A PX) args s mc ms (gF A hs)) → ∀ ls : Array Slot, lv_has ls maxL (lv_args 0 vs) → W p l e R s m args below meth c s.heap [] 0 0 Q (F0 m 0 ls [])) : vx_Met l y (ws_ y cc maxL (none)) (rmD d mc ms) (gPx vs X hs dC dI dA) (gQ hs A P) (gX hs A PX) mc ms (gF A hs) := by
  refine vx_ofW (cc := cc) (maxL := maxL) (ret := none) hy rfl ?_
  intro p e s m args below meth c s₁ B0 hml hE hv
  obtain ⟨rfl, hX, hK⟩ := hv
  have hts := atoms_spec (ws := ws_ y cc maxL (none)) B0.pre
  have hown : s.vm.findClass y.cls = some m.cls := findClass_of_methodNamed B0.named
  have hin : meth.name = y.name := (name_of_methodNamed B0.named B0.method).1
  have hr := B0.returns
  have hlk := B0.notSynchronized
  have SF : CallFix p m c cc maxL s vs.toArray lw_all own := ⟨B0.exec, B0.bytes, hml, hcls ▸ hown, fun w h => hts w (List.mem_cons_of_mem _ h)⟩
  rw [lg_entry_eq]
  exact body p e (rmD d mc ms) s m vs.toArray below meth c (vx_MQ below (gQ hs A P) (gX hs A PX) vs.toArray s mc ms (gF A hs)) SF ⟨Nat.le_refl _, Nat.le_refl _⟩ ⟨rfl, rfl⟩ hX hK hin hE (fun pc ls H locs cells slots hP9 hS h1 h2 d9 => vx_ret ( W.widen h1 h2 (W.vret SF.1 SF.2.1 hr (fun t ht _ => ⟨_, rfl, by rw [ht]; exact hP9, by rw [ht]; exact (hS.fr hX.2).1, by rw [ht]; exact (hS.fr hX.2).2⟩) hS.2.2 d9 hlk))) (fun pc ls rest H locs cells slots E q ce hP9 hS h1 h2 a1 a2 a3 => vx_out (fun x hx => (hE x hx).elim) hlk a1 a2 a3 (fun t ht _ => ⟨by rw [ht]; exact hP9, by rw [ht]; exact (hS.fr hX.2).1, by rw [ht]; exact (hS.fr hX.2).2⟩) hS.2.2 h1 h2) ⟨hlk, rfl⟩ _ (lv_entry vs hn)
theorem w_meti {y : MethodName} {maxL d mc ms : Nat} {vs : List Value} {X : State → Heap → Prop} {P : Option Value → Heap → Prop} {PX : String → Addr → Heap → Prop} {hh : List (Nat × Nat × Nat × Nat)} {own : String} (hy : plainName y.cls = true) (hcls : y.cls = own) (hn : (lg_sl vs).length ≤ maxL) 
    (body : ∀ (p : Program) (e : Env) (R : Room) (s : State) (m : MethodId) (args : Array Value) (below : List Frame) (meth : Method) (c : Code) (Q : State → Prop), CallFix p m c cc maxL s args lw_all own → rmOK d R → R.cells = mc ∧ R.slots = ms → X s s.heap ∧ s.heap.size = hs → KK dC dI dA s → meth.name = y.name → c.exceptionTable.toList = tableOf hh → (∀ (pc : Nat) (ls : Array Slot) (H : Heap) (locs : List Loc) (cells slots : Nat) (v : Int32), P (some (.int v)) H → va_S (gF A hs) s.heap H locs → cells ≤ mc → slots ≤ ms → decode cc pc = .ok (.ireturn, 1) → W p l e R s m args below meth c H locs cells slots Q (F0 m pc ls [.int v])) → (∀ (pc : Nat) (ls : Array Slot) (rest : List Value) (H : Heap) (locs : List Loc) (cells slots : Nat) (E : String) (q : Addr) (ce : Cell), (∀ z ∈ tableOf hh, covers z pc = false ∨ (z.catchType ≠ 0 ∧ ∃ nm : String, (Cond.classLink own z.catchType nm).before args s = true ∧ va_Nc E nm s)) → PX E q H → va_S (gF A hs) s.heap H locs → cells ≤ mc → slots ≤ ms → H[q]? = some ce → ce.vm = .none → s.vm.findClass E = some ce.cls → vx_W p l e R s m args below meth c H locs cells slots Q (F0 m pc ls rest) q) → (meth.locks = false ∧ Q = vx_MQ below (gQ hs A P) (gX hs A PX) args s mc ms (gF A hs)) → ∀ ls : Array Slot, lv_has ls maxL (lv_args 0 vs) → W p l e R s m args below meth c s.heap [] 0 0 Q (F0 m 0 ls [])) : vx_Met l y (wsW_ y cc maxL (some .int) hh) (rmD d mc ms) (gPx vs X hs dC dI dA) (gQ hs A P) (gX hs A PX) mc ms (gF A hs) := by
  refine vx_ofWH (cc := cc) (maxL := maxL) (ret := some .int) (hh := hh) hy rfl ?_
  intro p e s m args below meth c s₁ B0 hml hv
  obtain ⟨rfl, hX, hK⟩ := hv
  have hts := atoms_spec (ws := wsW_ y cc maxL (some .int) hh) B0.pre
  have hown : s.vm.findClass y.cls = some m.cls := findClass_of_methodNamed B0.named
  have hin : meth.name = y.name := (name_of_methodNamed B0.named B0.method).1
  have hr := B0.returns
  have hlk := B0.notSynchronized
  have SF : CallFix p m c cc maxL s vs.toArray lw_all own := ⟨B0.exec, B0.bytes, hml, hcls ▸ hown, fun w h => hts w (List.mem_cons_of_mem _ h)⟩
  have hT9 : c.exceptionTable.toList = tableOf hh := vx_table (x := y) B0 (hts _ List.mem_cons_self)
  rw [lg_entry_eq]
  exact body p e (rmD d mc ms) s m vs.toArray below meth c (vx_MQ below (gQ hs A P) (gX hs A PX) vs.toArray s mc ms (gF A hs)) SF ⟨Nat.le_refl _, Nat.le_refl _⟩ ⟨rfl, rfl⟩ hX hK hin hT9 (fun pc ls H locs cells slots v hP9 hS h1 h2 d9 => vx_ret ( W.widen h1 h2 (W.iret SF.1 SF.2.1 hr (v := v) (fun t ht _ => ⟨_, rfl, by rw [ht]; exact hP9, by rw [ht]; exact (hS.fr hX.2).1, by rw [ht]; exact (hS.fr hX.2).2⟩) hS.2.2 d9 hlk))) (fun pc ls rest H locs cells slots E q ce hps hP9 hS h1 h2 a1 a2 a3 => vx_outP (own := own) (hcls ▸ hown) hlk (fun z hz => hps z (hT9 ▸ hz)) a1 a2 a3 (fun t ht _ => ⟨by rw [ht]; exact hP9, by rw [ht]; exact (hS.fr hX.2).1, by rw [ht]; exact (hS.fr hX.2).2⟩) hS.2.2 h1 h2) ⟨hlk, rfl⟩ _ (lv_entry vs hn)
theorem w_metz {y : MethodName} {maxL d mc ms : Nat} {vs : List Value} {X : State → Heap → Prop} {P : Option Value → Heap → Prop} {PX : String → Addr → Heap → Prop} {hh : List (Nat × Nat × Nat × Nat)} {own : String} (hy : plainName y.cls = true) (hcls : y.cls = own) (hn : (lg_sl vs).length ≤ maxL) 
    (body : ∀ (p : Program) (e : Env) (R : Room) (s : State) (m : MethodId) (args : Array Value) (below : List Frame) (meth : Method) (c : Code) (Q : State → Prop), CallFix p m c cc maxL s args lw_all own → rmOK d R → R.cells = mc ∧ R.slots = ms → X s s.heap ∧ s.heap.size = hs → KK dC dI dA s → meth.name = y.name → c.exceptionTable.toList = tableOf hh → (∀ (pc : Nat) (ls : Array Slot) (H : Heap) (locs : List Loc) (cells slots : Nat) (v : Int32) (b9 : Bool), v = nI b9.toNat → P (some (.int v)) H → va_S (gF A hs) s.heap H locs → cells ≤ mc → slots ≤ ms → decode cc pc = .ok (.ireturn, 1) → W p l e R s m args below meth c H locs cells slots Q (F0 m pc ls [.int v])) → (∀ (pc : Nat) (ls : Array Slot) (rest : List Value) (H : Heap) (locs : List Loc) (cells slots : Nat) (E : String) (q : Addr) (ce : Cell), (∀ z ∈ tableOf hh, covers z pc = false ∨ (z.catchType ≠ 0 ∧ ∃ nm : String, (Cond.classLink own z.catchType nm).before args s = true ∧ va_Nc E nm s)) → PX E q H → va_S (gF A hs) s.heap H locs → cells ≤ mc → slots ≤ ms → H[q]? = some ce → ce.vm = .none → s.vm.findClass E = some ce.cls → vx_W p l e R s m args below meth c H locs cells slots Q (F0 m pc ls rest) q) → (meth.locks = false ∧ Q = vx_MQ below (gQ hs A P) (gX hs A PX) args s mc ms (gF A hs)) → ∀ ls : Array Slot, lv_has ls maxL (lv_args 0 vs) → W p l e R s m args below meth c s.heap [] 0 0 Q (F0 m 0 ls [])) : vx_Met l y (wsW_ y cc maxL (some .boolean) hh) (rmD d mc ms) (gPx vs X hs dC dI dA) (gQ hs A P) (gX hs A PX) mc ms (gF A hs) := by
  refine vx_ofWH (cc := cc) (maxL := maxL) (ret := some .boolean) (hh := hh) hy rfl ?_
  intro p e s m args below meth c s₁ B0 hml hv
  obtain ⟨rfl, hX, hK⟩ := hv
  have hts := atoms_spec (ws := wsW_ y cc maxL (some .boolean) hh) B0.pre
  have hown : s.vm.findClass y.cls = some m.cls := findClass_of_methodNamed B0.named
  have hin : meth.name = y.name := (name_of_methodNamed B0.named B0.method).1
  have hr := B0.returns
  have hlk := B0.notSynchronized
  have SF : CallFix p m c cc maxL s vs.toArray lw_all own := ⟨B0.exec, B0.bytes, hml, hcls ▸ hown, fun w h => hts w (List.mem_cons_of_mem _ h)⟩
  have hT9 : c.exceptionTable.toList = tableOf hh := vx_table (x := y) B0 (hts _ List.mem_cons_self)
  rw [lg_entry_eq]
  exact body p e (rmD d mc ms) s m vs.toArray below meth c (vx_MQ below (gQ hs A P) (gX hs A PX) vs.toArray s mc ms (gF A hs)) SF ⟨Nat.le_refl _, Nat.le_refl _⟩ ⟨rfl, rfl⟩ hX hK hin hT9 (fun pc ls H locs cells slots v b9 hz hP9 hS h1 h2 d9 => vx_ret ( W.widen h1 h2 (W.zret SF.1 SF.2.1 hr (v := v) (by rw [hz]; cases b9 <;> rfl) (fun t ht _ => ⟨_, rfl, by rw [ht]; exact hP9, by rw [ht]; exact (hS.fr hX.2).1, by rw [ht]; exact (hS.fr hX.2).2⟩) hS.2.2 d9 hlk))) (fun pc ls rest H locs cells slots E q ce hps hP9 hS h1 h2 a1 a2 a3 => vx_outP (own := own) (hcls ▸ hown) hlk (fun z hz => hps z (hT9 ▸ hz)) a1 a2 a3 (fun t ht _ => ⟨by rw [ht]; exact hP9, by rw [ht]; exact (hS.fr hX.2).1, by rw [ht]; exact (hS.fr hX.2).2⟩) hS.2.2 h1 h2) ⟨hlk, rfl⟩ _ (lv_entry vs hn)
theorem w_meta {y : MethodName} {maxL d mc ms : Nat} {vs : List Value} {X : State → Heap → Prop} {P : Option Value → Heap → Prop} {PX : String → Addr → Heap → Prop} {hh : List (Nat × Nat × Nat × Nat)} {own : String} (hy : plainName y.cls = true) (hcls : y.cls = own) (hn : (lg_sl vs).length ≤ maxL) {rt : FieldType} (hrt : (∃ n, rt = .object n) ∨ ∃ t, rt = .array t) 
    (body : ∀ (p : Program) (e : Env) (R : Room) (s : State) (m : MethodId) (args : Array Value) (below : List Frame) (meth : Method) (c : Code) (Q : State → Prop), CallFix p m c cc maxL s args lw_all own → rmOK d R → R.cells = mc ∧ R.slots = ms → X s s.heap ∧ s.heap.size = hs → KK dC dI dA s → meth.name = y.name → c.exceptionTable.toList = tableOf hh → (∀ (pc : Nat) (ls : Array Slot) (H : Heap) (locs : List Loc) (cells slots : Nat) (v : Value), (v = .null ∨ ∃ a, v = .ref a) → P (some v) H → va_S (gF A hs) s.heap H locs → cells ≤ mc → slots ≤ ms → decode cc pc = .ok (.areturn, 1) → W p l e R s m args below meth c H locs cells slots Q (F0 m pc ls [v])) → (∀ (pc : Nat) (ls : Array Slot) (rest : List Value) (H : Heap) (locs : List Loc) (cells slots : Nat) (E : String) (q : Addr) (ce : Cell), (∀ z ∈ tableOf hh, covers z pc = false ∨ (z.catchType ≠ 0 ∧ ∃ nm : String, (Cond.classLink own z.catchType nm).before args s = true ∧ va_Nc E nm s)) → PX E q H → va_S (gF A hs) s.heap H locs → cells ≤ mc → slots ≤ ms → H[q]? = some ce → ce.vm = .none → s.vm.findClass E = some ce.cls → vx_W p l e R s m args below meth c H locs cells slots Q (F0 m pc ls rest) q) → (meth.locks = false ∧ Q = vx_MQ below (gQ hs A P) (gX hs A PX) args s mc ms (gF A hs)) → ∀ ls : Array Slot, lv_has ls maxL (lv_args 0 vs) → W p l e R s m args below meth c s.heap [] 0 0 Q (F0 m 0 ls [])) : vx_Met l y (wsW_ y cc maxL (some rt) hh) (rmD d mc ms) (gPx vs X hs dC dI dA) (gQ hs A P) (gX hs A PX) mc ms (gF A hs) := by
  refine vx_ofWH (cc := cc) (maxL := maxL) (ret := some rt) (hh := hh) hy rfl ?_
  intro p e s m args below meth c s₁ B0 hml hv
  obtain ⟨rfl, hX, hK⟩ := hv
  have hts := atoms_spec (ws := wsW_ y cc maxL (some rt) hh) B0.pre
  have hown : s.vm.findClass y.cls = some m.cls := findClass_of_methodNamed B0.named
  have hin : meth.name = y.name := (name_of_methodNamed B0.named B0.method).1
  have hr := B0.returns
  have hlk := B0.notSynchronized
  have SF : CallFix p m c cc maxL s vs.toArray lw_all own := ⟨B0.exec, B0.bytes, hml, hcls ▸ hown, fun w h => hts w (List.mem_cons_of_mem _ h)⟩
  have hT9 : c.exceptionTable.toList = tableOf hh := vx_table (x := y) B0 (hts _ List.mem_cons_self)
  rw [lg_entry_eq]
  exact body p e (rmD d mc ms) s m vs.toArray below meth c (vx_MQ below (gQ hs A P) (gX hs A PX) vs.toArray s mc ms (gF A hs)) SF ⟨Nat.le_refl _, Nat.le_refl _⟩ ⟨rfl, rfl⟩ hX hK hin hT9 (fun pc ls H locs cells slots v hv hP9 hS h1 h2 d9 => vx_ret ( W.widen h1 h2 (W.aret SF.1 SF.2.1 hr hrt hv (v := v) (fun t ht _ => ⟨_, rfl, by rw [ht]; exact hP9, by rw [ht]; exact (hS.fr hX.2).1, by rw [ht]; exact (hS.fr hX.2).2⟩) hS.2.2 d9 hlk))) (fun pc ls rest H locs cells slots E q ce hps hP9 hS h1 h2 a1 a2 a3 => vx_outP (own := own) (hcls ▸ hown) hlk (fun z hz => hps z (hT9 ▸ hz)) a1 a2 a3 (fun t ht _ => ⟨by rw [ht]; exact hP9, by rw [ht]; exact (hS.fr hX.2).1, by rw [ht]; exact (hS.fr hX.2).2⟩) hS.2.2 h1 h2) ⟨hlk, rfl⟩ _ (lv_entry vs hn)
theorem w_metv {y : MethodName} {maxL d mc ms : Nat} {vs : List Value} {X : State → Heap → Prop} {P : Option Value → Heap → Prop} {PX : String → Addr → Heap → Prop} {hh : List (Nat × Nat × Nat × Nat)} {own : String} (hy : plainName y.cls = true) (hcls : y.cls = own) (hn : (lg_sl vs).length ≤ maxL) 
    (body : ∀ (p : Program) (e : Env) (R : Room) (s : State) (m : MethodId) (args : Array Value) (below : List Frame) (meth : Method) (c : Code) (Q : State → Prop), CallFix p m c cc maxL s args lw_all own → rmOK d R → R.cells = mc ∧ R.slots = ms → X s s.heap ∧ s.heap.size = hs → KK dC dI dA s → meth.name = y.name → c.exceptionTable.toList = tableOf hh → (∀ (pc : Nat) (ls : Array Slot) (H : Heap) (locs : List Loc) (cells slots : Nat), P none H → va_S (gF A hs) s.heap H locs → cells ≤ mc → slots ≤ ms → decode cc pc = .ok (.return_, 1) → W p l e R s m args below meth c H locs cells slots Q (F0 m pc ls [])) → (∀ (pc : Nat) (ls : Array Slot) (rest : List Value) (H : Heap) (locs : List Loc) (cells slots : Nat) (E : String) (q : Addr) (ce : Cell), (∀ z ∈ tableOf hh, covers z pc = false ∨ (z.catchType ≠ 0 ∧ ∃ nm : String, (Cond.classLink own z.catchType nm).before args s = true ∧ va_Nc E nm s)) → PX E q H → va_S (gF A hs) s.heap H locs → cells ≤ mc → slots ≤ ms → H[q]? = some ce → ce.vm = .none → s.vm.findClass E = some ce.cls → vx_W p l e R s m args below meth c H locs cells slots Q (F0 m pc ls rest) q) → (meth.locks = false ∧ Q = vx_MQ below (gQ hs A P) (gX hs A PX) args s mc ms (gF A hs)) → ∀ ls : Array Slot, lv_has ls maxL (lv_args 0 vs) → W p l e R s m args below meth c s.heap [] 0 0 Q (F0 m 0 ls [])) : vx_Met l y (wsW_ y cc maxL (none) hh) (rmD d mc ms) (gPx vs X hs dC dI dA) (gQ hs A P) (gX hs A PX) mc ms (gF A hs) := by
  refine vx_ofWH (cc := cc) (maxL := maxL) (ret := none) (hh := hh) hy rfl ?_
  intro p e s m args below meth c s₁ B0 hml hv
  obtain ⟨rfl, hX, hK⟩ := hv
  have hts := atoms_spec (ws := wsW_ y cc maxL (none) hh) B0.pre
  have hown : s.vm.findClass y.cls = some m.cls := findClass_of_methodNamed B0.named
  have hin : meth.name = y.name := (name_of_methodNamed B0.named B0.method).1
  have hr := B0.returns
  have hlk := B0.notSynchronized
  have SF : CallFix p m c cc maxL s vs.toArray lw_all own := ⟨B0.exec, B0.bytes, hml, hcls ▸ hown, fun w h => hts w (List.mem_cons_of_mem _ h)⟩
  have hT9 : c.exceptionTable.toList = tableOf hh := vx_table (x := y) B0 (hts _ List.mem_cons_self)
  rw [lg_entry_eq]
  exact body p e (rmD d mc ms) s m vs.toArray below meth c (vx_MQ below (gQ hs A P) (gX hs A PX) vs.toArray s mc ms (gF A hs)) SF ⟨Nat.le_refl _, Nat.le_refl _⟩ ⟨rfl, rfl⟩ hX hK hin hT9 (fun pc ls H locs cells slots hP9 hS h1 h2 d9 => vx_ret ( W.widen h1 h2 (W.vret SF.1 SF.2.1 hr (fun t ht _ => ⟨_, rfl, by rw [ht]; exact hP9, by rw [ht]; exact (hS.fr hX.2).1, by rw [ht]; exact (hS.fr hX.2).2⟩) hS.2.2 d9 hlk))) (fun pc ls rest H locs cells slots E q ce hps hP9 hS h1 h2 a1 a2 a3 => vx_outP (own := own) (hcls ▸ hown) hlk (fun z hz => hps z (hT9 ▸ hz)) a1 a2 a3 (fun t ht _ => ⟨by rw [ht]; exact hP9, by rw [ht]; exact (hS.fr hX.2).1, by rw [ht]; exact (hS.fr hX.2).2⟩) hS.2.2 h1 h2) ⟨hlk, rfl⟩ _ (lv_entry vs hn)
theorem g_run {mc ms : Nat} {P : Option Value → Heap → Prop} {a : Array Value} (hr : va_Run p l e R s m args below meth c H locs cells slots mc ms (F0 m pc ls st) rest (gQ hs A P a) (gF A hs)) (hz : H.size = hs) (hS : va_S A0 H0 H locs) (hA : ∀ q, A q → A0 q) (h0 : ∀ q, H0.size ≤ q → A0 q)
    (kk : ∀ (v : Option Value) (H1 : Heap) (locs1 : List Loc), P v H1 → H.size ≤ H1.size → (∀ q : Nat, q < H.size → ¬ A q → H1[q]? = H[q]?) → va_S A0 H0 H1 locs1 → W p l e R s m args below meth c H1 locs1 (cells + mc) (slots + ms) Q (F0 m (pc + 3) ls (v.toList ++ rest))) : W p l e R s m args below meth c H locs cells slots Q (F0 m pc ls st) := by
  subst hz
  intro T hT X
  obtain ⟨v, st₀, t, T', L, h9, X', hL, e1, e2, ⟨v', hv, hP, hz1, hh⟩, st⟩ := hr T hT X
  cases hv
  rw [h9, ← e1] at hh
  rw [← e1] at hP hz1
  obtain ⟨t2, a1, b1⟩ := kk _ T'.heap (locs ++ L) hP hz1 hh (hS.called rfl hz1 hh hA h0 hL) T' rfl X'
  exact ⟨t2, st t2 a1, b1⟩
theorem g_run5 {mc ms : Nat} {P : Option Value → Heap → Prop} {a : Array Value} (hr : va_Run5 p l e R s m args below meth c H locs cells slots mc ms (F0 m pc ls st) rest (gQ hs A P a) (gF A hs)) (hz : H.size = hs) (hS : va_S A0 H0 H locs) (hA : ∀ q, A q → A0 q) (h0 : ∀ q, H0.size ≤ q → A0 q)
    (kk : ∀ (v : Option Value) (H1 : Heap) (locs1 : List Loc), P v H1 → H.size ≤ H1.size → (∀ q : Nat, q < H.size → ¬ A q → H1[q]? = H[q]?) → va_S A0 H0 H1 locs1 → W p l e R s m args below meth c H1 locs1 (cells + mc) (slots + ms) Q (F0 m (pc + 5) ls (v.toList ++ rest))) : W p l e R s m args below meth c H locs cells slots Q (F0 m pc ls st) := by
  subst hz
  intro T hT X
  obtain ⟨v, st₀, t, T', L, h9, X', hL, e1, e2, ⟨v', hv, hP, hz1, hh⟩, st⟩ := hr T hT X
  cases hv
  rw [h9, ← e1] at hh
  rw [← e1] at hP hz1
  obtain ⟨t2, a1, b1⟩ := kk _ T'.heap (locs ++ L) hP hz1 hh (hS.called rfl hz1 hh hA h0 hL) T' rfl X'
  exact ⟨t2, st t2 a1, b1⟩
theorem g_runX {mc ms : Nat} {P : Option Value → Heap → Prop} {PX : String → Addr → Heap → Prop} {a : Array Value} (hr : vx_Run p l e R s m args below meth c H locs cells slots mc ms (F0 m pc ls st) rest (gQ hs A P a) (gX hs A PX) (gF A hs)) (hz : H.size = hs) (hS : va_S A0 H0 H locs) (hA : ∀ q, A q → A0 q) (h0 : ∀ q, H0.size ≤ q → A0 q)
    (kk : ∀ (v : Option Value) (H1 : Heap) (locs1 : List Loc), P v H1 → H.size ≤ H1.size → (∀ q : Nat, q < H.size → ¬ A q → H1[q]? = H[q]?) → va_S A0 H0 H1 locs1 → W p l e R s m args below meth c H1 locs1 (cells + mc) (slots + ms) Q (F0 m (pc + 3) ls (v.toList ++ rest)))
    (kx : ∀ (E : String) (q : Addr) (ce : Cell) (H1 : Heap) (locs1 : List Loc), PX E q H1 → H.size ≤ H1.size → (∀ q : Nat, q < H.size → ¬ A q → H1[q]? = H[q]?) → va_S A0 H0 H1 locs1 → H1[q]? = some ce → ce.vm = .none → s.vm.findClass E = some ce.cls → vx_W p l e R s m args below meth c H1 locs1 (cells + mc) (slots + ms) Q (F0 m pc ls rest) q) : W p l e R s m args below meth c H locs cells slots Q (F0 m pc ls st) := by
  subst hz
  intro T hT X
  rcases hr T hT X with ⟨v, st₀, t, T', L, h9, X', hL, e1, e2, ⟨v', hv, hP, hz1, hh⟩, st⟩ | ⟨q, st₀, t, T', L, E, ce, h9, X', hL, e1, e2, ⟨hP, hz1, hh⟩, a1, a2, a3, st⟩
  · cases hv
    rw [h9, ← e1] at hh
    rw [← e1] at hP hz1
    obtain ⟨t2, a1, b1⟩ := kk _ T'.heap (locs ++ L) hP hz1 hh (hS.called rfl hz1 hh hA h0 hL) T' rfl X'
    exact ⟨t2, st t2 a1, b1⟩
  · rw [h9, ← e1] at hh
    rw [← e1] at hP hz1 a1
    obtain ⟨t2, b1, b2⟩ := kx E q ce T'.heap (locs ++ L) hP hz1 hh (hS.called rfl hz1 hh hA h0 hL) a1 a2 a3 T' rfl X'
    exact ⟨t2, st.trans b1, b2⟩
theorem g_rV {nL index d maxL n mc ms : Nat} {y : MethodName} {bytes : ByteArray} {ret : Option FieldType} {X : State → Heap → Prop} {Qc : Array Value → State → Outcome → State → Prop} {free : Addr → Prop} {own C : String} {b : Nat} {As : List Value} (SF : CallFix p m c cc nL s args lw_all own) (hK : KK dC dI dA s) (rk : rmOK (d + 1) R) (hM : Met l y (ws_ y bytes maxL ret) (rmD d mc ms) (uPx (.ref b :: As) X dC dI dA) Qc mc ms free)
    (hw : GoodIn lw_all (wsV own index C y (ws_ y bytes maxL ret))) (hd : y.cls = C ∧ y.cls ≠ "java/lang/invoke/MethodHandle" ∧ y.cls ≠ "java/lang/invoke/VarHandle" ∧ (parseMethodDescriptor y.desc).map (fun d => d.parameters.length) = some n) (hn : As.length = n) (hm : maxL ≤ 45)
    (hcell : ∃ cell : Cell, H[b]? = some cell ∧ cell.vm.isStatics = false ∧ s.vm.findClass C = some cell.cls) (hX : XOK X) (hΨ : X s H) (hsz : ls.size = nL) (hcat : (rest.map fun v => v.category).sum ≤ 8) (hcs : cells + mc ≤ R.cells ∧ slots + ms ≤ R.slots) (hst : st = As.reverse ++ .ref b :: rest) (hdg : decode cc pc = .ok (.invokevirtual index, 3)) :
    va_Run p l e R s m args below meth c H locs cells slots mc ms (F0 m pc ls st) rest (Qc (Value.ref b :: As).toArray) free :=
  va_runV SF hM (cwV n SF.2.2.2.2 hw rfl rfl rfl hd (rk.call hm)) ⟨u_blindX hX, hcell, fun U hU hW => ⟨rfl, by rw [hU]; exact hX.2 s U H hW hΨ, va_K.moved hW.alike hK⟩⟩ rfl hn hsz hst (lv_room hcat) hdg hcs
theorem g_rS {nL index d maxL n mc ms : Nat} {y : MethodName} {bytes : ByteArray} {ret : Option FieldType} {X : State → Heap → Prop} {Qc : Array Value → State → Outcome → State → Prop} {free : Addr → Prop} {own : String} {As : List Value} (SF : CallFix p m c cc nL s args lw_all own) (hK : KK dC dI dA s) (rk : rmOK (d + 1) R) (hM : Met l y (ws_ y bytes maxL ret) (rmD d mc ms) (uPx As X dC dI dA) Qc mc ms free)
    (hw : GoodIn lw_all (va_wsS own index y (ws_ y bytes maxL ret))) (hd : y.cls ≠ "java/lang/invoke/MethodHandle" ∧ y.cls ≠ "java/lang/invoke/VarHandle" ∧ (parseMethodDescriptor y.desc).map (fun d => d.parameters.length) = some n) (hn : As.length = n) (hm : maxL ≤ 45)
    (hX : XOK X) (hΨ : X s H) (hsz : ls.size = nL) (hcat : (rest.map fun v => v.category).sum ≤ 8) (hcs : cells + mc ≤ R.cells ∧ slots + ms ≤ R.slots) (hst : st = As.reverse ++ rest) (hdg : decode cc pc = .ok (.invokestatic index, 3)) :
    va_Run p l e R s m args below meth c H locs cells slots mc ms (F0 m pc ls st) rest (Qc As.toArray) free :=
  va_runS SF hM (va_cwS n SF.2.2.2.2 hw rfl rfl rfl hd (rk.call hm)) ⟨u_blindX hX, fun U hU hW => ⟨rfl, by rw [hU]; exact hX.2 s U H hW hΨ, va_K.moved hW.alike hK⟩⟩ rfl hn hsz hst (lv_room hcat) hdg hcs
theorem g_rVW {hh : List (Nat × Nat × Nat × Nat)} {nL index d maxL n mc ms : Nat} {y : MethodName} {bytes : ByteArray} {ret : Option FieldType} {X : State → Heap → Prop} {Qc : Array Value → State → Outcome → State → Prop} {free : Addr → Prop} {own C : String} {b : Nat} {As : List Value} (SF : CallFix p m c cc nL s args lw_all own) (hK : KK dC dI dA s) (rk : rmOK (d + 1) R) (hM : Met l y (wsW_ y bytes maxL ret hh) (rmD d mc ms) (uPx (.ref b :: As) X dC dI dA) Qc mc ms free)
    (hw : GoodIn lw_all (wsV own index C y (wsW_ y bytes maxL ret hh))) (hd : y.cls = C ∧ y.cls ≠ "java/lang/invoke/MethodHandle" ∧ y.cls ≠ "java/lang/invoke/VarHandle" ∧ (parseMethodDescriptor y.desc).map (fun d => d.parameters.length) = some n) (hn : As.length = n) (hm : maxL ≤ 45)
    (hcell : ∃ cell : Cell, H[b]? = some cell ∧ cell.vm.isStatics = false ∧ s.vm.findClass C = some cell.cls) (hX : XOK X) (hΨ : X s H) (hsz : ls.size = nL) (hcat : (rest.map fun v => v.category).sum ≤ 8) (hcs : cells + mc ≤ R.cells ∧ slots + ms ≤ R.slots) (hst : st = As.reverse ++ .ref b :: rest) (hdg : decode cc pc = .ok (.invokevirtual index, 3)) :
    va_Run p l e R s m args below meth c H locs cells slots mc ms (F0 m pc ls st) rest (Qc (Value.ref b :: As).toArray) free :=
  vx_runVW SF hM (vx_cwVW n SF.2.2.2.2 hw rfl rfl rfl hd (rk.call hm)) ⟨u_blindX hX, hcell, fun U hU hW => ⟨rfl, by rw [hU]; exact hX.2 s U H hW hΨ, va_K.moved hW.alike hK⟩⟩ rfl hn hsz hst (lv_room hcat) hdg hcs
theorem g_rSW {hh : List (Nat × Nat × Nat × Nat)} {nL index d maxL n mc ms : Nat} {y : MethodName} {bytes : ByteArray} {ret : Option FieldType} {X : State → Heap → Prop} {Qc : Array Value → State → Outcome → State → Prop} {free : Addr → Prop} {own : String} {As : List Value} (SF : CallFix p m c cc nL s args lw_all own) (hK : KK dC dI dA s) (rk : rmOK (d + 1) R) (hM : Met l y (wsW_ y bytes maxL ret hh) (rmD d mc ms) (uPx As X dC dI dA) Qc mc ms free)
    (hw : GoodIn lw_all (va_wsS own index y (wsW_ y bytes maxL ret hh))) (hd : y.cls ≠ "java/lang/invoke/MethodHandle" ∧ y.cls ≠ "java/lang/invoke/VarHandle" ∧ (parseMethodDescriptor y.desc).map (fun d => d.parameters.length) = some n) (hn : As.length = n) (hm : maxL ≤ 45)
    (hX : XOK X) (hΨ : X s H) (hsz : ls.size = nL) (hcat : (rest.map fun v => v.category).sum ≤ 8) (hcs : cells + mc ≤ R.cells ∧ slots + ms ≤ R.slots) (hst : st = As.reverse ++ rest) (hdg : decode cc pc = .ok (.invokestatic index, 3)) :
    va_Run p l e R s m args below meth c H locs cells slots mc ms (F0 m pc ls st) rest (Qc As.toArray) free :=
  vx_runSW SF hM (vx_cwSW n SF.2.2.2.2 hw rfl rfl rfl hd (rk.call hm)) ⟨u_blindX hX, fun U hU hW => ⟨rfl, by rw [hU]; exact hX.2 s U H hW hΨ, va_K.moved hW.alike hK⟩⟩ rfl hn hsz hst (lv_room hcat) hdg hcs
theorem v_rV {XC : String → Addr → State → State → Prop} {nL index d maxL n mc ms : Nat} {y : MethodName} {bytes : ByteArray} {ret : Option FieldType} {X : State → Heap → Prop} {Qc : Array Value → State → Outcome → State → Prop} {free : Addr → Prop} {own C : String} {b : Nat} {As : List Value} (SF : CallFix p m c cc nL s args lw_all own) (hK : KK dC dI dA s) (rk : rmOK (d + 1) R) (hM : vx_Met l y (ws_ y bytes maxL ret) (rmD d mc ms) (uPx (.ref b :: As) X dC dI dA) Qc XC mc ms free)
    (hw : GoodIn lw_all (wsV own index C y (ws_ y bytes maxL ret))) (hd : y.cls = C ∧ y.cls ≠ "java/lang/invoke/MethodHandle" ∧ y.cls ≠ "java/lang/invoke/VarHandle" ∧ (parseMethodDescriptor y.desc).map (fun d => d.parameters.length) = some n) (hn : As.length = n) (hm : maxL ≤ 45)
    (hcell : ∃ cell : Cell, H[b]? = some cell ∧ cell.vm.isStatics = false ∧ s.vm.findClass C = some cell.cls) (hX : XOK X) (hΨ : X s H) (hsz : ls.size = nL) (hcat : (rest.map fun v => v.category).sum ≤ 8) (hcs : cells + mc ≤ R.cells ∧ slots + ms ≤ R.slots) (hst : st = As.reverse ++ .ref b :: rest) (hdg : decode cc pc = .ok (.invokevirtual index, 3)) :
    vx_Run p l e R s m args below meth c H locs cells slots mc ms (F0 m pc ls st) rest (Qc (Value.ref b :: As).toArray) XC free :=
  vx_runV SF hM (cwV n SF.2.2.2.2 hw rfl rfl rfl hd (rk.call hm)) ⟨u_blindX hX, hcell, fun U hU hW => ⟨rfl, by rw [hU]; exact hX.2 s U H hW hΨ, va_K.moved hW.alike hK⟩⟩ rfl hn hsz hst (lv_room hcat) hdg hcs
theorem v_rS {XC : String → Addr → State → State → Prop} {nL index d maxL n mc ms : Nat} {y : MethodName} {bytes : ByteArray} {ret : Option FieldType} {X : State → Heap → Prop} {Qc : Array Value → State → Outcome → State → Prop} {free : Addr → Prop} {own : String} {As : List Value} (SF : CallFix p m c cc nL s args lw_all own) (hK : KK dC dI dA s) (rk : rmOK (d + 1) R) (hM : vx_Met l y (ws_ y bytes maxL ret) (rmD d mc ms) (uPx As X dC dI dA) Qc XC mc ms free)
    (hw : GoodIn lw_all (va_wsS own index y (ws_ y bytes maxL ret))) (hd : y.cls ≠ "java/lang/invoke/MethodHandle" ∧ y.cls ≠ "java/lang/invoke/VarHandle" ∧ (parseMethodDescriptor y.desc).map (fun d => d.parameters.length) = some n) (hn : As.length = n) (hm : maxL ≤ 45)
    (hX : XOK X) (hΨ : X s H) (hsz : ls.size = nL) (hcat : (rest.map fun v => v.category).sum ≤ 8) (hcs : cells + mc ≤ R.cells ∧ slots + ms ≤ R.slots) (hst : st = As.reverse ++ rest) (hdg : decode cc pc = .ok (.invokestatic index, 3)) :
    vx_Run p l e R s m args below meth c H locs cells slots mc ms (F0 m pc ls st) rest (Qc As.toArray) XC free :=
  vx_runS SF hM (va_cwS n SF.2.2.2.2 hw rfl rfl rfl hd (rk.call hm)) ⟨u_blindX hX, fun U hU hW => ⟨rfl, by rw [hU]; exact hX.2 s U H hW hΨ, va_K.moved hW.alike hK⟩⟩ rfl hn hsz hst (lv_room hcat) hdg hcs
theorem v_rVW {XC : String → Addr → State → State → Prop} {hh : List (Nat × Nat × Nat × Nat)} {nL index d maxL n mc ms : Nat} {y : MethodName} {bytes : ByteArray} {ret : Option FieldType} {X : State → Heap → Prop} {Qc : Array Value → State → Outcome → State → Prop} {free : Addr → Prop} {own C : String} {b : Nat} {As : List Value} (SF : CallFix p m c cc nL s args lw_all own) (hK : KK dC dI dA s) (rk : rmOK (d + 1) R) (hM : vx_Met l y (wsW_ y bytes maxL ret hh) (rmD d mc ms) (uPx (.ref b :: As) X dC dI dA) Qc XC mc ms free)
    (hw : GoodIn lw_all (wsV own index C y (wsW_ y bytes maxL ret hh))) (hd : y.cls = C ∧ y.cls ≠ "java/lang/invoke/MethodHandle" ∧ y.cls ≠ "java/lang/invoke/VarHandle" ∧ (parseMethodDescriptor y.desc).map (fun d => d.parameters.length) = some n) (hn : As.length = n) (hm : maxL ≤ 45)
    (hcell : ∃ cell : Cell, H[b]? = some cell ∧ cell.vm.isStatics = false ∧ s.vm.findClass C = some cell.cls) (hX : XOK X) (hΨ : X s H) (hsz : ls.size = nL) (hcat : (rest.map fun v => v.category).sum ≤ 8) (hcs : cells + mc ≤ R.cells ∧ slots + ms ≤ R.slots) (hst : st = As.reverse ++ .ref b :: rest) (hdg : decode cc pc = .ok (.invokevirtual index, 3)) :
    vx_Run p l e R s m args below meth c H locs cells slots mc ms (F0 m pc ls st) rest (Qc (Value.ref b :: As).toArray) XC free :=
  vx_runVX SF hM (vx_cwVW n SF.2.2.2.2 hw rfl rfl rfl hd (rk.call hm)) ⟨u_blindX hX, hcell, fun U hU hW => ⟨rfl, by rw [hU]; exact hX.2 s U H hW hΨ, va_K.moved hW.alike hK⟩⟩ rfl hn hsz hst (lv_room hcat) hdg hcs
theorem v_rSW {XC : String → Addr → State → State → Prop} {hh : List (Nat × Nat × Nat × Nat)} {nL index d maxL n mc ms : Nat} {y : MethodName} {bytes : ByteArray} {ret : Option FieldType} {X : State → Heap → Prop} {Qc : Array Value → State → Outcome → State → Prop} {free : Addr → Prop} {own : String} {As : List Value} (SF : CallFix p m c cc nL s args lw_all own) (hK : KK dC dI dA s) (rk : rmOK (d + 1) R) (hM : vx_Met l y (wsW_ y bytes maxL ret hh) (rmD d mc ms) (uPx As X dC dI dA) Qc XC mc ms free)
    (hw : GoodIn lw_all (va_wsS own index y (wsW_ y bytes maxL ret hh))) (hd : y.cls ≠ "java/lang/invoke/MethodHandle" ∧ y.cls ≠ "java/lang/invoke/VarHandle" ∧ (parseMethodDescriptor y.desc).map (fun d => d.parameters.length) = some n) (hn : As.length = n) (hm : maxL ≤ 45)
    (hX : XOK X) (hΨ : X s H) (hsz : ls.size = nL) (hcat : (rest.map fun v => v.category).sum ≤ 8) (hcs : cells + mc ≤ R.cells ∧ slots + ms ≤ R.slots) (hst : st = As.reverse ++ rest) (hdg : decode cc pc = .ok (.invokestatic index, 3)) :
    vx_Run p l e R s m args below meth c H locs cells slots mc ms (F0 m pc ls st) rest (Qc As.toArray) XC free :=
  vx_runSX SF hM (vx_cwSW n SF.2.2.2.2 hw rfl rfl rfl hd (rk.call hm)) ⟨u_blindX hX, fun U hU hW => ⟨rfl, by rw [hU]; exact hX.2 s U H hW hΨ, va_K.moved hW.alike hK⟩⟩ rfl hn hsz hst (lv_room hcat) hdg hcs
theorem g_rI {nL index d maxL n mc ms : Nat} {y : MethodName} {bytes : ByteArray} {X : State → Heap → Prop} {Qc : Array Value → State → Outcome → State → Prop} {free : Addr → Prop} {own : String} {b : Nat} {As : List Value} (SF : CallFix p m c cc nL s args lw_all own) (hK : KK dC dI dA s) (rk : rmOK (d + 1) R) (hM : Met l y (ws_ y bytes maxL none) (rmD d mc ms) (uPx (.ref b :: As) X dC dI dA) Qc mc ms free)
    (h1 : Cond.initialized y.cls ∈ lw_all) (h2 : Cond.methodLink own index y ∈ lw_all) (h3 : Cond.instanceMethod y ∈ lw_all) (h4 : Cond.code y bytes maxL none ∈ lw_all) (hy1 : y.name = "<init>") (hd : y.cls ≠ "java/lang/invoke/MethodHandle" ∧ y.cls ≠ "java/lang/invoke/VarHandle" ∧ (parseMethodDescriptor y.desc).map (fun d => d.parameters.length) = some n) (hn : As.length = n) (hm : maxL ≤ 45)
    (hX : XOK X) (hΨ : X s H) (hsz : ls.size = nL) (hcat : (rest.map fun v => v.category).sum ≤ 8) (hcs : cells + mc ≤ R.cells ∧ slots + ms ≤ R.slots) (hst : st = As.reverse ++ .ref b :: rest) (hdg : decode cc pc = .ok (.invokespecial index, 3)) :
    va_Run p l e R s m args below meth c H locs cells slots mc ms (F0 m pc ls st) rest (Qc (Value.ref b :: As).toArray) free :=
  va_runI SF hM (cwI n SF.2.2.2.2 (lw_meth h4) rfl rfl rfl (SF.2.2.2.2 _ h1) (SF.2.2.2.2 _ h2) (SF.2.2.2.2 _ h3) hy1 hd (rk.call hm)) ⟨u_blindX hX, fun U hU hW => ⟨rfl, by rw [hU]; exact hX.2 s U H hW hΨ, va_K.moved hW.alike hK⟩⟩ rfl hn hsz hst (lv_room hcat) hdg hcs
theorem g_rIN {host : String} {nL index d maxL n mc ms : Nat} {y : MethodName} {bytes : ByteArray} {X : State → Heap → Prop} {Qc : Array Value → State → Outcome → State → Prop} {free : Addr → Prop} {own : String} {b : Nat} {As : List Value} (SF : CallFix p m c cc nL s args lw_all own) (hK : KK dC dI dA s) (rk : rmOK (d + 1) R) (hM : Met l y (ws_ y bytes maxL none) (rmD d mc ms) (uPx (.ref b :: As) X dC dI dA) Qc mc ms free)
    (hl : va_Nw (.methodLinkNest own index y host) s) (h1 : Cond.initialized y.cls ∈ lw_all) (h3 : Cond.instanceMethod y ∈ lw_all) (h4 : Cond.code y bytes maxL none ∈ lw_all) (hy1 : y.name = "<init>") (hd : y.cls ≠ "java/lang/invoke/MethodHandle" ∧ y.cls ≠ "java/lang/invoke/VarHandle" ∧ (parseMethodDescriptor y.desc).map (fun d => d.parameters.length) = some n) (hn : As.length = n) (hm : maxL ≤ 45)
    (hX : XOK X) (hΨ : X s H) (hsz : ls.size = nL) (hcat : (rest.map fun v => v.category).sum ≤ 8) (hcs : cells + mc ≤ R.cells ∧ slots + ms ≤ R.slots) (hst : st = As.reverse ++ .ref b :: rest) (hdg : decode cc pc = .ok (.invokespecial index, 3)) :
    va_Run p l e R s m args below meth c H locs cells slots mc ms (F0 m pc ls st) rest (Qc (Value.ref b :: As).toArray) free :=
  va_runIN SF hM ⟨va_cnB n SF.2.2.2.2 (lw_meth h4) rfl rfl rfl hl (SF.2.2.2.2 _ h1) hd (rk.call hm), hy1, SF.2.2.2.2 _ h3⟩ ⟨u_blindX hX, fun U hU hW => ⟨rfl, by rw [hU]; exact hX.2 s U H hW hΨ, va_K.moved hW.alike hK⟩⟩ rfl hn hsz hst (lv_room hcat) hdg hcs
theorem g_rF {count : Nat} {x : MethodName} {cC : ClassId} {nL index d maxL n mc ms : Nat} {y : MethodName} {bytes : ByteArray} {ret : Option FieldType} {X : State → Heap → Prop} {Qc : Array Value → State → Outcome → State → Prop} {free : Addr → Prop} {own C : String} {b : Nat} {As : List Value} (SF : CallFix p m c cc nL s args lw_all own) (hK : KK dC dI dA s) (rk : rmOK (d + 1) R) (hat : ClassAt s C cC) (hM : Met l y (ws_ y bytes maxL ret) (rmD d mc ms) (uPx (.ref b :: As) X dC dI dA) Qc mc ms free)
    (hw : GoodIn lw_all (va_wsF own index C x y (ws_ y bytes maxL ret))) (hF : va_Fw C x y s) (hd : x.cls ≠ "java/lang/invoke/MethodHandle" ∧ x.cls ≠ "java/lang/invoke/VarHandle" ∧ (parseMethodDescriptor x.desc).map (fun d => d.parameters.length) = some n) (hn : As.length = n) (hm : maxL ≤ 45)
    (hcell : ∃ cell : Cell, H[b]? = some cell ∧ cell.vm.isStatics = false ∧ s.vm.findClass C = some cell.cls) (hX : XOK X) (hΨ : X s H) (hsz : ls.size = nL) (hcat : (rest.map fun v => v.category).sum ≤ 8) (hcs : cells + mc ≤ R.cells ∧ slots + ms ≤ R.slots) (hst : st = As.reverse ++ .ref b :: rest) (hdg : decode cc pc = .ok (.invokeinterface index count, 5)) :
    va_Run5 p l e R s m args below meth c H locs cells slots mc ms (F0 m pc ls st) rest (Qc (Value.ref b :: As).toArray) free :=
  va_runF hat SF hM (va_cwF n SF.2.2.2.2 hw rfl rfl rfl hF hd (rk.call hm)) ⟨u_blindX hX, hcell, fun U hU hW => ⟨rfl, by rw [hU]; exact hX.2 s U H hW hΨ, va_K.moved hW.alike hK⟩⟩ rfl hn hsz hst (lv_room hcat) hdg hcs
/-- a store into a field -/
theorem g_put (hexec : p.tables.exec = Jvm.exec) (hb : c.code = cc) {own ref C : String} {T : u_T} {N ci index : Nat} {x : Nat} {Ts : List Cond} (hts : ∀ w ∈ Ts, w.before args s = true) (hin : ∀ w ∈ u_ws C T N, w ∈ Ts) (ty0 : Nat → FieldType) (hty : ∀ k, k < N → parseFieldDescriptor (T k).2.2.1 = some (ty0 k)) (hnm : ∀ a, a < N → ∀ b, b < N → a ≠ b → (T a).2.1 ≠ (T b).2.1) (hown : s.vm.findClass own = some m.cls) (hK : KK dC dI dA s) {fs : List Value} (hP : cP dC dI x (.inr (ci, fs)) H) (hS0 : va_S A0 H0 H locs) (hA : A0 x) (hc : CL[ci]? = some (C, T, N)) (k : Nat) (hk : k < N) (hlink : (Cond.fieldLink own index ref (T k).2.1 (T k).2.2.1).before args s = true) (hsame : ∀ x, s.fieldFound? (T k).1 (T k).2.1 (T k).2.2.1 = some x → s.fieldFound? ref (T k).2.1 (T k).2.2.1 = some x) (hfin : (T k).2.2.2 = false) {ty : FieldType} {v : Value} (hd : parseFieldDescriptor (T k).2.2.1 = some ty) (hn : narrow ty v = v) (hfit : fits ty v = true) (hl : k < fs.length)
    (hdg : decode cc pc = .ok (.putfield index, 3)) (kk : ∀ (H1 : Heap) (locs1 : List Loc), cP dC dI x (.inr (ci, fs.set k v)) H1 → H1.size = H.size → (∀ q : Nat, q ≠ x → H1[q]? = H[q]?) → va_S A0 H0 H1 locs1 → W p l e R s m args below meth c H1 locs1 cells slots Q (F0 m (pc + 3) ls rest)) : W p l e R s m args below meth c H locs cells slots Q (F0 m pc ls (v :: .ref x :: rest)) := by
  have hap := va_apart (own := own) hts hin ty0 hty hnm hK hc
  obtain ⟨r, h1, cell, q1, q2, q3, q4⟩ := hP 0 _ rfl
  have hr : r = (C, T, N) := Option.some.inj (h1.symm.trans hc)
  subst hr
  obtain ⟨hS, hfc, kC, hkC, hkind⟩ := hK.1 ci _ hc
  obtain ⟨cf, kf, fi, f, hi, hsl⟩ := hS k hk
  have hlay := hts _ (hin _ (u_in_lay hk))
  unfold u_lay at hlay
  rw [if_neg (by rw [hfin]; decide)] at hlay
  have hst := (u_facts hfc hkC (u_lays hts hin hk) hi).1
  have h6 := u_store hfc hkC hkind hlay hi hd hn hfit
  refine W.putK hexec hb (f := f) ⟨hown, hlink, ⟨_, _, _, hsame _ hi⟩, hst⟩ (by rw [q2]; exact h6) q1 q3 (by rw [hsl]; exact k2_hasslot (q4 k hk)) rfl rfl hdg fun H' e1 e2 e3 => ?_
  rw [hsl] at e1 ⊢
  exact kk H' _ (va_P.set hP cD (rfl : ([(x, (.inr (ci, fs) : va_E))] : va_W)[0]? = some (x, .inr (ci, fs))) ⟨_, hc, t_OB.to (V := updV (vp_V fs) k v) ⟨_, e1, q2, q3, t_set q4 hap hk v⟩ (fun j _ => vp_updV_set hl v j)⟩ e3) e2 e3 (hS0.put e2 e3 hA)
theorem g_putN {host : String} (hexec : p.tables.exec = Jvm.exec) (hb : c.code = cc) {own ref C : String} {T : u_T} {N ci index : Nat} {x : Nat} {Ts : List Cond} (hts : ∀ w ∈ Ts, w.before args s = true) (hin : ∀ w ∈ u_ws C T N, w ∈ Ts) (ty0 : Nat → FieldType) (hty : ∀ k, k < N → parseFieldDescriptor (T k).2.2.1 = some (ty0 k)) (hnm : ∀ a, a < N → ∀ b, b < N → a ≠ b → (T a).2.1 ≠ (T b).2.1) (hown : s.vm.findClass own = some m.cls) (hK : KK dC dI dA s) {fs : List Value} (hP : cP dC dI x (.inr (ci, fs)) H) (hS0 : va_S A0 H0 H locs) (hA : A0 x) (hc : CL[ci]? = some (C, T, N)) (k : Nat) (hk : k < N) (hlink : (Cond.fieldLinkNest own index ref (T k).2.1 (T k).2.2.1 host).before args s = true) (hsame : ∀ x, s.fieldFound? (T k).1 (T k).2.1 (T k).2.2.1 = some x → s.fieldFound? ref (T k).2.1 (T k).2.2.1 = some x) (hfin : (T k).2.2.2 = false) {ty : FieldType} {v : Value} (hd : parseFieldDescriptor (T k).2.2.1 = some ty) (hn : narrow ty v = v) (hfit : fits ty v = true) (hl : k < fs.length)
    (hdg : decode cc pc = .ok (.putfield index, 3)) (kk : ∀ (H1 : Heap) (locs1 : List Loc), cP dC dI x (.inr (ci, fs.set k v)) H1 → H1.size = H.size → (∀ q : Nat, q ≠ x → H1[q]? = H[q]?) → va_S A0 H0 H1 locs1 → W p l e R s m args below meth c H1 locs1 cells slots Q (F0 m (pc + 3) ls rest)) : W p l e R s m args below meth c H locs cells slots Q (F0 m pc ls (v :: .ref x :: rest)) := by
  have hap := va_apart (own := own) hts hin ty0 hty hnm hK hc
  obtain ⟨r, h1, cell, q1, q2, q3, q4⟩ := hP 0 _ rfl
  have hr : r = (C, T, N) := Option.some.inj (h1.symm.trans hc)
  subst hr
  obtain ⟨hS, hfc, kC, hkC, hkind⟩ := hK.1 ci _ hc
  obtain ⟨cf, kf, fi, f, hi, hsl⟩ := hS k hk
  have hlay := hts _ (hin _ (u_in_lay hk))
  unfold u_lay at hlay
  rw [if_neg (by rw [hfin]; decide)] at hlay
  have hst := (u_facts hfc hkC (u_lays hts hin hk) hi).1
  have h6 := u_store hfc hkC hkind hlay hi hd hn hfit
  refine va_WputK hexec hb (f := f) hown hlink (hsame _ hi) hst (by rw [q2]; exact h6) q1 q3 (by rw [hsl]; exact k2_hasslot (q4 k hk)) rfl rfl hdg fun H' e1 e2 e3 => ?_
  rw [hsl] at e1 ⊢
  exact kk H' _ (va_P.set hP cD (rfl : ([(x, (.inr (ci, fs) : va_E))] : va_W)[0]? = some (x, .inr (ci, fs))) ⟨_, hc, t_OB.to (V := updV (vp_V fs) k v) ⟨_, e1, q2, q3, t_set q4 hap hk v⟩ (fun j _ => vp_updV_set hl v j)⟩ e3) e2 e3 (hS0.put e2 e3 hA)
theorem g_putF (hexec : p.tables.exec = Jvm.exec) (hb : c.code = cc) {own ref C : String} {T : u_T} {N ci index : Nat} {x : Nat} {Ts : List Cond} (hts : ∀ w ∈ Ts, w.before args s = true) (hin : ∀ w ∈ u_ws C T N, w ∈ Ts) (ty0 : Nat → FieldType) (hty : ∀ k, k < N → parseFieldDescriptor (T k).2.2.1 = some (ty0 k)) (hnm : ∀ a, a < N → ∀ b, b < N → a ≠ b → (T a).2.1 ≠ (T b).2.1) (hown : s.vm.findClass own = some m.cls) (hK : KK dC dI dA s) {fs : List Value} (hP : cP dC dI x (.inr (ci, fs)) H) (hS0 : va_S A0 H0 H locs) (hA : A0 x) (hc : CL[ci]? = some (C, T, N)) (k : Nat) (hk : k < N) (hlink : (Cond.fieldLink own index ref (T k).2.1 (T k).2.2.1).before args s = true) (hsame : ∀ x, s.fieldFound? (T k).1 (T k).2.1 (T k).2.2.1 = some x → s.fieldFound? ref (T k).2.1 (T k).2.2.1 = some x) (hfin : (T k).2.2.2 = true) (hin2 : meth.name = "<init>") (hdecl : (T k).1 = own) {ty : FieldType} {v : Value} (hd : parseFieldDescriptor (T k).2.2.1 = some ty) (hn : narrow ty v = v) (hfit : fits ty v = true) (hl : k < fs.length)
    (hdg : decode cc pc = .ok (.putfield index, 3)) (kk : ∀ (H1 : Heap) (locs1 : List Loc), cP dC dI x (.inr (ci, fs.set k v)) H1 → H1.size = H.size → (∀ q : Nat, q ≠ x → H1[q]? = H[q]?) → va_S A0 H0 H1 locs1 → W p l e R s m args below meth c H1 locs1 cells slots Q (F0 m (pc + 3) ls rest)) : W p l e R s m args below meth c H locs cells slots Q (F0 m pc ls (v :: .ref x :: rest)) := by
  have hap := va_apart (own := own) hts hin ty0 hty hnm hK hc
  obtain ⟨r, h1, cell, q1, q2, q3, q4⟩ := hP 0 _ rfl
  have hr : r = (C, T, N) := Option.some.inj (h1.symm.trans hc)
  subst hr
  obtain ⟨hS, hfc, kC, hkC, hkind⟩ := hK.1 ci _ hc
  obtain ⟨cf, kf, fi, f, hi, hsl⟩ := hS k hk
  have hlay := hts _ (hin _ (u_in_lay hk))
  unfold u_lay at hlay
  rw [if_pos hfin] at hlay
  have hst := (u_facts hfc hkC (u_lays hts hin hk) hi).1
  have hcf : m.cls = cf := by
    obtain ⟨_, _, c', _, _, _, -, -, hf', -, -, -, hown2, -⟩ := Cond.laysFinal_spec hlay
    have e1 : c' = cf := by have := hi.symm.trans hf'; simp at this; exact this.1.symm
    rw [hdecl] at hown2
    rw [← e1]; exact Option.some.inj (hown.symm.trans hown2)
  have h6 := u_fits hfc hkC hkind (Or.inr hlay) hi hd hn hfit
  refine W.putFinK hexec hb hown hlink (hsame _ hi) hst hcf hin2 (by rw [q2]; exact h6) q1 q3 (by rw [hsl]; exact k2_hasslot (q4 k hk)) rfl rfl hdg fun H' e1 e2 e3 => ?_
  rw [hsl] at e1 ⊢
  exact kk H' _ (va_P.set hP cD (rfl : ([(x, (.inr (ci, fs) : va_E))] : va_W)[0]? = some (x, .inr (ci, fs))) ⟨_, hc, t_OB.to (V := updV (vp_V fs) k v) ⟨_, e1, q2, q3, t_set q4 hap hk v⟩ (fun j _ => vp_updV_set hl v j)⟩ e3) e2 e3 (hS0.put e2 e3 hA)
/-- stores into arrays -/
theorem g_iast {x n i t0 : Nat} {cA : ClassId} {f : Nat → Int32} {v : Int32} (hx : p.tables.exec = Jvm.exec) (hb : c.code = cc) (hK : KK dC dI dA s) (hP : cP dC dI x (.inl (cA, n, .inl f)) H) (hS : va_S A0 H0 H locs) (hA : A0 x) (ht : (TY dA)[t0]? = some (cA, .int)) (hi : i < n) (hn : n < 2 ^ 31) (hdg : decode cc pc = .ok (.iastore, 1))
    (kk : ∀ (H1 : Heap) (locs1 : List Loc), cP dC dI x (.inl (cA, n, .inl (upd f i v))) H1 → H1.size = H.size → (∀ q : Nat, q ≠ x → H1[q]? = H[q]?) → va_S A0 H0 H1 locs1 → W p l e R s m args below meth c H1 locs1 cells slots Q (F0 m (pc + 1) ls rest)) : W p l e R s m args below meth c H locs cells slots Q (F0 m pc ls (.int v :: .int (nI i) :: .ref x :: rest)) := by
  have hc := nI_clamp (Nat.lt_trans hi hn)
  refine W.iast hx hb (hP 0 _ rfl) ((hK.2 t0 _ ht).1 n (fun j => .int (f j))) (fun q => by cases q) (by show ¬ ((nI i) < 0 ∨ (arrV _ _ _).slots.size ≤ _); rw [arrV_size]; exact vp_in_nI hi hn) rfl rfl hdg fun H1 e z oq => ?_
  rw [hc] at e ⊢
  refine kk H1 _ (va_P.set hP cD (rfl : ([(x, _)] : va_W)[0]? = some (x, _)) ?_ oq) z oq (hS.put z oq hA)
  show H1[x]? = some (vp_cell _ _)
  rw [e, vp_cell_i, vp_cell_i, arrV_store]
  congr 2
  funext q
  by_cases hq : q = i
  · subst hq
    simp [updV, upd]
  · simp [updV, upd, hq]
theorem g_zast {x n i t0 : Nat} {cA : ClassId} {f : Nat → Int32} {v : Int32} (hx : p.tables.exec = Jvm.exec) (hb : c.code = cc) (hK : KK dC dI dA s) (hP : cP dC dI x (.inl (cA, n, .inl f)) H) (hS : va_S A0 H0 H locs) (hA : A0 x) (ht : (TY dA)[t0]? = some (cA, .boolean)) (hi : i < n) (hn : n < 2 ^ 31) (hv : narrow .boolean (.int v) = .int v) (hdg : decode cc pc = .ok (.bastore, 1))
    (kk : ∀ (H1 : Heap) (locs1 : List Loc), cP dC dI x (.inl (cA, n, .inl (upd f i v))) H1 → H1.size = H.size → (∀ q : Nat, q ≠ x → H1[q]? = H[q]?) → va_S A0 H0 H1 locs1 → W p l e R s m args below meth c H1 locs1 cells slots Q (F0 m (pc + 1) ls rest)) : W p l e R s m args below meth c H locs cells slots Q (F0 m pc ls (.int v :: .int (nI i) :: .ref x :: rest)) := by
  have hc := nI_clamp (Nat.lt_trans hi hn)
  refine W.zast hx hb (hP 0 _ rfl) ((hK.2 t0 _ ht).1 n (fun j => .int (f j))) (fun q => by cases q) (by show ¬ ((nI i) < 0 ∨ (arrV _ _ _).slots.size ≤ _); rw [arrV_size]; exact vp_in_nI hi hn) rfl rfl hdg fun H1 e z oq => ?_
  rw [hc] at e ⊢
  refine kk H1 _ (va_P.set hP cD (rfl : ([(x, _)] : va_W)[0]? = some (x, _)) ?_ oq) z oq (hS.put z oq hA)
  show H1[x]? = some (vp_cell _ _)
  rw [e, vp_cell_i, vp_cell_i, arrV_store]
  congr 2
  funext q
  by_cases hq : q = i
  · subst hq
    simp [updV, upd]
    exact hv
  · simp [updV, upd, hq]
theorem g_bast {x n i t0 : Nat} {cA : ClassId} {f : Nat → Int32} {v : Int32} (hx : p.tables.exec = Jvm.exec) (hb : c.code = cc) (hK : KK dC dI dA s) (hP : cP dC dI x (.inl (cA, n, .inl f)) H) (hS : va_S A0 H0 H locs) (hA : A0 x) (ht : (TY dA)[t0]? = some (cA, .byte)) (hi : i < n) (hn : n < 2 ^ 31) (hv : narrow .byte (.int v) = .int v) (hdg : decode cc pc = .ok (.bastore, 1))
    (kk : ∀ (H1 : Heap) (locs1 : List Loc), cP dC dI x (.inl (cA, n, .inl (upd f i v))) H1 → H1.size = H.size → (∀ q : Nat, q ≠ x → H1[q]? = H[q]?) → va_S A0 H0 H1 locs1 → W p l e R s m args below meth c H1 locs1 cells slots Q (F0 m (pc + 1) ls rest)) : W p l e R s m args below meth c H locs cells slots Q (F0 m pc ls (.int v :: .int (nI i) :: .ref x :: rest)) := by
  have hc := nI_clamp (Nat.lt_trans hi hn)
  refine W.bast hx hb (hP 0 _ rfl) ((hK.2 t0 _ ht).1 n (fun j => .int (f j))) (fun q => by cases q) (by show ¬ ((nI i) < 0 ∨ (arrV _ _ _).slots.size ≤ _); rw [arrV_size]; exact vp_in_nI hi hn) rfl rfl hdg fun H1 e z oq => ?_
  rw [hc] at e ⊢
  refine kk H1 _ (va_P.set hP cD (rfl : ([(x, _)] : va_W)[0]? = some (x, _)) ?_ oq) z oq (hS.put z oq hA)
  show H1[x]? = some (vp_cell _ _)
  rw [e, vp_cell_i, vp_cell_i, arrV_store]
  congr 2
  funext q
  by_cases hq : q = i
  · subst hq
    simp [updV, upd]
    exact hv
  · simp [updV, upd, hq]
theorem g_aast {x n i t0 ci y : Nat} {cA : ClassId} {f : Nat → Option Nat} {r : vw_C} {vs : List Value} {C0 : String} (hx : p.tables.exec = Jvm.exec) (hb : c.code = cc) (hK : KK dC dI dA s) (hP : cP dC dI x (.inl (cA, n, .inr (.inr (.inr (.inr f))))) H) (hS : va_S A0 H0 H locs) (hA : A0 x) (ht : (TY dA)[t0]? = some (cA, .object C0)) (hasg : ∀ comp c0 : ClassId, s.vm.findClass C0 = some comp → s.vm.findClass r.1 = some c0 → s.vm.assignable c0 comp = true) (hv : cP dC dI y (.inr (ci, vs)) H) (hc : CL[ci]? = some r) (hi : i < n) (hn : n < 2 ^ 31) (hdg : decode cc pc = .ok (.aastore, 1))
    (kk : ∀ (H1 : Heap) (locs1 : List Loc), cP dC dI x (.inl (cA, n, .inr (.inr (.inr (.inr (va_up f i (some y))))))) H1 → H1.size = H.size → (∀ q : Nat, q ≠ x → H1[q]? = H[q]?) → va_S A0 H0 H1 locs1 → W p l e R s m args below meth c H1 locs1 cells slots Q (F0 m (pc + 1) ls rest)) : W p l e R s m args below meth c H locs cells slots Q (F0 m pc ls (.ref y :: .int (nI i) :: .ref x :: rest)) := by
  have hcl := nI_clamp (Nat.lt_trans hi hn)
  obtain ⟨r', hr', cellV, g1, g2, g3, -⟩ := hv 0 _ rfl
  have hcls := (hK.1 ci r hc).2
  obtain ⟨kA, comp, k1, k2, k3, -⟩ := (hK.2 t0 _ ht).2
  obtain ⟨kE, hkE, -⟩ := Vm.findClass_spec k3
  obtain ⟨kC, hkC, -⟩ := hcls.2
  refine W.aast hx hb (hP 0 _ rfl) (fun q h => by cases h) (fun h => by cases h) k1 k2 rfl hkE ⟨fun q => (vp_in_nI hi hn) (Or.inl q), by show _ < (arrV _ _ _).slots.size; rw [arrV_size, hcl]; exact hi⟩ g1 (fun q h => by rw [g3] at h; cases h) (by rw [g2]; exact hkC) (by rw [g2]; exact hasg _ _ k3 hcls.1) rfl rfl hdg fun H1 e z oq => ?_
  rw [hcl] at e ⊢
  refine kk H1 _ (va_P.set hP cD (rfl : ([(x, _)] : va_W)[0]? = some (x, _)) ?_ oq) z oq (hS.put z oq hA)
  show H1[x]? = some (vp_cell _ _)
  rw [e, vp_cell_q, vp_cell_q, arrV_store]
  congr 2
  funext q
  by_cases hq : q = i
  · subst hq
    simp [updV, va_up, va_rf]
  · simp [updV, va_up, hq]
/-- new objects, arrays -/
theorem g_new {own C : String} {T : u_T} {N ci index : Nat} {Ts : List Cond} (hexec : p.tables.exec = Jvm.exec) (hb : c.code = cc) (hts : ∀ w ∈ Ts, w.before args s = true) (hin : ∀ w ∈ u_ws C T N, w ∈ Ts) (ty : Nat → FieldType) (hty : ∀ k, k < N → parseFieldDescriptor (T k).2.2.1 = some (ty k)) (hown : s.vm.findClass own = some m.cls) (hcl : (Cond.classLink own index C).before args s = true) (hinst : (Cond.instantiable C N).before args s = true) (hini : (Cond.initialized C).before args s = true)
    (hK : KK dC dI dA s) (hS : va_S A0 H0 H locs) (hc : CL[ci]? = some (C, T, N)) {fs : List Value} (hfs : ∀ j, j < N → defaultValue (ty j) = vp_V fs j) (hcells : cells + 1 ≤ R.cells) (hslots : slots + N ≤ R.slots) (hdg : decode cc pc = .ok (.new index, 3))
    (kk : ∀ (q : Nat) (H1 : Heap), q = H.size → cP dC dI q (.inr (ci, fs)) H1 → H1.size = H.size + 1 → (∀ x : Nat, x < H.size → H1[x]? = H[x]?) → va_S A0 H0 H1 locs →
      W p l e R s m args below meth c H1 locs (cells + 1) (slots + N) Q (F0 m (pc + 3) ls (.ref q :: rest))) : W p l e R s m args below meth c H locs cells slots Q (F0 m pc ls rest) := by
  have hKn := hK.1 ci _ hc
  refine W.newcK hexec hb hown hcl hinst hini rfl hdg hcells hslots hKn.2.1 rfl fun H1 kC hkC e1 z1 o1 => ?_
  refine kk H.size H1 rfl (fun k x hx => ?_) z1 o1 (hS.more (by omega) o1)
  match k, hx with
  | 0, hx =>
    cases hx
    exact ⟨_, hc, (u_born ty hts hin hKn hkC e1 hty).to hfs⟩
theorem g_newa {atype : ArrayType} {ty : FieldType} {N' t0 : Nat} {cA : ClassId} (hexec : p.tables.exec = Jvm.exec) (hb : c.code = cc) (harr : (Cond.arrayClass (newarray.typeOf atype)).before args s = true) (hty : newarray.typeOf atype = ty) (hK : KK dC dI dA s) (hS : va_S A0 H0 H locs) (ht : (TY dA)[t0]? = some (cA, ty)) (hnm : s.vm.findClass ("[" ++ ty.toString) = some cA) (hdv : defaultValue ty = .int 0) (hN : N' < 2 ^ 31) (hbytes : N' * componentBytes ty ≤ 536870912) (hcells : cells + 1 ≤ R.cells) (hslots : slots + N' ≤ R.slots) (hdg : decode cc pc = .ok (.newarray atype, 2))
    (kk : ∀ (q : Nat) (H1 : Heap), q = H.size → cP dC dI q (.inl (cA, N', .inl (fun _ => 0))) H1 → H1.size = H.size + 1 → (∀ x : Nat, x < H.size → H1[x]? = H[x]?) → va_S A0 H0 H1 locs →
      W p l e R s m args below meth c H1 locs (cells + 1) (slots + N') Q (F0 m (pc + 2) ls (.ref q :: rest))) : W p l e R s m args below meth c H locs cells slots Q (F0 m pc ls (.int (nI N') :: rest)) := by
  subst hty
  refine va_newaK hexec hb harr rfl hdg rfl (nI_pos hN) (nI_clamp hN) hbytes hcells hslots rfl fun H1 cB e1 z1 o1 hAr hNm => ?_
  have e9 : cB = cA := Option.some.inj (hNm.symm.trans hnm)
  subst e9
  refine kk H.size H1 rfl (fun k x hx => ?_) z1 o1 (hS.more (by omega) o1)
  match k, hx with
  | 0, hx =>
    cases hx
    show H1[H.size]? = some (vp_cell _ _)
    rw [vp_cell_i, e1, hdv]
theorem g_newq {own C : String} {index N' t0 : Nat} {cA : ClassId} (hexec : p.tables.exec = Jvm.exec) (hb : c.code = cc) (hown : s.vm.findClass own = some m.cls) (hclink : (Cond.classLink own index C).before args s = true) (hover : va_AO C s) (hK : KK dC dI dA s) (hS : va_S A0 H0 H locs) (ht : (TY dA)[t0]? = some (cA, .object C)) (hN : N' < 2 ^ 27) (hcells : cells + 1 ≤ R.cells) (hslots : slots + N' ≤ R.slots) (hdg : decode cc pc = .ok (.anewarray index, 3))
    (kk : ∀ (q : Nat) (H1 : Heap), q = H.size → cP dC dI q (.inl (cA, N', .inr (.inr (.inr (.inr (fun _ => none)))))) H1 → H1.size = H.size + 1 → (∀ x : Nat, x < H.size → H1[x]? = H[x]?) → va_S A0 H0 H1 locs →
      W p l e R s m args below meth c H1 locs (cells + 1) (slots + N') Q (F0 m (pc + 3) ls (.ref q :: rest))) : W p l e R s m args below meth c H locs cells slots Q (F0 m pc ls (.int (nI N') :: rest)) := by
  have hcl : (nI N').toNatClampNeg = N' := nI_clamp (by omega)
  refine W.anew hexec hb hown hclink (va_AO.use hover) rfl hdg rfl (nI_pos (by omega)) (by rw [hcl]; omega) hcells (by rw [hcl]; exact hslots) fun cB kA comp f1 f2 f3 f4 => ?_
  rw [hcl]
  obtain ⟨kA', comp', -, -, -, g1⟩ := (hK.2 t0 _ ht).2
  have e9 : cB = cA := Option.some.inj (f1.symm.trans g1)
  subst e9
  generalize hH1 : H.push ({ cls := cB, slots := Array.replicate N' .null, vm := .none } : Cell) = H1
  have z1 : H1.size = H.size + 1 := by rw [← hH1, Array.size_push]
  have e1 : H1[H.size]? = some (arrV cB N' (fun _ => .null)) := by rw [← hH1, Array.getElem?_push_size, ← arrV_new]
  have o1 : ∀ q : Nat, q < H.size → H1[q]? = H[q]? := fun q hq => by rw [← hH1, Array.getElem?_push, if_neg (Nat.ne_of_lt hq)]
  refine kk H.size H1 rfl (fun k x hx => ?_) z1 o1 (hS.more (by omega) o1)
  match k, hx with
  | 0, hx =>
    cases hx
    show H1[H.size]? = some (vp_cell _ _)
    rw [vp_cell_q]
    exact e1
end BASE5
