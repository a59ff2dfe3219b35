/-! BASE: my layer over the kit: a method's start, pure calls, calls that change a known area -/
set_option maxRecDepth 100000
/-- the classes of both systems, by number -/
abbrev CL : List vw_C := [(RX1, TX1, 9), (RX5, TX5, 10), (RX2, TX2, 22), (RX7, TX7, 6), (RX6, TX6, 3), (RX3, TX3, 9), (RJ20, TJ20, 3), (RJ1, TJ1, 3), (RJ11, TJ11, 4), (RJ9, TJ9, 4), (RX4, TX4, 8), (RX9, TX9, 8), (RX10, TX10, 8), (RX11, TX11, 8)]
/-- the array classes, by number -/
abbrev TY (dA : Nat → ClassId) : List (ClassId × FieldType) := [(dA 0, .int), (dA 1, .boolean), (dA 2, .byte), (dA 3, .long), (dA 4, .double), (dA 5, .object "java/lang/Object"), (dA 6, .object "BadCodes$Office"), (dA 7, .object "BadCodes$Test")]
abbrev KK (dC : Nat → ClassId) (dI : Nat → Nat → Nat) (dA : Nat → ClassId) (s : State) : Prop := va_K (dC, dI) CL (TY dA) s
abbrev rmD (d mc ms : Nat) : Room := { frames := d, cells := mc, slots := ms, locals := 64 * d }
def rmOK (d : Nat) (R : Room) : Prop := d ≤ R.frames ∧ 64 * d ≤ R.locals
theorem rmOK.le {d d' : Nat} {R : Room} (h : rmOK d R) (hd : d' ≤ d) : rmOK d' R := ⟨Nat.le_trans hd h.1, Nat.le_trans (Nat.mul_le_mul_left 64 hd) h.2⟩
theorem rmOK.call {d maxL : Nat} {R : Room} (h : rmOK (d + 1) R) (hm : maxL ≤ 45) : d + 1 ≤ R.frames ∧ 8 + (maxL + 11) + 64 * d ≤ R.locals := ⟨h.1, by have := h.2; omega⟩
abbrev noF : Addr → Prop := fun _ => False
/-- start: these arguments, a heap of this kind, the classes known -/
abbrev uPc (vs : List Value) (Ψ : Heap → Prop) (dC : Nat → ClassId) (dI : Nat → Nat → Nat) (dA : Nat → ClassId) : Array Value → State → Prop := va_Pc vs (fun U => Ψ U.heap ∧ KK dC dI dA U)
/-- ends: an int, nothing changed; a reference; nothing handed back -/
def uQi (r : Int32) : Array Value → State → Outcome → State → Prop := fun _ st o t => o = .returned (some (.int r)) ∧ t.heap = st.heap
def uQa (r : Value) : Array Value → State → Outcome → State → Prop := fun _ st o t => o = .returned (some r) ∧ t.heap = st.heap
def uQv : Array Value → State → Outcome → State → Prop := fun _ st o t => o = .returned none ∧ t.heap = st.heap
/-- ends: an int (nothing), the heap is of kind Φ, nothing outside A changed, nothing made -/
def uMi (A : Nat → Prop) (r : Int32) (Φ : Heap → Prop) : Array Value → State → Outcome → State → Prop := fun _ st o t => o = .returned (some (.int r)) ∧ Φ t.heap ∧ t.heap.size = st.heap.size ∧ ∀ q : Nat, ¬ A q → t.heap[q]? = st.heap[q]?
def uMv (A : Nat → Prop) (Φ : Heap → Prop) : Array Value → State → Outcome → State → Prop := fun _ st o t => o = .returned none ∧ Φ t.heap ∧ t.heap.size = st.heap.size ∧ ∀ q : Nat, ¬ A q → t.heap[q]? = st.heap[q]?
def uMf (A : Nat → Prop) (r : UInt32) (Φ : Heap → Prop) : Array Value → State → Outcome → State → Prop := fun _ st o t => o = .returned (some (.float r)) ∧ Φ t.heap ∧ t.heap.size = st.heap.size ∧ ∀ q : Nat, ¬ A q → t.heap[q]? = st.heap[q]?
def uMd (A : Nat → Prop) (r : UInt64) (Φ : Heap → Prop) : Array Value → State → Outcome → State → Prop := fun _ st o t => o = .returned (some (.double r)) ∧ Φ t.heap ∧ t.heap.size = st.heap.size ∧ ∀ q : Nat, ¬ A q → t.heap[q]? = st.heap[q]?
/-- nothing outside A has changed since H0, nothing was made -/
def uS (A : Nat → Prop) (H0 H : Heap) (locs : List Loc) : Prop := H.size = H0.size ∧ (∀ q : Nat, ¬ A q → H[q]? = H0[q]?) ∧ ∀ l ∈ locs, A l.base
theorem uS.rf {A : Nat → Prop} {H0 : Heap} : uS A H0 H0 [] := ⟨rfl, fun _ _ => rfl, fun _ h => nomatch h⟩
theorem uS.put {A : Nat → Prop} {H0 H H1 : Heap} {locs : List Loc} {a k : Nat} (h : uS A H0 H locs) (z : H1.size = H.size) (oq : ∀ q : Nat, q ≠ a → H1[q]? = H[q]?) (hA : A a) : uS A H0 H1 (locs ++ [⟨a, k⟩]) := by
  refine ⟨z.trans h.1, fun q hq => (oq q (fun e => hq (e ▸ hA))).trans (h.2.1 q hq), fun l hl => ?_⟩
  rcases List.mem_append.mp hl with h1 | h1
  · exact h.2.2 l h1
  · rw [List.mem_singleton.mp h1]; exact hA
theorem uS.call {A B : Nat → Prop} {H0 H H1 : Heap} {locs L : List Loc} (h : uS A H0 H locs) (z : H1.size = H.size) (oq : ∀ q : Nat, ¬ B q → H1[q]? = H[q]?) (hL : ∀ l ∈ L, B l.base) (hBA : ∀ q, B q → A q) : uS A H0 H1 (locs ++ L) := by
  refine ⟨z.trans h.1, fun q hq => (oq q (fun e => hq (hBA q e))).trans (h.2.1 q hq), fun l hl => ?_⟩
  rcases List.mem_append.mp hl with h1 | h1
  · exact h.2.2 l h1
  · exact hBA _ (hL l h1)
theorem u_blind {vs : List Value} {Ψ : Heap → Prop} {dC : Nat → ClassId} {dI : Nat → Nat → Nat} {dA : Nat → ClassId} : FrameBlind (uPc vs Ψ dC dI dA) := fun a U g mk q => ⟨q.1, q.2.1, va_K.moved (u := U) (U := U.calling g mk a) (Vm.Alike.refl U.vm) q.2.2⟩
theorem u_zb {b : Bool} : nI b.toNat = 0 ↔ b = false := by cases b <;> decide
theorem u_tt {b : Bool} (h : b = true) : nI 1 = nI b.toNat := by rw [h]; rfl
theorem u_ff {b : Bool} (h : ¬ b = true) : nI 0 = nI b.toNat := by rw [Bool.eq_false_iff.mpr h]; rfl
theorem u_d1 {P : Prop} [Decidable P] (h : P) : nI 1 = nI (decide P).toNat := u_tt (decide_eq_true h)
theorem u_d0 {P : Prop} [Decidable P] (h : ¬ P) : nI 0 = nI (decide P).toNat := u_ff (by rw [decide_eq_true_eq]; exact h)
theorem u_n1 {P : Prop} [Decidable P] (h : ¬ P) : nI 1 = nI (!decide P).toNat := u_tt (by rw [decide_eq_false h]; rfl)
theorem u_n0 {P : Prop} [Decidable P] (h : P) : nI 0 = nI (!decide P).toNat := u_ff (by rw [decide_eq_true h]; decide)
theorem nI_m1 {n : Nat} (h : n < 2 ^ 31) : ¬ nI n = -1 := fun q => by
  have h1 := nI_pos h
  rw [q] at h1
  exact h1 (by decide)
theorem nI_m1' {n : Nat} (h : n < 2 ^ 31) : ¬ (-1) = nI n := fun q => nI_m1 h q.symm
theorem nI_min {a b : Nat} (ha : a < 2 ^ 31) (hb : b < 2 ^ 31) : (if nI b < nI a then nI b else nI a) = nI (min a b) := by
  by_cases h : b < a
  · rw [if_pos ((nI_ltI hb ha).mpr h), Nat.min_eq_right (by omega)]
  · rw [if_neg (fun q => h ((nI_ltI hb ha).mp q)), Nat.min_eq_left (by omega)]
theorem nI_max {a b : Nat} (ha : a < 2 ^ 31) (hb : b < 2 ^ 31) : (if nI a < nI b then nI b else nI a) = nI (max a b) := by
  by_cases h : a < b
  · rw [if_pos ((nI_ltI ha hb).mpr h), Nat.max_eq_right (by omega)]
  · rw [if_neg (fun q => h ((nI_ltI ha hb).mp q)), Nat.max_eq_left (by omega)]
section BASE
variable {p : Program} {l : Launch} {e : Env} {R : Room} {s : State} {m : MethodId} {args : Array Value} {below : List Frame} {meth : Method} {c : Code} {H : Heap} {locs : List Loc} {cells slots : Nat} {Q : State → Prop}
variable {cc : ByteArray} {pc : Nat} {ls : Array Slot} {rest st : List Value} {dC : Nat → ClassId} {dI : Nat → Nat → Nat} {dA : Nat → ClassId}
/-- the start of any method of ours without handlers -/
theorem u_start {y : MethodName} {maxL : Nat} {ret : Option FieldType} {rm : Room} {vs : List Value} {B : State → Prop} {Qc : Array Value → State → Outcome → State → Prop} {mc ms : Nat} {free : Addr → Prop} {own : String} (hy : plainName y.cls = true) (hcls : y.cls = own) (hn : (lg_sl vs).length ≤ maxL)
    (body : ∀ (p : Program) (e : Env) (s : State) (m : MethodId) (below : List Frame) (meth : Method) (c : Code), CallFix p m c cc maxL s vs.toArray lw_all own → meth.sig.returnType = ret → meth.locks = false → B s → ∀ ls : Array Slot, lv_has ls maxL (lv_args 0 vs) → W p l e rm s m vs.toArray below meth c s.heap [] 0 0 (MQ below Qc vs.toArray s mc ms free) (F0 m 0 ls [])) : Met l y (ws_ y cc maxL ret) rm (va_Pc vs B) Qc mc ms free := by
  refine Met.ofW (cc := cc) (maxL := maxL) (ret := ret) hy rfl ?_
  intro p e s m args below meth c s₁ B0 hml hv
  obtain ⟨rfl, hB⟩ := hv
  have hts := atoms_spec (ws := ws_ y cc maxL ret) B0.pre
  have hown : s.vm.findClass y.cls = some m.cls := findClass_of_methodNamed B0.named
  rw [lg_entry_eq]
  exact body p e s m below meth c ⟨B0.exec, B0.bytes, hml, hcls ▸ hown, fun w h => hts w (List.mem_cons_of_mem _ h)⟩ B0.returns B0.notSynchronized hB _ (lv_entry vs hn)
/-- .. that hands back an int and changes nothing -/
theorem u_meti {y : MethodName} {maxL d : Nat} {vs : List Value} {Ψ : Heap → Prop} {r : Int32} {own : String} (hy : plainName y.cls = true) (hcls : y.cls = own) (hn : (lg_sl vs).length ≤ maxL)
    (body : ∀ (p : Program) (e : Env) (R : Room) (s : State) (m : MethodId) (args : Array Value) (below : List Frame) (meth : Method) (c : Code) (Q : State → Prop), CallFix p m c cc maxL s args lw_all own → rmOK d R → Ψ s.heap → KK dC dI dA s →
      (∀ (pc : Nat) (ls : Array Slot) (v : Int32), v = r → decode cc pc = .ok (.ireturn, 1) → W p l e R s m args below meth c s.heap [] 0 0 Q (F0 m pc ls [.int v])) →
      ∀ ls : Array Slot, lv_has ls maxL (lv_args 0 vs) → W p l e R s m args below meth c s.heap [] 0 0 Q (F0 m 0 ls [])) : Met l y (ws_ y cc maxL (some .int)) (rmD d 0 0) (uPc vs Ψ dC dI dA) (uQi r) 0 0 noF := by
  refine u_start hy hcls hn fun p e s m below meth c SF hr hlk hB ls hl => ?_
  exact body p e (rmD d 0 0) s m vs.toArray below meth c _ SF ⟨Nat.le_refl _, Nat.le_refl _⟩ hB.1 hB.2 (fun pc ls v hv d => W.iret SF.1 SF.2.1 hr (fun t ht _ => ⟨by rw [hv], ht⟩) (fun _ h => nomatch h) d hlk) ls hl
/-- .. a boolean -/
theorem u_metz {y : MethodName} {maxL d : Nat} {vs : List Value} {Ψ : Heap → Prop} {r : Bool} {own : String} (hy : plainName y.cls = true) (hcls : y.cls = own) (hn : (lg_sl vs).length ≤ maxL)
    (body : ∀ (p : Program) (e : Env) (R : Room) (s : State) (m : MethodId) (args : Array Value) (below : List Frame) (meth : Method) (c : Code) (Q : State → Prop), CallFix p m c cc maxL s args lw_all own → rmOK d R → Ψ s.heap → KK dC dI dA s →
      (∀ (pc : Nat) (ls : Array Slot) (v : Int32), v = nI r.toNat → decode cc pc = .ok (.ireturn, 1) → W p l e R s m args below meth c s.heap [] 0 0 Q (F0 m pc ls [.int v])) →
      ∀ ls : Array Slot, lv_has ls maxL (lv_args 0 vs) → W p l e R s m args below meth c s.heap [] 0 0 Q (F0 m 0 ls [])) : Met l y (ws_ y cc maxL (some .boolean)) (rmD d 0 0) (uPc vs Ψ dC dI dA) (uQi (nI r.toNat)) 0 0 noF := by
  refine u_start hy hcls hn fun p e s m below meth c SF hr hlk hB ls hl => ?_
  exact body p e (rmD d 0 0) s m vs.toArray below meth c _ SF ⟨Nat.le_refl _, Nat.le_refl _⟩ hB.1 hB.2 (fun pc ls v hv d => W.zret SF.1 SF.2.1 hr (by rw [hv]; cases r <;> rfl) (fun t ht _ => ⟨by rw [hv], ht⟩) (fun _ h => nomatch h) d hlk) ls hl
/-- a method that changes an area it knows, and hands back an int -/
theorem u_metMi {y : MethodName} {maxL d : Nat} {vs : List Value} {Ψ Φ : Heap → Prop} {A : Nat → Prop} {r : Int32} {own : String} (hy : plainName y.cls = true) (hcls : y.cls = own) (hn : (lg_sl vs).length ≤ maxL)
    (body : ∀ (p : Program) (e : Env) (R : Room) (s : State) (m : MethodId) (args : Array Value) (below : List Frame) (meth : Method) (c : Code) (Q : State → Prop), CallFix p m c cc maxL s args lw_all own → rmOK d R → Ψ s.heap → KK dC dI dA s →
      (∀ (pc : Nat) (ls : Array Slot) (H : Heap) (locs : List Loc) (v : Int32), v = r → Φ H → uS A s.heap H locs → decode cc pc = .ok (.ireturn, 1) → W p l e R s m args below meth c H locs 0 0 Q (F0 m pc ls [.int v])) →
      ∀ ls : Array Slot, lv_has ls maxL (lv_args 0 vs) → W p l e R s m args below meth c s.heap [] 0 0 Q (F0 m 0 ls [])) : Met l y (ws_ y cc maxL (some .int)) (rmD d 0 0) (uPc vs Ψ dC dI dA) (uMi A r Φ) 0 0 A := by
  refine u_start hy hcls hn fun p e s m below meth c SF hr hlk hB ls hl => ?_
  exact body p e (rmD d 0 0) s m vs.toArray below meth c _ SF ⟨Nat.le_refl _, Nat.le_refl _⟩ hB.1 hB.2 (fun pc ls H locs v hv hΦ hS d => W.iret SF.1 SF.2.1 hr (fun t ht _ => ⟨by rw [hv], by rw [ht]; exact hΦ, by rw [ht]; exact hS.1, by rw [ht]; exact hS.2.1⟩) hS.2.2 d hlk) ls hl
theorem u_metMz {y : MethodName} {maxL d : Nat} {vs : List Value} {Ψ Φ : Heap → Prop} {A : Nat → Prop} {r : Bool} {own : String} (hy : plainName y.cls = true) (hcls : y.cls = own) (hn : (lg_sl vs).length ≤ maxL)
    (body : ∀ (p : Program) (e : Env) (R : Room) (s : State) (m : MethodId) (args : Array Value) (below : List Frame) (meth : Method) (c : Code) (Q : State → Prop), CallFix p m c cc maxL s args lw_all own → rmOK d R → Ψ s.heap → KK dC dI dA s →
      (∀ (pc : Nat) (ls : Array Slot) (H : Heap) (locs : List Loc) (v : Int32), v = nI r.toNat → Φ H → uS A s.heap H locs → decode cc pc = .ok (.ireturn, 1) → W p l e R s m args below meth c H locs 0 0 Q (F0 m pc ls [.int v])) →
      ∀ ls : Array Slot, lv_has ls maxL (lv_args 0 vs) → W p l e R s m args below meth c s.heap [] 0 0 Q (F0 m 0 ls [])) : Met l y (ws_ y cc maxL (some .boolean)) (rmD d 0 0) (uPc vs Ψ dC dI dA) (uMi A (nI r.toNat) Φ) 0 0 A := by
  refine u_start hy hcls hn fun p e s m below meth c SF hr hlk hB ls hl => ?_
  exact body p e (rmD d 0 0) s m vs.toArray below meth c _ SF ⟨Nat.le_refl _, Nat.le_refl _⟩ hB.1 hB.2 (fun pc ls H locs v hv hΦ hS d => W.zret SF.1 SF.2.1 hr (by rw [hv]; cases r <;> rfl) (fun t ht _ => ⟨by rw [hv], by rw [ht]; exact hΦ, by rw [ht]; exact hS.1, by rw [ht]; exact hS.2.1⟩) hS.2.2 d hlk) ls hl
theorem u_metMf {y : MethodName} {maxL d : Nat} {vs : List Value} {Ψ Φ : Heap → Prop} {A : Nat → Prop} {r : UInt32} {own : String} (hy : plainName y.cls = true) (hcls : y.cls = own) (hn : (lg_sl vs).length ≤ maxL)
    (body : ∀ (p : Program) (e : Env) (R : Room) (s : State) (m : MethodId) (args : Array Value) (below : List Frame) (meth : Method) (c : Code) (Q : State → Prop), CallFix p m c cc maxL s args lw_all own → rmOK d R → Ψ s.heap → KK dC dI dA s →
      (∀ (pc : Nat) (ls : Array Slot) (H : Heap) (locs : List Loc) (v : UInt32), v = r → Φ H → uS A s.heap H locs → decode cc pc = .ok (.freturn, 1) → W p l e R s m args below meth c H locs 0 0 Q (F0 m pc ls [.float v])) →
      ∀ ls : Array Slot, lv_has ls maxL (lv_args 0 vs) → W p l e R s m args below meth c s.heap [] 0 0 Q (F0 m 0 ls [])) : Met l y (ws_ y cc maxL (some .float)) (rmD d 0 0) (uPc vs Ψ dC dI dA) (uMf A r Φ) 0 0 A := by
  refine u_start hy hcls hn fun p e s m below meth c SF hr hlk hB ls hl => ?_
  exact body p e (rmD d 0 0) s m vs.toArray below meth c _ SF ⟨Nat.le_refl _, Nat.le_refl _⟩ hB.1 hB.2 (fun pc ls H locs v hv hΦ hS d => W.fret SF.1 SF.2.1 hr (fun t ht _ => ⟨by rw [hv], by rw [ht]; exact hΦ, by rw [ht]; exact hS.1, by rw [ht]; exact hS.2.1⟩) hS.2.2 d (hlocks := hlk)) ls hl
theorem u_metMd {y : MethodName} {maxL d : Nat} {vs : List Value} {Ψ Φ : Heap → Prop} {A : Nat → Prop} {r : UInt64} {own : String} (hy : plainName y.cls = true) (hcls : y.cls = own) (hn : (lg_sl vs).length ≤ maxL)
    (body : ∀ (p : Program) (e : Env) (R : Room) (s : State) (m : MethodId) (args : Array Value) (below : List Frame) (meth : Method) (c : Code) (Q : State → Prop), CallFix p m c cc maxL s args lw_all own → rmOK d R → Ψ s.heap → KK dC dI dA s →
      (∀ (pc : Nat) (ls : Array Slot) (H : Heap) (locs : List Loc) (v : UInt64), v = r → Φ H → uS A s.heap H locs → decode cc pc = .ok (.dreturn, 1) → W p l e R s m args below meth c H locs 0 0 Q (F0 m pc ls [.double v])) →
      ∀ ls : Array Slot, lv_has ls maxL (lv_args 0 vs) → W p l e R s m args below meth c s.heap [] 0 0 Q (F0 m 0 ls [])) : Met l y (ws_ y cc maxL (some .double)) (rmD d 0 0) (uPc vs Ψ dC dI dA) (uMd A r Φ) 0 0 A := by
  refine u_start hy hcls hn fun p e s m below meth c SF hr hlk hB ls hl => ?_
  exact body p e (rmD d 0 0) s m vs.toArray below meth c _ SF ⟨Nat.le_refl _, Nat.le_refl _⟩ hB.1 hB.2 (fun pc ls H locs v hv hΦ hS d => W.dret SF.1 SF.2.1 hr (fun t ht _ => ⟨by rw [hv], by rw [ht]; exact hΦ, by rw [ht]; exact hS.1, by rw [ht]; exact hS.2.1⟩) hS.2.2 d (hlocks := hlk)) ls hl
theorem u_metMv {y : MethodName} {maxL d : Nat} {vs : List Value} {Ψ Φ : Heap → Prop} {A : Nat → Prop} {own : String} (hy : plainName y.cls = true) (hcls : y.cls = own) (hn : (lg_sl vs).length ≤ maxL)
    (body : ∀ (p : Program) (e : Env) (R : Room) (s : State) (m : MethodId) (args : Array Value) (below : List Frame) (meth : Method) (c : Code) (Q : State → Prop), CallFix p m c cc maxL s args lw_all own → rmOK d R → Ψ s.heap → KK dC dI dA s →
      (∀ (pc : Nat) (ls : Array Slot) (H : Heap) (locs : List Loc), Φ H → uS A s.heap H locs → decode cc pc = .ok (.return_, 1) → W p l e R s m args below meth c H locs 0 0 Q (F0 m pc ls [])) →
      ∀ ls : Array Slot, lv_has ls maxL (lv_args 0 vs) → W p l e R s m args below meth c s.heap [] 0 0 Q (F0 m 0 ls [])) : Met l y (ws_ y cc maxL none) (rmD d 0 0) (uPc vs Ψ dC dI dA) (uMv A Φ) 0 0 A := by
  refine u_start hy hcls hn fun p e s m below meth c SF hr hlk hB ls hl => ?_
  exact body p e (rmD d 0 0) s m vs.toArray below meth c _ SF ⟨Nat.le_refl _, Nat.le_refl _⟩ hB.1 hB.2 (fun pc ls H locs hΦ hS d => W.vret SF.1 SF.2.1 hr (fun t ht _ => ⟨rfl, by rw [ht]; exact hΦ, by rw [ht]; exact hS.1, by rw [ht]; exact hS.2.1⟩) hS.2.2 d hlk) ls hl
theorem u_run {r : Int32} {a : Array Value} (hr : va_Run p l e R s m args below meth c H locs cells slots 0 0 (F0 m pc ls st) rest (uQi r a) noF) (k : W p l e R s m args below meth c H locs cells slots Q (F0 m (pc + 3) ls (.int r :: rest))) : W p l e R s m args below meth c H locs cells slots Q (F0 m pc ls st) := by
  intro T hT X
  obtain ⟨v, st₀, t, T', L, h0, X', hL, e1, e2, ⟨hv, hh⟩, st⟩ := hr T hT X
  cases hv
  obtain ⟨t2, a1, b1⟩ := k T' (by rw [e1, hh, h0]) (Stand.forget X' (fun q h => (hL q h).elim))
  exact ⟨t2, st t2 a1, b1⟩
theorem u_runM {r : Int32} {a : Array Value} {A B : Nat → Prop} {Φ : Heap → Prop} {H0 : Heap} (hr : va_Run p l e R s m args below meth c H locs cells slots 0 0 (F0 m pc ls st) rest (uMi B r Φ a) B) (hS : uS A H0 H locs) (hBA : ∀ q, B q → A q) (k : ∀ (H1 : Heap) (locs1 : List Loc), Φ H1 → uS A H0 H1 locs1 → (∀ q : Nat, ¬ B q → H1[q]? = H[q]?) → W p l e R s m args below meth c H1 locs1 cells slots Q (F0 m (pc + 3) ls (.int r :: rest))) : W p l e R s m args below meth c H locs cells slots Q (F0 m pc ls st) := by
  intro T hT X
  obtain ⟨v, st₀, t, T', L, h0, X', hL, e1, e2, ⟨hv, hΦ, hz, hh⟩, st⟩ := hr T hT X
  cases hv
  rw [h0, ← e1] at hz hh
  rw [← e1] at hΦ
  obtain ⟨t2, a1, b1⟩ := k T'.heap (locs ++ L) hΦ (hS.call hz hh hL hBA) hh T' rfl X'
  exact ⟨t2, st t2 a1, b1⟩
theorem u_runMv {a : Array Value} {A B : Nat → Prop} {Φ : Heap → Prop} {H0 : Heap} (hr : va_Run p l e R s m args below meth c H locs cells slots 0 0 (F0 m pc ls st) rest (uMv B Φ a) B) (hS : uS A H0 H locs) (hBA : ∀ q, B q → A q) (k : ∀ (H1 : Heap) (locs1 : List Loc), Φ H1 → uS A H0 H1 locs1 → (∀ q : Nat, ¬ B q → H1[q]? = H[q]?) → W p l e R s m args below meth c H1 locs1 cells slots Q (F0 m (pc + 3) ls rest)) : W p l e R s m args below meth c H locs cells slots Q (F0 m pc ls st) := by
  intro T hT X
  obtain ⟨v, st₀, t, T', L, h0, X', hL, e1, e2, ⟨hv, hΦ, hz, hh⟩, st⟩ := hr T hT X
  cases hv
  rw [h0, ← e1] at hz hh
  rw [← e1] at hΦ
  obtain ⟨t2, a1, b1⟩ := k T'.heap (locs ++ L) hΦ (hS.call hz hh hL hBA) hh T' rfl X'
  exact ⟨t2, st t2 a1, b1⟩
/-- an invokevirtual, an invokestatic of a method with a contract: the run of it -/
theorem u_rV {nL index d maxL n : Nat} {y : MethodName} {bytes : ByteArray} {ret : Option FieldType} {Ψ : Heap → Prop} {Qc : Array Value → State → Outcome → State → Prop} {free : Addr → Prop} {own C : String} {b : Nat} {As : List Value} (SF : CallFix p m c cc nL s args lw_all own) (hK : KK dC dI dA s) (rk : rmOK (d + 1) R) (hM : Met l y (ws_ y bytes maxL ret) (rmD d 0 0) (uPc (.ref b :: As) Ψ dC dI dA) Qc 0 0 free)
    (hw : GoodIn lw_all (wsV own index C y (ws_ y bytes maxL ret))) (hd : y.cls = C ∧ y.cls ≠ "java/lang/invoke/MethodHandle" ∧ y.cls ≠ "java/lang/invoke/VarHandle" ∧ (parseMethodDescriptor y.desc).map (fun d => d.parameters.length) = some n) (hn : As.length = n) (hm : maxL ≤ 45)
    (hcell : ∃ cell : Cell, H[b]? = some cell ∧ cell.vm.isStatics = false ∧ s.vm.findClass C = some cell.cls) (hΨ : Ψ H) (hsz : ls.size = nL) (hcat : (rest.map fun v => v.category).sum ≤ 8) (hcs : cells ≤ R.cells ∧ slots ≤ R.slots) (hst : st = As.reverse ++ .ref b :: rest) (hdg : decode cc pc = .ok (.invokevirtual index, 3)) :
    va_Run p l e R s m args below meth c H locs cells slots 0 0 (F0 m pc ls st) rest (Qc (Value.ref b :: As).toArray) free :=
  va_runV SF hM (cwV n SF.2.2.2.2 hw rfl rfl rfl hd (rk.call hm)) ⟨u_blind, hcell, fun U hU hW => ⟨rfl, by rw [hU]; exact hΨ, va_K.moved hW.alike hK⟩⟩ rfl hn hsz hst (lv_room hcat) hdg hcs
theorem u_rS {nL index d maxL n : Nat} {y : MethodName} {bytes : ByteArray} {ret : Option FieldType} {Ψ : Heap → Prop} {Qc : Array Value → State → Outcome → State → Prop} {free : Addr → Prop} {own : String} {As : List Value} (SF : CallFix p m c cc nL s args lw_all own) (hK : KK dC dI dA s) (rk : rmOK (d + 1) R) (hM : Met l y (ws_ y bytes maxL ret) (rmD d 0 0) (uPc As Ψ dC dI dA) Qc 0 0 free)
    (hw : GoodIn lw_all (va_wsS own index y (ws_ y bytes maxL ret))) (hd : y.cls ≠ "java/lang/invoke/MethodHandle" ∧ y.cls ≠ "java/lang/invoke/VarHandle" ∧ (parseMethodDescriptor y.desc).map (fun d => d.parameters.length) = some n) (hn : As.length = n) (hm : maxL ≤ 45)
    (hΨ : Ψ H) (hsz : ls.size = nL) (hcat : (rest.map fun v => v.category).sum ≤ 8) (hcs : cells ≤ R.cells ∧ slots ≤ R.slots) (hst : st = As.reverse ++ rest) (hdg : decode cc pc = .ok (.invokestatic index, 3)) :
    va_Run p l e R s m args below meth c H locs cells slots 0 0 (F0 m pc ls st) rest (Qc As.toArray) free :=
  va_runS SF hM (va_cwS n SF.2.2.2.2 hw rfl rfl rfl hd (rk.call hm)) ⟨u_blind, fun U hU hW => ⟨rfl, by rw [hU]; exact hΨ, va_K.moved hW.alike hK⟩⟩ rfl hn hsz hst (lv_room hcat) hdg hcs
/-- the number on top under another name -/
theorem u_top {x y : Int32} (h : x = y) (k : W p l e R s m args below meth c H locs cells slots Q (F0 m pc ls (.int y :: rest))) : W p l e R s m args below meth c H locs cells slots Q (F0 m pc ls (.int x :: rest)) := h ▸ k
/-- an int array's place by a whole number -/
theorem u_iald {D : va_G} {cl : List vw_C} {ws : va_W} {tys : List (ClassId × FieldType)} {a : Nat} (hx : p.tables.exec = Jvm.exec) (hb : c.code = cc) (hK : va_K D cl tys s) (hP : va_P D cl ws H) (q0 t0 : Nat) {cA : ClassId} {n i : Nat} {f : Nat → Int32} (ha : ws[q0]? = some (a, .inl (cA, n, .inl f))) (ht : tys[t0]? = some (cA, .int)) (hi : i < n) (hn : n < 2 ^ 31) (hdg : decode cc pc = .ok (.iaload, 1))
    (kk : W p l e R s m args below meth c H locs cells slots Q (F0 m (pc + 1) ls (.int (f i) :: rest))) : W p l e R s m args below meth c H locs cells slots Q (F0 m pc ls (.int (nI i) :: .ref a :: rest)) := by
  refine va_iald hx hb hK hP q0 t0 ha ht (vp_in_nI hi hn) hdg ?_
  rw [nI_clamp (Nat.lt_trans hi hn)]
  exact kk
/-- the same for a heap that is kept by uS -/
theorem u_iast {D : va_G} {cl : List vw_C} {ws : va_W} {tys : List (ClassId × FieldType)} {a : Nat} {A : Nat → Prop} {H0 : Heap} (hx : p.tables.exec = Jvm.exec) (hb : c.code = cc) (hK : va_K D cl tys s) (hP : va_P D cl ws H) (hD : va_D A ws) (hS : uS A H0 H locs) (q0 t0 : Nat) {cA : ClassId} {n i : Nat} {f : Nat → Int32} {x : Int32} (ha : ws[q0]? = some (a, .inl (cA, n, .inl f))) (ht : tys[t0]? = some (cA, .int)) (hi : i < n) (hn : n < 2 ^ 31) (hdg : decode cc pc = .ok (.iastore, 1))
    (kk : ∀ (H1 : Heap) (locs1 : List Loc), va_P D cl (ws.set q0 (a, .inl (cA, n, .inl (upd f i x)))) H1 → uS A H0 H1 locs1 → (∀ q : Nat, q ≠ a → H1[q]? = H[q]?) → W p l e R s m args below meth c H1 locs1 cells slots Q (F0 m (pc + 1) ls rest)) : W p l e R s m args below meth c H locs cells slots Q (F0 m pc ls (.int x :: .int (nI i) :: .ref a :: rest)) := by
  have hc := nI_clamp (Nat.lt_trans hi hn)
  refine W.iast hx hb (hP q0 _ ha) ((hK.2 t0 _ ht).1 n (fun j => .int (f j))) (fun q => by cases q) (by show ¬ ((nI i) < 0 ∨ (arrV _ _ _).slots.size ≤ _); rw [arrV_size]; exact vp_in_nI hi hn) rfl rfl hdg fun H1 e z oq => ?_
  rw [hc] at e ⊢
  refine kk H1 _ (hP.set hD ha ?_ oq) (hS.put z oq (hD.2 q0 _ ha)) oq
  show H1[a]? = some (vp_cell _ _)
  rw [e, vp_cell_i, vp_cell_i, arrV_store]
  congr 2
  funext q
  by_cases hq : q = i
  · subst hq
    simp [updV, upd]
  · simp [updV, upd, hq]
/-- a field's store, for a heap that is kept by uS -/
theorem u_put {D : va_G} {cl : List vw_C} {ws : va_W} {tys : List (ClassId × FieldType)} {a : Nat} {A : Nat → Prop} {H0 : Heap} (hexec : p.tables.exec = Jvm.exec) (hb : c.code = cc) {own ref C : String} {T : u_T} {N ci index : Nat} {Ts : List Cond} (hts : ∀ w ∈ Ts, w.before args s = true) (hin : ∀ w ∈ u_ws C T N, w ∈ Ts) (ty0 : Nat → FieldType) (hty : ∀ k, k < N → parseFieldDescriptor (T k).2.2.1 = some (ty0 k)) (hnm : ∀ a, a < N → ∀ b, b < N → a ≠ b → (T a).2.1 ≠ (T b).2.1) (hown : s.vm.findClass own = some m.cls) (hK : va_K D cl tys s) (hP : va_P D cl ws H) (hD : va_D A ws) (hS0 : uS A H0 H locs) (q0 : Nat) {fs : List Value} (he : ws[q0]? = some (a, .inr (ci, fs))) (hc : cl[ci]? = some (C, T, N)) (k : Nat) (hk : k < N) (hlink : (Cond.fieldLink own index ref (T k).2.1 (T k).2.2.1).before args s = true) (hsame : ∀ x, s.fieldFound? (T k).1 (T k).2.1 (T k).2.2.1 = some x → s.fieldFound? ref (T k).2.1 (T k).2.2.1 = some x) (hfin : (T k).2.2.2 = false) {ty : FieldType} {v : Value} (hd : parseFieldDescriptor (T k).2.2.1 = some ty) (hn : narrow ty v = v) (hfit : fits ty v = true) (hl : k < fs.length)
    (hdg : decode cc pc = .ok (.putfield index, 3)) (kk : ∀ (H1 : Heap) (locs1 : List Loc), va_P D cl (ws.set q0 (a, .inr (ci, fs.set k v))) H1 → uS A H0 H1 locs1 → (∀ q : Nat, q ≠ a → H1[q]? = H[q]?) → W p l e R s m args below meth c H1 locs1 cells slots Q (F0 m (pc + 3) ls rest)) : W p l e R s m args below meth c H locs cells slots Q (F0 m pc ls (v :: .ref a :: rest)) := by
  have hap := va_apart (own := own) hts hin ty0 hty hnm hK hc
  obtain ⟨r, h1, cell, q1, q2, q3, q4⟩ := hP q0 _ he
  have hr : r = (C, T, N) := Option.some.inj (h1.symm.trans hc)
  subst hr
  obtain ⟨hS, hfc, kC, hkC, hkind⟩ := hK.1 ci _ hc
  obtain ⟨cf, kf, fi, f, hi, hsl⟩ := hS k hk
  have hlay := hts _ (hin _ (u_in_lay hk))
  unfold u_lay at hlay
  rw [if_neg (by rw [hfin]; decide)] at hlay
  have hst := (u_facts hfc hkC (u_lays hts hin hk) hi).1
  have h6 := u_store hfc hkC hkind hlay hi hd hn hfit
  refine W.putK hexec hb (f := f) ⟨hown, hlink, ⟨_, _, _, hsame _ hi⟩, hst⟩ (by rw [q2]; exact h6) q1 q3 (by rw [hsl]; exact k2_hasslot (q4 k hk)) rfl rfl hdg fun H' e1 e2 e3 => ?_
  rw [hsl] at e1 ⊢
  exact kk H' _ (hP.set hD he ⟨_, hc, t_OB.to (V := updV (vp_V fs) k v) ⟨_, e1, q2, q3, t_set q4 hap hk v⟩ (fun j _ => vp_updV_set hl v j)⟩ e3) (hS0.put e2 e3 (hD.2 q0 _ he)) e3
end BASE
