/-! BASE 4: pure methods that hand back references; lists -/
def alP (dC : Nat → ClassId) (dI : Nat → Nat → Nat) (dA : Nat → ClassId) (x y n : Nat) (k : Int32) (cap : Nat) (f : Nat → Option Nat) (H : Heap) : Prop := cP dC dI x (.inr (6, [.int k, .ref y, .int (nI n)])) H ∧ cP dC dI y (.inl (dA 5, cap, .inr (.inr (.inr (.inr f))))) H
section BASE4
variable {p : Program} {l : Launch} {e : Env} {R : Room} {s : State} {m : MethodId} {args : Array Value} {below : List Frame} {meth : Method} {c : Code} {H : Heap} {locs : List Loc} {cells slots : Nat} {Q : State → Prop}
variable {cc : ByteArray} {pc : Nat} {ls : Array Slot} {rest st : List Value} {dC : Nat → ClassId} {dI : Nat → Nat → Nat} {dA : Nat → ClassId}
theorem x_meta {y : MethodName} {maxL d : Nat} {vs : List Value} {X : State → Heap → Prop} {r : Value} {rt : FieldType} {own : String} (hy : plainName y.cls = true) (hcls : y.cls = own) (hn : (lg_sl vs).length ≤ maxL) (hrt : (∃ n, rt = .object n) ∨ ∃ t, rt = .array t) (hv : r = .null ∨ ∃ a, r = .ref a)
    (body : ∀ (p : Program) (e : Env) (R : Room) (s : State) (m : MethodId) (args : Array Value) (below : List Frame) (meth : Method) (c : Code) (Q : State → Prop), CallFix p m c cc maxL s args lw_all own → rmOK d R → X s s.heap → KK dC dI dA s →
      (∀ (pc : Nat) (ls : Array Slot) (v : Value), v = r → decode cc pc = .ok (.areturn, 1) → W p l e R s m args below meth c s.heap [] 0 0 Q (F0 m pc ls [v])) →
      ∀ ls : Array Slot, lv_has ls maxL (lv_args 0 vs) → W p l e R s m args below meth c s.heap [] 0 0 Q (F0 m 0 ls [])) : Met l y (ws_ y cc maxL (some rt)) (rmD d 0 0) (uPx vs X dC dI dA) (uQa r) 0 0 noF := by
  refine u_start hy hcls hn fun p e s m below meth c SF hr hlk hB ls hl => ?_
  exact body p e (rmD d 0 0) s m vs.toArray below meth c _ SF ⟨Nat.le_refl _, Nat.le_refl _⟩ hB.1 hB.2 (fun pc ls v hv1 d => W.aret SF.1 SF.2.1 hr hrt (hv1 ▸ hv) (fun t ht _ => ⟨by rw [hv1], ht⟩) (fun _ h => nomatch h) d hlk) ls hl
/-- what is on top under another name -/
theorem g_top {x y : Value} (h : x = y) (k : W p l e R s m args below meth c H locs cells slots Q (F0 m pc ls (y :: rest))) : W p l e R s m args below meth c H locs cells slots Q (F0 m pc ls (x :: rest)) := h ▸ k
/-- an array of references: a place -/
theorem g_aald {x cap i q : Nat} {t0 : Nat} {cA : ClassId} {C : String} {f : Nat → Option Nat} (hx : p.tables.exec = Jvm.exec) (hb : c.code = cc) (hK : KK dC dI dA s) (hP : cP dC dI x (.inl (cA, cap, .inr (.inr (.inr (.inr f))))) H) (ht : (TY dA)[t0]? = some (cA, .object C)) (hi : i < cap) (hn : cap < 2 ^ 31) (hq : f i = some q) (hdg : decode cc pc = .ok (.aaload, 1))
    (kk : W p l e R s m args below meth c H locs cells slots Q (F0 m (pc + 1) ls (.ref q :: rest))) : W p l e R s m args below meth c H locs cells slots Q (F0 m pc ls (.int (nI i) :: .ref x :: rest)) := by
  refine va_aldq hx hb hK hP 0 t0 rfl ht (vp_in_nI hi hn) hdg ?_
  rw [nI_clamp (Nat.lt_trans hi hn), hq]
  exact kk
/-- a cell's object, for a call or a cast -/
theorem g_recv {x ci : Nat} {fs : List Value} {r : vw_C} (hK : KK dC dI dA s) (hP : cP dC dI x (.inr (ci, fs)) H) (hc : CL[ci]? = some r) : ∃ cell : Cell, H[x]? = some cell ∧ cell.vm.isStatics = false ∧ s.vm.findClass r.1 = some cell.cls := va_recv hK hP hc (q0 := 0) rfl
theorem g_cast {x ci index : Nat} {fs : List Value} {r : vw_C} {own : String} (hx : p.tables.exec = Jvm.exec) (hb : c.code = cc) (hown : s.vm.findClass own = some m.cls) (hK : KK dC dI dA s) (hP : cP dC dI x (.inr (ci, fs)) H) (hc : CL[ci]? = some r) (hlink : (Cond.classLink own index r.1).before args s = true) (hdg : decode cc pc = .ok (.checkcast index, 3))
    (k : W p l e R s m args below meth c H locs cells slots Q (F0 m (pc + 3) ls (.ref x :: rest))) : W p l e R s m args below meth c H locs cells slots Q (F0 m pc ls (.ref x :: rest)) := va_castS hx hb hown hlink (hK.1 ci _ hc).2 (g_recv hK hP hc) hdg k
end BASE4
