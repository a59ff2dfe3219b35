/-! BASE 9: the object itself; the JDK's own exceptions thrown -/
abbrev obE (g : Nat → Nat) (n : Nat → Int32) (nv : Value) : va_E := .inr (0, [.ref (g 1), .int (n 8), .int (n 9), .int (n 10), nv, .ref (g 2), .ref (g 3), .ref (g 4), .ref (g 5)])
def nmA : Nat → String
  | 1 => "java/lang/IllegalStateException"
  | 2 => "java/lang/IndexOutOfBoundsException"
  | _ => "java/lang/IllegalArgumentException"
def nmB : Nat → String
  | 1 => "java/lang/IllegalStateException"
  | _ => "java/lang/IllegalArgumentException"
/-- what reading methods see: the object, and an office if there is one -/
abbrev AX (dC : Nat → ClassId) (dI : Nat → Nat → Nat) (dA : Nat → ClassId) (g b : Nat → Nat) (mc S Hd n : Nat → Int32) (sz : Nat) (U : State) (H : Heap) : Prop := (n 1 = 0 → cP dC dI (g 0) (obE g n .null) H) ∧ (¬ n 1 = 0 → cP dC dI (g 0) (obE g n (.ref (b 0))) H ∧ famP dC dI b (offE b dA mc S Hd) H) ∧ EN sz U H
theorem AX.ob {dC : Nat → ClassId} {dI : Nat → Nat → Nat} {dA : Nat → ClassId} {g b : Nat → Nat} {mc S Hd n : Nat → Int32} {sz : Nat} {U : State} {H : Heap} (h : AX dC dI dA g b mc S Hd n sz U H) : ∃ nv, cP dC dI (g 0) (obE g n nv) H := by
  by_cases h1 : n 1 = 0
  · exact ⟨_, h.1 h1⟩
  · exact ⟨_, (h.2.1 h1).1⟩
theorem AX.at {dC : Nat → ClassId} {dI : Nat → Nat → Nat} {dA : Nat → ClassId} {g b : Nat → Nat} {mc S Hd n : Nat → Int32} {sz hs : Nat} {U : State} {H0 H : Heap} {locs : List Loc} (h : AX dC dI dA g b mc S Hd n sz U H0) (hS : va_S (gF (fun _ => False) hs) H0 H locs) (hz : H0.size = hs) (hsz : sz ≤ hs) : AX dC dI dA g b mc S Hd n sz U H :=
  ⟨fun h1 => (h.1 h1).at hS hz (fun h => h), fun h1 => ⟨(h.2.1 h1).1.at hS hz (fun h => h), (h.2.1 h1).2.at hS hz (fun _ _ h => h)⟩, h.2.2.at hS (fun q h => h.elim (fun e => e.elim) (fun h => Nat.le_trans hsz h))⟩
theorem lo_n {x : Int32} (h : lo x = true) : ¬ x = 0 := by
  intro h1
  rw [lo_f h1] at h
  cases h
theorem thX {L1 L2 : List (Bool × Nat)} {nm nm' : Nat → String} {E : String} (h : ¬ thC L1 = 0) (hE : E = nm (thC L1)) (hn : nm (thC L1) = nm' (thC L1)) : ¬ thC (L1 ++ L2) = 0 ∧ E = nm' (thC (L1 ++ L2)) := by
  rw [thC_pre h]
  exact ⟨h, hE.trans hn⟩
theorem thY {L : List (Bool × Nat)} {nm : Nat → String} {E : String} {k : Nat} (h : thC L = k) (hk : ¬ k = 0) (hE : E = nm k) : ¬ thC L = 0 ∧ E = nm (thC L) := by
  rw [h]
  exact ⟨hk, hE⟩
theorem thC_n1 {a : Bool} (h : ¬ thC [(a, 1)] = 0) : thC [(a, 1)] = 1 := by
  cases a with
  | true => exact absurd rfl h
  | false => rfl
section BASE9
variable {p : Program} {l : Launch} {e : Env} {R : Room} {s : State} {m : MethodId} {args : Array Value} {below : List Frame} {meth : Method} {c : Code} {H H0 H1 : Heap} {locs : List Loc} {cells slots : Nat} {Q : State → Prop}
variable {cc : ByteArray} {pc : Nat} {ls : Array Slot} {rest st : List Value} {A : Nat → Prop} {hs : Nat}
abbrev jdkN : List String := ["java/lang/RuntimeException", "java/lang/Exception"]
theorem vx_words {ic : Nat} {X : String} {ps : List Nat} (ha : (vx_at0 "BadCodes" ic X jdkN).filter goodWord = ps.filterMap (fun i => lw_tbl[i]?)) (hn : ∀ w ∈ (vx_at0 "BadCodes" ic X jdkN).filter (fun w => !goodWord w), w ∈ [Cond.castable X X, .declares (dcW 0), .declares (dcW 1), .declares (dcW 2)])
    (hts : ∀ w ∈ lw_all, w.before args s = true) (hc : va_Nw (.castable X X) s) (hd : ∀ i, i < 3 → va_Nw (.declares (dcW i)) s) : ∀ w ∈ vx_at0 "BadCodes" ic X jdkN, w.before args s = true :=
  vx_hat (fun w hw => hts w (lw_in _ ps ha (List.all_eq_true.mpr fun w h => (List.mem_filter.mp h).2) w hw)) hn (vx_c (va_Nw.use rfl hc) (vx_c (va_Nw.use rfl (hd 0 (by decide))) (vx_c (va_Nw.use rfl (hd 1 (by decide))) (vx_c (va_Nw.use rfl (hd 2 (by decide))) vx_n))))
theorem og_IO : ∀ w ∈ Cond.classLink "BadCodes" 129 "java/lang/IndexOutOfBoundsException" :: Cond.initialized "java/lang/IndexOutOfBoundsException" :: vx_at0 "BadCodes" 131 "java/lang/IndexOutOfBoundsException" jdkN, vx_ot w = true := by decide +kernel
theorem og_IA : ∀ w ∈ Cond.classLink "BadCodes" 105 "java/lang/IllegalArgumentException" :: Cond.initialized "java/lang/IllegalArgumentException" :: vx_at0 "BadCodes" 107 "java/lang/IllegalArgumentException" jdkN, vx_ot w = true := by decide +kernel
theorem og_IS : ∀ w ∈ Cond.classLink "BadCodes" 132 "java/lang/IllegalStateException" :: Cond.initialized "java/lang/IllegalStateException" :: vx_at0 "BadCodes" 134 "java/lang/IllegalStateException" jdkN, vx_ot w = true := by decide +kernel
theorem g_jdk {ic ik mc ms sz : Nat} {X : String} {Qc : Array Value → State → Outcome → State → Prop} {PX : String → Addr → Heap → Prop} (hx : p.tables.exec = Jvm.exec) (hb : c.code = cc) (hfl : l.stackTraces = false) (hown : s.vm.findClass "BadCodes" = some m.cls) (hts : ∀ w ∈ lw_all, w.before args s = true)
    (hwd : ∀ w ∈ vx_at0 "BadCodes" ic X jdkN, w.before args s = true) (hX : Bundle.fit X = true) (hk : Cond.classLink "BadCodes" ik X ∈ lw_all) (hi : Cond.initialized X ∈ lw_all) (hgd : ∀ w ∈ Cond.classLink "BadCodes" ik X :: Cond.initialized X :: vx_at0 "BadCodes" ic X jdkN, vx_ot w = true)
    (hEN : EN sz s s.heap) (hAz : ∀ q, gF A hs q → sz ≤ q) (hz0 : s.heap.size = hs) (hS : va_S (gF A hs) s.heap H locs) (hsize : ls.size = c.maxLocals)
    (d0 : decode cc pc = .ok (.new ik, 3)) (d3 : decode cc (pc + 3) = .ok (.dup, 1)) (d4 : decode cc (pc + 4) = .ok (.invokespecial ic, 3)) (d7 : decode cc (pc + 7) = .ok (.athrow, 1))
    (hE : ∀ x ∈ c.exceptionTable.toList, covers x (pc + 7) = false) (rk : rmOK 6 R) (hcat : (rest.map fun v => v.category).sum ≤ 8) (hRc : R.cells = mc) (hRs : R.slots = ms) (hc : cells + 1 ≤ mc) (hsl : slots + 6 ≤ ms)
    (hQ : meth.locks = false ∧ Q = vx_MQ below Qc (gX hs A PX) args s mc ms (gF A hs)) (hPX : ∀ q H', PX X q H') : W p l e R s m args below meth c H locs cells slots Q (F0 m pc ls rest) := by
  rw [hQ.2]
  exact vx_throw0 (names := jdkN) hx hb hfl hown hX (by decide) (hts _ hk) (hts _ hi) hwd hgd (hEN.2.1.1.narrow hAz) (hEN.2.1.2.1.narrow hAz) hS hsize d0 d3 d4 d7 hE (Nat.lt_of_lt_of_le (by decide) rk.1) (Nat.le_trans (Nat.add_le_add_right hcat _) (Nat.le_trans (by decide) rk.2)) (hRc ▸ hc) (hRs ▸ hsl) hQ.1
    (fun q9 t _ h1 h2 => ⟨hPX q9 _, Nat.le_trans (hS.fr hz0).1 h1, fun z g1 g2 => (h2 z (Nat.lt_of_lt_of_le g1 (hS.fr hz0).1)).trans ((hS.fr hz0).2 z g1 g2)⟩) hS.2.2 hc hsl
end BASE9
