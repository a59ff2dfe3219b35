set_option maxRecDepth 100000
section TST
variable {p : Program} {l : Launch} {e : Env} {R : Room} {s : State} {m : MethodId} {args : Array Value} {below : List Frame} {meth : Method} {c : Code} {H : Heap} {locs : List Loc} {Q : State → Prop}
variable {cc : ByteArray} {pc nL : Nat} {ls : Array Slot} {rest : List Value} {dC : Nat → ClassId} {dI : Nat → Nat → Nat} {dA : Nat → ClassId} {a : Nat → Nat} {M : Nat → Nat → Int32} {H0 : Heap}

/-- what the twelve say of letter o: S: the office now; S2, Hd2: the office they have captured -/
def tf (S S2 Hd2 : Nat → Int32) (i : Nat) (z : Int32) (o : Nat) : Bool := match i with
  | 0 => decide (lr S o 6 = 0)
  | 1 => (dcd S2 Hd2 o).isSome
  | 2 => decide (lr S2 o 9 = z)
  | 3 => decide (oI (dcd S2 Hd2 o) = z)
  | 4 => decide (farT S2 Hd2 o z.toNatClampNeg ≤ lim S2)
  | 5 => decide (lr S2 o 5 = z)
  | 6 => (byS S2 Hd2 o).isSome
  | 7 => decide (lr S2 o 6 = nI 2)
  | 8 => decide (lr S2 o 8 = z)
  | 9 => false
  | 10 => decide (lr S2 o 5 = z)
  | _ => (dcd S2 Hd2 o).isSome
/-- what they have captured: x0 the object, y0 the office now, x the office, z a number -/
def lcap (x0 y0 x : Nat) (z : Int32) (i : Nat) : List Value := match i with
  | 0 => [.ref x0]
  | 1 => [.ref x]
  | 6 => [.ref x]
  | 7 => [.ref x]
  | 11 => [.ref x]
  | 9 => [.ref x0, .ref y0]
  | _ => [.ref x, .int z]
def LE (cs : Nat → ClassId) (U : State) : Prop := LM laX0 47 58 laS0 (cs 0) U ∧ LM laX1 131 173 laS1 (cs 1) U ∧ LM laX2 89 210 laS2 (cs 2) U ∧ LM laX3 117 213 laS3 (cs 3) U ∧ LM laX4 145 214 laS4 (cs 4) U ∧ LM laX5 8 318 laS5 (cs 5) U ∧ LM laX6 86 322 laS6 (cs 6) U ∧ LM laX7 22 338 laS7 (cs 7) U ∧ LM laX8 32 339 laS8 (cs 8) U ∧ LM laX9 14 340 laS9 (cs 9) U ∧ LM laX10 9 362 laS10 (cs 10) U ∧ LM laX11 18 363 laS11 (cs 11) U
theorem LE.ok {cs : Nat → ClassId} : XOK (fun U _ => LE cs U) := ⟨fun u U H e q => by
  obtain ⟨q0, q1, q2, q3, q4, q5, q6, q7, q8, q9, q10, q11⟩ := q
  exact ⟨q0.same e, q1.same e, q2.same e, q3.same e, q4.same e, q5.same e, q6.same e, q7.same e, q8.same e, q9.same e, q10.same e, q11.same e⟩, fun s U H hW q => by
  obtain ⟨q0, q1, q2, q3, q4, q5, q6, q7, q8, q9, q10, q11⟩ := q
  exact ⟨q0.warm hW, q1.warm hW, q2.warm hW, q3.warm hW, q4.warm hW, q5.warm hW, q6.warm hW, q7.warm hW, q8.warm hW, q9.warm hW, q10.warm hW, q11.warm hW⟩⟩
/-- the world of the tests: the object, the office now, the office captured -/
abbrev TX (dC : Nat → ClassId) (dI : Nat → Nat → Nat) (dA : Nat → ClassId) (g b : Nat → Nat) (mc S Hd n : Nat → Int32) (b2 : Nat → Nat) (mc2 S2 Hd2 : Nat → Int32) (cs : Nat → ClassId) (U : State) (H : Heap) : Prop := cP dC dI (g 0) (obE g n (.ref (b 0))) H ∧ famP dC dI b (offE b dA mc S Hd) H ∧ famP dC dI b2 (offE b2 dA mc2 S2 Hd2) H ∧ CE U ∧ FT9 U ∧ LE cs U
theorem tst_run {p : Program} {l : Launch} {e : Env} {R : Room} {s : State} {m : MethodId} {args : Array Value} {below : List Frame} {meth : Method} {c : Code} {H : Heap} {locs : List Loc} {cells slots : Nat} {cc : ByteArray} {pc nL index count : Nat} {ls : Array Slot} {rest st : List Value} {dC : Nat → ClassId} {dI : Nat → Nat → Nat} {dA : Nat → ClassId} {own : String}
    {g b b2 : Nat → Nat} {mc S Hd n mc2 S2 Hd2 : Nat → Int32} {cs : Nat → ClassId} {i q o : Nat} {z : Int32} (SF : CallFix p m c cc nL s args lw_all own) (hK : KK dC dI dA s) (rk : rmOK 13 R) (hi : i < 12) (hS1 : SWf S) (hT : TWf Hd) (hS2 : SWf S2) (hT2 : TWf Hd2) (ho : o < ln S) (ho2 : o < ln S2) (hz : i = 4 → ∃ t, t < tn Hd2 ∧ z = nI t)
    (hX : TX dC dI dA g b mc S Hd n b2 mc2 S2 Hd2 cs s H) (hP : lamP (cs i) (lcap (g 0) (b 0) (b2 0) z i) q H) (hlink : Cond.methodLink own index xIs ∈ lw_all) (hsize : ls.size = nL) (hst : st = .int (nI o) :: .ref q :: rest) (hcat : (rest.map fun v => v.category).sum ≤ 8) (hcs : cells ≤ R.cells ∧ slots ≤ R.slots) (hdg : decode cc pc = .ok (.invokeinterface index count, 5)) :
    va_Run5 p l e R s m args below meth c H locs cells slots 0 0 (F0 m pc ls st) rest (uQi (nI (tf S S2 Hd2 i z o).toNat) #[.ref q, .int (nI o)]) noF := by
  obtain ⟨hP1, hO, hO2, hCE, hF, hLE⟩ := hX
  match i, hi with
  | 0, _ =>
    exact lam_callA (r := tf S S2 Hd2 0 z o) SF hK (rk.le (Nat.le_of_ble_eq_true rfl)) (c_X1_lambda_new_0 l dC dI dA g b mc S Hd n o ho hS1) q186 q112 q185 qs0 (g_recv hK hP1 (ci := 0) rfl) hlink q2607 (by decide +kernel) (by decide) hF hLE.1 rfl laK0 laN0.1 laN0.2.1 laN0.2.2.1 laN0.2.2.2.1 laN0.2.2.2.2.1 laN0.2.2.2.2.2.1 laN0.2.2.2.2.2.2.1 rfl (XOK.hp.and (XOK.hp.and CE.ok)) ⟨hP1, hO, hCE⟩ hP hsize hst hcat hcs hdg
  | 1, _ =>
    exact lam_callB (r := tf S S2 Hd2 1 z o) SF hK (rk.le (Nat.le_of_ble_eq_true rfl)) (c_X1_lambda_count_1 l dC dI dA b2 mc2 S2 Hd2 o ho2 hS2 hT2) q1338 q112 q1337 hlink q2607 (by decide +kernel) (by decide) hF hLE.2.1 rfl laK1 laN1.1 laN1.2.1 laN1.2.2.1 laN1.2.2.2.1 laN1.2.2.2.2.1 laN1.2.2.2.2.2.1 laN1.2.2.2.2.2.2.1 rfl (XOK.hp.and CE.ok) ⟨hO2, hCE⟩ hP hsize hst hcat hcs hdg
  | 2, _ =>
    exact lam_callC (r := tf S S2 Hd2 2 z o) SF hK (rk.le (Nat.le_of_ble_eq_true rfl)) (c_X1_lambda_town_2 l dC dI dA b2 mc2 S2 Hd2 z o ho2 hS2) q1383 q112 q1382 hlink q2607 (by decide +kernel) (by decide) hF hLE.2.2.1 rfl laK2 laN2.1 laN2.2.1 laN2.2.2.1 laN2.2.2.2.1 laN2.2.2.2.2.1 laN2.2.2.2.2.2.1 laN2.2.2.2.2.2.2.1 rfl (XOK.hp.and CE.ok) ⟨hO2, hCE⟩ hP hsize hst hcat hcs hdg
  | 3, _ =>
    exact lam_callC (r := tf S S2 Hd2 3 z o) SF hK (rk.le (Nat.le_of_ble_eq_true rfl)) (c_X1_lambda_town_3 l dC dI dA b2 mc2 S2 Hd2 z o ho2 hS2 hT2) q1385 q112 q1384 hlink q2607 (by decide +kernel) (by decide) hF hLE.2.2.2.1 rfl laK3 laN3.1 laN3.2.1 laN3.2.2.1 laN3.2.2.2.1 laN3.2.2.2.2.1 laN3.2.2.2.2.2.1 laN3.2.2.2.2.2.2.1 rfl (XOK.hp.and CE.ok) ⟨hO2, hCE⟩ hP hsize hst hcat hcs hdg
  | 4, _ =>
    obtain ⟨t, ht, rfl⟩ := hz rfl
    have hzt : (nI t).toNatClampNeg = t := nI_clamp (by have := hT2.2.1; omega)
    exact lam_callC (r := tf S S2 Hd2 4 (nI t) o) SF hK (rk.le (Nat.le_of_ble_eq_true rfl)) (by have h9 := (c_X1_lambda_town_4 l dC dI dA b2 mc2 S2 Hd2 t o ho2 ht hS2 hT2); rw [show farT S2 Hd2 o t = farT S2 Hd2 o (nI t).toNatClampNeg by rw [hzt]] at h9; exact h9) q1387 q112 q1386 hlink q2607 (by decide +kernel) (by decide) hF hLE.2.2.2.2.1 rfl laK4 laN4.1 laN4.2.1 laN4.2.2.1 laN4.2.2.2.1 laN4.2.2.2.2.1 laN4.2.2.2.2.2.1 laN4.2.2.2.2.2.2.1 rfl (XOK.hp.and CE.ok) ⟨hO2, hCE⟩ hP hsize hst hcat hcs hdg
  | 5, _ =>
    exact lam_callC (r := tf S S2 Hd2 5 z o) SF hK (rk.le (Nat.le_of_ble_eq_true rfl)) (c_X1_lambda_bundle_5 l dC dI dA b2 mc2 S2 Hd2 z o ho2 hS2) q1579 q112 q1578 hlink q2607 (by decide +kernel) (by decide) hF hLE.2.2.2.2.2.1 rfl laK5 laN5.1 laN5.2.1 laN5.2.2.1 laN5.2.2.2.1 laN5.2.2.2.2.1 laN5.2.2.2.2.2.1 laN5.2.2.2.2.2.2.1 rfl (XOK.hp.and CE.ok) ⟨hO2, hCE⟩ hP hsize hst hcat hcs hdg
  | 6, _ =>
    exact lam_callB (r := tf S S2 Hd2 6 z o) SF hK (rk.le (Nat.le_of_ble_eq_true rfl)) (c_X1_lambda_bundle_6 l dC dI dA b2 mc2 S2 Hd2 o ho2 hS2 hT2) q1581 q112 q1580 hlink q2607 (by decide +kernel) (by decide) hF hLE.2.2.2.2.2.2.1 rfl laK6 laN6.1 laN6.2.1 laN6.2.2.1 laN6.2.2.2.1 laN6.2.2.2.2.1 laN6.2.2.2.2.2.1 laN6.2.2.2.2.2.2.1 rfl (XOK.hp.and CE.ok) ⟨hO2, hCE⟩ hP hsize hst hcat hcs hdg
  | 7, _ =>
    exact lam_callB (r := tf S S2 Hd2 7 z o) SF hK (rk.le (Nat.le_of_ble_eq_true rfl)) (c_X1_lambda_causes_7 l dC dI dA b2 mc2 S2 Hd2 o ho2 hS2) q1609 q112 q1608 hlink q2607 (by decide +kernel) (by decide) hF hLE.2.2.2.2.2.2.2.1 rfl laK7 laN7.1 laN7.2.1 laN7.2.2.1 laN7.2.2.2.1 laN7.2.2.2.2.1 laN7.2.2.2.2.2.1 laN7.2.2.2.2.2.2.1 rfl (XOK.hp.and CE.ok) ⟨hO2, hCE⟩ hP hsize hst hcat hcs hdg
  | 8, _ =>
    exact lam_callC (r := tf S S2 Hd2 8 z o) SF hK (rk.le (Nat.le_of_ble_eq_true rfl)) (c_X1_lambda_causes_8 l dC dI dA b2 mc2 S2 Hd2 z o ho2 hS2) q1611 q112 q1610 hlink q2607 (by decide +kernel) (by decide) hF hLE.2.2.2.2.2.2.2.2.1 rfl laK8 laN8.1 laN8.2.1 laN8.2.2.1 laN8.2.2.2.1 laN8.2.2.2.2.1 laN8.2.2.2.2.2.1 laN8.2.2.2.2.2.2.1 rfl (XOK.hp.and CE.ok) ⟨hO2, hCE⟩ hP hsize hst hcat hcs hdg
  | 9, _ =>
    exact lam_callD (r := tf S S2 Hd2 9 z o) SF hK (rk.le (Nat.le_of_ble_eq_true rfl)) (c_X1_lambda_gap_9 l dC dI dA g b mc S Hd n o ho hS1 hT) q1621 q112 q1620 qs39 (g_recv hK hP1 (ci := 0) rfl) hlink q2607 (by decide +kernel) (by decide) hF hLE.2.2.2.2.2.2.2.2.2.1 rfl laK9 laN9.1 laN9.2.1 laN9.2.2.1 laN9.2.2.2.1 laN9.2.2.2.2.1 laN9.2.2.2.2.2.1 laN9.2.2.2.2.2.2.1 rfl (XOK.hp.and (XOK.hp.and CE.ok)) ⟨hP1, hO, hCE⟩ hP hsize hst hcat hcs hdg
  | 10, _ =>
    exact lam_callC (r := tf S S2 Hd2 10 z o) SF hK (rk.le (Nat.le_of_ble_eq_true rfl)) (c_X1_lambda_decidedIn_10 l dC dI dA b2 mc2 S2 Hd2 z o ho2 hS2) q1686 q112 q1685 hlink q2607 (by decide +kernel) (by decide) hF hLE.2.2.2.2.2.2.2.2.2.2.1 rfl laK10 laN10.1 laN10.2.1 laN10.2.2.1 laN10.2.2.2.1 laN10.2.2.2.2.1 laN10.2.2.2.2.2.1 laN10.2.2.2.2.2.2.1 rfl (XOK.hp.and CE.ok) ⟨hO2, hCE⟩ hP hsize hst hcat hcs hdg
  | 11, _ =>
    exact lam_callB (r := tf S S2 Hd2 11 z o) SF hK (rk.le (Nat.le_of_ble_eq_true rfl)) (c_X1_lambda_decidedIn_11 l dC dI dA b2 mc2 S2 Hd2 o ho2 hS2 hT2) q1688 q112 q1687 hlink q2607 (by decide +kernel) (by decide) hF hLE.2.2.2.2.2.2.2.2.2.2.2 rfl laK11 laN11.1 laN11.2.1 laN11.2.2.1 laN11.2.2.2.1 laN11.2.2.2.2.1 laN11.2.2.2.2.2.1 laN11.2.2.2.2.2.2.1 rfl (XOK.hp.and CE.ok) ⟨hO2, hCE⟩ hP hsize hst hcat hcs hdg
end TST
