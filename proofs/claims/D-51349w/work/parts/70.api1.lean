set_option maxRecDepth 100000
section API1
variable {p : Program} {l : Launch} {e : Env} {R : Room} {s : State} {m : MethodId} {args : Array Value} {below : List Frame} {meth : Method} {c : Code} {H : Heap} {locs : List Loc} {Q : State → Prop}
variable {cc : ByteArray} {pc nL : Nat} {ls : Array Slot} {rest : List Value} {dC : Nat → ClassId} {dI : Nat → Nat → Nat} {dA : Nat → ClassId} {a : Nat → Nat} {M : Nat → Nat → Int32} {H0 : Heap}

theorem inI_t {x a z : Int32} {X L U : Int} (h1 : x.toInt = X) (h2 : a.toInt = L) (h3 : z.toInt = U) (c1 : ¬ x < a) (c2 : ¬ z < x) : inZ X L U = true := by
  rw [Int32.lt_iff_toInt_lt] at c1 c2
  unfold inZ
  rw [Bool.and_eq_true, decide_eq_true_eq, decide_eq_true_eq]
  omega
theorem inI_f1 {x a : Int32} {X L U : Int} (h1 : x.toInt = X) (h2 : a.toInt = L) (c1 : x < a) : ¬ inZ X L U = true := by
  rw [Int32.lt_iff_toInt_lt] at c1
  unfold inZ
  rw [Bool.and_eq_true, decide_eq_true_eq, decide_eq_true_eq]
  omega
theorem inI_f2 {x z : Int32} {X L U : Int} (h1 : x.toInt = X) (h3 : z.toInt = U) (c2 : z < x) : ¬ inZ X L U = true := by
  rw [Int32.lt_iff_toInt_lt] at c2
  unfold inZ
  rw [Bool.and_eq_true, decide_eq_true_eq, decide_eq_true_eq]
  omega
set_option maxHeartbeats 4000000 in
theorem c_X1_in (l : Launch) (dC : Nat → ClassId) (dI : Nat → Nat → Nat) (dA : Nat → ClassId) (X : Int) (L : Int) (U : Int) (x : Int32) (a : Int32) (z : Int32) (hx9 : x.toInt = X) (hl9 : a.toInt = L) (hu9 : z.toInt = U) : Met l yX1_in (ws_ yX1_in cX1_in 3 (some (.boolean))) (rmD 0 0 0) (uPx [.int x, .int a, .int z] (fun _ _ => True) dC dI dA) (uQi (nI (inZ X L U).toNat)) 0 0 noF := by
  refine x_metz (own := RX1) (by decide) rfl (Nat.le_of_ble_eq_true rfl) fun p e R s m args below meth c Q SF rk hX hK hret ls hl => ?_
  have hx := SF.1
  have hb := SF.2.1
  have hml := SF.2.2.1
  have hown := SF.2.2.2.1
  have hts := SF.2.2.2.2
  have hl : lv_has ls 3 [(0, .int x), (1, .int a), (2, .int z)] := hl
  refine lv_iload_n hx hb dX1_in_0 rfl (lv_at hl 1 rfl) ?_
  refine lv_iload_n hx hb dX1_in_1 rfl (lv_at hl 0 rfl) ?_
  refine lv_icmp_gt (tgt := 14) hx hb dX1_in_2 (by decide) (fun c_2 => ?_) (fun c_2 => ?_)
  · refine lv_iconst (v := nI 0) hx hb dX1_in_14 (by decide) ?_
    exact hret _ _ _ (u_ff (by first | exact inI_f1 hx9 hl9 c_2 | exact inI_f2 hx9 hu9 c_7)) dX1_in_15
  · refine lv_iload_n hx hb dX1_in_5 rfl (lv_at hl 0 rfl) ?_
    refine lv_iload_n hx hb dX1_in_6 rfl (lv_at hl 2 rfl) ?_
    refine lv_icmp_gt (tgt := 14) hx hb dX1_in_7 (by decide) (fun c_7 => ?_) (fun c_7 => ?_)
    · refine lv_iconst (v := nI 0) hx hb dX1_in_14 (by decide) ?_
      exact hret _ _ _ (u_ff (by first | exact inI_f1 hx9 hl9 c_2 | exact inI_f2 hx9 hu9 c_7)) dX1_in_15
    · refine lv_iconst (v := nI 1) hx hb dX1_in_10 (by decide) ?_
      refine lv_goto (tgt := 15) hx hb dX1_in_11 (by decide) ?_
      exact hret _ _ _ (u_tt (inI_t hx9 hl9 hu9 c_2 c_7)) dX1_in_15

set_option maxHeartbeats 4000000 in
theorem c_X1_isDigit (l : Launch) (dC : Nat → ClassId) (dI : Nat → Nat → Nat) (dA : Nat → ClassId) (x : Int32)  : Met l yX1_isDigit (ws_ yX1_isDigit cX1_isDigit 1 (some (.boolean))) (rmD 1 0 0) (uPx [.int x] (fun _ _ => True) dC dI dA) (uQi (nI (inZ x.toInt (-1) 9).toNat)) 0 0 noF := by
  refine x_metz (own := RX1) (by decide) rfl (Nat.le_of_ble_eq_true rfl) fun p e R s m args below meth c Q SF rk hX hK hret ls hl => ?_
  have hx := SF.1
  have hb := SF.2.1
  have hml := SF.2.2.1
  have hown := SF.2.2.2.1
  have hts := SF.2.2.2.2
  have hl : lv_has ls 1 [(0, .int x)] := hl
  refine lv_iload_n hx hb dX1_isDigit_0 rfl (lv_at hl 0 rfl) ?_
  refine lv_iconst (v := (-1)) hx hb dX1_isDigit_1 (by decide) ?_
  refine lv_bipush (v := nI 9) hx hb dX1_isDigit_2 (by decide) ?_
  refine u_run (x_rS (As := [.int x, .int (-1), .int (nI 9)]) SF hK (d := 0) (rk.le (Nat.le_of_ble_eq_true rfl)) (c_X1_in l dC dI dA x.toInt (-1) 9 x (-1) (nI 9) rfl (by decide) (by first | exact rfl | decide | exact pk_sub_toInt (by omega) (by decide))) (lw_S q371 q372 q112 q373) (n := 3) (by decide +kernel) rfl (by decide) (XOK.hp) (trivial) hl.1 (Nat.le_of_ble_eq_true rfl) ⟨Nat.zero_le _, Nat.zero_le _⟩ rfl dX1_isDigit_4) ?_
  refine u_top (y := nI ((inZ x.toInt (-1) 9).toNat)) rfl ?_
  exact hret _ _ _ rfl dX1_isDigit_7

set_option maxHeartbeats 4000000 in
theorem c_X1_checkIndex (l : Launch) (dC : Nat → ClassId) (dI : Nat → Nat → Nat) (dA : Nat → ClassId) (sz : Nat) (hs : Nat) (z : Bool) (hsz : sz ≤ hs) (hfl : l.stackTraces = false) : vx_Met l yX1_checkIndex (ws_ yX1_checkIndex cX1_checkIndex 1 none) (rmD 6 (1) (6)) (gPx [.int (nI z.toNat)] (fun U H => EN sz U H) hs dC dI dA) (gQ hs (fun _ => False) (fun v H => v = none ∧ z = true)) (gX hs (fun _ => False) (fun E q H => z = false ∧ E = "java/lang/IndexOutOfBoundsException")) (1) (6) (gF (fun _ => False) hs) := by
  refine v_metv (own := RX1) (by decide) rfl (Nat.le_of_ble_eq_true rfl) fun p e R s m args below meth c Q SF rk hRR hX hK hin hE hret hthr hQ ls hl => ?_
  have hx := SF.1
  have hb := SF.2.1
  have hml := SF.2.2.1
  have hown := SF.2.2.2.1
  have hts := SF.2.2.2.2
  have hz0 := hX.2
  have hz : hs ≤ s.heap.size := Nat.le_of_eq hX.2.symm
  have hX := hX.1
  have hRc := hRR.1
  have hRs := hRR.2
  have gFs : ∀ q : Nat, s.heap.size ≤ q → gF (fun _ => False) hs q := fun q h => Or.inr (hz0 ▸ h)
  have hS : va_S (gF (fun _ => False) hs) s.heap s.heap [] := va_S.rf
  have hl : lv_has ls 1 [(0, .int (nI z.toNat))] := hl
  have hEN := hX
  have hCE := hEN.1
  have hAz : ∀ q, gF (fun _ => False) hs q → sz ≤ q := fun q h => h.elim (fun e => e.elim) (fun h => Nat.le_trans hsz h)
  refine lv_iload_n hx hb dX1_checkIndex_0 rfl (lv_at hl 0 rfl) ?_
  refine lv_if_ne (tgt := 12) hx hb dX1_checkIndex_1 (by decide) (fun c_1 => ?_) (fun c_1 => ?_)
  · have c_1 : ¬ (z = false) := fun q9 => c_1 (u_zb.mpr q9)
    exact hret _ _ _ _ _ _ (⟨rfl, by simpa using c_1⟩) hS (by omega) (by omega) dX1_checkIndex_12
  · have c_1 : z = false := u_zb.mp c_1
    exact g_jdk hx hb hfl hown hts (vx_words ag_IO an_IO hts (hEN.2.2.1 4 (by decide)) hEN.2.1.2.2) (by decide) q377 q121 og_IO hEN hAz hz0 hS (hl.1.trans hml.symm) dX1_checkIndex_4 dX1_checkIndex_7 dX1_checkIndex_8 dX1_checkIndex_11 (fun x hx => (hE x hx).elim) (rk.le (Nat.le_of_ble_eq_true rfl)) (by decide) hRc hRs (by omega) (by omega) hQ (fun _ _ => ⟨c_1, rfl⟩)

set_option maxHeartbeats 4000000 in
theorem c_X1_checkRange (l : Launch) (dC : Nat → ClassId) (dI : Nat → Nat → Nat) (dA : Nat → ClassId) (sz : Nat) (hs : Nat) (z : Bool) (hsz : sz ≤ hs) (hfl : l.stackTraces = false) : vx_Met l yX1_checkRange (ws_ yX1_checkRange cX1_checkRange 1 none) (rmD 6 (1) (6)) (gPx [.int (nI z.toNat)] (fun U H => EN sz U H) hs dC dI dA) (gQ hs (fun _ => False) (fun v H => v = none ∧ z = true)) (gX hs (fun _ => False) (fun E q H => z = false ∧ E = "java/lang/IllegalArgumentException")) (1) (6) (gF (fun _ => False) hs) := by
  refine v_metv (own := RX1) (by decide) rfl (Nat.le_of_ble_eq_true rfl) fun p e R s m args below meth c Q SF rk hRR hX hK hin hE hret hthr hQ ls hl => ?_
  have hx := SF.1
  have hb := SF.2.1
  have hml := SF.2.2.1
  have hown := SF.2.2.2.1
  have hts := SF.2.2.2.2
  have hz0 := hX.2
  have hz : hs ≤ s.heap.size := Nat.le_of_eq hX.2.symm
  have hX := hX.1
  have hRc := hRR.1
  have hRs := hRR.2
  have gFs : ∀ q : Nat, s.heap.size ≤ q → gF (fun _ => False) hs q := fun q h => Or.inr (hz0 ▸ h)
  have hS : va_S (gF (fun _ => False) hs) s.heap s.heap [] := va_S.rf
  have hl : lv_has ls 1 [(0, .int (nI z.toNat))] := hl
  have hEN := hX
  have hCE := hEN.1
  have hAz : ∀ q, gF (fun _ => False) hs q → sz ≤ q := fun q h => h.elim (fun e => e.elim) (fun h => Nat.le_trans hsz h)
  refine lv_iload_n hx hb dX1_checkRange_0 rfl (lv_at hl 0 rfl) ?_
  refine lv_if_ne (tgt := 12) hx hb dX1_checkRange_1 (by decide) (fun c_1 => ?_) (fun c_1 => ?_)
  · have c_1 : ¬ (z = false) := fun q9 => c_1 (u_zb.mpr q9)
    exact hret _ _ _ _ _ _ (⟨rfl, by simpa using c_1⟩) hS (by omega) (by omega) dX1_checkRange_12
  · have c_1 : z = false := u_zb.mp c_1
    exact g_jdk hx hb hfl hown hts (vx_words ag_IA an_IA hts (hEN.2.2.1 5 (by decide)) hEN.2.1.2.2) (by decide) q1283 q135 og_IA hEN hAz hz0 hS (hl.1.trans hml.symm) dX1_checkRange_4 dX1_checkRange_7 dX1_checkRange_8 dX1_checkRange_11 (fun x hx => (hE x hx).elim) (rk.le (Nat.le_of_ble_eq_true rfl)) (by decide) hRc hRs (by omega) (by omega) hQ (fun _ _ => ⟨c_1, rfl⟩)

set_option maxHeartbeats 4000000 in
theorem c_X1_office (l : Launch) (dC : Nat → ClassId) (dI : Nat → Nat → Nat) (dA : Nat → ClassId) (g : Nat → Nat) (b : Nat → Nat) (mc : Nat → Int32) (S : Nat → Int32) (Hd : Nat → Int32) (n : Nat → Int32) (sz : Nat) (hs : Nat) (hsz : sz ≤ hs) (hfl : l.stackTraces = false) : vx_Met l yX1_office (ws_ yX1_office cX1_office 1 (some (.object "BadCodes$Office"))) (rmD 6 (1) (6)) (gPx [.ref (g 0)] (fun U H => AX dC dI dA g b mc S Hd n sz U H) hs dC dI dA) (gQ hs (fun _ => False) (fun v H => v = some (.ref (b 0)) ∧ lo (n 1) = true)) (gX hs (fun _ => False) (fun E q H => ¬ thC [(lo (n 1), 1)] = 0 ∧ E = nmA (thC [(lo (n 1), 1)]))) (1) (6) (gF (fun _ => False) hs) := by
  refine v_meta (own := RX1) (by decide) rfl (Nat.le_of_ble_eq_true rfl) (Or.inl ⟨_, rfl⟩) fun p e R s m args below meth c Q SF rk hRR hX hK hin hE hret hthr hQ ls hl => ?_
  have hx := SF.1
  have hb := SF.2.1
  have hml := SF.2.2.1
  have hown := SF.2.2.2.1
  have hts := SF.2.2.2.2
  have hz0 := hX.2
  have hz : hs ≤ s.heap.size := Nat.le_of_eq hX.2.symm
  have hX := hX.1
  have hRc := hRR.1
  have hRs := hRR.2
  have gFs : ∀ q : Nat, s.heap.size ≤ q → gF (fun _ => False) hs q := fun q h => Or.inr (hz0 ▸ h)
  have hS : va_S (gF (fun _ => False) hs) s.heap s.heap [] := va_S.rf
  have hl : lv_has ls 1 [(0, .ref (g 0))] := hl
  have hEN := hX.2.2
  have hCE := hEN.1
  have hAz : ∀ q, gF (fun _ => False) hs q → sz ≤ q := fun q h => h.elim (fun e => e.elim) (fun h => Nat.le_trans hsz h)
  obtain ⟨nv, hP0⟩ := AX.ob hX
  by_cases h1 : n 1 = 0
  · have hP2 := hX.1 h1
    refine lv_aload_n hx hb dX1_office_0 rfl (lv_at hl 0 rfl) ?_
    refine va_get (D := (dC, dI)) (ci := 0) (v := .null) (C := RX1) (T := TX1) (N := 9) hx hb hts in_X1 hown hK (hP2.at hS hz0 (fun h => h)) 0 rfl rfl 4 (by decide) (hts _ q220) (fun _ h9 => h9) rfl dX1_office_1 ?_
    refine lv_ifnonnullN hx hb dX1_office_4 ?_
    exact g_jdk hx hb hfl hown hts (vx_words ag_IS an_IS hts (hEN.2.2.1 6 (by decide)) hEN.2.1.2.2) (by decide) q1316 q149 og_IS hEN hAz hz0 hS (hl.1.trans hml.symm) dX1_office_7 dX1_office_10 dX1_office_11 dX1_office_14 (fun x hx => (hE x hx).elim) (rk.le (Nat.le_of_ble_eq_true rfl)) (by decide) hRc hRs (by omega) (by omega) hQ (fun _ _ => thY (nm := nmA) (k := 1) (by simp [thC, lo_f h1]) (by decide) rfl)
  · have hlo := lo_t h1
    obtain ⟨hP1, hO⟩ := hX.2.1 h1
    refine lv_aload_n hx hb dX1_office_0 rfl (lv_at hl 0 rfl) ?_
    refine va_get (D := (dC, dI)) (ci := 0) (v := .ref (b 0)) (C := RX1) (T := TX1) (N := 9) hx hb hts in_X1 hown hK (hP1.at hS hz0 (fun h => h)) 0 rfl rfl 4 (by decide) (hts _ q220) (fun _ h9 => h9) rfl dX1_office_1 ?_
    refine lv_ifnonnull (tgt := 15) hx hb dX1_office_4 (by decide) ?_
    refine lv_aload_n hx hb dX1_office_15 rfl (lv_at hl 0 rfl) ?_
    refine va_get (D := (dC, dI)) (ci := 0) (v := .ref (b 0)) (C := RX1) (T := TX1) (N := 9) hx hb hts in_X1 hown hK (hP1.at hS hz0 (fun h => h)) 0 rfl rfl 4 (by decide) (hts _ q220) (fun _ h9 => h9) rfl dX1_office_16 ?_
    exact hret _ _ _ _ _ _ _ (Or.inr ⟨_, rfl⟩) (⟨rfl, hlo⟩) hS (by omega) (by omega) dX1_office_19

set_option maxHeartbeats 4000000 in
theorem c_X1_withTown (l : Launch) (dC : Nat → ClassId) (dI : Nat → Nat → Nat) (dA : Nat → ClassId) (g : Nat → Nat) (b : Nat → Nat) (mc : Nat → Int32) (S : Nat → Int32) (Hd : Nat → Int32) (n : Nat → Int32) (sz : Nat) (hs : Nat) (x : Int32) (hT : TWf Hd) (hsz : sz ≤ hs) (hfl : l.stackTraces = false) : vx_Met l yX1_withTown (ws_ yX1_withTown cX1_withTown 3 (some (.object "BadCodes$Office"))) (rmD 7 (2) (12)) (gPx [.ref (g 0), .int x] (fun U H => AX dC dI dA g b mc S Hd n sz U H) hs dC dI dA) (gQ hs (fun _ => False) (fun v H => v = some (.ref (b 0)) ∧ lo (n 1) = true ∧ inZ x.toInt 0 ((tn Hd : Int) - 1) = true)) (gX hs (fun _ => False) (fun E q H => ¬ thC [(lo (n 1), 1), (inZ x.toInt 0 ((tn Hd : Int) - 1), 2)] = 0 ∧ E = nmA (thC [(lo (n 1), 1), (inZ x.toInt 0 ((tn Hd : Int) - 1), 2)]))) (2) (12) (gF (fun _ => False) hs) := by
  refine v_meta (own := RX1) (by decide) rfl (Nat.le_of_ble_eq_true rfl) (Or.inl ⟨_, rfl⟩) fun p e R s m args below meth c Q SF rk hRR hX hK hin hE hret hthr hQ ls hl => ?_
  have hx := SF.1
  have hb := SF.2.1
  have hml := SF.2.2.1
  have hown := SF.2.2.2.1
  have hts := SF.2.2.2.2
  have hz0 := hX.2
  have hz : hs ≤ s.heap.size := Nat.le_of_eq hX.2.symm
  have hX := hX.1
  have hRc := hRR.1
  have hRs := hRR.2
  have gFs : ∀ q : Nat, s.heap.size ≤ q → gF (fun _ => False) hs q := fun q h => Or.inr (hz0 ▸ h)
  have hS : va_S (gF (fun _ => False) hs) s.heap s.heap [] := va_S.rf
  have hl : lv_has ls 3 [(0, .ref (g 0)), (1, .int x)] := hl
  have hEN := hX.2.2
  have hCE := hEN.1
  have hAz : ∀ q, gF (fun _ => False) hs q → sz ≤ q := fun q h => h.elim (fun e => e.elim) (fun h => Nat.le_trans hsz h)
  obtain ⟨nv, hP0⟩ := AX.ob hX
  have hn9 := hT.2.1
  refine lv_aload_n hx hb dX1_withTown_0 rfl (lv_at hl 0 rfl) ?_
  refine g_runX (v_rV (C := RX1) (As := []) SF hK (d := 6) (rk.le (Nat.le_of_ble_eq_true rfl)) (c_X1_office l dC dI dA g b mc S Hd n sz s.heap.size (show sz ≤ s.heap.size by omega) hfl) (lw_V q1312 q1314 qs25 q112 q1315) (n := 0) (by decide +kernel) rfl (by decide) (g_recv hK (hP0.at hS hz0 (fun h => h)) (ci := 0) rfl) (XOK.hs (XOK.hp.and (XOK.hp.and EN.ok))) (⟨AX.at hX hS hz0 hsz, rfl⟩) hl.1 (Nat.le_of_ble_eq_true rfl) ⟨(by omega), (by omega)⟩ rfl dX1_withTown_1) rfl hS (fun _ h => h.elim) gFs (fun v9 H locs hP9 hz9 oq hS => ?_) (fun E q9 ce H locs hP9 hz9 oq hS hce hcv hcl => ?_)
  · obtain ⟨rfl, hlo⟩ := hP9
    have hz := Nat.le_trans hz hz9
    refine W.eq (g2 := F0 m 4 ls [.ref (b 0)]) rfl ?_
    have hn1 := lo_n hlo
    obtain ⟨hP1, hO⟩ := hX.2.1 hn1
    refine lv_astore_n (lv' := [(2, .ref (b 0)), (0, .ref (g 0)), (1, .int x)]) hx hb dX1_withTown_4 rfl hl (by decide) rfl (fun ls hl => ?_)
    refine lv_iload_n hx hb dX1_withTown_5 rfl (lv_at hl 2 rfl) ?_
    refine lv_iconst (v := nI 0) hx hb dX1_withTown_6 (by decide) ?_
    refine lv_aload_n hx hb dX1_withTown_7 rfl (lv_at hl 0 rfl) ?_
    refine va_getN (D := (dC, dI)) (ci := 1) (v := .ref (b 1)) (C := RX5) (T := TX5) (N := 10) hx hb hts in_X5 hown hK ((hO.at hS hz0 (fun _ _ h => h)) 0 _ rfl) 0 rfl rfl 0 (by decide) (va_Nw.use rfl (hCE.1 2 (by decide))) (fun _ h9 => h9) rfl dX1_withTown_8 ?_
    refine x_run5 (x_rF (C := RJ20) (As := []) (hK.1 6 _ rfl).2 SF hK (d := 0) (rk.le (Nat.le_of_ble_eq_true rfl)) (c_J20_size l dC dI dA (b 1) (b 2) (tn Hd) (mc 0) 12 (fun t => if t < tn Hd then some (b (10 + t)) else none) ) (lw_F q1303 q954 q956 q141 q958) (hCE.2.2 7 (by decide)) (n := 0) (by decide +kernel) rfl (by decide) (g_recv hK ((hO.at hS hz0 (fun _ _ h => h)) 1 _ rfl) (ci := 6) rfl) (XOK.hp) (⟨(hO.at hS hz0 (fun _ _ h => h)) 1 _ rfl, (hO.at hS hz0 (fun _ _ h => h)) 2 _ rfl⟩) hl.1 (Nat.le_of_ble_eq_true rfl) ⟨(by omega), (by omega)⟩ rfl dX1_withTown_11) ?_
    refine u_top (y := nI (tn Hd)) rfl ?_
    refine lv_iconst (v := nI 1) hx hb dX1_withTown_16 (by decide) ?_
    refine lv_isub hx hb dX1_withTown_17 ?_
    refine u_run (x_rS (As := [.int x, .int (nI 0), .int ((nI (tn Hd)) - (nI 1))]) SF hK (d := 0) (rk.le (Nat.le_of_ble_eq_true rfl)) (c_X1_in l dC dI dA x.toInt 0 ((tn Hd : Int) - 1) x (nI 0) ((nI (tn Hd)) - (nI 1)) rfl (by decide) (by first | exact rfl | decide | exact pk_sub_toInt (by omega) (by decide))) (lw_S q371 q372 q112 q373) (n := 3) (by decide +kernel) rfl (by decide) (XOK.hp) (trivial) hl.1 (Nat.le_of_ble_eq_true rfl) ⟨(by omega), (by omega)⟩ rfl dX1_withTown_18) ?_
    refine u_top (y := nI ((inZ x.toInt 0 ((tn Hd : Int) - 1)).toNat)) rfl ?_
    refine g_runX (v_rS (As := [.int (nI ((inZ x.toInt 0 ((tn Hd : Int) - 1)).toNat))]) SF hK (d := 6) (rk.le (Nat.le_of_ble_eq_true rfl)) (c_X1_checkIndex l dC dI dA sz H.size (inZ x.toInt 0 ((tn Hd : Int) - 1)) (show sz ≤ H.size by omega) hfl) (lw_S q374 q375 q112 q376) (n := 1) (by decide +kernel) rfl (by decide) (XOK.hs (EN.ok)) (⟨hEN.at hS hAz, rfl⟩) hl.1 (Nat.le_of_ble_eq_true rfl) ⟨(by omega), (by omega)⟩ rfl dX1_withTown_21) rfl hS (fun _ h => h.elim) gFs (fun v9 H locs hP9 hz9 oq hS => ?_) (fun E q9 ce H locs hP9 hz9 oq hS hce hcv hcl => ?_)
    · obtain ⟨rfl, hz1⟩ := hP9
      have hz := Nat.le_trans hz hz9
      refine W.eq (g2 := F0 m 24 ls []) rfl ?_
      have hok1 := hz1
      refine lv_aload_n hx hb dX1_withTown_24 rfl (lv_at hl 0 rfl) ?_
      exact hret _ _ _ _ _ _ _ (Or.inr ⟨_, rfl⟩) (⟨rfl, hlo, hok1⟩) hS (by omega) (by omega) dX1_withTown_25
    · have hz := Nat.le_trans hz hz9
      obtain ⟨h9, rfl⟩ := hP9
      exact hthr _ _ _ _ _ _ _ _ _ _ (thY (nm := nmA) (k := 2) (by simp [thC, hlo, h9]) (by decide) rfl) hS (by omega) (by omega) hce hcv hcl
  · have hz := Nat.le_trans hz hz9
    obtain ⟨h9, rfl⟩ := hP9
    exact hthr _ _ _ _ _ _ _ _ _ _ (thX (L1 := [(lo (n 1), 1)]) (L2 := [(inZ x.toInt 0 ((tn Hd : Int) - 1), 2)]) (nm' := nmA) h9 rfl (by first | rfl | (rw [thC_n1 h9]; try rfl))) hS (by omega) (by omega) hce hcv hcl

set_option maxHeartbeats 4000000 in
theorem c_X1_withLetter (l : Launch) (dC : Nat → ClassId) (dI : Nat → Nat → Nat) (dA : Nat → ClassId) (g : Nat → Nat) (b : Nat → Nat) (mc : Nat → Int32) (S : Nat → Int32) (Hd : Nat → Int32) (n : Nat → Int32) (sz : Nat) (hs : Nat) (x : Int32) (hS1 : SWf S) (hsz : sz ≤ hs) (hfl : l.stackTraces = false) : vx_Met l yX1_withLetter (ws_ yX1_withLetter cX1_withLetter 3 (some (.object "BadCodes$Office"))) (rmD 7 (2) (12)) (gPx [.ref (g 0), .int x] (fun U H => AX dC dI dA g b mc S Hd n sz U H) hs dC dI dA) (gQ hs (fun _ => False) (fun v H => v = some (.ref (b 0)) ∧ lo (n 1) = true ∧ inZ x.toInt 0 ((ln S : Int) - 1) = true)) (gX hs (fun _ => False) (fun E q H => ¬ thC [(lo (n 1), 1), (inZ x.toInt 0 ((ln S : Int) - 1), 2)] = 0 ∧ E = nmA (thC [(lo (n 1), 1), (inZ x.toInt 0 ((ln S : Int) - 1), 2)]))) (2) (12) (gF (fun _ => False) hs) := by
  refine v_meta (own := RX1) (by decide) rfl (Nat.le_of_ble_eq_true rfl) (Or.inl ⟨_, rfl⟩) fun p e R s m args below meth c Q SF rk hRR hX hK hin hE hret hthr hQ ls hl => ?_
  have hx := SF.1
  have hb := SF.2.1
  have hml := SF.2.2.1
  have hown := SF.2.2.2.1
  have hts := SF.2.2.2.2
  have hz0 := hX.2
  have hz : hs ≤ s.heap.size := Nat.le_of_eq hX.2.symm
  have hX := hX.1
  have hRc := hRR.1
  have hRs := hRR.2
  have gFs : ∀ q : Nat, s.heap.size ≤ q → gF (fun _ => False) hs q := fun q h => Or.inr (hz0 ▸ h)
  have hS : va_S (gF (fun _ => False) hs) s.heap s.heap [] := va_S.rf
  have hl : lv_has ls 3 [(0, .ref (g 0)), (1, .int x)] := hl
  have hEN := hX.2.2
  have hCE := hEN.1
  have hAz : ∀ q, gF (fun _ => False) hs q → sz ≤ q := fun q h => h.elim (fun e => e.elim) (fun h => Nat.le_trans hsz h)
  obtain ⟨nv, hP0⟩ := AX.ob hX
  have hL := hS1.2.1
  refine lv_aload_n hx hb dX1_withLetter_0 rfl (lv_at hl 0 rfl) ?_
  refine g_runX (v_rV (C := RX1) (As := []) SF hK (d := 6) (rk.le (Nat.le_of_ble_eq_true rfl)) (c_X1_office l dC dI dA g b mc S Hd n sz s.heap.size (show sz ≤ s.heap.size by omega) hfl) (lw_V q1312 q1314 qs25 q112 q1315) (n := 0) (by decide +kernel) rfl (by decide) (g_recv hK (hP0.at hS hz0 (fun h => h)) (ci := 0) rfl) (XOK.hs (XOK.hp.and (XOK.hp.and EN.ok))) (⟨AX.at hX hS hz0 hsz, rfl⟩) hl.1 (Nat.le_of_ble_eq_true rfl) ⟨(by omega), (by omega)⟩ rfl dX1_withLetter_1) rfl hS (fun _ h => h.elim) gFs (fun v9 H locs hP9 hz9 oq hS => ?_) (fun E q9 ce H locs hP9 hz9 oq hS hce hcv hcl => ?_)
  · obtain ⟨rfl, hlo⟩ := hP9
    have hz := Nat.le_trans hz hz9
    refine W.eq (g2 := F0 m 4 ls [.ref (b 0)]) rfl ?_
    have hn1 := lo_n hlo
    obtain ⟨hP1, hO⟩ := hX.2.1 hn1
    refine lv_astore_n (lv' := [(2, .ref (b 0)), (0, .ref (g 0)), (1, .int x)]) hx hb dX1_withLetter_4 rfl hl (by decide) rfl (fun ls hl => ?_)
    refine lv_iload_n hx hb dX1_withLetter_5 rfl (lv_at hl 2 rfl) ?_
    refine lv_iconst (v := nI 0) hx hb dX1_withLetter_6 (by decide) ?_
    refine lv_aload_n hx hb dX1_withLetter_7 rfl (lv_at hl 0 rfl) ?_
    refine va_getN (D := (dC, dI)) (ci := 1) (v := .ref (b 3)) (C := RX5) (T := TX5) (N := 10) hx hb hts in_X5 hown hK ((hO.at hS hz0 (fun _ _ h => h)) 0 _ rfl) 0 rfl rfl 1 (by decide) (va_Nw.use rfl (hCE.1 3 (by decide))) (fun _ h9 => h9) rfl dX1_withLetter_8 ?_
    refine x_run5 (x_rF (C := RJ20) (As := []) (hK.1 6 _ rfl).2 SF hK (d := 0) (rk.le (Nat.le_of_ble_eq_true rfl)) (c_J20_size l dC dI dA (b 3) (b 4) (ln S) (mc 1) 24 (fun o => if o < ln S then some (b (22 + o)) else none) ) (lw_F q1303 q954 q956 q141 q958) (hCE.2.2 7 (by decide)) (n := 0) (by decide +kernel) rfl (by decide) (g_recv hK ((hO.at hS hz0 (fun _ _ h => h)) 3 _ rfl) (ci := 6) rfl) (XOK.hp) (⟨(hO.at hS hz0 (fun _ _ h => h)) 3 _ rfl, (hO.at hS hz0 (fun _ _ h => h)) 4 _ rfl⟩) hl.1 (Nat.le_of_ble_eq_true rfl) ⟨(by omega), (by omega)⟩ rfl dX1_withLetter_11) ?_
    refine u_top (y := nI (ln S)) rfl ?_
    refine lv_iconst (v := nI 1) hx hb dX1_withLetter_16 (by decide) ?_
    refine lv_isub hx hb dX1_withLetter_17 ?_
    refine u_run (x_rS (As := [.int x, .int (nI 0), .int ((nI (ln S)) - (nI 1))]) SF hK (d := 0) (rk.le (Nat.le_of_ble_eq_true rfl)) (c_X1_in l dC dI dA x.toInt 0 ((ln S : Int) - 1) x (nI 0) ((nI (ln S)) - (nI 1)) rfl (by decide) (by first | exact rfl | decide | exact pk_sub_toInt (by omega) (by decide))) (lw_S q371 q372 q112 q373) (n := 3) (by decide +kernel) rfl (by decide) (XOK.hp) (trivial) hl.1 (Nat.le_of_ble_eq_true rfl) ⟨(by omega), (by omega)⟩ rfl dX1_withLetter_18) ?_
    refine u_top (y := nI ((inZ x.toInt 0 ((ln S : Int) - 1)).toNat)) rfl ?_
    refine g_runX (v_rS (As := [.int (nI ((inZ x.toInt 0 ((ln S : Int) - 1)).toNat))]) SF hK (d := 6) (rk.le (Nat.le_of_ble_eq_true rfl)) (c_X1_checkIndex l dC dI dA sz H.size (inZ x.toInt 0 ((ln S : Int) - 1)) (show sz ≤ H.size by omega) hfl) (lw_S q374 q375 q112 q376) (n := 1) (by decide +kernel) rfl (by decide) (XOK.hs (EN.ok)) (⟨hEN.at hS hAz, rfl⟩) hl.1 (Nat.le_of_ble_eq_true rfl) ⟨(by omega), (by omega)⟩ rfl dX1_withLetter_21) rfl hS (fun _ h => h.elim) gFs (fun v9 H locs hP9 hz9 oq hS => ?_) (fun E q9 ce H locs hP9 hz9 oq hS hce hcv hcl => ?_)
    · obtain ⟨rfl, hz1⟩ := hP9
      have hz := Nat.le_trans hz hz9
      refine W.eq (g2 := F0 m 24 ls []) rfl ?_
      have hok1 := hz1
      refine lv_aload_n hx hb dX1_withLetter_24 rfl (lv_at hl 0 rfl) ?_
      exact hret _ _ _ _ _ _ _ (Or.inr ⟨_, rfl⟩) (⟨rfl, hlo, hok1⟩) hS (by omega) (by omega) dX1_withLetter_25
    · have hz := Nat.le_trans hz hz9
      obtain ⟨h9, rfl⟩ := hP9
      exact hthr _ _ _ _ _ _ _ _ _ _ (thY (nm := nmA) (k := 2) (by simp [thC, hlo, h9]) (by decide) rfl) hS (by omega) (by omega) hce hcv hcl
  · have hz := Nat.le_trans hz hz9
    obtain ⟨h9, rfl⟩ := hP9
    exact hthr _ _ _ _ _ _ _ _ _ _ (thX (L1 := [(lo (n 1), 1)]) (L2 := [(inZ x.toInt 0 ((ln S : Int) - 1), 2)]) (nm' := nmA) h9 rfl (by first | rfl | (rw [thC_n1 h9]; try rfl))) hS (by omega) (by omega) hce hcv hcl

set_option maxHeartbeats 4000000 in
theorem c_X1_withPlace (l : Launch) (dC : Nat → ClassId) (dI : Nat → Nat → Nat) (dA : Nat → ClassId) (g : Nat → Nat) (b : Nat → Nat) (mc : Nat → Int32) (S : Nat → Int32) (Hd : Nat → Int32) (n : Nat → Int32) (sz : Nat) (hs : Nat) (x : Int32) (y : Int32) (hS1 : SWf S) (hsz : sz ≤ hs) (hfl : l.stackTraces = false) : vx_Met l yX1_withPlace (ws_ yX1_withPlace cX1_withPlace 4 (some (.object "BadCodes$Office"))) (rmD 8 (3) (18)) (gPx [.ref (g 0), .int x, .int y] (fun U H => AX dC dI dA g b mc S Hd n sz U H) hs dC dI dA) (gQ hs (fun _ => False) (fun v H => v = some (.ref (b 0)) ∧ lo (n 1) = true ∧ inZ x.toInt 0 ((ln S : Int) - 1) = true ∧ inZ y.toInt 0 4 = true)) (gX hs (fun _ => False) (fun E q H => ¬ thC [(lo (n 1), 1), (inZ x.toInt 0 ((ln S : Int) - 1), 2), (inZ y.toInt 0 4, 2)] = 0 ∧ E = nmA (thC [(lo (n 1), 1), (inZ x.toInt 0 ((ln S : Int) - 1), 2), (inZ y.toInt 0 4, 2)]))) (3) (18) (gF (fun _ => False) hs) := by
  refine v_meta (own := RX1) (by decide) rfl (Nat.le_of_ble_eq_true rfl) (Or.inl ⟨_, rfl⟩) fun p e R s m args below meth c Q SF rk hRR hX hK hin hE hret hthr hQ ls hl => ?_
  have hx := SF.1
  have hb := SF.2.1
  have hml := SF.2.2.1
  have hown := SF.2.2.2.1
  have hts := SF.2.2.2.2
  have hz0 := hX.2
  have hz : hs ≤ s.heap.size := Nat.le_of_eq hX.2.symm
  have hX := hX.1
  have hRc := hRR.1
  have hRs := hRR.2
  have gFs : ∀ q : Nat, s.heap.size ≤ q → gF (fun _ => False) hs q := fun q h => Or.inr (hz0 ▸ h)
  have hS : va_S (gF (fun _ => False) hs) s.heap s.heap [] := va_S.rf
  have hl : lv_has ls 4 [(0, .ref (g 0)), (1, .int x), (2, .int y)] := hl
  have hEN := hX.2.2
  have hCE := hEN.1
  have hAz : ∀ q, gF (fun _ => False) hs q → sz ≤ q := fun q h => h.elim (fun e => e.elim) (fun h => Nat.le_trans hsz h)
  obtain ⟨nv, hP0⟩ := AX.ob hX
  have hL := hS1.2.1
  refine lv_aload_n hx hb dX1_withPlace_0 rfl (lv_at hl 0 rfl) ?_
  refine lv_iload_n hx hb dX1_withPlace_1 rfl (lv_at hl 1 rfl) ?_
  refine g_runX (v_rV (C := RX1) (As := [.int x]) SF hK (d := 7) (rk.le (Nat.le_of_ble_eq_true rfl)) (c_X1_withLetter l dC dI dA g b mc S Hd n sz s.heap.size x hS1 (show sz ≤ s.heap.size by omega) hfl) (lw_V q1434 q1436 qs30 q112 q1437) (n := 1) (by decide +kernel) rfl (by decide) (g_recv hK (hP0.at hS hz0 (fun h => h)) (ci := 0) rfl) (XOK.hs (XOK.hp.and (XOK.hp.and EN.ok))) (⟨AX.at hX hS hz0 hsz, rfl⟩) hl.1 (Nat.le_of_ble_eq_true rfl) ⟨(by omega), (by omega)⟩ rfl dX1_withPlace_2) rfl hS (fun _ h => h.elim) gFs (fun v9 H locs hP9 hz9 oq hS => ?_) (fun E q9 ce H locs hP9 hz9 oq hS hce hcv hcl => ?_)
  · obtain ⟨rfl, hlo, hok1⟩ := hP9
    have hz := Nat.le_trans hz hz9
    refine W.eq (g2 := F0 m 5 ls [.ref (b 0)]) rfl ?_
    have hn1 := lo_n hlo
    obtain ⟨hP1, hO⟩ := hX.2.1 hn1
    refine lv_astore_n (lv' := [(3, .ref (b 0)), (0, .ref (g 0)), (1, .int x), (2, .int y)]) hx hb dX1_withPlace_5 rfl hl (by decide) rfl (fun ls hl => ?_)
    refine lv_iload_n hx hb dX1_withPlace_6 rfl (lv_at hl 3 rfl) ?_
    refine lv_iconst (v := nI 0) hx hb dX1_withPlace_7 (by decide) ?_
    refine lv_iconst (v := nI 4) hx hb dX1_withPlace_8 (by decide) ?_
    refine u_run (x_rS (As := [.int y, .int (nI 0), .int (nI 4)]) SF hK (d := 0) (rk.le (Nat.le_of_ble_eq_true rfl)) (c_X1_in l dC dI dA y.toInt 0 4 y (nI 0) (nI 4) rfl (by decide) (by first | exact rfl | decide | exact pk_sub_toInt (by omega) (by decide))) (lw_S q371 q372 q112 q373) (n := 3) (by decide +kernel) rfl (by decide) (XOK.hp) (trivial) hl.1 (Nat.le_of_ble_eq_true rfl) ⟨(by omega), (by omega)⟩ rfl dX1_withPlace_9) ?_
    refine u_top (y := nI ((inZ y.toInt 0 4).toNat)) rfl ?_
    refine g_runX (v_rS (As := [.int (nI ((inZ y.toInt 0 4).toNat))]) SF hK (d := 6) (rk.le (Nat.le_of_ble_eq_true rfl)) (c_X1_checkIndex l dC dI dA sz H.size (inZ y.toInt 0 4) (show sz ≤ H.size by omega) hfl) (lw_S q374 q375 q112 q376) (n := 1) (by decide +kernel) rfl (by decide) (XOK.hs (EN.ok)) (⟨hEN.at hS hAz, rfl⟩) hl.1 (Nat.le_of_ble_eq_true rfl) ⟨(by omega), (by omega)⟩ rfl dX1_withPlace_12) rfl hS (fun _ h => h.elim) gFs (fun v9 H locs hP9 hz9 oq hS => ?_) (fun E q9 ce H locs hP9 hz9 oq hS hce hcv hcl => ?_)
    · obtain ⟨rfl, hz1⟩ := hP9
      have hz := Nat.le_trans hz hz9
      refine W.eq (g2 := F0 m 15 ls []) rfl ?_
      have hok2 := hz1
      refine lv_aload_n hx hb dX1_withPlace_15 rfl (lv_at hl 0 rfl) ?_
      exact hret _ _ _ _ _ _ _ (Or.inr ⟨_, rfl⟩) (⟨rfl, hlo, hok1, hok2⟩) hS (by omega) (by omega) dX1_withPlace_16
    · have hz := Nat.le_trans hz hz9
      obtain ⟨h9, rfl⟩ := hP9
      exact hthr _ _ _ _ _ _ _ _ _ _ (thY (nm := nmA) (k := 2) (by simp [thC, hlo, hok1, h9]) (by decide) rfl) hS (by omega) (by omega) hce hcv hcl
  · have hz := Nat.le_trans hz hz9
    obtain ⟨h9, rfl⟩ := hP9
    exact hthr _ _ _ _ _ _ _ _ _ _ (thX (L1 := [(lo (n 1), 1), (inZ x.toInt 0 ((ln S : Int) - 1), 2)]) (L2 := [(inZ y.toInt 0 4, 2)]) (nm' := nmA) h9 rfl rfl) hS (by omega) (by omega) hce hcv hcl

set_option maxHeartbeats 4000000 in
theorem c_X1_withBundle (l : Launch) (dC : Nat → ClassId) (dI : Nat → Nat → Nat) (dA : Nat → ClassId) (g : Nat → Nat) (b : Nat → Nat) (mc : Nat → Int32) (S : Nat → Int32) (Hd : Nat → Int32) (n : Nat → Int32) (sz : Nat) (hs : Nat) (x : Int32) (hsz : sz ≤ hs) (hfl : l.stackTraces = false) : vx_Met l yX1_withBundle (ws_ yX1_withBundle cX1_withBundle 3 (some (.object "BadCodes$Office"))) (rmD 7 (2) (12)) (gPx [.ref (g 0), .int x] (fun U H => AX dC dI dA g b mc S Hd n sz U H) hs dC dI dA) (gQ hs (fun _ => False) (fun v H => v = some (.ref (b 0)) ∧ lo (n 1) = true ∧ inZ x.toInt 0 5 = true)) (gX hs (fun _ => False) (fun E q H => ¬ thC [(lo (n 1), 1), (inZ x.toInt 0 5, 2)] = 0 ∧ E = nmA (thC [(lo (n 1), 1), (inZ x.toInt 0 5, 2)]))) (2) (12) (gF (fun _ => False) hs) := by
  refine v_meta (own := RX1) (by decide) rfl (Nat.le_of_ble_eq_true rfl) (Or.inl ⟨_, rfl⟩) fun p e R s m args below meth c Q SF rk hRR hX hK hin hE hret hthr hQ ls hl => ?_
  have hx := SF.1
  have hb := SF.2.1
  have hml := SF.2.2.1
  have hown := SF.2.2.2.1
  have hts := SF.2.2.2.2
  have hz0 := hX.2
  have hz : hs ≤ s.heap.size := Nat.le_of_eq hX.2.symm
  have hX := hX.1
  have hRc := hRR.1
  have hRs := hRR.2
  have gFs : ∀ q : Nat, s.heap.size ≤ q → gF (fun _ => False) hs q := fun q h => Or.inr (hz0 ▸ h)
  have hS : va_S (gF (fun _ => False) hs) s.heap s.heap [] := va_S.rf
  have hl : lv_has ls 3 [(0, .ref (g 0)), (1, .int x)] := hl
  have hEN := hX.2.2
  have hCE := hEN.1
  have hAz : ∀ q, gF (fun _ => False) hs q → sz ≤ q := fun q h => h.elim (fun e => e.elim) (fun h => Nat.le_trans hsz h)
  obtain ⟨nv, hP0⟩ := AX.ob hX
  refine lv_aload_n hx hb dX1_withBundle_0 rfl (lv_at hl 0 rfl) ?_
  refine g_runX (v_rV (C := RX1) (As := []) SF hK (d := 6) (rk.le (Nat.le_of_ble_eq_true rfl)) (c_X1_office l dC dI dA g b mc S Hd n sz s.heap.size (show sz ≤ s.heap.size by omega) hfl) (lw_V q1312 q1314 qs25 q112 q1315) (n := 0) (by decide +kernel) rfl (by decide) (g_recv hK (hP0.at hS hz0 (fun h => h)) (ci := 0) rfl) (XOK.hs (XOK.hp.and (XOK.hp.and EN.ok))) (⟨AX.at hX hS hz0 hsz, rfl⟩) hl.1 (Nat.le_of_ble_eq_true rfl) ⟨(by omega), (by omega)⟩ rfl dX1_withBundle_1) rfl hS (fun _ h => h.elim) gFs (fun v9 H locs hP9 hz9 oq hS => ?_) (fun E q9 ce H locs hP9 hz9 oq hS hce hcv hcl => ?_)
  · obtain ⟨rfl, hlo⟩ := hP9
    have hz := Nat.le_trans hz hz9
    refine W.eq (g2 := F0 m 4 ls [.ref (b 0)]) rfl ?_
    have hn1 := lo_n hlo
    obtain ⟨hP1, hO⟩ := hX.2.1 hn1
    refine lv_astore_n (lv' := [(2, .ref (b 0)), (0, .ref (g 0)), (1, .int x)]) hx hb dX1_withBundle_4 rfl hl (by decide) rfl (fun ls hl => ?_)
    refine lv_iload_n hx hb dX1_withBundle_5 rfl (lv_at hl 2 rfl) ?_
    refine lv_iconst (v := nI 0) hx hb dX1_withBundle_6 (by decide) ?_
    refine lv_iconst (v := nI 5) hx hb dX1_withBundle_7 (by decide) ?_
    refine u_run (x_rS (As := [.int x, .int (nI 0), .int (nI 5)]) SF hK (d := 0) (rk.le (Nat.le_of_ble_eq_true rfl)) (c_X1_in l dC dI dA x.toInt 0 5 x (nI 0) (nI 5) rfl (by decide) (by first | exact rfl | decide | exact pk_sub_toInt (by omega) (by decide))) (lw_S q371 q372 q112 q373) (n := 3) (by decide +kernel) rfl (by decide) (XOK.hp) (trivial) hl.1 (Nat.le_of_ble_eq_true rfl) ⟨(by omega), (by omega)⟩ rfl dX1_withBundle_8) ?_
    refine u_top (y := nI ((inZ x.toInt 0 5).toNat)) rfl ?_
    refine g_runX (v_rS (As := [.int (nI ((inZ x.toInt 0 5).toNat))]) SF hK (d := 6) (rk.le (Nat.le_of_ble_eq_true rfl)) (c_X1_checkIndex l dC dI dA sz H.size (inZ x.toInt 0 5) (show sz ≤ H.size by omega) hfl) (lw_S q374 q375 q112 q376) (n := 1) (by decide +kernel) rfl (by decide) (XOK.hs (EN.ok)) (⟨hEN.at hS hAz, rfl⟩) hl.1 (Nat.le_of_ble_eq_true rfl) ⟨(by omega), (by omega)⟩ rfl dX1_withBundle_11) rfl hS (fun _ h => h.elim) gFs (fun v9 H locs hP9 hz9 oq hS => ?_) (fun E q9 ce H locs hP9 hz9 oq hS hce hcv hcl => ?_)
    · obtain ⟨rfl, hz1⟩ := hP9
      have hz := Nat.le_trans hz hz9
      refine W.eq (g2 := F0 m 14 ls []) rfl ?_
      have hok1 := hz1
      refine lv_aload_n hx hb dX1_withBundle_14 rfl (lv_at hl 0 rfl) ?_
      exact hret _ _ _ _ _ _ _ (Or.inr ⟨_, rfl⟩) (⟨rfl, hlo, hok1⟩) hS (by omega) (by omega) dX1_withBundle_15
    · have hz := Nat.le_trans hz hz9
      obtain ⟨h9, rfl⟩ := hP9
      exact hthr _ _ _ _ _ _ _ _ _ _ (thY (nm := nmA) (k := 2) (by simp [thC, hlo, h9]) (by decide) rfl) hS (by omega) (by omega) hce hcv hcl
  · have hz := Nat.le_trans hz hz9
    obtain ⟨h9, rfl⟩ := hP9
    exact hthr _ _ _ _ _ _ _ _ _ _ (thX (L1 := [(lo (n 1), 1)]) (L2 := [(inZ x.toInt 0 5, 2)]) (nm' := nmA) h9 rfl (by first | rfl | (rw [thC_n1 h9]; try rfl))) hS (by omega) (by omega) hce hcv hcl

set_option maxHeartbeats 4000000 in
theorem c_X1_withRoute (l : Launch) (dC : Nat → ClassId) (dI : Nat → Nat → Nat) (dA : Nat → ClassId) (g : Nat → Nat) (b : Nat → Nat) (mc : Nat → Int32) (S : Nat → Int32) (Hd : Nat → Int32) (n : Nat → Int32) (sz : Nat) (hs : Nat) (x : Int32) (hsz : sz ≤ hs) (hfl : l.stackTraces = false) : vx_Met l yX1_withRoute (ws_ yX1_withRoute cX1_withRoute 3 (some (.object "BadCodes$Office"))) (rmD 7 (2) (12)) (gPx [.ref (g 0), .int x] (fun U H => AX dC dI dA g b mc S Hd n sz U H) hs dC dI dA) (gQ hs (fun _ => False) (fun v H => v = some (.ref (b 0)) ∧ lo (n 1) = true ∧ inZ x.toInt 0 5 = true)) (gX hs (fun _ => False) (fun E q H => ¬ thC [(lo (n 1), 1), (inZ x.toInt 0 5, 2)] = 0 ∧ E = nmA (thC [(lo (n 1), 1), (inZ x.toInt 0 5, 2)]))) (2) (12) (gF (fun _ => False) hs) := by
  refine v_meta (own := RX1) (by decide) rfl (Nat.le_of_ble_eq_true rfl) (Or.inl ⟨_, rfl⟩) fun p e R s m args below meth c Q SF rk hRR hX hK hin hE hret hthr hQ ls hl => ?_
  have hx := SF.1
  have hb := SF.2.1
  have hml := SF.2.2.1
  have hown := SF.2.2.2.1
  have hts := SF.2.2.2.2
  have hz0 := hX.2
  have hz : hs ≤ s.heap.size := Nat.le_of_eq hX.2.symm
  have hX := hX.1
  have hRc := hRR.1
  have hRs := hRR.2
  have gFs : ∀ q : Nat, s.heap.size ≤ q → gF (fun _ => False) hs q := fun q h => Or.inr (hz0 ▸ h)
  have hS : va_S (gF (fun _ => False) hs) s.heap s.heap [] := va_S.rf
  have hl : lv_has ls 3 [(0, .ref (g 0)), (1, .int x)] := hl
  have hEN := hX.2.2
  have hCE := hEN.1
  have hAz : ∀ q, gF (fun _ => False) hs q → sz ≤ q := fun q h => h.elim (fun e => e.elim) (fun h => Nat.le_trans hsz h)
  obtain ⟨nv, hP0⟩ := AX.ob hX
  refine lv_aload_n hx hb dX1_withRoute_0 rfl (lv_at hl 0 rfl) ?_
  refine g_runX (v_rV (C := RX1) (As := []) SF hK (d := 6) (rk.le (Nat.le_of_ble_eq_true rfl)) (c_X1_office l dC dI dA g b mc S Hd n sz s.heap.size (show sz ≤ s.heap.size by omega) hfl) (lw_V q1312 q1314 qs25 q112 q1315) (n := 0) (by decide +kernel) rfl (by decide) (g_recv hK (hP0.at hS hz0 (fun h => h)) (ci := 0) rfl) (XOK.hs (XOK.hp.and (XOK.hp.and EN.ok))) (⟨AX.at hX hS hz0 hsz, rfl⟩) hl.1 (Nat.le_of_ble_eq_true rfl) ⟨(by omega), (by omega)⟩ rfl dX1_withRoute_1) rfl hS (fun _ h => h.elim) gFs (fun v9 H locs hP9 hz9 oq hS => ?_) (fun E q9 ce H locs hP9 hz9 oq hS hce hcv hcl => ?_)
  · obtain ⟨rfl, hlo⟩ := hP9
    have hz := Nat.le_trans hz hz9
    refine W.eq (g2 := F0 m 4 ls [.ref (b 0)]) rfl ?_
    have hn1 := lo_n hlo
    obtain ⟨hP1, hO⟩ := hX.2.1 hn1
    refine lv_astore_n (lv' := [(2, .ref (b 0)), (0, .ref (g 0)), (1, .int x)]) hx hb dX1_withRoute_4 rfl hl (by decide) rfl (fun ls hl => ?_)
    refine lv_iload_n hx hb dX1_withRoute_5 rfl (lv_at hl 2 rfl) ?_
    refine lv_iconst (v := nI 0) hx hb dX1_withRoute_6 (by decide) ?_
    refine lv_iconst (v := nI 5) hx hb dX1_withRoute_7 (by decide) ?_
    refine u_run (x_rS (As := [.int x, .int (nI 0), .int (nI 5)]) SF hK (d := 0) (rk.le (Nat.le_of_ble_eq_true rfl)) (c_X1_in l dC dI dA x.toInt 0 5 x (nI 0) (nI 5) rfl (by decide) (by first | exact rfl | decide | exact pk_sub_toInt (by omega) (by decide))) (lw_S q371 q372 q112 q373) (n := 3) (by decide +kernel) rfl (by decide) (XOK.hp) (trivial) hl.1 (Nat.le_of_ble_eq_true rfl) ⟨(by omega), (by omega)⟩ rfl dX1_withRoute_8) ?_
    refine u_top (y := nI ((inZ x.toInt 0 5).toNat)) rfl ?_
    refine g_runX (v_rS (As := [.int (nI ((inZ x.toInt 0 5).toNat))]) SF hK (d := 6) (rk.le (Nat.le_of_ble_eq_true rfl)) (c_X1_checkIndex l dC dI dA sz H.size (inZ x.toInt 0 5) (show sz ≤ H.size by omega) hfl) (lw_S q374 q375 q112 q376) (n := 1) (by decide +kernel) rfl (by decide) (XOK.hs (EN.ok)) (⟨hEN.at hS hAz, rfl⟩) hl.1 (Nat.le_of_ble_eq_true rfl) ⟨(by omega), (by omega)⟩ rfl dX1_withRoute_11) rfl hS (fun _ h => h.elim) gFs (fun v9 H locs hP9 hz9 oq hS => ?_) (fun E q9 ce H locs hP9 hz9 oq hS hce hcv hcl => ?_)
    · obtain ⟨rfl, hz1⟩ := hP9
      have hz := Nat.le_trans hz hz9
      refine W.eq (g2 := F0 m 14 ls []) rfl ?_
      have hok1 := hz1
      refine lv_aload_n hx hb dX1_withRoute_14 rfl (lv_at hl 0 rfl) ?_
      exact hret _ _ _ _ _ _ _ (Or.inr ⟨_, rfl⟩) (⟨rfl, hlo, hok1⟩) hS (by omega) (by omega) dX1_withRoute_15
    · have hz := Nat.le_trans hz hz9
      obtain ⟨h9, rfl⟩ := hP9
      exact hthr _ _ _ _ _ _ _ _ _ _ (thY (nm := nmA) (k := 2) (by simp [thC, hlo, h9]) (by decide) rfl) hS (by omega) (by omega) hce hcv hcl
  · have hz := Nat.le_trans hz hz9
    obtain ⟨h9, rfl⟩ := hP9
    exact hthr _ _ _ _ _ _ _ _ _ _ (thX (L1 := [(lo (n 1), 1)]) (L2 := [(inZ x.toInt 0 5, 2)]) (nm' := nmA) h9 rfl (by first | rfl | (rw [thC_n1 h9]; try rfl))) hS (by omega) (by omega) hce hcv hcl
end API1
