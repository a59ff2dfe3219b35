set_option maxRecDepth 100000
section API4
variable {p : Program} {l : Launch} {e : Env} {R : Room} {s : State} {m : MethodId} {args : Array Value} {below : List Frame} {meth : Method} {c : Code} {H : Heap} {locs : List Loc} {Q : State → Prop}
variable {cc : ByteArray} {pc nL : Nat} {ls : Array Slot} {rest : List Value} {dC : Nat → ClassId} {dI : Nat → Nat → Nat} {dA : Nat → ClassId} {a : Nat → Nat} {M : Nat → Nat → Int32} {H0 : Heap}

theorem inZ_out {x : Int32} {K : Int} (h : ¬ inZ x.toInt 0 K = true) : x.toInt < 0 ∨ K < x.toInt := by
  unfold inZ at h
  rw [Bool.and_eq_true, decide_eq_true_eq, decide_eq_true_eq] at h
  omega
theorem dcd_no {S Hd : Nat → Int32} {o : Nat} (h : dcd S Hd o = none) : byS S Hd o = none ∧ byB S Hd o = none := by
  unfold dcd at h
  cases hS : byS S Hd o with
  | none => rw [hS] at h; exact ⟨rfl, h⟩
  | some t => rw [hS] at h; cases h
theorem dcd_yes {S Hd : Nat → Int32} {o t : Nat} (h : dcd S Hd o = some t) (h2 : byS S Hd o = none) : byB S Hd o = some t := by
  unfold dcd at h
  rw [h2] at h
  exact h
theorem byS_lst {S Hd : Nat → Int32} {o t : Nat} (h : byS S Hd o = some t) : farT S Hd o t = lst S Hd o := by
  unfold byS at h
  split at h
  · cases h
  · exact (isB_iff.mp (fndN_lt h).2).2
set_option maxHeartbeats 4000000 in
theorem c_X1_codeDigit (l : Launch) (dC : Nat → ClassId) (dI : Nat → Nat → Nat) (dA : Nat → ClassId) (g : Nat → Nat) (b : Nat → Nat) (mc : Nat → Int32) (S : Nat → Int32) (Hd : Nat → Int32) (n : Nat → Int32) (sz : Nat) (hs : Nat) (x : Int32) (y : Int32) (hT : TWf Hd) (hsz : sz ≤ hs) (hfl : l.stackTraces = false) : vx_Met l yX1_codeDigit (ws_ yX1_codeDigit cX1_codeDigit 4 (some (.int))) (rmD 8 (5) (30)) (gPx [.ref (g 0), .int x, .int y] (fun U H => AX dC dI dA g b mc S Hd n sz U H) hs dC dI dA) (gQ hs (fun _ => False) (fun v H => v = some (.int (nI (dg (cd (num Hd x.toNatClampNeg)) y.toNatClampNeg))) ∧ thC [(lo (n 1), 1), (inZ x.toInt 0 ((tn Hd : Int) - 1), 2), (inZ y.toInt 0 4, 2)] = 0)) (gX hs (fun _ => False) (fun E q H => ¬ thC [(lo (n 1), 1), (inZ x.toInt 0 ((tn Hd : Int) - 1), 2), (inZ y.toInt 0 4, 2)] = 0 ∧ E = nmA (thC [(lo (n 1), 1), (inZ x.toInt 0 ((tn Hd : Int) - 1), 2), (inZ y.toInt 0 4, 2)]))) (5) (30) (gF (fun _ => False) hs) := by
  refine v_meti (own := RX1) (by decide) rfl (Nat.le_of_ble_eq_true rfl) fun p e R s m args below meth c Q SF rk hRR hX hK hin hE hret hthr hQ ls hl => ?_
  have hx := SF.1
  have hb := SF.2.1
  have hml := SF.2.2.1
  have hown := SF.2.2.2.1
  have hts := SF.2.2.2.2
  have hz0 := hX.2
  have hz : hs ≤ s.heap.size := Nat.le_of_eq hX.2.symm
  have hX := hX.1
  have hRc := hRR.1
  have hRs := hRR.2
  have gFs : ∀ q : Nat, s.heap.size ≤ q → gF (fun _ => False) hs q := fun q h => Or.inr (hz0 ▸ h)
  have hS : va_S (gF (fun _ => False) hs) s.heap s.heap [] := va_S.rf
  have hl : lv_has ls 4 [(0, .ref (g 0)), (1, .int x), (2, .int y)] := hl
  have hEN := hX.2.2
  have hCE := hEN.1
  have hAz : ∀ q, gF (fun _ => False) hs q → sz ≤ q := fun q h => h.elim (fun e => e.elim) (fun h => Nat.le_trans hsz h)
  obtain ⟨nv, hP0⟩ := AX.ob hX
  have hn9 := hT.2.1
  refine lv_aload_n hx hb dX1_codeDigit_0 rfl (lv_at hl 0 rfl) ?_
  refine lv_iload_n hx hb dX1_codeDigit_1 rfl (lv_at hl 1 rfl) ?_
  refine g_runX (v_rV (C := RX1) (As := [.int x]) SF hK (d := 7) (rk.le (Nat.le_of_ble_eq_true rfl)) (c_X1_withTown l dC dI dA g b mc S Hd n sz s.heap.size x hT (show sz ≤ s.heap.size by omega) hfl) (lw_V q1371 q1373 qs29 q112 q1374) (n := 1) (by decide +kernel) rfl (by decide) (g_recv hK (hP0.at hS hz0 (fun h => h)) (ci := 0) rfl) (XOK.hs (XOK.hp.and (XOK.hp.and EN.ok))) (⟨AX.at hX hS hz0 hsz, rfl⟩) hl.1 (Nat.le_of_ble_eq_true rfl) ⟨(by omega), (by omega)⟩ rfl dX1_codeDigit_2) rfl hS (fun _ h => h.elim) gFs (fun v9 H locs hP9 hz9 oq hS => ?_) (fun E q9 ce H locs hP9 hz9 oq hS hce hcv hcl => ?_)
  · obtain ⟨rfl, hlo, hok1⟩ := hP9
    have hz := Nat.le_trans hz hz9
    refine W.eq (g2 := F0 m 5 ls [.ref (b 0)]) rfl ?_
    have hn1 := lo_n hlo
    obtain ⟨hP1, hO⟩ := hX.2.1 hn1
    obtain ⟨t, ht_t, htb_t, rfl⟩ := inZ_n hok1
    have hcl_t : (nI t).toNatClampNeg = t := nI_clamp htb_t
    refine lv_astore_n (lv' := [(3, .ref (b 0)), (0, .ref (g 0)), (1, .int (nI t)), (2, .int y)]) hx hb dX1_codeDigit_5 rfl hl (by decide) rfl (fun ls hl => ?_)
    refine lv_iload_n hx hb dX1_codeDigit_6 rfl (lv_at hl 3 rfl) ?_
    refine lv_iconst (v := nI 0) hx hb dX1_codeDigit_7 (by decide) ?_
    refine lv_iconst (v := nI 4) hx hb dX1_codeDigit_8 (by decide) ?_
    refine u_run (x_rS (As := [.int y, .int (nI 0), .int (nI 4)]) SF hK (d := 0) (rk.le (Nat.le_of_ble_eq_true rfl)) (c_X1_in l dC dI dA y.toInt 0 4 y (nI 0) (nI 4) rfl (by decide) (by first | exact rfl | decide | exact pk_sub_toInt (by omega) (by decide))) (lw_S q371 q372 q112 q373) (n := 3) (by decide +kernel) rfl (by decide) (XOK.hp) (trivial) hl.1 (Nat.le_of_ble_eq_true rfl) ⟨(by omega), (by omega)⟩ rfl dX1_codeDigit_9) ?_
    refine u_top (y := nI ((inZ y.toInt 0 4).toNat)) rfl ?_
    refine g_runX (v_rS (As := [.int (nI ((inZ y.toInt 0 4).toNat))]) SF hK (d := 6) (rk.le (Nat.le_of_ble_eq_true rfl)) (c_X1_checkIndex l dC dI dA sz H.size (inZ y.toInt 0 4) (show sz ≤ H.size by omega) hfl) (lw_S q374 q375 q112 q376) (n := 1) (by decide +kernel) rfl (by decide) (XOK.hs (EN.ok)) (⟨hEN.at hS hAz, rfl⟩) hl.1 (Nat.le_of_ble_eq_true rfl) ⟨(by omega), (by omega)⟩ rfl dX1_codeDigit_12) rfl hS (fun _ h => h.elim) gFs (fun v9 H locs hP9 hz9 oq hS => ?_) (fun E q9 ce H locs hP9 hz9 oq hS hce hcv hcl => ?_)
    · obtain ⟨rfl, hz1⟩ := hP9
      have hz := Nat.le_trans hz hz9
      refine W.eq (g2 := F0 m 15 ls []) rfl ?_
      have hok2 := hz1
      obtain ⟨q, ht_q, htb_q, rfl⟩ := inZ_n hok2
      have hcl_q : (nI q).toNatClampNeg = q := nI_clamp htb_q
      refine lv_aload_n hx hb dX1_codeDigit_15 rfl (lv_at hl 0 rfl) ?_
      refine lv_iload_n hx hb dX1_codeDigit_16 rfl (lv_at hl 2 rfl) ?_
      refine x_runa (x_rV (C := RX5) (As := [.int (nI t)]) SF hK (d := 3) (rk.le (Nat.le_of_ble_eq_true rfl)) (c_X5_town l dC dI dA b mc S Hd t (show t < tn Hd by omega) hT) (lw_V q1375 q966 q967 q139 q968) (n := 1) (by decide +kernel) rfl (by decide) (g_recv hK ((hO.at hS hz0 (fun _ _ h => h)) 0 _ rfl) (ci := 1) rfl) (XOK.hp.and CE.ok) (⟨(hO.at hS hz0 (fun _ _ h => h)), hCE⟩) hl.1 (Nat.le_of_ble_eq_true rfl) ⟨(by omega), (by omega)⟩ rfl dX1_codeDigit_17) ?_
      refine g_top (y := .ref (b (10 + t))) rfl ?_
      refine lv_iload_n hx hb dX1_codeDigit_20 rfl (lv_at hl 3 rfl) ?_
      refine u_run (x_rV (C := RX6) (As := [.int (nI q)]) SF hK (d := 1) (rk.le (Nat.le_of_ble_eq_true rfl)) (c_X6_digit l dC dI dA b mc S Hd t q (show q < 5 by omega) (show t < tn Hd by omega) hT) (lw_V q1397 q1166 q1167 q143 q1168) (n := 1) (by decide +kernel) rfl (by decide) (g_recv hK ((hO.at hS hz0 (fun _ _ h => h)) _ _ (offE_tw (show t < tn Hd from (by omega)) hT.2.1)) (ci := 4) rfl) (XOK.hp.and CE.ok) (⟨(hO.at hS hz0 (fun _ _ h => h)), hCE⟩) hl.1 (Nat.le_of_ble_eq_true rfl) ⟨(by omega), (by omega)⟩ rfl dX1_codeDigit_21) ?_
      refine u_top (y := nI (dg (cd (num Hd t)) q)) rfl ?_
      exact hret _ _ _ _ _ _ _ (⟨by first | (simp only [hcl_t, hcl_q]; done) | (simp only [hcl_t, hcl_q]; rfl) | (rw [hcl_t, hcl_q]; rfl), by simp [thC, hlo, hok1, hok2]⟩) hS (by omega) (by omega) dX1_codeDigit_24
    · have hz := Nat.le_trans hz hz9
      obtain ⟨h9, rfl⟩ := hP9
      exact hthr _ _ _ _ _ _ _ _ _ _ (thY (nm := nmA) (k := 2) (by simp [thC, hlo, hok1, h9]) (by decide) rfl) hS (by omega) (by omega) hce hcv hcl
  · have hz := Nat.le_trans hz hz9
    obtain ⟨h9, rfl⟩ := hP9
    exact hthr _ _ _ _ _ _ _ _ _ _ (thX (L1 := [(lo (n 1), 1), (inZ x.toInt 0 ((tn Hd : Int) - 1), 2)]) (L2 := [(inZ y.toInt 0 4, 2)]) (nm' := nmA) h9 rfl rfl) hS (by omega) (by omega) hce hcv hcl

set_option maxHeartbeats 4000000 in
theorem c_X1_near (l : Launch) (dC : Nat → ClassId) (dI : Nat → Nat → Nat) (dA : Nat → ClassId) (g : Nat → Nat) (b : Nat → Nat) (mc : Nat → Int32) (S : Nat → Int32) (Hd : Nat → Int32) (n : Nat → Int32) (sz : Nat) (hs : Nat) (x : Int32) (y : Int32) (hS1 : SWf S) (hT : TWf Hd) (hsz : sz ≤ hs) (hfl : l.stackTraces = false) : vx_Met l yX1_near (ws_ yX1_near cX1_near 4 (some (.int))) (rmD 8 (5) (30)) (gPx [.ref (g 0), .int x, .int y] (fun U H => AX dC dI dA g b mc S Hd n sz U H) hs dC dI dA) (gQ hs (fun _ => False) (fun v H => v = some (.int (oI (nrA S Hd x.toNatClampNeg y))) ∧ thC [(lo (n 1), 1), (inZ x.toInt 0 ((ln S : Int) - 1), 2)] = 0)) (gX hs (fun _ => False) (fun E q H => ¬ thC [(lo (n 1), 1), (inZ x.toInt 0 ((ln S : Int) - 1), 2)] = 0 ∧ E = nmA (thC [(lo (n 1), 1), (inZ x.toInt 0 ((ln S : Int) - 1), 2)]))) (5) (30) (gF (fun _ => False) hs) := by
  refine v_meti (own := RX1) (by decide) rfl (Nat.le_of_ble_eq_true rfl) fun p e R s m args below meth c Q SF rk hRR hX hK hin hE hret hthr hQ ls hl => ?_
  have hx := SF.1
  have hb := SF.2.1
  have hml := SF.2.2.1
  have hown := SF.2.2.2.1
  have hts := SF.2.2.2.2
  have hz0 := hX.2
  have hz : hs ≤ s.heap.size := Nat.le_of_eq hX.2.symm
  have hX := hX.1
  have hRc := hRR.1
  have hRs := hRR.2
  have gFs : ∀ q : Nat, s.heap.size ≤ q → gF (fun _ => False) hs q := fun q h => Or.inr (hz0 ▸ h)
  have hS : va_S (gF (fun _ => False) hs) s.heap s.heap [] := va_S.rf
  have hl : lv_has ls 4 [(0, .ref (g 0)), (1, .int x), (2, .int y)] := hl
  have hEN := hX.2.2
  have hCE := hEN.1
  have hAz : ∀ q, gF (fun _ => False) hs q → sz ≤ q := fun q h => h.elim (fun e => e.elim) (fun h => Nat.le_trans hsz h)
  obtain ⟨nv, hP0⟩ := AX.ob hX
  have hL := hS1.2.1
  have hn9 := hT.2.1
  refine lv_aload_n hx hb dX1_near_0 rfl (lv_at hl 0 rfl) ?_
  refine lv_iload_n hx hb dX1_near_1 rfl (lv_at hl 1 rfl) ?_
  refine g_runX (v_rV (C := RX1) (As := [.int x]) SF hK (d := 7) (rk.le (Nat.le_of_ble_eq_true rfl)) (c_X1_withLetter l dC dI dA g b mc S Hd n sz s.heap.size x hS1 (show sz ≤ s.heap.size by omega) hfl) (lw_V q1434 q1436 qs30 q112 q1437) (n := 1) (by decide +kernel) rfl (by decide) (g_recv hK (hP0.at hS hz0 (fun h => h)) (ci := 0) rfl) (XOK.hs (XOK.hp.and (XOK.hp.and EN.ok))) (⟨AX.at hX hS hz0 hsz, rfl⟩) hl.1 (Nat.le_of_ble_eq_true rfl) ⟨(by omega), (by omega)⟩ rfl dX1_near_2) rfl hS (fun _ h => h.elim) gFs (fun v9 H locs hP9 hz9 oq hS => ?_) (fun E q9 ce H locs hP9 hz9 oq hS hce hcv hcl => ?_)
  · obtain ⟨rfl, hlo, hok1⟩ := hP9
    have hz := Nat.le_trans hz hz9
    refine W.eq (g2 := F0 m 5 ls [.ref (b 0)]) rfl ?_
    have hn1 := lo_n hlo
    obtain ⟨hP1, hO⟩ := hX.2.1 hn1
    obtain ⟨lt, ht_lt, htb_lt, rfl⟩ := inZ_n hok1
    have hcl_lt : (nI lt).toNatClampNeg = lt := nI_clamp htb_lt
    refine lv_astore_n (lv' := [(3, .ref (b 0)), (0, .ref (g 0)), (1, .int (nI lt)), (2, .int y)]) hx hb dX1_near_5 rfl hl (by decide) rfl (fun ls hl => ?_)
    refine lv_aload_n hx hb dX1_near_6 rfl (lv_at hl 1 rfl) ?_
    refine lv_iload_n hx hb dX1_near_7 rfl (lv_at hl 2 rfl) ?_
    refine lv_iload_n hx hb dX1_near_8 rfl (lv_at hl 3 rfl) ?_
    refine u_run (x_rV (C := RX1) (As := [.int (nI lt), .int y]) SF hK (d := 6) (rk.le (Nat.le_of_ble_eq_true rfl)) (c_X1_nearAt l dC dI dA g b mc S Hd n lt y (show lt < ln S by omega) hS1 hT) (lw_V q1476 q1478 qs33 q112 q1479) (n := 2) (by decide +kernel) rfl (by decide) (g_recv hK (hP1.at hS hz0 (fun h => h)) (ci := 0) rfl) (XOK.hp.and (XOK.hp.and CE.ok)) (⟨hP1.at hS hz0 (fun h => h), hO.at hS hz0 (fun _ _ h => h), hCE⟩) hl.1 (Nat.le_of_ble_eq_true rfl) ⟨(by omega), (by omega)⟩ rfl dX1_near_9) ?_
    refine u_top (y := oI (nrA S Hd lt y)) rfl ?_
    exact hret _ _ _ _ _ _ _ (⟨by first | (simp only [hcl_lt]; done) | (simp only [hcl_lt]; rfl) | (rw [hcl_lt]; rfl), by simp [thC, hlo, hok1]⟩) hS (by omega) (by omega) dX1_near_12
  · have hz := Nat.le_trans hz hz9
    obtain ⟨h9, rfl⟩ := hP9
    exact hthr _ _ _ _ _ _ _ _ _ _ (thX (L1 := [(lo (n 1), 1), (inZ x.toInt 0 ((ln S : Int) - 1), 2)]) (L2 := []) (nm' := nmA) h9 rfl rfl) hS (by omega) (by omega) hce hcv hcl

set_option maxHeartbeats 4000000 in
theorem c_X1_how (l : Launch) (dC : Nat → ClassId) (dI : Nat → Nat → Nat) (dA : Nat → ClassId) (g : Nat → Nat) (b : Nat → Nat) (mc : Nat → Int32) (S : Nat → Int32) (Hd : Nat → Int32) (n : Nat → Int32) (sz : Nat) (hs : Nat) (x : Int32) (hS1 : SWf S) (hT : TWf Hd) (hsz : sz ≤ hs) (hfl : l.stackTraces = false) : vx_Met l yX1_how (ws_ yX1_how cX1_how 3 (some (.int))) (rmD 11 (5) (30)) (gPx [.ref (g 0), .int x] (fun U H => AX dC dI dA g b mc S Hd n sz U H) hs dC dI dA) (gQ hs (fun _ => False) (fun v H => v = some (.int (nI (howV S Hd x.toNatClampNeg))) ∧ thC [(lo (n 1), 1), (inZ x.toInt 0 ((ln S : Int) - 1), 2)] = 0)) (gX hs (fun _ => False) (fun E q H => ¬ thC [(lo (n 1), 1), (inZ x.toInt 0 ((ln S : Int) - 1), 2)] = 0 ∧ E = nmA (thC [(lo (n 1), 1), (inZ x.toInt 0 ((ln S : Int) - 1), 2)]))) (5) (30) (gF (fun _ => False) hs) := by
  refine v_meti (own := RX1) (by decide) rfl (Nat.le_of_ble_eq_true rfl) fun p e R s m args below meth c Q SF rk hRR hX hK hin hE hret hthr hQ ls hl => ?_
  have hx := SF.1
  have hb := SF.2.1
  have hml := SF.2.2.1
  have hown := SF.2.2.2.1
  have hts := SF.2.2.2.2
  have hz0 := hX.2
  have hz : hs ≤ s.heap.size := Nat.le_of_eq hX.2.symm
  have hX := hX.1
  have hRc := hRR.1
  have hRs := hRR.2
  have gFs : ∀ q : Nat, s.heap.size ≤ q → gF (fun _ => False) hs q := fun q h => Or.inr (hz0 ▸ h)
  have hS : va_S (gF (fun _ => False) hs) s.heap s.heap [] := va_S.rf
  have hl : lv_has ls 3 [(0, .ref (g 0)), (1, .int x)] := hl
  have hEN := hX.2.2
  have hCE := hEN.1
  have hAz : ∀ q, gF (fun _ => False) hs q → sz ≤ q := fun q h => h.elim (fun e => e.elim) (fun h => Nat.le_trans hsz h)
  obtain ⟨nv, hP0⟩ := AX.ob hX
  have hL := hS1.2.1
  have hn9 := hT.2.1
  have hl9 := fun o => show lsc S Hd o ≤ 11 from minN_le _ _ _
  refine lv_aload_n hx hb dX1_how_0 rfl (lv_at hl 0 rfl) ?_
  refine lv_iload_n hx hb dX1_how_1 rfl (lv_at hl 1 rfl) ?_
  refine g_runX (v_rV (C := RX1) (As := [.int x]) SF hK (d := 7) (rk.le (Nat.le_of_ble_eq_true rfl)) (c_X1_withLetter l dC dI dA g b mc S Hd n sz s.heap.size x hS1 (show sz ≤ s.heap.size by omega) hfl) (lw_V q1434 q1436 qs30 q112 q1437) (n := 1) (by decide +kernel) rfl (by decide) (g_recv hK (hP0.at hS hz0 (fun h => h)) (ci := 0) rfl) (XOK.hs (XOK.hp.and (XOK.hp.and EN.ok))) (⟨AX.at hX hS hz0 hsz, rfl⟩) hl.1 (Nat.le_of_ble_eq_true rfl) ⟨(by omega), (by omega)⟩ rfl dX1_how_2) rfl hS (fun _ h => h.elim) gFs (fun v9 H locs hP9 hz9 oq hS => ?_) (fun E q9 ce H locs hP9 hz9 oq hS hce hcv hcl => ?_)
  · obtain ⟨rfl, hlo, hok1⟩ := hP9
    have hz := Nat.le_trans hz hz9
    refine W.eq (g2 := F0 m 5 ls [.ref (b 0)]) rfl ?_
    have hn1 := lo_n hlo
    obtain ⟨hP1, hO⟩ := hX.2.1 hn1
    obtain ⟨lt, ht_lt, htb_lt, rfl⟩ := inZ_n hok1
    have hcl_lt : (nI lt).toNatClampNeg = lt := nI_clamp htb_lt
    refine lv_astore_n (lv' := [(2, .ref (b 0)), (0, .ref (g 0)), (1, .int (nI lt))]) hx hb dX1_how_5 rfl hl (by decide) rfl (fun ls hl => ?_)
    refine lv_aload_n hx hb dX1_how_6 rfl (lv_at hl 0 rfl) ?_
    refine lv_iload_n hx hb dX1_how_7 rfl (lv_at hl 2 rfl) ?_
    refine u_run (x_rV (C := RX5) (As := [.int (nI lt)]) SF hK (d := 10) (rk.le (Nat.le_of_ble_eq_true rfl)) (c_X5_decided l dC dI dA b mc S Hd lt (show lt < ln S by omega) hS1 hT) (lw_V q1339 q1181 q1182 q139 q1183) (n := 1) (by decide +kernel) rfl (by decide) (g_recv hK ((hO.at hS hz0 (fun _ _ h => h)) 0 _ rfl) (ci := 1) rfl) (XOK.hp.and CE.ok) (⟨(hO.at hS hz0 (fun _ _ h => h)), hCE⟩) hl.1 (Nat.le_of_ble_eq_true rfl) ⟨(by omega), (by omega)⟩ rfl dX1_how_8) ?_
    refine u_top (y := oI (dcd S Hd lt)) rfl ?_
    rcases hE : dcd S Hd lt with _ | t9
    · refine u_top (y := (-1)) rfl ?_
      refine lv_iconst (v := (-1)) hx hb dX1_how_11 (by decide) ?_
      refine lv_icmp_ne (tgt := 17) hx hb dX1_how_12 (by decide) (fun c_12 => absurd (by decide) c_12) (fun c_12 => ?_)
      refine lv_iconst (v := nI 0) hx hb dX1_how_15 (by decide) ?_
      exact hret _ _ _ _ _ _ _ (⟨by rw [hcl_lt, howV, (dcd_no hE).1, (dcd_no hE).2], by simp [thC, hlo, hok1]⟩) hS (by omega) (by omega) dX1_how_16
    · have ht9 := dcd_lt hE
      refine u_top (y := nI t9) rfl ?_
      refine lv_iconst (v := (-1)) hx hb dX1_how_11 (by decide) ?_
      refine lv_icmp_ne (tgt := 17) hx hb dX1_how_12 (by decide) (fun c_12 => ?_) (fun c_12 => absurd c_12 (nI_m1 (by omega)))
      refine lv_aload_n hx hb dX1_how_17 rfl (lv_at hl 0 rfl) ?_
      refine lv_iload_n hx hb dX1_how_18 rfl (lv_at hl 2 rfl) ?_
      refine u_run (x_rV (C := RX5) (As := [.int (nI lt)]) SF hK (d := 7) (rk.le (Nat.le_of_ble_eq_true rfl)) (c_X5_byItself l dC dI dA b mc S Hd lt (show lt < ln S by omega) hS1 hT) (lw_V q1498 q1185 q1186 q139 q1187) (n := 1) (by decide +kernel) rfl (by decide) (g_recv hK ((hO.at hS hz0 (fun _ _ h => h)) 0 _ rfl) (ci := 1) rfl) (XOK.hp.and CE.ok) (⟨(hO.at hS hz0 (fun _ _ h => h)), hCE⟩) hl.1 (Nat.le_of_ble_eq_true rfl) ⟨(by omega), (by omega)⟩ rfl dX1_how_19) ?_
      refine u_top (y := oI (byS S Hd lt)) rfl ?_
      rcases hE2 : byS S Hd lt with _ | t8
      · refine u_top (y := (-1)) rfl ?_
        refine lv_iconst (v := (-1)) hx hb dX1_how_22 (by decide) ?_
        refine lv_icmp_ne (tgt := 28) hx hb dX1_how_23 (by decide) (fun c_23 => absurd (by decide) c_23) (fun c_23 => ?_)
        refine lv_iconst (v := nI 3) hx hb dX1_how_26 (by decide) ?_
        exact hret _ _ _ _ _ _ _ (⟨by rw [hcl_lt, howV, hE2]; rw [dcd_yes hE hE2], by simp [thC, hlo, hok1]⟩) hS (by omega) (by omega) dX1_how_27
      · have ht8 := byS_lt hE2
        have htn0 : 0 < tn Hd := by omega
        have hls := lsc_eq (S := S) (o := lt) htn0
        have hm8 := byS_lst hE2
        have hl8 := hl9 lt
        refine u_top (y := nI t8) rfl ?_
        refine lv_iconst (v := (-1)) hx hb dX1_how_22 (by decide) ?_
        refine lv_icmp_ne (tgt := 28) hx hb dX1_how_23 (by decide) (fun c_23 => ?_) (fun c_23 => absurd c_23 (nI_m1 (by omega)))
        refine lv_aload_n hx hb dX1_how_28 rfl (lv_at hl 0 rfl) ?_
        refine lv_iload_n hx hb dX1_how_29 rfl (lv_at hl 2 rfl) ?_
        refine u_run (x_rV (C := RX5) (As := [.int (nI lt)]) SF hK (d := 5) (rk.le (Nat.le_of_ble_eq_true rfl)) (c_X5_least l dC dI dA b mc S Hd lt (show lt < ln S by omega) hS1 hT) (lw_V q1499 q1154 q1155 q139 q1156) (n := 1) (by decide +kernel) rfl (by decide) (g_recv hK ((hO.at hS hz0 (fun _ _ h => h)) 0 _ rfl) (ci := 1) rfl) (XOK.hp.and CE.ok) (⟨(hO.at hS hz0 (fun _ _ h => h)), hCE⟩) hl.1 (Nat.le_of_ble_eq_true rfl) ⟨(by omega), (by omega)⟩ rfl dX1_how_30) ?_
        refine u_top (y := nI (lsc S Hd lt)) rfl ?_
        refine lv_if_ne (tgt := 40) hx hb dX1_how_33 (by decide) (fun c_33 => ?_) (fun c_33 => ?_)
        · have c_33 : ¬ (lsc S Hd lt = 0) := fun q9 => c_33 ((nI_eq (a := lsc S Hd lt) (b := 0) (by omega) (by omega)).mpr q9)
          refine lv_iconst (v := nI 2) hx hb dX1_how_40 (by decide) ?_
          exact hret _ _ _ _ _ _ _ (⟨by rw [hcl_lt, howV, hE2]; exact congrArg (fun z => some (Value.int (nI z))) (if_neg (by omega)).symm, by simp [thC, hlo, hok1]⟩) hS (by omega) (by omega) dX1_how_41
        · have c_33 : lsc S Hd lt = 0 := (nI_eq (a := lsc S Hd lt) (b := 0) (by omega) (by omega)).mp c_33
          refine lv_iconst (v := nI 1) hx hb dX1_how_36 (by decide) ?_
          refine lv_goto (tgt := 41) hx hb dX1_how_37 (by decide) ?_
          exact hret _ _ _ _ _ _ _ (⟨by rw [hcl_lt, howV, hE2]; exact congrArg (fun z => some (Value.int (nI z))) (if_pos (by omega)).symm, by simp [thC, hlo, hok1]⟩) hS (by omega) (by omega) dX1_how_41
  · have hz := Nat.le_trans hz hz9
    obtain ⟨h9, rfl⟩ := hP9
    exact hthr _ _ _ _ _ _ _ _ _ _ (thX (L1 := [(lo (n 1), 1), (inZ x.toInt 0 ((ln S : Int) - 1), 2)]) (L2 := []) (nm' := nmA) h9 rfl rfl) hS (by omega) (by omega) hce hcv hcl

set_option maxHeartbeats 4000000 in
theorem c_X1_mended (l : Launch) (dC : Nat → ClassId) (dI : Nat → Nat → Nat) (dA : Nat → ClassId) (g : Nat → Nat) (b : Nat → Nat) (mc : Nat → Int32) (S : Nat → Int32) (Hd : Nat → Int32) (n : Nat → Int32) (sz : Nat) (hs : Nat) (x : Int32) (hS1 : SWf S) (hT : TWf Hd) (hsz : sz ≤ hs) (hfl : l.stackTraces = false) : vx_Met l yX1_mended (ws_ yX1_mended cX1_mended 6 (some (.int))) (rmD 11 (5) (30)) (gPx [.ref (g 0), .int x] (fun U H => AX dC dI dA g b mc S Hd n sz U H) hs dC dI dA) (gQ hs (fun _ => False) (fun v H => v = some (.int (mnd S Hd x.toNatClampNeg)) ∧ thC [(lo (n 1), 1), (inZ x.toInt 0 ((ln S : Int) - 1), 2)] = 0)) (gX hs (fun _ => False) (fun E q H => ¬ thC [(lo (n 1), 1), (inZ x.toInt 0 ((ln S : Int) - 1), 2)] = 0 ∧ E = nmA (thC [(lo (n 1), 1), (inZ x.toInt 0 ((ln S : Int) - 1), 2)]))) (5) (30) (gF (fun _ => False) hs) := by
  refine v_meti (own := RX1) (by decide) rfl (Nat.le_of_ble_eq_true rfl) fun p e R s m args below meth c Q SF rk hRR hX hK hin hE hret hthr hQ ls hl => ?_
  have hx := SF.1
  have hb := SF.2.1
  have hml := SF.2.2.1
  have hown := SF.2.2.2.1
  have hts := SF.2.2.2.2
  have hz0 := hX.2
  have hz : hs ≤ s.heap.size := Nat.le_of_eq hX.2.symm
  have hX := hX.1
  have hRc := hRR.1
  have hRs := hRR.2
  have gFs : ∀ q : Nat, s.heap.size ≤ q → gF (fun _ => False) hs q := fun q h => Or.inr (hz0 ▸ h)
  have hS : va_S (gF (fun _ => False) hs) s.heap s.heap [] := va_S.rf
  have hl : lv_has ls 6 [(0, .ref (g 0)), (1, .int x)] := hl
  have hEN := hX.2.2
  have hCE := hEN.1
  have hAz : ∀ q, gF (fun _ => False) hs q → sz ≤ q := fun q h => h.elim (fun e => e.elim) (fun h => Nat.le_trans hsz h)
  obtain ⟨nv, hP0⟩ := AX.ob hX
  have hL := hS1.2.1
  have hn9 := hT.2.1
  refine lv_aload_n hx hb dX1_mended_0 rfl (lv_at hl 0 rfl) ?_
  refine lv_iload_n hx hb dX1_mended_1 rfl (lv_at hl 1 rfl) ?_
  refine g_runX (v_rV (C := RX1) (As := [.int x]) SF hK (d := 7) (rk.le (Nat.le_of_ble_eq_true rfl)) (c_X1_withLetter l dC dI dA g b mc S Hd n sz s.heap.size x hS1 (show sz ≤ s.heap.size by omega) hfl) (lw_V q1434 q1436 qs30 q112 q1437) (n := 1) (by decide +kernel) rfl (by decide) (g_recv hK (hP0.at hS hz0 (fun h => h)) (ci := 0) rfl) (XOK.hs (XOK.hp.and (XOK.hp.and EN.ok))) (⟨AX.at hX hS hz0 hsz, rfl⟩) hl.1 (Nat.le_of_ble_eq_true rfl) ⟨(by omega), (by omega)⟩ rfl dX1_mended_2) rfl hS (fun _ h => h.elim) gFs (fun v9 H locs hP9 hz9 oq hS => ?_) (fun E q9 ce H locs hP9 hz9 oq hS hce hcv hcl => ?_)
  · obtain ⟨rfl, hlo, hok1⟩ := hP9
    have hz := Nat.le_trans hz hz9
    refine W.eq (g2 := F0 m 5 ls [.ref (b 0)]) rfl ?_
    have hn1 := lo_n hlo
    obtain ⟨hP1, hO⟩ := hX.2.1 hn1
    obtain ⟨lt, ht_lt, htb_lt, rfl⟩ := inZ_n hok1
    have hcl_lt : (nI lt).toNatClampNeg = lt := nI_clamp htb_lt
    refine lv_astore_n (lv' := [(2, .ref (b 0)), (0, .ref (g 0)), (1, .int (nI lt))]) hx hb dX1_mended_5 rfl hl (by decide) rfl (fun ls hl => ?_)
    refine lv_aload_n hx hb dX1_mended_6 rfl (lv_at hl 0 rfl) ?_
    refine lv_iload_n hx hb dX1_mended_7 rfl (lv_at hl 2 rfl) ?_
    refine u_run (x_rV (C := RX5) (As := [.int (nI lt)]) SF hK (d := 10) (rk.le (Nat.le_of_ble_eq_true rfl)) (c_X5_decided l dC dI dA b mc S Hd lt (show lt < ln S by omega) hS1 hT) (lw_V q1339 q1181 q1182 q139 q1183) (n := 1) (by decide +kernel) rfl (by decide) (g_recv hK ((hO.at hS hz0 (fun _ _ h => h)) 0 _ rfl) (ci := 1) rfl) (XOK.hp.and CE.ok) (⟨(hO.at hS hz0 (fun _ _ h => h)), hCE⟩) hl.1 (Nat.le_of_ble_eq_true rfl) ⟨(by omega), (by omega)⟩ rfl dX1_mended_8) ?_
    refine u_top (y := oI (dcd S Hd lt)) rfl ?_
    rcases hE : dcd S Hd lt with _ | t9
    · refine u_top (y := (-1)) rfl ?_
      refine lv_istore_n (lv' := [(3, .int (-1)), (2, .ref (b 0)), (0, .ref (g 0)), (1, .int (nI lt))]) hx hb dX1_mended_11 rfl hl (by decide) rfl (fun ls hl => ?_)
      refine lv_iload_n hx hb dX1_mended_12 rfl (lv_at hl 0 rfl) ?_
      refine lv_iconst (v := (-1)) hx hb dX1_mended_13 (by decide) ?_
      refine lv_icmp_ne (tgt := 19) hx hb dX1_mended_14 (by decide) (fun c_14 => absurd (by decide) c_14) (fun c_14 => ?_)
      refine lv_iconst (v := (-1)) hx hb dX1_mended_17 (by decide) ?_
      exact hret _ _ _ _ _ _ _ (⟨by rw [hcl_lt, mnd, hE], by simp [thC, hlo, hok1]⟩) hS (by omega) (by omega) dX1_mended_18
    · have ht9 := dcd_lt hE
      refine u_top (y := nI t9) rfl ?_
      refine lv_istore_n (lv' := [(3, .int (nI t9)), (2, .ref (b 0)), (0, .ref (g 0)), (1, .int (nI lt))]) hx hb dX1_mended_11 rfl hl (by decide) rfl (fun ls hl => ?_)
      refine lv_iload_n hx hb dX1_mended_12 rfl (lv_at hl 0 rfl) ?_
      refine lv_iconst (v := (-1)) hx hb dX1_mended_13 (by decide) ?_
      refine lv_icmp_ne (tgt := 19) hx hb dX1_mended_14 (by decide) (fun c_14 => ?_) (fun c_14 => absurd c_14 (nI_m1 (by omega)))
      refine lv_iconst (v := nI 0) hx hb dX1_mended_19 (by decide) ?_
      refine lv_istore (lv' := [(4, .int (nI 0)), (3, .int (nI t9)), (2, .ref (b 0)), (0, .ref (g 0)), (1, .int (nI lt))]) hx hb dX1_mended_20 hl (by decide) rfl (fun ls hl => ?_)
      refine lv_iconst (v := nI 0) hx hb dX1_mended_22 (by decide) ?_
      refine lv_istore (lv' := [(5, .int (nI 0)), (4, .int (nI 0)), (3, .int (nI t9)), (2, .ref (b 0)), (0, .ref (g 0)), (1, .int (nI lt))]) hx hb dX1_mended_23 hl (by decide) rfl (fun ls hl => ?_)
      have lp25 : ∀ (k0 : Nat) (k : Nat), k ≤ 5 → 5 < k + k0 → ∀ ls : Array Slot, lv_has ls 6 [(5, .int (nI k)), (4, .int (nI (cntN (fun p => !decide (lr S lt p = nI (dg (cd (num Hd t9)) p))) k))), (3, .int (nI t9)), (2, .ref (b 0)), (0, .ref (g 0)), (1, .int (nI lt))] → W p l e R s m args below meth c H locs (0 + 2) (0 + 12) Q (F0 m 25 ls []) := by
        intro k0
        induction k0 with
        | zero =>
          intro k hk1 hk2; omega
        | succ k0 ih =>
          intro k hk1 hk2 ls hl
          have ih25 := ih
          refine lv_iload hx hb dX1_mended_25 (lv_at hl 0 rfl) ?_
          refine lv_iconst (v := nI 5) hx hb dX1_mended_27 (by decide) ?_
          refine lv_icmp_ge (tgt := 74) hx hb dX1_mended_28 (by decide) (fun c_28 => ?_) (fun c_28 => ?_)
          · have c_28 : 5 ≤ k := (nI_leI (a := 5) (b := k) (by omega) (by omega)).mp c_28
            refine lv_iload hx hb dX1_mended_74 (lv_at hl 1 rfl) ?_
            exact hret _ _ _ _ _ _ _ (⟨by rw [hcl_lt, mnd, hE]; rw [show k = 5 by omega], by simp [thC, hlo, hok1]⟩) hS (by omega) (by omega) dX1_mended_76
          · have c_28 : ¬ (5 ≤ k) := fun q9 => c_28 ((nI_leI (a := 5) (b := k) (by omega) (by omega)).mpr q9)
            refine lv_iload hx hb dX1_mended_31 (lv_at hl 1 rfl) ?_
            refine lv_aload_n hx hb dX1_mended_33 rfl (lv_at hl 3 rfl) ?_
            refine lv_iload_n hx hb dX1_mended_34 rfl (lv_at hl 5 rfl) ?_
            refine x_runa (x_rV (C := RX5) (As := [.int (nI lt)]) SF hK (d := 3) (rk.le (Nat.le_of_ble_eq_true rfl)) (c_X5_letter l dC dI dA b mc S Hd lt (show lt < ln S by omega) hS1) (lw_V q187 q188 q189 q139 q190) (n := 1) (by decide +kernel) rfl (by decide) (g_recv hK ((hO.at hS hz0 (fun _ _ h => h)) 0 _ rfl) (ci := 1) rfl) (XOK.hp.and CE.ok) (⟨(hO.at hS hz0 (fun _ _ h => h)), hCE⟩) hl.1 (Nat.le_of_ble_eq_true rfl) ⟨(by omega), (by omega)⟩ rfl dX1_mended_35) ?_
            refine g_top (y := .ref (b (22 + lt))) rfl ?_
            refine va_getN (D := (dC, dI)) (ci := 3) (v := .ref (b (46 + lt))) (C := RX7) (T := TX7) (N := 6) hx hb hts in_X7 hown hK ((hO.at hS hz0 (fun _ _ h => h)) _ _ (offE_lt (show lt < ln S from (by omega)) hS1.2.1)) 0 rfl rfl 0 (by decide) (va_Nw.use rfl (hCE.1 12 (by decide))) (fun _ h9 => h9) rfl dX1_mended_38 ?_
            refine lv_iload hx hb dX1_mended_41 (lv_at hl 0 rfl) ?_
            refine u_iald hx hb hK ((hO.at hS hz0 (fun _ _ h => h)) _ _ (offE_rd (show lt < ln S from (by omega)) hS1.2.1)) 0 0 rfl rfl (i := k) (by omega) (by decide) dX1_mended_43 ?_
            refine u_top (y := lr S lt k) (by first | exact clip_at (by omega) | rfl) ?_
            refine lv_aload_n hx hb dX1_mended_44 rfl (lv_at hl 3 rfl) ?_
            refine lv_iload_n hx hb dX1_mended_45 rfl (lv_at hl 2 rfl) ?_
            refine x_runa (x_rV (C := RX5) (As := [.int (nI t9)]) SF hK (d := 3) (rk.le (Nat.le_of_ble_eq_true rfl)) (c_X5_town l dC dI dA b mc S Hd t9 (show t9 < tn Hd by omega) hT) (lw_V q1375 q966 q967 q139 q968) (n := 1) (by decide +kernel) rfl (by decide) (g_recv hK ((hO.at hS hz0 (fun _ _ h => h)) 0 _ rfl) (ci := 1) rfl) (XOK.hp.and CE.ok) (⟨(hO.at hS hz0 (fun _ _ h => h)), hCE⟩) hl.1 (Nat.le_of_ble_eq_true rfl) ⟨(by omega), (by omega)⟩ rfl dX1_mended_46) ?_
            refine g_top (y := .ref (b (10 + t9))) rfl ?_
            refine lv_iload hx hb dX1_mended_49 (lv_at hl 0 rfl) ?_
            refine u_run (x_rV (C := RX6) (As := [.int (nI k)]) SF hK (d := 1) (rk.le (Nat.le_of_ble_eq_true rfl)) (c_X6_digit l dC dI dA b mc S Hd t9 k (show k < 5 by omega) (show t9 < tn Hd by omega) hT) (lw_V q1397 q1166 q1167 q143 q1168) (n := 1) (by decide +kernel) rfl (by decide) (g_recv hK ((hO.at hS hz0 (fun _ _ h => h)) _ _ (offE_tw (show t9 < tn Hd from (by omega)) hT.2.1)) (ci := 4) rfl) (XOK.hp.and CE.ok) (⟨(hO.at hS hz0 (fun _ _ h => h)), hCE⟩) hl.1 (Nat.le_of_ble_eq_true rfl) ⟨(by omega), (by omega)⟩ rfl dX1_mended_51) ?_
            refine u_top (y := nI (dg (cd (num Hd t9)) k)) rfl ?_
            have jn62 : ∀ v9 : Int32, v9 = nI ((!decide (lr S lt k = nI (dg (cd (num Hd t9)) k))).toNat) → ∀ ls : Array Slot, lv_has ls 6 [(5, .int (nI k)), (4, .int (nI (cntN (fun p => !decide (lr S lt p = nI (dg (cd (num Hd t9)) p))) k))), (3, .int (nI t9)), (2, .ref (b 0)), (0, .ref (g 0)), (1, .int (nI lt))] → W p l e R s m args below meth c H locs (0 + 2) (0 + 12) Q (F0 m 62 ls [.int v9, .int (nI (cntN (fun p => !decide (lr S lt p = nI (dg (cd (num Hd t9)) p))) k))]) := by
              intro v9 hv9 ls hl
              subst hv9
              refine u_run (x_rS (As := [.int (nI ((!decide (lr S lt k = nI (dg (cd (num Hd t9)) k))).toNat))]) (X := fun _ _ => True) SF hK (d := 0) (rk.le (Nat.le_of_ble_eq_true rfl)) (c_X1_one l dC dI dA (!decide (lr S lt k = nI (dg (cd (num Hd t9)) k))) ) (lw_S q1351 q1147 q112 q1148) (n := 1) (by decide +kernel) rfl (by decide) (XOK.hp) (trivial) hl.1 (Nat.le_of_ble_eq_true rfl) ⟨(by omega), (by omega)⟩ rfl dX1_mended_62) ?_
              refine u_top (y := nI ((!decide (lr S lt k = nI (dg (cd (num Hd t9)) k))).toNat)) rfl ?_
              refine lv_iadd hx hb dX1_mended_65 ?_
              refine u_top (nI_add _ _) ?_
              refine lv_istore (lv' := [(4, .int (nI (cntN (fun p => !decide (lr S lt p = nI (dg (cd (num Hd t9)) p))) k + ((!decide (lr S lt k = nI (dg (cd (num Hd t9)) k))).toNat)))), (5, .int (nI k)), (3, .int (nI t9)), (2, .ref (b 0)), (0, .ref (g 0)), (1, .int (nI lt))]) hx hb dX1_mended_66 hl (by decide) rfl (fun ls hl => ?_)
              refine lv_iinc (v := nI (k + 1)) (lv' := [(5, .int (nI (k + 1))), (4, .int (nI (cntN (fun p => !decide (lr S lt p = nI (dg (cd (num Hd t9)) p))) k + ((!decide (lr S lt k = nI (dg (cd (num Hd t9)) k))).toNat)))), (3, .int (nI t9)), (2, .ref (b 0)), (0, .ref (g 0)), (1, .int (nI lt))]) hx hb dX1_mended_68 hl (k := 1) rfl (nI_add _ 1) (by decide) rfl (fun ls hl => ?_)
              refine lv_goto (tgt := 25) hx hb dX1_mended_71 (by decide) ?_
              exact ih25 (k + 1) (by omega) (by omega) ls (lv_sub hl [0, 1, 2, 3, 4, 5] rfl)
            refine lv_icmp_eq (tgt := 61) hx hb dX1_mended_54 (by decide) (fun c_54 => ?_) (fun c_54 => ?_)
            · refine lv_iconst (v := nI 0) hx hb dX1_mended_61 (by decide) ?_
              exact jn62 _ (u_n0 c_54) ls (lv_sub hl [0, 1, 2, 3, 4, 5] rfl)
            · refine lv_iconst (v := nI 1) hx hb dX1_mended_57 (by decide) ?_
              refine lv_goto (tgt := 62) hx hb dX1_mended_58 (by decide) ?_
              exact jn62 _ (u_n1 c_54) ls (lv_sub hl [0, 1, 2, 3, 4, 5] rfl)
      exact lp25 (5 + 1) 0 (by omega) (by omega) ls (lv_sub hl [0, 1, 2, 3, 4, 5] rfl)
  · have hz := Nat.le_trans hz hz9
    obtain ⟨h9, rfl⟩ := hP9
    exact hthr _ _ _ _ _ _ _ _ _ _ (thX (L1 := [(lo (n 1), 1), (inZ x.toInt 0 ((ln S : Int) - 1), 2)]) (L2 := []) (nm' := nmA) h9 rfl rfl) hS (by omega) (by omega) hce hcv hcl

set_option maxHeartbeats 4000000 in
theorem c_X1_closest (l : Launch) (dC : Nat → ClassId) (dI : Nat → Nat → Nat) (dA : Nat → ClassId) (g : Nat → Nat) (b : Nat → Nat) (mc : Nat → Int32) (S : Nat → Int32) (Hd : Nat → Int32) (n : Nat → Int32) (sz : Nat) (hs : Nat) (x : Int32) (hT : TWf Hd) (hsz : sz ≤ hs) (hfl : l.stackTraces = false) : vx_Met l yX1_closest (ws_ yX1_closest cX1_closest 7 (some (.int))) (rmD 8 (5) (30)) (gPx [.ref (g 0), .int x] (fun U H => AX dC dI dA g b mc S Hd n sz U H) hs dC dI dA) (gQ hs (fun _ => False) (fun v H => v = some (.int (oI (clN Hd x.toNatClampNeg (tn Hd)))) ∧ thC [(lo (n 1), 1), (inZ x.toInt 0 ((tn Hd : Int) - 1), 2)] = 0)) (gX hs (fun _ => False) (fun E q H => ¬ thC [(lo (n 1), 1), (inZ x.toInt 0 ((tn Hd : Int) - 1), 2)] = 0 ∧ E = nmA (thC [(lo (n 1), 1), (inZ x.toInt 0 ((tn Hd : Int) - 1), 2)]))) (5) (30) (gF (fun _ => False) hs) := by
  refine v_meti (own := RX1) (by decide) rfl (Nat.le_of_ble_eq_true rfl) fun p e R s m args below meth c Q SF rk hRR hX hK hin hE hret hthr hQ ls hl => ?_
  have hx := SF.1
  have hb := SF.2.1
  have hml := SF.2.2.1
  have hown := SF.2.2.2.1
  have hts := SF.2.2.2.2
  have hz0 := hX.2
  have hz : hs ≤ s.heap.size := Nat.le_of_eq hX.2.symm
  have hX := hX.1
  have hRc := hRR.1
  have hRs := hRR.2
  have gFs : ∀ q : Nat, s.heap.size ≤ q → gF (fun _ => False) hs q := fun q h => Or.inr (hz0 ▸ h)
  have hS : va_S (gF (fun _ => False) hs) s.heap s.heap [] := va_S.rf
  have hl : lv_has ls 7 [(0, .ref (g 0)), (1, .int x)] := hl
  have hEN := hX.2.2
  have hCE := hEN.1
  have hAz : ∀ q, gF (fun _ => False) hs q → sz ≤ q := fun q h => h.elim (fun e => e.elim) (fun h => Nat.le_trans hsz h)
  obtain ⟨nv, hP0⟩ := AX.ob hX
  have hn9 := hT.2.1
  refine lv_aload_n hx hb dX1_closest_0 rfl (lv_at hl 0 rfl) ?_
  refine lv_iload_n hx hb dX1_closest_1 rfl (lv_at hl 1 rfl) ?_
  refine g_runX (v_rV (C := RX1) (As := [.int x]) SF hK (d := 7) (rk.le (Nat.le_of_ble_eq_true rfl)) (c_X1_withTown l dC dI dA g b mc S Hd n sz s.heap.size x hT (show sz ≤ s.heap.size by omega) hfl) (lw_V q1371 q1373 qs29 q112 q1374) (n := 1) (by decide +kernel) rfl (by decide) (g_recv hK (hP0.at hS hz0 (fun h => h)) (ci := 0) rfl) (XOK.hs (XOK.hp.and (XOK.hp.and EN.ok))) (⟨AX.at hX hS hz0 hsz, rfl⟩) hl.1 (Nat.le_of_ble_eq_true rfl) ⟨(by omega), (by omega)⟩ rfl dX1_closest_2) rfl hS (fun _ h => h.elim) gFs (fun v9 H locs hP9 hz9 oq hS => ?_) (fun E q9 ce H locs hP9 hz9 oq hS hce hcv hcl => ?_)
  · obtain ⟨rfl, hlo, hok1⟩ := hP9
    have hz := Nat.le_trans hz hz9
    refine W.eq (g2 := F0 m 5 ls [.ref (b 0)]) rfl ?_
    have hn1 := lo_n hlo
    obtain ⟨hP1, hO⟩ := hX.2.1 hn1
    obtain ⟨t, ht_t, htb_t, rfl⟩ := inZ_n hok1
    have hcl_t : (nI t).toNatClampNeg = t := nI_clamp htb_t
    refine lv_astore_n (lv' := [(2, .ref (b 0)), (0, .ref (g 0)), (1, .int (nI t))]) hx hb dX1_closest_5 rfl hl (by decide) rfl (fun ls hl => ?_)
    refine lv_iconst (v := (-1)) hx hb dX1_closest_6 (by decide) ?_
    refine lv_istore_n (lv' := [(3, .int (-1)), (2, .ref (b 0)), (0, .ref (g 0)), (1, .int (nI t))]) hx hb dX1_closest_7 rfl hl (by decide) rfl (fun ls hl => ?_)
    refine lv_bipush (v := nI 11) hx hb dX1_closest_8 (by decide) ?_
    refine lv_istore (lv' := [(4, .int (nI 11)), (3, .int (-1)), (2, .ref (b 0)), (0, .ref (g 0)), (1, .int (nI t))]) hx hb dX1_closest_10 hl (by decide) rfl (fun ls hl => ?_)
    refine lv_iconst (v := nI 0) hx hb dX1_closest_12 (by decide) ?_
    refine lv_istore (lv' := [(5, .int (nI 0)), (4, .int (nI 11)), (3, .int (-1)), (2, .ref (b 0)), (0, .ref (g 0)), (1, .int (nI t))]) hx hb dX1_closest_13 hl (by decide) rfl (fun ls hl => ?_)
    have lp15 : ∀ (k0 : Nat) (k : Nat), k ≤ tn Hd → tn Hd < k + k0 → ∀ ls : Array Slot, lv_has ls 7 [(5, .int (nI k)), (4, .int (nI (clD Hd t k))), (3, .int (oI (clN Hd t k))), (2, .ref (b 0)), (0, .ref (g 0)), (1, .int (nI t))] → W p l e R s m args below meth c H locs (0 + 2) (0 + 12) Q (F0 m 15 ls []) := by
      intro k0
      induction k0 with
      | zero =>
        intro k hk1 hk2; omega
      | succ k0 ih =>
        intro k hk1 hk2 ls hl
        have ih15 := ih
        have ha9 := apr_10 Hd t k
        have hd9 : clD Hd t k ≤ 11 := clD_le
        refine lv_iload hx hb dX1_closest_15 (lv_at hl 0 rfl) ?_
        refine lv_aload_n hx hb dX1_closest_17 rfl (lv_at hl 3 rfl) ?_
        refine va_getN (D := (dC, dI)) (ci := 1) (v := .ref (b 1)) (C := RX5) (T := TX5) (N := 10) hx hb hts in_X5 hown hK ((hO.at hS hz0 (fun _ _ h => h)) 0 _ rfl) 0 rfl rfl 0 (by decide) (va_Nw.use rfl (hCE.1 2 (by decide))) (fun _ h9 => h9) rfl dX1_closest_18 ?_
        refine x_run5 (x_rF (C := RJ20) (As := []) (hK.1 6 _ rfl).2 SF hK (d := 0) (rk.le (Nat.le_of_ble_eq_true rfl)) (c_J20_size l dC dI dA (b 1) (b 2) (tn Hd) (mc 0) 12 (fun t => if t < tn Hd then some (b (10 + t)) else none) ) (lw_F q1303 q954 q956 q141 q958) (hCE.2.2 7 (by decide)) (n := 0) (by decide +kernel) rfl (by decide) (g_recv hK ((hO.at hS hz0 (fun _ _ h => h)) 1 _ rfl) (ci := 6) rfl) (XOK.hp) (⟨(hO.at hS hz0 (fun _ _ h => h)) 1 _ rfl, (hO.at hS hz0 (fun _ _ h => h)) 2 _ rfl⟩) hl.1 (Nat.le_of_ble_eq_true rfl) ⟨(by omega), (by omega)⟩ rfl dX1_closest_21) ?_
        refine u_top (y := nI (tn Hd)) rfl ?_
        refine lv_icmp_ge (tgt := 79) hx hb dX1_closest_26 (by decide) (fun c_26 => ?_) (fun c_26 => ?_)
        · have c_26 : (tn Hd) ≤ k := (nI_leI (a := (tn Hd)) (b := k) (by omega) (by omega)).mp c_26
          refine lv_iload_n hx hb dX1_closest_79 rfl (lv_at hl 2 rfl) ?_
          exact hret _ _ _ _ _ _ _ (⟨by rw [hcl_t, show tn Hd = k by omega], by simp [thC, hlo, hok1]⟩) hS (by omega) (by omega) dX1_closest_80
        · have c_26 : ¬ ((tn Hd) ≤ k) := fun q9 => c_26 ((nI_leI (a := (tn Hd)) (b := k) (by omega) (by omega)).mpr q9)
          refine lv_iload hx hb dX1_closest_29 (lv_at hl 0 rfl) ?_
          refine lv_iload_n hx hb dX1_closest_31 rfl (lv_at hl 5 rfl) ?_
          refine lv_icmp_ne (tgt := 40) hx hb dX1_closest_32 (by decide) (fun c_32 => ?_) (fun c_32 => ?_)
          · have c_32 : ¬ (k = t) := fun q9 => c_32 ((nI_eq (a := k) (b := t) (by omega) (by omega)).mpr q9)
            refine lv_aload_n hx hb dX1_closest_40 rfl (lv_at hl 3 rfl) ?_
            refine lv_iload_n hx hb dX1_closest_41 rfl (lv_at hl 5 rfl) ?_
            refine x_runa (x_rV (C := RX5) (As := [.int (nI t)]) SF hK (d := 3) (rk.le (Nat.le_of_ble_eq_true rfl)) (c_X5_town l dC dI dA b mc S Hd t (show t < tn Hd by omega) hT) (lw_V q1375 q966 q967 q139 q968) (n := 1) (by decide +kernel) rfl (by decide) (g_recv hK ((hO.at hS hz0 (fun _ _ h => h)) 0 _ rfl) (ci := 1) rfl) (XOK.hp.and CE.ok) (⟨(hO.at hS hz0 (fun _ _ h => h)), hCE⟩) hl.1 (Nat.le_of_ble_eq_true rfl) ⟨(by omega), (by omega)⟩ rfl dX1_closest_42) ?_
            refine g_top (y := .ref (b (10 + t))) rfl ?_
            refine lv_aload_n hx hb dX1_closest_45 rfl (lv_at hl 3 rfl) ?_
            refine lv_iload hx hb dX1_closest_46 (lv_at hl 0 rfl) ?_
            refine x_runa (x_rV (C := RX5) (As := [.int (nI k)]) SF hK (d := 3) (rk.le (Nat.le_of_ble_eq_true rfl)) (c_X5_town l dC dI dA b mc S Hd k (show k < tn Hd by omega) hT) (lw_V q1375 q966 q967 q139 q968) (n := 1) (by decide +kernel) rfl (by decide) (g_recv hK ((hO.at hS hz0 (fun _ _ h => h)) 0 _ rfl) (ci := 1) rfl) (XOK.hp.and CE.ok) (⟨(hO.at hS hz0 (fun _ _ h => h)), hCE⟩) hl.1 (Nat.le_of_ble_eq_true rfl) ⟨(by omega), (by omega)⟩ rfl dX1_closest_48) ?_
            refine g_top (y := .ref (b (10 + k))) rfl ?_
            refine u_run (x_rS (As := [.ref (b (10 + t)), .ref (b (10 + k))]) SF hK (d := 3) (rk.le (Nat.le_of_ble_eq_true rfl)) (c_X1_apart_2 l dC dI dA b mc S Hd t k (show t < tn Hd by omega) (show k < tn Hd by omega) hT) (lw_S q1416 q1417 q112 q1418) (n := 2) (by decide +kernel) rfl (by decide) (XOK.hp.and CE.ok) (⟨(hO.at hS hz0 (fun _ _ h => h)), hCE⟩) hl.1 (Nat.le_of_ble_eq_true rfl) ⟨(by omega), (by omega)⟩ rfl dX1_closest_51) ?_
            refine u_top (y := nI (apr Hd t k)) rfl ?_
            refine lv_istore (lv' := [(6, .int (nI (apr Hd t k))), (5, .int (nI k)), (4, .int (nI (clD Hd t k))), (3, .int (oI (clN Hd t k))), (2, .ref (b 0)), (0, .ref (g 0)), (1, .int (nI t))]) hx hb dX1_closest_54 hl (by decide) rfl (fun ls hl => ?_)
            refine lv_iload hx hb dX1_closest_56 (lv_at hl 0 rfl) ?_
            refine lv_iload hx hb dX1_closest_58 (lv_at hl 2 rfl) ?_
            refine lv_icmp_lt (tgt := 66) hx hb dX1_closest_60 (by decide) (fun c_60 => ?_) (fun c_60 => ?_)
            · have c_60 : apr Hd t k < clD Hd t k := (nI_ltI (a := apr Hd t k) (b := clD Hd t k) (by omega) (by omega)).mp c_60
              refine lv_iload hx hb dX1_closest_66 (lv_at hl 0 rfl) ?_
              refine lv_istore (lv' := [(4, .int (nI (apr Hd t k))), (6, .int (nI (apr Hd t k))), (5, .int (nI k)), (3, .int (oI (clN Hd t k))), (2, .ref (b 0)), (0, .ref (g 0)), (1, .int (nI t))]) hx hb dX1_closest_68 hl (by decide) rfl (fun ls hl => ?_)
              refine lv_iload hx hb dX1_closest_70 (lv_at hl 2 rfl) ?_
              refine lv_istore_n (lv' := [(3, .int (nI k)), (4, .int (nI (apr Hd t k))), (6, .int (nI (apr Hd t k))), (5, .int (nI k)), (2, .ref (b 0)), (0, .ref (g 0)), (1, .int (nI t))]) hx hb dX1_closest_72 rfl hl (by decide) rfl (fun ls hl => ?_)
              have e9_4 : nI (clD Hd t (k + 1)) = nI (apr Hd t k) := (congrArg nI (clD_hit c_32 c_60))
              have hl : lv_has ls 7 [(3, .int (nI k)), (4, .int (nI (clD Hd t (k + 1)))), (6, .int (nI (apr Hd t k))), (5, .int (nI k)), (2, .ref (b 0)), (0, .ref (g 0)), (1, .int (nI t))] := by rw [e9_4]; exact hl
              have e9_3 : oI (clN Hd t (k + 1)) = nI k := (congrArg oI (clN_hit c_32 c_60))
              have hl : lv_has ls 7 [(3, .int (oI (clN Hd t (k + 1)))), (4, .int (nI (clD Hd t (k + 1)))), (6, .int (nI (apr Hd t k))), (5, .int (nI k)), (2, .ref (b 0)), (0, .ref (g 0)), (1, .int (nI t))] := by rw [e9_3]; exact hl
              refine lv_iinc (v := nI (k + 1)) (lv' := [(5, .int (nI (k + 1))), (3, .int (oI (clN Hd t (k + 1)))), (4, .int (nI (clD Hd t (k + 1)))), (6, .int (nI (apr Hd t k))), (2, .ref (b 0)), (0, .ref (g 0)), (1, .int (nI t))]) hx hb dX1_closest_73 hl (k := 3) rfl (nI_add _ 1) (by decide) rfl (fun ls hl => ?_)
              refine lv_goto (tgt := 15) hx hb dX1_closest_76 (by decide) ?_
              exact ih15 (k + 1) (by omega) (by omega) ls (lv_sub hl [0, 2, 1, 4, 5, 6] rfl)
            · have c_60 : ¬ (apr Hd t k < clD Hd t k) := fun q9 => c_60 ((nI_ltI (a := apr Hd t k) (b := clD Hd t k) (by omega) (by omega)).mpr q9)
              refine lv_goto (tgt := 73) hx hb dX1_closest_63 (by decide) ?_
              have e9_4 : nI (clD Hd t (k + 1)) = nI (clD Hd t k) := (congrArg nI (clD_mis (by first | exact Or.inl c_32 | exact Or.inr c_60 | exact Or.inr (by omega))))
              have hl : lv_has ls 7 [(6, .int (nI (apr Hd t k))), (5, .int (nI k)), (4, .int (nI (clD Hd t (k + 1)))), (3, .int (oI (clN Hd t k))), (2, .ref (b 0)), (0, .ref (g 0)), (1, .int (nI t))] := by rw [e9_4]; exact hl
              have e9_3 : oI (clN Hd t (k + 1)) = oI (clN Hd t k) := (congrArg oI (clN_mis (by first | exact Or.inl c_32 | exact Or.inr c_60 | exact Or.inr (by omega))))
              have hl : lv_has ls 7 [(6, .int (nI (apr Hd t k))), (5, .int (nI k)), (4, .int (nI (clD Hd t (k + 1)))), (3, .int (oI (clN Hd t (k + 1)))), (2, .ref (b 0)), (0, .ref (g 0)), (1, .int (nI t))] := by rw [e9_3]; exact hl
              refine lv_iinc (v := nI (k + 1)) (lv' := [(5, .int (nI (k + 1))), (6, .int (nI (apr Hd t k))), (4, .int (nI (clD Hd t (k + 1)))), (3, .int (oI (clN Hd t (k + 1)))), (2, .ref (b 0)), (0, .ref (g 0)), (1, .int (nI t))]) hx hb dX1_closest_73 hl (k := 1) rfl (nI_add _ 1) (by decide) rfl (fun ls hl => ?_)
              refine lv_goto (tgt := 15) hx hb dX1_closest_76 (by decide) ?_
              exact ih15 (k + 1) (by omega) (by omega) ls (lv_sub hl [0, 2, 3, 4, 5, 6] rfl)
          · have c_32 : k = t := (nI_eq (a := k) (b := t) (by omega) (by omega)).mp c_32
            refine lv_bipush (v := nI 11) hx hb dX1_closest_35 (by decide) ?_
            refine lv_goto (tgt := 54) hx hb dX1_closest_37 (by decide) ?_
            refine lv_istore (lv' := [(6, .int (nI 11)), (5, .int (nI k)), (4, .int (nI (clD Hd t k))), (3, .int (oI (clN Hd t k))), (2, .ref (b 0)), (0, .ref (g 0)), (1, .int (nI t))]) hx hb dX1_closest_54 hl (by decide) rfl (fun ls hl => ?_)
            refine lv_iload hx hb dX1_closest_56 (lv_at hl 0 rfl) ?_
            refine lv_iload hx hb dX1_closest_58 (lv_at hl 2 rfl) ?_
            refine lv_icmp_lt (tgt := 66) hx hb dX1_closest_60 (by decide) (fun c_60 => ?_) (fun c_60 => ?_)
            · have c_60 : 11 < clD Hd t k := (nI_ltI (a := 11) (b := clD Hd t k) (by omega) (by omega)).mp c_60
              exfalso; omega
            · have c_60 : ¬ (11 < clD Hd t k) := fun q9 => c_60 ((nI_ltI (a := 11) (b := clD Hd t k) (by omega) (by omega)).mpr q9)
              refine lv_goto (tgt := 73) hx hb dX1_closest_63 (by decide) ?_
              have e9_4 : nI (clD Hd t (k + 1)) = nI (clD Hd t k) := (congrArg nI (clD_mis (by first | exact Or.inl c_32 | exact Or.inr c_60 | exact Or.inr (by omega))))
              have hl : lv_has ls 7 [(6, .int (nI 11)), (5, .int (nI k)), (4, .int (nI (clD Hd t (k + 1)))), (3, .int (oI (clN Hd t k))), (2, .ref (b 0)), (0, .ref (g 0)), (1, .int (nI t))] := by rw [e9_4]; exact hl
              have e9_3 : oI (clN Hd t (k + 1)) = oI (clN Hd t k) := (congrArg oI (clN_mis (by first | exact Or.inl c_32 | exact Or.inr c_60 | exact Or.inr (by omega))))
              have hl : lv_has ls 7 [(6, .int (nI 11)), (5, .int (nI k)), (4, .int (nI (clD Hd t (k + 1)))), (3, .int (oI (clN Hd t (k + 1)))), (2, .ref (b 0)), (0, .ref (g 0)), (1, .int (nI t))] := by rw [e9_3]; exact hl
              refine lv_iinc (v := nI (k + 1)) (lv' := [(5, .int (nI (k + 1))), (6, .int (nI 11)), (4, .int (nI (clD Hd t (k + 1)))), (3, .int (oI (clN Hd t (k + 1)))), (2, .ref (b 0)), (0, .ref (g 0)), (1, .int (nI t))]) hx hb dX1_closest_73 hl (k := 1) rfl (nI_add _ 1) (by decide) rfl (fun ls hl => ?_)
              refine lv_goto (tgt := 15) hx hb dX1_closest_76 (by decide) ?_
              exact ih15 (k + 1) (by omega) (by omega) ls (lv_sub hl [0, 2, 3, 4, 5, 6] rfl)
    exact lp15 (tn Hd + 1) 0 (by omega) (by omega) ls (lv_sub hl [0, 1, 2, 3, 4, 5] rfl)
  · have hz := Nat.le_trans hz hz9
    obtain ⟨h9, rfl⟩ := hP9
    exact hthr _ _ _ _ _ _ _ _ _ _ (thX (L1 := [(lo (n 1), 1), (inZ x.toInt 0 ((tn Hd : Int) - 1), 2)]) (L2 := []) (nm' := nmA) h9 rfl rfl) hS (by omega) (by omega) hce hcv hcl

set_option maxHeartbeats 4000000 in
theorem c_X1_margin (l : Launch) (dC : Nat → ClassId) (dI : Nat → Nat → Nat) (dA : Nat → ClassId) (g : Nat → Nat) (b : Nat → Nat) (mc : Nat → Int32) (S : Nat → Int32) (Hd : Nat → Int32) (n : Nat → Int32) (sz : Nat) (hs : Nat) (x : Int32) (hS1 : SWf S) (hT : TWf Hd) (htn : 0 < tn Hd) (hsz : sz ≤ hs) (hfl : l.stackTraces = false) : vx_Met l yX1_margin (ws_ yX1_margin cX1_margin 7 (some (.int))) (rmD 8 (5) (30)) (gPx [.ref (g 0), .int x] (fun U H => AX dC dI dA g b mc S Hd n sz U H) hs dC dI dA) (gQ hs (fun _ => False) (fun v H => v = some (.int (mgV S Hd x.toNatClampNeg)) ∧ thC [(lo (n 1), 1), (inZ x.toInt 0 ((ln S : Int) - 1), 2)] = 0)) (gX hs (fun _ => False) (fun E q H => ¬ thC [(lo (n 1), 1), (inZ x.toInt 0 ((ln S : Int) - 1), 2)] = 0 ∧ E = nmA (thC [(lo (n 1), 1), (inZ x.toInt 0 ((ln S : Int) - 1), 2)]))) (5) (30) (gF (fun _ => False) hs) := by
  refine v_meti (own := RX1) (by decide) rfl (Nat.le_of_ble_eq_true rfl) fun p e R s m args below meth c Q SF rk hRR hX hK hin hE hret hthr hQ ls hl => ?_
  have hx := SF.1
  have hb := SF.2.1
  have hml := SF.2.2.1
  have hown := SF.2.2.2.1
  have hts := SF.2.2.2.2
  have hz0 := hX.2
  have hz : hs ≤ s.heap.size := Nat.le_of_eq hX.2.symm
  have hX := hX.1
  have hRc := hRR.1
  have hRs := hRR.2
  have gFs : ∀ q : Nat, s.heap.size ≤ q → gF (fun _ => False) hs q := fun q h => Or.inr (hz0 ▸ h)
  have hS : va_S (gF (fun _ => False) hs) s.heap s.heap [] := va_S.rf
  have hl : lv_has ls 7 [(0, .ref (g 0)), (1, .int x)] := hl
  have hEN := hX.2.2
  have hCE := hEN.1
  have hAz : ∀ q, gF (fun _ => False) hs q → sz ≤ q := fun q h => h.elim (fun e => e.elim) (fun h => Nat.le_trans hsz h)
  obtain ⟨nv, hP0⟩ := AX.ob hX
  have hL := hS1.2.1
  have hn9 := hT.2.1
  refine lv_aload_n hx hb dX1_margin_0 rfl (lv_at hl 0 rfl) ?_
  refine lv_iload_n hx hb dX1_margin_1 rfl (lv_at hl 1 rfl) ?_
  refine g_runX (v_rV (C := RX1) (As := [.int x]) SF hK (d := 7) (rk.le (Nat.le_of_ble_eq_true rfl)) (c_X1_withLetter l dC dI dA g b mc S Hd n sz s.heap.size x hS1 (show sz ≤ s.heap.size by omega) hfl) (lw_V q1434 q1436 qs30 q112 q1437) (n := 1) (by decide +kernel) rfl (by decide) (g_recv hK (hP0.at hS hz0 (fun h => h)) (ci := 0) rfl) (XOK.hs (XOK.hp.and (XOK.hp.and EN.ok))) (⟨AX.at hX hS hz0 hsz, rfl⟩) hl.1 (Nat.le_of_ble_eq_true rfl) ⟨(by omega), (by omega)⟩ rfl dX1_margin_2) rfl hS (fun _ h => h.elim) gFs (fun v9 H locs hP9 hz9 oq hS => ?_) (fun E q9 ce H locs hP9 hz9 oq hS hce hcv hcl => ?_)
  · obtain ⟨rfl, hlo, hok1⟩ := hP9
    have hz := Nat.le_trans hz hz9
    refine W.eq (g2 := F0 m 5 ls [.ref (b 0)]) rfl ?_
    have hn1 := lo_n hlo
    obtain ⟨hP1, hO⟩ := hX.2.1 hn1
    obtain ⟨lt, ht_lt, htb_lt, rfl⟩ := inZ_n hok1
    have hcl_lt : (nI lt).toNatClampNeg = lt := nI_clamp htb_lt
    refine lv_astore_n (lv' := [(2, .ref (b 0)), (0, .ref (g 0)), (1, .int (nI lt))]) hx hb dX1_margin_5 rfl hl (by decide) rfl (fun ls hl => ?_)
    refine lv_bipush (v := nI 11) hx hb dX1_margin_6 (by decide) ?_
    refine lv_istore_n (lv' := [(3, .int (nI 11)), (2, .ref (b 0)), (0, .ref (g 0)), (1, .int (nI lt))]) hx hb dX1_margin_8 rfl hl (by decide) rfl (fun ls hl => ?_)
    refine lv_bipush (v := nI 11) hx hb dX1_margin_9 (by decide) ?_
    refine lv_istore (lv' := [(4, .int (nI 11)), (3, .int (nI 11)), (2, .ref (b 0)), (0, .ref (g 0)), (1, .int (nI lt))]) hx hb dX1_margin_11 hl (by decide) rfl (fun ls hl => ?_)
    refine lv_iconst (v := nI 0) hx hb dX1_margin_13 (by decide) ?_
    refine lv_istore (lv' := [(5, .int (nI 0)), (4, .int (nI 11)), (3, .int (nI 11)), (2, .ref (b 0)), (0, .ref (g 0)), (1, .int (nI lt))]) hx hb dX1_margin_14 hl (by decide) rfl (fun ls hl => ?_)
    have lp16 : ∀ (k0 : Nat) (k : Nat), k ≤ tn Hd → tn Hd < k + k0 → ∀ ls : Array Slot, lv_has ls 7 [(5, .int (nI k)), (4, .int (nI (min2 (farT S Hd lt) k))), (3, .int (nI (minN (farT S Hd lt) 11 k))), (2, .ref (b 0)), (0, .ref (g 0)), (1, .int (nI lt))] → W p l e R s m args below meth c H locs (0 + 2) (0 + 12) Q (F0 m 16 ls []) := by
      intro k0
      induction k0 with
      | zero =>
        intro k hk1 hk2; omega
      | succ k0 ih =>
        intro k hk1 hk2 ls hl
        have ih16 := ih
        have hf9 := farT_le S Hd lt k
        have hm9 := minN_le (farT S Hd lt) 11 k
        have hm8 := min2_le (farT S Hd lt) k
        have hm7 := minN_min2 (farT S Hd lt) k
        refine lv_iload hx hb dX1_margin_16 (lv_at hl 0 rfl) ?_
        refine lv_aload_n hx hb dX1_margin_18 rfl (lv_at hl 3 rfl) ?_
        refine va_getN (D := (dC, dI)) (ci := 1) (v := .ref (b 1)) (C := RX5) (T := TX5) (N := 10) hx hb hts in_X5 hown hK ((hO.at hS hz0 (fun _ _ h => h)) 0 _ rfl) 0 rfl rfl 0 (by decide) (va_Nw.use rfl (hCE.1 2 (by decide))) (fun _ h9 => h9) rfl dX1_margin_19 ?_
        refine x_run5 (x_rF (C := RJ20) (As := []) (hK.1 6 _ rfl).2 SF hK (d := 0) (rk.le (Nat.le_of_ble_eq_true rfl)) (c_J20_size l dC dI dA (b 1) (b 2) (tn Hd) (mc 0) 12 (fun t => if t < tn Hd then some (b (10 + t)) else none) ) (lw_F q1303 q954 q956 q141 q958) (hCE.2.2 7 (by decide)) (n := 0) (by decide +kernel) rfl (by decide) (g_recv hK ((hO.at hS hz0 (fun _ _ h => h)) 1 _ rfl) (ci := 6) rfl) (XOK.hp) (⟨(hO.at hS hz0 (fun _ _ h => h)) 1 _ rfl, (hO.at hS hz0 (fun _ _ h => h)) 2 _ rfl⟩) hl.1 (Nat.le_of_ble_eq_true rfl) ⟨(by omega), (by omega)⟩ rfl dX1_margin_22) ?_
        refine u_top (y := nI (tn Hd)) rfl ?_
        refine lv_icmp_ge (tgt := 65) hx hb dX1_margin_27 (by decide) (fun c_27 => ?_) (fun c_27 => ?_)
        · have c_27 : (tn Hd) ≤ k := (nI_leI (a := (tn Hd)) (b := k) (by omega) (by omega)).mp c_27
          refine lv_aload_n hx hb dX1_margin_65 rfl (lv_at hl 3 rfl) ?_
          refine va_getN (D := (dC, dI)) (ci := 1) (v := .ref (b 1)) (C := RX5) (T := TX5) (N := 10) hx hb hts in_X5 hown hK ((hO.at hS hz0 (fun _ _ h => h)) 0 _ rfl) 0 rfl rfl 0 (by decide) (va_Nw.use rfl (hCE.1 2 (by decide))) (fun _ h9 => h9) rfl dX1_margin_66 ?_
          refine x_run5 (x_rF (C := RJ20) (As := []) (hK.1 6 _ rfl).2 SF hK (d := 0) (rk.le (Nat.le_of_ble_eq_true rfl)) (c_J20_size l dC dI dA (b 1) (b 2) (tn Hd) (mc 0) 12 (fun t => if t < tn Hd then some (b (10 + t)) else none) ) (lw_F q1303 q954 q956 q141 q958) (hCE.2.2 7 (by decide)) (n := 0) (by decide +kernel) rfl (by decide) (g_recv hK ((hO.at hS hz0 (fun _ _ h => h)) 1 _ rfl) (ci := 6) rfl) (XOK.hp) (⟨(hO.at hS hz0 (fun _ _ h => h)) 1 _ rfl, (hO.at hS hz0 (fun _ _ h => h)) 2 _ rfl⟩) hl.1 (Nat.le_of_ble_eq_true rfl) ⟨(by omega), (by omega)⟩ rfl dX1_margin_69) ?_
          refine u_top (y := nI (tn Hd)) rfl ?_
          refine lv_iconst (v := nI 1) hx hb dX1_margin_74 (by decide) ?_
          refine lv_icmp_ne (tgt := 82) hx hb dX1_margin_75 (by decide) (fun c_75 => ?_) (fun c_75 => ?_)
          · have c_75 : ¬ ((tn Hd) = 1) := fun q9 => c_75 ((nI_eq (a := (tn Hd)) (b := 1) (by omega) (by omega)).mpr q9)
            refine lv_iload hx hb dX1_margin_82 (lv_at hl 1 rfl) ?_
            refine lv_iload_n hx hb dX1_margin_84 rfl (lv_at hl 2 rfl) ?_
            refine lv_isub hx hb dX1_margin_85 ?_
            refine u_top (pk_sub (by omega)) ?_
            exact hret _ _ _ _ _ _ _ (⟨by rw [hcl_lt, mgV_eq htn, if_neg c_75, show tn Hd = k by omega], by simp [thC, hlo, hok1]⟩) hS (by omega) (by omega) dX1_margin_86
          · have c_75 : (tn Hd) = 1 := (nI_eq (a := (tn Hd)) (b := 1) (by omega) (by omega)).mp c_75
            refine lv_iconst (v := (-1)) hx hb dX1_margin_78 (by decide) ?_
            refine lv_goto (tgt := 86) hx hb dX1_margin_79 (by decide) ?_
            exact hret _ _ _ _ _ _ _ (⟨by rw [hcl_lt, mgV_eq htn, if_pos c_75], by simp [thC, hlo, hok1]⟩) hS (by omega) (by omega) dX1_margin_86
        · have c_27 : ¬ ((tn Hd) ≤ k) := fun q9 => c_27 ((nI_leI (a := (tn Hd)) (b := k) (by omega) (by omega)).mpr q9)
          refine lv_aload_n hx hb dX1_margin_30 rfl (lv_at hl 3 rfl) ?_
          refine lv_iload_n hx hb dX1_margin_31 rfl (lv_at hl 5 rfl) ?_
          refine lv_iload hx hb dX1_margin_32 (lv_at hl 0 rfl) ?_
          refine u_run (x_rV (C := RX5) (As := [.int (nI lt), .int (nI k)]) SF hK (d := 4) (rk.le (Nat.le_of_ble_eq_true rfl)) (c_X5_distance l dC dI dA b mc S Hd lt k (show lt < ln S by omega) (show k < tn Hd by omega) hS1 hT) (lw_V q1388 q1158 q1159 q139 q1160) (n := 2) (by decide +kernel) rfl (by decide) (g_recv hK ((hO.at hS hz0 (fun _ _ h => h)) 0 _ rfl) (ci := 1) rfl) (XOK.hp.and CE.ok) (⟨(hO.at hS hz0 (fun _ _ h => h)), hCE⟩) hl.1 (Nat.le_of_ble_eq_true rfl) ⟨(by omega), (by omega)⟩ rfl dX1_margin_34) ?_
          refine u_top (y := nI (farT S Hd lt k)) rfl ?_
          refine lv_istore (lv' := [(6, .int (nI (farT S Hd lt k))), (5, .int (nI k)), (4, .int (nI (min2 (farT S Hd lt) k))), (3, .int (nI (minN (farT S Hd lt) 11 k))), (2, .ref (b 0)), (0, .ref (g 0)), (1, .int (nI lt))]) hx hb dX1_margin_37 hl (by decide) rfl (fun ls hl => ?_)
          refine lv_iload hx hb dX1_margin_39 (lv_at hl 2 rfl) ?_
          refine lv_iload_n hx hb dX1_margin_41 rfl (lv_at hl 3 rfl) ?_
          refine lv_iload hx hb dX1_margin_42 (lv_at hl 0 rfl) ?_
          refine va_mmax hx hb (hml.trans hl.1.symm) hown (hts _ q1177) (hts _ q504) (hts _ q131) (hts _ q505) (Nat.le_trans (Nat.le_of_ble_eq_true rfl) rk.1) (Nat.le_trans (Nat.le_of_ble_eq_true rfl) rk.2) (by omega) (by omega) dX1_margin_44 ?_
          refine u_top (nI_max (by omega) (by omega)) ?_
          refine va_mmin hx hb (hml.trans hl.1.symm) hown (hts _ q1176) (hts _ q522) (hts _ q131) (hts _ q523) (Nat.le_trans (Nat.le_of_ble_eq_true rfl) rk.1) (Nat.le_trans (Nat.le_of_ble_eq_true rfl) rk.2) (by omega) (by omega) dX1_margin_47 ?_
          refine u_top (nI_min (by omega) (by omega)) ?_
          refine lv_istore (lv' := [(4, .int (nI (min (min2 (farT S Hd lt) k) (max (minN (farT S Hd lt) 11 k) (farT S Hd lt k))))), (6, .int (nI (farT S Hd lt k))), (5, .int (nI k)), (3, .int (nI (minN (farT S Hd lt) 11 k))), (2, .ref (b 0)), (0, .ref (g 0)), (1, .int (nI lt))]) hx hb dX1_margin_50 hl (by decide) rfl (fun ls hl => ?_)
          refine lv_iload_n hx hb dX1_margin_52 rfl (lv_at hl 3 rfl) ?_
          refine lv_iload hx hb dX1_margin_53 (lv_at hl 1 rfl) ?_
          refine va_mmin hx hb (hml.trans hl.1.symm) hown (hts _ q1176) (hts _ q522) (hts _ q131) (hts _ q523) (Nat.le_trans (Nat.le_of_ble_eq_true rfl) rk.1) (Nat.le_trans (Nat.le_of_ble_eq_true rfl) rk.2) (by omega) (by omega) dX1_margin_55 ?_
          refine u_top (nI_min (by omega) (by omega)) ?_
          refine lv_istore_n (lv' := [(3, .int (nI (min (minN (farT S Hd lt) 11 k) (farT S Hd lt k)))), (4, .int (nI (min (min2 (farT S Hd lt) k) (max (minN (farT S Hd lt) 11 k) (farT S Hd lt k))))), (6, .int (nI (farT S Hd lt k))), (5, .int (nI k)), (2, .ref (b 0)), (0, .ref (g 0)), (1, .int (nI lt))]) hx hb dX1_margin_58 rfl hl (by decide) rfl (fun ls hl => ?_)
          refine lv_iinc (v := nI (k + 1)) (lv' := [(5, .int (nI (k + 1))), (3, .int (nI (min (minN (farT S Hd lt) 11 k) (farT S Hd lt k)))), (4, .int (nI (min (min2 (farT S Hd lt) k) (max (minN (farT S Hd lt) 11 k) (farT S Hd lt k))))), (6, .int (nI (farT S Hd lt k))), (2, .ref (b 0)), (0, .ref (g 0)), (1, .int (nI lt))]) hx hb dX1_margin_59 hl (k := 3) rfl (nI_add _ 1) (by decide) rfl (fun ls hl => ?_)
          refine lv_goto (tgt := 16) hx hb dX1_margin_62 (by decide) ?_
          exact ih16 (k + 1) (by omega) (by omega) ls (lv_sub hl [0, 2, 1, 4, 5, 6] rfl)
    exact lp16 (tn Hd + 1) 0 (by omega) (by omega) ls (lv_sub hl [0, 1, 2, 3, 4, 5] rfl)
  · have hz := Nat.le_trans hz hz9
    obtain ⟨h9, rfl⟩ := hP9
    exact hthr _ _ _ _ _ _ _ _ _ _ (thX (L1 := [(lo (n 1), 1), (inZ x.toInt 0 ((ln S : Int) - 1), 2)]) (L2 := []) (nm' := nmA) h9 rfl rfl) hS (by omega) (by omega) hce hcv hcl

set_option maxHeartbeats 4000000 in
theorem c_X1_letter (l : Launch) (dC : Nat → ClassId) (dI : Nat → Nat → Nat) (dA : Nat → ClassId) (g : Nat → Nat) (b : Nat → Nat) (mc : Nat → Int32) (S : Nat → Int32) (Hd : Nat → Int32) (n : Nat → Int32) (sz : Nat) (hs : Nat) (x : Int32) (y : Int32) (hS1 : SWf S) (hT : TWf Hd) (hsz : sz ≤ hs) (hfl : l.stackTraces = false) : vx_Met l yX1_letter (ws_ yX1_letter cX1_letter 5 (some (.int))) (rmD 8 (5) (30)) (gPx [.ref (g 0), .int x, .int y] (fun U H => AX dC dI dA g b mc S Hd n sz U H) hs dC dI dA) (gQ hs (fun _ => False) (fun v H => v = some (.int (letV S Hd x.toNatClampNeg y.toNatClampNeg)) ∧ thC [(lo (n 1), 1), (inZ x.toInt 0 ((ln S : Int) - 1), 2), (inZ y.toInt 0 7, 3)] = 0)) (gX hs (fun _ => False) (fun E q H => ¬ thC [(lo (n 1), 1), (inZ x.toInt 0 ((ln S : Int) - 1), 2), (inZ y.toInt 0 7, 3)] = 0 ∧ E = nmA (thC [(lo (n 1), 1), (inZ x.toInt 0 ((ln S : Int) - 1), 2), (inZ y.toInt 0 7, 3)]))) (5) (30) (gF (fun _ => False) hs) := by
  refine v_meti (own := RX1) (by decide) rfl (Nat.le_of_ble_eq_true rfl) fun p e R s m args below meth c Q SF rk hRR hX hK hin hE hret hthr hQ ls hl => ?_
  have hx := SF.1
  have hb := SF.2.1
  have hml := SF.2.2.1
  have hown := SF.2.2.2.1
  have hts := SF.2.2.2.2
  have hz0 := hX.2
  have hz : hs ≤ s.heap.size := Nat.le_of_eq hX.2.symm
  have hX := hX.1
  have hRc := hRR.1
  have hRs := hRR.2
  have gFs : ∀ q : Nat, s.heap.size ≤ q → gF (fun _ => False) hs q := fun q h => Or.inr (hz0 ▸ h)
  have hS : va_S (gF (fun _ => False) hs) s.heap s.heap [] := va_S.rf
  have hl : lv_has ls 5 [(0, .ref (g 0)), (1, .int x), (2, .int y)] := hl
  have hEN := hX.2.2
  have hCE := hEN.1
  have hAz : ∀ q, gF (fun _ => False) hs q → sz ≤ q := fun q h => h.elim (fun e => e.elim) (fun h => Nat.le_trans hsz h)
  obtain ⟨nv, hP0⟩ := AX.ob hX
  have hL := hS1.2.1
  have hn9 := hT.2.1
  refine lv_aload_n hx hb dX1_letter_0 rfl (lv_at hl 0 rfl) ?_
  refine lv_iload_n hx hb dX1_letter_1 rfl (lv_at hl 1 rfl) ?_
  refine g_runX (v_rV (C := RX1) (As := [.int x]) SF hK (d := 7) (rk.le (Nat.le_of_ble_eq_true rfl)) (c_X1_withLetter l dC dI dA g b mc S Hd n sz s.heap.size x hS1 (show sz ≤ s.heap.size by omega) hfl) (lw_V q1434 q1436 qs30 q112 q1437) (n := 1) (by decide +kernel) rfl (by decide) (g_recv hK (hP0.at hS hz0 (fun h => h)) (ci := 0) rfl) (XOK.hs (XOK.hp.and (XOK.hp.and EN.ok))) (⟨AX.at hX hS hz0 hsz, rfl⟩) hl.1 (Nat.le_of_ble_eq_true rfl) ⟨(by omega), (by omega)⟩ rfl dX1_letter_2) rfl hS (fun _ h => h.elim) gFs (fun v9 H locs hP9 hz9 oq hS => ?_) (fun E q9 ce H locs hP9 hz9 oq hS hce hcv hcl => ?_)
  · obtain ⟨rfl, hlo, hok1⟩ := hP9
    have hz := Nat.le_trans hz hz9
    refine W.eq (g2 := F0 m 5 ls [.ref (b 0)]) rfl ?_
    have hn1 := lo_n hlo
    obtain ⟨hP1, hO⟩ := hX.2.1 hn1
    obtain ⟨lt, ht_lt, htb_lt, rfl⟩ := inZ_n hok1
    have hcl_lt : (nI lt).toNatClampNeg = lt := nI_clamp htb_lt
    refine lv_astore_n (lv' := [(3, .ref (b 0)), (0, .ref (g 0)), (1, .int (nI lt)), (2, .int y)]) hx hb dX1_letter_5 rfl hl (by decide) rfl (fun ls hl => ?_)
    refine lv_aload_n hx hb dX1_letter_6 rfl (lv_at hl 0 rfl) ?_
    refine lv_iload_n hx hb dX1_letter_7 rfl (lv_at hl 2 rfl) ?_
    refine x_runa (x_rV (C := RX5) (As := [.int (nI lt)]) SF hK (d := 3) (rk.le (Nat.le_of_ble_eq_true rfl)) (c_X5_letter l dC dI dA b mc S Hd lt (show lt < ln S by omega) hS1) (lw_V q187 q188 q189 q139 q190) (n := 1) (by decide +kernel) rfl (by decide) (g_recv hK ((hO.at hS hz0 (fun _ _ h => h)) 0 _ rfl) (ci := 1) rfl) (XOK.hp.and CE.ok) (⟨(hO.at hS hz0 (fun _ _ h => h)), hCE⟩) hl.1 (Nat.le_of_ble_eq_true rfl) ⟨(by omega), (by omega)⟩ rfl dX1_letter_8) ?_
    refine g_top (y := .ref (b (22 + lt))) rfl ?_
    refine lv_astore (lv' := [(4, .ref (b (22 + lt))), (3, .ref (b 0)), (0, .ref (g 0)), (1, .int (nI lt)), (2, .int y)]) hx hb dX1_letter_11 hl (by decide) rfl (fun ls hl => ?_)
    refine lv_iload_n hx hb dX1_letter_13 rfl (lv_at hl 4 rfl) ?_
    by_cases hok2 : inZ y.toInt 0 7 = true
    · obtain ⟨jj, ht_jj, htb_jj, rfl⟩ := inZ_n hok2
      have hcl_jj : (nI jj).toNatClampNeg = jj := nI_clamp htb_jj
      rcases (show jj = 0 ∨ jj = 1 ∨ jj = 2 ∨ jj = 3 ∨ jj = 4 ∨ jj = 5 ∨ jj = 6 ∨ jj = 7 by omega) with rfl | rfl | rfl | rfl | rfl | rfl | rfl | rfl
      · refine lv_tableIn (off := 46) (tgt := 60) hx hb dX1_letter_14 (by decide) (by decide) (by decide) (by decide) ?_
        refine lv_aload hx hb dX1_letter_60 (lv_at hl 0 rfl) ?_
        refine va_getN (D := (dC, dI)) (ci := 3) (v := .int (lr S lt 5)) (C := RX7) (T := TX7) (N := 6) hx hb hts in_X7 hown hK ((hO.at hS hz0 (fun _ _ h => h)) _ _ (offE_lt (show lt < ln S from (by omega)) hS1.2.1)) 0 rfl rfl 1 (by decide) (va_Nw.use rfl (hCE.1 13 (by decide))) (fun _ h9 => h9) rfl dX1_letter_62 ?_
        refine lv_goto (tgt := 132) hx hb dX1_letter_65 (by decide) ?_
        exact hret _ _ _ _ _ _ _ (⟨by first | (simp only [hcl_lt, hcl_jj]; done) | (simp only [hcl_lt, hcl_jj]; rfl) | (rw [hcl_lt, hcl_jj]; rfl), by simp [thC, hlo, hok1, hok2]⟩) hS (by omega) (by omega) dX1_letter_132
      · refine lv_tableIn (off := 54) (tgt := 68) hx hb dX1_letter_14 (by decide) (by decide) (by decide) (by decide) ?_
        refine lv_aload hx hb dX1_letter_68 (lv_at hl 0 rfl) ?_
        refine va_getN (D := (dC, dI)) (ci := 3) (v := .int (lr S lt 6)) (C := RX7) (T := TX7) (N := 6) hx hb hts in_X7 hown hK ((hO.at hS hz0 (fun _ _ h => h)) _ _ (offE_lt (show lt < ln S from (by omega)) hS1.2.1)) 0 rfl rfl 2 (by decide) (va_Nw.use rfl (hCE.1 14 (by decide))) (fun _ h9 => h9) rfl dX1_letter_70 ?_
        refine lv_goto (tgt := 132) hx hb dX1_letter_73 (by decide) ?_
        exact hret _ _ _ _ _ _ _ (⟨by first | (simp only [hcl_lt, hcl_jj]; done) | (simp only [hcl_lt, hcl_jj]; rfl) | (rw [hcl_lt, hcl_jj]; rfl), by simp [thC, hlo, hok1, hok2]⟩) hS (by omega) (by omega) dX1_letter_132
      · refine lv_tableIn (off := 62) (tgt := 76) hx hb dX1_letter_14 (by decide) (by decide) (by decide) (by decide) ?_
        refine lv_aload hx hb dX1_letter_76 (lv_at hl 0 rfl) ?_
        refine va_getN (D := (dC, dI)) (ci := 3) (v := .int (lr S lt 7)) (C := RX7) (T := TX7) (N := 6) hx hb hts in_X7 hown hK ((hO.at hS hz0 (fun _ _ h => h)) _ _ (offE_lt (show lt < ln S from (by omega)) hS1.2.1)) 0 rfl rfl 3 (by decide) (va_Nw.use rfl (hCE.1 15 (by decide))) (fun _ h9 => h9) rfl dX1_letter_78 ?_
        refine lv_goto (tgt := 132) hx hb dX1_letter_81 (by decide) ?_
        exact hret _ _ _ _ _ _ _ (⟨by first | (simp only [hcl_lt, hcl_jj]; done) | (simp only [hcl_lt, hcl_jj]; rfl) | (rw [hcl_lt, hcl_jj]; rfl), by simp [thC, hlo, hok1, hok2]⟩) hS (by omega) (by omega) dX1_letter_132
      · refine lv_tableIn (off := 70) (tgt := 84) hx hb dX1_letter_14 (by decide) (by decide) (by decide) (by decide) ?_
        refine lv_aload hx hb dX1_letter_84 (lv_at hl 0 rfl) ?_
        refine u_run (x_rV (C := RX7) (As := []) SF hK (d := 1) (rk.le (Nat.le_of_ble_eq_true rfl)) (c_X7_unread l dC dI dA b mc S Hd lt (show lt < ln S by omega) hS1) (lw_V q1438 q1143 q1144 q144 q1145) (n := 0) (by decide +kernel) rfl (by decide) (g_recv hK ((hO.at hS hz0 (fun _ _ h => h)) _ _ (offE_lt (show lt < ln S from (by omega)) hS1.2.1)) (ci := 3) rfl) (XOK.hp.and CE.ok) (⟨(hO.at hS hz0 (fun _ _ h => h)), hCE⟩) hl.1 (Nat.le_of_ble_eq_true rfl) ⟨(by omega), (by omega)⟩ rfl dX1_letter_86) ?_
        refine u_top (y := nI (unr S lt)) rfl ?_
        refine lv_goto (tgt := 132) hx hb dX1_letter_89 (by decide) ?_
        exact hret _ _ _ _ _ _ _ (⟨by first | (simp only [hcl_lt, hcl_jj]; done) | (simp only [hcl_lt, hcl_jj]; rfl) | (rw [hcl_lt, hcl_jj]; rfl), by simp [thC, hlo, hok1, hok2]⟩) hS (by omega) (by omega) dX1_letter_132
      · refine lv_tableIn (off := 78) (tgt := 92) hx hb dX1_letter_14 (by decide) (by decide) (by decide) (by decide) ?_
        refine lv_aload hx hb dX1_letter_92 (lv_at hl 0 rfl) ?_
        refine va_getN (D := (dC, dI)) (ci := 3) (v := .int (lr S lt 8)) (C := RX7) (T := TX7) (N := 6) hx hb hts in_X7 hown hK ((hO.at hS hz0 (fun _ _ h => h)) _ _ (offE_lt (show lt < ln S from (by omega)) hS1.2.1)) 0 rfl rfl 4 (by decide) (va_Nw.use rfl (hCE.1 16 (by decide))) (fun _ h9 => h9) rfl dX1_letter_94 ?_
        refine lv_goto (tgt := 132) hx hb dX1_letter_97 (by decide) ?_
        exact hret _ _ _ _ _ _ _ (⟨by first | (simp only [hcl_lt, hcl_jj]; done) | (simp only [hcl_lt, hcl_jj]; rfl) | (rw [hcl_lt, hcl_jj]; rfl), by simp [thC, hlo, hok1, hok2]⟩) hS (by omega) (by omega) dX1_letter_132
      · refine lv_tableIn (off := 86) (tgt := 100) hx hb dX1_letter_14 (by decide) (by decide) (by decide) (by decide) ?_
        refine lv_aload hx hb dX1_letter_100 (lv_at hl 0 rfl) ?_
        refine va_getN (D := (dC, dI)) (ci := 3) (v := .int (lr S lt 9)) (C := RX7) (T := TX7) (N := 6) hx hb hts in_X7 hown hK ((hO.at hS hz0 (fun _ _ h => h)) _ _ (offE_lt (show lt < ln S from (by omega)) hS1.2.1)) 0 rfl rfl 5 (by decide) (va_Nw.use rfl (hCE.1 17 (by decide))) (fun _ h9 => h9) rfl dX1_letter_102 ?_
        refine lv_goto (tgt := 132) hx hb dX1_letter_105 (by decide) ?_
        exact hret _ _ _ _ _ _ _ (⟨by first | (simp only [hcl_lt, hcl_jj]; done) | (simp only [hcl_lt, hcl_jj]; rfl) | (rw [hcl_lt, hcl_jj]; rfl), by simp [thC, hlo, hok1, hok2]⟩) hS (by omega) (by omega) dX1_letter_132
      · refine lv_tableIn (off := 94) (tgt := 108) hx hb dX1_letter_14 (by decide) (by decide) (by decide) (by decide) ?_
        refine lv_aload_n hx hb dX1_letter_108 rfl (lv_at hl 2 rfl) ?_
        refine lv_iload_n hx hb dX1_letter_109 rfl (lv_at hl 3 rfl) ?_
        refine u_run (x_rV (C := RX1) (As := [.int (nI lt)]) SF hK (d := 5) (rk.le (Nat.le_of_ble_eq_true rfl)) (c_X1_nearMany l dC dI dA g b mc S Hd n lt (show lt < ln S by omega) hS1 hT) (lw_V q1439 q1441 qs31 q112 q1442) (n := 1) (by decide +kernel) rfl (by decide) (g_recv hK (hP1.at hS hz0 (fun h => h)) (ci := 0) rfl) (XOK.hp.and (XOK.hp.and CE.ok)) (⟨hP1.at hS hz0 (fun h => h), hO.at hS hz0 (fun _ _ h => h), hCE⟩) hl.1 (Nat.le_of_ble_eq_true rfl) ⟨(by omega), (by omega)⟩ rfl dX1_letter_110) ?_
        refine u_top (y := nI (nrT S Hd lt)) rfl ?_
        refine lv_goto (tgt := 132) hx hb dX1_letter_113 (by decide) ?_
        exact hret _ _ _ _ _ _ _ (⟨by first | (simp only [hcl_lt, hcl_jj]; done) | (simp only [hcl_lt, hcl_jj]; rfl) | (rw [hcl_lt, hcl_jj]; rfl), by simp [thC, hlo, hok1, hok2]⟩) hS (by omega) (by omega) dX1_letter_132
      · refine lv_tableIn (off := 102) (tgt := 116) hx hb dX1_letter_14 (by decide) (by decide) (by decide) (by decide) ?_
        refine lv_aload_n hx hb dX1_letter_116 rfl (lv_at hl 1 rfl) ?_
        refine lv_iload_n hx hb dX1_letter_117 rfl (lv_at hl 3 rfl) ?_
        refine u_run (x_rV (C := RX5) (As := [.int (nI lt)]) SF hK (d := 6) (rk.le (Nat.le_of_ble_eq_true rfl)) (c_X5_bestMany l dC dI dA b mc S Hd lt (show lt < ln S by omega) hS1 hT) (lw_V q1443 q1150 q1151 q139 q1152) (n := 1) (by decide +kernel) rfl (by decide) (g_recv hK ((hO.at hS hz0 (fun _ _ h => h)) 0 _ rfl) (ci := 1) rfl) (XOK.hp.and CE.ok) (⟨(hO.at hS hz0 (fun _ _ h => h)), hCE⟩) hl.1 (Nat.le_of_ble_eq_true rfl) ⟨(by omega), (by omega)⟩ rfl dX1_letter_118) ?_
        refine u_top (y := nI (bst S Hd lt)) rfl ?_
        refine lv_goto (tgt := 132) hx hb dX1_letter_121 (by decide) ?_
        exact hret _ _ _ _ _ _ _ (⟨by first | (simp only [hcl_lt, hcl_jj]; done) | (simp only [hcl_lt, hcl_jj]; rfl) | (rw [hcl_lt, hcl_jj]; rfl), by simp [thC, hlo, hok1, hok2]⟩) hS (by omega) (by omega) dX1_letter_132
    · refine lv_tableOut (tgt := 124) hx hb dX1_letter_14 (inZ_out hok2) (by decide) ?_
      exact g_jdk hx hb hfl hown hts (vx_words ag_IA an_IA hts (hEN.2.2.1 5 (by decide)) hEN.2.1.2.2) (by decide) q1283 q135 og_IA hEN hAz hz0 hS (hl.1.trans hml.symm) dX1_letter_124 dX1_letter_127 dX1_letter_128 dX1_letter_131 (fun x hx => (hE x hx).elim) (rk.le (Nat.le_of_ble_eq_true rfl)) (by decide) hRc hRs (by omega) (by omega) hQ (fun _ _ => thY (nm := nmA) (k := 3) (by simp [thC, hlo, hok1, hok2]) (by decide) rfl)
  · have hz := Nat.le_trans hz hz9
    obtain ⟨h9, rfl⟩ := hP9
    exact hthr _ _ _ _ _ _ _ _ _ _ (thX (L1 := [(lo (n 1), 1), (inZ x.toInt 0 ((ln S : Int) - 1), 2)]) (L2 := [(inZ y.toInt 0 7, 3)]) (nm' := nmA) h9 rfl rfl) hS (by omega) (by omega) hce hcv hcl

set_option maxHeartbeats 4000000 in
theorem c_X1_bag (l : Launch) (dC : Nat → ClassId) (dI : Nat → Nat → Nat) (dA : Nat → ClassId) (g : Nat → Nat) (b : Nat → Nat) (mc : Nat → Int32) (S : Nat → Int32) (Hd : Nat → Int32) (n : Nat → Int32) (sz : Nat) (hs : Nat) (x : Int32) (y : Int32) (hS1 : SWf S) (hT : TWf Hd) (hOP : OPf S) (hsz : sz ≤ hs) (hfl : l.stackTraces = false) : vx_Met l yX1_bag (ws_ yX1_bag cX1_bag 4 (some (.int))) (rmD 8 (5) (30)) (gPx [.ref (g 0), .int x, .int y] (fun U H => AX dC dI dA g b mc S Hd n sz U H) hs dC dI dA) (gQ hs (fun _ => False) (fun v H => v = some (.int (bagV S Hd x.toNatClampNeg y.toNatClampNeg)) ∧ thC [(lo (n 1), 1), (inZ x.toInt 0 5, 2), (inZ y.toInt 0 4, 3)] = 0)) (gX hs (fun _ => False) (fun E q H => ¬ thC [(lo (n 1), 1), (inZ x.toInt 0 5, 2), (inZ y.toInt 0 4, 3)] = 0 ∧ E = nmA (thC [(lo (n 1), 1), (inZ x.toInt 0 5, 2), (inZ y.toInt 0 4, 3)]))) (5) (30) (gF (fun _ => False) hs) := by
  refine v_meti (own := RX1) (by decide) rfl (Nat.le_of_ble_eq_true rfl) fun p e R s m args below meth c Q SF rk hRR hX hK hin hE hret hthr hQ ls hl => ?_
  have hx := SF.1
  have hb := SF.2.1
  have hml := SF.2.2.1
  have hown := SF.2.2.2.1
  have hts := SF.2.2.2.2
  have hz0 := hX.2
  have hz : hs ≤ s.heap.size := Nat.le_of_eq hX.2.symm
  have hX := hX.1
  have hRc := hRR.1
  have hRs := hRR.2
  have gFs : ∀ q : Nat, s.heap.size ≤ q → gF (fun _ => False) hs q := fun q h => Or.inr (hz0 ▸ h)
  have hS : va_S (gF (fun _ => False) hs) s.heap s.heap [] := va_S.rf
  have hl : lv_has ls 4 [(0, .ref (g 0)), (1, .int x), (2, .int y)] := hl
  have hEN := hX.2.2
  have hCE := hEN.1
  have hAz : ∀ q, gF (fun _ => False) hs q → sz ≤ q := fun q h => h.elim (fun e => e.elim) (fun h => Nat.le_trans hsz h)
  obtain ⟨nv, hP0⟩ := AX.ob hX
  have hL := hS1.2.1
  have hn9 := hT.2.1
  refine lv_aload_n hx hb dX1_bag_0 rfl (lv_at hl 0 rfl) ?_
  refine lv_iload_n hx hb dX1_bag_1 rfl (lv_at hl 1 rfl) ?_
  refine g_runX (v_rV (C := RX1) (As := [.int x]) SF hK (d := 7) (rk.le (Nat.le_of_ble_eq_true rfl)) (c_X1_withRoute l dC dI dA g b mc S Hd n sz s.heap.size x (show sz ≤ s.heap.size by omega) hfl) (lw_V q1593 q1595 qs37 q112 q1596) (n := 1) (by decide +kernel) rfl (by decide) (g_recv hK (hP0.at hS hz0 (fun h => h)) (ci := 0) rfl) (XOK.hs (XOK.hp.and (XOK.hp.and EN.ok))) (⟨AX.at hX hS hz0 hsz, rfl⟩) hl.1 (Nat.le_of_ble_eq_true rfl) ⟨(by omega), (by omega)⟩ rfl dX1_bag_2) rfl hS (fun _ h => h.elim) gFs (fun v9 H locs hP9 hz9 oq hS => ?_) (fun E q9 ce H locs hP9 hz9 oq hS hce hcv hcl => ?_)
  · obtain ⟨rfl, hlo, hok1⟩ := hP9
    have hz := Nat.le_trans hz hz9
    refine W.eq (g2 := F0 m 5 ls [.ref (b 0)]) rfl ?_
    have hn1 := lo_n hlo
    obtain ⟨hP1, hO⟩ := hX.2.1 hn1
    obtain ⟨r, ht_r, htb_r, rfl⟩ := inZ_n hok1
    have hcl_r : (nI r).toNatClampNeg = r := nI_clamp htb_r
    refine lv_astore_n (lv' := [(3, .ref (b 0)), (0, .ref (g 0)), (1, .int (nI r)), (2, .int y)]) hx hb dX1_bag_5 rfl hl (by decide) rfl (fun ls hl => ?_)
    refine lv_iload_n hx hb dX1_bag_6 rfl (lv_at hl 3 rfl) ?_
    by_cases hok2 : inZ y.toInt 0 4 = true
    · obtain ⟨jj, ht_jj, htb_jj, rfl⟩ := inZ_n hok2
      have hcl_jj : (nI jj).toNatClampNeg = jj := nI_clamp htb_jj
      rcases (show jj = 0 ∨ jj = 1 ∨ jj = 2 ∨ jj = 3 ∨ jj = 4 by omega) with rfl | rfl | rfl | rfl | rfl
      · refine lv_tableIn (off := 33) (tgt := 40) hx hb dX1_bag_7 (by decide) (by decide) (by decide) (by decide) ?_
        refine lv_aload_n hx hb dX1_bag_40 rfl (lv_at hl 0 rfl) ?_
        refine va_getN (D := (dC, dI)) (ci := 1) (v := .ref (b 6)) (C := RX5) (T := TX5) (N := 10) hx hb hts in_X5 hown hK ((hO.at hS hz0 (fun _ _ h => h)) 0 _ rfl) 0 rfl rfl 3 (by decide) (va_Nw.use rfl (hCE.1 5 (by decide))) (fun _ h9 => h9) rfl dX1_bag_41 ?_
        refine lv_iload_n hx hb dX1_bag_44 rfl (lv_at hl 2 rfl) ?_
        refine u_iald hx hb hK ((hO.at hS hz0 (fun _ _ h => h)) 6 _ rfl) 0 0 rfl rfl (i := r) (by omega) (by decide) dX1_bag_45 ?_
        refine u_top (y := S (15 + r)) (by first | exact clip_at (by omega) | rfl) ?_
        refine lv_goto (tgt := 103) hx hb dX1_bag_46 (by decide) ?_
        exact hret _ _ _ _ _ _ _ (⟨by first | (simp only [hcl_r, hcl_jj]; done) | (simp only [hcl_r, hcl_jj]; rfl) | (rw [hcl_r, hcl_jj]; rfl) | (rw [hcl_r, hcl_jj, bagV]; simp [hcl9]; done) | (rw [hcl_r, hcl_jj, bagV]; simp [hop9]; done) | (rw [hcl_r, hcl_jj]; show _ = some (Value.int (S (9 + r))); first | (rw [hcl9]; rfl) | (rw [hop9]; rfl)), by simp [thC, hlo, hok1, hok2]⟩) hS (by omega) (by omega) dX1_bag_103
      · refine lv_tableIn (off := 42) (tgt := 49) hx hb dX1_bag_7 (by decide) (by decide) (by decide) (by decide) ?_
        refine lv_aload_n hx hb dX1_bag_49 rfl (lv_at hl 0 rfl) ?_
        refine va_getN (D := (dC, dI)) (ci := 1) (v := .ref (b 7)) (C := RX5) (T := TX5) (N := 10) hx hb hts in_X5 hown hK ((hO.at hS hz0 (fun _ _ h => h)) 0 _ rfl) 0 rfl rfl 4 (by decide) (va_Nw.use rfl (hCE.1 6 (by decide))) (fun _ h9 => h9) rfl dX1_bag_50 ?_
        refine lv_iload_n hx hb dX1_bag_53 rfl (lv_at hl 2 rfl) ?_
        refine u_iald hx hb hK ((hO.at hS hz0 (fun _ _ h => h)) 7 _ rfl) 0 0 rfl rfl (i := r) (by omega) (by decide) dX1_bag_54 ?_
        refine u_top (y := S (21 + r)) (by first | exact clip_at (by omega) | rfl) ?_
        refine lv_goto (tgt := 103) hx hb dX1_bag_55 (by decide) ?_
        exact hret _ _ _ _ _ _ _ (⟨by first | (simp only [hcl_r, hcl_jj]; done) | (simp only [hcl_r, hcl_jj]; rfl) | (rw [hcl_r, hcl_jj]; rfl) | (rw [hcl_r, hcl_jj, bagV]; simp [hcl9]; done) | (rw [hcl_r, hcl_jj, bagV]; simp [hop9]; done) | (rw [hcl_r, hcl_jj]; show _ = some (Value.int (S (9 + r))); first | (rw [hcl9]; rfl) | (rw [hop9]; rfl)), by simp [thC, hlo, hok1, hok2]⟩) hS (by omega) (by omega) dX1_bag_103
      · refine lv_tableIn (off := 51) (tgt := 58) hx hb dX1_bag_7 (by decide) (by decide) (by decide) (by decide) ?_
        refine lv_aload_n hx hb dX1_bag_58 rfl (lv_at hl 0 rfl) ?_
        refine va_getN (D := (dC, dI)) (ci := 1) (v := .ref (b 8)) (C := RX5) (T := TX5) (N := 10) hx hb hts in_X5 hown hK ((hO.at hS hz0 (fun _ _ h => h)) 0 _ rfl) 0 rfl rfl 5 (by decide) (va_Nw.use rfl (hCE.1 7 (by decide))) (fun _ h9 => h9) rfl dX1_bag_59 ?_
        refine lv_iload_n hx hb dX1_bag_62 rfl (lv_at hl 2 rfl) ?_
        refine u_iald hx hb hK ((hO.at hS hz0 (fun _ _ h => h)) 8 _ rfl) 0 0 rfl rfl (i := r) (by omega) (by decide) dX1_bag_63 ?_
        refine u_top (y := S (27 + r)) (by first | exact clip_at (by omega) | rfl) ?_
        refine lv_goto (tgt := 103) hx hb dX1_bag_64 (by decide) ?_
        exact hret _ _ _ _ _ _ _ (⟨by first | (simp only [hcl_r, hcl_jj]; done) | (simp only [hcl_r, hcl_jj]; rfl) | (rw [hcl_r, hcl_jj]; rfl) | (rw [hcl_r, hcl_jj, bagV]; simp [hcl9]; done) | (rw [hcl_r, hcl_jj, bagV]; simp [hop9]; done) | (rw [hcl_r, hcl_jj]; show _ = some (Value.int (S (9 + r))); first | (rw [hcl9]; rfl) | (rw [hop9]; rfl)), by simp [thC, hlo, hok1, hok2]⟩) hS (by omega) (by omega) dX1_bag_103
      · refine lv_tableIn (off := 60) (tgt := 67) hx hb dX1_bag_7 (by decide) (by decide) (by decide) (by decide) ?_
        refine lv_aload_n hx hb dX1_bag_67 rfl (lv_at hl 0 rfl) ?_
        refine va_getN (D := (dC, dI)) (ci := 1) (v := .ref (b 9)) (C := RX5) (T := TX5) (N := 10) hx hb hts in_X5 hown hK ((hO.at hS hz0 (fun _ _ h => h)) 0 _ rfl) 0 rfl rfl 6 (by decide) (va_Nw.use rfl (hCE.1 8 (by decide))) (fun _ h9 => h9) rfl dX1_bag_68 ?_
        refine lv_iload_n hx hb dX1_bag_71 rfl (lv_at hl 2 rfl) ?_
        refine g_zald hx hb hK ((hO.at hS hz0 (fun _ _ h => h)) 9 _ rfl) (i := r) (by omega) (by decide) dX1_bag_72 ?_
        refine u_top (y := if S (9 + r) = 0 then nI 1 else nI 0) (by first | exact clip_at (by omega) | rfl) ?_
        by_cases hcl9 : S (9 + r) = 0
        · refine u_top (y := nI 1) (if_pos hcl9) ?_
          have jn81 : ∀ v9 : Int32, v9 = nI ((decide (1 = 0)).toNat) → ∀ ls : Array Slot, lv_has ls 4 [(3, .ref (b 0)), (0, .ref (g 0)), (1, .int (nI r)), (2, .int (nI 3))] → W p l e R s m args below meth c H locs (0 + 2) (0 + 12) Q (F0 m 81 ls [.int v9]) := by
            intro v9 hv9 ls hl
            subst hv9
            refine u_run (x_rS (As := [.int (nI ((decide (1 = 0)).toNat))]) (X := fun _ _ => True) SF hK (d := 0) (rk.le (Nat.le_of_ble_eq_true rfl)) (c_X1_one l dC dI dA (decide (1 = 0)) ) (lw_S q1351 q1147 q112 q1148) (n := 1) (by decide +kernel) rfl (by decide) (XOK.hp) (trivial) hl.1 (Nat.le_of_ble_eq_true rfl) ⟨(by omega), (by omega)⟩ rfl dX1_bag_81) ?_
            refine u_top (y := nI ((decide (1 = 0)).toNat)) rfl ?_
            refine lv_goto (tgt := 103) hx hb dX1_bag_84 (by decide) ?_
            exact hret _ _ _ _ _ _ _ (⟨by first | (simp only [hcl_r, hcl_jj]; done) | (simp only [hcl_r, hcl_jj]; rfl) | (rw [hcl_r, hcl_jj]; rfl) | (rw [hcl_r, hcl_jj, bagV]; simp [hcl9]; done) | (rw [hcl_r, hcl_jj, bagV]; simp [hop9]; done) | (rw [hcl_r, hcl_jj]; show _ = some (Value.int (S (9 + r))); first | (rw [hcl9]; rfl) | (rw [hop9]; rfl)), by simp [thC, hlo, hok1, hok2]⟩) hS (by omega) (by omega) dX1_bag_103
          refine lv_if_ne (tgt := 80) hx hb dX1_bag_73 (by decide) (fun c_73 => ?_) (fun c_73 => ?_)
          · have c_73 : ¬ (1 = 0) := fun q9 => c_73 ((nI_eq (a := 1) (b := 0) (by omega) (by omega)).mpr q9)
            refine lv_iconst (v := nI 0) hx hb dX1_bag_80 (by decide) ?_
            exact jn81 _ (u_d0 c_73) ls (lv_sub hl [0, 1, 2, 3] rfl)
          · have c_73 : 1 = 0 := (nI_eq (a := 1) (b := 0) (by omega) (by omega)).mp c_73
            refine lv_iconst (v := nI 1) hx hb dX1_bag_76 (by decide) ?_
            refine lv_goto (tgt := 81) hx hb dX1_bag_77 (by decide) ?_
            exact jn81 _ (u_d1 c_73) ls (lv_sub hl [0, 1, 2, 3] rfl)
        · have hop9 := (hOP r (by omega)).resolve_left hcl9
          refine u_top (y := nI 0) (if_neg hcl9) ?_
          have jn81_2 : ∀ v9 : Int32, v9 = nI ((decide (0 = 0)).toNat) → ∀ ls : Array Slot, lv_has ls 4 [(3, .ref (b 0)), (0, .ref (g 0)), (1, .int (nI r)), (2, .int (nI 3))] → W p l e R s m args below meth c H locs (0 + 2) (0 + 12) Q (F0 m 81 ls [.int v9]) := by
            intro v9 hv9 ls hl
            subst hv9
            refine u_run (x_rS (As := [.int (nI ((decide (0 = 0)).toNat))]) (X := fun _ _ => True) SF hK (d := 0) (rk.le (Nat.le_of_ble_eq_true rfl)) (c_X1_one l dC dI dA (decide (0 = 0)) ) (lw_S q1351 q1147 q112 q1148) (n := 1) (by decide +kernel) rfl (by decide) (XOK.hp) (trivial) hl.1 (Nat.le_of_ble_eq_true rfl) ⟨(by omega), (by omega)⟩ rfl dX1_bag_81) ?_
            refine u_top (y := nI ((decide (0 = 0)).toNat)) rfl ?_
            refine lv_goto (tgt := 103) hx hb dX1_bag_84 (by decide) ?_
            exact hret _ _ _ _ _ _ _ (⟨by first | (simp only [hcl_r, hcl_jj]; done) | (simp only [hcl_r, hcl_jj]; rfl) | (rw [hcl_r, hcl_jj]; rfl) | (rw [hcl_r, hcl_jj, bagV]; simp [hcl9]; done) | (rw [hcl_r, hcl_jj, bagV]; simp [hop9]; done) | (rw [hcl_r, hcl_jj]; show _ = some (Value.int (S (9 + r))); first | (rw [hcl9]; rfl) | (rw [hop9]; rfl)), by simp [thC, hlo, hok1, hok2]⟩) hS (by omega) (by omega) dX1_bag_103
          refine lv_if_ne (tgt := 80) hx hb dX1_bag_73 (by decide) (fun c_73 => ?_) (fun c_73 => ?_)
          · have c_73 : ¬ (0 = 0) := fun q9 => c_73 ((nI_eq (a := 0) (b := 0) (by omega) (by omega)).mpr q9)
            refine lv_iconst (v := nI 0) hx hb dX1_bag_80 (by decide) ?_
            exact jn81_2 _ (u_d0 c_73) ls (lv_sub hl [0, 1, 2, 3] rfl)
          · have c_73 : 0 = 0 := (nI_eq (a := 0) (b := 0) (by omega) (by omega)).mp c_73
            refine lv_iconst (v := nI 1) hx hb dX1_bag_76 (by decide) ?_
            refine lv_goto (tgt := 81) hx hb dX1_bag_77 (by decide) ?_
            exact jn81_2 _ (u_d1 c_73) ls (lv_sub hl [0, 1, 2, 3] rfl)
      · refine lv_tableIn (off := 80) (tgt := 87) hx hb dX1_bag_7 (by decide) (by decide) (by decide) (by decide) ?_
        refine lv_aload_n hx hb dX1_bag_87 rfl (lv_at hl 1 rfl) ?_
        refine lv_iload_n hx hb dX1_bag_88 rfl (lv_at hl 2 rfl) ?_
        refine u_run (x_rV (C := RX1) (As := [.int (nI r)]) SF hK (d := 4) (rk.le (Nat.le_of_ble_eq_true rfl)) (c_X1_townsOn l dC dI dA g b mc S Hd n r (show r < 6 by omega) hT) (lw_V q1597 q1599 qs38 q112 q1600) (n := 1) (by decide +kernel) rfl (by decide) (g_recv hK (hP1.at hS hz0 (fun h => h)) (ci := 0) rfl) (XOK.hp.and (XOK.hp.and CE.ok)) (⟨hP1.at hS hz0 (fun h => h), hO.at hS hz0 (fun _ _ h => h), hCE⟩) hl.1 (Nat.le_of_ble_eq_true rfl) ⟨(by omega), (by omega)⟩ rfl dX1_bag_89) ?_
        refine u_top (y := nI (tnO Hd (nI r))) rfl ?_
        refine lv_goto (tgt := 103) hx hb dX1_bag_92 (by decide) ?_
        exact hret _ _ _ _ _ _ _ (⟨by first | (simp only [hcl_r, hcl_jj]; done) | (simp only [hcl_r, hcl_jj]; rfl) | (rw [hcl_r, hcl_jj]; rfl) | (rw [hcl_r, hcl_jj, bagV]; simp [hcl9]; done) | (rw [hcl_r, hcl_jj, bagV]; simp [hop9]; done) | (rw [hcl_r, hcl_jj]; show _ = some (Value.int (S (9 + r))); first | (rw [hcl9]; rfl) | (rw [hop9]; rfl)), by simp [thC, hlo, hok1, hok2]⟩) hS (by omega) (by omega) dX1_bag_103
    · refine lv_tableOut (tgt := 95) hx hb dX1_bag_7 (inZ_out hok2) (by decide) ?_
      exact g_jdk hx hb hfl hown hts (vx_words ag_IA an_IA hts (hEN.2.2.1 5 (by decide)) hEN.2.1.2.2) (by decide) q1283 q135 og_IA hEN hAz hz0 hS (hl.1.trans hml.symm) dX1_bag_95 dX1_bag_98 dX1_bag_99 dX1_bag_102 (fun x hx => (hE x hx).elim) (rk.le (Nat.le_of_ble_eq_true rfl)) (by decide) hRc hRs (by omega) (by omega) hQ (fun _ _ => thY (nm := nmA) (k := 3) (by simp [thC, hlo, hok1, hok2]) (by decide) rfl)
  · have hz := Nat.le_trans hz hz9
    obtain ⟨h9, rfl⟩ := hP9
    exact hthr _ _ _ _ _ _ _ _ _ _ (thX (L1 := [(lo (n 1), 1), (inZ x.toInt 0 5, 2)]) (L2 := [(inZ y.toInt 0 4, 3)]) (nm' := nmA) h9 rfl rfl) hS (by omega) (by omega) hce hcv hcl
end API4
