set_option maxRecDepth 100000
section API2
variable {p : Program} {l : Launch} {e : Env} {R : Room} {s : State} {m : MethodId} {args : Array Value} {below : List Frame} {meth : Method} {c : Code} {H : Heap} {locs : List Loc} {Q : State → Prop}
variable {cc : ByteArray} {pc nL : Nat} {ls : Array Slot} {rest : List Value} {dC : Nat → ClassId} {dI : Nat → Nat → Nat} {dA : Nat → ClassId} {a : Nat → Nat} {M : Nat → Nat → Int32} {H0 : Heap}

set_option maxHeartbeats 4000000 in
theorem c_X1_checkDigit (l : Launch) (dC : Nat → ClassId) (dI : Nat → Nat → Nat) (dA : Nat → ClassId) (g : Nat → Nat) (b : Nat → Nat) (mc : Nat → Int32) (S : Nat → Int32) (Hd : Nat → Int32) (n : Nat → Int32) (sz : Nat) (hs : Nat) (x : Int32) (hsz : sz ≤ hs) (hfl : l.stackTraces = false) : vx_Met l yX1_checkDigit (ws_ yX1_checkDigit cX1_checkDigit 3 (some (.int))) (rmD 7 (5) (30)) (gPx [.ref (g 0), .int x] (fun U H => AX dC dI dA g b mc S Hd n sz U H) hs dC dI dA) (gQ hs (fun _ => False) (fun v H => v = some (.int (nI (chk x.toNatClampNeg))) ∧ thC [(lo (n 1), 1), (inZ x.toInt 0 9999, 2)] = 0)) (gX hs (fun _ => False) (fun E q H => ¬ thC [(lo (n 1), 1), (inZ x.toInt 0 9999, 2)] = 0 ∧ E = nmB (thC [(lo (n 1), 1), (inZ x.toInt 0 9999, 2)]))) (5) (30) (gF (fun _ => False) hs) := by
  refine v_meti (own := RX1) (by decide) rfl (Nat.le_of_ble_eq_true rfl) fun p e R s m args below meth c Q SF rk hRR hX hK hin hE hret hthr hQ ls hl => ?_
  have hx := SF.1
  have hb := SF.2.1
  have hml := SF.2.2.1
  have hown := SF.2.2.2.1
  have hts := SF.2.2.2.2
  have hz0 := hX.2
  have hz : hs ≤ s.heap.size := Nat.le_of_eq hX.2.symm
  have hX := hX.1
  have hRc := hRR.1
  have hRs := hRR.2
  have gFs : ∀ q : Nat, s.heap.size ≤ q → gF (fun _ => False) hs q := fun q h => Or.inr (hz0 ▸ h)
  have hS : va_S (gF (fun _ => False) hs) s.heap s.heap [] := va_S.rf
  have hl : lv_has ls 3 [(0, .ref (g 0)), (1, .int x)] := hl
  have hEN := hX.2.2
  have hCE := hEN.1
  have hAz : ∀ q, gF (fun _ => False) hs q → sz ≤ q := fun q h => h.elim (fun e => e.elim) (fun h => Nat.le_trans hsz h)
  obtain ⟨nv, hP0⟩ := AX.ob hX
  refine lv_aload_n hx hb dX1_checkDigit_0 rfl (lv_at hl 0 rfl) ?_
  refine g_runX (v_rV (C := RX1) (As := []) SF hK (d := 6) (rk.le (Nat.le_of_ble_eq_true rfl)) (c_X1_office l dC dI dA g b mc S Hd n sz s.heap.size (show sz ≤ s.heap.size by omega) hfl) (lw_V q1312 q1314 qs25 q112 q1315) (n := 0) (by decide +kernel) rfl (by decide) (g_recv hK (hP0.at hS hz0 (fun h => h)) (ci := 0) rfl) (XOK.hs (XOK.hp.and (XOK.hp.and EN.ok))) (⟨AX.at hX hS hz0 hsz, rfl⟩) hl.1 (Nat.le_of_ble_eq_true rfl) ⟨(by omega), (by omega)⟩ rfl dX1_checkDigit_1) rfl hS (fun _ h => h.elim) gFs (fun v9 H locs hP9 hz9 oq hS => ?_) (fun E q9 ce H locs hP9 hz9 oq hS hce hcv hcl => ?_)
  · obtain ⟨rfl, hlo⟩ := hP9
    have hz := Nat.le_trans hz hz9
    refine W.eq (g2 := F0 m 4 ls [.ref (b 0)]) rfl ?_
    have hn1 := lo_n hlo
    obtain ⟨hP1, hO⟩ := hX.2.1 hn1
    refine lv_astore_n (lv' := [(2, .ref (b 0)), (0, .ref (g 0)), (1, .int x)]) hx hb dX1_checkDigit_4 rfl hl (by decide) rfl (fun ls hl => ?_)
    refine lv_iload_n hx hb dX1_checkDigit_5 rfl (lv_at hl 2 rfl) ?_
    refine lv_iconst (v := nI 0) hx hb dX1_checkDigit_6 (by decide) ?_
    refine lv_sipush (v := nI 9999) hx hb dX1_checkDigit_7 (by decide) ?_
    refine u_run (x_rS (As := [.int x, .int (nI 0), .int (nI 9999)]) SF hK (d := 0) (rk.le (Nat.le_of_ble_eq_true rfl)) (c_X1_in l dC dI dA x.toInt 0 9999 x (nI 0) (nI 9999) rfl (by decide) (by first | exact rfl | decide | exact pk_sub_toInt (by omega) (by decide))) (lw_S q371 q372 q112 q373) (n := 3) (by decide +kernel) rfl (by decide) (XOK.hp) (trivial) hl.1 (Nat.le_of_ble_eq_true rfl) ⟨(by omega), (by omega)⟩ rfl dX1_checkDigit_10) ?_
    refine u_top (y := nI ((inZ x.toInt 0 9999).toNat)) rfl ?_
    refine g_runX (v_rS (As := [.int (nI ((inZ x.toInt 0 9999).toNat))]) SF hK (d := 6) (rk.le (Nat.le_of_ble_eq_true rfl)) (c_X1_checkRange l dC dI dA sz H.size (inZ x.toInt 0 9999) (show sz ≤ H.size by omega) hfl) (lw_S q1405 q1406 q112 q1407) (n := 1) (by decide +kernel) rfl (by decide) (XOK.hs (EN.ok)) (⟨hEN.at hS hAz, rfl⟩) hl.1 (Nat.le_of_ble_eq_true rfl) ⟨(by omega), (by omega)⟩ rfl dX1_checkDigit_13) rfl hS (fun _ h => h.elim) gFs (fun v9 H locs hP9 hz9 oq hS => ?_) (fun E q9 ce H locs hP9 hz9 oq hS hce hcv hcl => ?_)
    · obtain ⟨rfl, hz1⟩ := hP9
      have hz := Nat.le_trans hz hz9
      refine W.eq (g2 := F0 m 16 ls []) rfl ?_
      have hok1 := hz1
      obtain ⟨v, ht_v, htb_v, rfl⟩ := inZ_n hok1
      have hcl_v : (nI v).toNatClampNeg = v := nI_clamp htb_v
      refine lv_iload_n hx hb dX1_checkDigit_16 rfl (lv_at hl 2 rfl) ?_
      refine u_run (x_rS (As := [.int (nI v)]) (X := fun _ _ => True) SF hK (d := 1) (rk.le (Nat.le_of_ble_eq_true rfl)) (c_X1_check l dC dI dA v (show v < 10000 by omega)) (lw_S q1408 q977 q112 q978) (n := 1) (by decide +kernel) rfl (by decide) (XOK.hp) (trivial) hl.1 (Nat.le_of_ble_eq_true rfl) ⟨(by omega), (by omega)⟩ rfl dX1_checkDigit_17) ?_
      refine u_top (y := nI (chk v)) rfl ?_
      exact hret _ _ _ _ _ _ _ (⟨by simp only [hcl_v], by simp [thC, hlo, hok1]⟩) hS (by omega) (by omega) dX1_checkDigit_20
    · have hz := Nat.le_trans hz hz9
      obtain ⟨h9, rfl⟩ := hP9
      exact hthr _ _ _ _ _ _ _ _ _ _ (thY (nm := nmB) (k := 2) (by simp [thC, hlo, h9]) (by decide) rfl) hS (by omega) (by omega) hce hcv hcl
  · have hz := Nat.le_trans hz hz9
    obtain ⟨h9, rfl⟩ := hP9
    exact hthr _ _ _ _ _ _ _ _ _ _ (thX (L1 := [(lo (n 1), 1)]) (L2 := [(inZ x.toInt 0 9999, 2)]) (nm' := nmB) h9 rfl (by first | rfl | (rw [thC_n1 h9]; try rfl))) hS (by omega) (by omega) hce hcv hcl

set_option maxHeartbeats 4000000 in
theorem c_X1_apart_2 (l : Launch) (dC : Nat → ClassId) (dI : Nat → Nat → Nat) (dA : Nat → ClassId) (b : Nat → Nat) (mc : Nat → Int32) (S : Nat → Int32) (Hd : Nat → Int32) (t : Nat) (u : Nat) (ht : t < tn Hd) (hu : u < tn Hd) (hT : TWf Hd) : Met l yX1_apart_2 (ws_ yX1_apart_2 cX1_apart_2 4 (some (.int))) (rmD 3 0 0) (uPx [.ref (b (10 + t)), .ref (b (10 + u))] (fun U H => famP dC dI b (offE b dA mc S Hd) H ∧ CE U) dC dI dA) (uQi (nI (apr Hd t u))) 0 0 noF := by
  refine x_meti (own := RX1) (by decide) rfl (Nat.le_of_ble_eq_true rfl) fun p e R s m args below meth c Q SF rk hX hK hret ls hl => ?_
  have hx := SF.1
  have hb := SF.2.1
  have hml := SF.2.2.1
  have hown := SF.2.2.2.1
  have hts := SF.2.2.2.2
  have hO := hX.1
  have hCE := hX.2
  have hl : lv_has ls 4 [(0, .ref (b (10 + t))), (1, .ref (b (10 + u)))] := hl
  have hn9 := hT.2.1
  have hdl := dg_lt (cd (num Hd t))
  have hdu := dg_lt (cd (num Hd u))
  refine lv_iconst (v := nI 0) hx hb dX1_apart_2_0 (by decide) ?_
  refine lv_istore_n (lv' := [(2, .int (nI 0)), (0, .ref (b (10 + t))), (1, .ref (b (10 + u)))]) hx hb dX1_apart_2_1 rfl hl (by decide) rfl (fun ls hl => ?_)
  refine lv_iconst (v := nI 0) hx hb dX1_apart_2_2 (by decide) ?_
  refine lv_istore_n (lv' := [(3, .int (nI 0)), (2, .int (nI 0)), (0, .ref (b (10 + t))), (1, .ref (b (10 + u)))]) hx hb dX1_apart_2_3 rfl hl (by decide) rfl (fun ls hl => ?_)
  have lp4 : ∀ (k0 : Nat) (k : Nat), k ≤ 5 → 5 < k + k0 → ∀ ls : Array Slot, lv_has ls 4 [(3, .int (nI k)), (2, .int (nI (sumN (fun p => cst (nI (dg (cd (num Hd t)) p)) (dg (cd (num Hd u)) p)) k))), (0, .ref (b (10 + t))), (1, .ref (b (10 + u)))] → W p l e R s m args below meth c s.heap [] 0 0 Q (F0 m 4 ls []) := by
    intro k0
    induction k0 with
    | zero =>
      intro k hk1 hk2; omega
    | succ k0 ih =>
      intro k hk1 hk2 ls hl
      have ih4 := ih
      have hsm := sumN_le (f := fun p => cst (nI (dg (cd (num Hd t)) p)) (dg (cd (num Hd u)) p)) (b := 2) k (fun i _ => cst_le _ _)
      refine lv_iload_n hx hb dX1_apart_2_4 rfl (lv_at hl 0 rfl) ?_
      refine lv_iconst (v := nI 5) hx hb dX1_apart_2_5 (by decide) ?_
      refine lv_icmp_ge (tgt := 31) hx hb dX1_apart_2_6 (by decide) (fun c_6 => ?_) (fun c_6 => ?_)
      · have c_6 : 5 ≤ k := (nI_leI (a := 5) (b := k) (by omega) (by omega)).mp c_6
        refine lv_iload_n hx hb dX1_apart_2_31 rfl (lv_at hl 1 rfl) ?_
        exact hret _ _ _ (by rw [show k = 5 by omega]; rfl) dX1_apart_2_32
      · have c_6 : ¬ (5 ≤ k) := fun q9 => c_6 ((nI_leI (a := 5) (b := k) (by omega) (by omega)).mpr q9)
        refine lv_iload_n hx hb dX1_apart_2_9 rfl (lv_at hl 1 rfl) ?_
        refine lv_aload_n hx hb dX1_apart_2_10 rfl (lv_at hl 2 rfl) ?_
        refine lv_iload_n hx hb dX1_apart_2_11 rfl (lv_at hl 0 rfl) ?_
        refine u_run (x_rV (C := RX6) (As := [.int (nI k)]) SF hK (d := 1) (rk.le (Nat.le_of_ble_eq_true rfl)) (c_X6_digit l dC dI dA b mc S Hd t k (show k < 5 by omega) (show t < tn Hd by omega) hT) (lw_V q1397 q1166 q1167 q143 q1168) (n := 1) (by decide +kernel) rfl (by decide) (g_recv hK (hO _ _ (offE_tw (show t < tn Hd from (by omega)) hT.2.1)) (ci := 4) rfl) (XOK.hp.and CE.ok) (⟨hO, hCE⟩) hl.1 (Nat.le_of_ble_eq_true rfl) ⟨Nat.zero_le _, Nat.zero_le _⟩ rfl dX1_apart_2_12) ?_
        refine u_top (y := nI (dg (cd (num Hd t)) k)) rfl ?_
        refine lv_aload_n hx hb dX1_apart_2_15 rfl (lv_at hl 3 rfl) ?_
        have h9 := hdl k
        have h8 := hdu k
        refine lv_iload_n hx hb dX1_apart_2_16 rfl (lv_at hl 0 rfl) ?_
        refine u_run (x_rV (C := RX6) (As := [.int (nI k)]) SF hK (d := 1) (rk.le (Nat.le_of_ble_eq_true rfl)) (c_X6_digit l dC dI dA b mc S Hd u k (show k < 5 by omega) (show u < tn Hd by omega) hT) (lw_V q1397 q1166 q1167 q143 q1168) (n := 1) (by decide +kernel) rfl (by decide) (g_recv hK (hO _ _ (offE_tw (show u < tn Hd from (by omega)) hT.2.1)) (ci := 4) rfl) (XOK.hp.and CE.ok) (⟨hO, hCE⟩) hl.1 (Nat.le_of_ble_eq_true rfl) ⟨Nat.zero_le _, Nat.zero_le _⟩ rfl dX1_apart_2_17) ?_
        refine u_top (y := nI (dg (cd (num Hd u)) k)) rfl ?_
        refine u_run (x_rS (As := [.int (nI (dg (cd (num Hd t)) k)), .int (nI (dg (cd (num Hd u)) k))]) SF hK (d := 2) (rk.le (Nat.le_of_ble_eq_true rfl)) (c_X1_cost l dC dI dA (nI (dg (cd (num Hd t)) k)) (dg (cd (num Hd u)) k) (Or.inr ⟨_, hdl k, rfl⟩) (hdu k)) (lw_S q1419 q1171 q112 q1172) (n := 2) (by decide +kernel) rfl (by decide) (XOK.hp) (trivial) hl.1 (Nat.le_of_ble_eq_true rfl) ⟨Nat.zero_le _, Nat.zero_le _⟩ rfl dX1_apart_2_20) ?_
        refine u_top (y := nI (cst (nI (dg (cd (num Hd t)) k)) (dg (cd (num Hd u)) k))) rfl ?_
        refine lv_iadd hx hb dX1_apart_2_23 ?_
        refine u_top (nI_add _ _) ?_
        refine lv_istore_n (lv' := [(2, .int (nI (sumN (fun p => cst (nI (dg (cd (num Hd t)) p)) (dg (cd (num Hd u)) p)) k + (cst (nI (dg (cd (num Hd t)) k)) (dg (cd (num Hd u)) k))))), (3, .int (nI k)), (0, .ref (b (10 + t))), (1, .ref (b (10 + u)))]) hx hb dX1_apart_2_24 rfl hl (by decide) rfl (fun ls hl => ?_)
        refine lv_iinc (v := nI (k + 1)) (lv' := [(3, .int (nI (k + 1))), (2, .int (nI (sumN (fun p => cst (nI (dg (cd (num Hd t)) p)) (dg (cd (num Hd u)) p)) k + (cst (nI (dg (cd (num Hd t)) k)) (dg (cd (num Hd u)) k))))), (0, .ref (b (10 + t))), (1, .ref (b (10 + u)))]) hx hb dX1_apart_2_25 hl (k := 1) rfl (nI_add _ 1) (by decide) rfl (fun ls hl => ?_)
        refine lv_goto (tgt := 4) hx hb dX1_apart_2_28 (by decide) ?_
        exact ih4 (k + 1) (by omega) (by omega) ls (lv_sub hl [0, 1, 2, 3] rfl)
  exact lp4 (5 + 1) 0 (by omega) (by omega) ls (lv_sub hl [0, 1, 2, 3] rfl)

set_option maxHeartbeats 4000000 in
theorem c_X1_apart (l : Launch) (dC : Nat → ClassId) (dI : Nat → Nat → Nat) (dA : Nat → ClassId) (g : Nat → Nat) (b : Nat → Nat) (mc : Nat → Int32) (S : Nat → Int32) (Hd : Nat → Int32) (n : Nat → Int32) (sz : Nat) (hs : Nat) (x : Int32) (y : Int32) (hT : TWf Hd) (hsz : sz ≤ hs) (hfl : l.stackTraces = false) : vx_Met l yX1_apart (ws_ yX1_apart cX1_apart 4 (some (.int))) (rmD 8 (5) (30)) (gPx [.ref (g 0), .int x, .int y] (fun U H => AX dC dI dA g b mc S Hd n sz U H) hs dC dI dA) (gQ hs (fun _ => False) (fun v H => v = some (.int (nI (apr Hd x.toNatClampNeg y.toNatClampNeg))) ∧ thC [(lo (n 1), 1), (inZ x.toInt 0 ((tn Hd : Int) - 1), 2), (inZ y.toInt 0 ((tn Hd : Int) - 1), 2)] = 0)) (gX hs (fun _ => False) (fun E q H => ¬ thC [(lo (n 1), 1), (inZ x.toInt 0 ((tn Hd : Int) - 1), 2), (inZ y.toInt 0 ((tn Hd : Int) - 1), 2)] = 0 ∧ E = nmA (thC [(lo (n 1), 1), (inZ x.toInt 0 ((tn Hd : Int) - 1), 2), (inZ y.toInt 0 ((tn Hd : Int) - 1), 2)]))) (5) (30) (gF (fun _ => False) hs) := by
  refine v_meti (own := RX1) (by decide) rfl (Nat.le_of_ble_eq_true rfl) fun p e R s m args below meth c Q SF rk hRR hX hK hin hE hret hthr hQ ls hl => ?_
  have hx := SF.1
  have hb := SF.2.1
  have hml := SF.2.2.1
  have hown := SF.2.2.2.1
  have hts := SF.2.2.2.2
  have hz0 := hX.2
  have hz : hs ≤ s.heap.size := Nat.le_of_eq hX.2.symm
  have hX := hX.1
  have hRc := hRR.1
  have hRs := hRR.2
  have gFs : ∀ q : Nat, s.heap.size ≤ q → gF (fun _ => False) hs q := fun q h => Or.inr (hz0 ▸ h)
  have hS : va_S (gF (fun _ => False) hs) s.heap s.heap [] := va_S.rf
  have hl : lv_has ls 4 [(0, .ref (g 0)), (1, .int x), (2, .int y)] := hl
  have hEN := hX.2.2
  have hCE := hEN.1
  have hAz : ∀ q, gF (fun _ => False) hs q → sz ≤ q := fun q h => h.elim (fun e => e.elim) (fun h => Nat.le_trans hsz h)
  obtain ⟨nv, hP0⟩ := AX.ob hX
  have hn9 := hT.2.1
  refine lv_aload_n hx hb dX1_apart_0 rfl (lv_at hl 0 rfl) ?_
  refine lv_iload_n hx hb dX1_apart_1 rfl (lv_at hl 1 rfl) ?_
  refine g_runX (v_rV (C := RX1) (As := [.int x]) SF hK (d := 7) (rk.le (Nat.le_of_ble_eq_true rfl)) (c_X1_withTown l dC dI dA g b mc S Hd n sz s.heap.size x hT (show sz ≤ s.heap.size by omega) hfl) (lw_V q1371 q1373 qs29 q112 q1374) (n := 1) (by decide +kernel) rfl (by decide) (g_recv hK (hP0.at hS hz0 (fun h => h)) (ci := 0) rfl) (XOK.hs (XOK.hp.and (XOK.hp.and EN.ok))) (⟨AX.at hX hS hz0 hsz, rfl⟩) hl.1 (Nat.le_of_ble_eq_true rfl) ⟨(by omega), (by omega)⟩ rfl dX1_apart_2) rfl hS (fun _ h => h.elim) gFs (fun v9 H locs hP9 hz9 oq hS => ?_) (fun E q9 ce H locs hP9 hz9 oq hS hce hcv hcl => ?_)
  · obtain ⟨rfl, hlo, hok1⟩ := hP9
    have hz := Nat.le_trans hz hz9
    refine W.eq (g2 := F0 m 5 ls [.ref (b 0)]) rfl ?_
    have hn1 := lo_n hlo
    obtain ⟨hP1, hO⟩ := hX.2.1 hn1
    obtain ⟨t, ht_t, htb_t, rfl⟩ := inZ_n hok1
    have hcl_t : (nI t).toNatClampNeg = t := nI_clamp htb_t
    refine lv_astore_n (lv' := [(3, .ref (b 0)), (0, .ref (g 0)), (1, .int (nI t)), (2, .int y)]) hx hb dX1_apart_5 rfl hl (by decide) rfl (fun ls hl => ?_)
    refine lv_iload_n hx hb dX1_apart_6 rfl (lv_at hl 3 rfl) ?_
    refine lv_iconst (v := nI 0) hx hb dX1_apart_7 (by decide) ?_
    refine lv_aload_n hx hb dX1_apart_8 rfl (lv_at hl 0 rfl) ?_
    refine va_getN (D := (dC, dI)) (ci := 1) (v := .ref (b 1)) (C := RX5) (T := TX5) (N := 10) hx hb hts in_X5 hown hK ((hO.at hS hz0 (fun _ _ h => h)) 0 _ rfl) 0 rfl rfl 0 (by decide) (va_Nw.use rfl (hCE.1 2 (by decide))) (fun _ h9 => h9) rfl dX1_apart_9 ?_
    refine x_run5 (x_rF (C := RJ20) (As := []) (hK.1 6 _ rfl).2 SF hK (d := 0) (rk.le (Nat.le_of_ble_eq_true rfl)) (c_J20_size l dC dI dA (b 1) (b 2) (tn Hd) (mc 0) 12 (fun t => if t < tn Hd then some (b (10 + t)) else none) ) (lw_F q1303 q954 q956 q141 q958) (hCE.2.2 7 (by decide)) (n := 0) (by decide +kernel) rfl (by decide) (g_recv hK ((hO.at hS hz0 (fun _ _ h => h)) 1 _ rfl) (ci := 6) rfl) (XOK.hp) (⟨(hO.at hS hz0 (fun _ _ h => h)) 1 _ rfl, (hO.at hS hz0 (fun _ _ h => h)) 2 _ rfl⟩) hl.1 (Nat.le_of_ble_eq_true rfl) ⟨(by omega), (by omega)⟩ rfl dX1_apart_12) ?_
    refine u_top (y := nI (tn Hd)) rfl ?_
    refine lv_iconst (v := nI 1) hx hb dX1_apart_17 (by decide) ?_
    refine lv_isub hx hb dX1_apart_18 ?_
    refine u_run (x_rS (As := [.int y, .int (nI 0), .int ((nI (tn Hd)) - (nI 1))]) SF hK (d := 0) (rk.le (Nat.le_of_ble_eq_true rfl)) (c_X1_in l dC dI dA y.toInt 0 ((tn Hd : Int) - 1) y (nI 0) ((nI (tn Hd)) - (nI 1)) rfl (by decide) (by first | exact rfl | decide | exact pk_sub_toInt (by omega) (by decide))) (lw_S q371 q372 q112 q373) (n := 3) (by decide +kernel) rfl (by decide) (XOK.hp) (trivial) hl.1 (Nat.le_of_ble_eq_true rfl) ⟨(by omega), (by omega)⟩ rfl dX1_apart_19) ?_
    refine u_top (y := nI ((inZ y.toInt 0 ((tn Hd : Int) - 1)).toNat)) rfl ?_
    refine g_runX (v_rS (As := [.int (nI ((inZ y.toInt 0 ((tn Hd : Int) - 1)).toNat))]) SF hK (d := 6) (rk.le (Nat.le_of_ble_eq_true rfl)) (c_X1_checkIndex l dC dI dA sz H.size (inZ y.toInt 0 ((tn Hd : Int) - 1)) (show sz ≤ H.size by omega) hfl) (lw_S q374 q375 q112 q376) (n := 1) (by decide +kernel) rfl (by decide) (XOK.hs (EN.ok)) (⟨hEN.at hS hAz, rfl⟩) hl.1 (Nat.le_of_ble_eq_true rfl) ⟨(by omega), (by omega)⟩ rfl dX1_apart_22) rfl hS (fun _ h => h.elim) gFs (fun v9 H locs hP9 hz9 oq hS => ?_) (fun E q9 ce H locs hP9 hz9 oq hS hce hcv hcl => ?_)
    · obtain ⟨rfl, hz1⟩ := hP9
      have hz := Nat.le_trans hz hz9
      refine W.eq (g2 := F0 m 25 ls []) rfl ?_
      have hok2 := hz1
      obtain ⟨u, ht_u, htb_u, rfl⟩ := inZ_n hok2
      have hcl_u : (nI u).toNatClampNeg = u := nI_clamp htb_u
      refine lv_aload_n hx hb dX1_apart_25 rfl (lv_at hl 0 rfl) ?_
      refine lv_iload_n hx hb dX1_apart_26 rfl (lv_at hl 2 rfl) ?_
      refine x_runa (x_rV (C := RX5) (As := [.int (nI t)]) SF hK (d := 3) (rk.le (Nat.le_of_ble_eq_true rfl)) (c_X5_town l dC dI dA b mc S Hd t (show t < tn Hd by omega) hT) (lw_V q1375 q966 q967 q139 q968) (n := 1) (by decide +kernel) rfl (by decide) (g_recv hK ((hO.at hS hz0 (fun _ _ h => h)) 0 _ rfl) (ci := 1) rfl) (XOK.hp.and CE.ok) (⟨(hO.at hS hz0 (fun _ _ h => h)), hCE⟩) hl.1 (Nat.le_of_ble_eq_true rfl) ⟨(by omega), (by omega)⟩ rfl dX1_apart_27) ?_
      refine g_top (y := .ref (b (10 + t))) rfl ?_
      refine lv_aload_n hx hb dX1_apart_30 rfl (lv_at hl 0 rfl) ?_
      refine lv_iload_n hx hb dX1_apart_31 rfl (lv_at hl 3 rfl) ?_
      refine x_runa (x_rV (C := RX5) (As := [.int (nI u)]) SF hK (d := 3) (rk.le (Nat.le_of_ble_eq_true rfl)) (c_X5_town l dC dI dA b mc S Hd u (show u < tn Hd by omega) hT) (lw_V q1375 q966 q967 q139 q968) (n := 1) (by decide +kernel) rfl (by decide) (g_recv hK ((hO.at hS hz0 (fun _ _ h => h)) 0 _ rfl) (ci := 1) rfl) (XOK.hp.and CE.ok) (⟨(hO.at hS hz0 (fun _ _ h => h)), hCE⟩) hl.1 (Nat.le_of_ble_eq_true rfl) ⟨(by omega), (by omega)⟩ rfl dX1_apart_32) ?_
      refine g_top (y := .ref (b (10 + u))) rfl ?_
      refine u_run (x_rS (As := [.ref (b (10 + t)), .ref (b (10 + u))]) SF hK (d := 3) (rk.le (Nat.le_of_ble_eq_true rfl)) (c_X1_apart_2 l dC dI dA b mc S Hd t u (show t < tn Hd by omega) (show u < tn Hd by omega) hT) (lw_S q1416 q1417 q112 q1418) (n := 2) (by decide +kernel) rfl (by decide) (XOK.hp.and CE.ok) (⟨(hO.at hS hz0 (fun _ _ h => h)), hCE⟩) hl.1 (Nat.le_of_ble_eq_true rfl) ⟨(by omega), (by omega)⟩ rfl dX1_apart_35) ?_
      refine u_top (y := nI (apr Hd t u)) rfl ?_
      exact hret _ _ _ _ _ _ _ (⟨by simp only [hcl_t, hcl_u], by simp [thC, hlo, hok1, hok2]⟩) hS (by omega) (by omega) dX1_apart_38
    · have hz := Nat.le_trans hz hz9
      obtain ⟨h9, rfl⟩ := hP9
      exact hthr _ _ _ _ _ _ _ _ _ _ (thY (nm := nmA) (k := 2) (by simp [thC, hlo, hok1, h9]) (by decide) rfl) hS (by omega) (by omega) hce hcv hcl
  · have hz := Nat.le_trans hz hz9
    obtain ⟨h9, rfl⟩ := hP9
    exact hthr _ _ _ _ _ _ _ _ _ _ (thX (L1 := [(lo (n 1), 1), (inZ x.toInt 0 ((tn Hd : Int) - 1), 2)]) (L2 := [(inZ y.toInt 0 ((tn Hd : Int) - 1), 2)]) (nm' := nmA) h9 rfl rfl) hS (by omega) (by omega) hce hcv hcl

set_option maxHeartbeats 4000000 in
theorem c_X1_read (l : Launch) (dC : Nat → ClassId) (dI : Nat → Nat → Nat) (dA : Nat → ClassId) (g : Nat → Nat) (b : Nat → Nat) (mc : Nat → Int32) (S : Nat → Int32) (Hd : Nat → Int32) (n : Nat → Int32) (sz : Nat) (hs : Nat) (x : Int32) (y : Int32) (hS1 : SWf S) (hsz : sz ≤ hs) (hfl : l.stackTraces = false) : vx_Met l yX1_read (ws_ yX1_read cX1_read 3 (some (.int))) (rmD 9 (5) (30)) (gPx [.ref (g 0), .int x, .int y] (fun U H => AX dC dI dA g b mc S Hd n sz U H) hs dC dI dA) (gQ hs (fun _ => False) (fun v H => v = some (.int (lr S x.toNatClampNeg y.toNatClampNeg)) ∧ thC [(lo (n 1), 1), (inZ x.toInt 0 ((ln S : Int) - 1), 2), (inZ y.toInt 0 4, 2)] = 0)) (gX hs (fun _ => False) (fun E q H => ¬ thC [(lo (n 1), 1), (inZ x.toInt 0 ((ln S : Int) - 1), 2), (inZ y.toInt 0 4, 2)] = 0 ∧ E = nmA (thC [(lo (n 1), 1), (inZ x.toInt 0 ((ln S : Int) - 1), 2), (inZ y.toInt 0 4, 2)]))) (5) (30) (gF (fun _ => False) hs) := by
  refine v_meti (own := RX1) (by decide) rfl (Nat.le_of_ble_eq_true rfl) fun p e R s m args below meth c Q SF rk hRR hX hK hin hE hret hthr hQ ls hl => ?_
  have hx := SF.1
  have hb := SF.2.1
  have hml := SF.2.2.1
  have hown := SF.2.2.2.1
  have hts := SF.2.2.2.2
  have hz0 := hX.2
  have hz : hs ≤ s.heap.size := Nat.le_of_eq hX.2.symm
  have hX := hX.1
  have hRc := hRR.1
  have hRs := hRR.2
  have gFs : ∀ q : Nat, s.heap.size ≤ q → gF (fun _ => False) hs q := fun q h => Or.inr (hz0 ▸ h)
  have hS : va_S (gF (fun _ => False) hs) s.heap s.heap [] := va_S.rf
  have hl : lv_has ls 3 [(0, .ref (g 0)), (1, .int x), (2, .int y)] := hl
  have hEN := hX.2.2
  have hCE := hEN.1
  have hAz : ∀ q, gF (fun _ => False) hs q → sz ≤ q := fun q h => h.elim (fun e => e.elim) (fun h => Nat.le_trans hsz h)
  obtain ⟨nv, hP0⟩ := AX.ob hX
  have hL := hS1.2.1
  refine lv_aload_n hx hb dX1_read_0 rfl (lv_at hl 0 rfl) ?_
  refine lv_iload_n hx hb dX1_read_1 rfl (lv_at hl 1 rfl) ?_
  refine lv_iload_n hx hb dX1_read_2 rfl (lv_at hl 2 rfl) ?_
  refine g_runX (v_rV (C := RX1) (As := [.int x, .int y]) SF hK (d := 8) (rk.le (Nat.le_of_ble_eq_true rfl)) (c_X1_withPlace l dC dI dA g b mc S Hd n sz s.heap.size x y hS1 (show sz ≤ s.heap.size by omega) hfl) (lw_V q1451 q1453 qs32 q112 q1454) (n := 2) (by decide +kernel) rfl (by decide) (g_recv hK (hP0.at hS hz0 (fun h => h)) (ci := 0) rfl) (XOK.hs (XOK.hp.and (XOK.hp.and EN.ok))) (⟨AX.at hX hS hz0 hsz, rfl⟩) hl.1 (Nat.le_of_ble_eq_true rfl) ⟨(by omega), (by omega)⟩ rfl dX1_read_3) rfl hS (fun _ h => h.elim) gFs (fun v9 H locs hP9 hz9 oq hS => ?_) (fun E q9 ce H locs hP9 hz9 oq hS hce hcv hcl => ?_)
  · obtain ⟨rfl, hlo, hok1, hok2⟩ := hP9
    have hz := Nat.le_trans hz hz9
    refine W.eq (g2 := F0 m 6 ls [.ref (b 0)]) rfl ?_
    have hn1 := lo_n hlo
    obtain ⟨hP1, hO⟩ := hX.2.1 hn1
    obtain ⟨lt, ht_lt, htb_lt, rfl⟩ := inZ_n hok1
    have hcl_lt : (nI lt).toNatClampNeg = lt := nI_clamp htb_lt
    obtain ⟨q, ht_q, htb_q, rfl⟩ := inZ_n hok2
    have hcl_q : (nI q).toNatClampNeg = q := nI_clamp htb_q
    refine lv_iload_n hx hb dX1_read_6 rfl (lv_at hl 1 rfl) ?_
    refine x_runa (x_rV (C := RX5) (As := [.int (nI lt)]) SF hK (d := 3) (rk.le (Nat.le_of_ble_eq_true rfl)) (c_X5_letter l dC dI dA b mc S Hd lt (show lt < ln S by omega) hS1) (lw_V q187 q188 q189 q139 q190) (n := 1) (by decide +kernel) rfl (by decide) (g_recv hK ((hO.at hS hz0 (fun _ _ h => h)) 0 _ rfl) (ci := 1) rfl) (XOK.hp.and CE.ok) (⟨(hO.at hS hz0 (fun _ _ h => h)), hCE⟩) hl.1 (Nat.le_of_ble_eq_true rfl) ⟨(by omega), (by omega)⟩ rfl dX1_read_7) ?_
    refine g_top (y := .ref (b (22 + lt))) rfl ?_
    refine va_getN (D := (dC, dI)) (ci := 3) (v := .ref (b (46 + lt))) (C := RX7) (T := TX7) (N := 6) hx hb hts in_X7 hown hK ((hO.at hS hz0 (fun _ _ h => h)) _ _ (offE_lt (show lt < ln S from (by omega)) hS1.2.1)) 0 rfl rfl 0 (by decide) (va_Nw.use rfl (hCE.1 12 (by decide))) (fun _ h9 => h9) rfl dX1_read_10 ?_
    refine lv_iload_n hx hb dX1_read_13 rfl (lv_at hl 2 rfl) ?_
    refine u_iald hx hb hK ((hO.at hS hz0 (fun _ _ h => h)) _ _ (offE_rd (show lt < ln S from (by omega)) hS1.2.1)) 0 0 rfl rfl (i := q) (by omega) (by decide) dX1_read_14 ?_
    refine u_top (y := lr S lt q) (by first | exact clip_at (by omega) | rfl) ?_
    exact hret _ _ _ _ _ _ _ (⟨by simp only [hcl_lt, hcl_q], by simp [thC, hlo, hok1, hok2]⟩) hS (by omega) (by omega) dX1_read_15
  · have hz := Nat.le_trans hz hz9
    obtain ⟨h9, rfl⟩ := hP9
    exact hthr _ _ _ _ _ _ _ _ _ _ (thX (L1 := [(lo (n 1), 1), (inZ x.toInt 0 ((ln S : Int) - 1), 2), (inZ y.toInt 0 4, 2)]) (L2 := []) (nm' := nmA) h9 rfl rfl) hS (by omega) (by omega) hce hcv hcl

set_option maxHeartbeats 4000000 in
theorem c_X1_distance (l : Launch) (dC : Nat → ClassId) (dI : Nat → Nat → Nat) (dA : Nat → ClassId) (g : Nat → Nat) (b : Nat → Nat) (mc : Nat → Int32) (S : Nat → Int32) (Hd : Nat → Int32) (n : Nat → Int32) (sz : Nat) (hs : Nat) (x : Int32) (y : Int32) (hS1 : SWf S) (hT : TWf Hd) (hsz : sz ≤ hs) (hfl : l.stackTraces = false) : vx_Met l yX1_distance (ws_ yX1_distance cX1_distance 4 (some (.int))) (rmD 8 (5) (30)) (gPx [.ref (g 0), .int x, .int y] (fun U H => AX dC dI dA g b mc S Hd n sz U H) hs dC dI dA) (gQ hs (fun _ => False) (fun v H => v = some (.int (nI (farT S Hd x.toNatClampNeg y.toNatClampNeg))) ∧ thC [(lo (n 1), 1), (inZ x.toInt 0 ((ln S : Int) - 1), 2), (inZ y.toInt 0 ((tn Hd : Int) - 1), 2)] = 0)) (gX hs (fun _ => False) (fun E q H => ¬ thC [(lo (n 1), 1), (inZ x.toInt 0 ((ln S : Int) - 1), 2), (inZ y.toInt 0 ((tn Hd : Int) - 1), 2)] = 0 ∧ E = nmA (thC [(lo (n 1), 1), (inZ x.toInt 0 ((ln S : Int) - 1), 2), (inZ y.toInt 0 ((tn Hd : Int) - 1), 2)]))) (5) (30) (gF (fun _ => False) hs) := by
  refine v_meti (own := RX1) (by decide) rfl (Nat.le_of_ble_eq_true rfl) fun p e R s m args below meth c Q SF rk hRR hX hK hin hE hret hthr hQ ls hl => ?_
  have hx := SF.1
  have hb := SF.2.1
  have hml := SF.2.2.1
  have hown := SF.2.2.2.1
  have hts := SF.2.2.2.2
  have hz0 := hX.2
  have hz : hs ≤ s.heap.size := Nat.le_of_eq hX.2.symm
  have hX := hX.1
  have hRc := hRR.1
  have hRs := hRR.2
  have gFs : ∀ q : Nat, s.heap.size ≤ q → gF (fun _ => False) hs q := fun q h => Or.inr (hz0 ▸ h)
  have hS : va_S (gF (fun _ => False) hs) s.heap s.heap [] := va_S.rf
  have hl : lv_has ls 4 [(0, .ref (g 0)), (1, .int x), (2, .int y)] := hl
  have hEN := hX.2.2
  have hCE := hEN.1
  have hAz : ∀ q, gF (fun _ => False) hs q → sz ≤ q := fun q h => h.elim (fun e => e.elim) (fun h => Nat.le_trans hsz h)
  obtain ⟨nv, hP0⟩ := AX.ob hX
  have hL := hS1.2.1
  have hn9 := hT.2.1
  refine lv_aload_n hx hb dX1_distance_0 rfl (lv_at hl 0 rfl) ?_
  refine lv_iload_n hx hb dX1_distance_1 rfl (lv_at hl 1 rfl) ?_
  refine g_runX (v_rV (C := RX1) (As := [.int x]) SF hK (d := 7) (rk.le (Nat.le_of_ble_eq_true rfl)) (c_X1_withLetter l dC dI dA g b mc S Hd n sz s.heap.size x hS1 (show sz ≤ s.heap.size by omega) hfl) (lw_V q1434 q1436 qs30 q112 q1437) (n := 1) (by decide +kernel) rfl (by decide) (g_recv hK (hP0.at hS hz0 (fun h => h)) (ci := 0) rfl) (XOK.hs (XOK.hp.and (XOK.hp.and EN.ok))) (⟨AX.at hX hS hz0 hsz, rfl⟩) hl.1 (Nat.le_of_ble_eq_true rfl) ⟨(by omega), (by omega)⟩ rfl dX1_distance_2) rfl hS (fun _ h => h.elim) gFs (fun v9 H locs hP9 hz9 oq hS => ?_) (fun E q9 ce H locs hP9 hz9 oq hS hce hcv hcl => ?_)
  · obtain ⟨rfl, hlo, hok1⟩ := hP9
    have hz := Nat.le_trans hz hz9
    refine W.eq (g2 := F0 m 5 ls [.ref (b 0)]) rfl ?_
    have hn1 := lo_n hlo
    obtain ⟨hP1, hO⟩ := hX.2.1 hn1
    obtain ⟨lt, ht_lt, htb_lt, rfl⟩ := inZ_n hok1
    have hcl_lt : (nI lt).toNatClampNeg = lt := nI_clamp htb_lt
    refine lv_astore_n (lv' := [(3, .ref (b 0)), (0, .ref (g 0)), (1, .int (nI lt)), (2, .int y)]) hx hb dX1_distance_5 rfl hl (by decide) rfl (fun ls hl => ?_)
    refine lv_iload_n hx hb dX1_distance_6 rfl (lv_at hl 3 rfl) ?_
    refine lv_iconst (v := nI 0) hx hb dX1_distance_7 (by decide) ?_
    refine lv_aload_n hx hb dX1_distance_8 rfl (lv_at hl 0 rfl) ?_
    refine va_getN (D := (dC, dI)) (ci := 1) (v := .ref (b 1)) (C := RX5) (T := TX5) (N := 10) hx hb hts in_X5 hown hK ((hO.at hS hz0 (fun _ _ h => h)) 0 _ rfl) 0 rfl rfl 0 (by decide) (va_Nw.use rfl (hCE.1 2 (by decide))) (fun _ h9 => h9) rfl dX1_distance_9 ?_
    refine x_run5 (x_rF (C := RJ20) (As := []) (hK.1 6 _ rfl).2 SF hK (d := 0) (rk.le (Nat.le_of_ble_eq_true rfl)) (c_J20_size l dC dI dA (b 1) (b 2) (tn Hd) (mc 0) 12 (fun t => if t < tn Hd then some (b (10 + t)) else none) ) (lw_F q1303 q954 q956 q141 q958) (hCE.2.2 7 (by decide)) (n := 0) (by decide +kernel) rfl (by decide) (g_recv hK ((hO.at hS hz0 (fun _ _ h => h)) 1 _ rfl) (ci := 6) rfl) (XOK.hp) (⟨(hO.at hS hz0 (fun _ _ h => h)) 1 _ rfl, (hO.at hS hz0 (fun _ _ h => h)) 2 _ rfl⟩) hl.1 (Nat.le_of_ble_eq_true rfl) ⟨(by omega), (by omega)⟩ rfl dX1_distance_12) ?_
    refine u_top (y := nI (tn Hd)) rfl ?_
    refine lv_iconst (v := nI 1) hx hb dX1_distance_17 (by decide) ?_
    refine lv_isub hx hb dX1_distance_18 ?_
    refine u_run (x_rS (As := [.int y, .int (nI 0), .int ((nI (tn Hd)) - (nI 1))]) SF hK (d := 0) (rk.le (Nat.le_of_ble_eq_true rfl)) (c_X1_in l dC dI dA y.toInt 0 ((tn Hd : Int) - 1) y (nI 0) ((nI (tn Hd)) - (nI 1)) rfl (by decide) (by first | exact rfl | decide | exact pk_sub_toInt (by omega) (by decide))) (lw_S q371 q372 q112 q373) (n := 3) (by decide +kernel) rfl (by decide) (XOK.hp) (trivial) hl.1 (Nat.le_of_ble_eq_true rfl) ⟨(by omega), (by omega)⟩ rfl dX1_distance_19) ?_
    refine u_top (y := nI ((inZ y.toInt 0 ((tn Hd : Int) - 1)).toNat)) rfl ?_
    refine g_runX (v_rS (As := [.int (nI ((inZ y.toInt 0 ((tn Hd : Int) - 1)).toNat))]) SF hK (d := 6) (rk.le (Nat.le_of_ble_eq_true rfl)) (c_X1_checkIndex l dC dI dA sz H.size (inZ y.toInt 0 ((tn Hd : Int) - 1)) (show sz ≤ H.size by omega) hfl) (lw_S q374 q375 q112 q376) (n := 1) (by decide +kernel) rfl (by decide) (XOK.hs (EN.ok)) (⟨hEN.at hS hAz, rfl⟩) hl.1 (Nat.le_of_ble_eq_true rfl) ⟨(by omega), (by omega)⟩ rfl dX1_distance_22) rfl hS (fun _ h => h.elim) gFs (fun v9 H locs hP9 hz9 oq hS => ?_) (fun E q9 ce H locs hP9 hz9 oq hS hce hcv hcl => ?_)
    · obtain ⟨rfl, hz1⟩ := hP9
      have hz := Nat.le_trans hz hz9
      refine W.eq (g2 := F0 m 25 ls []) rfl ?_
      have hok2 := hz1
      obtain ⟨t, ht_t, htb_t, rfl⟩ := inZ_n hok2
      have hcl_t : (nI t).toNatClampNeg = t := nI_clamp htb_t
      refine lv_aload_n hx hb dX1_distance_25 rfl (lv_at hl 0 rfl) ?_
      refine lv_iload_n hx hb dX1_distance_26 rfl (lv_at hl 2 rfl) ?_
      refine lv_iload_n hx hb dX1_distance_27 rfl (lv_at hl 3 rfl) ?_
      refine u_run (x_rV (C := RX5) (As := [.int (nI lt), .int (nI t)]) SF hK (d := 4) (rk.le (Nat.le_of_ble_eq_true rfl)) (c_X5_distance l dC dI dA b mc S Hd lt t (show lt < ln S by omega) (show t < tn Hd by omega) hS1 hT) (lw_V q1388 q1158 q1159 q139 q1160) (n := 2) (by decide +kernel) rfl (by decide) (g_recv hK ((hO.at hS hz0 (fun _ _ h => h)) 0 _ rfl) (ci := 1) rfl) (XOK.hp.and CE.ok) (⟨(hO.at hS hz0 (fun _ _ h => h)), hCE⟩) hl.1 (Nat.le_of_ble_eq_true rfl) ⟨(by omega), (by omega)⟩ rfl dX1_distance_28) ?_
      refine u_top (y := nI (farT S Hd lt t)) rfl ?_
      exact hret _ _ _ _ _ _ _ (⟨by simp only [hcl_lt, hcl_t], by simp [thC, hlo, hok1, hok2]⟩) hS (by omega) (by omega) dX1_distance_31
    · have hz := Nat.le_trans hz hz9
      obtain ⟨h9, rfl⟩ := hP9
      exact hthr _ _ _ _ _ _ _ _ _ _ (thY (nm := nmA) (k := 2) (by simp [thC, hlo, hok1, h9]) (by decide) rfl) hS (by omega) (by omega) hce hcv hcl
  · have hz := Nat.le_trans hz hz9
    obtain ⟨h9, rfl⟩ := hP9
    exact hthr _ _ _ _ _ _ _ _ _ _ (thX (L1 := [(lo (n 1), 1), (inZ x.toInt 0 ((ln S : Int) - 1), 2)]) (L2 := [(inZ y.toInt 0 ((tn Hd : Int) - 1), 2)]) (nm' := nmA) h9 rfl rfl) hS (by omega) (by omega) hce hcv hcl

set_option maxHeartbeats 4000000 in
theorem c_X1_decided (l : Launch) (dC : Nat → ClassId) (dI : Nat → Nat → Nat) (dA : Nat → ClassId) (g : Nat → Nat) (b : Nat → Nat) (mc : Nat → Int32) (S : Nat → Int32) (Hd : Nat → Int32) (n : Nat → Int32) (sz : Nat) (hs : Nat) (x : Int32) (hS1 : SWf S) (hT : TWf Hd) (hsz : sz ≤ hs) (hfl : l.stackTraces = false) : vx_Met l yX1_decided (ws_ yX1_decided cX1_decided 2 (some (.int))) (rmD 11 (5) (30)) (gPx [.ref (g 0), .int x] (fun U H => AX dC dI dA g b mc S Hd n sz U H) hs dC dI dA) (gQ hs (fun _ => False) (fun v H => v = some (.int (oI (dcd S Hd x.toNatClampNeg))) ∧ thC [(lo (n 1), 1), (inZ x.toInt 0 ((ln S : Int) - 1), 2)] = 0)) (gX hs (fun _ => False) (fun E q H => ¬ thC [(lo (n 1), 1), (inZ x.toInt 0 ((ln S : Int) - 1), 2)] = 0 ∧ E = nmA (thC [(lo (n 1), 1), (inZ x.toInt 0 ((ln S : Int) - 1), 2)]))) (5) (30) (gF (fun _ => False) hs) := by
  refine v_meti (own := RX1) (by decide) rfl (Nat.le_of_ble_eq_true rfl) fun p e R s m args below meth c Q SF rk hRR hX hK hin hE hret hthr hQ ls hl => ?_
  have hx := SF.1
  have hb := SF.2.1
  have hml := SF.2.2.1
  have hown := SF.2.2.2.1
  have hts := SF.2.2.2.2
  have hz0 := hX.2
  have hz : hs ≤ s.heap.size := Nat.le_of_eq hX.2.symm
  have hX := hX.1
  have hRc := hRR.1
  have hRs := hRR.2
  have gFs : ∀ q : Nat, s.heap.size ≤ q → gF (fun _ => False) hs q := fun q h => Or.inr (hz0 ▸ h)
  have hS : va_S (gF (fun _ => False) hs) s.heap s.heap [] := va_S.rf
  have hl : lv_has ls 2 [(0, .ref (g 0)), (1, .int x)] := hl
  have hEN := hX.2.2
  have hCE := hEN.1
  have hAz : ∀ q, gF (fun _ => False) hs q → sz ≤ q := fun q h => h.elim (fun e => e.elim) (fun h => Nat.le_trans hsz h)
  obtain ⟨nv, hP0⟩ := AX.ob hX
  have hL := hS1.2.1
  have hn9 := hT.2.1
  refine lv_aload_n hx hb dX1_decided_0 rfl (lv_at hl 0 rfl) ?_
  refine lv_iload_n hx hb dX1_decided_1 rfl (lv_at hl 1 rfl) ?_
  refine g_runX (v_rV (C := RX1) (As := [.int x]) SF hK (d := 7) (rk.le (Nat.le_of_ble_eq_true rfl)) (c_X1_withLetter l dC dI dA g b mc S Hd n sz s.heap.size x hS1 (show sz ≤ s.heap.size by omega) hfl) (lw_V q1434 q1436 qs30 q112 q1437) (n := 1) (by decide +kernel) rfl (by decide) (g_recv hK (hP0.at hS hz0 (fun h => h)) (ci := 0) rfl) (XOK.hs (XOK.hp.and (XOK.hp.and EN.ok))) (⟨AX.at hX hS hz0 hsz, rfl⟩) hl.1 (Nat.le_of_ble_eq_true rfl) ⟨(by omega), (by omega)⟩ rfl dX1_decided_2) rfl hS (fun _ h => h.elim) gFs (fun v9 H locs hP9 hz9 oq hS => ?_) (fun E q9 ce H locs hP9 hz9 oq hS hce hcv hcl => ?_)
  · obtain ⟨rfl, hlo, hok1⟩ := hP9
    have hz := Nat.le_trans hz hz9
    refine W.eq (g2 := F0 m 5 ls [.ref (b 0)]) rfl ?_
    have hn1 := lo_n hlo
    obtain ⟨hP1, hO⟩ := hX.2.1 hn1
    obtain ⟨lt, ht_lt, htb_lt, rfl⟩ := inZ_n hok1
    have hcl_lt : (nI lt).toNatClampNeg = lt := nI_clamp htb_lt
    refine lv_iload_n hx hb dX1_decided_5 rfl (lv_at hl 1 rfl) ?_
    refine u_run (x_rV (C := RX5) (As := [.int (nI lt)]) SF hK (d := 10) (rk.le (Nat.le_of_ble_eq_true rfl)) (c_X5_decided l dC dI dA b mc S Hd lt (show lt < ln S by omega) hS1 hT) (lw_V q1339 q1181 q1182 q139 q1183) (n := 1) (by decide +kernel) rfl (by decide) (g_recv hK ((hO.at hS hz0 (fun _ _ h => h)) 0 _ rfl) (ci := 1) rfl) (XOK.hp.and CE.ok) (⟨(hO.at hS hz0 (fun _ _ h => h)), hCE⟩) hl.1 (Nat.le_of_ble_eq_true rfl) ⟨(by omega), (by omega)⟩ rfl dX1_decided_6) ?_
    refine u_top (y := oI (dcd S Hd lt)) rfl ?_
    exact hret _ _ _ _ _ _ _ (⟨by simp only [hcl_lt], by simp [thC, hlo, hok1]⟩) hS (by omega) (by omega) dX1_decided_9
  · have hz := Nat.le_trans hz hz9
    obtain ⟨h9, rfl⟩ := hP9
    exact hthr _ _ _ _ _ _ _ _ _ _ (thX (L1 := [(lo (n 1), 1), (inZ x.toInt 0 ((ln S : Int) - 1), 2)]) (L2 := []) (nm' := nmA) h9 rfl rfl) hS (by omega) (by omega) hce hcv hcl

set_option maxHeartbeats 4000000 in
theorem c_X1_whyNot (l : Launch) (dC : Nat → ClassId) (dI : Nat → Nat → Nat) (dA : Nat → ClassId) (g : Nat → Nat) (b : Nat → Nat) (mc : Nat → Int32) (S : Nat → Int32) (Hd : Nat → Int32) (n : Nat → Int32) (sz : Nat) (hs : Nat) (x : Int32) (hS1 : SWf S) (hT : TWf Hd) (hsz : sz ≤ hs) (hfl : l.stackTraces = false) : vx_Met l yX1_whyNot (ws_ yX1_whyNot cX1_whyNot 2 (some (.int))) (rmD 12 (5) (30)) (gPx [.ref (g 0), .int x] (fun U H => AX dC dI dA g b mc S Hd n sz U H) hs dC dI dA) (gQ hs (fun _ => False) (fun v H => v = some (.int (nI (why S Hd x.toNatClampNeg))) ∧ thC [(lo (n 1), 1), (inZ x.toInt 0 ((ln S : Int) - 1), 2)] = 0)) (gX hs (fun _ => False) (fun E q H => ¬ thC [(lo (n 1), 1), (inZ x.toInt 0 ((ln S : Int) - 1), 2)] = 0 ∧ E = nmA (thC [(lo (n 1), 1), (inZ x.toInt 0 ((ln S : Int) - 1), 2)]))) (5) (30) (gF (fun _ => False) hs) := by
  refine v_meti (own := RX1) (by decide) rfl (Nat.le_of_ble_eq_true rfl) fun p e R s m args below meth c Q SF rk hRR hX hK hin hE hret hthr hQ ls hl => ?_
  have hx := SF.1
  have hb := SF.2.1
  have hml := SF.2.2.1
  have hown := SF.2.2.2.1
  have hts := SF.2.2.2.2
  have hz0 := hX.2
  have hz : hs ≤ s.heap.size := Nat.le_of_eq hX.2.symm
  have hX := hX.1
  have hRc := hRR.1
  have hRs := hRR.2
  have gFs : ∀ q : Nat, s.heap.size ≤ q → gF (fun _ => False) hs q := fun q h => Or.inr (hz0 ▸ h)
  have hS : va_S (gF (fun _ => False) hs) s.heap s.heap [] := va_S.rf
  have hl : lv_has ls 2 [(0, .ref (g 0)), (1, .int x)] := hl
  have hEN := hX.2.2
  have hCE := hEN.1
  have hAz : ∀ q, gF (fun _ => False) hs q → sz ≤ q := fun q h => h.elim (fun e => e.elim) (fun h => Nat.le_trans hsz h)
  obtain ⟨nv, hP0⟩ := AX.ob hX
  have hL := hS1.2.1
  have hn9 := hT.2.1
  refine lv_aload_n hx hb dX1_whyNot_0 rfl (lv_at hl 0 rfl) ?_
  refine lv_iload_n hx hb dX1_whyNot_1 rfl (lv_at hl 1 rfl) ?_
  refine g_runX (v_rV (C := RX1) (As := [.int x]) SF hK (d := 7) (rk.le (Nat.le_of_ble_eq_true rfl)) (c_X1_withLetter l dC dI dA g b mc S Hd n sz s.heap.size x hS1 (show sz ≤ s.heap.size by omega) hfl) (lw_V q1434 q1436 qs30 q112 q1437) (n := 1) (by decide +kernel) rfl (by decide) (g_recv hK (hP0.at hS hz0 (fun h => h)) (ci := 0) rfl) (XOK.hs (XOK.hp.and (XOK.hp.and EN.ok))) (⟨AX.at hX hS hz0 hsz, rfl⟩) hl.1 (Nat.le_of_ble_eq_true rfl) ⟨(by omega), (by omega)⟩ rfl dX1_whyNot_2) rfl hS (fun _ h => h.elim) gFs (fun v9 H locs hP9 hz9 oq hS => ?_) (fun E q9 ce H locs hP9 hz9 oq hS hce hcv hcl => ?_)
  · obtain ⟨rfl, hlo, hok1⟩ := hP9
    have hz := Nat.le_trans hz hz9
    refine W.eq (g2 := F0 m 5 ls [.ref (b 0)]) rfl ?_
    have hn1 := lo_n hlo
    obtain ⟨hP1, hO⟩ := hX.2.1 hn1
    obtain ⟨lt, ht_lt, htb_lt, rfl⟩ := inZ_n hok1
    have hcl_lt : (nI lt).toNatClampNeg = lt := nI_clamp htb_lt
    refine lv_iload_n hx hb dX1_whyNot_5 rfl (lv_at hl 1 rfl) ?_
    refine u_run (x_rV (C := RX5) (As := [.int (nI lt)]) SF hK (d := 11) (rk.le (Nat.le_of_ble_eq_true rfl)) (c_X5_whyNot l dC dI dA b mc S Hd lt (show lt < ln S by omega) hS1 hT) (lw_V q1507 q1135 q1136 q139 q1137) (n := 1) (by decide +kernel) rfl (by decide) (g_recv hK ((hO.at hS hz0 (fun _ _ h => h)) 0 _ rfl) (ci := 1) rfl) (XOK.hp.and CE.ok) (⟨(hO.at hS hz0 (fun _ _ h => h)), hCE⟩) hl.1 (Nat.le_of_ble_eq_true rfl) ⟨(by omega), (by omega)⟩ rfl dX1_whyNot_6) ?_
    refine u_top (y := nI (why S Hd lt)) rfl ?_
    exact hret _ _ _ _ _ _ _ (⟨by simp only [hcl_lt], by simp [thC, hlo, hok1]⟩) hS (by omega) (by omega) dX1_whyNot_9
  · have hz := Nat.le_trans hz hz9
    obtain ⟨h9, rfl⟩ := hP9
    exact hthr _ _ _ _ _ _ _ _ _ _ (thX (L1 := [(lo (n 1), 1), (inZ x.toInt 0 ((ln S : Int) - 1), 2)]) (L2 := []) (nm' := nmA) h9 rfl rfl) hS (by omega) (by omega) hce hcv hcl

set_option maxHeartbeats 4000000 in
theorem c_X1_whyNotAgain (l : Launch) (dC : Nat → ClassId) (dI : Nat → Nat → Nat) (dA : Nat → ClassId) (g : Nat → Nat) (b : Nat → Nat) (mc : Nat → Int32) (S : Nat → Int32) (Hd : Nat → Int32) (n : Nat → Int32) (sz : Nat) (hs : Nat) (x : Int32) (hS1 : SWf S) (hsz : sz ≤ hs) (hfl : l.stackTraces = false) : vx_Met l yX1_whyNotAgain (ws_ yX1_whyNotAgain cX1_whyNotAgain 2 (some (.int))) (rmD 8 (5) (30)) (gPx [.ref (g 0), .int x] (fun U H => AX dC dI dA g b mc S Hd n sz U H) hs dC dI dA) (gQ hs (fun _ => False) (fun v H => v = some (.int (nI (whR S x.toNatClampNeg))) ∧ thC [(lo (n 1), 1), (inZ x.toInt 0 ((ln S : Int) - 1), 2)] = 0)) (gX hs (fun _ => False) (fun E q H => ¬ thC [(lo (n 1), 1), (inZ x.toInt 0 ((ln S : Int) - 1), 2)] = 0 ∧ E = nmA (thC [(lo (n 1), 1), (inZ x.toInt 0 ((ln S : Int) - 1), 2)]))) (5) (30) (gF (fun _ => False) hs) := by
  refine v_meti (own := RX1) (by decide) rfl (Nat.le_of_ble_eq_true rfl) fun p e R s m args below meth c Q SF rk hRR hX hK hin hE hret hthr hQ ls hl => ?_
  have hx := SF.1
  have hb := SF.2.1
  have hml := SF.2.2.1
  have hown := SF.2.2.2.1
  have hts := SF.2.2.2.2
  have hz0 := hX.2
  have hz : hs ≤ s.heap.size := Nat.le_of_eq hX.2.symm
  have hX := hX.1
  have hRc := hRR.1
  have hRs := hRR.2
  have gFs : ∀ q : Nat, s.heap.size ≤ q → gF (fun _ => False) hs q := fun q h => Or.inr (hz0 ▸ h)
  have hS : va_S (gF (fun _ => False) hs) s.heap s.heap [] := va_S.rf
  have hl : lv_has ls 2 [(0, .ref (g 0)), (1, .int x)] := hl
  have hEN := hX.2.2
  have hCE := hEN.1
  have hAz : ∀ q, gF (fun _ => False) hs q → sz ≤ q := fun q h => h.elim (fun e => e.elim) (fun h => Nat.le_trans hsz h)
  obtain ⟨nv, hP0⟩ := AX.ob hX
  have hL := hS1.2.1
  refine lv_aload_n hx hb dX1_whyNotAgain_0 rfl (lv_at hl 0 rfl) ?_
  refine lv_iload_n hx hb dX1_whyNotAgain_1 rfl (lv_at hl 1 rfl) ?_
  refine g_runX (v_rV (C := RX1) (As := [.int x]) SF hK (d := 7) (rk.le (Nat.le_of_ble_eq_true rfl)) (c_X1_withLetter l dC dI dA g b mc S Hd n sz s.heap.size x hS1 (show sz ≤ s.heap.size by omega) hfl) (lw_V q1434 q1436 qs30 q112 q1437) (n := 1) (by decide +kernel) rfl (by decide) (g_recv hK (hP0.at hS hz0 (fun h => h)) (ci := 0) rfl) (XOK.hs (XOK.hp.and (XOK.hp.and EN.ok))) (⟨AX.at hX hS hz0 hsz, rfl⟩) hl.1 (Nat.le_of_ble_eq_true rfl) ⟨(by omega), (by omega)⟩ rfl dX1_whyNotAgain_2) rfl hS (fun _ h => h.elim) gFs (fun v9 H locs hP9 hz9 oq hS => ?_) (fun E q9 ce H locs hP9 hz9 oq hS hce hcv hcl => ?_)
  · obtain ⟨rfl, hlo, hok1⟩ := hP9
    have hz := Nat.le_trans hz hz9
    refine W.eq (g2 := F0 m 5 ls [.ref (b 0)]) rfl ?_
    have hn1 := lo_n hlo
    obtain ⟨hP1, hO⟩ := hX.2.1 hn1
    obtain ⟨lt, ht_lt, htb_lt, rfl⟩ := inZ_n hok1
    have hcl_lt : (nI lt).toNatClampNeg = lt := nI_clamp htb_lt
    refine lv_iload_n hx hb dX1_whyNotAgain_5 rfl (lv_at hl 1 rfl) ?_
    refine u_run (x_rV (C := RX5) (As := [.int (nI lt)]) SF hK (d := 4) (rk.le (Nat.le_of_ble_eq_true rfl)) (c_X5_whyNotAgain l dC dI dA b mc S Hd lt (show lt < ln S by omega) hS1) (lw_V q1529 q1530 q1531 q139 q1532) (n := 1) (by decide +kernel) rfl (by decide) (g_recv hK ((hO.at hS hz0 (fun _ _ h => h)) 0 _ rfl) (ci := 1) rfl) (XOK.hp.and CE.ok) (⟨(hO.at hS hz0 (fun _ _ h => h)), hCE⟩) hl.1 (Nat.le_of_ble_eq_true rfl) ⟨(by omega), (by omega)⟩ rfl dX1_whyNotAgain_6) ?_
    refine u_top (y := nI (whR S lt)) rfl ?_
    exact hret _ _ _ _ _ _ _ (⟨by simp only [hcl_lt], by simp [thC, hlo, hok1]⟩) hS (by omega) (by omega) dX1_whyNotAgain_9
  · have hz := Nat.le_trans hz hz9
    obtain ⟨h9, rfl⟩ := hP9
    exact hthr _ _ _ _ _ _ _ _ _ _ (thX (L1 := [(lo (n 1), 1), (inZ x.toInt 0 ((ln S : Int) - 1), 2)]) (L2 := []) (nm' := nmA) h9 rfl rfl) hS (by omega) (by omega) hce hcv hcl
end API2
