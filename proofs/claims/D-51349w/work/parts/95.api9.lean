set_option maxRecDepth 100000
section API9
variable {p : Program} {l : Launch} {e : Env} {R : Room} {s : State} {m : MethodId} {args : Array Value} {below : List Frame} {meth : Method} {c : Code} {H : Heap} {locs : List Loc} {Q : State → Prop}
variable {cc : ByteArray} {pc nL : Nat} {ls : Array Slot} {rest : List Value} {dC : Nat → ClassId} {dI : Nat → Nat → Nat} {dA : Nat → ClassId} {a : Nat → Nat} {M : Nat → Nat → Int32} {H0 : Heap}

set_option maxHeartbeats 4000000 in
theorem c_X1_sortedWith (l : Launch) (dC : Nat → ClassId) (dI : Nat → Nat → Nat) (dA : Nat → ClassId) (g : Nat → Nat) (b : Nat → Nat) (mc : Nat → Int32) (S : Nat → Int32) (Hd : Nat → Int32) (n : Nat → Int32) (sz : Nat) (hs : Nat) (j : Nat) (hj : j ≤ 8) (hS1 : SWf S) (hT : TWf Hd) (hsz : sz ≤ hs) (hJ : offJ b (ln S) (tn Hd)) (hC : CWf S Hd) : Met l yX1_sortedWith (ws_ yX1_sortedWith cX1_sortedWith 3 (some (.int))) (rmD 16 (128) (907)) (gPx [.ref (g 0), .int (nI j)] (fun U H => cP dC dI (g 0) (obE g n (.ref (b 0))) H ∧ famP dC dI b (offE b dA mc S Hd) H ∧ EN sz U H) hs dC dI dA) (gQ hs (fun _ => False) (fun v H => v = some (.int (nI (sAn (upd S 0 (nI j)) Hd))))) (128) (907) (gF (fun _ => False) hs) := by
  refine g_meti (own := RX1) (by decide) rfl (Nat.le_of_ble_eq_true rfl) fun p e R s m args below meth c Q SF rk hRR hX hK hin hret ls hl => ?_
  have hx := SF.1
  have hb := SF.2.1
  have hml := SF.2.2.1
  have hown := SF.2.2.2.1
  have hts := SF.2.2.2.2
  have hz0 := hX.2
  have hz : hs ≤ s.heap.size := Nat.le_of_eq hX.2.symm
  have hX := hX.1
  have hRc := hRR.1
  have hRs := hRR.2
  have gFs : ∀ q : Nat, s.heap.size ≤ q → gF (fun _ => False) hs q := fun q h => Or.inr (hz0 ▸ h)
  have hS : va_S (gF (fun _ => False) hs) s.heap s.heap [] := va_S.rf
  have hl : lv_has ls 3 [(0, .ref (g 0)), (1, .int (nI j))] := hl
  have hP1 := hX.1
  have hO := hX.2.1
  have hEN := hX.2.2
  have hCE := hEN.1
  have hAz : ∀ q, gF (fun _ => False) hs q → sz ≤ q := fun q h => h.elim (fun e => e.elim) (fun h => Nat.le_trans hsz h)
  have hL := hS1.2.1
  have hn9 := hT.2.1
  refine g_new (ci := 1) (fs := [.null, .null, .null, .null, .null, .null, .null, .int 0, .int 0, .int 0]) (C := RX5) (T := TX5) (N := 10) hx hb hts in_X5 tyX5 tyX5_ok hown (hts _ q181) (hts _ q790) (hts _ q139) hK hS rfl (fun j hj => by rcases (show j = 0 ∨ j = 1 ∨ j = 2 ∨ j = 3 ∨ j = 4 ∨ j = 5 ∨ j = 6 ∨ j = 7 ∨ j = 8 ∨ j = 9 by omega) with rfl | rfl | rfl | rfl | rfl | rfl | rfl | rfl | rfl | rfl <;> rfl) (by omega) (by omega) dX1_sortedWith_0 (fun q1 H heq9 hq1 hz9 oq hS => ?_)
  have hge_q1 : hs ≤ q1 := by omega
  have hz : hs ≤ H.size := by omega
  refine lv_dup hx hb dX1_sortedWith_3 rfl ?_
  refine lv_aload_n hx hb dX1_sortedWith_4 rfl (lv_at hl 0 rfl) ?_
  refine va_get (D := (dC, dI)) (ci := 0) (v := .ref (b 0)) (C := RX1) (T := TX1) (N := 9) hx hb hts in_X1 hown hK (hP1.at hS hz0 (fun h => h)) 0 rfl rfl 4 (by decide) (hts _ q220) (fun _ h9 => h9) rfl dX1_sortedWith_5 ?_
  obtain ⟨hv, ehv⟩ : ∃ z, z = H.size := ⟨_, rfl⟩
  have hql : q1 < hv := ehv ▸ hq1.lt
  have hfl9 : ∀ k, useK (ln S) (tn Hd) k → b k < hs := fun k hk => hz0 ▸ fam_lt hO hn9 hL k hk
  refine g_run (g_rI (As := [.ref (b 0)]) SF hK (d := 4) (rk.le (Nat.le_of_ble_eq_true rfl)) (c_X5_init_2 l dC dI dA q1 b mc S Hd sz hv hS1 hT (by omega) (by omega) (fun k hk => Nat.ne_of_lt (Nat.lt_of_lt_of_le (hfl9 k hk) hge_q1))) q139 q1653 q1654 q1655 rfl (n := 1) (by decide +kernel) rfl (by decide) (XOK.hs (XOK.hp.and (XOK.hp.and EN.ok))) (⟨⟨hq1, hO.at hS hz0 (fun _ _ h => h), hEN.at hS hAz⟩, ehv.symm⟩) hl.1 (Nat.le_of_ble_eq_true rfl) ⟨(by omega), (by omega)⟩ rfl dX1_sortedWith_8) ehv.symm hS (fun z e => Or.inr (e ▸ hge_q1)) gFs (fun v9 H locs hP9 hz9 oq hS => ?_)
  obtain ⟨rfl, hO2, hz2⟩ := hP9
  have hz := Nat.le_trans hz hz9
  refine W.eq (g2 := F0 m 11 ls [.ref q1]) rfl ?_
  obtain ⟨b2, hb2⟩ : ∃ b2 : Nat → Nat, b2 = bN q1 hv b := ⟨_, rfl⟩
  rw [← hb2] at hO2
  have hJ2 : offJ b2 (ln S) (tn Hd) := by rw [hb2]; exact bN_J hn9 hL hJ hql (fun k hk => ⟨Nat.lt_of_lt_of_le (hfl9 k (by unfold useK; omega)) (by omega), Nat.ne_of_lt (Nat.lt_of_lt_of_le (hfl9 k (by unfold useK; omega)) hge_q1)⟩)
  have hob2 : ∀ k, ownK (ln S) k → hs ≤ b2 k := fun k hk => by rw [hb2]; rcases bN_own (x := q1) (hs := hv) (b := b) hk hL with e | e <;> omega
  have eb : q1 = b2 0 := by rw [hb2]; rfl
  rw [eb]
  have hOold := hO
  have hJold := hJ
  have hO := hO2
  have hJ := hJ2
  refine lv_astore_n (lv' := [(2, .ref (b2 0)), (0, .ref (g 0)), (1, .int (nI j))]) hx hb dX1_sortedWith_11 rfl hl (by decide) rfl (fun ls hl => ?_)
  refine lv_aload_n hx hb dX1_sortedWith_12 rfl (lv_at hl 0 rfl) ?_
  refine lv_iload_n hx hb dX1_sortedWith_13 rfl (lv_at hl 2 rfl) ?_
  refine o_pLimit SF hK hO hJ hS (Or.inr (hob2 _ (Or.inl rfl))) (va_Nw.use rfl (hCE.1 9 (by decide))) dX1_sortedWith_14 (fun H locs hO hz9 oq hS => ?_)
  have hln : ln (upd S 0 (nI j)) = ln S := (ln_upd (by decide))
  have hz := Nat.le_trans hz (Nat.le_of_eq hz9.symm)
  refine lv_aload_n hx hb dX1_sortedWith_17 rfl (lv_at hl 0 rfl) ?_
  refine g_run (g_rV (C := RX5) (As := []) SF hK (d := 15) (rk.le (Nat.le_of_ble_eq_true rfl)) (c_X5_sortsAll l dC dI dA b2 (mcN mc S) (upd S 0 (nI j)) Hd sz H.size (SWf_lim hS1 hj) hT (by omega) (by rw [hln]; exact hJ) (CWf_lim hC) (fun k hk => Nat.le_trans hsz (hob2 k (by rw [hln] at hk; exact hk)))) (lw_V q1666 q1115 q1116 q139 q1117) (n := 0) (by decide +kernel) rfl (by decide) (g_recv hK (hO 0 _ rfl) (ci := 1) rfl) (XOK.hs (XOK.hp.and EN.ok)) (⟨⟨hO, hEN.at hS hAz⟩, rfl⟩) hl.1 (Nat.le_of_ble_eq_true rfl) ⟨(by omega), (by omega)⟩ rfl dX1_sortedWith_18) rfl hS (fun q ⟨k, hk, e⟩ => Or.inr (e ▸ hob2 k (by rw [hln] at hk; exact hk))) gFs (fun v9 H locs hP9 hz9 oq hS => ?_)
  obtain ⟨rfl, hO3⟩ := hP9
  have hz := Nat.le_trans hz hz9
  refine W.eq (g2 := F0 m 21 ls [.int (nI (sAn (upd S 0 (nI j)) Hd))]) rfl ?_
  exact hret _ _ _ _ _ _ _ rfl hS (by omega) (by omega) dX1_sortedWith_21

set_option maxHeartbeats 4000000 in
theorem c_X1_sortedIf (l : Launch) (dC : Nat → ClassId) (dI : Nat → Nat → Nat) (dA : Nat → ClassId) (g : Nat → Nat) (b : Nat → Nat) (mc : Nat → Int32) (S : Nat → Int32) (Hd : Nat → Int32) (n : Nat → Int32) (sz : Nat) (hs : Nat) (x : Int32) (hS1 : SWf S) (hT : TWf Hd) (hJ : offJ b (ln S) (tn Hd)) (hC : CWf S Hd) (hsz : sz ≤ hs) (hfl : l.stackTraces = false) : vx_Met l yX1_sortedIf (ws_ yX1_sortedIf cX1_sortedIf 3 (some (.int))) (rmD 17 (130) (930)) (gPx [.ref (g 0), .int x] (fun U H => AX dC dI dA g b mc S Hd n sz U H) hs dC dI dA) (gQ hs (fun _ => False) (fun v H => v = some (.int (nI (sAn (upd S 0 (nI x.toNatClampNeg)) Hd))) ∧ thC [(lo (n 1), 1), (inZ x.toInt 0 8, 2)] = 0)) (gX hs (fun _ => False) (fun E q H => ¬ thC [(lo (n 1), 1), (inZ x.toInt 0 8, 2)] = 0 ∧ E = nmB (thC [(lo (n 1), 1), (inZ x.toInt 0 8, 2)]))) (130) (930) (gF (fun _ => False) hs) := by
  refine v_meti (own := RX1) (by decide) rfl (Nat.le_of_ble_eq_true rfl) fun p e R s m args below meth c Q SF rk hRR hX hK hin hE hret hthr hQ ls hl => ?_
  have hx := SF.1
  have hb := SF.2.1
  have hml := SF.2.2.1
  have hown := SF.2.2.2.1
  have hts := SF.2.2.2.2
  have hz0 := hX.2
  have hz : hs ≤ s.heap.size := Nat.le_of_eq hX.2.symm
  have hX := hX.1
  have hRc := hRR.1
  have hRs := hRR.2
  have gFs : ∀ q : Nat, s.heap.size ≤ q → gF (fun _ => False) hs q := fun q h => Or.inr (hz0 ▸ h)
  have hS : va_S (gF (fun _ => False) hs) s.heap s.heap [] := va_S.rf
  have hl : lv_has ls 3 [(0, .ref (g 0)), (1, .int x)] := hl
  have hEN := hX.2.2
  have hCE := hEN.1
  have hAz : ∀ q, gF (fun _ => False) hs q → sz ≤ q := fun q h => h.elim (fun e => e.elim) (fun h => Nat.le_trans hsz h)
  obtain ⟨nv, hP0⟩ := AX.ob hX
  have hL := hS1.2.1
  have hn9 := hT.2.1
  refine lv_aload_n hx hb dX1_sortedIf_0 rfl (lv_at hl 0 rfl) ?_
  refine g_runX (v_rV (C := RX1) (As := []) SF hK (d := 6) (rk.le (Nat.le_of_ble_eq_true rfl)) (c_X1_office l dC dI dA g b mc S Hd n sz s.heap.size (show sz ≤ s.heap.size by omega) hfl) (lw_V q1312 q1314 qs25 q112 q1315) (n := 0) (by decide +kernel) rfl (by decide) (g_recv hK (hP0.at hS hz0 (fun h => h)) (ci := 0) rfl) (XOK.hs (XOK.hp.and (XOK.hp.and EN.ok))) (⟨AX.at hX hS hz0 hsz, rfl⟩) hl.1 (Nat.le_of_ble_eq_true rfl) ⟨(by omega), (by omega)⟩ rfl dX1_sortedIf_1) rfl hS (fun _ h => h.elim) gFs (fun v9 H locs hP9 hz9 oq hS => ?_) (fun E q9 ce H locs hP9 hz9 oq hS hce hcv hcl => ?_)
  · obtain ⟨rfl, hlo⟩ := hP9
    have hz := Nat.le_trans hz hz9
    refine W.eq (g2 := F0 m 4 ls [.ref (b 0)]) rfl ?_
    have hn1 := lo_n hlo
    obtain ⟨hP1, hO⟩ := hX.2.1 hn1
    refine lv_astore_n (lv' := [(2, .ref (b 0)), (0, .ref (g 0)), (1, .int x)]) hx hb dX1_sortedIf_4 rfl hl (by decide) rfl (fun ls hl => ?_)
    refine lv_iload_n hx hb dX1_sortedIf_5 rfl (lv_at hl 2 rfl) ?_
    refine lv_iconst (v := nI 0) hx hb dX1_sortedIf_6 (by decide) ?_
    refine lv_bipush (v := nI 8) hx hb dX1_sortedIf_7 (by decide) ?_
    refine u_run (x_rS (As := [.int x, .int (nI 0), .int (nI 8)]) SF hK (d := 0) (rk.le (Nat.le_of_ble_eq_true rfl)) (c_X1_in l dC dI dA x.toInt 0 8 x (nI 0) (nI 8) rfl (by decide) (by first | exact rfl | decide | exact pk_sub_toInt (by omega) (by decide))) (lw_S q371 q372 q112 q373) (n := 3) (by decide +kernel) rfl (by decide) (XOK.hp) (trivial) hl.1 (Nat.le_of_ble_eq_true rfl) ⟨(by omega), (by omega)⟩ rfl dX1_sortedIf_9) ?_
    refine u_top (y := nI ((inZ x.toInt 0 8).toNat)) rfl ?_
    refine g_runX (v_rS (As := [.int (nI ((inZ x.toInt 0 8).toNat))]) SF hK (d := 6) (rk.le (Nat.le_of_ble_eq_true rfl)) (c_X1_checkRange l dC dI dA sz H.size (inZ x.toInt 0 8) (show sz ≤ H.size by omega) hfl) (lw_S q1405 q1406 q112 q1407) (n := 1) (by decide +kernel) rfl (by decide) (XOK.hs (EN.ok)) (⟨hEN.at hS hAz, rfl⟩) hl.1 (Nat.le_of_ble_eq_true rfl) ⟨(by omega), (by omega)⟩ rfl dX1_sortedIf_12) rfl hS (fun _ h => h.elim) gFs (fun v9 H locs hP9 hz9 oq hS => ?_) (fun E q9 ce H locs hP9 hz9 oq hS hce hcv hcl => ?_)
    · obtain ⟨rfl, hz1⟩ := hP9
      have hz := Nat.le_trans hz hz9
      refine W.eq (g2 := F0 m 15 ls []) rfl ?_
      have hok1 := hz1
      obtain ⟨j, ht_j, htb_j, rfl⟩ := inZ_n hok1
      have hcl_j : (nI j).toNatClampNeg = j := nI_clamp htb_j
      refine lv_aload_n hx hb dX1_sortedIf_15 rfl (lv_at hl 1 rfl) ?_
      refine lv_iload_n hx hb dX1_sortedIf_16 rfl (lv_at hl 2 rfl) ?_
      refine g_run (g_rV (C := RX1) (As := [.int (nI j)]) SF hK (d := 16) (rk.le (Nat.le_of_ble_eq_true rfl)) (c_X1_sortedWith l dC dI dA g b mc S Hd n sz H.size j (show j ≤ 8 by omega) hS1 hT (show sz ≤ H.size by omega) hJ hC) (lw_V q1649 q1651 qs41 q112 q1652) (n := 1) (by decide +kernel) rfl (by decide) (g_recv hK (hP1.at hS hz0 (fun h => h)) (ci := 0) rfl) (XOK.hs (XOK.hp.and (XOK.hp.and EN.ok))) (⟨⟨hP1.at hS hz0 (fun h => h), hO.at hS hz0 (fun _ _ h => h), hEN.at hS hAz⟩, rfl⟩) hl.1 (Nat.le_of_ble_eq_true rfl) ⟨(by omega), (by omega)⟩ rfl dX1_sortedIf_17) rfl hS (fun _ h => h.elim) gFs (fun v9 H locs hP9 hz9 oq hS => ?_)
      obtain ⟨rfl⟩ := hP9
      have hz := Nat.le_trans hz hz9
      refine W.eq (g2 := F0 m 20 ls [.int (nI (sAn (upd S 0 (nI j)) Hd))]) rfl ?_
      exact hret _ _ _ _ _ _ _ (⟨by first | (simp only [hcl_j]; done) | (simp only [hcl_j]; rfl) | (rw [hcl_j]; rfl), by simp [thC, hlo, hok1]⟩) hS (by omega) (by omega) dX1_sortedIf_20
    · have hz := Nat.le_trans hz hz9
      obtain ⟨h9, rfl⟩ := hP9
      exact hthr _ _ _ _ _ _ _ _ _ _ (thY (nm := nmB) (k := 2) (by simp [thC, hlo, h9]) (by decide) rfl) hS (by omega) (by omega) hce hcv hcl
  · have hz := Nat.le_trans hz hz9
    obtain ⟨h9, rfl⟩ := hP9
    exact hthr _ _ _ _ _ _ _ _ _ _ (thX (L1 := [(lo (n 1), 1)]) (L2 := [(inZ x.toInt 0 8, 2)]) (nm' := nmB) h9 rfl (by first | rfl | (rw [thC_n1 h9]; try rfl))) hS (by omega) (by omega) hce hcv hcl

set_option maxHeartbeats 4000000 in
theorem c_X1_bestLimit (l : Launch) (dC : Nat → ClassId) (dI : Nat → Nat → Nat) (dA : Nat → ClassId) (g : Nat → Nat) (b : Nat → Nat) (mc : Nat → Int32) (S : Nat → Int32) (Hd : Nat → Int32) (n : Nat → Int32) (sz : Nat) (hs : Nat) (hS1 : SWf S) (hT : TWf Hd) (hJ : offJ b (ln S) (tn Hd)) (hC : CWf S Hd) (hsz : sz ≤ hs) (hfl : l.stackTraces = false) : vx_Met l yX1_bestLimit (ws_ yX1_bestLimit cX1_bestLimit 6 (some (.int))) (rmD 17 (1200) (8200)) (gPx [.ref (g 0)] (fun U H => AX dC dI dA g b mc S Hd n sz U H) hs dC dI dA) (gQ hs (fun _ => False) (fun v H => v = some (.int (nI (bstF (fun j => sAn (upd S 0 (nI j)) Hd) 8).1)) ∧ thC [(lo (n 1), 1)] = 0)) (gX hs (fun _ => False) (fun E q H => ¬ thC [(lo (n 1), 1)] = 0 ∧ E = nmA (thC [(lo (n 1), 1)]))) (1200) (8200) (gF (fun _ => False) hs) := by
  refine v_meti (own := RX1) (by decide) rfl (Nat.le_of_ble_eq_true rfl) fun p e R s m args below meth c Q SF rk hRR hX hK hin hE hret hthr hQ ls hl => ?_
  have hx := SF.1
  have hb := SF.2.1
  have hml := SF.2.2.1
  have hown := SF.2.2.2.1
  have hts := SF.2.2.2.2
  have hz0 := hX.2
  have hz : hs ≤ s.heap.size := Nat.le_of_eq hX.2.symm
  have hX := hX.1
  have hRc := hRR.1
  have hRs := hRR.2
  have gFs : ∀ q : Nat, s.heap.size ≤ q → gF (fun _ => False) hs q := fun q h => Or.inr (hz0 ▸ h)
  have hS : va_S (gF (fun _ => False) hs) s.heap s.heap [] := va_S.rf
  have hl : lv_has ls 6 [(0, .ref (g 0))] := hl
  have hEN := hX.2.2
  have hCE := hEN.1
  have hAz : ∀ q, gF (fun _ => False) hs q → sz ≤ q := fun q h => h.elim (fun e => e.elim) (fun h => Nat.le_trans hsz h)
  obtain ⟨nv, hP0⟩ := AX.ob hX
  have hL := hS1.2.1
  have hn9 := hT.2.1
  have hs8 : ∀ j, sAn (upd S 0 (nI j)) Hd ≤ 24 := fun j => Nat.le_trans (sAll_le _) (by unfold ln; rw [upd_ne (by omega)]; exact hL)
  have hs9 := bstF_le hs8
  refine lv_aload_n hx hb dX1_bestLimit_0 rfl (lv_at hl 0 rfl) ?_
  refine g_runX (v_rV (C := RX1) (As := []) SF hK (d := 6) (rk.le (Nat.le_of_ble_eq_true rfl)) (c_X1_office l dC dI dA g b mc S Hd n sz s.heap.size (show sz ≤ s.heap.size by omega) hfl) (lw_V q1312 q1314 qs25 q112 q1315) (n := 0) (by decide +kernel) rfl (by decide) (g_recv hK (hP0.at hS hz0 (fun h => h)) (ci := 0) rfl) (XOK.hs (XOK.hp.and (XOK.hp.and EN.ok))) (⟨AX.at hX hS hz0 hsz, rfl⟩) hl.1 (Nat.le_of_ble_eq_true rfl) ⟨(by omega), (by omega)⟩ rfl dX1_bestLimit_1) rfl hS (fun _ h => h.elim) gFs (fun v9 H locs hP9 hz9 oq hS => ?_) (fun E q9 ce H locs hP9 hz9 oq hS hce hcv hcl => ?_)
  · obtain ⟨rfl, hlo⟩ := hP9
    have hz := Nat.le_trans hz hz9
    refine W.eq (g2 := F0 m 4 ls [.ref (b 0)]) rfl ?_
    have hn1 := lo_n hlo
    obtain ⟨hP1, hO⟩ := hX.2.1 hn1
    refine lv_astore_n (lv' := [(1, .ref (b 0)), (0, .ref (g 0))]) hx hb dX1_bestLimit_4 rfl hl (by decide) rfl (fun ls hl => ?_)
    refine lv_iconst (v := nI 0) hx hb dX1_bestLimit_5 (by decide) ?_
    refine lv_istore_n (lv' := [(2, .int (nI 0)), (1, .ref (b 0)), (0, .ref (g 0))]) hx hb dX1_bestLimit_6 rfl hl (by decide) rfl (fun ls hl => ?_)
    refine lv_aload_n hx hb dX1_bestLimit_7 rfl (lv_at hl 2 rfl) ?_
    refine lv_iconst (v := nI 0) hx hb dX1_bestLimit_8 (by decide) ?_
    refine g_run (g_rV (C := RX1) (As := [.int (nI 0)]) SF hK (d := 16) (rk.le (Nat.le_of_ble_eq_true rfl)) (c_X1_sortedWith l dC dI dA g b mc S Hd n sz H.size 0 (show 0 ≤ 8 by omega) hS1 hT (show sz ≤ H.size by omega) hJ hC) (lw_V q1649 q1651 qs41 q112 q1652) (n := 1) (by decide +kernel) rfl (by decide) (g_recv hK (hP1.at hS hz0 (fun h => h)) (ci := 0) rfl) (XOK.hs (XOK.hp.and (XOK.hp.and EN.ok))) (⟨⟨hP1.at hS hz0 (fun h => h), hO.at hS hz0 (fun _ _ h => h), hEN.at hS hAz⟩, rfl⟩) hl.1 (Nat.le_of_ble_eq_true rfl) ⟨(by omega), (by omega)⟩ rfl dX1_bestLimit_9) rfl hS (fun _ h => h.elim) gFs (fun v9 H locs hP9 hz9 oq hS => ?_)
    obtain ⟨rfl⟩ := hP9
    have hz := Nat.le_trans hz hz9
    refine W.eq (g2 := F0 m 12 ls [.int (nI (sAn (upd S 0 (nI 0)) Hd))]) rfl ?_
    refine lv_istore_n (lv' := [(3, .int (nI (sAn (upd S 0 (nI 0)) Hd))), (2, .int (nI 0)), (1, .ref (b 0)), (0, .ref (g 0))]) hx hb dX1_bestLimit_12 rfl hl (by decide) rfl (fun ls hl => ?_)
    refine lv_iconst (v := nI 1) hx hb dX1_bestLimit_13 (by decide) ?_
    refine lv_istore (lv' := [(4, .int (nI 1)), (3, .int (nI (sAn (upd S 0 (nI 0)) Hd))), (2, .int (nI 0)), (1, .ref (b 0)), (0, .ref (g 0))]) hx hb dX1_bestLimit_14 hl (by decide) rfl (fun ls hl => ?_)
    have lp16 : ∀ (k0 : Nat) (k : Nat), k ≤ 8 → 8 < k + k0 → ∀ (H : Heap) (locs : List Loc), hs ≤ H.size → va_S (gF (fun _ => False) hs) s.heap H locs → ∀ ls : Array Slot, lv_has ls 6 [(4, .int (nI (k + 1))), (3, .int (nI ((bstF (fun j => sAn (upd S 0 (nI j)) Hd) k).2))), (2, .int (nI ((bstF (fun j => sAn (upd S 0 (nI j)) Hd) k).1))), (1, .ref (b 0)), (0, .ref (g 0))] → W p l e R s m args below meth c H locs (129 + 128 * k) (913 + 907 * k) Q (F0 m 16 ls []) := by
      intro k0
      induction k0 with
      | zero =>
        intro k hk1 hk2; omega
      | succ k0 ih =>
        intro k hk1 hk2 H locs hz hS ls hl
        have ih16 := ih
        have hq9 := hs9 k
        have hq8 := hs8 (k + 1)
        refine lv_iload hx hb dX1_bestLimit_16 (lv_at hl 0 rfl) ?_
        refine lv_bipush (v := nI 8) hx hb dX1_bestLimit_18 (by decide) ?_
        refine lv_icmp_gt (tgt := 52) hx hb dX1_bestLimit_20 (by decide) (fun c_20 => ?_) (fun c_20 => ?_)
        · have c_20 : 8 < k + 1 := (nI_ltI (a := 8) (b := k + 1) (by omega) (by omega)).mp c_20
          refine lv_iload_n hx hb dX1_bestLimit_52 rfl (lv_at hl 2 rfl) ?_
          exact hret _ _ _ _ _ _ _ (⟨by rw [show k = 8 by omega], by simp [thC, hlo]⟩) hS (by omega) (by omega) dX1_bestLimit_53
        · have c_20 : ¬ (8 < k + 1) := fun q9 => c_20 ((nI_ltI (a := 8) (b := k + 1) (by omega) (by omega)).mpr q9)
          refine lv_aload_n hx hb dX1_bestLimit_23 rfl (lv_at hl 4 rfl) ?_
          refine lv_iload hx hb dX1_bestLimit_24 (lv_at hl 0 rfl) ?_
          refine g_run (g_rV (C := RX1) (As := [.int (nI (k + 1))]) SF hK (d := 16) (rk.le (Nat.le_of_ble_eq_true rfl)) (c_X1_sortedWith l dC dI dA g b mc S Hd n sz H.size (k + 1) (show (k + 1) ≤ 8 by omega) hS1 hT (show sz ≤ H.size by omega) hJ hC) (lw_V q1649 q1651 qs41 q112 q1652) (n := 1) (by decide +kernel) rfl (by decide) (g_recv hK (hP1.at hS hz0 (fun h => h)) (ci := 0) rfl) (XOK.hs (XOK.hp.and (XOK.hp.and EN.ok))) (⟨⟨hP1.at hS hz0 (fun h => h), hO.at hS hz0 (fun _ _ h => h), hEN.at hS hAz⟩, rfl⟩) hl.1 (Nat.le_of_ble_eq_true rfl) ⟨(by omega), (by omega)⟩ rfl dX1_bestLimit_26) rfl hS (fun _ h => h.elim) gFs (fun v9 H locs hP9 hz9 oq hS => ?_)
          obtain ⟨rfl⟩ := hP9
          have hz := Nat.le_trans hz hz9
          refine W.eq (g2 := F0 m 29 ls [.int (nI (sAn (upd S 0 (nI (k + 1))) Hd))]) rfl ?_
          refine lv_istore (lv' := [(5, .int (nI (sAn (upd S 0 (nI (k + 1))) Hd))), (4, .int (nI (k + 1))), (3, .int (nI ((bstF (fun j => sAn (upd S 0 (nI j)) Hd) k).2))), (2, .int (nI ((bstF (fun j => sAn (upd S 0 (nI j)) Hd) k).1))), (1, .ref (b 0)), (0, .ref (g 0))]) hx hb dX1_bestLimit_29 hl (by decide) rfl (fun ls hl => ?_)
          refine lv_iload hx hb dX1_bestLimit_31 (lv_at hl 0 rfl) ?_
          refine lv_iload_n hx hb dX1_bestLimit_33 rfl (lv_at hl 2 rfl) ?_
          refine lv_icmp_gt (tgt := 40) hx hb dX1_bestLimit_34 (by decide) (fun c_34 => ?_) (fun c_34 => ?_)
          · have c_34 : (bstF (fun j => sAn (upd S 0 (nI j)) Hd) k).2 < sAn (upd S 0 (nI (k + 1))) Hd := (nI_ltI (a := (bstF (fun j => sAn (upd S 0 (nI j)) Hd) k).2) (b := sAn (upd S 0 (nI (k + 1))) Hd) (by omega) (by omega)).mp c_34
            refine lv_iload hx hb dX1_bestLimit_40 (lv_at hl 0 rfl) ?_
            refine lv_istore_n (lv' := [(3, .int (nI (sAn (upd S 0 (nI (k + 1))) Hd))), (5, .int (nI (sAn (upd S 0 (nI (k + 1))) Hd))), (4, .int (nI (k + 1))), (2, .int (nI ((bstF (fun j => sAn (upd S 0 (nI j)) Hd) k).1))), (1, .ref (b 0)), (0, .ref (g 0))]) hx hb dX1_bestLimit_42 rfl hl (by decide) rfl (fun ls hl => ?_)
            refine lv_iload hx hb dX1_bestLimit_43 (lv_at hl 2 rfl) ?_
            refine lv_istore_n (lv' := [(2, .int (nI (k + 1))), (3, .int (nI (sAn (upd S 0 (nI (k + 1))) Hd))), (5, .int (nI (sAn (upd S 0 (nI (k + 1))) Hd))), (4, .int (nI (k + 1))), (1, .ref (b 0)), (0, .ref (g 0))]) hx hb dX1_bestLimit_45 rfl hl (by decide) rfl (fun ls hl => ?_)
            have e9_3 : nI ((bstF (fun j => sAn (upd S 0 (nI j)) Hd) (k + 1)).2) = nI (sAn (upd S 0 (nI (k + 1))) Hd) := (by rw [bstF_2]; exact congrArg nI (by omega))
            have hl : lv_has ls 6 [(2, .int (nI (k + 1))), (3, .int (nI ((bstF (fun j => sAn (upd S 0 (nI j)) Hd) (k + 1)).2))), (5, .int (nI (sAn (upd S 0 (nI (k + 1))) Hd))), (4, .int (nI (k + 1))), (1, .ref (b 0)), (0, .ref (g 0))] := by rw [e9_3]; exact hl
            have e9_2 : nI ((bstF (fun j => sAn (upd S 0 (nI j)) Hd) (k + 1)).1) = nI (k + 1) := (by rw [bstF]; exact congrArg nI (by first | rw [if_pos (show (bstF (fun j => sAn (upd S 0 (nI j)) Hd) k).2 < sAn (upd S 0 (nI (k + 1))) Hd from by omega)] | rw [if_neg (show ¬ (bstF (fun j => sAn (upd S 0 (nI j)) Hd) k).2 < sAn (upd S 0 (nI (k + 1))) Hd from by omega)]))
            have hl : lv_has ls 6 [(2, .int (nI ((bstF (fun j => sAn (upd S 0 (nI j)) Hd) (k + 1)).1))), (3, .int (nI ((bstF (fun j => sAn (upd S 0 (nI j)) Hd) (k + 1)).2))), (5, .int (nI (sAn (upd S 0 (nI (k + 1))) Hd))), (4, .int (nI (k + 1))), (1, .ref (b 0)), (0, .ref (g 0))] := by rw [e9_2]; exact hl
            refine W.widen (k := 129 + 128 * (k + 1)) (n := 913 + 907 * (k + 1)) (by omega) (by omega) ?_
            refine lv_iinc (v := nI (k + 1 + 1)) (lv' := [(4, .int (nI (k + 1 + 1))), (2, .int (nI ((bstF (fun j => sAn (upd S 0 (nI j)) Hd) (k + 1)).1))), (3, .int (nI ((bstF (fun j => sAn (upd S 0 (nI j)) Hd) (k + 1)).2))), (5, .int (nI (sAn (upd S 0 (nI (k + 1))) Hd))), (1, .ref (b 0)), (0, .ref (g 0))]) hx hb dX1_bestLimit_46 hl (k := 3) rfl (nI_add _ 1) (by decide) rfl (fun ls hl => ?_)
            refine lv_goto (tgt := 16) hx hb dX1_bestLimit_49 (by decide) ?_
            exact ih16 (k + 1) (by omega) (by omega) _ _ hz hS ls (lv_sub hl [0, 2, 1, 4, 5] rfl)
          · have c_34 : ¬ ((bstF (fun j => sAn (upd S 0 (nI j)) Hd) k).2 < sAn (upd S 0 (nI (k + 1))) Hd) := fun q9 => c_34 ((nI_ltI (a := (bstF (fun j => sAn (upd S 0 (nI j)) Hd) k).2) (b := sAn (upd S 0 (nI (k + 1))) Hd) (by omega) (by omega)).mpr q9)
            refine lv_goto (tgt := 46) hx hb dX1_bestLimit_37 (by decide) ?_
            have e9_3 : nI ((bstF (fun j => sAn (upd S 0 (nI j)) Hd) (k + 1)).2) = nI ((bstF (fun j => sAn (upd S 0 (nI j)) Hd) k).2) := (by rw [bstF_2]; exact congrArg nI (by omega))
            have hl : lv_has ls 6 [(5, .int (nI (sAn (upd S 0 (nI (k + 1))) Hd))), (4, .int (nI (k + 1))), (3, .int (nI ((bstF (fun j => sAn (upd S 0 (nI j)) Hd) (k + 1)).2))), (2, .int (nI ((bstF (fun j => sAn (upd S 0 (nI j)) Hd) k).1))), (1, .ref (b 0)), (0, .ref (g 0))] := by rw [e9_3]; exact hl
            have e9_2 : nI ((bstF (fun j => sAn (upd S 0 (nI j)) Hd) (k + 1)).1) = nI ((bstF (fun j => sAn (upd S 0 (nI j)) Hd) k).1) := (by rw [bstF]; exact congrArg nI (by first | rw [if_pos (show (bstF (fun j => sAn (upd S 0 (nI j)) Hd) k).2 < sAn (upd S 0 (nI (k + 1))) Hd from by omega)] | rw [if_neg (show ¬ (bstF (fun j => sAn (upd S 0 (nI j)) Hd) k).2 < sAn (upd S 0 (nI (k + 1))) Hd from by omega)]))
            have hl : lv_has ls 6 [(5, .int (nI (sAn (upd S 0 (nI (k + 1))) Hd))), (4, .int (nI (k + 1))), (3, .int (nI ((bstF (fun j => sAn (upd S 0 (nI j)) Hd) (k + 1)).2))), (2, .int (nI ((bstF (fun j => sAn (upd S 0 (nI j)) Hd) (k + 1)).1))), (1, .ref (b 0)), (0, .ref (g 0))] := by rw [e9_2]; exact hl
            refine W.widen (k := 129 + 128 * (k + 1)) (n := 913 + 907 * (k + 1)) (by omega) (by omega) ?_
            refine lv_iinc (v := nI (k + 1 + 1)) (lv' := [(4, .int (nI (k + 1 + 1))), (5, .int (nI (sAn (upd S 0 (nI (k + 1))) Hd))), (3, .int (nI ((bstF (fun j => sAn (upd S 0 (nI j)) Hd) (k + 1)).2))), (2, .int (nI ((bstF (fun j => sAn (upd S 0 (nI j)) Hd) (k + 1)).1))), (1, .ref (b 0)), (0, .ref (g 0))]) hx hb dX1_bestLimit_46 hl (k := 1) rfl (nI_add _ 1) (by decide) rfl (fun ls hl => ?_)
            refine lv_goto (tgt := 16) hx hb dX1_bestLimit_49 (by decide) ?_
            exact ih16 (k + 1) (by omega) (by omega) _ _ hz hS ls (lv_sub hl [0, 2, 3, 4, 5] rfl)
    exact lp16 9 0 (by omega) (by omega) _ _ hz hS ls (lv_sub hl [0, 1, 2, 3, 4] rfl)
  · have hz := Nat.le_trans hz hz9
    obtain ⟨h9, rfl⟩ := hP9
    exact hthr _ _ _ _ _ _ _ _ _ _ (thX (L1 := [(lo (n 1), 1)]) (L2 := []) (nm' := nmA) h9 rfl (by first | rfl | (rw [thC_n1 h9]; try rfl))) hS (by omega) (by omega) hce hcv hcl
end API9
