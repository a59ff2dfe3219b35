set_option maxRecDepth 100000
section API10
variable {p : Program} {l : Launch} {e : Env} {R : Room} {s : State} {m : MethodId} {args : Array Value} {below : List Frame} {meth : Method} {c : Code} {H : Heap} {locs : List Loc} {Q : State → Prop}
variable {cc : ByteArray} {pc nL : Nat} {ls : Array Slot} {rest : List Value} {dC : Nat → ClassId} {dI : Nat → Nat → Nat} {dA : Nat → ClassId} {a : Nat → Nat} {M : Nat → Nat → Int32} {H0 : Heap}

/-- the sums tried so far: the best, its count, the office's state -/
def bI (S Hd : Nat → Int32) (b k : Nat) : Nat := if k = 0 then 0 else (bstF (dIn S Hd b) (k - 1)).1
def bV (S Hd : Nat → Int32) (b k : Nat) : Int32 := if k = 0 then -1 else nI (bstF (dIn S Hd b) (k - 1)).2
def sK (S : Nat → Int32) (b k : Nat) : Nat → Int32 := if k = 0 then S else upd S (3 + b) (nI (k - 1))
theorem sK_1 {S : Nat → Int32} {b k : Nat} : sK S b (k + 1) = upd S (3 + b) (nI k) := by
  show (if k + 1 = 0 then S else upd S (3 + b) (nI (k + 1 - 1))) = _
  rw [if_neg (Nat.succ_ne_zero k)]
  rfl
theorem sK_s {S : Nat → Int32} {b k : Nat} : upd (sK S b k) (3 + b) (nI k) = sK S b (k + 1) := by
  rw [sK_1]
  unfold sK
  by_cases h : k = 0
  · rw [if_pos h]
  · rw [if_neg h]
    funext j
    unfold upd
    by_cases e : j = 3 + b
    · rw [if_pos e, if_pos e]
    · rw [if_neg e, if_neg e, if_neg e]
theorem bV_s {S Hd : Nat → Int32} {b k : Nat} : bV S Hd b (k + 1) = nI (bstF (dIn S Hd b) k).2 := by
  show (if k + 1 = 0 then -1 else nI (bstF (dIn S Hd b) (k + 1 - 1)).2) = _
  rw [if_neg (Nat.succ_ne_zero k)]
  rfl
theorem bI_s {S Hd : Nat → Int32} {b k : Nat} : bI S Hd b (k + 1) = (bstF (dIn S Hd b) k).1 := by
  show (if k + 1 = 0 then 0 else (bstF (dIn S Hd b) (k + 1 - 1)).1) = _
  rw [if_neg (Nat.succ_ne_zero k)]
  rfl
theorem dIn_cls {S Hd : Nat → Int32} {b k : Nat} (hb : b < 6) : cntN (fun o => decide (lr (sK S b (k + 1)) o 5 = nI b) && (dcd (sK S b (k + 1)) Hd o).isSome) (ln S) = dIn S Hd b k := by
  rw [sK_1]
  exact cntN_congr (fun o _ => by
    have : lr (upd S (3 + b) (nI k)) o 5 = lr S o 5 := upd_ne (by omega)
    rw [this])
theorem bV_hit {S Hd : Nat → Int32} {b k : Nat} (h : bV S Hd b k < nI (dIn S Hd b k)) (h8 : ∀ j, dIn S Hd b j ≤ 24) : bV S Hd b (k + 1) = nI (dIn S Hd b k) ∧ bI S Hd b (k + 1) = k := by
  rw [bV_s, bI_s]
  match k, h with
  | 0, h => exact ⟨rfl, rfl⟩
  | k + 1, h =>
    rw [bV_s] at h
    have h1 := (bstF_le h8 k).1
    have h2 := h8 (k + 1)
    have h3 := (nI_ltI (by omega) (by omega)).mp h
    rw [bstF, if_pos h3]
    exact ⟨rfl, rfl⟩
theorem bV_mis {S Hd : Nat → Int32} {b k : Nat} (h : ¬ bV S Hd b k < nI (dIn S Hd b k)) (h8 : ∀ j, dIn S Hd b j ≤ 24) : bV S Hd b (k + 1) = bV S Hd b k ∧ bI S Hd b (k + 1) = bI S Hd b k := by
  rw [bV_s, bI_s]
  match k, h with
  | 0, h =>
    exfalso
    apply h
    show (-1 : Int32) < _
    rw [Int32.lt_iff_toInt_lt, nI_toInt (by have := h8 0; omega)]
    have : (-1 : Int32).toInt = -1 := by decide
    omega
  | k + 1, h =>
    rw [bV_s] at h ⊢
    rw [bI_s]
    have h1 := (bstF_le h8 k).1
    have h2 := h8 (k + 1)
    have h3 : ¬ (bstF (dIn S Hd b) k).2 < dIn S Hd b (k + 1) := fun q => h ((nI_ltI (by omega) (by omega)).mpr q)
    rw [bstF, if_neg h3]
    exact ⟨rfl, rfl⟩
set_option maxHeartbeats 4000000 in
theorem c_X1_sumFor (l : Launch) (dC : Nat → ClassId) (dI : Nat → Nat → Nat) (dA : Nat → ClassId) (g : Nat → Nat) (b : Nat → Nat) (mc : Nat → Int32) (S : Nat → Int32) (Hd : Nat → Int32) (n : Nat → Int32) (sz : Nat) (cs : Nat → ClassId) (hs : Nat) (x : Int32) (hS1 : SWf S) (hT : TWf Hd) (hJ : offJ b (ln S) (tn Hd)) (hsz : sz ≤ hs) (hfl : l.stackTraces = false) : vx_Met l yX1_sumFor (ws_ yX1_sumFor cX1_sumFor 7 (some (.int))) (rmD 51 (100) (500)) (gPx [.ref (g 0), .int x] (fun U H => AY dC dI dA g b mc S Hd n sz cs U H) hs dC dI dA) (gQ hs (fun _ => False) (fun v H => v = some (.int (nI (bstF (dIn S Hd x.toNatClampNeg) 9).1)) ∧ thC [(lo (n 1), 1), (inZ x.toInt 0 5, 2)] = 0)) (gX hs (fun _ => False) (fun E q H => ¬ thC [(lo (n 1), 1), (inZ x.toInt 0 5, 2)] = 0 ∧ E = nmA (thC [(lo (n 1), 1), (inZ x.toInt 0 5, 2)]))) (100) (500) (gF (fun _ => False) hs) := by
  refine l_meti (own := RX1) (by decide) rfl (Nat.le_of_ble_eq_true rfl) fun p e R s m args below meth c Q SF rk hRR hX hK hin hnm hE hret hthr hQ ls hl => ?_
  have hx := SF.1
  have hb := SF.2.1
  have hml := SF.2.2.1
  have hown := SF.2.2.2.1
  have hts := SF.2.2.2.2
  have hz0 := hX.2
  have hz : hs ≤ s.heap.size := Nat.le_of_eq hX.2.symm
  have hX := hX.1
  have hRc := hRR.1
  have hRs := hRR.2
  have gFs : ∀ q : Nat, s.heap.size ≤ q → gF (fun _ => False) hs q := fun q h => Or.inr (hz0 ▸ h)
  have hS : va_S (gF (fun _ => False) hs) s.heap s.heap [] := va_S.rf
  have hl : lv_has ls 7 [(0, .ref (g 0)), (1, .int x)] := hl
  have hF := hX.2.1
  have hLE := hX.2.2.1
  have hWt := hX.2.2.2
  have hX := hX.1
  have hEN := hX.2.2
  have hCE := hEN.1
  have hAz : ∀ q, gF (fun _ => False) hs q → sz ≤ q := fun q h => h.elim (fun e => e.elim) (fun h => Nat.le_trans hsz h)
  obtain ⟨nv, hP0⟩ := AX.ob hX
  have hL := hS1.2.1
  have hn9 := hT.2.1
  refine g_new (ci := 1) (fs := [.null, .null, .null, .null, .null, .null, .null, .int 0, .int 0, .int 0]) (C := RX5) (T := TX5) (N := 10) hx hb hts in_X5 tyX5 tyX5_ok hown (hts _ q181) (hts _ q790) (hts _ q139) hK hS rfl (fun j hj => by rcases (show j = 0 ∨ j = 1 ∨ j = 2 ∨ j = 3 ∨ j = 4 ∨ j = 5 ∨ j = 6 ∨ j = 7 ∨ j = 8 ∨ j = 9 by omega) with rfl | rfl | rfl | rfl | rfl | rfl | rfl | rfl | rfl | rfl <;> rfl) (by omega) (by omega) dX1_sumFor_0 (fun q1 H heq9 hq1 hz9 oq hS => ?_)
  have hge_q1 : hs ≤ q1 := by omega
  have hz : hs ≤ H.size := by omega
  refine lv_dup hx hb dX1_sumFor_3 rfl ?_
  refine lv_aload_n hx hb dX1_sumFor_4 rfl (lv_at hl 0 rfl) ?_
  refine lv_iload_n hx hb dX1_sumFor_5 rfl (lv_at hl 1 rfl) ?_
  refine g_runX (v_rV (C := RX1) (As := [.int x]) SF hK (d := 7) (rk.le (Nat.le_of_ble_eq_true rfl)) (c_X1_withBundle l dC dI dA g b mc S Hd n sz H.size x (show sz ≤ H.size by omega) hfl) (lw_V q1574 q1576 qs35 q112 q1577) (n := 1) (by decide +kernel) rfl (by decide) (g_recv hK (hP0.at hS hz0 (fun h => h)) (ci := 0) rfl) (XOK.hs (XOK.hp.and (XOK.hp.and EN.ok))) (⟨AX.at hX hS hz0 hsz, rfl⟩) hl.1 (Nat.le_of_ble_eq_true rfl) ⟨(by omega), (by omega)⟩ rfl dX1_sumFor_6) rfl hS (fun _ h => h.elim) gFs (fun v9 H locs hP9 hz9 oq hS => ?_) (fun E q9 ce H locs hP9 hz9 oq hS hce hcv hcl => ?_)
  · obtain ⟨rfl, hlo, hok1⟩ := hP9
    have hq1 := hq1.stay oq (fun h => h)
    have hz := Nat.le_trans hz hz9
    refine W.eq (g2 := F0 m 9 ls [.ref (b 0), .ref q1, .ref q1]) rfl ?_
    have hn1 := lo_n hlo
    obtain ⟨hP1, hO⟩ := hX.2.1 hn1
    obtain ⟨b9, ht_b9, htb_b9, rfl⟩ := inZ_n hok1
    have hcl_b9 : (nI b9).toNatClampNeg = b9 := nI_clamp htb_b9
    obtain ⟨hv, ehv⟩ : ∃ z, z = H.size := ⟨_, rfl⟩
    have hql : q1 < hv := ehv ▸ hq1.lt
    have hfl9 : ∀ k, useK (ln S) (tn Hd) k → b k < hs := fun k hk => hz0 ▸ fam_lt hO hn9 hL k hk
    refine g_run (g_rI (As := [.ref (b 0)]) SF hK (d := 4) (rk.le (Nat.le_of_ble_eq_true rfl)) (c_X5_init_2 l dC dI dA q1 b mc S Hd sz hv hS1 hT (by omega) (by omega) (fun k hk => Nat.ne_of_lt (Nat.lt_of_lt_of_le (hfl9 k hk) hge_q1))) q139 q1653 q1654 q1655 rfl (n := 1) (by decide +kernel) rfl (by decide) (XOK.hs (XOK.hp.and (XOK.hp.and EN.ok))) (⟨⟨hq1, hO.at hS hz0 (fun _ _ h => h), hEN.at hS hAz⟩, ehv.symm⟩) hl.1 (Nat.le_of_ble_eq_true rfl) ⟨(by omega), (by omega)⟩ rfl dX1_sumFor_9) ehv.symm hS (fun z e => Or.inr (e ▸ hge_q1)) gFs (fun v9 H locs hP9 hz9 oq hS => ?_)
    obtain ⟨rfl, hO2, hz2⟩ := hP9
    have hz := Nat.le_trans hz hz9
    refine W.eq (g2 := F0 m 12 ls [.ref q1]) rfl ?_
    obtain ⟨b2, hb2⟩ : ∃ b2 : Nat → Nat, b2 = bN q1 hv b := ⟨_, rfl⟩
    rw [← hb2] at hO2
    have hJ2 : offJ b2 (ln S) (tn Hd) := by rw [hb2]; exact bN_J hn9 hL hJ hql (fun k hk => ⟨Nat.lt_of_lt_of_le (hfl9 k (by unfold useK; omega)) (by omega), Nat.ne_of_lt (Nat.lt_of_lt_of_le (hfl9 k (by unfold useK; omega)) hge_q1)⟩)
    have hob2 : ∀ k, ownK (ln S) k → hs ≤ b2 k := fun k hk => by rw [hb2]; rcases bN_own (x := q1) (hs := hv) (b := b) hk hL with e | e <;> omega
    have eb : q1 = b2 0 := by rw [hb2]; rfl
    rw [eb]
    have hOold := hO
    have hJold := hJ
    have hO := hO2
    have hJ := hJ2
    have hsw : ∀ k, k ≤ 10 → SWf (sK S b9 k) := fun k hk => by
      unfold sK
      split
      · exact hS1
      · exact SWf_low hS1 (by omega) (by omega)
    have hs8 : ∀ j, dIn S Hd b9 j ≤ 24 := fun j => Nat.le_trans (cntN_le _ _) hL
    refine lv_astore_n (lv' := [(2, .ref (b2 0)), (0, .ref (g 0)), (1, .int (nI b9))]) hx hb dX1_sumFor_12 rfl hl (by decide) rfl (fun ls hl => ?_)
    refine lv_iconst (v := nI 0) hx hb dX1_sumFor_13 (by decide) ?_
    refine lv_istore_n (lv' := [(3, .int (nI 0)), (2, .ref (b2 0)), (0, .ref (g 0)), (1, .int (nI b9))]) hx hb dX1_sumFor_14 rfl hl (by decide) rfl (fun ls hl => ?_)
    refine lv_iconst (v := (-1)) hx hb dX1_sumFor_15 (by decide) ?_
    refine lv_istore (lv' := [(4, .int (-1)), (3, .int (nI 0)), (2, .ref (b2 0)), (0, .ref (g 0)), (1, .int (nI b9))]) hx hb dX1_sumFor_16 hl (by decide) rfl (fun ls hl => ?_)
    refine lv_iconst (v := nI 0) hx hb dX1_sumFor_18 (by decide) ?_
    refine lv_istore (lv' := [(5, .int (nI 0)), (4, .int (-1)), (3, .int (nI 0)), (2, .ref (b2 0)), (0, .ref (g 0)), (1, .int (nI b9))]) hx hb dX1_sumFor_19 hl (by decide) rfl (fun ls hl => ?_)
    have lp21 : ∀ (k0 : Nat) (k : Nat), k ≤ 10 → 10 < k + k0 → ∀ (H : Heap) (locs : List Loc), famP dC dI b2 (offE b2 dA (mcN mc S) (sK S b9 k) Hd) H → ln (sK S b9 k) = ln S → hs ≤ H.size → va_S (gF (fun _ => False) hs) s.heap H locs → ∀ ls : Array Slot, lv_has ls 7 [(5, .int (nI k)), (4, .int (bV S Hd b9 k)), (3, .int (nI (bI S Hd b9 k))), (2, .ref (b2 0)), (0, .ref (g 0)), (1, .int (nI b9))] → W p l e R s m args below meth c H locs (58 + 3 * k) (343 + 12 * k) Q (F0 m 21 ls []) := by
      intro k0
      induction k0 with
      | zero =>
        intro k hk1 hk2; omega
      | succ k0 ih =>
        intro k hk1 hk2 H locs hO hln hz hS ls hl
        have ih21 := ih
        refine lv_iload hx hb dX1_sumFor_21 (lv_at hl 0 rfl) ?_
        refine lv_bipush (v := nI 10) hx hb dX1_sumFor_23 (by decide) ?_
        refine lv_icmp_ge (tgt := 67) hx hb dX1_sumFor_25 (by decide) (fun c_25 => ?_) (fun c_25 => ?_)
        · have c_25 : 10 ≤ k := (nI_leI (a := 10) (b := k) (by omega) (by omega)).mp c_25
          refine lv_iload_n hx hb dX1_sumFor_67 rfl (lv_at hl 2 rfl) ?_
          exact hret _ _ _ _ _ _ _ (⟨by rw [hcl_b9, show k = 10 by omega]; rfl, by simp [thC, hlo, hok1]⟩) hS (by omega) (by omega) dX1_sumFor_68
        · have c_25 : ¬ (10 ≤ k) := fun q9 => c_25 ((nI_leI (a := 10) (b := k) (by omega) (by omega)).mpr q9)
          refine lv_aload_n hx hb dX1_sumFor_28 rfl (lv_at hl 3 rfl) ?_
          refine va_getN (D := (dC, dI)) (ci := 1) (v := .ref (b2 5)) (C := RX5) (T := TX5) (N := 10) hx hb hts in_X5 hown hK (hO 0 _ rfl) 0 rfl rfl 2 (by decide) (va_Nw.use rfl (hCE.1 4 (by decide))) (fun _ h9 => h9) rfl dX1_sumFor_29 ?_
          refine lv_iload_n hx hb dX1_sumFor_32 rfl (lv_at hl 5 rfl) ?_
          refine lv_iload hx hb dX1_sumFor_33 (lv_at hl 0 rfl) ?_
          refine o_ia5 SF hK hO (by rw [hln]; exact hJ) hS (Or.inr (hob2 _ (by unfold ownK; omega))) (by omega) dX1_sumFor_35 (fun H locs hO hz9 oq hS => ?_)
          have hln : ln (upd (sK S b9 k) (3 + b9) (nI k)) = ln S := (ln_upd (by omega)).trans hln
          have hz := Nat.le_trans hz (Nat.le_of_eq hz9.symm)
          rw [sK_s] at hO hln
          refine lv_aload_n hx hb dX1_sumFor_36 rfl (lv_at hl 4 rfl) ?_
          refine lv_aload_n hx hb dX1_sumFor_37 rfl (lv_at hl 3 rfl) ?_
          refine lv_iload_n hx hb dX1_sumFor_38 rfl (lv_at hl 5 rfl) ?_
          refine g_runX (v_rV (C := RX1) (As := [.ref (b2 0), .int (nI b9)]) SF hK (d := 50) (rk.le (Nat.le_of_ble_eq_true rfl)) (c_X1_decidedIn l dC dI dA g b mc S Hd n sz b2 (mcN mc S) (sK S b9 (k + 1)) Hd cs H.size (nI b9) hS1 hT (hsw (k + 1) (by omega)) hT hln (by omega)) (lw_V q1681 q1683 qs42 q112 q1684) (n := 2) (by decide +kernel) rfl (by decide) (g_recv hK (hP1.at hS hz0 (fun h => h)) (ci := 0) rfl) (XOK.hs ((XOK.hp.and (XOK.hp.and (XOK.hp.and (CE.ok.and (FT9.ok.and LE.ok))))).and EN.ok)) (⟨⟨⟨hP1.at hS hz0 (fun h => h), hOold.at hS hz0 (fun _ _ h => h), hO, hCE, hF, hLE⟩, hEN.at hS hAz⟩, rfl⟩) hl.1 (Nat.le_of_ble_eq_true rfl) ⟨(by omega), (by omega)⟩ rfl dX1_sumFor_39) rfl hS (fun _ h => h.elim) gFs (fun v9 H locs hP9 hz9 oq hS => ?_) (fun E q9 ce H locs hP9 hz9 oq hS hce hcv hcl => ?_)
          · obtain ⟨rfl⟩ := hP9
            have hz := Nat.le_trans hz hz9
            refine W.eq (g2 := F0 m 42 ls [.int (nI (cntN (fun o => decide (lr (sK S b9 (k + 1)) o 5 = (nI b9)) && (dcd (sK S b9 (k + 1)) Hd o).isSome) (ln S)))]) rfl ?_
            have hO := hO.stay oq (fun _ _ h => h)
            refine u_top (y := nI (dIn S Hd b9 k)) (congrArg nI (dIn_cls (by omega))) ?_
            refine lv_istore (lv' := [(6, .int (nI (dIn S Hd b9 k))), (5, .int (nI k)), (4, .int (bV S Hd b9 k)), (3, .int (nI (bI S Hd b9 k))), (2, .ref (b2 0)), (0, .ref (g 0)), (1, .int (nI b9))]) hx hb dX1_sumFor_42 hl (by decide) rfl (fun ls hl => ?_)
            refine lv_iload hx hb dX1_sumFor_44 (lv_at hl 0 rfl) ?_
            refine lv_iload hx hb dX1_sumFor_46 (lv_at hl 2 rfl) ?_
            refine lv_icmp_gt (tgt := 54) hx hb dX1_sumFor_48 (by decide) (fun c_48 => ?_) (fun c_48 => ?_)
            · refine lv_iload hx hb dX1_sumFor_54 (lv_at hl 0 rfl) ?_
              refine lv_istore (lv' := [(4, .int (nI (dIn S Hd b9 k))), (6, .int (nI (dIn S Hd b9 k))), (5, .int (nI k)), (3, .int (nI (bI S Hd b9 k))), (2, .ref (b2 0)), (0, .ref (g 0)), (1, .int (nI b9))]) hx hb dX1_sumFor_56 hl (by decide) rfl (fun ls hl => ?_)
              refine lv_iload hx hb dX1_sumFor_58 (lv_at hl 2 rfl) ?_
              refine lv_istore_n (lv' := [(3, .int (nI k)), (4, .int (nI (dIn S Hd b9 k))), (6, .int (nI (dIn S Hd b9 k))), (5, .int (nI k)), (2, .ref (b2 0)), (0, .ref (g 0)), (1, .int (nI b9))]) hx hb dX1_sumFor_60 rfl hl (by decide) rfl (fun ls hl => ?_)
              have e9_4 : bV S Hd b9 (k + 1) = nI (dIn S Hd b9 k) := (bV_hit c_48 hs8).1
              have hl : lv_has ls 7 [(3, .int (nI k)), (4, .int (bV S Hd b9 (k + 1))), (6, .int (nI (dIn S Hd b9 k))), (5, .int (nI k)), (2, .ref (b2 0)), (0, .ref (g 0)), (1, .int (nI b9))] := by rw [e9_4]; exact hl
              have e9_3 : nI (bI S Hd b9 (k + 1)) = nI k := (congrArg nI (bV_hit c_48 hs8).2)
              have hl : lv_has ls 7 [(3, .int (nI (bI S Hd b9 (k + 1)))), (4, .int (bV S Hd b9 (k + 1))), (6, .int (nI (dIn S Hd b9 k))), (5, .int (nI k)), (2, .ref (b2 0)), (0, .ref (g 0)), (1, .int (nI b9))] := by rw [e9_3]; exact hl
              refine W.widen (k := 58 + 3 * (k + 1)) (n := 343 + 12 * (k + 1)) (by omega) (by omega) ?_
              refine lv_iinc (v := nI (k + 1)) (lv' := [(5, .int (nI (k + 1))), (3, .int (nI (bI S Hd b9 (k + 1)))), (4, .int (bV S Hd b9 (k + 1))), (6, .int (nI (dIn S Hd b9 k))), (2, .ref (b2 0)), (0, .ref (g 0)), (1, .int (nI b9))]) hx hb dX1_sumFor_61 hl (k := 3) rfl (nI_add _ 1) (by decide) rfl (fun ls hl => ?_)
              refine lv_goto (tgt := 21) hx hb dX1_sumFor_64 (by decide) ?_
              exact ih21 (k + 1) (by omega) (by omega) _ _ hO hln hz hS ls (lv_sub hl [0, 2, 1, 4, 5, 6] rfl)
            · refine lv_goto (tgt := 61) hx hb dX1_sumFor_51 (by decide) ?_
              have e9_4 : bV S Hd b9 (k + 1) = bV S Hd b9 k := (bV_mis (fun q => c_48 q) hs8).1
              have hl : lv_has ls 7 [(6, .int (nI (dIn S Hd b9 k))), (5, .int (nI k)), (4, .int (bV S Hd b9 (k + 1))), (3, .int (nI (bI S Hd b9 k))), (2, .ref (b2 0)), (0, .ref (g 0)), (1, .int (nI b9))] := by rw [e9_4]; exact hl
              have e9_3 : nI (bI S Hd b9 (k + 1)) = nI (bI S Hd b9 k) := (congrArg nI (bV_mis (fun q => c_48 q) hs8).2)
              have hl : lv_has ls 7 [(6, .int (nI (dIn S Hd b9 k))), (5, .int (nI k)), (4, .int (bV S Hd b9 (k + 1))), (3, .int (nI (bI S Hd b9 (k + 1)))), (2, .ref (b2 0)), (0, .ref (g 0)), (1, .int (nI b9))] := by rw [e9_3]; exact hl
              refine W.widen (k := 58 + 3 * (k + 1)) (n := 343 + 12 * (k + 1)) (by omega) (by omega) ?_
              refine lv_iinc (v := nI (k + 1)) (lv' := [(5, .int (nI (k + 1))), (6, .int (nI (dIn S Hd b9 k))), (4, .int (bV S Hd b9 (k + 1))), (3, .int (nI (bI S Hd b9 (k + 1)))), (2, .ref (b2 0)), (0, .ref (g 0)), (1, .int (nI b9))]) hx hb dX1_sumFor_61 hl (k := 1) rfl (nI_add _ 1) (by decide) rfl (fun ls hl => ?_)
              refine lv_goto (tgt := 21) hx hb dX1_sumFor_64 (by decide) ?_
              exact ih21 (k + 1) (by omega) (by omega) _ _ hO hln hz hS ls (lv_sub hl [0, 2, 3, 4, 5, 6] rfl)
          · have hz := Nat.le_trans hz hz9
            exact hP9.elim
    exact lp21 11 0 (by omega) (by omega) _ _ hO rfl hz hS ls (lv_sub hl [0, 1, 2, 3, 4, 5] rfl)
  · have hz := Nat.le_trans hz hz9
    obtain ⟨h9, rfl⟩ := hP9
    exact hthr _ _ _ _ _ _ _ _ _ _ (thX (L1 := [(lo (n 1), 1), (inZ x.toInt 0 5, 2)]) (L2 := []) (nm' := nmA) h9 rfl rfl) hS (by omega) (by omega) hce hcv hcl
end API10
