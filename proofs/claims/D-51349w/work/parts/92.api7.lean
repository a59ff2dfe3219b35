set_option maxRecDepth 100000
section API7
variable {p : Program} {l : Launch} {e : Env} {R : Room} {s : State} {m : MethodId} {args : Array Value} {below : List Frame} {meth : Method} {c : Code} {H : Heap} {locs : List Loc} {Q : State → Prop}
variable {cc : ByteArray} {pc nL : Nat} {ls : Array Slot} {rest : List Value} {dC : Nat → ClassId} {dI : Nat → Nat → Nat} {dA : Nat → ClassId} {a : Nat → Nat} {M : Nat → Nat → Int32} {H0 : Heap}

theorem many9 {S S2 Hd2 : Nat → Int32} {z : Int32} : ∀ n, cntN (fun o => allN (fun j => tf S S2 Hd2 ((fun _ => 9) j) ((fun _ => z) j) o) 1) n = 0
  | 0 => rfl
  | n + 1 => by rw [cntN, many9 n]; rfl
theorem t_dI {S S2 Hd2 : Nat → Int32} {z : Int32} {o : Nat} : (tf S S2 Hd2 10 z o && tf S S2 Hd2 11 (nI 0) o) = (decide (lr S2 o 5 = z) && (dcd S2 Hd2 o).isSome) := rfl
set_option maxHeartbeats 4000000 in
theorem c_X1_gap (l : Launch) (dC : Nat → ClassId) (dI : Nat → Nat → Nat) (dA : Nat → ClassId) (g : Nat → Nat) (b : Nat → Nat) (mc : Nat → Int32) (S : Nat → Int32) (Hd : Nat → Int32) (n : Nat → Int32) (sz : Nat) (cs : Nat → ClassId) (hs : Nat) (hS1 : SWf S) (hT : TWf Hd) (hsz : sz ≤ hs) (hfl : l.stackTraces = false) : vx_Met l yX1_gap (ws_ yX1_gap cX1_gap 4 (some (.int))) (rmD 50 (6) (40)) (gPx [.ref (g 0)] (fun U H => AY dC dI dA g b mc S Hd n sz cs U H) hs dC dI dA) (gQ hs (fun _ => False) (fun v H => v = some (.int (gapR S Hd 6)) ∧ thC [(lo (n 1), 1)] = 0)) (gX hs (fun _ => False) (fun E q H => ¬ thC [(lo (n 1), 1)] = 0 ∧ E = nmA (thC [(lo (n 1), 1)]))) (6) (40) (gF (fun _ => False) hs) := by
  refine l_meti (own := RX1) (by decide) rfl (Nat.le_of_ble_eq_true rfl) fun p e R s m args below meth c Q SF rk hRR hX hK hin hnm hE hret hthr hQ ls hl => ?_
  have hx := SF.1
  have hb := SF.2.1
  have hml := SF.2.2.1
  have hown := SF.2.2.2.1
  have hts := SF.2.2.2.2
  have hz0 := hX.2
  have hz : hs ≤ s.heap.size := Nat.le_of_eq hX.2.symm
  have hX := hX.1
  have hRc := hRR.1
  have hRs := hRR.2
  have gFs : ∀ q : Nat, s.heap.size ≤ q → gF (fun _ => False) hs q := fun q h => Or.inr (hz0 ▸ h)
  have hS : va_S (gF (fun _ => False) hs) s.heap s.heap [] := va_S.rf
  have hl : lv_has ls 4 [(0, .ref (g 0))] := hl
  have hF := hX.2.1
  have hLE := hX.2.2.1
  have hWt := hX.2.2.2
  have hX := hX.1
  have hEN := hX.2.2
  have hCE := hEN.1
  have hAz : ∀ q, gF (fun _ => False) hs q → sz ≤ q := fun q h => h.elim (fun e => e.elim) (fun h => Nat.le_trans hsz h)
  obtain ⟨nv, hP0⟩ := AX.ob hX
  have hL := hS1.2.1
  have hn9 := hT.2.1
  have hs12 := sts_12 S
  refine lv_aload_n hx hb dX1_gap_0 rfl (lv_at hl 0 rfl) ?_
  refine g_runX (v_rV (C := RX1) (As := []) SF hK (d := 6) (rk.le (Nat.le_of_ble_eq_true rfl)) (c_X1_office l dC dI dA g b mc S Hd n sz s.heap.size (show sz ≤ s.heap.size by omega) hfl) (lw_V q1312 q1314 qs25 q112 q1315) (n := 0) (by decide +kernel) rfl (by decide) (g_recv hK (hP0.at hS hz0 (fun h => h)) (ci := 0) rfl) (XOK.hs (XOK.hp.and (XOK.hp.and EN.ok))) (⟨AX.at hX hS hz0 hsz, rfl⟩) hl.1 (Nat.le_of_ble_eq_true rfl) ⟨(by omega), (by omega)⟩ rfl dX1_gap_1) rfl hS (fun _ h => h.elim) gFs (fun v9 H locs hP9 hz9 oq hS => ?_) (fun E q9 ce H locs hP9 hz9 oq hS hce hcv hcl => ?_)
  · obtain ⟨rfl, hlo⟩ := hP9
    have hz := Nat.le_trans hz hz9
    refine W.eq (g2 := F0 m 4 ls [.ref (b 0)]) rfl ?_
    have hn1 := lo_n hlo
    obtain ⟨hP1, hO⟩ := hX.2.1 hn1
    refine lv_astore_n (lv' := [(1, .ref (b 0)), (0, .ref (g 0))]) hx hb dX1_gap_4 rfl hl (by decide) rfl (fun ls hl => ?_)
    refine lv_aload_n hx hb dX1_gap_5 rfl (lv_at hl 1 rfl) ?_
    refine lv_iconst (v := nI 1) hx hb dX1_gap_6 (by decide) ?_
    refine g_newq (N' := 1) (t0 := 7) hx hb hown (hts _ q1335) (hEN.2.2.2.2 2 (by decide)) hK hS rfl (by omega) (by omega) (by omega) dX1_gap_7 (fun q0 H heq9 hq0 hz9 oq hS => ?_)
    have hge_q0 : hs ≤ q0 := by omega
    have hz : hs ≤ H.size := by omega
    refine lv_dup hx hb dX1_gap_10 rfl ?_
    refine lv_iconst (v := nI 0) hx hb dX1_gap_11 (by decide) ?_
    refine lv_aload_n hx hb dX1_gap_12 rfl (lv_at hl 1 rfl) ?_
    refine lv_aload_n hx hb dX1_gap_13 rfl (lv_at hl 0 rfl) ?_
    refine w_lam (T := #[.object "BadCodes", .object "BadCodes$Office"]) (vals := [.ref (g 0), .ref (b 0)]) hx hb (hl.1.trans hml.symm) rfl hnm hLE.2.2.2.2.2.2.2.2.2.1 (hts _ q2607) laT9 rfl lam_fit3 rfl rfl (Nat.le_trans (Nat.le_of_ble_eq_true rfl) rk.2) (by omega) (by show _ + 2 ≤ _; omega) dX1_gap_14 hS (fun q1 H heq9 hq1 hz9 oq hS => ?_)
    have hge_q1 : hs ≤ q1 := by omega
    have ne_q0_q1 : q0 ≠ q1 := Nat.ne_of_lt (Nat.lt_of_lt_of_eq hq0.lt heq9.symm)
    have hq0 := hq0.made oq
    have hz : hs ≤ H.size := by omega
    have hq1 : lamP (cs 9) [.ref (g 0), .ref (b 0)] q1 H := hq1
    refine W.eq (g2 := F0 m 19 ls [.ref q1, .int (nI 0), .ref q0, .ref q0, .ref (g 0)]) rfl ?_
    show W p l e R s m args below meth c H locs (((0 + 1) + 1) + 1) (((0 + 6) + 1) + 2) Q (F0 m 19 ls [.ref q1, .int (nI 0), .ref q0, .ref q0, .ref (g 0)])
    refine g_aastL hx hb hK hq0 hS (Or.inr hge_q0) (t0 := 7) rfl (LM.kls hLE.2.2.2.2.2.2.2.2.2.1) (LM.asg hLE.2.2.2.2.2.2.2.2.2.1 laN9.2.2.2.2.1) hq1 (i := 0) (by omega) (by decide) dX1_gap_19 (fun H locs hq0 hz9 oq hS => ?_)
    have hq1 := hq1.kept (oq _ (Ne.symm ne_q0_q1))
    have hz := Nat.le_trans hz (Nat.le_of_eq hz9.symm)
    refine u_run (x_rV (C := RX1) (As := [.ref q0]) SF hK (d := 14) (rk.le (Nat.le_of_ble_eq_true rfl)) (c_X1_many l dC dI dA g b mc S Hd n b mc S Hd cs q0 1 (fun _ => 9) (fun _ => q1) (fun _ => nI 0) (by decide) hS1 hT hS1 hT rfl) (lw_V q1340 q1342 qs26 q112 q1343) (n := 1) (by decide +kernel) rfl (by decide) (g_recv hK (hP1.at hS hz0 (fun h => h)) (ci := 0) rfl) ((XOK.hp.and (XOK.hp.and (XOK.hp.and (CE.ok.and (FT9.ok.and LE.ok))))).and XOK.hp) (⟨⟨hP1.at hS hz0 (fun h => h), hO.at hS hz0 (fun _ _ h => h), hO.at hS hz0 (fun _ _ h => h), hCE, hF, hLE⟩, TSA.mk1 (i := 9) (z := nI 0) hq0 (by decide) hq1 (fun h => absurd h (by decide))⟩) hl.1 (Nat.le_of_ble_eq_true rfl) ⟨(by omega), (by omega)⟩ rfl dX1_gap_20) ?_
    refine u_top (y := nI (cntN (fun o => allN (fun j => tf S S Hd ((fun _ => 9) j) ((fun _ => nI 0) j) o) 1) (ln S))) rfl ?_
    refine u_top (y := nI 0) (congrArg nI (many9 _)) ?_
    refine lv_aload_n hx hb dX1_gap_23 rfl (lv_at hl 0 rfl) ?_
    refine va_getN (D := (dC, dI)) (ci := 1) (v := .ref (b 3)) (C := RX5) (T := TX5) (N := 10) hx hb hts in_X5 hown hK ((hO.at hS hz0 (fun _ _ h => h)) 0 _ rfl) 0 rfl rfl 1 (by decide) (va_Nw.use rfl (hCE.1 3 (by decide))) (fun _ h9 => h9) rfl dX1_gap_24 ?_
    refine x_run5 (x_rF (C := RJ20) (As := []) (hK.1 6 _ rfl).2 SF hK (d := 0) (rk.le (Nat.le_of_ble_eq_true rfl)) (c_J20_size l dC dI dA (b 3) (b 4) (ln S) (mc 1) 24 (fun o => if o < ln S then some (b (22 + o)) else none) ) (lw_F q1303 q954 q956 q141 q958) (hCE.2.2 7 (by decide)) (n := 0) (by decide +kernel) rfl (by decide) (g_recv hK ((hO.at hS hz0 (fun _ _ h => h)) 3 _ rfl) (ci := 6) rfl) (XOK.hp) (⟨(hO.at hS hz0 (fun _ _ h => h)) 3 _ rfl, (hO.at hS hz0 (fun _ _ h => h)) 4 _ rfl⟩) hl.1 (Nat.le_of_ble_eq_true rfl) ⟨(by omega), (by omega)⟩ rfl dX1_gap_27) ?_
    refine u_top (y := nI (ln S)) rfl ?_
    refine lv_aload_n hx hb dX1_gap_32 rfl (lv_at hl 0 rfl) ?_
    refine lv_iconst (v := nI 0) hx hb dX1_gap_33 (by decide) ?_
    refine u_run (x_rV (C := RX5) (As := [.int (nI 0)]) SF hK (d := 4) (rk.le (Nat.le_of_ble_eq_true rfl)) (c_X5_inState l dC dI dA b mc S Hd (nI 0) hS1) (lw_V q1331 q1332 q1333 q139 q1334) (n := 1) (by decide +kernel) rfl (by decide) (g_recv hK ((hO.at hS hz0 (fun _ _ h => h)) 0 _ rfl) (ci := 1) rfl) (XOK.hp.and CE.ok) (⟨(hO.at hS hz0 (fun _ _ h => h)), hCE⟩) hl.1 (Nat.le_of_ble_eq_true rfl) ⟨(by omega), (by omega)⟩ rfl dX1_gap_34) ?_
    refine u_top (y := nI (sts S (nI 0))) rfl ?_
    refine lv_isub hx hb dX1_gap_37 ?_
    refine lv_aload_n hx hb dX1_gap_38 rfl (lv_at hl 0 rfl) ?_
    refine lv_iconst (v := nI 1) hx hb dX1_gap_39 (by decide) ?_
    refine u_run (x_rV (C := RX5) (As := [.int (nI 1)]) SF hK (d := 4) (rk.le (Nat.le_of_ble_eq_true rfl)) (c_X5_inState l dC dI dA b mc S Hd (nI 1) hS1) (lw_V q1331 q1332 q1333 q139 q1334) (n := 1) (by decide +kernel) rfl (by decide) (g_recv hK ((hO.at hS hz0 (fun _ _ h => h)) 0 _ rfl) (ci := 1) rfl) (XOK.hp.and CE.ok) (⟨(hO.at hS hz0 (fun _ _ h => h)), hCE⟩) hl.1 (Nat.le_of_ble_eq_true rfl) ⟨(by omega), (by omega)⟩ rfl dX1_gap_40) ?_
    refine u_top (y := nI (sts S (nI 1))) rfl ?_
    refine lv_isub hx hb dX1_gap_43 ?_
    refine lv_aload_n hx hb dX1_gap_44 rfl (lv_at hl 0 rfl) ?_
    refine lv_iconst (v := nI 2) hx hb dX1_gap_45 (by decide) ?_
    refine u_run (x_rV (C := RX5) (As := [.int (nI 2)]) SF hK (d := 4) (rk.le (Nat.le_of_ble_eq_true rfl)) (c_X5_inState l dC dI dA b mc S Hd (nI 2) hS1) (lw_V q1331 q1332 q1333 q139 q1334) (n := 1) (by decide +kernel) rfl (by decide) (g_recv hK ((hO.at hS hz0 (fun _ _ h => h)) 0 _ rfl) (ci := 1) rfl) (XOK.hp.and CE.ok) (⟨(hO.at hS hz0 (fun _ _ h => h)), hCE⟩) hl.1 (Nat.le_of_ble_eq_true rfl) ⟨(by omega), (by omega)⟩ rfl dX1_gap_46) ?_
    refine u_top (y := nI (sts S (nI 2))) rfl ?_
    refine lv_isub hx hb dX1_gap_49 ?_
    refine va_mabs hx hb (hml.trans hl.1.symm) hown (hts _ q1626) (hts _ q1627) (hts _ q131) (hts _ q1628) (Nat.le_trans (Nat.le_of_ble_eq_true rfl) rk.1) (Nat.le_trans (Nat.le_of_ble_eq_true rfl) rk.2) (by omega) (by omega) dX1_gap_50 ?_
    refine u_top (y := absI ((((nI (ln S)) - (nI (sts S (nI 0)))) - (nI (sts S (nI 1)))) - (nI (sts S (nI 2))))) rfl ?_
    refine lv_iadd hx hb dX1_gap_53 ?_
    refine u_top (y := gapR S Hd 0) (by show (0 : Int32) + _ = _; rw [Int32.zero_add]; rfl) ?_
    refine lv_istore_n (lv' := [(2, .int (gapR S Hd 0)), (1, .ref (b 0)), (0, .ref (g 0))]) hx hb dX1_gap_54 rfl hl (by decide) rfl (fun ls hl => ?_)
    refine lv_iconst (v := nI 0) hx hb dX1_gap_55 (by decide) ?_
    refine lv_istore_n (lv' := [(3, .int (nI 0)), (2, .int (gapR S Hd 0)), (1, .ref (b 0)), (0, .ref (g 0))]) hx hb dX1_gap_56 rfl hl (by decide) rfl (fun ls hl => ?_)
    have lp57 : ∀ (k0 : Nat) (k : Nat), k ≤ 6 → 6 < k + k0 → ∀ ls : Array Slot, lv_has ls 4 [(3, .int (nI k)), (2, .int (gapR S Hd k)), (1, .ref (b 0)), (0, .ref (g 0))] → W p l e R s m args below meth c H locs (((0 + 1) + 1) + 1) (((0 + 6) + 1) + 2) Q (F0 m 57 ls []) := by
      intro k0
      induction k0 with
      | zero =>
        intro k hk1 hk2; omega
      | succ k0 ih =>
        intro k hk1 hk2 ls hl
        have ih57 := ih
        refine lv_iload_n hx hb dX1_gap_57 rfl (lv_at hl 0 rfl) ?_
        refine lv_bipush (v := nI 6) hx hb dX1_gap_58 (by decide) ?_
        refine lv_icmp_ge (tgt := 100) hx hb dX1_gap_60 (by decide) (fun c_60 => ?_) (fun c_60 => ?_)
        · have c_60 : 6 ≤ k := (nI_leI (a := 6) (b := k) (by omega) (by omega)).mp c_60
          refine lv_iload_n hx hb dX1_gap_100 rfl (lv_at hl 1 rfl) ?_
          exact hret _ _ _ _ _ _ _ (⟨by rw [show k = 6 by omega], by simp [thC, hlo]⟩) hS (by omega) (by omega) dX1_gap_101
        · have c_60 : ¬ (6 ≤ k) := fun q9 => c_60 ((nI_leI (a := 6) (b := k) (by omega) (by omega)).mpr q9)
          refine lv_iload_n hx hb dX1_gap_63 rfl (lv_at hl 1 rfl) ?_
          refine lv_aload_n hx hb dX1_gap_64 rfl (lv_at hl 2 rfl) ?_
          refine va_getN (D := (dC, dI)) (ci := 1) (v := .ref (b 6)) (C := RX5) (T := TX5) (N := 10) hx hb hts in_X5 hown hK ((hO.at hS hz0 (fun _ _ h => h)) 0 _ rfl) 0 rfl rfl 3 (by decide) (va_Nw.use rfl (hCE.1 5 (by decide))) (fun _ h9 => h9) rfl dX1_gap_65 ?_
          refine lv_iload_n hx hb dX1_gap_68 rfl (lv_at hl 0 rfl) ?_
          refine u_iald hx hb hK ((hO.at hS hz0 (fun _ _ h => h)) 6 _ rfl) 0 0 rfl rfl (i := k) (by omega) (by decide) dX1_gap_69 ?_
          refine u_top (y := S (15 + k)) (by first | exact clip_at (by omega) | rfl) ?_
          refine lv_aload_n hx hb dX1_gap_70 rfl (lv_at hl 2 rfl) ?_
          refine va_getN (D := (dC, dI)) (ci := 1) (v := .int (Hd 0)) (C := RX5) (T := TX5) (N := 10) hx hb hts in_X5 hown hK ((hO.at hS hz0 (fun _ _ h => h)) 0 _ rfl) 0 rfl rfl 8 (by decide) (va_Nw.use rfl (hCE.1 10 (by decide))) (fun _ h9 => h9) rfl dX1_gap_71 ?_
          refine lv_aload_n hx hb dX1_gap_74 rfl (lv_at hl 2 rfl) ?_
          refine va_getN (D := (dC, dI)) (ci := 1) (v := .ref (b 7)) (C := RX5) (T := TX5) (N := 10) hx hb hts in_X5 hown hK ((hO.at hS hz0 (fun _ _ h => h)) 0 _ rfl) 0 rfl rfl 4 (by decide) (va_Nw.use rfl (hCE.1 6 (by decide))) (fun _ h9 => h9) rfl dX1_gap_75 ?_
          refine lv_iload_n hx hb dX1_gap_78 rfl (lv_at hl 0 rfl) ?_
          refine u_iald hx hb hK ((hO.at hS hz0 (fun _ _ h => h)) 7 _ rfl) 0 0 rfl rfl (i := k) (by omega) (by decide) dX1_gap_79 ?_
          refine u_top (y := S (21 + k)) (by first | exact clip_at (by omega) | rfl) ?_
          refine lv_imul hx hb dX1_gap_80 ?_
          refine lv_iadd hx hb dX1_gap_81 ?_
          refine lv_aload_n hx hb dX1_gap_82 rfl (lv_at hl 2 rfl) ?_
          refine va_getN (D := (dC, dI)) (ci := 1) (v := .ref (b 8)) (C := RX5) (T := TX5) (N := 10) hx hb hts in_X5 hown hK ((hO.at hS hz0 (fun _ _ h => h)) 0 _ rfl) 0 rfl rfl 5 (by decide) (va_Nw.use rfl (hCE.1 7 (by decide))) (fun _ h9 => h9) rfl dX1_gap_83 ?_
          refine lv_iload_n hx hb dX1_gap_86 rfl (lv_at hl 0 rfl) ?_
          refine u_iald hx hb hK ((hO.at hS hz0 (fun _ _ h => h)) 8 _ rfl) 0 0 rfl rfl (i := k) (by omega) (by decide) dX1_gap_87 ?_
          refine u_top (y := S (27 + k)) (by first | exact clip_at (by omega) | rfl) ?_
          refine lv_isub hx hb dX1_gap_88 ?_
          refine va_mabs hx hb (hml.trans hl.1.symm) hown (hts _ q1626) (hts _ q1627) (hts _ q131) (hts _ q1628) (Nat.le_trans (Nat.le_of_ble_eq_true rfl) rk.1) (Nat.le_trans (Nat.le_of_ble_eq_true rfl) rk.2) (by omega) (by omega) dX1_gap_89 ?_
          refine u_top (y := absI (((S (15 + k)) + ((Hd 0) * (S (21 + k)))) - (S (27 + k)))) rfl ?_
          refine lv_iadd hx hb dX1_gap_92 ?_
          refine u_top (y := gapR S Hd (k + 1)) rfl ?_
          refine lv_istore_n (lv' := [(2, .int (gapR S Hd (k + 1))), (3, .int (nI k)), (1, .ref (b 0)), (0, .ref (g 0))]) hx hb dX1_gap_93 rfl hl (by decide) rfl (fun ls hl => ?_)
          refine lv_iinc (v := nI (k + 1)) (lv' := [(3, .int (nI (k + 1))), (2, .int (gapR S Hd (k + 1))), (1, .ref (b 0)), (0, .ref (g 0))]) hx hb dX1_gap_94 hl (k := 1) rfl (nI_add _ 1) (by decide) rfl (fun ls hl => ?_)
          refine lv_goto (tgt := 57) hx hb dX1_gap_97 (by decide) ?_
          exact ih57 (k + 1) (by omega) (by omega) ls (lv_sub hl [0, 1, 2, 3] rfl)
    exact lp57 (6 + 1) 0 (by omega) (by omega) ls (lv_sub hl [0, 1, 2, 3] rfl)
  · have hz := Nat.le_trans hz hz9
    obtain ⟨h9, rfl⟩ := hP9
    exact hthr _ _ _ _ _ _ _ _ _ _ (thX (L1 := [(lo (n 1), 1)]) (L2 := []) (nm' := nmA) h9 rfl (by first | rfl | (rw [thC_n1 h9]; try rfl))) hS (by omega) (by omega) hce hcv hcl

set_option maxHeartbeats 4000000 in
theorem c_X1_decidedIn (l : Launch) (dC : Nat → ClassId) (dI : Nat → Nat → Nat) (dA : Nat → ClassId) (g : Nat → Nat) (b : Nat → Nat) (mc : Nat → Int32) (S : Nat → Int32) (Hd : Nat → Int32) (n : Nat → Int32) (sz : Nat) (b2 : Nat → Nat) (mc2 : Nat → Int32) (S2 : Nat → Int32) (Hd2 : Nat → Int32) (cs : Nat → ClassId) (hs : Nat) (z : Int32) (hS1 : SWf S) (hT : TWf Hd) (hS2 : SWf S2) (hT2 : TWf Hd2) (hln : ln S2 = ln S) (hsz : sz ≤ hs) : vx_Met l yX1_decidedIn (ws_ yX1_decidedIn cX1_decidedIn 3 (some (.int))) (rmD 50 (3) (12)) (gPx [.ref (g 0), .ref (b2 0), .int z] (fun U H => (TX dC dI dA g b mc S Hd n b2 mc2 S2 Hd2 cs U H) ∧ EN sz U H) hs dC dI dA) (gQ hs (fun _ => False) (fun v H => v = some (.int (nI (cntN (fun o => decide (lr S2 o 5 = z) && (dcd S2 Hd2 o).isSome) (ln S)))))) (gX hs (fun _ => False) (fun E q H => False)) (3) (12) (gF (fun _ => False) hs) := by
  refine l_meti (own := RX1) (by decide) rfl (Nat.le_of_ble_eq_true rfl) fun p e R s m args below meth c Q SF rk hRR hX hK hin hnm hE hret hthr hQ ls hl => ?_
  have hx := SF.1
  have hb := SF.2.1
  have hml := SF.2.2.1
  have hown := SF.2.2.2.1
  have hts := SF.2.2.2.2
  have hz0 := hX.2
  have hz : hs ≤ s.heap.size := Nat.le_of_eq hX.2.symm
  have hX := hX.1
  have hRc := hRR.1
  have hRs := hRR.2
  have gFs : ∀ q : Nat, s.heap.size ≤ q → gF (fun _ => False) hs q := fun q h => Or.inr (hz0 ▸ h)
  have hS : va_S (gF (fun _ => False) hs) s.heap s.heap [] := va_S.rf
  have hl : lv_has ls 3 [(0, .ref (g 0)), (1, .ref (b2 0)), (2, .int z)] := hl
  have hEN := hX.2
  have hP1 := hX.1.1
  have hO := hX.1.2.1
  have hO2 := hX.1.2.2.1
  have hCE := hX.1.2.2.2.1
  have hF := hX.1.2.2.2.2.1
  have hLE := hX.1.2.2.2.2.2
  have hAz : ∀ q, gF (fun _ => False) hs q → sz ≤ q := fun q h => h.elim (fun e => e.elim) (fun h => Nat.le_trans hsz h)
  refine lv_aload_n hx hb dX1_decidedIn_0 rfl (lv_at hl 0 rfl) ?_
  refine lv_iconst (v := nI 2) hx hb dX1_decidedIn_1 (by decide) ?_
  refine g_newq (N' := 2) (t0 := 7) hx hb hown (hts _ q1335) (hEN.2.2.2.2 2 (by decide)) hK hS rfl (by omega) (by omega) (by omega) dX1_decidedIn_2 (fun q0 H heq9 hq0 hz9 oq hS => ?_)
  have hge_q0 : hs ≤ q0 := by omega
  have hz : hs ≤ H.size := by omega
  refine lv_dup hx hb dX1_decidedIn_5 rfl ?_
  refine lv_iconst (v := nI 0) hx hb dX1_decidedIn_6 (by decide) ?_
  refine lv_aload_n hx hb dX1_decidedIn_7 rfl (lv_at hl 1 rfl) ?_
  refine lv_iload_n hx hb dX1_decidedIn_8 rfl (lv_at hl 2 rfl) ?_
  refine w_lam (T := #[.object "BadCodes$Office", .int]) (vals := [.ref (b2 0), .int z]) hx hb (hl.1.trans hml.symm) rfl hnm hLE.2.2.2.2.2.2.2.2.2.2.1 (hts _ q2607) laT10 rfl lam_fit2 rfl rfl (Nat.le_trans (Nat.le_of_ble_eq_true rfl) rk.2) (by omega) (by show _ + 2 ≤ _; omega) dX1_decidedIn_9 hS (fun q1 H heq9 hq1 hz9 oq hS => ?_)
  have hge_q1 : hs ≤ q1 := by omega
  have ne_q0_q1 : q0 ≠ q1 := Nat.ne_of_lt (Nat.lt_of_lt_of_eq hq0.lt heq9.symm)
  have hq0 := hq0.made oq
  have hz : hs ≤ H.size := by omega
  have hq1 : lamP (cs 10) [.ref (b2 0), .int z] q1 H := hq1
  refine W.eq (g2 := F0 m 14 ls [.ref q1, .int (nI 0), .ref q0, .ref q0, .ref (g 0)]) rfl ?_
  show W p l e R s m args below meth c H [] ((0 + 1) + 1) ((0 + 2) + 2) Q (F0 m 14 ls [.ref q1, .int (nI 0), .ref q0, .ref q0, .ref (g 0)])
  refine g_aastL hx hb hK hq0 hS (Or.inr hge_q0) (t0 := 7) rfl (LM.kls hLE.2.2.2.2.2.2.2.2.2.2.1) (LM.asg hLE.2.2.2.2.2.2.2.2.2.2.1 laN10.2.2.2.2.1) hq1 (i := 0) (by omega) (by decide) dX1_decidedIn_14 (fun H locs hq0 hz9 oq hS => ?_)
  have hq1 := hq1.kept (oq _ (Ne.symm ne_q0_q1))
  have hz := Nat.le_trans hz (Nat.le_of_eq hz9.symm)
  refine lv_dup hx hb dX1_decidedIn_15 rfl ?_
  refine lv_iconst (v := nI 1) hx hb dX1_decidedIn_16 (by decide) ?_
  refine lv_aload_n hx hb dX1_decidedIn_17 rfl (lv_at hl 1 rfl) ?_
  refine w_lam (T := #[.object "BadCodes$Office"]) (vals := [.ref (b2 0)]) hx hb (hl.1.trans hml.symm) rfl hnm hLE.2.2.2.2.2.2.2.2.2.2.2 (hts _ q2607) laT11 rfl lam_fit1 rfl rfl (Nat.le_trans (Nat.le_of_ble_eq_true rfl) rk.2) (by omega) (by show _ + 1 ≤ _; omega) dX1_decidedIn_18 hS (fun q2 H heq9 hq2 hz9 oq hS => ?_)
  have hge_q2 : hs ≤ q2 := by omega
  have ne_q0_q2 : q0 ≠ q2 := Nat.ne_of_lt (Nat.lt_of_lt_of_eq hq0.lt heq9.symm)
  have ne_q1_q2 : q1 ≠ q2 := Nat.ne_of_lt (Nat.lt_of_lt_of_eq hq1.lt heq9.symm)
  have hq0 := hq0.made oq
  have hq1 := hq1.made oq
  have hz : hs ≤ H.size := by omega
  have hq2 : lamP (cs 11) [.ref (b2 0)] q2 H := hq2
  refine W.eq (g2 := F0 m 23 ls [.ref q2, .int (nI 1), .ref q0, .ref q0, .ref (g 0)]) rfl ?_
  show W p l e R s m args below meth c H locs (((0 + 1) + 1) + 1) (((0 + 2) + 2) + 1) Q (F0 m 23 ls [.ref q2, .int (nI 1), .ref q0, .ref q0, .ref (g 0)])
  refine g_aastL hx hb hK hq0 hS (Or.inr hge_q0) (t0 := 7) rfl (LM.kls hLE.2.2.2.2.2.2.2.2.2.2.2) (LM.asg hLE.2.2.2.2.2.2.2.2.2.2.2 laN11.2.2.2.2.1) hq2 (i := 1) (by omega) (by decide) dX1_decidedIn_23 (fun H locs hq0 hz9 oq hS => ?_)
  have hq1 := hq1.kept (oq _ (Ne.symm ne_q0_q1))
  have hq2 := hq2.kept (oq _ (Ne.symm ne_q0_q2))
  have hz := Nat.le_trans hz (Nat.le_of_eq hz9.symm)
  refine u_run (x_rV (C := RX1) (As := [.ref q0]) SF hK (d := 14) (rk.le (Nat.le_of_ble_eq_true rfl)) (c_X1_many l dC dI dA g b mc S Hd n b2 mc2 S2 Hd2 cs q0 2 (fun j => if j = 0 then 10 else 11) (fun j => if j = 0 then q1 else q2) (fun j => if j = 0 then z else nI 0) (by decide) hS1 hT hS2 hT2 hln) (lw_V q1340 q1342 qs26 q112 q1343) (n := 1) (by decide +kernel) rfl (by decide) (g_recv hK (hP1.at hS hz0 (fun h => h)) (ci := 0) rfl) ((XOK.hp.and (XOK.hp.and (XOK.hp.and (CE.ok.and (FT9.ok.and LE.ok))))).and XOK.hp) (⟨⟨hP1.at hS hz0 (fun h => h), hO.at hS hz0 (fun _ _ h => h), hO2.at hS hz0 (fun _ _ h => h), hCE, hF, hLE⟩, TSA.mk2 (i0 := 10) (i1 := 11) (z0 := z) (z1 := nI 0) hq0 (by decide) (by decide) hq1 hq2 (fun h => absurd h (by decide)) (fun h => absurd h (by decide))⟩) hl.1 (Nat.le_of_ble_eq_true rfl) ⟨(by omega), (by omega)⟩ rfl dX1_decidedIn_24) ?_
  refine u_top (y := nI (cntN (fun o => allN (fun j => tf S S2 Hd2 ((fun j => if j = 0 then 10 else 11) j) ((fun j => if j = 0 then z else nI 0) j) o) 2) (ln S))) rfl ?_
  exact hret _ _ _ _ _ _ _ (by exact congrArg (fun z => some (Value.int (nI z))) (many2 (fun o ho => t_dI))) hS (by omega) (by omega) dX1_decidedIn_27
end API7
