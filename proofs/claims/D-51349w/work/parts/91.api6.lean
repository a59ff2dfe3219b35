set_option maxRecDepth 100000
section API6
variable {p : Program} {l : Launch} {e : Env} {R : Room} {s : State} {m : MethodId} {args : Array Value} {below : List Frame} {meth : Method} {c : Code} {H : Heap} {locs : List Loc} {Q : State → Prop}
variable {cc : ByteArray} {pc nL : Nat} {ls : Array Slot} {rest : List Value} {dC : Nat → ClassId} {dI : Nat → Nat → Nat} {dA : Nat → ClassId} {a : Nat → Nat} {M : Nat → Nat → Int32} {H0 : Heap}

theorem slvF_45 {S Hd : Nat → Int32} {b : Int32} {o : Nat} : slvF S Hd b true o ≤ 45 := by
  unfold slvF
  split
  · split
    · omega
    · rename_i t _
      have := dsm_le (cd (num Hd t))
      simpa using this
  · omega
set_option maxHeartbeats 4000000 in
theorem c_X1_sumOf (l : Launch) (dC : Nat → ClassId) (dI : Nat → Nat → Nat) (dA : Nat → ClassId) (g : Nat → Nat) (b : Nat → Nat) (mc : Nat → Int32) (S : Nat → Int32) (Hd : Nat → Int32) (n : Nat → Int32) (b9 : Nat) (hb9 : b9 < 6) (hS1 : SWf S) (hT : TWf Hd) : Met l yX1_sumOf (ws_ yX1_sumOf cX1_sumOf 5 (some (.int))) (rmD 8 0 0) (uPx [.ref (g 0), .int (nI b9)] (fun U H => cP dC dI (g 0) (obE g n (.ref (b 0))) H ∧ famP dC dI b (offE b dA mc S Hd) H ∧ CE U) dC dI dA) (uQi (nI (slv S Hd (nI b9) true % 10))) 0 0 noF := by
  refine x_meti (own := RX1) (by decide) rfl (Nat.le_of_ble_eq_true rfl) fun p e R s m args below meth c Q SF rk hX hK hret ls hl => ?_
  have hx := SF.1
  have hb := SF.2.1
  have hml := SF.2.2.1
  have hown := SF.2.2.2.1
  have hts := SF.2.2.2.2
  have hP1 := hX.1
  have hO := hX.2.1
  have hCE := hX.2.2
  have hl : lv_has ls 5 [(0, .ref (g 0)), (1, .int (nI b9))] := hl
  have hL := hS1.2.1
  have hn9 := hT.2.1
  refine lv_iconst (v := nI 0) hx hb dX1_sumOf_0 (by decide) ?_
  refine lv_istore_n (lv' := [(2, .int (nI 0)), (0, .ref (g 0)), (1, .int (nI b9))]) hx hb dX1_sumOf_1 rfl hl (by decide) rfl (fun ls hl => ?_)
  refine lv_iconst (v := nI 0) hx hb dX1_sumOf_2 (by decide) ?_
  refine lv_istore_n (lv' := [(3, .int (nI 0)), (2, .int (nI 0)), (0, .ref (g 0)), (1, .int (nI b9))]) hx hb dX1_sumOf_3 rfl hl (by decide) rfl (fun ls hl => ?_)
  have lp4 : ∀ (k0 : Nat) (k : Nat), k ≤ ln S → ln S < k + k0 → ∀ ls : Array Slot, lv_has ls 5 [(3, .int (nI k)), (2, .int (nI (sumN (slvF S Hd (nI b9) true) k))), (1, .int (nI b9)), (0, .ref (g 0))] → W p l e R s m args below meth c s.heap [] 0 0 Q (F0 m 4 ls []) := by
    intro k0
    induction k0 with
    | zero =>
      intro k hk1 hk2; omega
    | succ k0 ih =>
      intro k hk1 hk2 ls hl
      have ih4 := ih
      have hs9 : sumN (slvF S Hd (nI b9) true) k ≤ k * 45 := sumN_le k (fun j _ => slvF_45)
      refine lv_iload_n hx hb dX1_sumOf_4 rfl (lv_at hl 0 rfl) ?_
      refine lv_aload_n hx hb dX1_sumOf_5 rfl (lv_at hl 3 rfl) ?_
      refine va_get (D := (dC, dI)) (ci := 0) (v := .ref (b 0)) (C := RX1) (T := TX1) (N := 9) hx hb hts in_X1 hown hK hP1 0 rfl rfl 4 (by decide) (hts _ q220) (fun _ h9 => h9) rfl dX1_sumOf_6 ?_
      refine va_getN (D := (dC, dI)) (ci := 1) (v := .ref (b 3)) (C := RX5) (T := TX5) (N := 10) hx hb hts in_X5 hown hK (hO 0 _ rfl) 0 rfl rfl 1 (by decide) (va_Nw.use rfl (hCE.1 3 (by decide))) (fun _ h9 => h9) rfl dX1_sumOf_9 ?_
      refine x_run5 (x_rF (C := RJ20) (As := []) (hK.1 6 _ rfl).2 SF hK (d := 0) (rk.le (Nat.le_of_ble_eq_true rfl)) (c_J20_size l dC dI dA (b 3) (b 4) (ln S) (mc 1) 24 (fun o => if o < ln S then some (b (22 + o)) else none) ) (lw_F q1303 q954 q956 q141 q958) (hCE.2.2 7 (by decide)) (n := 0) (by decide +kernel) rfl (by decide) (g_recv hK (hO 3 _ rfl) (ci := 6) rfl) (XOK.hp) (⟨hO 3 _ rfl, hO 4 _ rfl⟩) hl.1 (Nat.le_of_ble_eq_true rfl) ⟨Nat.zero_le _, Nat.zero_le _⟩ rfl dX1_sumOf_12) ?_
      refine u_top (y := nI (ln S)) rfl ?_
      refine lv_icmp_ge (tgt := 80) hx hb dX1_sumOf_17 (by decide) (fun c_17 => ?_) (fun c_17 => ?_)
      · have c_17 : (ln S) ≤ k := (nI_leI (a := (ln S)) (b := k) (by omega) (by omega)).mp c_17
        refine lv_iload_n hx hb dX1_sumOf_80 rfl (lv_at hl 1 rfl) ?_
        refine lv_bipush (v := nI 10) hx hb dX1_sumOf_81 (by decide) ?_
        refine lv_irem hx hb dX1_sumOf_83 (by decide) ?_
        refine u_top (pk_rem (by omega) (by omega) (by omega)) ?_
        exact hret _ _ _ (by rw [show k = ln S by omega]; rfl) dX1_sumOf_84
      · have c_17 : ¬ ((ln S) ≤ k) := fun q9 => c_17 ((nI_leI (a := (ln S)) (b := k) (by omega) (by omega)).mpr q9)
        refine lv_aload_n hx hb dX1_sumOf_20 rfl (lv_at hl 3 rfl) ?_
        refine va_get (D := (dC, dI)) (ci := 0) (v := .ref (b 0)) (C := RX1) (T := TX1) (N := 9) hx hb hts in_X1 hown hK hP1 0 rfl rfl 4 (by decide) (hts _ q220) (fun _ h9 => h9) rfl dX1_sumOf_21 ?_
        refine lv_iload_n hx hb dX1_sumOf_24 rfl (lv_at hl 0 rfl) ?_
        refine x_runa (x_rV (C := RX5) (As := [.int (nI k)]) SF hK (d := 3) (rk.le (Nat.le_of_ble_eq_true rfl)) (c_X5_letter l dC dI dA b mc S Hd k (show k < ln S by omega) hS1) (lw_V q187 q188 q189 q139 q190) (n := 1) (by decide +kernel) rfl (by decide) (g_recv hK (hO 0 _ rfl) (ci := 1) rfl) (XOK.hp.and CE.ok) (⟨hO, hCE⟩) hl.1 (Nat.le_of_ble_eq_true rfl) ⟨Nat.zero_le _, Nat.zero_le _⟩ rfl dX1_sumOf_25) ?_
        refine g_top (y := .ref (b (22 + k))) rfl ?_
        refine va_getN (D := (dC, dI)) (ci := 3) (v := .int (lr S k 5)) (C := RX7) (T := TX7) (N := 6) hx hb hts in_X7 hown hK (hO _ _ (offE_lt (show k < ln S from (by omega)) hS1.2.1)) 0 rfl rfl 1 (by decide) (va_Nw.use rfl (hCE.1 13 (by decide))) (fun _ h9 => h9) rfl dX1_sumOf_28 ?_
        refine lv_iload_n hx hb dX1_sumOf_31 rfl (lv_at hl 2 rfl) ?_
        refine lv_icmp_ne (tgt := 46) hx hb dX1_sumOf_32 (by decide) (fun c_32 => ?_) (fun c_32 => ?_)
        · refine lv_iconst (v := (-1)) hx hb dX1_sumOf_46 (by decide) ?_
          refine lv_istore (lv' := [(4, .int (-1)), (3, .int (nI k)), (2, .int (nI (sumN (slvF S Hd (nI b9) true) k))), (1, .int (nI b9)), (0, .ref (g 0))]) hx hb dX1_sumOf_47 hl (by decide) rfl (fun ls hl => ?_)
          refine lv_iload_n hx hb dX1_sumOf_49 rfl (lv_at hl 2 rfl) ?_
          refine lv_iload hx hb dX1_sumOf_50 (lv_at hl 0 rfl) ?_
          refine lv_iconst (v := (-1)) hx hb dX1_sumOf_52 (by decide) ?_
          refine lv_icmp_ne (tgt := 60) hx hb dX1_sumOf_53 (by decide) (fun c_53 => absurd (by decide) c_53) (fun c_53 => ?_)
          refine lv_iconst (v := nI 0) hx hb dX1_sumOf_56 (by decide) ?_
          refine lv_goto (tgt := 72) hx hb dX1_sumOf_57 (by decide) ?_
          refine lv_iadd hx hb dX1_sumOf_72 ?_
          refine u_top (nI_add _ _) ?_
          refine u_top (y := nI (sumN (slvF S Hd (nI b9) true) (k + 1))) (by show nI (_ + _) = nI (_ + slvF S Hd (nI b9) true k); rw [slvF]; first | (rw [if_neg c_32]; done) | (rw [if_pos c_32, hE]; done) | (rw [if_pos c_32, hE]; rfl)) ?_
          refine lv_istore_n (lv' := [(2, .int (nI (sumN (slvF S Hd (nI b9) true) (k + 1)))), (4, .int (-1)), (3, .int (nI k)), (1, .int (nI b9)), (0, .ref (g 0))]) hx hb dX1_sumOf_73 rfl hl (by decide) rfl (fun ls hl => ?_)
          refine lv_iinc (v := nI (k + 1)) (lv' := [(3, .int (nI (k + 1))), (2, .int (nI (sumN (slvF S Hd (nI b9) true) (k + 1)))), (4, .int (-1)), (1, .int (nI b9)), (0, .ref (g 0))]) hx hb dX1_sumOf_74 hl (k := 2) rfl (nI_add _ 1) (by decide) rfl (fun ls hl => ?_)
          refine lv_goto (tgt := 4) hx hb dX1_sumOf_77 (by decide) ?_
          exact ih4 (k + 1) (by omega) (by omega) ls (lv_sub hl [0, 1, 3, 4] rfl)
        · refine lv_aload_n hx hb dX1_sumOf_35 rfl (lv_at hl 3 rfl) ?_
          refine va_get (D := (dC, dI)) (ci := 0) (v := .ref (b 0)) (C := RX1) (T := TX1) (N := 9) hx hb hts in_X1 hown hK hP1 0 rfl rfl 4 (by decide) (hts _ q220) (fun _ h9 => h9) rfl dX1_sumOf_36 ?_
          refine lv_iload_n hx hb dX1_sumOf_39 rfl (lv_at hl 0 rfl) ?_
          refine u_run (x_rV (C := RX5) (As := [.int (nI k)]) SF hK (d := 7) (rk.le (Nat.le_of_ble_eq_true rfl)) (c_X5_byItself l dC dI dA b mc S Hd k (show k < ln S by omega) hS1 hT) (lw_V q1498 q1185 q1186 q139 q1187) (n := 1) (by decide +kernel) rfl (by decide) (g_recv hK (hO 0 _ rfl) (ci := 1) rfl) (XOK.hp.and CE.ok) (⟨hO, hCE⟩) hl.1 (Nat.le_of_ble_eq_true rfl) ⟨Nat.zero_le _, Nat.zero_le _⟩ rfl dX1_sumOf_40) ?_
          refine u_top (y := oI (byS S Hd k)) rfl ?_
          rcases hE : byS S Hd k with _ | t9
          · refine u_top (y := (-1)) rfl ?_
            refine lv_goto (tgt := 47) hx hb dX1_sumOf_43 (by decide) ?_
            refine lv_istore (lv' := [(4, .int (-1)), (3, .int (nI k)), (2, .int (nI (sumN (slvF S Hd (nI b9) true) k))), (1, .int (nI b9)), (0, .ref (g 0))]) hx hb dX1_sumOf_47 hl (by decide) rfl (fun ls hl => ?_)
            refine lv_iload_n hx hb dX1_sumOf_49 rfl (lv_at hl 2 rfl) ?_
            refine lv_iload hx hb dX1_sumOf_50 (lv_at hl 0 rfl) ?_
            refine lv_iconst (v := (-1)) hx hb dX1_sumOf_52 (by decide) ?_
            refine lv_icmp_ne (tgt := 60) hx hb dX1_sumOf_53 (by decide) (fun c_53 => absurd (by decide) c_53) (fun c_53 => ?_)
            refine lv_iconst (v := nI 0) hx hb dX1_sumOf_56 (by decide) ?_
            refine lv_goto (tgt := 72) hx hb dX1_sumOf_57 (by decide) ?_
            refine lv_iadd hx hb dX1_sumOf_72 ?_
            refine u_top (nI_add _ _) ?_
            refine u_top (y := nI (sumN (slvF S Hd (nI b9) true) (k + 1))) (by show nI (_ + _) = nI (_ + slvF S Hd (nI b9) true k); rw [slvF]; first | (rw [if_neg c_32]; done) | (rw [if_pos c_32, hE]; done) | (rw [if_pos c_32, hE]; rfl)) ?_
            refine lv_istore_n (lv' := [(2, .int (nI (sumN (slvF S Hd (nI b9) true) (k + 1)))), (4, .int (-1)), (3, .int (nI k)), (1, .int (nI b9)), (0, .ref (g 0))]) hx hb dX1_sumOf_73 rfl hl (by decide) rfl (fun ls hl => ?_)
            refine lv_iinc (v := nI (k + 1)) (lv' := [(3, .int (nI (k + 1))), (2, .int (nI (sumN (slvF S Hd (nI b9) true) (k + 1)))), (4, .int (-1)), (1, .int (nI b9)), (0, .ref (g 0))]) hx hb dX1_sumOf_74 hl (k := 2) rfl (nI_add _ 1) (by decide) rfl (fun ls hl => ?_)
            refine lv_goto (tgt := 4) hx hb dX1_sumOf_77 (by decide) ?_
            exact ih4 (k + 1) (by omega) (by omega) ls (lv_sub hl [0, 1, 3, 4] rfl)
          · have ht9 := byS_lt hE
            refine u_top (y := nI t9) rfl ?_
            refine lv_goto (tgt := 47) hx hb dX1_sumOf_43 (by decide) ?_
            refine lv_istore (lv' := [(4, .int (nI t9)), (3, .int (nI k)), (2, .int (nI (sumN (slvF S Hd (nI b9) true) k))), (1, .int (nI b9)), (0, .ref (g 0))]) hx hb dX1_sumOf_47 hl (by decide) rfl (fun ls hl => ?_)
            refine lv_iload_n hx hb dX1_sumOf_49 rfl (lv_at hl 2 rfl) ?_
            refine lv_iload hx hb dX1_sumOf_50 (lv_at hl 0 rfl) ?_
            refine lv_iconst (v := (-1)) hx hb dX1_sumOf_52 (by decide) ?_
            refine lv_icmp_ne (tgt := 60) hx hb dX1_sumOf_53 (by decide) (fun c_53 => ?_) (fun c_53 => absurd c_53 (nI_m1 (by omega)))
            refine lv_aload_n hx hb dX1_sumOf_60 rfl (lv_at hl 4 rfl) ?_
            refine va_get (D := (dC, dI)) (ci := 0) (v := .ref (b 0)) (C := RX1) (T := TX1) (N := 9) hx hb hts in_X1 hown hK hP1 0 rfl rfl 4 (by decide) (hts _ q220) (fun _ h9 => h9) rfl dX1_sumOf_61 ?_
            refine lv_iload hx hb dX1_sumOf_64 (lv_at hl 0 rfl) ?_
            refine x_runa (x_rV (C := RX5) (As := [.int (nI t9)]) SF hK (d := 3) (rk.le (Nat.le_of_ble_eq_true rfl)) (c_X5_town l dC dI dA b mc S Hd t9 (show t9 < tn Hd by omega) hT) (lw_V q1375 q966 q967 q139 q968) (n := 1) (by decide +kernel) rfl (by decide) (g_recv hK (hO 0 _ rfl) (ci := 1) rfl) (XOK.hp.and CE.ok) (⟨hO, hCE⟩) hl.1 (Nat.le_of_ble_eq_true rfl) ⟨Nat.zero_le _, Nat.zero_le _⟩ rfl dX1_sumOf_66) ?_
            refine g_top (y := .ref (b (10 + t9))) rfl ?_
            refine u_run (x_rV (C := RX6) (As := []) SF hK (d := 2) (rk.le (Nat.le_of_ble_eq_true rfl)) (c_X6_sum l dC dI dA b mc S Hd t9 (show t9 < tn Hd by omega) hT) (lw_V q1389 q1197 q1198 q143 q1199) (n := 0) (by decide +kernel) rfl (by decide) (g_recv hK (hO _ _ (offE_tw (show t9 < tn Hd from (by omega)) hT.2.1)) (ci := 4) rfl) (XOK.hp.and CE.ok) (⟨hO, hCE⟩) hl.1 (Nat.le_of_ble_eq_true rfl) ⟨Nat.zero_le _, Nat.zero_le _⟩ rfl dX1_sumOf_69) ?_
            refine u_top (y := nI (dsm (cd (num Hd t9)))) rfl ?_
            have hd9 := dsm_le (cd (num Hd t9))
            refine lv_iadd hx hb dX1_sumOf_72 ?_
            refine u_top (nI_add _ _) ?_
            refine u_top (y := nI (sumN (slvF S Hd (nI b9) true) (k + 1))) (by show nI (_ + _) = nI (_ + slvF S Hd (nI b9) true k); rw [slvF]; first | (rw [if_neg c_32]; done) | (rw [if_pos c_32, hE]; done) | (rw [if_pos c_32, hE]; rfl)) ?_
            refine lv_istore_n (lv' := [(2, .int (nI (sumN (slvF S Hd (nI b9) true) (k + 1)))), (4, .int (nI t9)), (3, .int (nI k)), (1, .int (nI b9)), (0, .ref (g 0))]) hx hb dX1_sumOf_73 rfl hl (by decide) rfl (fun ls hl => ?_)
            refine lv_iinc (v := nI (k + 1)) (lv' := [(3, .int (nI (k + 1))), (2, .int (nI (sumN (slvF S Hd (nI b9) true) (k + 1)))), (4, .int (nI t9)), (1, .int (nI b9)), (0, .ref (g 0))]) hx hb dX1_sumOf_74 hl (k := 2) rfl (nI_add _ 1) (by decide) rfl (fun ls hl => ?_)
            refine lv_goto (tgt := 4) hx hb dX1_sumOf_77 (by decide) ?_
            exact ih4 (k + 1) (by omega) (by omega) ls (lv_sub hl [0, 1, 3, 4] rfl)
  exact lp4 (ln S + 1) 0 (by omega) (by omega) ls (lv_sub hl [0, 1, 3, 2] rfl)

set_option maxHeartbeats 4000000 in
theorem c_X1_count (l : Launch) (dC : Nat → ClassId) (dI : Nat → Nat → Nat) (dA : Nat → ClassId) (g : Nat → Nat) (b : Nat → Nat) (mc : Nat → Int32) (S : Nat → Int32) (Hd : Nat → Int32) (n : Nat → Int32) (sz : Nat) (cs : Nat → ClassId) (hs : Nat) (x : Int32) (hS1 : SWf S) (hT : TWf Hd) (hOP : OPf S) (hsz : sz ≤ hs) (hfl : l.stackTraces = false) : vx_Met l yX1_count (ws_ yX1_count cX1_count 3 (some (.int))) (rmD 50 (6) (40)) (gPx [.ref (g 0), .int x] (fun U H => AY dC dI dA g b mc S Hd n sz cs U H) hs dC dI dA) (gQ hs (fun _ => False) (fun v H => v = some (.int (cntV S Hd x.toNatClampNeg)) ∧ thC [(lo (n 1), 1), (inZ x.toInt 0 11, 2)] = 0)) (gX hs (fun _ => False) (fun E q H => ¬ thC [(lo (n 1), 1), (inZ x.toInt 0 11, 2)] = 0 ∧ E = nmB (thC [(lo (n 1), 1), (inZ x.toInt 0 11, 2)]))) (6) (40) (gF (fun _ => False) hs) := by
  refine l_meti (own := RX1) (by decide) rfl (Nat.le_of_ble_eq_true rfl) fun p e R s m args below meth c Q SF rk hRR hX hK hin hnm hE hret hthr hQ ls hl => ?_
  have hx := SF.1
  have hb := SF.2.1
  have hml := SF.2.2.1
  have hown := SF.2.2.2.1
  have hts := SF.2.2.2.2
  have hz0 := hX.2
  have hz : hs ≤ s.heap.size := Nat.le_of_eq hX.2.symm
  have hX := hX.1
  have hRc := hRR.1
  have hRs := hRR.2
  have gFs : ∀ q : Nat, s.heap.size ≤ q → gF (fun _ => False) hs q := fun q h => Or.inr (hz0 ▸ h)
  have hS : va_S (gF (fun _ => False) hs) s.heap s.heap [] := va_S.rf
  have hl : lv_has ls 3 [(0, .ref (g 0)), (1, .int x)] := hl
  have hF := hX.2.1
  have hLE := hX.2.2.1
  have hWt := hX.2.2.2
  have hX := hX.1
  have hEN := hX.2.2
  have hCE := hEN.1
  have hAz : ∀ q, gF (fun _ => False) hs q → sz ≤ q := fun q h => h.elim (fun e => e.elim) (fun h => Nat.le_trans hsz h)
  obtain ⟨nv, hP0⟩ := AX.ob hX
  have hL := hS1.2.1
  have hn9 := hT.2.1
  refine lv_aload_n hx hb dX1_count_0 rfl (lv_at hl 0 rfl) ?_
  refine g_runX (v_rV (C := RX1) (As := []) SF hK (d := 6) (rk.le (Nat.le_of_ble_eq_true rfl)) (c_X1_office l dC dI dA g b mc S Hd n sz s.heap.size (show sz ≤ s.heap.size by omega) hfl) (lw_V q1312 q1314 qs25 q112 q1315) (n := 0) (by decide +kernel) rfl (by decide) (g_recv hK (hP0.at hS hz0 (fun h => h)) (ci := 0) rfl) (XOK.hs (XOK.hp.and (XOK.hp.and EN.ok))) (⟨AX.at hX hS hz0 hsz, rfl⟩) hl.1 (Nat.le_of_ble_eq_true rfl) ⟨(by omega), (by omega)⟩ rfl dX1_count_1) rfl hS (fun _ h => h.elim) gFs (fun v9 H locs hP9 hz9 oq hS => ?_) (fun E q9 ce H locs hP9 hz9 oq hS hce hcv hcl => ?_)
  · obtain ⟨rfl, hlo⟩ := hP9
    have hz := Nat.le_trans hz hz9
    refine W.eq (g2 := F0 m 4 ls [.ref (b 0)]) rfl ?_
    have hn1 := lo_n hlo
    obtain ⟨hP1, hO⟩ := hX.2.1 hn1
    refine lv_astore_n (lv' := [(2, .ref (b 0)), (0, .ref (g 0)), (1, .int x)]) hx hb dX1_count_4 rfl hl (by decide) rfl (fun ls hl => ?_)
    refine lv_iload_n hx hb dX1_count_5 rfl (lv_at hl 2 rfl) ?_
    by_cases hok1 : inZ x.toInt 0 11 = true
    · obtain ⟨jj, ht_jj, htb_jj, rfl⟩ := inZ_n hok1
      have hcl_jj : (nI jj).toNatClampNeg = jj := nI_clamp htb_jj
      rcases (show jj = 0 ∨ jj = 1 ∨ jj = 2 ∨ jj = 3 ∨ jj = 4 ∨ jj = 5 ∨ jj = 6 ∨ jj = 7 ∨ jj = 8 ∨ jj = 9 ∨ jj = 10 ∨ jj = 11 by omega) with rfl | rfl | rfl | rfl | rfl | rfl | rfl | rfl | rfl | rfl | rfl | rfl
      · refine lv_tableIn (off := 62) (tgt := 68) hx hb dX1_count_6 (by decide) (by decide) (by decide) (by decide) ?_
        refine lv_aload_n hx hb dX1_count_68 rfl (lv_at hl 0 rfl) ?_
        refine va_getN (D := (dC, dI)) (ci := 1) (v := .ref (b 1)) (C := RX5) (T := TX5) (N := 10) hx hb hts in_X5 hown hK ((hO.at hS hz0 (fun _ _ h => h)) 0 _ rfl) 0 rfl rfl 0 (by decide) (va_Nw.use rfl (hCE.1 2 (by decide))) (fun _ h9 => h9) rfl dX1_count_69 ?_
        refine x_run5 (x_rF (C := RJ20) (As := []) (hK.1 6 _ rfl).2 SF hK (d := 0) (rk.le (Nat.le_of_ble_eq_true rfl)) (c_J20_size l dC dI dA (b 1) (b 2) (tn Hd) (mc 0) 12 (fun t => if t < tn Hd then some (b (10 + t)) else none) ) (lw_F q1303 q954 q956 q141 q958) (hCE.2.2 7 (by decide)) (n := 0) (by decide +kernel) rfl (by decide) (g_recv hK ((hO.at hS hz0 (fun _ _ h => h)) 1 _ rfl) (ci := 6) rfl) (XOK.hp) (⟨(hO.at hS hz0 (fun _ _ h => h)) 1 _ rfl, (hO.at hS hz0 (fun _ _ h => h)) 2 _ rfl⟩) hl.1 (Nat.le_of_ble_eq_true rfl) ⟨(by omega), (by omega)⟩ rfl dX1_count_72) ?_
        refine u_top (y := nI (tn Hd)) rfl ?_
        refine lv_goto (tgt := 179) hx hb dX1_count_77 (by decide) ?_
        exact hret _ _ _ _ _ _ _ (⟨by first | (rw [hcl_jj]; exact congrArg (fun z => some (Value.int z)) hT.1.symm) | (rw [hcl_jj]; exact congrArg (fun z => some (Value.int z)) hS1.1.symm) | (rw [hcl_jj]; exact congrArg (fun z => some (Value.int z)) hS1.2.2.1.symm) | (simp only [hcl_jj]; done) | (simp only [hcl_jj]; rfl) | (rw [hcl_jj]; rfl), by simp [thC, hlo, hok1]⟩) hS (by omega) (by omega) dX1_count_179
      · refine lv_tableIn (off := 74) (tgt := 80) hx hb dX1_count_6 (by decide) (by decide) (by decide) (by decide) ?_
        refine lv_aload_n hx hb dX1_count_80 rfl (lv_at hl 0 rfl) ?_
        refine va_getN (D := (dC, dI)) (ci := 1) (v := .ref (b 3)) (C := RX5) (T := TX5) (N := 10) hx hb hts in_X5 hown hK ((hO.at hS hz0 (fun _ _ h => h)) 0 _ rfl) 0 rfl rfl 1 (by decide) (va_Nw.use rfl (hCE.1 3 (by decide))) (fun _ h9 => h9) rfl dX1_count_81 ?_
        refine x_run5 (x_rF (C := RJ20) (As := []) (hK.1 6 _ rfl).2 SF hK (d := 0) (rk.le (Nat.le_of_ble_eq_true rfl)) (c_J20_size l dC dI dA (b 3) (b 4) (ln S) (mc 1) 24 (fun o => if o < ln S then some (b (22 + o)) else none) ) (lw_F q1303 q954 q956 q141 q958) (hCE.2.2 7 (by decide)) (n := 0) (by decide +kernel) rfl (by decide) (g_recv hK ((hO.at hS hz0 (fun _ _ h => h)) 3 _ rfl) (ci := 6) rfl) (XOK.hp) (⟨(hO.at hS hz0 (fun _ _ h => h)) 3 _ rfl, (hO.at hS hz0 (fun _ _ h => h)) 4 _ rfl⟩) hl.1 (Nat.le_of_ble_eq_true rfl) ⟨(by omega), (by omega)⟩ rfl dX1_count_84) ?_
        refine u_top (y := nI (ln S)) rfl ?_
        refine lv_goto (tgt := 179) hx hb dX1_count_89 (by decide) ?_
        exact hret _ _ _ _ _ _ _ (⟨by first | (rw [hcl_jj]; exact congrArg (fun z => some (Value.int z)) hT.1.symm) | (rw [hcl_jj]; exact congrArg (fun z => some (Value.int z)) hS1.1.symm) | (rw [hcl_jj]; exact congrArg (fun z => some (Value.int z)) hS1.2.2.1.symm) | (simp only [hcl_jj]; done) | (simp only [hcl_jj]; rfl) | (rw [hcl_jj]; rfl), by simp [thC, hlo, hok1]⟩) hS (by omega) (by omega) dX1_count_179
      · refine lv_tableIn (off := 86) (tgt := 92) hx hb dX1_count_6 (by decide) (by decide) (by decide) (by decide) ?_
        refine lv_aload_n hx hb dX1_count_92 rfl (lv_at hl 0 rfl) ?_
        refine va_getN (D := (dC, dI)) (ci := 1) (v := .int (S 0)) (C := RX5) (T := TX5) (N := 10) hx hb hts in_X5 hown hK ((hO.at hS hz0 (fun _ _ h => h)) 0 _ rfl) 0 rfl rfl 7 (by decide) (va_Nw.use rfl (hCE.1 9 (by decide))) (fun _ h9 => h9) rfl dX1_count_93 ?_
        refine u_top (y := nI (lim S)) (hS1.2.2.1) ?_
        refine lv_goto (tgt := 179) hx hb dX1_count_96 (by decide) ?_
        exact hret _ _ _ _ _ _ _ (⟨by first | (rw [hcl_jj]; exact congrArg (fun z => some (Value.int z)) hT.1.symm) | (rw [hcl_jj]; exact congrArg (fun z => some (Value.int z)) hS1.1.symm) | (rw [hcl_jj]; exact congrArg (fun z => some (Value.int z)) hS1.2.2.1.symm) | (simp only [hcl_jj]; done) | (simp only [hcl_jj]; rfl) | (rw [hcl_jj]; rfl), by simp [thC, hlo, hok1]⟩) hS (by omega) (by omega) dX1_count_179
      · refine lv_tableIn (off := 93) (tgt := 99) hx hb dX1_count_6 (by decide) (by decide) (by decide) (by decide) ?_
        refine lv_aload_n hx hb dX1_count_99 rfl (lv_at hl 0 rfl) ?_
        refine va_getN (D := (dC, dI)) (ci := 1) (v := .int (Hd 0)) (C := RX5) (T := TX5) (N := 10) hx hb hts in_X5 hown hK ((hO.at hS hz0 (fun _ _ h => h)) 0 _ rfl) 0 rfl rfl 8 (by decide) (va_Nw.use rfl (hCE.1 10 (by decide))) (fun _ h9 => h9) rfl dX1_count_100 ?_
        refine lv_goto (tgt := 179) hx hb dX1_count_103 (by decide) ?_
        exact hret _ _ _ _ _ _ _ (⟨by first | (rw [hcl_jj]; exact congrArg (fun z => some (Value.int z)) hT.1.symm) | (rw [hcl_jj]; exact congrArg (fun z => some (Value.int z)) hS1.1.symm) | (rw [hcl_jj]; exact congrArg (fun z => some (Value.int z)) hS1.2.2.1.symm) | (simp only [hcl_jj]; done) | (simp only [hcl_jj]; rfl) | (rw [hcl_jj]; rfl), by simp [thC, hlo, hok1]⟩) hS (by omega) (by omega) dX1_count_179
      · refine lv_tableIn (off := 100) (tgt := 106) hx hb dX1_count_6 (by decide) (by decide) (by decide) (by decide) ?_
        refine lv_aload_n hx hb dX1_count_106 rfl (lv_at hl 0 rfl) ?_
        refine lv_iload_n hx hb dX1_count_107 rfl (lv_at hl 2 rfl) ?_
        refine lv_iconst (v := nI 4) hx hb dX1_count_108 (by decide) ?_
        refine lv_isub hx hb dX1_count_109 ?_
        refine u_run (x_rV (C := RX5) (As := [.int ((nI 4) - (nI 4))]) SF hK (d := 4) (rk.le (Nat.le_of_ble_eq_true rfl)) (c_X5_inState l dC dI dA b mc S Hd ((nI 4) - (nI 4)) hS1) (lw_V q1331 q1332 q1333 q139 q1334) (n := 1) (by decide +kernel) rfl (by decide) (g_recv hK ((hO.at hS hz0 (fun _ _ h => h)) 0 _ rfl) (ci := 1) rfl) (XOK.hp.and CE.ok) (⟨(hO.at hS hz0 (fun _ _ h => h)), hCE⟩) hl.1 (Nat.le_of_ble_eq_true rfl) ⟨(by omega), (by omega)⟩ rfl dX1_count_110) ?_
        refine u_top (y := nI (sts S ((nI 4) - (nI 4)))) rfl ?_
        refine lv_goto (tgt := 179) hx hb dX1_count_113 (by decide) ?_
        exact hret _ _ _ _ _ _ _ (⟨by first | (rw [hcl_jj]; exact congrArg (fun z => some (Value.int z)) hT.1.symm) | (rw [hcl_jj]; exact congrArg (fun z => some (Value.int z)) hS1.1.symm) | (rw [hcl_jj]; exact congrArg (fun z => some (Value.int z)) hS1.2.2.1.symm) | (simp only [hcl_jj]; done) | (simp only [hcl_jj]; rfl) | (rw [hcl_jj]; rfl), by simp [thC, hlo, hok1]⟩) hS (by omega) (by omega) dX1_count_179
      · refine lv_tableIn (off := 100) (tgt := 106) hx hb dX1_count_6 (by decide) (by decide) (by decide) (by decide) ?_
        refine lv_aload_n hx hb dX1_count_106 rfl (lv_at hl 0 rfl) ?_
        refine lv_iload_n hx hb dX1_count_107 rfl (lv_at hl 2 rfl) ?_
        refine lv_iconst (v := nI 4) hx hb dX1_count_108 (by decide) ?_
        refine lv_isub hx hb dX1_count_109 ?_
        refine u_run (x_rV (C := RX5) (As := [.int ((nI 5) - (nI 4))]) SF hK (d := 4) (rk.le (Nat.le_of_ble_eq_true rfl)) (c_X5_inState l dC dI dA b mc S Hd ((nI 5) - (nI 4)) hS1) (lw_V q1331 q1332 q1333 q139 q1334) (n := 1) (by decide +kernel) rfl (by decide) (g_recv hK ((hO.at hS hz0 (fun _ _ h => h)) 0 _ rfl) (ci := 1) rfl) (XOK.hp.and CE.ok) (⟨(hO.at hS hz0 (fun _ _ h => h)), hCE⟩) hl.1 (Nat.le_of_ble_eq_true rfl) ⟨(by omega), (by omega)⟩ rfl dX1_count_110) ?_
        refine u_top (y := nI (sts S ((nI 5) - (nI 4)))) rfl ?_
        refine lv_goto (tgt := 179) hx hb dX1_count_113 (by decide) ?_
        exact hret _ _ _ _ _ _ _ (⟨by first | (rw [hcl_jj]; exact congrArg (fun z => some (Value.int z)) hT.1.symm) | (rw [hcl_jj]; exact congrArg (fun z => some (Value.int z)) hS1.1.symm) | (rw [hcl_jj]; exact congrArg (fun z => some (Value.int z)) hS1.2.2.1.symm) | (simp only [hcl_jj]; done) | (simp only [hcl_jj]; rfl) | (rw [hcl_jj]; rfl), by simp [thC, hlo, hok1]⟩) hS (by omega) (by omega) dX1_count_179
      · refine lv_tableIn (off := 100) (tgt := 106) hx hb dX1_count_6 (by decide) (by decide) (by decide) (by decide) ?_
        refine lv_aload_n hx hb dX1_count_106 rfl (lv_at hl 0 rfl) ?_
        refine lv_iload_n hx hb dX1_count_107 rfl (lv_at hl 2 rfl) ?_
        refine lv_iconst (v := nI 4) hx hb dX1_count_108 (by decide) ?_
        refine lv_isub hx hb dX1_count_109 ?_
        refine u_run (x_rV (C := RX5) (As := [.int ((nI 6) - (nI 4))]) SF hK (d := 4) (rk.le (Nat.le_of_ble_eq_true rfl)) (c_X5_inState l dC dI dA b mc S Hd ((nI 6) - (nI 4)) hS1) (lw_V q1331 q1332 q1333 q139 q1334) (n := 1) (by decide +kernel) rfl (by decide) (g_recv hK ((hO.at hS hz0 (fun _ _ h => h)) 0 _ rfl) (ci := 1) rfl) (XOK.hp.and CE.ok) (⟨(hO.at hS hz0 (fun _ _ h => h)), hCE⟩) hl.1 (Nat.le_of_ble_eq_true rfl) ⟨(by omega), (by omega)⟩ rfl dX1_count_110) ?_
        refine u_top (y := nI (sts S ((nI 6) - (nI 4)))) rfl ?_
        refine lv_goto (tgt := 179) hx hb dX1_count_113 (by decide) ?_
        exact hret _ _ _ _ _ _ _ (⟨by first | (rw [hcl_jj]; exact congrArg (fun z => some (Value.int z)) hT.1.symm) | (rw [hcl_jj]; exact congrArg (fun z => some (Value.int z)) hS1.1.symm) | (rw [hcl_jj]; exact congrArg (fun z => some (Value.int z)) hS1.2.2.1.symm) | (simp only [hcl_jj]; done) | (simp only [hcl_jj]; rfl) | (rw [hcl_jj]; rfl), by simp [thC, hlo, hok1]⟩) hS (by omega) (by omega) dX1_count_179
      · refine lv_tableIn (off := 110) (tgt := 116) hx hb dX1_count_6 (by decide) (by decide) (by decide) (by decide) ?_
        refine lv_aload_n hx hb dX1_count_116 rfl (lv_at hl 1 rfl) ?_
        refine lv_iconst (v := nI 2) hx hb dX1_count_117 (by decide) ?_
        refine g_newq (N' := 2) (t0 := 7) hx hb hown (hts _ q1335) (hEN.2.2.2.2 2 (by decide)) hK hS rfl (by omega) (by omega) (by omega) dX1_count_118 (fun q0 H heq9 hq0 hz9 oq hS => ?_)
        have hge_q0 : hs ≤ q0 := by omega
        have hz : hs ≤ H.size := by omega
        refine lv_dup hx hb dX1_count_121 rfl ?_
        refine lv_iconst (v := nI 0) hx hb dX1_count_122 (by decide) ?_
        refine lv_aload_n hx hb dX1_count_123 rfl (lv_at hl 1 rfl) ?_
        refine va_get (D := (dC, dI)) (ci := 0) (v := .ref (g 5)) (C := RX1) (T := TX1) (N := 9) hx hb hts in_X1 hown hK (hP1.at hS hz0 (fun h => h)) 0 rfl rfl 8 (by decide) (hts _ q224) (fun _ h9 => h9) rfl dX1_count_124 ?_
        refine g_aastL hx hb hK hq0 hS (Or.inr hge_q0) (t0 := 7) rfl (LM.kls hLE.1) (LM.asg hLE.1 laN0.2.2.2.2.1) (hWt.kept ((hS.fr hz0).2 _ (hz0 ▸ hWt.lt) (fun h => h))) (i := 0) (by omega) (by decide) dX1_count_127 (fun H locs hq0 hz9 oq hS => ?_)
        have hz := Nat.le_trans hz (Nat.le_of_eq hz9.symm)
        refine lv_dup hx hb dX1_count_128 rfl ?_
        refine lv_iconst (v := nI 1) hx hb dX1_count_129 (by decide) ?_
        refine lv_aload_n hx hb dX1_count_130 rfl (lv_at hl 0 rfl) ?_
        refine w_lam (T := #[.object "BadCodes$Office"]) (vals := [.ref (b 0)]) hx hb (hl.1.trans hml.symm) rfl hnm hLE.2.1 (hts _ q2607) laT1 rfl lam_fit1 rfl rfl (Nat.le_trans (Nat.le_of_ble_eq_true rfl) rk.2) (by omega) (by show _ + 1 ≤ _; omega) dX1_count_131 hS (fun q1 H heq9 hq1 hz9 oq hS => ?_)
        have hge_q1 : hs ≤ q1 := by omega
        have ne_q0_q1 : q0 ≠ q1 := Nat.ne_of_lt (Nat.lt_of_lt_of_eq hq0.lt heq9.symm)
        have hq0 := hq0.made oq
        have hz : hs ≤ H.size := by omega
        have hq1 : lamP (cs 1) [.ref (b 0)] q1 H := hq1
        refine W.eq (g2 := F0 m 136 ls [.ref q1, .int (nI 1), .ref q0, .ref q0, .ref (g 0)]) rfl ?_
        show W p l e R s m args below meth c H locs (((0 + 1) + 1) + 1) (((0 + 6) + 2) + 1) Q (F0 m 136 ls [.ref q1, .int (nI 1), .ref q0, .ref q0, .ref (g 0)])
        refine g_aastL hx hb hK hq0 hS (Or.inr hge_q0) (t0 := 7) rfl (LM.kls hLE.2.1) (LM.asg hLE.2.1 laN1.2.2.2.2.1) hq1 (i := 1) (by omega) (by decide) dX1_count_136 (fun H locs hq0 hz9 oq hS => ?_)
        have hq1 := hq1.kept (oq _ (Ne.symm ne_q0_q1))
        have hz := Nat.le_trans hz (Nat.le_of_eq hz9.symm)
        refine u_run (x_rV (C := RX1) (As := [.ref q0]) SF hK (d := 14) (rk.le (Nat.le_of_ble_eq_true rfl)) (c_X1_many l dC dI dA g b mc S Hd n b mc S Hd cs q0 2 (fun j => if j = 0 then 0 else 1) (fun j => if j = 0 then g 5 else q1) (fun j => if j = 0 then nI 0 else nI 0) (by decide) hS1 hT hS1 hT rfl) (lw_V q1340 q1342 qs26 q112 q1343) (n := 1) (by decide +kernel) rfl (by decide) (g_recv hK (hP1.at hS hz0 (fun h => h)) (ci := 0) rfl) ((XOK.hp.and (XOK.hp.and (XOK.hp.and (CE.ok.and (FT9.ok.and LE.ok))))).and XOK.hp) (⟨⟨hP1.at hS hz0 (fun h => h), hO.at hS hz0 (fun _ _ h => h), hO.at hS hz0 (fun _ _ h => h), hCE, hF, hLE⟩, TSA.mk2 (i0 := 0) (i1 := 1) (z0 := nI 0) (z1 := nI 0) hq0 (by decide) (by decide) (hWt.kept ((hS.fr hz0).2 _ (hz0 ▸ hWt.lt) (fun h => h))) hq1 (fun h => absurd h (by decide)) (fun h => absurd h (by decide))⟩) hl.1 (Nat.le_of_ble_eq_true rfl) ⟨(by omega), (by omega)⟩ rfl dX1_count_137) ?_
        refine u_top (y := nI (cntN (fun o => allN (fun j => tf S S Hd ((fun j => if j = 0 then 0 else 1) j) ((fun j => if j = 0 then nI 0 else nI 0) j) o) 2) (ln S))) rfl ?_
        refine lv_goto (tgt := 179) hx hb dX1_count_140 (by decide) ?_
        exact hret _ _ _ _ _ _ _ (⟨by rw [hcl_jj]; exact congrArg (fun z => some (Value.int (nI z))) (many2 (fun o ho => t_wt1)), by simp [thC, hlo, hok1]⟩) hS (by omega) (by omega) dX1_count_179
      · refine lv_tableIn (off := 137) (tgt := 143) hx hb dX1_count_6 (by decide) (by decide) (by decide) (by decide) ?_
        refine lv_aload_n hx hb dX1_count_143 rfl (lv_at hl 0 rfl) ?_
        refine u_run (x_rV (C := RX5) (As := []) SF hK (d := 0) (rk.le (Nat.le_of_ble_eq_true rfl)) (c_X5_sentAll l dC dI dA b mc S Hd ) (lw_V q1352 q1353 q1354 q139 q1355) (n := 0) (by decide +kernel) rfl (by decide) (g_recv hK ((hO.at hS hz0 (fun _ _ h => h)) 0 _ rfl) (ci := 1) rfl) (XOK.hp.and CE.ok) (⟨(hO.at hS hz0 (fun _ _ h => h)), hCE⟩) hl.1 (Nat.le_of_ble_eq_true rfl) ⟨(by omega), (by omega)⟩ rfl dX1_count_144) ?_
        refine u_top (y := sum6 S 21 6) rfl ?_
        refine lv_goto (tgt := 179) hx hb dX1_count_147 (by decide) ?_
        exact hret _ _ _ _ _ _ _ (⟨by first | (rw [hcl_jj]; exact congrArg (fun z => some (Value.int z)) hT.1.symm) | (rw [hcl_jj]; exact congrArg (fun z => some (Value.int z)) hS1.1.symm) | (rw [hcl_jj]; exact congrArg (fun z => some (Value.int z)) hS1.2.2.1.symm) | (simp only [hcl_jj]; done) | (simp only [hcl_jj]; rfl) | (rw [hcl_jj]; rfl), by simp [thC, hlo, hok1]⟩) hS (by omega) (by omega) dX1_count_179
      · refine lv_tableIn (off := 144) (tgt := 150) hx hb dX1_count_6 (by decide) (by decide) (by decide) (by decide) ?_
        refine lv_aload_n hx hb dX1_count_150 rfl (lv_at hl 1 rfl) ?_
        refine u_run (x_rV (C := RX1) (As := []) SF hK (d := 0) (rk.le (Nat.le_of_ble_eq_true rfl)) (c_X1_bagged l dC dI dA g b mc S Hd n ) (lw_V q1356 q1358 qs27 q112 q1359) (n := 0) (by decide +kernel) rfl (by decide) (g_recv hK (hP1.at hS hz0 (fun h => h)) (ci := 0) rfl) (XOK.hp.and (XOK.hp.and CE.ok)) (⟨hP1.at hS hz0 (fun h => h), hO.at hS hz0 (fun _ _ h => h), hCE⟩) hl.1 (Nat.le_of_ble_eq_true rfl) ⟨(by omega), (by omega)⟩ rfl dX1_count_151) ?_
        refine u_top (y := sum6 S 15 6) rfl ?_
        refine lv_goto (tgt := 179) hx hb dX1_count_154 (by decide) ?_
        exact hret _ _ _ _ _ _ _ (⟨by first | (rw [hcl_jj]; exact congrArg (fun z => some (Value.int z)) hT.1.symm) | (rw [hcl_jj]; exact congrArg (fun z => some (Value.int z)) hS1.1.symm) | (rw [hcl_jj]; exact congrArg (fun z => some (Value.int z)) hS1.2.2.1.symm) | (simp only [hcl_jj]; done) | (simp only [hcl_jj]; rfl) | (rw [hcl_jj]; rfl), by simp [thC, hlo, hok1]⟩) hS (by omega) (by omega) dX1_count_179
      · refine lv_tableIn (off := 151) (tgt := 157) hx hb dX1_count_6 (by decide) (by decide) (by decide) (by decide) ?_
        refine lv_aload_n hx hb dX1_count_157 rfl (lv_at hl 1 rfl) ?_
        refine u_run (x_rV (C := RX1) (As := []) SF hK (d := 1) (rk.le (Nat.le_of_ble_eq_true rfl)) (c_X1_openRoutes l dC dI dA g b mc S Hd n (show OPf S by omega)) (lw_V q1360 q1362 qs28 q112 q1363) (n := 0) (by decide +kernel) rfl (by decide) (g_recv hK (hP1.at hS hz0 (fun h => h)) (ci := 0) rfl) (XOK.hp.and (XOK.hp.and CE.ok)) (⟨hP1.at hS hz0 (fun h => h), hO.at hS hz0 (fun _ _ h => h), hCE⟩) hl.1 (Nat.le_of_ble_eq_true rfl) ⟨(by omega), (by omega)⟩ rfl dX1_count_158) ?_
        refine u_top (y := sum6 S 9 6) rfl ?_
        refine lv_goto (tgt := 179) hx hb dX1_count_161 (by decide) ?_
        exact hret _ _ _ _ _ _ _ (⟨by first | (rw [hcl_jj]; exact congrArg (fun z => some (Value.int z)) hT.1.symm) | (rw [hcl_jj]; exact congrArg (fun z => some (Value.int z)) hS1.1.symm) | (rw [hcl_jj]; exact congrArg (fun z => some (Value.int z)) hS1.2.2.1.symm) | (simp only [hcl_jj]; done) | (simp only [hcl_jj]; rfl) | (rw [hcl_jj]; rfl), by simp [thC, hlo, hok1]⟩) hS (by omega) (by omega) dX1_count_179
      · refine lv_tableIn (off := 158) (tgt := 164) hx hb dX1_count_6 (by decide) (by decide) (by decide) (by decide) ?_
        refine lv_aload_n hx hb dX1_count_164 rfl (lv_at hl 0 rfl) ?_
        refine va_getN (D := (dC, dI)) (ci := 1) (v := .int (S 1)) (C := RX5) (T := TX5) (N := 10) hx hb hts in_X5 hown hK ((hO.at hS hz0 (fun _ _ h => h)) 0 _ rfl) 0 rfl rfl 9 (by decide) (va_Nw.use rfl (hCE.1 11 (by decide))) (fun _ h9 => h9) rfl dX1_count_165 ?_
        refine lv_goto (tgt := 179) hx hb dX1_count_168 (by decide) ?_
        exact hret _ _ _ _ _ _ _ (⟨by first | (rw [hcl_jj]; exact congrArg (fun z => some (Value.int z)) hT.1.symm) | (rw [hcl_jj]; exact congrArg (fun z => some (Value.int z)) hS1.1.symm) | (rw [hcl_jj]; exact congrArg (fun z => some (Value.int z)) hS1.2.2.1.symm) | (simp only [hcl_jj]; done) | (simp only [hcl_jj]; rfl) | (rw [hcl_jj]; rfl), by simp [thC, hlo, hok1]⟩) hS (by omega) (by omega) dX1_count_179
    · refine lv_tableOut (tgt := 171) hx hb dX1_count_6 (inZ_out hok1) (by decide) ?_
      exact g_jdk hx hb hfl hown hts (vx_words ag_IA an_IA hts (hEN.2.2.1 5 (by decide)) hEN.2.1.2.2) (by decide) q1283 q135 og_IA hEN hAz hz0 hS (hl.1.trans hml.symm) dX1_count_171 dX1_count_174 dX1_count_175 dX1_count_178 (fun x hx => (hE x hx).elim) (rk.le (Nat.le_of_ble_eq_true rfl)) (by decide) hRc hRs (by omega) (by omega) hQ (fun _ _ => thY (nm := nmB) (k := 2) (by simp [thC, hlo, hok1]) (by decide) rfl)
  · have hz := Nat.le_trans hz hz9
    obtain ⟨h9, rfl⟩ := hP9
    exact hthr _ _ _ _ _ _ _ _ _ _ (thX (L1 := [(lo (n 1), 1)]) (L2 := [(inZ x.toInt 0 11, 2)]) (nm' := nmB) h9 rfl (by first | rfl | (rw [thC_n1 h9]; try rfl))) hS (by omega) (by omega) hce hcv hcl

set_option maxHeartbeats 4000000 in
theorem c_X1_town (l : Launch) (dC : Nat → ClassId) (dI : Nat → Nat → Nat) (dA : Nat → ClassId) (g : Nat → Nat) (b : Nat → Nat) (mc : Nat → Int32) (S : Nat → Int32) (Hd : Nat → Int32) (n : Nat → Int32) (sz : Nat) (cs : Nat → ClassId) (hs : Nat) (x : Int32) (y : Int32) (hS1 : SWf S) (hT : TWf Hd) (hLT : ∀ o, o < ln S → LTf S o) (hsz : sz ≤ hs) (hfl : l.stackTraces = false) : vx_Met l yX1_town (ws_ yX1_town cX1_town 5 (some (.int))) (rmD 50 (6) (40)) (gPx [.ref (g 0), .int x, .int y] (fun U H => AY dC dI dA g b mc S Hd n sz cs U H) hs dC dI dA) (gQ hs (fun _ => False) (fun v H => v = some (.int (twnV S Hd x.toNatClampNeg y.toNatClampNeg)) ∧ thC [(lo (n 1), 1), (inZ x.toInt 0 ((tn Hd : Int) - 1), 2), (inZ y.toInt 0 6, 3)] = 0)) (gX hs (fun _ => False) (fun E q H => ¬ thC [(lo (n 1), 1), (inZ x.toInt 0 ((tn Hd : Int) - 1), 2), (inZ y.toInt 0 6, 3)] = 0 ∧ E = nmA (thC [(lo (n 1), 1), (inZ x.toInt 0 ((tn Hd : Int) - 1), 2), (inZ y.toInt 0 6, 3)]))) (6) (40) (gF (fun _ => False) hs) := by
  refine l_meti (own := RX1) (by decide) rfl (Nat.le_of_ble_eq_true rfl) fun p e R s m args below meth c Q SF rk hRR hX hK hin hnm hE hret hthr hQ ls hl => ?_
  have hx := SF.1
  have hb := SF.2.1
  have hml := SF.2.2.1
  have hown := SF.2.2.2.1
  have hts := SF.2.2.2.2
  have hz0 := hX.2
  have hz : hs ≤ s.heap.size := Nat.le_of_eq hX.2.symm
  have hX := hX.1
  have hRc := hRR.1
  have hRs := hRR.2
  have gFs : ∀ q : Nat, s.heap.size ≤ q → gF (fun _ => False) hs q := fun q h => Or.inr (hz0 ▸ h)
  have hS : va_S (gF (fun _ => False) hs) s.heap s.heap [] := va_S.rf
  have hl : lv_has ls 5 [(0, .ref (g 0)), (1, .int x), (2, .int y)] := hl
  have hF := hX.2.1
  have hLE := hX.2.2.1
  have hWt := hX.2.2.2
  have hX := hX.1
  have hEN := hX.2.2
  have hCE := hEN.1
  have hAz : ∀ q, gF (fun _ => False) hs q → sz ≤ q := fun q h => h.elim (fun e => e.elim) (fun h => Nat.le_trans hsz h)
  obtain ⟨nv, hP0⟩ := AX.ob hX
  have hL := hS1.2.1
  have hn9 := hT.2.1
  refine lv_aload_n hx hb dX1_town_0 rfl (lv_at hl 0 rfl) ?_
  refine lv_iload_n hx hb dX1_town_1 rfl (lv_at hl 1 rfl) ?_
  refine g_runX (v_rV (C := RX1) (As := [.int x]) SF hK (d := 7) (rk.le (Nat.le_of_ble_eq_true rfl)) (c_X1_withTown l dC dI dA g b mc S Hd n sz s.heap.size x hT (show sz ≤ s.heap.size by omega) hfl) (lw_V q1371 q1373 qs29 q112 q1374) (n := 1) (by decide +kernel) rfl (by decide) (g_recv hK (hP0.at hS hz0 (fun h => h)) (ci := 0) rfl) (XOK.hs (XOK.hp.and (XOK.hp.and EN.ok))) (⟨AX.at hX hS hz0 hsz, rfl⟩) hl.1 (Nat.le_of_ble_eq_true rfl) ⟨(by omega), (by omega)⟩ rfl dX1_town_2) rfl hS (fun _ h => h.elim) gFs (fun v9 H locs hP9 hz9 oq hS => ?_) (fun E q9 ce H locs hP9 hz9 oq hS hce hcv hcl => ?_)
  · obtain ⟨rfl, hlo, hok1⟩ := hP9
    have hz := Nat.le_trans hz hz9
    refine W.eq (g2 := F0 m 5 ls [.ref (b 0)]) rfl ?_
    have hn1 := lo_n hlo
    obtain ⟨hP1, hO⟩ := hX.2.1 hn1
    obtain ⟨t, ht_t, htb_t, rfl⟩ := inZ_n hok1
    have hcl_t : (nI t).toNatClampNeg = t := nI_clamp htb_t
    refine lv_astore_n (lv' := [(3, .ref (b 0)), (0, .ref (g 0)), (1, .int (nI t)), (2, .int y)]) hx hb dX1_town_5 rfl hl (by decide) rfl (fun ls hl => ?_)
    refine lv_aload_n hx hb dX1_town_6 rfl (lv_at hl 0 rfl) ?_
    refine lv_iload_n hx hb dX1_town_7 rfl (lv_at hl 2 rfl) ?_
    refine x_runa (x_rV (C := RX5) (As := [.int (nI t)]) SF hK (d := 3) (rk.le (Nat.le_of_ble_eq_true rfl)) (c_X5_town l dC dI dA b mc S Hd t (show t < tn Hd by omega) hT) (lw_V q1375 q966 q967 q139 q968) (n := 1) (by decide +kernel) rfl (by decide) (g_recv hK ((hO.at hS hz0 (fun _ _ h => h)) 0 _ rfl) (ci := 1) rfl) (XOK.hp.and CE.ok) (⟨(hO.at hS hz0 (fun _ _ h => h)), hCE⟩) hl.1 (Nat.le_of_ble_eq_true rfl) ⟨(by omega), (by omega)⟩ rfl dX1_town_8) ?_
    refine g_top (y := .ref (b (10 + t))) rfl ?_
    refine lv_astore (lv' := [(4, .ref (b (10 + t))), (3, .ref (b 0)), (0, .ref (g 0)), (1, .int (nI t)), (2, .int y)]) hx hb dX1_town_11 hl (by decide) rfl (fun ls hl => ?_)
    refine lv_iload_n hx hb dX1_town_13 rfl (lv_at hl 4 rfl) ?_
    by_cases hok2 : inZ y.toInt 0 6 = true
    · obtain ⟨jj, ht_jj, htb_jj, rfl⟩ := inZ_n hok2
      have hcl_jj : (nI jj).toNatClampNeg = jj := nI_clamp htb_jj
      rcases (show jj = 0 ∨ jj = 1 ∨ jj = 2 ∨ jj = 3 ∨ jj = 4 ∨ jj = 5 ∨ jj = 6 by omega) with rfl | rfl | rfl | rfl | rfl | rfl | rfl
      · refine lv_tableIn (off := 42) (tgt := 56) hx hb dX1_town_14 (by decide) (by decide) (by decide) (by decide) ?_
        refine lv_aload hx hb dX1_town_56 (lv_at hl 0 rfl) ?_
        refine u_run (x_rV (C := RX6) (As := []) SF hK (d := 0) (rk.le (Nat.le_of_ble_eq_true rfl)) (c_X6_number l dC dI dA b mc S Hd t (show t < tn Hd by omega) hT) (lw_V q1376 q971 q972 q143 q973) (n := 0) (by decide +kernel) rfl (by decide) (g_recv hK ((hO.at hS hz0 (fun _ _ h => h)) _ _ (offE_tw (show t < tn Hd from (by omega)) hT.2.1)) (ci := 4) rfl) (XOK.hp.and CE.ok) (⟨(hO.at hS hz0 (fun _ _ h => h)), hCE⟩) hl.1 (Nat.le_of_ble_eq_true rfl) ⟨(by omega), (by omega)⟩ rfl dX1_town_58) ?_
        refine u_top (y := nI (num Hd t)) rfl ?_
        refine lv_goto (tgt := 173) hx hb dX1_town_61 (by decide) ?_
        exact hret _ _ _ _ _ _ _ (⟨by first | (rw [hcl_t, hcl_jj]; exact congrArg (fun z => some (Value.int z)) (hT.2.2 t (by omega)).1.symm) | (rw [hcl_t, hcl_jj]; exact congrArg (fun z => some (Value.int z)) (hT.2.2 t (by omega)).2.2.1.symm) | (rw [hcl_t, hcl_jj]; rfl), by simp [thC, hlo, hok1, hok2]⟩) hS (by omega) (by omega) dX1_town_173
      · refine lv_tableIn (off := 50) (tgt := 64) hx hb dX1_town_14 (by decide) (by decide) (by decide) (by decide) ?_
        refine lv_aload hx hb dX1_town_64 (lv_at hl 0 rfl) ?_
        refine u_run (x_rV (C := RX6) (As := []) SF hK (d := 0) (rk.le (Nat.le_of_ble_eq_true rfl)) (c_X6_route l dC dI dA b mc S Hd t (show t < tn Hd by omega) hT) (lw_V q1377 q1225 q1226 q143 q1227) (n := 0) (by decide +kernel) rfl (by decide) (g_recv hK ((hO.at hS hz0 (fun _ _ h => h)) _ _ (offE_tw (show t < tn Hd from (by omega)) hT.2.1)) (ci := 4) rfl) (XOK.hp.and CE.ok) (⟨(hO.at hS hz0 (fun _ _ h => h)), hCE⟩) hl.1 (Nat.le_of_ble_eq_true rfl) ⟨(by omega), (by omega)⟩ rfl dX1_town_66) ?_
        refine u_top (y := nI (rou Hd t)) rfl ?_
        refine lv_goto (tgt := 173) hx hb dX1_town_69 (by decide) ?_
        exact hret _ _ _ _ _ _ _ (⟨by first | (rw [hcl_t, hcl_jj]; exact congrArg (fun z => some (Value.int z)) (hT.2.2 t (by omega)).1.symm) | (rw [hcl_t, hcl_jj]; exact congrArg (fun z => some (Value.int z)) (hT.2.2 t (by omega)).2.2.1.symm) | (rw [hcl_t, hcl_jj]; rfl), by simp [thC, hlo, hok1, hok2]⟩) hS (by omega) (by omega) dX1_town_173
      · refine lv_tableIn (off := 58) (tgt := 72) hx hb dX1_town_14 (by decide) (by decide) (by decide) (by decide) ?_
        refine lv_aload hx hb dX1_town_72 (lv_at hl 0 rfl) ?_
        refine u_run (x_rV (C := RX6) (As := []) SF hK (d := 0) (rk.le (Nat.le_of_ble_eq_true rfl)) (c_X6_check l dC dI dA b mc S Hd t (show t < tn Hd by omega) hT) (lw_V q1378 q1379 q1380 q143 q1381) (n := 0) (by decide +kernel) rfl (by decide) (g_recv hK ((hO.at hS hz0 (fun _ _ h => h)) _ _ (offE_tw (show t < tn Hd from (by omega)) hT.2.1)) (ci := 4) rfl) (XOK.hp.and CE.ok) (⟨(hO.at hS hz0 (fun _ _ h => h)), hCE⟩) hl.1 (Nat.le_of_ble_eq_true rfl) ⟨(by omega), (by omega)⟩ rfl dX1_town_74) ?_
        refine u_top (y := nI (chk (num Hd t))) rfl ?_
        refine lv_goto (tgt := 173) hx hb dX1_town_77 (by decide) ?_
        exact hret _ _ _ _ _ _ _ (⟨by first | (rw [hcl_t, hcl_jj]; exact congrArg (fun z => some (Value.int z)) (hT.2.2 t (by omega)).1.symm) | (rw [hcl_t, hcl_jj]; exact congrArg (fun z => some (Value.int z)) (hT.2.2 t (by omega)).2.2.1.symm) | (rw [hcl_t, hcl_jj]; rfl), by simp [thC, hlo, hok1, hok2]⟩) hS (by omega) (by omega) dX1_town_173
      · refine lv_tableIn (off := 66) (tgt := 80) hx hb dX1_town_14 (by decide) (by decide) (by decide) (by decide) ?_
        refine lv_aload_n hx hb dX1_town_80 rfl (lv_at hl 2 rfl) ?_
        refine lv_iconst (v := nI 1) hx hb dX1_town_81 (by decide) ?_
        refine g_newq (N' := 1) (t0 := 7) hx hb hown (hts _ q1335) (hEN.2.2.2.2 2 (by decide)) hK hS rfl (by omega) (by omega) (by omega) dX1_town_82 (fun q0 H heq9 hq0 hz9 oq hS => ?_)
        have hge_q0 : hs ≤ q0 := by omega
        have hz : hs ≤ H.size := by omega
        refine lv_dup hx hb dX1_town_85 rfl ?_
        refine lv_iconst (v := nI 0) hx hb dX1_town_86 (by decide) ?_
        refine lv_aload_n hx hb dX1_town_87 rfl (lv_at hl 1 rfl) ?_
        refine lv_iload_n hx hb dX1_town_88 rfl (lv_at hl 3 rfl) ?_
        refine w_lam (T := #[.object "BadCodes$Office", .int]) (vals := [.ref (b 0), .int (nI t)]) hx hb (hl.1.trans hml.symm) rfl hnm hLE.2.2.1 (hts _ q2607) laT2 rfl lam_fit2 rfl rfl (Nat.le_trans (Nat.le_of_ble_eq_true rfl) rk.2) (by omega) (by show _ + 2 ≤ _; omega) dX1_town_89 hS (fun q1 H heq9 hq1 hz9 oq hS => ?_)
        have hge_q1 : hs ≤ q1 := by omega
        have ne_q0_q1 : q0 ≠ q1 := Nat.ne_of_lt (Nat.lt_of_lt_of_eq hq0.lt heq9.symm)
        have hq0 := hq0.made oq
        have hz : hs ≤ H.size := by omega
        have hq1 : lamP (cs 2) [.ref (b 0), .int (nI t)] q1 H := hq1
        refine W.eq (g2 := F0 m 94 ls [.ref q1, .int (nI 0), .ref q0, .ref q0, .ref (g 0)]) rfl ?_
        show W p l e R s m args below meth c H locs (((0 + 2) + 1) + 1) (((0 + 12) + 1) + 2) Q (F0 m 94 ls [.ref q1, .int (nI 0), .ref q0, .ref q0, .ref (g 0)])
        refine g_aastL hx hb hK hq0 hS (Or.inr hge_q0) (t0 := 7) rfl (LM.kls hLE.2.2.1) (LM.asg hLE.2.2.1 laN2.2.2.2.2.1) hq1 (i := 0) (by omega) (by decide) dX1_town_94 (fun H locs hq0 hz9 oq hS => ?_)
        have hq1 := hq1.kept (oq _ (Ne.symm ne_q0_q1))
        have hz := Nat.le_trans hz (Nat.le_of_eq hz9.symm)
        refine u_run (x_rV (C := RX1) (As := [.ref q0]) SF hK (d := 14) (rk.le (Nat.le_of_ble_eq_true rfl)) (c_X1_many l dC dI dA g b mc S Hd n b mc S Hd cs q0 1 (fun _ => 2) (fun _ => q1) (fun _ => nI t) (by decide) hS1 hT hS1 hT rfl) (lw_V q1340 q1342 qs26 q112 q1343) (n := 1) (by decide +kernel) rfl (by decide) (g_recv hK (hP1.at hS hz0 (fun h => h)) (ci := 0) rfl) ((XOK.hp.and (XOK.hp.and (XOK.hp.and (CE.ok.and (FT9.ok.and LE.ok))))).and XOK.hp) (⟨⟨hP1.at hS hz0 (fun h => h), hO.at hS hz0 (fun _ _ h => h), hO.at hS hz0 (fun _ _ h => h), hCE, hF, hLE⟩, TSA.mk1 (i := 2) (z := nI t) hq0 (by decide) hq1 (fun h => absurd h (by decide))⟩) hl.1 (Nat.le_of_ble_eq_true rfl) ⟨(by omega), (by omega)⟩ rfl dX1_town_95) ?_
        refine u_top (y := nI (cntN (fun o => allN (fun j => tf S S Hd ((fun _ => 2) j) ((fun _ => nI t) j) o) 1) (ln S))) rfl ?_
        refine lv_goto (tgt := 173) hx hb dX1_town_98 (by decide) ?_
        exact hret _ _ _ _ _ _ _ (⟨by rw [hcl_t, hcl_jj]; exact congrArg (fun z => some (Value.int (nI z))) (many1 (fun o ho => t_sr (hLT o ho) (by omega))), by simp [thC, hlo, hok1, hok2]⟩) hS (by omega) (by omega) dX1_town_173
      · refine lv_tableIn (off := 87) (tgt := 101) hx hb dX1_town_14 (by decide) (by decide) (by decide) (by decide) ?_
        refine lv_aload_n hx hb dX1_town_101 rfl (lv_at hl 2 rfl) ?_
        refine lv_iconst (v := nI 2) hx hb dX1_town_102 (by decide) ?_
        refine g_newq (N' := 2) (t0 := 7) hx hb hown (hts _ q1335) (hEN.2.2.2.2 2 (by decide)) hK hS rfl (by omega) (by omega) (by omega) dX1_town_103 (fun q0 H heq9 hq0 hz9 oq hS => ?_)
        have hge_q0 : hs ≤ q0 := by omega
        have hz : hs ≤ H.size := by omega
        refine lv_dup hx hb dX1_town_106 rfl ?_
        refine lv_iconst (v := nI 0) hx hb dX1_town_107 (by decide) ?_
        refine lv_aload_n hx hb dX1_town_108 rfl (lv_at hl 2 rfl) ?_
        refine va_get (D := (dC, dI)) (ci := 0) (v := .ref (g 5)) (C := RX1) (T := TX1) (N := 9) hx hb hts in_X1 hown hK (hP1.at hS hz0 (fun h => h)) 0 rfl rfl 8 (by decide) (hts _ q224) (fun _ h9 => h9) rfl dX1_town_109 ?_
        refine g_aastL hx hb hK hq0 hS (Or.inr hge_q0) (t0 := 7) rfl (LM.kls hLE.1) (LM.asg hLE.1 laN0.2.2.2.2.1) (hWt.kept ((hS.fr hz0).2 _ (hz0 ▸ hWt.lt) (fun h => h))) (i := 0) (by omega) (by decide) dX1_town_112 (fun H locs hq0 hz9 oq hS => ?_)
        have hz := Nat.le_trans hz (Nat.le_of_eq hz9.symm)
        refine lv_dup hx hb dX1_town_113 rfl ?_
        refine lv_iconst (v := nI 1) hx hb dX1_town_114 (by decide) ?_
        refine lv_aload_n hx hb dX1_town_115 rfl (lv_at hl 1 rfl) ?_
        refine lv_iload_n hx hb dX1_town_116 rfl (lv_at hl 3 rfl) ?_
        refine w_lam (T := #[.object "BadCodes$Office", .int]) (vals := [.ref (b 0), .int (nI t)]) hx hb (hl.1.trans hml.symm) rfl hnm hLE.2.2.2.1 (hts _ q2607) laT3 rfl lam_fit2 rfl rfl (Nat.le_trans (Nat.le_of_ble_eq_true rfl) rk.2) (by omega) (by show _ + 2 ≤ _; omega) dX1_town_117 hS (fun q1 H heq9 hq1 hz9 oq hS => ?_)
        have hge_q1 : hs ≤ q1 := by omega
        have ne_q0_q1 : q0 ≠ q1 := Nat.ne_of_lt (Nat.lt_of_lt_of_eq hq0.lt heq9.symm)
        have hq0 := hq0.made oq
        have hz : hs ≤ H.size := by omega
        have hq1 : lamP (cs 3) [.ref (b 0), .int (nI t)] q1 H := hq1
        refine W.eq (g2 := F0 m 122 ls [.ref q1, .int (nI 1), .ref q0, .ref q0, .ref (g 0)]) rfl ?_
        show W p l e R s m args below meth c H locs (((0 + 2) + 1) + 1) (((0 + 12) + 2) + 2) Q (F0 m 122 ls [.ref q1, .int (nI 1), .ref q0, .ref q0, .ref (g 0)])
        refine g_aastL hx hb hK hq0 hS (Or.inr hge_q0) (t0 := 7) rfl (LM.kls hLE.2.2.2.1) (LM.asg hLE.2.2.2.1 laN3.2.2.2.2.1) hq1 (i := 1) (by omega) (by decide) dX1_town_122 (fun H locs hq0 hz9 oq hS => ?_)
        have hq1 := hq1.kept (oq _ (Ne.symm ne_q0_q1))
        have hz := Nat.le_trans hz (Nat.le_of_eq hz9.symm)
        refine u_run (x_rV (C := RX1) (As := [.ref q0]) SF hK (d := 14) (rk.le (Nat.le_of_ble_eq_true rfl)) (c_X1_many l dC dI dA g b mc S Hd n b mc S Hd cs q0 2 (fun j => if j = 0 then 0 else 3) (fun j => if j = 0 then g 5 else q1) (fun j => if j = 0 then nI 0 else nI t) (by decide) hS1 hT hS1 hT rfl) (lw_V q1340 q1342 qs26 q112 q1343) (n := 1) (by decide +kernel) rfl (by decide) (g_recv hK (hP1.at hS hz0 (fun h => h)) (ci := 0) rfl) ((XOK.hp.and (XOK.hp.and (XOK.hp.and (CE.ok.and (FT9.ok.and LE.ok))))).and XOK.hp) (⟨⟨hP1.at hS hz0 (fun h => h), hO.at hS hz0 (fun _ _ h => h), hO.at hS hz0 (fun _ _ h => h), hCE, hF, hLE⟩, TSA.mk2 (i0 := 0) (i1 := 3) (z0 := nI 0) (z1 := nI t) hq0 (by decide) (by decide) (hWt.kept ((hS.fr hz0).2 _ (hz0 ▸ hWt.lt) (fun h => h))) hq1 (fun h => absurd h (by decide)) (fun h => absurd h (by decide))⟩) hl.1 (Nat.le_of_ble_eq_true rfl) ⟨(by omega), (by omega)⟩ rfl dX1_town_123) ?_
        refine u_top (y := nI (cntN (fun o => allN (fun j => tf S S Hd ((fun j => if j = 0 then 0 else 3) j) ((fun j => if j = 0 then nI 0 else nI t) j) o) 2) (ln S))) rfl ?_
        refine lv_goto (tgt := 173) hx hb dX1_town_126 (by decide) ?_
        exact hret _ _ _ _ _ _ _ (⟨by rw [hcl_t, hcl_jj]; exact congrArg (fun z => some (Value.int (nI z))) (many2 (fun o ho => t_wt3 (by omega) hT)), by simp [thC, hlo, hok1, hok2]⟩) hS (by omega) (by omega) dX1_town_173
      · refine lv_tableIn (off := 115) (tgt := 129) hx hb dX1_town_14 (by decide) (by decide) (by decide) (by decide) ?_
        refine lv_aload_n hx hb dX1_town_129 rfl (lv_at hl 2 rfl) ?_
        refine lv_iconst (v := nI 2) hx hb dX1_town_130 (by decide) ?_
        refine g_newq (N' := 2) (t0 := 7) hx hb hown (hts _ q1335) (hEN.2.2.2.2 2 (by decide)) hK hS rfl (by omega) (by omega) (by omega) dX1_town_131 (fun q0 H heq9 hq0 hz9 oq hS => ?_)
        have hge_q0 : hs ≤ q0 := by omega
        have hz : hs ≤ H.size := by omega
        refine lv_dup hx hb dX1_town_134 rfl ?_
        refine lv_iconst (v := nI 0) hx hb dX1_town_135 (by decide) ?_
        refine lv_aload_n hx hb dX1_town_136 rfl (lv_at hl 2 rfl) ?_
        refine va_get (D := (dC, dI)) (ci := 0) (v := .ref (g 5)) (C := RX1) (T := TX1) (N := 9) hx hb hts in_X1 hown hK (hP1.at hS hz0 (fun h => h)) 0 rfl rfl 8 (by decide) (hts _ q224) (fun _ h9 => h9) rfl dX1_town_137 ?_
        refine g_aastL hx hb hK hq0 hS (Or.inr hge_q0) (t0 := 7) rfl (LM.kls hLE.1) (LM.asg hLE.1 laN0.2.2.2.2.1) (hWt.kept ((hS.fr hz0).2 _ (hz0 ▸ hWt.lt) (fun h => h))) (i := 0) (by omega) (by decide) dX1_town_140 (fun H locs hq0 hz9 oq hS => ?_)
        have hz := Nat.le_trans hz (Nat.le_of_eq hz9.symm)
        refine lv_dup hx hb dX1_town_141 rfl ?_
        refine lv_iconst (v := nI 1) hx hb dX1_town_142 (by decide) ?_
        refine lv_aload_n hx hb dX1_town_143 rfl (lv_at hl 1 rfl) ?_
        refine lv_iload_n hx hb dX1_town_144 rfl (lv_at hl 3 rfl) ?_
        refine w_lam (T := #[.object "BadCodes$Office", .int]) (vals := [.ref (b 0), .int (nI t)]) hx hb (hl.1.trans hml.symm) rfl hnm hLE.2.2.2.2.1 (hts _ q2607) laT4 rfl lam_fit2 rfl rfl (Nat.le_trans (Nat.le_of_ble_eq_true rfl) rk.2) (by omega) (by show _ + 2 ≤ _; omega) dX1_town_145 hS (fun q1 H heq9 hq1 hz9 oq hS => ?_)
        have hge_q1 : hs ≤ q1 := by omega
        have ne_q0_q1 : q0 ≠ q1 := Nat.ne_of_lt (Nat.lt_of_lt_of_eq hq0.lt heq9.symm)
        have hq0 := hq0.made oq
        have hz : hs ≤ H.size := by omega
        have hq1 : lamP (cs 4) [.ref (b 0), .int (nI t)] q1 H := hq1
        refine W.eq (g2 := F0 m 150 ls [.ref q1, .int (nI 1), .ref q0, .ref q0, .ref (g 0)]) rfl ?_
        show W p l e R s m args below meth c H locs (((0 + 2) + 1) + 1) (((0 + 12) + 2) + 2) Q (F0 m 150 ls [.ref q1, .int (nI 1), .ref q0, .ref q0, .ref (g 0)])
        refine g_aastL hx hb hK hq0 hS (Or.inr hge_q0) (t0 := 7) rfl (LM.kls hLE.2.2.2.2.1) (LM.asg hLE.2.2.2.2.1 laN4.2.2.2.2.1) hq1 (i := 1) (by omega) (by decide) dX1_town_150 (fun H locs hq0 hz9 oq hS => ?_)
        have hq1 := hq1.kept (oq _ (Ne.symm ne_q0_q1))
        have hz := Nat.le_trans hz (Nat.le_of_eq hz9.symm)
        refine u_run (x_rV (C := RX1) (As := [.ref q0]) SF hK (d := 14) (rk.le (Nat.le_of_ble_eq_true rfl)) (c_X1_many l dC dI dA g b mc S Hd n b mc S Hd cs q0 2 (fun j => if j = 0 then 0 else 4) (fun j => if j = 0 then g 5 else q1) (fun j => if j = 0 then nI 0 else nI t) (by decide) hS1 hT hS1 hT rfl) (lw_V q1340 q1342 qs26 q112 q1343) (n := 1) (by decide +kernel) rfl (by decide) (g_recv hK (hP1.at hS hz0 (fun h => h)) (ci := 0) rfl) ((XOK.hp.and (XOK.hp.and (XOK.hp.and (CE.ok.and (FT9.ok.and LE.ok))))).and XOK.hp) (⟨⟨hP1.at hS hz0 (fun h => h), hO.at hS hz0 (fun _ _ h => h), hO.at hS hz0 (fun _ _ h => h), hCE, hF, hLE⟩, TSA.mk2 (i0 := 0) (i1 := 4) (z0 := nI 0) (z1 := nI t) hq0 (by decide) (by decide) (hWt.kept ((hS.fr hz0).2 _ (hz0 ▸ hWt.lt) (fun h => h))) hq1 (fun h => absurd h (by decide)) (fun _ => ⟨t, (by omega), rfl⟩)⟩) hl.1 (Nat.le_of_ble_eq_true rfl) ⟨(by omega), (by omega)⟩ rfl dX1_town_151) ?_
        refine u_top (y := nI (cntN (fun o => allN (fun j => tf S S Hd ((fun j => if j = 0 then 0 else 4) j) ((fun j => if j = 0 then nI 0 else nI t) j) o) 2) (ln S))) rfl ?_
        refine lv_goto (tgt := 173) hx hb dX1_town_154 (by decide) ?_
        exact hret _ _ _ _ _ _ _ (⟨by rw [hcl_t, hcl_jj]; exact congrArg (fun z => some (Value.int (nI z))) (many2 (fun o ho => t_nr (by omega) hT)), by simp [thC, hlo, hok1, hok2]⟩) hS (by omega) (by omega) dX1_town_173
      · refine lv_tableIn (off := 143) (tgt := 157) hx hb dX1_town_14 (by decide) (by decide) (by decide) (by decide) ?_
        refine lv_aload hx hb dX1_town_157 (lv_at hl 0 rfl) ?_
        refine u_run (x_rV (C := RX6) (As := []) SF hK (d := 2) (rk.le (Nat.le_of_ble_eq_true rfl)) (c_X6_sum l dC dI dA b mc S Hd t (show t < tn Hd by omega) hT) (lw_V q1389 q1197 q1198 q143 q1199) (n := 0) (by decide +kernel) rfl (by decide) (g_recv hK ((hO.at hS hz0 (fun _ _ h => h)) _ _ (offE_tw (show t < tn Hd from (by omega)) hT.2.1)) (ci := 4) rfl) (XOK.hp.and CE.ok) (⟨(hO.at hS hz0 (fun _ _ h => h)), hCE⟩) hl.1 (Nat.le_of_ble_eq_true rfl) ⟨(by omega), (by omega)⟩ rfl dX1_town_159) ?_
        refine u_top (y := nI (dsm (cd (num Hd t)))) rfl ?_
        refine lv_goto (tgt := 173) hx hb dX1_town_162 (by decide) ?_
        exact hret _ _ _ _ _ _ _ (⟨by first | (rw [hcl_t, hcl_jj]; exact congrArg (fun z => some (Value.int z)) (hT.2.2 t (by omega)).1.symm) | (rw [hcl_t, hcl_jj]; exact congrArg (fun z => some (Value.int z)) (hT.2.2 t (by omega)).2.2.1.symm) | (rw [hcl_t, hcl_jj]; rfl), by simp [thC, hlo, hok1, hok2]⟩) hS (by omega) (by omega) dX1_town_173
    · refine lv_tableOut (tgt := 165) hx hb dX1_town_14 (inZ_out hok2) (by decide) ?_
      exact g_jdk hx hb hfl hown hts (vx_words ag_IA an_IA hts (hEN.2.2.1 5 (by decide)) hEN.2.1.2.2) (by decide) q1283 q135 og_IA hEN hAz hz0 hS (hl.1.trans hml.symm) dX1_town_165 dX1_town_168 dX1_town_169 dX1_town_172 (fun x hx => (hE x hx).elim) (rk.le (Nat.le_of_ble_eq_true rfl)) (by decide) hRc hRs (by omega) (by omega) hQ (fun _ _ => thY (nm := nmA) (k := 3) (by simp [thC, hlo, hok1, hok2]) (by decide) rfl)
  · have hz := Nat.le_trans hz hz9
    obtain ⟨h9, rfl⟩ := hP9
    exact hthr _ _ _ _ _ _ _ _ _ _ (thX (L1 := [(lo (n 1), 1), (inZ x.toInt 0 ((tn Hd : Int) - 1), 2)]) (L2 := [(inZ y.toInt 0 6, 3)]) (nm' := nmA) h9 rfl rfl) hS (by omega) (by omega) hce hcv hcl

set_option maxHeartbeats 4000000 in
theorem c_X1_bundle (l : Launch) (dC : Nat → ClassId) (dI : Nat → Nat → Nat) (dA : Nat → ClassId) (g : Nat → Nat) (b : Nat → Nat) (mc : Nat → Int32) (S : Nat → Int32) (Hd : Nat → Int32) (n : Nat → Int32) (sz : Nat) (cs : Nat → ClassId) (hs : Nat) (x : Int32) (y : Int32) (hS1 : SWf S) (hT : TWf Hd) (hsz : sz ≤ hs) (hfl : l.stackTraces = false) : vx_Met l yX1_bundle (ws_ yX1_bundle cX1_bundle 5 (some (.int))) (rmD 50 (7) (44)) (gPx [.ref (g 0), .int x, .int y] (fun U H => AY dC dI dA g b mc S Hd n sz cs U H) hs dC dI dA) (gQ hs (fun _ => False) (fun v H => v = some (.int (bunV S Hd x.toNatClampNeg y.toNatClampNeg)) ∧ thC [(lo (n 1), 1), (inZ x.toInt 0 5, 2), (inZ y.toInt 0 3, 3)] = 0)) (gX hs (fun _ => False) (fun E q H => ¬ thC [(lo (n 1), 1), (inZ x.toInt 0 5, 2), (inZ y.toInt 0 3, 3)] = 0 ∧ E = nmA (thC [(lo (n 1), 1), (inZ x.toInt 0 5, 2), (inZ y.toInt 0 3, 3)]))) (7) (44) (gF (fun _ => False) hs) := by
  refine l_meti (own := RX1) (by decide) rfl (Nat.le_of_ble_eq_true rfl) fun p e R s m args below meth c Q SF rk hRR hX hK hin hnm hE hret hthr hQ ls hl => ?_
  have hx := SF.1
  have hb := SF.2.1
  have hml := SF.2.2.1
  have hown := SF.2.2.2.1
  have hts := SF.2.2.2.2
  have hz0 := hX.2
  have hz : hs ≤ s.heap.size := Nat.le_of_eq hX.2.symm
  have hX := hX.1
  have hRc := hRR.1
  have hRs := hRR.2
  have gFs : ∀ q : Nat, s.heap.size ≤ q → gF (fun _ => False) hs q := fun q h => Or.inr (hz0 ▸ h)
  have hS : va_S (gF (fun _ => False) hs) s.heap s.heap [] := va_S.rf
  have hl : lv_has ls 5 [(0, .ref (g 0)), (1, .int x), (2, .int y)] := hl
  have hF := hX.2.1
  have hLE := hX.2.2.1
  have hWt := hX.2.2.2
  have hX := hX.1
  have hEN := hX.2.2
  have hCE := hEN.1
  have hAz : ∀ q, gF (fun _ => False) hs q → sz ≤ q := fun q h => h.elim (fun e => e.elim) (fun h => Nat.le_trans hsz h)
  obtain ⟨nv, hP0⟩ := AX.ob hX
  have hL := hS1.2.1
  have hn9 := hT.2.1
  refine lv_aload_n hx hb dX1_bundle_0 rfl (lv_at hl 0 rfl) ?_
  refine lv_iload_n hx hb dX1_bundle_1 rfl (lv_at hl 1 rfl) ?_
  refine g_runX (v_rV (C := RX1) (As := [.int x]) SF hK (d := 7) (rk.le (Nat.le_of_ble_eq_true rfl)) (c_X1_withBundle l dC dI dA g b mc S Hd n sz s.heap.size x (show sz ≤ s.heap.size by omega) hfl) (lw_V q1574 q1576 qs35 q112 q1577) (n := 1) (by decide +kernel) rfl (by decide) (g_recv hK (hP0.at hS hz0 (fun h => h)) (ci := 0) rfl) (XOK.hs (XOK.hp.and (XOK.hp.and EN.ok))) (⟨AX.at hX hS hz0 hsz, rfl⟩) hl.1 (Nat.le_of_ble_eq_true rfl) ⟨(by omega), (by omega)⟩ rfl dX1_bundle_2) rfl hS (fun _ h => h.elim) gFs (fun v9 H locs hP9 hz9 oq hS => ?_) (fun E q9 ce H locs hP9 hz9 oq hS hce hcv hcl => ?_)
  · obtain ⟨rfl, hlo, hok1⟩ := hP9
    have hz := Nat.le_trans hz hz9
    refine W.eq (g2 := F0 m 5 ls [.ref (b 0)]) rfl ?_
    have hn1 := lo_n hlo
    obtain ⟨hP1, hO⟩ := hX.2.1 hn1
    obtain ⟨b9, ht_b9, htb_b9, rfl⟩ := inZ_n hok1
    have hcl_b9 : (nI b9).toNatClampNeg = b9 := nI_clamp htb_b9
    refine lv_astore_n (lv' := [(3, .ref (b 0)), (0, .ref (g 0)), (1, .int (nI b9)), (2, .int y)]) hx hb dX1_bundle_5 rfl hl (by decide) rfl (fun ls hl => ?_)
    refine lv_aload_n hx hb dX1_bundle_6 rfl (lv_at hl 0 rfl) ?_
    refine lv_iload_n hx hb dX1_bundle_7 rfl (lv_at hl 2 rfl) ?_
    refine w_lam (T := #[.object "BadCodes$Office", .int]) (vals := [.ref (b 0), .int (nI b9)]) hx hb (hl.1.trans hml.symm) rfl hnm hLE.2.2.2.2.2.1 (hts _ q2607) laT5 rfl lam_fit2 rfl rfl (Nat.le_trans (Nat.le_of_ble_eq_true rfl) rk.2) (by omega) (by show _ + 2 ≤ _; omega) dX1_bundle_8 hS (fun q1 H heq9 hq1 hz9 oq hS => ?_)
    have hge_q1 : hs ≤ q1 := by omega
    have hz : hs ≤ H.size := by omega
    have hq1 : lamP (cs 5) [.ref (b 0), .int (nI b9)] q1 H := hq1
    refine W.eq (g2 := F0 m 13 ls [.ref q1]) rfl ?_
    show W p l e R s m args below meth c H locs ((0 + 2) + 1) ((0 + 12) + 2) Q (F0 m 13 ls [.ref q1])
    refine lv_astore (lv' := [(4, .ref q1), (3, .ref (b 0)), (0, .ref (g 0)), (1, .int (nI b9)), (2, .int y)]) hx hb dX1_bundle_13 hl (by decide) rfl (fun ls hl => ?_)
    refine lv_iload_n hx hb dX1_bundle_15 rfl (lv_at hl 4 rfl) ?_
    by_cases hok2 : inZ y.toInt 0 3 = true
    · obtain ⟨jj, ht_jj, htb_jj, rfl⟩ := inZ_n hok2
      have hcl_jj : (nI jj).toNatClampNeg = jj := nI_clamp htb_jj
      rcases (show jj = 0 ∨ jj = 1 ∨ jj = 2 ∨ jj = 3 by omega) with rfl | rfl | rfl | rfl
      · refine lv_tableIn (off := 32) (tgt := 48) hx hb dX1_bundle_16 (by decide) (by decide) (by decide) (by decide) ?_
        refine lv_aload_n hx hb dX1_bundle_48 rfl (lv_at hl 2 rfl) ?_
        refine lv_iconst (v := nI 1) hx hb dX1_bundle_49 (by decide) ?_
        refine g_newq (N' := 1) (t0 := 7) hx hb hown (hts _ q1335) (hEN.2.2.2.2 2 (by decide)) hK hS rfl (by omega) (by omega) (by omega) dX1_bundle_50 (fun q0 H heq9 hq0 hz9 oq hS => ?_)
        have hge_q0 : hs ≤ q0 := by omega
        have ne_q1_q0 : q1 ≠ q0 := Nat.ne_of_lt (Nat.lt_of_lt_of_eq hq1.lt heq9.symm)
        have hq1 := hq1.made oq
        have hz : hs ≤ H.size := by omega
        refine lv_dup hx hb dX1_bundle_53 rfl ?_
        refine lv_iconst (v := nI 0) hx hb dX1_bundle_54 (by decide) ?_
        refine lv_aload hx hb dX1_bundle_55 (lv_at hl 0 rfl) ?_
        refine g_aastL hx hb hK hq0 hS (Or.inr hge_q0) (t0 := 7) rfl (LM.kls hLE.2.2.2.2.2.1) (LM.asg hLE.2.2.2.2.2.1 laN5.2.2.2.2.1) hq1 (i := 0) (by omega) (by decide) dX1_bundle_57 (fun H locs hq0 hz9 oq hS => ?_)
        have hq1 := hq1.kept (oq _ ne_q1_q0)
        have hz := Nat.le_trans hz (Nat.le_of_eq hz9.symm)
        refine u_run (x_rV (C := RX1) (As := [.ref q0]) SF hK (d := 14) (rk.le (Nat.le_of_ble_eq_true rfl)) (c_X1_many l dC dI dA g b mc S Hd n b mc S Hd cs q0 1 (fun _ => 5) (fun _ => q1) (fun _ => nI b9) (by decide) hS1 hT hS1 hT rfl) (lw_V q1340 q1342 qs26 q112 q1343) (n := 1) (by decide +kernel) rfl (by decide) (g_recv hK (hP1.at hS hz0 (fun h => h)) (ci := 0) rfl) ((XOK.hp.and (XOK.hp.and (XOK.hp.and (CE.ok.and (FT9.ok.and LE.ok))))).and XOK.hp) (⟨⟨hP1.at hS hz0 (fun h => h), hO.at hS hz0 (fun _ _ h => h), hO.at hS hz0 (fun _ _ h => h), hCE, hF, hLE⟩, TSA.mk1 (i := 5) (z := nI b9) hq0 (by decide) hq1 (fun h => absurd h (by decide))⟩) hl.1 (Nat.le_of_ble_eq_true rfl) ⟨(by omega), (by omega)⟩ rfl dX1_bundle_58) ?_
        refine u_top (y := nI (cntN (fun o => allN (fun j => tf S S Hd ((fun _ => 5) j) ((fun _ => nI b9) j) o) 1) (ln S))) rfl ?_
        refine lv_goto (tgt := 114) hx hb dX1_bundle_61 (by decide) ?_
        exact hret _ _ _ _ _ _ _ (⟨by rw [hcl_b9, hcl_jj]; exact congrArg (fun z => some (Value.int (nI z))) (many1 (fun o ho => rfl)), by simp [thC, hlo, hok1, hok2]⟩) hS (by omega) (by omega) dX1_bundle_114
      · refine lv_tableIn (off := 48) (tgt := 64) hx hb dX1_bundle_16 (by decide) (by decide) (by decide) (by decide) ?_
        refine lv_aload_n hx hb dX1_bundle_64 rfl (lv_at hl 1 rfl) ?_
        refine va_getN (D := (dC, dI)) (ci := 1) (v := .ref (b 5)) (C := RX5) (T := TX5) (N := 10) hx hb hts in_X5 hown hK ((hO.at hS hz0 (fun _ _ h => h)) 0 _ rfl) 0 rfl rfl 2 (by decide) (va_Nw.use rfl (hCE.1 4 (by decide))) (fun _ h9 => h9) rfl dX1_bundle_65 ?_
        refine lv_iload_n hx hb dX1_bundle_68 rfl (lv_at hl 3 rfl) ?_
        refine u_iald hx hb hK ((hO.at hS hz0 (fun _ _ h => h)) 5 _ rfl) 0 0 rfl rfl (i := b9) (by omega) (by decide) dX1_bundle_69 ?_
        refine u_top (y := S (3 + b9)) (by first | exact clip_at (by omega) | rfl) ?_
        refine lv_goto (tgt := 114) hx hb dX1_bundle_70 (by decide) ?_
        exact hret _ _ _ _ _ _ _ (⟨by first | (simp only [hcl_b9, hcl_jj]; done) | (simp only [hcl_b9, hcl_jj]; rfl) | (rw [hcl_b9, hcl_jj]; rfl), by simp [thC, hlo, hok1, hok2]⟩) hS (by omega) (by omega) dX1_bundle_114
      · refine lv_tableIn (off := 57) (tgt := 73) hx hb dX1_bundle_16 (by decide) (by decide) (by decide) (by decide) ?_
        refine lv_aload_n hx hb dX1_bundle_73 rfl (lv_at hl 2 rfl) ?_
        refine lv_iconst (v := nI 2) hx hb dX1_bundle_74 (by decide) ?_
        refine g_newq (N' := 2) (t0 := 7) hx hb hown (hts _ q1335) (hEN.2.2.2.2 2 (by decide)) hK hS rfl (by omega) (by omega) (by omega) dX1_bundle_75 (fun q0 H heq9 hq0 hz9 oq hS => ?_)
        have hge_q0 : hs ≤ q0 := by omega
        have ne_q1_q0 : q1 ≠ q0 := Nat.ne_of_lt (Nat.lt_of_lt_of_eq hq1.lt heq9.symm)
        have hq1 := hq1.made oq
        have hz : hs ≤ H.size := by omega
        refine lv_dup hx hb dX1_bundle_78 rfl ?_
        refine lv_iconst (v := nI 0) hx hb dX1_bundle_79 (by decide) ?_
        refine lv_aload hx hb dX1_bundle_80 (lv_at hl 0 rfl) ?_
        refine g_aastL hx hb hK hq0 hS (Or.inr hge_q0) (t0 := 7) rfl (LM.kls hLE.2.2.2.2.2.1) (LM.asg hLE.2.2.2.2.2.1 laN5.2.2.2.2.1) hq1 (i := 0) (by omega) (by decide) dX1_bundle_82 (fun H locs hq0 hz9 oq hS => ?_)
        have hq1 := hq1.kept (oq _ ne_q1_q0)
        have hz := Nat.le_trans hz (Nat.le_of_eq hz9.symm)
        refine lv_dup hx hb dX1_bundle_83 rfl ?_
        refine lv_iconst (v := nI 1) hx hb dX1_bundle_84 (by decide) ?_
        refine lv_aload_n hx hb dX1_bundle_85 rfl (lv_at hl 1 rfl) ?_
        refine w_lam (T := #[.object "BadCodes$Office"]) (vals := [.ref (b 0)]) hx hb (hl.1.trans hml.symm) rfl hnm hLE.2.2.2.2.2.2.1 (hts _ q2607) laT6 rfl lam_fit1 rfl rfl (Nat.le_trans (Nat.le_of_ble_eq_true rfl) rk.2) (by omega) (by show _ + 1 ≤ _; omega) dX1_bundle_86 hS (fun q2 H heq9 hq2 hz9 oq hS => ?_)
        have hge_q2 : hs ≤ q2 := by omega
        have ne_q1_q2 : q1 ≠ q2 := Nat.ne_of_lt (Nat.lt_of_lt_of_eq hq1.lt heq9.symm)
        have ne_q0_q2 : q0 ≠ q2 := Nat.ne_of_lt (Nat.lt_of_lt_of_eq hq0.lt heq9.symm)
        have hq1 := hq1.made oq
        have hq0 := hq0.made oq
        have hz : hs ≤ H.size := by omega
        have hq2 : lamP (cs 6) [.ref (b 0)] q2 H := hq2
        refine W.eq (g2 := F0 m 91 ls [.ref q2, .int (nI 1), .ref q0, .ref q0, .ref (g 0)]) rfl ?_
        show W p l e R s m args below meth c H locs ((((0 + 2) + 1) + 1) + 1) ((((0 + 12) + 2) + 2) + 1) Q (F0 m 91 ls [.ref q2, .int (nI 1), .ref q0, .ref q0, .ref (g 0)])
        refine g_aastL hx hb hK hq0 hS (Or.inr hge_q0) (t0 := 7) rfl (LM.kls hLE.2.2.2.2.2.2.1) (LM.asg hLE.2.2.2.2.2.2.1 laN6.2.2.2.2.1) hq2 (i := 1) (by omega) (by decide) dX1_bundle_91 (fun H locs hq0 hz9 oq hS => ?_)
        have hq1 := hq1.kept (oq _ ne_q1_q0)
        have hq2 := hq2.kept (oq _ (Ne.symm ne_q0_q2))
        have hz := Nat.le_trans hz (Nat.le_of_eq hz9.symm)
        refine u_run (x_rV (C := RX1) (As := [.ref q0]) SF hK (d := 14) (rk.le (Nat.le_of_ble_eq_true rfl)) (c_X1_many l dC dI dA g b mc S Hd n b mc S Hd cs q0 2 (fun j => if j = 0 then 5 else 6) (fun j => if j = 0 then q1 else q2) (fun j => if j = 0 then nI b9 else nI 0) (by decide) hS1 hT hS1 hT rfl) (lw_V q1340 q1342 qs26 q112 q1343) (n := 1) (by decide +kernel) rfl (by decide) (g_recv hK (hP1.at hS hz0 (fun h => h)) (ci := 0) rfl) ((XOK.hp.and (XOK.hp.and (XOK.hp.and (CE.ok.and (FT9.ok.and LE.ok))))).and XOK.hp) (⟨⟨hP1.at hS hz0 (fun h => h), hO.at hS hz0 (fun _ _ h => h), hO.at hS hz0 (fun _ _ h => h), hCE, hF, hLE⟩, TSA.mk2 (i0 := 5) (i1 := 6) (z0 := nI b9) (z1 := nI 0) hq0 (by decide) (by decide) hq1 hq2 (fun h => absurd h (by decide)) (fun h => absurd h (by decide))⟩) hl.1 (Nat.le_of_ble_eq_true rfl) ⟨(by omega), (by omega)⟩ rfl dX1_bundle_92) ?_
        refine u_top (y := nI (cntN (fun o => allN (fun j => tf S S Hd ((fun j => if j = 0 then 5 else 6) j) ((fun j => if j = 0 then nI b9 else nI 0) j) o) 2) (ln S))) rfl ?_
        refine lv_goto (tgt := 114) hx hb dX1_bundle_95 (by decide) ?_
        exact hret _ _ _ _ _ _ _ (⟨by rw [hcl_b9, hcl_jj]; show _ = some (Value.int (nI (sumN (slvF S Hd (nI b9) false) (ln S)))); rw [slv_cnt]; exact congrArg (fun z => some (Value.int (nI z))) (many2 (fun o ho => rfl)), by simp [thC, hlo, hok1, hok2]⟩) hS (by omega) (by omega) dX1_bundle_114
      · refine lv_tableIn (off := 82) (tgt := 98) hx hb dX1_bundle_16 (by decide) (by decide) (by decide) (by decide) ?_
        refine lv_aload_n hx hb dX1_bundle_98 rfl (lv_at hl 2 rfl) ?_
        refine lv_iload_n hx hb dX1_bundle_99 rfl (lv_at hl 3 rfl) ?_
        refine u_run (x_rV (C := RX1) (As := [.int (nI b9)]) SF hK (d := 8) (rk.le (Nat.le_of_ble_eq_true rfl)) (c_X1_sumOf l dC dI dA g b mc S Hd n b9 (show b9 < 6 by omega) hS1 hT) (lw_V q1582 q1584 qs36 q112 q1585) (n := 1) (by decide +kernel) rfl (by decide) (g_recv hK (hP1.at hS hz0 (fun h => h)) (ci := 0) rfl) (XOK.hp.and (XOK.hp.and CE.ok)) (⟨hP1.at hS hz0 (fun h => h), hO.at hS hz0 (fun _ _ h => h), hCE⟩) hl.1 (Nat.le_of_ble_eq_true rfl) ⟨(by omega), (by omega)⟩ rfl dX1_bundle_100) ?_
        refine u_top (y := nI (slv S Hd (nI b9) true % 10)) rfl ?_
        refine lv_goto (tgt := 114) hx hb dX1_bundle_103 (by decide) ?_
        exact hret _ _ _ _ _ _ _ (⟨by first | (simp only [hcl_b9, hcl_jj]; done) | (simp only [hcl_b9, hcl_jj]; rfl) | (rw [hcl_b9, hcl_jj]; rfl), by simp [thC, hlo, hok1, hok2]⟩) hS (by omega) (by omega) dX1_bundle_114
    · refine lv_tableOut (tgt := 106) hx hb dX1_bundle_16 (inZ_out hok2) (by decide) ?_
      exact g_jdk hx hb hfl hown hts (vx_words ag_IA an_IA hts (hEN.2.2.1 5 (by decide)) hEN.2.1.2.2) (by decide) q1283 q135 og_IA hEN hAz hz0 hS (hl.1.trans hml.symm) dX1_bundle_106 dX1_bundle_109 dX1_bundle_110 dX1_bundle_113 (fun x hx => (hE x hx).elim) (rk.le (Nat.le_of_ble_eq_true rfl)) (by decide) hRc hRs (by omega) (by omega) hQ (fun _ _ => thY (nm := nmA) (k := 3) (by simp [thC, hlo, hok1, hok2]) (by decide) rfl)
  · have hz := Nat.le_trans hz hz9
    obtain ⟨h9, rfl⟩ := hP9
    exact hthr _ _ _ _ _ _ _ _ _ _ (thX (L1 := [(lo (n 1), 1), (inZ x.toInt 0 5, 2)]) (L2 := [(inZ y.toInt 0 3, 3)]) (nm' := nmA) h9 rfl rfl) hS (by omega) (by omega) hce hcv hcl

set_option maxHeartbeats 4000000 in
theorem c_X1_causes (l : Launch) (dC : Nat → ClassId) (dI : Nat → Nat → Nat) (dA : Nat → ClassId) (g : Nat → Nat) (b : Nat → Nat) (mc : Nat → Int32) (S : Nat → Int32) (Hd : Nat → Int32) (n : Nat → Int32) (sz : Nat) (cs : Nat → ClassId) (hs : Nat) (x : Int32) (hS1 : SWf S) (hT : TWf Hd) (hLT : ∀ o, o < ln S → LTf S o) (hsz : sz ≤ hs) (hfl : l.stackTraces = false) : vx_Met l yX1_causes (ws_ yX1_causes cX1_causes 3 (some (.int))) (rmD 50 (6) (40)) (gPx [.ref (g 0), .int x] (fun U H => AY dC dI dA g b mc S Hd n sz cs U H) hs dC dI dA) (gQ hs (fun _ => False) (fun v H => v = some (.int (nI (csV S x))) ∧ thC [(lo (n 1), 1), (inZ x.toInt 1 4, 2)] = 0)) (gX hs (fun _ => False) (fun E q H => ¬ thC [(lo (n 1), 1), (inZ x.toInt 1 4, 2)] = 0 ∧ E = nmB (thC [(lo (n 1), 1), (inZ x.toInt 1 4, 2)]))) (6) (40) (gF (fun _ => False) hs) := by
  refine l_meti (own := RX1) (by decide) rfl (Nat.le_of_ble_eq_true rfl) fun p e R s m args below meth c Q SF rk hRR hX hK hin hnm hE hret hthr hQ ls hl => ?_
  have hx := SF.1
  have hb := SF.2.1
  have hml := SF.2.2.1
  have hown := SF.2.2.2.1
  have hts := SF.2.2.2.2
  have hz0 := hX.2
  have hz : hs ≤ s.heap.size := Nat.le_of_eq hX.2.symm
  have hX := hX.1
  have hRc := hRR.1
  have hRs := hRR.2
  have gFs : ∀ q : Nat, s.heap.size ≤ q → gF (fun _ => False) hs q := fun q h => Or.inr (hz0 ▸ h)
  have hS : va_S (gF (fun _ => False) hs) s.heap s.heap [] := va_S.rf
  have hl : lv_has ls 3 [(0, .ref (g 0)), (1, .int x)] := hl
  have hF := hX.2.1
  have hLE := hX.2.2.1
  have hWt := hX.2.2.2
  have hX := hX.1
  have hEN := hX.2.2
  have hCE := hEN.1
  have hAz : ∀ q, gF (fun _ => False) hs q → sz ≤ q := fun q h => h.elim (fun e => e.elim) (fun h => Nat.le_trans hsz h)
  obtain ⟨nv, hP0⟩ := AX.ob hX
  have hL := hS1.2.1
  have hn9 := hT.2.1
  refine lv_aload_n hx hb dX1_causes_0 rfl (lv_at hl 0 rfl) ?_
  refine g_runX (v_rV (C := RX1) (As := []) SF hK (d := 6) (rk.le (Nat.le_of_ble_eq_true rfl)) (c_X1_office l dC dI dA g b mc S Hd n sz s.heap.size (show sz ≤ s.heap.size by omega) hfl) (lw_V q1312 q1314 qs25 q112 q1315) (n := 0) (by decide +kernel) rfl (by decide) (g_recv hK (hP0.at hS hz0 (fun h => h)) (ci := 0) rfl) (XOK.hs (XOK.hp.and (XOK.hp.and EN.ok))) (⟨AX.at hX hS hz0 hsz, rfl⟩) hl.1 (Nat.le_of_ble_eq_true rfl) ⟨(by omega), (by omega)⟩ rfl dX1_causes_1) rfl hS (fun _ h => h.elim) gFs (fun v9 H locs hP9 hz9 oq hS => ?_) (fun E q9 ce H locs hP9 hz9 oq hS hce hcv hcl => ?_)
  · obtain ⟨rfl, hlo⟩ := hP9
    have hz := Nat.le_trans hz hz9
    refine W.eq (g2 := F0 m 4 ls [.ref (b 0)]) rfl ?_
    have hn1 := lo_n hlo
    obtain ⟨hP1, hO⟩ := hX.2.1 hn1
    refine lv_astore_n (lv' := [(2, .ref (b 0)), (0, .ref (g 0)), (1, .int x)]) hx hb dX1_causes_4 rfl hl (by decide) rfl (fun ls hl => ?_)
    refine lv_iload_n hx hb dX1_causes_5 rfl (lv_at hl 2 rfl) ?_
    refine lv_iconst (v := nI 1) hx hb dX1_causes_6 (by decide) ?_
    refine lv_iconst (v := nI 4) hx hb dX1_causes_7 (by decide) ?_
    refine u_run (x_rS (As := [.int x, .int (nI 1), .int (nI 4)]) SF hK (d := 0) (rk.le (Nat.le_of_ble_eq_true rfl)) (c_X1_in l dC dI dA x.toInt 1 4 x (nI 1) (nI 4) rfl (by decide) (by first | exact rfl | decide | exact pk_sub_toInt (by omega) (by decide))) (lw_S q371 q372 q112 q373) (n := 3) (by decide +kernel) rfl (by decide) (XOK.hp) (trivial) hl.1 (Nat.le_of_ble_eq_true rfl) ⟨(by omega), (by omega)⟩ rfl dX1_causes_8) ?_
    refine u_top (y := nI ((inZ x.toInt 1 4).toNat)) rfl ?_
    refine g_runX (v_rS (As := [.int (nI ((inZ x.toInt 1 4).toNat))]) SF hK (d := 6) (rk.le (Nat.le_of_ble_eq_true rfl)) (c_X1_checkRange l dC dI dA sz H.size (inZ x.toInt 1 4) (show sz ≤ H.size by omega) hfl) (lw_S q1405 q1406 q112 q1407) (n := 1) (by decide +kernel) rfl (by decide) (XOK.hs (EN.ok)) (⟨hEN.at hS hAz, rfl⟩) hl.1 (Nat.le_of_ble_eq_true rfl) ⟨(by omega), (by omega)⟩ rfl dX1_causes_11) rfl hS (fun _ h => h.elim) gFs (fun v9 H locs hP9 hz9 oq hS => ?_) (fun E q9 ce H locs hP9 hz9 oq hS hce hcv hcl => ?_)
    · obtain ⟨rfl, hz1⟩ := hP9
      have hz := Nat.le_trans hz hz9
      refine W.eq (g2 := F0 m 14 ls []) rfl ?_
      have hok1 := hz1
      refine lv_aload_n hx hb dX1_causes_14 rfl (lv_at hl 1 rfl) ?_
      refine lv_iconst (v := nI 2) hx hb dX1_causes_15 (by decide) ?_
      refine g_newq (N' := 2) (t0 := 7) hx hb hown (hts _ q1335) (hEN.2.2.2.2 2 (by decide)) hK hS rfl (by omega) (by omega) (by omega) dX1_causes_16 (fun q0 H heq9 hq0 hz9 oq hS => ?_)
      have hge_q0 : hs ≤ q0 := by omega
      have hz : hs ≤ H.size := by omega
      refine lv_dup hx hb dX1_causes_19 rfl ?_
      refine lv_iconst (v := nI 0) hx hb dX1_causes_20 (by decide) ?_
      refine lv_aload_n hx hb dX1_causes_21 rfl (lv_at hl 0 rfl) ?_
      refine w_lam (T := #[.object "BadCodes$Office"]) (vals := [.ref (b 0)]) hx hb (hl.1.trans hml.symm) rfl hnm hLE.2.2.2.2.2.2.2.1 (hts _ q2607) laT7 rfl lam_fit1 rfl rfl (Nat.le_trans (Nat.le_of_ble_eq_true rfl) rk.2) (by omega) (by show _ + 1 ≤ _; omega) dX1_causes_22 hS (fun q1 H heq9 hq1 hz9 oq hS => ?_)
      have hge_q1 : hs ≤ q1 := by omega
      have ne_q0_q1 : q0 ≠ q1 := Nat.ne_of_lt (Nat.lt_of_lt_of_eq hq0.lt heq9.symm)
      have hq0 := hq0.made oq
      have hz : hs ≤ H.size := by omega
      have hq1 : lamP (cs 7) [.ref (b 0)] q1 H := hq1
      refine W.eq (g2 := F0 m 27 ls [.ref q1, .int (nI 0), .ref q0, .ref q0, .ref (g 0)]) rfl ?_
      show W p l e R s m args below meth c H locs ((((0 + 1) + 1) + 1) + 1) ((((0 + 6) + 6) + 2) + 1) Q (F0 m 27 ls [.ref q1, .int (nI 0), .ref q0, .ref q0, .ref (g 0)])
      refine g_aastL hx hb hK hq0 hS (Or.inr hge_q0) (t0 := 7) rfl (LM.kls hLE.2.2.2.2.2.2.2.1) (LM.asg hLE.2.2.2.2.2.2.2.1 laN7.2.2.2.2.1) hq1 (i := 0) (by omega) (by decide) dX1_causes_27 (fun H locs hq0 hz9 oq hS => ?_)
      have hq1 := hq1.kept (oq _ (Ne.symm ne_q0_q1))
      have hz := Nat.le_trans hz (Nat.le_of_eq hz9.symm)
      refine lv_dup hx hb dX1_causes_28 rfl ?_
      refine lv_iconst (v := nI 1) hx hb dX1_causes_29 (by decide) ?_
      refine lv_aload_n hx hb dX1_causes_30 rfl (lv_at hl 0 rfl) ?_
      refine lv_iload_n hx hb dX1_causes_31 rfl (lv_at hl 2 rfl) ?_
      refine w_lam (T := #[.object "BadCodes$Office", .int]) (vals := [.ref (b 0), .int x]) hx hb (hl.1.trans hml.symm) rfl hnm hLE.2.2.2.2.2.2.2.2.1 (hts _ q2607) laT8 rfl lam_fit2 rfl rfl (Nat.le_trans (Nat.le_of_ble_eq_true rfl) rk.2) (by omega) (by show _ + 2 ≤ _; omega) dX1_causes_32 hS (fun q2 H heq9 hq2 hz9 oq hS => ?_)
      have hge_q2 : hs ≤ q2 := by omega
      have ne_q0_q2 : q0 ≠ q2 := Nat.ne_of_lt (Nat.lt_of_lt_of_eq hq0.lt heq9.symm)
      have ne_q1_q2 : q1 ≠ q2 := Nat.ne_of_lt (Nat.lt_of_lt_of_eq hq1.lt heq9.symm)
      have hq0 := hq0.made oq
      have hq1 := hq1.made oq
      have hz : hs ≤ H.size := by omega
      have hq2 : lamP (cs 8) [.ref (b 0), .int x] q2 H := hq2
      refine W.eq (g2 := F0 m 37 ls [.ref q2, .int (nI 1), .ref q0, .ref q0, .ref (g 0)]) rfl ?_
      show W p l e R s m args below meth c H locs (((((0 + 1) + 1) + 1) + 1) + 1) (((((0 + 6) + 6) + 2) + 1) + 2) Q (F0 m 37 ls [.ref q2, .int (nI 1), .ref q0, .ref q0, .ref (g 0)])
      refine g_aastL hx hb hK hq0 hS (Or.inr hge_q0) (t0 := 7) rfl (LM.kls hLE.2.2.2.2.2.2.2.2.1) (LM.asg hLE.2.2.2.2.2.2.2.2.1 laN8.2.2.2.2.1) hq2 (i := 1) (by omega) (by decide) dX1_causes_37 (fun H locs hq0 hz9 oq hS => ?_)
      have hq1 := hq1.kept (oq _ (Ne.symm ne_q0_q1))
      have hq2 := hq2.kept (oq _ (Ne.symm ne_q0_q2))
      have hz := Nat.le_trans hz (Nat.le_of_eq hz9.symm)
      refine u_run (x_rV (C := RX1) (As := [.ref q0]) SF hK (d := 14) (rk.le (Nat.le_of_ble_eq_true rfl)) (c_X1_many l dC dI dA g b mc S Hd n b mc S Hd cs q0 2 (fun j => if j = 0 then 7 else 8) (fun j => if j = 0 then q1 else q2) (fun j => if j = 0 then nI 0 else x) (by decide) hS1 hT hS1 hT rfl) (lw_V q1340 q1342 qs26 q112 q1343) (n := 1) (by decide +kernel) rfl (by decide) (g_recv hK (hP1.at hS hz0 (fun h => h)) (ci := 0) rfl) ((XOK.hp.and (XOK.hp.and (XOK.hp.and (CE.ok.and (FT9.ok.and LE.ok))))).and XOK.hp) (⟨⟨hP1.at hS hz0 (fun h => h), hO.at hS hz0 (fun _ _ h => h), hO.at hS hz0 (fun _ _ h => h), hCE, hF, hLE⟩, TSA.mk2 (i0 := 7) (i1 := 8) (z0 := nI 0) (z1 := x) hq0 (by decide) (by decide) hq1 hq2 (fun h => absurd h (by decide)) (fun h => absurd h (by decide))⟩) hl.1 (Nat.le_of_ble_eq_true rfl) ⟨(by omega), (by omega)⟩ rfl dX1_causes_38) ?_
      refine u_top (y := nI (cntN (fun o => allN (fun j => tf S S Hd ((fun j => if j = 0 then 7 else 8) j) ((fun j => if j = 0 then nI 0 else x) j) o) 2) (ln S))) rfl ?_
      exact hret _ _ _ _ _ _ _ (⟨by exact congrArg (fun z => some (Value.int (nI z))) (many2 (fun o ho => t_cs (hLT o ho) (fun q => by rw [q] at hok1; exact absurd hok1 (by decide)))), by simp [thC, hlo, hok1]⟩) hS (by omega) (by omega) dX1_causes_41
    · have hz := Nat.le_trans hz hz9
      obtain ⟨h9, rfl⟩ := hP9
      exact hthr _ _ _ _ _ _ _ _ _ _ (thY (nm := nmB) (k := 2) (by simp [thC, hlo, h9]) (by decide) rfl) hS (by omega) (by omega) hce hcv hcl
  · have hz := Nat.le_trans hz hz9
    obtain ⟨h9, rfl⟩ := hP9
    exact hthr _ _ _ _ _ _ _ _ _ _ (thX (L1 := [(lo (n 1), 1)]) (L2 := [(inZ x.toInt 1 4, 2)]) (nm' := nmB) h9 rfl (by first | rfl | (rw [thC_n1 h9]; try rfl))) hS (by omega) (by omega) hce hcv hcl
end API6
