set_option maxRecDepth 100000
section API3
variable {p : Program} {l : Launch} {e : Env} {R : Room} {s : State} {m : MethodId} {args : Array Value} {below : List Frame} {meth : Method} {c : Code} {H : Heap} {locs : List Loc} {Q : State → Prop}
variable {cc : ByteArray} {pc nL : Nat} {ls : Array Slot} {rest : List Value} {dC : Nat → ClassId} {dI : Nat → Nat → Nat} {dA : Nat → ClassId} {a : Nat → Nat} {M : Nat → Nat → Int32} {H0 : Heap}

set_option maxHeartbeats 4000000 in
theorem c_X1_nearMany (l : Launch) (dC : Nat → ClassId) (dI : Nat → Nat → Nat) (dA : Nat → ClassId) (g : Nat → Nat) (b : Nat → Nat) (mc : Nat → Int32) (S : Nat → Int32) (Hd : Nat → Int32) (n : Nat → Int32) (o : Nat) (hlt : o < ln S) (hS1 : SWf S) (hT : TWf Hd) : Met l yX1_nearMany (ws_ yX1_nearMany cX1_nearMany 4 (some (.int))) (rmD 5 0 0) (uPx [.ref (g 0), .int (nI o)] (fun U H => cP dC dI (g 0) (obE g n (.ref (b 0))) H ∧ famP dC dI b (offE b dA mc S Hd) H ∧ CE U) dC dI dA) (uQi (nI (nrT S Hd o))) 0 0 noF := by
  refine x_meti (own := RX1) (by decide) rfl (Nat.le_of_ble_eq_true rfl) fun p e R s m args below meth c Q SF rk hX hK hret ls hl => ?_
  have hx := SF.1
  have hb := SF.2.1
  have hml := SF.2.2.1
  have hown := SF.2.2.2.1
  have hts := SF.2.2.2.2
  have hP1 := hX.1
  have hO := hX.2.1
  have hCE := hX.2.2
  have hl : lv_has ls 4 [(0, .ref (g 0)), (1, .int (nI o))] := hl
  have hL := hS1.2.1
  have hn9 := hT.2.1
  have hlim := hS1.2.2.2.1
  refine lv_iconst (v := nI 0) hx hb dX1_nearMany_0 (by decide) ?_
  refine lv_istore_n (lv' := [(2, .int (nI 0)), (0, .ref (g 0)), (1, .int (nI o))]) hx hb dX1_nearMany_1 rfl hl (by decide) rfl (fun ls hl => ?_)
  refine lv_iconst (v := nI 0) hx hb dX1_nearMany_2 (by decide) ?_
  refine lv_istore_n (lv' := [(3, .int (nI 0)), (2, .int (nI 0)), (0, .ref (g 0)), (1, .int (nI o))]) hx hb dX1_nearMany_3 rfl hl (by decide) rfl (fun ls hl => ?_)
  have lp4 : ∀ (k0 : Nat) (k : Nat), k ≤ tn Hd → tn Hd < k + k0 → ∀ ls : Array Slot, lv_has ls 4 [(3, .int (nI k)), (2, .int (nI (cntN (fun t => decide (farT S Hd o t ≤ lim S)) k))), (1, .int (nI o)), (0, .ref (g 0))] → W p l e R s m args below meth c s.heap [] 0 0 Q (F0 m 4 ls []) := by
    intro k0
    induction k0 with
    | zero =>
      intro k hk1 hk2; omega
    | succ k0 ih =>
      intro k hk1 hk2 ls hl
      have ih4 := ih
      have hf9 := farT_le S Hd o k
      refine lv_iload_n hx hb dX1_nearMany_4 rfl (lv_at hl 0 rfl) ?_
      refine lv_aload_n hx hb dX1_nearMany_5 rfl (lv_at hl 3 rfl) ?_
      refine va_get (D := (dC, dI)) (ci := 0) (v := .ref (b 0)) (C := RX1) (T := TX1) (N := 9) hx hb hts in_X1 hown hK hP1 0 rfl rfl 4 (by decide) (hts _ q220) (fun _ h9 => h9) rfl dX1_nearMany_6 ?_
      refine va_getN (D := (dC, dI)) (ci := 1) (v := .ref (b 1)) (C := RX5) (T := TX5) (N := 10) hx hb hts in_X5 hown hK (hO 0 _ rfl) 0 rfl rfl 0 (by decide) (va_Nw.use rfl (hCE.1 2 (by decide))) (fun _ h9 => h9) rfl dX1_nearMany_9 ?_
      refine x_run5 (x_rF (C := RJ20) (As := []) (hK.1 6 _ rfl).2 SF hK (d := 0) (rk.le (Nat.le_of_ble_eq_true rfl)) (c_J20_size l dC dI dA (b 1) (b 2) (tn Hd) (mc 0) 12 (fun t => if t < tn Hd then some (b (10 + t)) else none) ) (lw_F q1303 q954 q956 q141 q958) (hCE.2.2 7 (by decide)) (n := 0) (by decide +kernel) rfl (by decide) (g_recv hK (hO 1 _ rfl) (ci := 6) rfl) (XOK.hp) (⟨hO 1 _ rfl, hO 2 _ rfl⟩) hl.1 (Nat.le_of_ble_eq_true rfl) ⟨Nat.zero_le _, Nat.zero_le _⟩ rfl dX1_nearMany_12) ?_
      refine u_top (y := nI (tn Hd)) rfl ?_
      refine lv_icmp_ge (tgt := 56) hx hb dX1_nearMany_17 (by decide) (fun c_17 => ?_) (fun c_17 => ?_)
      · have c_17 : (tn Hd) ≤ k := (nI_leI (a := (tn Hd)) (b := k) (by omega) (by omega)).mp c_17
        refine lv_iload_n hx hb dX1_nearMany_56 rfl (lv_at hl 1 rfl) ?_
        exact hret _ _ _ (by rw [show k = tn Hd by omega]; rfl) dX1_nearMany_57
      · have c_17 : ¬ ((tn Hd) ≤ k) := fun q9 => c_17 ((nI_leI (a := (tn Hd)) (b := k) (by omega) (by omega)).mpr q9)
        refine lv_iload_n hx hb dX1_nearMany_20 rfl (lv_at hl 1 rfl) ?_
        refine lv_aload_n hx hb dX1_nearMany_21 rfl (lv_at hl 3 rfl) ?_
        refine va_get (D := (dC, dI)) (ci := 0) (v := .ref (b 0)) (C := RX1) (T := TX1) (N := 9) hx hb hts in_X1 hown hK hP1 0 rfl rfl 4 (by decide) (hts _ q220) (fun _ h9 => h9) rfl dX1_nearMany_22 ?_
        refine lv_iload_n hx hb dX1_nearMany_25 rfl (lv_at hl 2 rfl) ?_
        refine lv_iload_n hx hb dX1_nearMany_26 rfl (lv_at hl 0 rfl) ?_
        refine u_run (x_rV (C := RX5) (As := [.int (nI o), .int (nI k)]) SF hK (d := 4) (rk.le (Nat.le_of_ble_eq_true rfl)) (c_X5_distance l dC dI dA b mc S Hd o k (show o < ln S by omega) (show k < tn Hd by omega) hS1 hT) (lw_V q1388 q1158 q1159 q139 q1160) (n := 2) (by decide +kernel) rfl (by decide) (g_recv hK (hO 0 _ rfl) (ci := 1) rfl) (XOK.hp.and CE.ok) (⟨hO, hCE⟩) hl.1 (Nat.le_of_ble_eq_true rfl) ⟨Nat.zero_le _, Nat.zero_le _⟩ rfl dX1_nearMany_27) ?_
        refine u_top (y := nI (farT S Hd o k)) rfl ?_
        refine lv_aload_n hx hb dX1_nearMany_30 rfl (lv_at hl 3 rfl) ?_
        refine va_get (D := (dC, dI)) (ci := 0) (v := .ref (b 0)) (C := RX1) (T := TX1) (N := 9) hx hb hts in_X1 hown hK hP1 0 rfl rfl 4 (by decide) (hts _ q220) (fun _ h9 => h9) rfl dX1_nearMany_31 ?_
        refine va_getN (D := (dC, dI)) (ci := 1) (v := .int (S 0)) (C := RX5) (T := TX5) (N := 10) hx hb hts in_X5 hown hK (hO 0 _ rfl) 0 rfl rfl 7 (by decide) (va_Nw.use rfl (hCE.1 9 (by decide))) (fun _ h9 => h9) rfl dX1_nearMany_34 ?_
        refine u_top (y := nI (lim S)) (hS1.2.2.1) ?_
        have jn45 : ∀ v9 : Int32, v9 = nI ((decide (farT S Hd o k ≤ lim S)).toNat) → ∀ ls : Array Slot, lv_has ls 4 [(3, .int (nI k)), (2, .int (nI (cntN (fun t => decide (farT S Hd o t ≤ lim S)) k))), (1, .int (nI o)), (0, .ref (g 0))] → W p l e R s m args below meth c s.heap [] 0 0 Q (F0 m 45 ls [.int v9, .int (nI (cntN (fun t => decide (farT S Hd o t ≤ lim S)) k))]) := by
          intro v9 hv9 ls hl
          subst hv9
          refine u_run (x_rS (As := [.int (nI ((decide (farT S Hd o k ≤ lim S)).toNat))]) (X := fun _ _ => True) SF hK (d := 0) (rk.le (Nat.le_of_ble_eq_true rfl)) (c_X1_one l dC dI dA (decide (farT S Hd o k ≤ lim S)) ) (lw_S q1351 q1147 q112 q1148) (n := 1) (by decide +kernel) rfl (by decide) (XOK.hp) (trivial) hl.1 (Nat.le_of_ble_eq_true rfl) ⟨Nat.zero_le _, Nat.zero_le _⟩ rfl dX1_nearMany_45) ?_
          refine u_top (y := nI ((decide (farT S Hd o k ≤ lim S)).toNat)) rfl ?_
          refine lv_iadd hx hb dX1_nearMany_48 ?_
          refine u_top (nI_add _ _) ?_
          refine lv_istore_n (lv' := [(2, .int (nI (cntN (fun t => decide (farT S Hd o t ≤ lim S)) k + ((decide (farT S Hd o k ≤ lim S)).toNat)))), (3, .int (nI k)), (1, .int (nI o)), (0, .ref (g 0))]) hx hb dX1_nearMany_49 rfl hl (by decide) rfl (fun ls hl => ?_)
          refine lv_iinc (v := nI (k + 1)) (lv' := [(3, .int (nI (k + 1))), (2, .int (nI (cntN (fun t => decide (farT S Hd o t ≤ lim S)) k + ((decide (farT S Hd o k ≤ lim S)).toNat)))), (1, .int (nI o)), (0, .ref (g 0))]) hx hb dX1_nearMany_50 hl (k := 1) rfl (nI_add _ 1) (by decide) rfl (fun ls hl => ?_)
          refine lv_goto (tgt := 4) hx hb dX1_nearMany_53 (by decide) ?_
          exact ih4 (k + 1) (by omega) (by omega) ls (lv_sub hl [0, 1, 2, 3] rfl)
        refine lv_icmp_gt (tgt := 44) hx hb dX1_nearMany_37 (by decide) (fun c_37 => ?_) (fun c_37 => ?_)
        · have c_37 : lim S < farT S Hd o k := (nI_ltI (a := lim S) (b := farT S Hd o k) (by omega) (by omega)).mp c_37
          refine lv_iconst (v := nI 0) hx hb dX1_nearMany_44 (by decide) ?_
          exact jn45 _ (u_d0 (by omega)) ls (lv_sub hl [0, 1, 2, 3] rfl)
        · have c_37 : ¬ (lim S < farT S Hd o k) := fun q9 => c_37 ((nI_ltI (a := lim S) (b := farT S Hd o k) (by omega) (by omega)).mpr q9)
          refine lv_iconst (v := nI 1) hx hb dX1_nearMany_40 (by decide) ?_
          refine lv_goto (tgt := 45) hx hb dX1_nearMany_41 (by decide) ?_
          exact jn45 _ (u_d1 (by omega)) ls (lv_sub hl [0, 1, 2, 3] rfl)
  exact lp4 (tn Hd + 1) 0 (by omega) (by omega) ls (lv_sub hl [0, 1, 3, 2] rfl)

set_option maxHeartbeats 4000000 in
theorem c_X1_townsOn (l : Launch) (dC : Nat → ClassId) (dI : Nat → Nat → Nat) (dA : Nat → ClassId) (g : Nat → Nat) (b : Nat → Nat) (mc : Nat → Int32) (S : Nat → Int32) (Hd : Nat → Int32) (n : Nat → Int32) (r : Nat) (hr : r < 6) (hT : TWf Hd) : Met l yX1_townsOn (ws_ yX1_townsOn cX1_townsOn 4 (some (.int))) (rmD 4 0 0) (uPx [.ref (g 0), .int (nI r)] (fun U H => cP dC dI (g 0) (obE g n (.ref (b 0))) H ∧ famP dC dI b (offE b dA mc S Hd) H ∧ CE U) dC dI dA) (uQi (nI (tnO Hd (nI r)))) 0 0 noF := by
  refine x_meti (own := RX1) (by decide) rfl (Nat.le_of_ble_eq_true rfl) fun p e R s m args below meth c Q SF rk hX hK hret ls hl => ?_
  have hx := SF.1
  have hb := SF.2.1
  have hml := SF.2.2.1
  have hown := SF.2.2.2.1
  have hts := SF.2.2.2.2
  have hP1 := hX.1
  have hO := hX.2.1
  have hCE := hX.2.2
  have hl : lv_has ls 4 [(0, .ref (g 0)), (1, .int (nI r))] := hl
  have hn9 := hT.2.1
  refine lv_iconst (v := nI 0) hx hb dX1_townsOn_0 (by decide) ?_
  refine lv_istore_n (lv' := [(2, .int (nI 0)), (0, .ref (g 0)), (1, .int (nI r))]) hx hb dX1_townsOn_1 rfl hl (by decide) rfl (fun ls hl => ?_)
  refine lv_iconst (v := nI 0) hx hb dX1_townsOn_2 (by decide) ?_
  refine lv_istore_n (lv' := [(3, .int (nI 0)), (2, .int (nI 0)), (0, .ref (g 0)), (1, .int (nI r))]) hx hb dX1_townsOn_3 rfl hl (by decide) rfl (fun ls hl => ?_)
  have lp4 : ∀ (k0 : Nat) (k : Nat), k ≤ tn Hd → tn Hd < k + k0 → ∀ ls : Array Slot, lv_has ls 4 [(3, .int (nI k)), (2, .int (nI (cntN (fun t => decide (Hd (14 + t) = nI r)) k))), (1, .int (nI r)), (0, .ref (g 0))] → W p l e R s m args below meth c s.heap [] 0 0 Q (F0 m 4 ls []) := by
    intro k0
    induction k0 with
    | zero =>
      intro k hk1 hk2; omega
    | succ k0 ih =>
      intro k hk1 hk2 ls hl
      have ih4 := ih
      refine lv_iload_n hx hb dX1_townsOn_4 rfl (lv_at hl 0 rfl) ?_
      refine lv_aload_n hx hb dX1_townsOn_5 rfl (lv_at hl 3 rfl) ?_
      refine va_get (D := (dC, dI)) (ci := 0) (v := .ref (b 0)) (C := RX1) (T := TX1) (N := 9) hx hb hts in_X1 hown hK hP1 0 rfl rfl 4 (by decide) (hts _ q220) (fun _ h9 => h9) rfl dX1_townsOn_6 ?_
      refine va_getN (D := (dC, dI)) (ci := 1) (v := .ref (b 1)) (C := RX5) (T := TX5) (N := 10) hx hb hts in_X5 hown hK (hO 0 _ rfl) 0 rfl rfl 0 (by decide) (va_Nw.use rfl (hCE.1 2 (by decide))) (fun _ h9 => h9) rfl dX1_townsOn_9 ?_
      refine x_run5 (x_rF (C := RJ20) (As := []) (hK.1 6 _ rfl).2 SF hK (d := 0) (rk.le (Nat.le_of_ble_eq_true rfl)) (c_J20_size l dC dI dA (b 1) (b 2) (tn Hd) (mc 0) 12 (fun t => if t < tn Hd then some (b (10 + t)) else none) ) (lw_F q1303 q954 q956 q141 q958) (hCE.2.2 7 (by decide)) (n := 0) (by decide +kernel) rfl (by decide) (g_recv hK (hO 1 _ rfl) (ci := 6) rfl) (XOK.hp) (⟨hO 1 _ rfl, hO 2 _ rfl⟩) hl.1 (Nat.le_of_ble_eq_true rfl) ⟨Nat.zero_le _, Nat.zero_le _⟩ rfl dX1_townsOn_12) ?_
      refine u_top (y := nI (tn Hd)) rfl ?_
      refine lv_icmp_ge (tgt := 52) hx hb dX1_townsOn_17 (by decide) (fun c_17 => ?_) (fun c_17 => ?_)
      · have c_17 : (tn Hd) ≤ k := (nI_leI (a := (tn Hd)) (b := k) (by omega) (by omega)).mp c_17
        refine lv_iload_n hx hb dX1_townsOn_52 rfl (lv_at hl 1 rfl) ?_
        exact hret _ _ _ (by rw [show k = tn Hd by omega]; rfl) dX1_townsOn_53
      · have c_17 : ¬ ((tn Hd) ≤ k) := fun q9 => c_17 ((nI_leI (a := (tn Hd)) (b := k) (by omega) (by omega)).mpr q9)
        refine lv_iload_n hx hb dX1_townsOn_20 rfl (lv_at hl 1 rfl) ?_
        refine lv_aload_n hx hb dX1_townsOn_21 rfl (lv_at hl 3 rfl) ?_
        refine va_get (D := (dC, dI)) (ci := 0) (v := .ref (b 0)) (C := RX1) (T := TX1) (N := 9) hx hb hts in_X1 hown hK hP1 0 rfl rfl 4 (by decide) (hts _ q220) (fun _ h9 => h9) rfl dX1_townsOn_22 ?_
        refine lv_iload_n hx hb dX1_townsOn_25 rfl (lv_at hl 0 rfl) ?_
        refine x_runa (x_rV (C := RX5) (As := [.int (nI k)]) SF hK (d := 3) (rk.le (Nat.le_of_ble_eq_true rfl)) (c_X5_town l dC dI dA b mc S Hd k (show k < tn Hd by omega) hT) (lw_V q1375 q966 q967 q139 q968) (n := 1) (by decide +kernel) rfl (by decide) (g_recv hK (hO 0 _ rfl) (ci := 1) rfl) (XOK.hp.and CE.ok) (⟨hO, hCE⟩) hl.1 (Nat.le_of_ble_eq_true rfl) ⟨Nat.zero_le _, Nat.zero_le _⟩ rfl dX1_townsOn_26) ?_
        refine g_top (y := .ref (b (10 + k))) rfl ?_
        refine u_run (x_rV (C := RX6) (As := []) SF hK (d := 0) (rk.le (Nat.le_of_ble_eq_true rfl)) (c_X6_route l dC dI dA b mc S Hd k (show k < tn Hd by omega) hT) (lw_V q1377 q1225 q1226 q143 q1227) (n := 0) (by decide +kernel) rfl (by decide) (g_recv hK (hO _ _ (offE_tw (show k < tn Hd from (by omega)) hT.2.1)) (ci := 4) rfl) (XOK.hp.and CE.ok) (⟨hO, hCE⟩) hl.1 (Nat.le_of_ble_eq_true rfl) ⟨Nat.zero_le _, Nat.zero_le _⟩ rfl dX1_townsOn_29) ?_
        refine u_top (y := nI (rou Hd k)) rfl ?_
        refine lv_iload_n hx hb dX1_townsOn_32 rfl (lv_at hl 2 rfl) ?_
        have hrk := (hT.2.2 k (by omega)).2.2
        have jn41 : ∀ v9 : Int32, v9 = nI ((decide (Hd (14 + k) = nI r)).toNat) → ∀ ls : Array Slot, lv_has ls 4 [(3, .int (nI k)), (2, .int (nI (cntN (fun t => decide (Hd (14 + t) = nI r)) k))), (1, .int (nI r)), (0, .ref (g 0))] → W p l e R s m args below meth c s.heap [] 0 0 Q (F0 m 41 ls [.int v9, .int (nI (cntN (fun t => decide (Hd (14 + t) = nI r)) k))]) := by
          intro v9 hv9 ls hl
          subst hv9
          refine u_run (x_rS (As := [.int (nI ((decide (Hd (14 + k) = nI r)).toNat))]) (X := fun _ _ => True) SF hK (d := 0) (rk.le (Nat.le_of_ble_eq_true rfl)) (c_X1_one l dC dI dA (decide (Hd (14 + k) = nI r)) ) (lw_S q1351 q1147 q112 q1148) (n := 1) (by decide +kernel) rfl (by decide) (XOK.hp) (trivial) hl.1 (Nat.le_of_ble_eq_true rfl) ⟨Nat.zero_le _, Nat.zero_le _⟩ rfl dX1_townsOn_41) ?_
          refine u_top (y := nI ((decide (Hd (14 + k) = nI r)).toNat)) rfl ?_
          refine lv_iadd hx hb dX1_townsOn_44 ?_
          refine u_top (nI_add _ _) ?_
          refine lv_istore_n (lv' := [(2, .int (nI (cntN (fun t => decide (Hd (14 + t) = nI r)) k + ((decide (Hd (14 + k) = nI r)).toNat)))), (3, .int (nI k)), (1, .int (nI r)), (0, .ref (g 0))]) hx hb dX1_townsOn_45 rfl hl (by decide) rfl (fun ls hl => ?_)
          refine lv_iinc (v := nI (k + 1)) (lv' := [(3, .int (nI (k + 1))), (2, .int (nI (cntN (fun t => decide (Hd (14 + t) = nI r)) k + ((decide (Hd (14 + k) = nI r)).toNat)))), (1, .int (nI r)), (0, .ref (g 0))]) hx hb dX1_townsOn_46 hl (k := 1) rfl (nI_add _ 1) (by decide) rfl (fun ls hl => ?_)
          refine lv_goto (tgt := 4) hx hb dX1_townsOn_49 (by decide) ?_
          exact ih4 (k + 1) (by omega) (by omega) ls (lv_sub hl [0, 1, 2, 3] rfl)
        refine lv_icmp_ne (tgt := 40) hx hb dX1_townsOn_33 (by decide) (fun c_33 => ?_) (fun c_33 => ?_)
        · have c_33 : ¬ (rou Hd k = r) := fun q9 => c_33 ((nI_eq (a := rou Hd k) (b := r) (by omega) (by omega)).mpr q9)
          refine lv_iconst (v := nI 0) hx hb dX1_townsOn_40 (by decide) ?_
          exact jn41 _ (u_d0 (by rw [hrk.1]; exact fun q => c_33 ((nI_eq (by omega) (by omega)).mp q))) ls (lv_sub hl [0, 1, 2, 3] rfl)
        · have c_33 : rou Hd k = r := (nI_eq (a := rou Hd k) (b := r) (by omega) (by omega)).mp c_33
          refine lv_iconst (v := nI 1) hx hb dX1_townsOn_36 (by decide) ?_
          refine lv_goto (tgt := 41) hx hb dX1_townsOn_37 (by decide) ?_
          exact jn41 _ (u_d1 (by rw [hrk.1, c_33])) ls (lv_sub hl [0, 1, 2, 3] rfl)
  exact lp4 (tn Hd + 1) 0 (by omega) (by omega) ls (lv_sub hl [0, 1, 3, 2] rfl)

set_option maxHeartbeats 4000000 in
theorem c_X1_ahead (l : Launch) (dC : Nat → ClassId) (dI : Nat → Nat → Nat) (dA : Nat → ClassId) (g : Nat → Nat) (b : Nat → Nat) (mc : Nat → Int32) (S : Nat → Int32) (Hd : Nat → Int32) (n : Nat → Int32) (o : Nat) (t : Nat) (hlt : o < ln S) (ht : t < tn Hd) (hS1 : SWf S) (hT : TWf Hd) : Met l yX1_ahead (ws_ yX1_ahead cX1_ahead 6 (some (.int))) (rmD 5 0 0) (uPx [.ref (g 0), .int (nI o), .int (nI t)] (fun U H => cP dC dI (g 0) (obE g n (.ref (b 0))) H ∧ famP dC dI b (offE b dA mc S Hd) H ∧ CE U) dC dI dA) (uQi (nI (ahd (farT S Hd o) (tn Hd) t))) 0 0 noF := by
  refine x_meti (own := RX1) (by decide) rfl (Nat.le_of_ble_eq_true rfl) fun p e R s m args below meth c Q SF rk hX hK hret ls hl => ?_
  have hx := SF.1
  have hb := SF.2.1
  have hml := SF.2.2.1
  have hown := SF.2.2.2.1
  have hts := SF.2.2.2.2
  have hP1 := hX.1
  have hO := hX.2.1
  have hCE := hX.2.2
  have hl : lv_has ls 6 [(0, .ref (g 0)), (1, .int (nI o)), (2, .int (nI t))] := hl
  have hL := hS1.2.1
  have hn9 := hT.2.1
  have hft := farT_le S Hd o t
  refine lv_aload_n hx hb dX1_ahead_0 rfl (lv_at hl 0 rfl) ?_
  refine va_get (D := (dC, dI)) (ci := 0) (v := .ref (b 0)) (C := RX1) (T := TX1) (N := 9) hx hb hts in_X1 hown hK hP1 0 rfl rfl 4 (by decide) (hts _ q220) (fun _ h9 => h9) rfl dX1_ahead_1 ?_
  refine lv_iload_n hx hb dX1_ahead_4 rfl (lv_at hl 1 rfl) ?_
  refine lv_iload_n hx hb dX1_ahead_5 rfl (lv_at hl 2 rfl) ?_
  refine u_run (x_rV (C := RX5) (As := [.int (nI o), .int (nI t)]) SF hK (d := 4) (rk.le (Nat.le_of_ble_eq_true rfl)) (c_X5_distance l dC dI dA b mc S Hd o t (show o < ln S by omega) (show t < tn Hd by omega) hS1 hT) (lw_V q1388 q1158 q1159 q139 q1160) (n := 2) (by decide +kernel) rfl (by decide) (g_recv hK (hO 0 _ rfl) (ci := 1) rfl) (XOK.hp.and CE.ok) (⟨hO, hCE⟩) hl.1 (Nat.le_of_ble_eq_true rfl) ⟨Nat.zero_le _, Nat.zero_le _⟩ rfl dX1_ahead_6) ?_
  refine u_top (y := nI (farT S Hd o t)) rfl ?_
  refine lv_istore_n (lv' := [(3, .int (nI (farT S Hd o t))), (0, .ref (g 0)), (1, .int (nI o)), (2, .int (nI t))]) hx hb dX1_ahead_9 rfl hl (by decide) rfl (fun ls hl => ?_)
  refine lv_iconst (v := nI 0) hx hb dX1_ahead_10 (by decide) ?_
  refine lv_istore (lv' := [(4, .int (nI 0)), (3, .int (nI (farT S Hd o t))), (0, .ref (g 0)), (1, .int (nI o)), (2, .int (nI t))]) hx hb dX1_ahead_11 hl (by decide) rfl (fun ls hl => ?_)
  refine lv_iconst (v := nI 0) hx hb dX1_ahead_13 (by decide) ?_
  refine lv_istore (lv' := [(5, .int (nI 0)), (4, .int (nI 0)), (3, .int (nI (farT S Hd o t))), (0, .ref (g 0)), (1, .int (nI o)), (2, .int (nI t))]) hx hb dX1_ahead_14 hl (by decide) rfl (fun ls hl => ?_)
  have lp16 : ∀ (k0 : Nat) (k : Nat), k ≤ tn Hd → tn Hd < k + k0 → ∀ ls : Array Slot, lv_has ls 6 [(5, .int (nI k)), (4, .int (nI (cntN (ahP (farT S Hd o) t) k))), (3, .int (nI (farT S Hd o t))), (1, .int (nI o)), (2, .int (nI t)), (0, .ref (g 0))] → W p l e R s m args below meth c s.heap [] 0 0 Q (F0 m 16 ls []) := by
    intro k0
    induction k0 with
    | zero =>
      intro k hk1 hk2; omega
    | succ k0 ih =>
      intro k hk1 hk2 ls hl
      have ih16 := ih
      have hf9 := farT_le S Hd o k
      refine lv_iload hx hb dX1_ahead_16 (lv_at hl 0 rfl) ?_
      refine lv_aload_n hx hb dX1_ahead_18 rfl (lv_at hl 5 rfl) ?_
      refine va_get (D := (dC, dI)) (ci := 0) (v := .ref (b 0)) (C := RX1) (T := TX1) (N := 9) hx hb hts in_X1 hown hK hP1 0 rfl rfl 4 (by decide) (hts _ q220) (fun _ h9 => h9) rfl dX1_ahead_19 ?_
      refine va_getN (D := (dC, dI)) (ci := 1) (v := .ref (b 1)) (C := RX5) (T := TX5) (N := 10) hx hb hts in_X5 hown hK (hO 0 _ rfl) 0 rfl rfl 0 (by decide) (va_Nw.use rfl (hCE.1 2 (by decide))) (fun _ h9 => h9) rfl dX1_ahead_22 ?_
      refine x_run5 (x_rF (C := RJ20) (As := []) (hK.1 6 _ rfl).2 SF hK (d := 0) (rk.le (Nat.le_of_ble_eq_true rfl)) (c_J20_size l dC dI dA (b 1) (b 2) (tn Hd) (mc 0) 12 (fun t => if t < tn Hd then some (b (10 + t)) else none) ) (lw_F q1303 q954 q956 q141 q958) (hCE.2.2 7 (by decide)) (n := 0) (by decide +kernel) rfl (by decide) (g_recv hK (hO 1 _ rfl) (ci := 6) rfl) (XOK.hp) (⟨hO 1 _ rfl, hO 2 _ rfl⟩) hl.1 (Nat.le_of_ble_eq_true rfl) ⟨Nat.zero_le _, Nat.zero_le _⟩ rfl dX1_ahead_25) ?_
      refine u_top (y := nI (tn Hd)) rfl ?_
      refine lv_icmp_ge (tgt := 86) hx hb dX1_ahead_30 (by decide) (fun c_30 => ?_) (fun c_30 => ?_)
      · have c_30 : (tn Hd) ≤ k := (nI_leI (a := (tn Hd)) (b := k) (by omega) (by omega)).mp c_30
        refine lv_iload hx hb dX1_ahead_86 (lv_at hl 1 rfl) ?_
        exact hret _ _ _ (by rw [show k = tn Hd by omega]; rfl) dX1_ahead_88
      · have c_30 : ¬ ((tn Hd) ≤ k) := fun q9 => c_30 ((nI_leI (a := (tn Hd)) (b := k) (by omega) (by omega)).mpr q9)
        refine lv_iload hx hb dX1_ahead_33 (lv_at hl 1 rfl) ?_
        refine lv_aload_n hx hb dX1_ahead_35 rfl (lv_at hl 5 rfl) ?_
        refine va_get (D := (dC, dI)) (ci := 0) (v := .ref (b 0)) (C := RX1) (T := TX1) (N := 9) hx hb hts in_X1 hown hK hP1 0 rfl rfl 4 (by decide) (hts _ q220) (fun _ h9 => h9) rfl dX1_ahead_36 ?_
        refine lv_iload_n hx hb dX1_ahead_39 rfl (lv_at hl 3 rfl) ?_
        refine lv_iload hx hb dX1_ahead_40 (lv_at hl 0 rfl) ?_
        refine u_run (x_rV (C := RX5) (As := [.int (nI o), .int (nI k)]) SF hK (d := 4) (rk.le (Nat.le_of_ble_eq_true rfl)) (c_X5_distance l dC dI dA b mc S Hd o k (show o < ln S by omega) (show k < tn Hd by omega) hS1 hT) (lw_V q1388 q1158 q1159 q139 q1160) (n := 2) (by decide +kernel) rfl (by decide) (g_recv hK (hO 0 _ rfl) (ci := 1) rfl) (XOK.hp.and CE.ok) (⟨hO, hCE⟩) hl.1 (Nat.le_of_ble_eq_true rfl) ⟨Nat.zero_le _, Nat.zero_le _⟩ rfl dX1_ahead_42) ?_
        refine u_top (y := nI (farT S Hd o k)) rfl ?_
        refine lv_iload_n hx hb dX1_ahead_45 rfl (lv_at hl 2 rfl) ?_
        have jn74 : ∀ v9 : Int32, v9 = nI ((ahP (farT S Hd o) t k).toNat) → ∀ ls : Array Slot, lv_has ls 6 [(5, .int (nI k)), (4, .int (nI (cntN (ahP (farT S Hd o) t) k))), (3, .int (nI (farT S Hd o t))), (1, .int (nI o)), (2, .int (nI t)), (0, .ref (g 0))] → W p l e R s m args below meth c s.heap [] 0 0 Q (F0 m 74 ls [.int v9, .int (nI (cntN (ahP (farT S Hd o) t) k))]) := by
          intro v9 hv9 ls hl
          subst hv9
          refine u_run (x_rS (As := [.int (nI ((ahP (farT S Hd o) t k).toNat))]) (X := fun _ _ => True) SF hK (d := 0) (rk.le (Nat.le_of_ble_eq_true rfl)) (c_X1_one l dC dI dA (ahP (farT S Hd o) t k) ) (lw_S q1351 q1147 q112 q1148) (n := 1) (by decide +kernel) rfl (by decide) (XOK.hp) (trivial) hl.1 (Nat.le_of_ble_eq_true rfl) ⟨Nat.zero_le _, Nat.zero_le _⟩ rfl dX1_ahead_74) ?_
          refine u_top (y := nI ((ahP (farT S Hd o) t k).toNat)) rfl ?_
          refine lv_iadd hx hb dX1_ahead_77 ?_
          refine u_top (nI_add _ _) ?_
          refine lv_istore (lv' := [(4, .int (nI (cntN (ahP (farT S Hd o) t) k + ((ahP (farT S Hd o) t k).toNat)))), (5, .int (nI k)), (3, .int (nI (farT S Hd o t))), (1, .int (nI o)), (2, .int (nI t)), (0, .ref (g 0))]) hx hb dX1_ahead_78 hl (by decide) rfl (fun ls hl => ?_)
          refine lv_iinc (v := nI (k + 1)) (lv' := [(5, .int (nI (k + 1))), (4, .int (nI (cntN (ahP (farT S Hd o) t) k + ((ahP (farT S Hd o) t k).toNat)))), (3, .int (nI (farT S Hd o t))), (1, .int (nI o)), (2, .int (nI t)), (0, .ref (g 0))]) hx hb dX1_ahead_80 hl (k := 1) rfl (nI_add _ 1) (by decide) rfl (fun ls hl => ?_)
          refine lv_goto (tgt := 16) hx hb dX1_ahead_83 (by decide) ?_
          exact ih16 (k + 1) (by omega) (by omega) ls (lv_sub hl [0, 1, 2, 3, 4, 5] rfl)
        refine lv_icmp_lt (tgt := 69) hx hb dX1_ahead_46 (by decide) (fun c_46 => ?_) (fun c_46 => ?_)
        · have c_46 : farT S Hd o k < farT S Hd o t := (nI_ltI (a := farT S Hd o k) (b := farT S Hd o t) (by omega) (by omega)).mp c_46
          refine lv_iconst (v := nI 1) hx hb dX1_ahead_69 (by decide) ?_
          refine lv_goto (tgt := 74) hx hb dX1_ahead_70 (by decide) ?_
          exact jn74 _ (u_tt (by rw [ahP_iff]; omega)) ls (lv_sub hl [0, 1, 2, 3, 4, 5] rfl)
        · have c_46 : ¬ (farT S Hd o k < farT S Hd o t) := fun q9 => c_46 ((nI_ltI (a := farT S Hd o k) (b := farT S Hd o t) (by omega) (by omega)).mpr q9)
          refine lv_aload_n hx hb dX1_ahead_49 rfl (lv_at hl 5 rfl) ?_
          refine va_get (D := (dC, dI)) (ci := 0) (v := .ref (b 0)) (C := RX1) (T := TX1) (N := 9) hx hb hts in_X1 hown hK hP1 0 rfl rfl 4 (by decide) (hts _ q220) (fun _ h9 => h9) rfl dX1_ahead_50 ?_
          refine lv_iload_n hx hb dX1_ahead_53 rfl (lv_at hl 3 rfl) ?_
          refine lv_iload hx hb dX1_ahead_54 (lv_at hl 0 rfl) ?_
          refine u_run (x_rV (C := RX5) (As := [.int (nI o), .int (nI k)]) SF hK (d := 4) (rk.le (Nat.le_of_ble_eq_true rfl)) (c_X5_distance l dC dI dA b mc S Hd o k (show o < ln S by omega) (show k < tn Hd by omega) hS1 hT) (lw_V q1388 q1158 q1159 q139 q1160) (n := 2) (by decide +kernel) rfl (by decide) (g_recv hK (hO 0 _ rfl) (ci := 1) rfl) (XOK.hp.and CE.ok) (⟨hO, hCE⟩) hl.1 (Nat.le_of_ble_eq_true rfl) ⟨Nat.zero_le _, Nat.zero_le _⟩ rfl dX1_ahead_56) ?_
          refine u_top (y := nI (farT S Hd o k)) rfl ?_
          refine lv_iload_n hx hb dX1_ahead_59 rfl (lv_at hl 2 rfl) ?_
          refine lv_icmp_ne (tgt := 73) hx hb dX1_ahead_60 (by decide) (fun c_60 => ?_) (fun c_60 => ?_)
          · have c_60 : ¬ (farT S Hd o k = farT S Hd o t) := fun q9 => c_60 ((nI_eq (a := farT S Hd o k) (b := farT S Hd o t) (by omega) (by omega)).mpr q9)
            refine lv_iconst (v := nI 0) hx hb dX1_ahead_73 (by decide) ?_
            exact jn74 _ (u_ff (by rw [ahP_iff]; omega)) ls (lv_sub hl [0, 1, 2, 3, 4, 5] rfl)
          · have c_60 : farT S Hd o k = farT S Hd o t := (nI_eq (a := farT S Hd o k) (b := farT S Hd o t) (by omega) (by omega)).mp c_60
            refine lv_iload hx hb dX1_ahead_63 (lv_at hl 0 rfl) ?_
            refine lv_iload_n hx hb dX1_ahead_65 rfl (lv_at hl 4 rfl) ?_
            refine lv_icmp_ge (tgt := 73) hx hb dX1_ahead_66 (by decide) (fun c_66 => ?_) (fun c_66 => ?_)
            · have c_66 : t ≤ k := (nI_leI (a := t) (b := k) (by omega) (by omega)).mp c_66
              refine lv_iconst (v := nI 0) hx hb dX1_ahead_73 (by decide) ?_
              exact jn74 _ (u_ff (by rw [ahP_iff]; omega)) ls (lv_sub hl [0, 1, 2, 3, 4, 5] rfl)
            · have c_66 : ¬ (t ≤ k) := fun q9 => c_66 ((nI_leI (a := t) (b := k) (by omega) (by omega)).mpr q9)
              refine lv_iconst (v := nI 1) hx hb dX1_ahead_69 (by decide) ?_
              refine lv_goto (tgt := 74) hx hb dX1_ahead_70 (by decide) ?_
              exact jn74 _ (u_tt (by rw [ahP_iff]; omega)) ls (lv_sub hl [0, 1, 2, 3, 4, 5] rfl)
  exact lp16 (tn Hd + 1) 0 (by omega) (by omega) ls (lv_sub hl [0, 1, 2, 4, 5, 3] rfl)

set_option maxHeartbeats 4000000 in
theorem c_X1_nearAt (l : Launch) (dC : Nat → ClassId) (dI : Nat → Nat → Nat) (dA : Nat → ClassId) (g : Nat → Nat) (b : Nat → Nat) (mc : Nat → Int32) (S : Nat → Int32) (Hd : Nat → Int32) (n : Nat → Int32) (o : Nat) (z : Int32) (hlt : o < ln S) (hS1 : SWf S) (hT : TWf Hd) : Met l yX1_nearAt (ws_ yX1_nearAt cX1_nearAt 4 (some (.int))) (rmD 6 0 0) (uPx [.ref (g 0), .int (nI o), .int z] (fun U H => cP dC dI (g 0) (obE g n (.ref (b 0))) H ∧ famP dC dI b (offE b dA mc S Hd) H ∧ CE U) dC dI dA) (uQi (oI (nrA S Hd o z))) 0 0 noF := by
  refine x_meti (own := RX1) (by decide) rfl (Nat.le_of_ble_eq_true rfl) fun p e R s m args below meth c Q SF rk hX hK hret ls hl => ?_
  have hx := SF.1
  have hb := SF.2.1
  have hml := SF.2.2.1
  have hown := SF.2.2.2.1
  have hts := SF.2.2.2.2
  have hP1 := hX.1
  have hO := hX.2.1
  have hCE := hX.2.2
  have hl : lv_has ls 4 [(0, .ref (g 0)), (1, .int (nI o)), (2, .int z)] := hl
  have hL := hS1.2.1
  have hn9 := hT.2.1
  have hlim := hS1.2.2.2.1
  refine lv_iconst (v := nI 0) hx hb dX1_nearAt_0 (by decide) ?_
  refine lv_istore_n (lv' := [(3, .int (nI 0)), (0, .ref (g 0)), (1, .int (nI o)), (2, .int z)]) hx hb dX1_nearAt_1 rfl hl (by decide) rfl (fun ls hl => ?_)
  have lp2 : ∀ (k0 : Nat) (t : Nat), t ≤ tn Hd → (∀ j, j < t → (fun t => decide (farT S Hd o t ≤ lim S) && decide (nI (ahd (farT S Hd o) (tn Hd) t) = z)) j = false) → tn Hd < t + k0 → ∀ ls : Array Slot, lv_has ls 4 [(3, .int (nI t)), (1, .int (nI o)), (2, .int z), (0, .ref (g 0))] → W p l e R s m args below meth c s.heap [] 0 0 Q (F0 m 2 ls []) := by
    intro k0
    induction k0 with
    | zero =>
      intro t ht1 htf ht2; omega
    | succ k0 ih =>
      intro t ht1 htf ht2 ls hl
      have ih2 := ih
      have hf9 := farT_le S Hd o t
      have ha9 : ahd (farT S Hd o) (tn Hd) t ≤ tn Hd := ahd_le
      refine lv_iload_n hx hb dX1_nearAt_2 rfl (lv_at hl 0 rfl) ?_
      refine lv_aload_n hx hb dX1_nearAt_3 rfl (lv_at hl 3 rfl) ?_
      refine va_get (D := (dC, dI)) (ci := 0) (v := .ref (b 0)) (C := RX1) (T := TX1) (N := 9) hx hb hts in_X1 hown hK hP1 0 rfl rfl 4 (by decide) (hts _ q220) (fun _ h9 => h9) rfl dX1_nearAt_4 ?_
      refine va_getN (D := (dC, dI)) (ci := 1) (v := .ref (b 1)) (C := RX5) (T := TX5) (N := 10) hx hb hts in_X5 hown hK (hO 0 _ rfl) 0 rfl rfl 0 (by decide) (va_Nw.use rfl (hCE.1 2 (by decide))) (fun _ h9 => h9) rfl dX1_nearAt_7 ?_
      refine x_run5 (x_rF (C := RJ20) (As := []) (hK.1 6 _ rfl).2 SF hK (d := 0) (rk.le (Nat.le_of_ble_eq_true rfl)) (c_J20_size l dC dI dA (b 1) (b 2) (tn Hd) (mc 0) 12 (fun t => if t < tn Hd then some (b (10 + t)) else none) ) (lw_F q1303 q954 q956 q141 q958) (hCE.2.2 7 (by decide)) (n := 0) (by decide +kernel) rfl (by decide) (g_recv hK (hO 1 _ rfl) (ci := 6) rfl) (XOK.hp) (⟨hO 1 _ rfl, hO 2 _ rfl⟩) hl.1 (Nat.le_of_ble_eq_true rfl) ⟨Nat.zero_le _, Nat.zero_le _⟩ rfl dX1_nearAt_10) ?_
      refine u_top (y := nI (tn Hd)) rfl ?_
      refine lv_icmp_ge (tgt := 55) hx hb dX1_nearAt_15 (by decide) (fun c_15 => ?_) (fun c_15 => ?_)
      · have c_15 : (tn Hd) ≤ t := (nI_leI (a := (tn Hd)) (b := t) (by omega) (by omega)).mp c_15
        refine lv_iconst (v := (-1)) hx hb dX1_nearAt_55 (by decide) ?_
        exact hret _ _ _ (by rw [nrA, show tn Hd = t by omega, fndN_none (by rw [show tn Hd = t by omega] at htf; exact htf)]; rfl) dX1_nearAt_56
      · have c_15 : ¬ ((tn Hd) ≤ t) := fun q9 => c_15 ((nI_leI (a := (tn Hd)) (b := t) (by omega) (by omega)).mpr q9)
        refine lv_aload_n hx hb dX1_nearAt_18 rfl (lv_at hl 3 rfl) ?_
        refine va_get (D := (dC, dI)) (ci := 0) (v := .ref (b 0)) (C := RX1) (T := TX1) (N := 9) hx hb hts in_X1 hown hK hP1 0 rfl rfl 4 (by decide) (hts _ q220) (fun _ h9 => h9) rfl dX1_nearAt_19 ?_
        refine lv_iload_n hx hb dX1_nearAt_22 rfl (lv_at hl 1 rfl) ?_
        refine lv_iload_n hx hb dX1_nearAt_23 rfl (lv_at hl 0 rfl) ?_
        refine u_run (x_rV (C := RX5) (As := [.int (nI o), .int (nI t)]) SF hK (d := 4) (rk.le (Nat.le_of_ble_eq_true rfl)) (c_X5_distance l dC dI dA b mc S Hd o t (show o < ln S by omega) (show t < tn Hd by omega) hS1 hT) (lw_V q1388 q1158 q1159 q139 q1160) (n := 2) (by decide +kernel) rfl (by decide) (g_recv hK (hO 0 _ rfl) (ci := 1) rfl) (XOK.hp.and CE.ok) (⟨hO, hCE⟩) hl.1 (Nat.le_of_ble_eq_true rfl) ⟨Nat.zero_le _, Nat.zero_le _⟩ rfl dX1_nearAt_24) ?_
        refine u_top (y := nI (farT S Hd o t)) rfl ?_
        refine lv_aload_n hx hb dX1_nearAt_27 rfl (lv_at hl 3 rfl) ?_
        refine va_get (D := (dC, dI)) (ci := 0) (v := .ref (b 0)) (C := RX1) (T := TX1) (N := 9) hx hb hts in_X1 hown hK hP1 0 rfl rfl 4 (by decide) (hts _ q220) (fun _ h9 => h9) rfl dX1_nearAt_28 ?_
        refine va_getN (D := (dC, dI)) (ci := 1) (v := .int (S 0)) (C := RX5) (T := TX5) (N := 10) hx hb hts in_X5 hown hK (hO 0 _ rfl) 0 rfl rfl 7 (by decide) (va_Nw.use rfl (hCE.1 9 (by decide))) (fun _ h9 => h9) rfl dX1_nearAt_31 ?_
        refine u_top (y := nI (lim S)) (hS1.2.2.1) ?_
        refine lv_icmp_gt (tgt := 49) hx hb dX1_nearAt_34 (by decide) (fun c_34 => ?_) (fun c_34 => ?_)
        · have c_34 : lim S < farT S Hd o t := (nI_ltI (a := lim S) (b := farT S Hd o t) (by omega) (by omega)).mp c_34
          refine lv_iinc (v := nI (t + 1)) (lv' := [(3, .int (nI (t + 1))), (1, .int (nI o)), (2, .int z), (0, .ref (g 0))]) hx hb dX1_nearAt_49 hl (k := 0) rfl (nI_add _ 1) (by decide) rfl (fun ls hl => ?_)
          refine lv_goto (tgt := 2) hx hb dX1_nearAt_52 (by decide) ?_
          exact ih2 (t + 1) (by omega) (all_s htf (by first | (show (_ && _) = false; rw [decide_eq_false (by omega)]; rfl) | (show (_ && _) = false; rw [decide_eq_false c_44, Bool.and_false]))) (by omega) ls (lv_sub hl [0, 1, 2, 3] rfl)
        · have c_34 : ¬ (lim S < farT S Hd o t) := fun q9 => c_34 ((nI_ltI (a := lim S) (b := farT S Hd o t) (by omega) (by omega)).mpr q9)
          refine lv_aload_n hx hb dX1_nearAt_37 rfl (lv_at hl 3 rfl) ?_
          refine lv_iload_n hx hb dX1_nearAt_38 rfl (lv_at hl 1 rfl) ?_
          refine lv_iload_n hx hb dX1_nearAt_39 rfl (lv_at hl 0 rfl) ?_
          refine u_run (x_rV (C := RX1) (As := [.int (nI o), .int (nI t)]) SF hK (d := 5) (rk.le (Nat.le_of_ble_eq_true rfl)) (c_X1_ahead l dC dI dA g b mc S Hd n o t (show o < ln S by omega) (show t < tn Hd by omega) hS1 hT) (lw_V q1480 q1482 qs34 q112 q1483) (n := 2) (by decide +kernel) rfl (by decide) (g_recv hK hP1 (ci := 0) rfl) (XOK.hp.and (XOK.hp.and CE.ok)) (⟨hP1, hO, hCE⟩) hl.1 (Nat.le_of_ble_eq_true rfl) ⟨Nat.zero_le _, Nat.zero_le _⟩ rfl dX1_nearAt_40) ?_
          refine u_top (y := nI (ahd (farT S Hd o) (tn Hd) t)) rfl ?_
          refine lv_iload_n hx hb dX1_nearAt_43 rfl (lv_at hl 2 rfl) ?_
          refine lv_icmp_ne (tgt := 49) hx hb dX1_nearAt_44 (by decide) (fun c_44 => ?_) (fun c_44 => ?_)
          · refine lv_iinc (v := nI (t + 1)) (lv' := [(3, .int (nI (t + 1))), (1, .int (nI o)), (2, .int z), (0, .ref (g 0))]) hx hb dX1_nearAt_49 hl (k := 0) rfl (nI_add _ 1) (by decide) rfl (fun ls hl => ?_)
            refine lv_goto (tgt := 2) hx hb dX1_nearAt_52 (by decide) ?_
            exact ih2 (t + 1) (by omega) (all_s htf (by first | (show (_ && _) = false; rw [decide_eq_false (by omega)]; rfl) | (show (_ && _) = false; rw [decide_eq_false c_44, Bool.and_false]))) (by omega) ls (lv_sub hl [0, 1, 2, 3] rfl)
          · refine lv_iload_n hx hb dX1_nearAt_47 rfl (lv_at hl 0 rfl) ?_
            exact hret _ _ _ (by rw [nrA, fndN_some (by omega) (by rw [decide_eq_true (by omega), decide_eq_true c_44]; rfl) htf]; rfl) dX1_nearAt_48
  exact lp2 (tn Hd + 1) 0 (by omega) (fun j h => absurd h (Nat.not_lt_zero j)) (by omega) ls (lv_sub hl [0, 2, 3, 1] rfl)
end API3
