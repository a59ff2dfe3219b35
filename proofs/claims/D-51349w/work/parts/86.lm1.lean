set_option maxRecDepth 100000
section LM1
variable {p : Program} {l : Launch} {e : Env} {R : Room} {s : State} {m : MethodId} {args : Array Value} {below : List Frame} {meth : Method} {c : Code} {H : Heap} {locs : List Loc} {Q : State → Prop}
variable {cc : ByteArray} {pc nL : Nat} {ls : Array Slot} {rest : List Value} {dC : Nat → ClassId} {dI : Nat → Nat → Nat} {dA : Nat → ClassId} {a : Nat → Nat} {M : Nat → Nat → Int32} {H0 : Heap}

set_option maxHeartbeats 4000000 in
theorem c_X1_lambda_count_1 (l : Launch) (dC : Nat → ClassId) (dI : Nat → Nat → Nat) (dA : Nat → ClassId) (b : Nat → Nat) (mc : Nat → Int32) (S : Nat → Int32) (Hd : Nat → Int32) (o : Nat) (hlt : o < ln S) (hS1 : SWf S) (hT : TWf Hd) : Met l yX1_lambda_count_1 (ws_ yX1_lambda_count_1 cX1_lambda_count_1 2 (some (.boolean))) (rmD 11 0 0) (uPx [.ref (b 0), .int (nI o)] (fun U H => famP dC dI b (offE b dA mc S Hd) H ∧ CE U) dC dI dA) (uQi (nI ((dcd S Hd o).isSome).toNat)) 0 0 noF := by
  refine x_metz (own := RX1) (by decide) rfl (Nat.le_of_ble_eq_true rfl) fun p e R s m args below meth c Q SF rk hX hK hret ls hl => ?_
  have hx := SF.1
  have hb := SF.2.1
  have hml := SF.2.2.1
  have hown := SF.2.2.2.1
  have hts := SF.2.2.2.2
  have hO := hX.1
  have hCE := hX.2
  have hl : lv_has ls 2 [(0, .ref (b 0)), (1, .int (nI o))] := hl
  have hL := hS1.2.1
  have hn9 := hT.2.1
  refine lv_aload_n hx hb dX1_lambda_count_1_0 rfl (lv_at hl 0 rfl) ?_
  refine lv_iload_n hx hb dX1_lambda_count_1_1 rfl (lv_at hl 1 rfl) ?_
  refine u_run (x_rV (C := RX5) (As := [.int (nI o)]) SF hK (d := 10) (rk.le (Nat.le_of_ble_eq_true rfl)) (c_X5_decided l dC dI dA b mc S Hd o (show o < ln S by omega) hS1 hT) (lw_V q1339 q1181 q1182 q139 q1183) (n := 1) (by decide +kernel) rfl (by decide) (g_recv hK (hO 0 _ rfl) (ci := 1) rfl) (XOK.hp.and CE.ok) (⟨hO, hCE⟩) hl.1 (Nat.le_of_ble_eq_true rfl) ⟨Nat.zero_le _, Nat.zero_le _⟩ rfl dX1_lambda_count_1_2) ?_
  refine u_top (y := oI (dcd S Hd o)) rfl ?_
  rcases hE : dcd S Hd o with _ | t9
  · refine u_top (y := (-1)) rfl ?_
    refine lv_iconst (v := (-1)) hx hb dX1_lambda_count_1_5 (by decide) ?_
    refine lv_icmp_eq (tgt := 13) hx hb dX1_lambda_count_1_6 (by decide) (fun c_6 => ?_) (fun c_6 => absurd (by decide) c_6)
    refine lv_iconst (v := nI 0) hx hb dX1_lambda_count_1_13 (by decide) ?_
    exact hret _ _ _ (by rw [hE]; rfl) dX1_lambda_count_1_14
  · have ht9 := dcd_lt hE
    refine u_top (y := nI t9) rfl ?_
    refine lv_iconst (v := (-1)) hx hb dX1_lambda_count_1_5 (by decide) ?_
    refine lv_icmp_eq (tgt := 13) hx hb dX1_lambda_count_1_6 (by decide) (fun c_6 => absurd c_6 (nI_m1 (by omega))) (fun c_6 => ?_)
    refine lv_iconst (v := nI 1) hx hb dX1_lambda_count_1_9 (by decide) ?_
    refine lv_goto (tgt := 14) hx hb dX1_lambda_count_1_10 (by decide) ?_
    exact hret _ _ _ (by rw [hE]; rfl) dX1_lambda_count_1_14

set_option maxHeartbeats 4000000 in
theorem c_X1_lambda_decidedIn_11 (l : Launch) (dC : Nat → ClassId) (dI : Nat → Nat → Nat) (dA : Nat → ClassId) (b : Nat → Nat) (mc : Nat → Int32) (S : Nat → Int32) (Hd : Nat → Int32) (o : Nat) (hlt : o < ln S) (hS1 : SWf S) (hT : TWf Hd) : Met l yX1_lambda_decidedIn_11 (ws_ yX1_lambda_decidedIn_11 cX1_lambda_decidedIn_11 2 (some (.boolean))) (rmD 11 0 0) (uPx [.ref (b 0), .int (nI o)] (fun U H => famP dC dI b (offE b dA mc S Hd) H ∧ CE U) dC dI dA) (uQi (nI ((dcd S Hd o).isSome).toNat)) 0 0 noF := by
  refine x_metz (own := RX1) (by decide) rfl (Nat.le_of_ble_eq_true rfl) fun p e R s m args below meth c Q SF rk hX hK hret ls hl => ?_
  have hx := SF.1
  have hb := SF.2.1
  have hml := SF.2.2.1
  have hown := SF.2.2.2.1
  have hts := SF.2.2.2.2
  have hO := hX.1
  have hCE := hX.2
  have hl : lv_has ls 2 [(0, .ref (b 0)), (1, .int (nI o))] := hl
  have hL := hS1.2.1
  have hn9 := hT.2.1
  refine lv_aload_n hx hb dX1_lambda_decidedIn_11_0 rfl (lv_at hl 0 rfl) ?_
  refine lv_iload_n hx hb dX1_lambda_decidedIn_11_1 rfl (lv_at hl 1 rfl) ?_
  refine u_run (x_rV (C := RX5) (As := [.int (nI o)]) SF hK (d := 10) (rk.le (Nat.le_of_ble_eq_true rfl)) (c_X5_decided l dC dI dA b mc S Hd o (show o < ln S by omega) hS1 hT) (lw_V q1339 q1181 q1182 q139 q1183) (n := 1) (by decide +kernel) rfl (by decide) (g_recv hK (hO 0 _ rfl) (ci := 1) rfl) (XOK.hp.and CE.ok) (⟨hO, hCE⟩) hl.1 (Nat.le_of_ble_eq_true rfl) ⟨Nat.zero_le _, Nat.zero_le _⟩ rfl dX1_lambda_decidedIn_11_2) ?_
  refine u_top (y := oI (dcd S Hd o)) rfl ?_
  rcases hE : dcd S Hd o with _ | t9
  · refine u_top (y := (-1)) rfl ?_
    refine lv_iconst (v := (-1)) hx hb dX1_lambda_decidedIn_11_5 (by decide) ?_
    refine lv_icmp_eq (tgt := 13) hx hb dX1_lambda_decidedIn_11_6 (by decide) (fun c_6 => ?_) (fun c_6 => absurd (by decide) c_6)
    refine lv_iconst (v := nI 0) hx hb dX1_lambda_decidedIn_11_13 (by decide) ?_
    exact hret _ _ _ (by rw [hE]; rfl) dX1_lambda_decidedIn_11_14
  · have ht9 := dcd_lt hE
    refine u_top (y := nI t9) rfl ?_
    refine lv_iconst (v := (-1)) hx hb dX1_lambda_decidedIn_11_5 (by decide) ?_
    refine lv_icmp_eq (tgt := 13) hx hb dX1_lambda_decidedIn_11_6 (by decide) (fun c_6 => absurd c_6 (nI_m1 (by omega))) (fun c_6 => ?_)
    refine lv_iconst (v := nI 1) hx hb dX1_lambda_decidedIn_11_9 (by decide) ?_
    refine lv_goto (tgt := 14) hx hb dX1_lambda_decidedIn_11_10 (by decide) ?_
    exact hret _ _ _ (by rw [hE]; rfl) dX1_lambda_decidedIn_11_14

set_option maxHeartbeats 4000000 in
theorem c_X1_lambda_bundle_6 (l : Launch) (dC : Nat → ClassId) (dI : Nat → Nat → Nat) (dA : Nat → ClassId) (b : Nat → Nat) (mc : Nat → Int32) (S : Nat → Int32) (Hd : Nat → Int32) (o : Nat) (hlt : o < ln S) (hS1 : SWf S) (hT : TWf Hd) : Met l yX1_lambda_bundle_6 (ws_ yX1_lambda_bundle_6 cX1_lambda_bundle_6 2 (some (.boolean))) (rmD 8 0 0) (uPx [.ref (b 0), .int (nI o)] (fun U H => famP dC dI b (offE b dA mc S Hd) H ∧ CE U) dC dI dA) (uQi (nI ((byS S Hd o).isSome).toNat)) 0 0 noF := by
  refine x_metz (own := RX1) (by decide) rfl (Nat.le_of_ble_eq_true rfl) fun p e R s m args below meth c Q SF rk hX hK hret ls hl => ?_
  have hx := SF.1
  have hb := SF.2.1
  have hml := SF.2.2.1
  have hown := SF.2.2.2.1
  have hts := SF.2.2.2.2
  have hO := hX.1
  have hCE := hX.2
  have hl : lv_has ls 2 [(0, .ref (b 0)), (1, .int (nI o))] := hl
  have hL := hS1.2.1
  have hn9 := hT.2.1
  refine lv_aload_n hx hb dX1_lambda_bundle_6_0 rfl (lv_at hl 0 rfl) ?_
  refine lv_iload_n hx hb dX1_lambda_bundle_6_1 rfl (lv_at hl 1 rfl) ?_
  refine u_run (x_rV (C := RX5) (As := [.int (nI o)]) SF hK (d := 7) (rk.le (Nat.le_of_ble_eq_true rfl)) (c_X5_byItself l dC dI dA b mc S Hd o (show o < ln S by omega) hS1 hT) (lw_V q1498 q1185 q1186 q139 q1187) (n := 1) (by decide +kernel) rfl (by decide) (g_recv hK (hO 0 _ rfl) (ci := 1) rfl) (XOK.hp.and CE.ok) (⟨hO, hCE⟩) hl.1 (Nat.le_of_ble_eq_true rfl) ⟨Nat.zero_le _, Nat.zero_le _⟩ rfl dX1_lambda_bundle_6_2) ?_
  refine u_top (y := oI (byS S Hd o)) rfl ?_
  rcases hE : byS S Hd o with _ | t9
  · refine u_top (y := (-1)) rfl ?_
    refine lv_iconst (v := (-1)) hx hb dX1_lambda_bundle_6_5 (by decide) ?_
    refine lv_icmp_eq (tgt := 13) hx hb dX1_lambda_bundle_6_6 (by decide) (fun c_6 => ?_) (fun c_6 => absurd (by decide) c_6)
    refine lv_iconst (v := nI 0) hx hb dX1_lambda_bundle_6_13 (by decide) ?_
    exact hret _ _ _ (by rw [hE]; rfl) dX1_lambda_bundle_6_14
  · have ht9 := byS_lt hE
    refine u_top (y := nI t9) rfl ?_
    refine lv_iconst (v := (-1)) hx hb dX1_lambda_bundle_6_5 (by decide) ?_
    refine lv_icmp_eq (tgt := 13) hx hb dX1_lambda_bundle_6_6 (by decide) (fun c_6 => absurd c_6 (nI_m1 (by omega))) (fun c_6 => ?_)
    refine lv_iconst (v := nI 1) hx hb dX1_lambda_bundle_6_9 (by decide) ?_
    refine lv_goto (tgt := 14) hx hb dX1_lambda_bundle_6_10 (by decide) ?_
    exact hret _ _ _ (by rw [hE]; rfl) dX1_lambda_bundle_6_14

set_option maxHeartbeats 4000000 in
theorem c_X1_lambda_town_2 (l : Launch) (dC : Nat → ClassId) (dI : Nat → Nat → Nat) (dA : Nat → ClassId) (b : Nat → Nat) (mc : Nat → Int32) (S : Nat → Int32) (Hd : Nat → Int32) (z : Int32) (o : Nat) (hlt : o < ln S) (hS1 : SWf S) : Met l yX1_lambda_town_2 (ws_ yX1_lambda_town_2 cX1_lambda_town_2 3 (some (.boolean))) (rmD 4 0 0) (uPx [.ref (b 0), .int z, .int (nI o)] (fun U H => famP dC dI b (offE b dA mc S Hd) H ∧ CE U) dC dI dA) (uQi (nI (decide (lr S o 9 = z)).toNat)) 0 0 noF := by
  refine x_metz (own := RX1) (by decide) rfl (Nat.le_of_ble_eq_true rfl) fun p e R s m args below meth c Q SF rk hX hK hret ls hl => ?_
  have hx := SF.1
  have hb := SF.2.1
  have hml := SF.2.2.1
  have hown := SF.2.2.2.1
  have hts := SF.2.2.2.2
  have hO := hX.1
  have hCE := hX.2
  have hl : lv_has ls 3 [(0, .ref (b 0)), (1, .int z), (2, .int (nI o))] := hl
  have hL := hS1.2.1
  refine lv_aload_n hx hb dX1_lambda_town_2_0 rfl (lv_at hl 0 rfl) ?_
  refine lv_iload_n hx hb dX1_lambda_town_2_1 rfl (lv_at hl 2 rfl) ?_
  refine x_runa (x_rV (C := RX5) (As := [.int (nI o)]) SF hK (d := 3) (rk.le (Nat.le_of_ble_eq_true rfl)) (c_X5_letter l dC dI dA b mc S Hd o (show o < ln S by omega) hS1) (lw_V q187 q188 q189 q139 q190) (n := 1) (by decide +kernel) rfl (by decide) (g_recv hK (hO 0 _ rfl) (ci := 1) rfl) (XOK.hp.and CE.ok) (⟨hO, hCE⟩) hl.1 (Nat.le_of_ble_eq_true rfl) ⟨Nat.zero_le _, Nat.zero_le _⟩ rfl dX1_lambda_town_2_2) ?_
  refine g_top (y := .ref (b (22 + o))) rfl ?_
  refine va_getN (D := (dC, dI)) (ci := 3) (v := .int (lr S o 9)) (C := RX7) (T := TX7) (N := 6) hx hb hts in_X7 hown hK (hO _ _ (offE_lt (show o < ln S from (by omega)) hS1.2.1)) 0 rfl rfl 5 (by decide) (va_Nw.use rfl (hCE.1 17 (by decide))) (fun _ h9 => h9) rfl dX1_lambda_town_2_5 ?_
  refine lv_iload_n hx hb dX1_lambda_town_2_8 rfl (lv_at hl 1 rfl) ?_
  refine lv_icmp_ne (tgt := 16) hx hb dX1_lambda_town_2_9 (by decide) (fun c_9 => ?_) (fun c_9 => ?_)
  · refine lv_iconst (v := nI 0) hx hb dX1_lambda_town_2_16 (by decide) ?_
    exact hret _ _ _ (u_ff (fun q9 => c_9 (of_decide_eq_true q9))) dX1_lambda_town_2_17
  · refine lv_iconst (v := nI 1) hx hb dX1_lambda_town_2_12 (by decide) ?_
    refine lv_goto (tgt := 17) hx hb dX1_lambda_town_2_13 (by decide) ?_
    exact hret _ _ _ (u_tt (decide_eq_true c_9)) dX1_lambda_town_2_17

set_option maxHeartbeats 4000000 in
theorem c_X1_lambda_bundle_5 (l : Launch) (dC : Nat → ClassId) (dI : Nat → Nat → Nat) (dA : Nat → ClassId) (b : Nat → Nat) (mc : Nat → Int32) (S : Nat → Int32) (Hd : Nat → Int32) (z : Int32) (o : Nat) (hlt : o < ln S) (hS1 : SWf S) : Met l yX1_lambda_bundle_5 (ws_ yX1_lambda_bundle_5 cX1_lambda_bundle_5 3 (some (.boolean))) (rmD 4 0 0) (uPx [.ref (b 0), .int z, .int (nI o)] (fun U H => famP dC dI b (offE b dA mc S Hd) H ∧ CE U) dC dI dA) (uQi (nI (decide (lr S o 5 = z)).toNat)) 0 0 noF := by
  refine x_metz (own := RX1) (by decide) rfl (Nat.le_of_ble_eq_true rfl) fun p e R s m args below meth c Q SF rk hX hK hret ls hl => ?_
  have hx := SF.1
  have hb := SF.2.1
  have hml := SF.2.2.1
  have hown := SF.2.2.2.1
  have hts := SF.2.2.2.2
  have hO := hX.1
  have hCE := hX.2
  have hl : lv_has ls 3 [(0, .ref (b 0)), (1, .int z), (2, .int (nI o))] := hl
  have hL := hS1.2.1
  refine lv_aload_n hx hb dX1_lambda_bundle_5_0 rfl (lv_at hl 0 rfl) ?_
  refine lv_iload_n hx hb dX1_lambda_bundle_5_1 rfl (lv_at hl 2 rfl) ?_
  refine x_runa (x_rV (C := RX5) (As := [.int (nI o)]) SF hK (d := 3) (rk.le (Nat.le_of_ble_eq_true rfl)) (c_X5_letter l dC dI dA b mc S Hd o (show o < ln S by omega) hS1) (lw_V q187 q188 q189 q139 q190) (n := 1) (by decide +kernel) rfl (by decide) (g_recv hK (hO 0 _ rfl) (ci := 1) rfl) (XOK.hp.and CE.ok) (⟨hO, hCE⟩) hl.1 (Nat.le_of_ble_eq_true rfl) ⟨Nat.zero_le _, Nat.zero_le _⟩ rfl dX1_lambda_bundle_5_2) ?_
  refine g_top (y := .ref (b (22 + o))) rfl ?_
  refine va_getN (D := (dC, dI)) (ci := 3) (v := .int (lr S o 5)) (C := RX7) (T := TX7) (N := 6) hx hb hts in_X7 hown hK (hO _ _ (offE_lt (show o < ln S from (by omega)) hS1.2.1)) 0 rfl rfl 1 (by decide) (va_Nw.use rfl (hCE.1 13 (by decide))) (fun _ h9 => h9) rfl dX1_lambda_bundle_5_5 ?_
  refine lv_iload_n hx hb dX1_lambda_bundle_5_8 rfl (lv_at hl 1 rfl) ?_
  refine lv_icmp_ne (tgt := 16) hx hb dX1_lambda_bundle_5_9 (by decide) (fun c_9 => ?_) (fun c_9 => ?_)
  · refine lv_iconst (v := nI 0) hx hb dX1_lambda_bundle_5_16 (by decide) ?_
    exact hret _ _ _ (u_ff (fun q9 => c_9 (of_decide_eq_true q9))) dX1_lambda_bundle_5_17
  · refine lv_iconst (v := nI 1) hx hb dX1_lambda_bundle_5_12 (by decide) ?_
    refine lv_goto (tgt := 17) hx hb dX1_lambda_bundle_5_13 (by decide) ?_
    exact hret _ _ _ (u_tt (decide_eq_true c_9)) dX1_lambda_bundle_5_17

set_option maxHeartbeats 4000000 in
theorem c_X1_lambda_causes_8 (l : Launch) (dC : Nat → ClassId) (dI : Nat → Nat → Nat) (dA : Nat → ClassId) (b : Nat → Nat) (mc : Nat → Int32) (S : Nat → Int32) (Hd : Nat → Int32) (z : Int32) (o : Nat) (hlt : o < ln S) (hS1 : SWf S) : Met l yX1_lambda_causes_8 (ws_ yX1_lambda_causes_8 cX1_lambda_causes_8 3 (some (.boolean))) (rmD 4 0 0) (uPx [.ref (b 0), .int z, .int (nI o)] (fun U H => famP dC dI b (offE b dA mc S Hd) H ∧ CE U) dC dI dA) (uQi (nI (decide (lr S o 8 = z)).toNat)) 0 0 noF := by
  refine x_metz (own := RX1) (by decide) rfl (Nat.le_of_ble_eq_true rfl) fun p e R s m args below meth c Q SF rk hX hK hret ls hl => ?_
  have hx := SF.1
  have hb := SF.2.1
  have hml := SF.2.2.1
  have hown := SF.2.2.2.1
  have hts := SF.2.2.2.2
  have hO := hX.1
  have hCE := hX.2
  have hl : lv_has ls 3 [(0, .ref (b 0)), (1, .int z), (2, .int (nI o))] := hl
  have hL := hS1.2.1
  refine lv_aload_n hx hb dX1_lambda_causes_8_0 rfl (lv_at hl 0 rfl) ?_
  refine lv_iload_n hx hb dX1_lambda_causes_8_1 rfl (lv_at hl 2 rfl) ?_
  refine x_runa (x_rV (C := RX5) (As := [.int (nI o)]) SF hK (d := 3) (rk.le (Nat.le_of_ble_eq_true rfl)) (c_X5_letter l dC dI dA b mc S Hd o (show o < ln S by omega) hS1) (lw_V q187 q188 q189 q139 q190) (n := 1) (by decide +kernel) rfl (by decide) (g_recv hK (hO 0 _ rfl) (ci := 1) rfl) (XOK.hp.and CE.ok) (⟨hO, hCE⟩) hl.1 (Nat.le_of_ble_eq_true rfl) ⟨Nat.zero_le _, Nat.zero_le _⟩ rfl dX1_lambda_causes_8_2) ?_
  refine g_top (y := .ref (b (22 + o))) rfl ?_
  refine va_getN (D := (dC, dI)) (ci := 3) (v := .int (lr S o 8)) (C := RX7) (T := TX7) (N := 6) hx hb hts in_X7 hown hK (hO _ _ (offE_lt (show o < ln S from (by omega)) hS1.2.1)) 0 rfl rfl 4 (by decide) (va_Nw.use rfl (hCE.1 16 (by decide))) (fun _ h9 => h9) rfl dX1_lambda_causes_8_5 ?_
  refine lv_iload_n hx hb dX1_lambda_causes_8_8 rfl (lv_at hl 1 rfl) ?_
  refine lv_icmp_ne (tgt := 16) hx hb dX1_lambda_causes_8_9 (by decide) (fun c_9 => ?_) (fun c_9 => ?_)
  · refine lv_iconst (v := nI 0) hx hb dX1_lambda_causes_8_16 (by decide) ?_
    exact hret _ _ _ (u_ff (fun q9 => c_9 (of_decide_eq_true q9))) dX1_lambda_causes_8_17
  · refine lv_iconst (v := nI 1) hx hb dX1_lambda_causes_8_12 (by decide) ?_
    refine lv_goto (tgt := 17) hx hb dX1_lambda_causes_8_13 (by decide) ?_
    exact hret _ _ _ (u_tt (decide_eq_true c_9)) dX1_lambda_causes_8_17

set_option maxHeartbeats 4000000 in
theorem c_X1_lambda_decidedIn_10 (l : Launch) (dC : Nat → ClassId) (dI : Nat → Nat → Nat) (dA : Nat → ClassId) (b : Nat → Nat) (mc : Nat → Int32) (S : Nat → Int32) (Hd : Nat → Int32) (z : Int32) (o : Nat) (hlt : o < ln S) (hS1 : SWf S) : Met l yX1_lambda_decidedIn_10 (ws_ yX1_lambda_decidedIn_10 cX1_lambda_decidedIn_10 3 (some (.boolean))) (rmD 4 0 0) (uPx [.ref (b 0), .int z, .int (nI o)] (fun U H => famP dC dI b (offE b dA mc S Hd) H ∧ CE U) dC dI dA) (uQi (nI (decide (lr S o 5 = z)).toNat)) 0 0 noF := by
  refine x_metz (own := RX1) (by decide) rfl (Nat.le_of_ble_eq_true rfl) fun p e R s m args below meth c Q SF rk hX hK hret ls hl => ?_
  have hx := SF.1
  have hb := SF.2.1
  have hml := SF.2.2.1
  have hown := SF.2.2.2.1
  have hts := SF.2.2.2.2
  have hO := hX.1
  have hCE := hX.2
  have hl : lv_has ls 3 [(0, .ref (b 0)), (1, .int z), (2, .int (nI o))] := hl
  have hL := hS1.2.1
  refine lv_aload_n hx hb dX1_lambda_decidedIn_10_0 rfl (lv_at hl 0 rfl) ?_
  refine lv_iload_n hx hb dX1_lambda_decidedIn_10_1 rfl (lv_at hl 2 rfl) ?_
  refine x_runa (x_rV (C := RX5) (As := [.int (nI o)]) SF hK (d := 3) (rk.le (Nat.le_of_ble_eq_true rfl)) (c_X5_letter l dC dI dA b mc S Hd o (show o < ln S by omega) hS1) (lw_V q187 q188 q189 q139 q190) (n := 1) (by decide +kernel) rfl (by decide) (g_recv hK (hO 0 _ rfl) (ci := 1) rfl) (XOK.hp.and CE.ok) (⟨hO, hCE⟩) hl.1 (Nat.le_of_ble_eq_true rfl) ⟨Nat.zero_le _, Nat.zero_le _⟩ rfl dX1_lambda_decidedIn_10_2) ?_
  refine g_top (y := .ref (b (22 + o))) rfl ?_
  refine va_getN (D := (dC, dI)) (ci := 3) (v := .int (lr S o 5)) (C := RX7) (T := TX7) (N := 6) hx hb hts in_X7 hown hK (hO _ _ (offE_lt (show o < ln S from (by omega)) hS1.2.1)) 0 rfl rfl 1 (by decide) (va_Nw.use rfl (hCE.1 13 (by decide))) (fun _ h9 => h9) rfl dX1_lambda_decidedIn_10_5 ?_
  refine lv_iload_n hx hb dX1_lambda_decidedIn_10_8 rfl (lv_at hl 1 rfl) ?_
  refine lv_icmp_ne (tgt := 16) hx hb dX1_lambda_decidedIn_10_9 (by decide) (fun c_9 => ?_) (fun c_9 => ?_)
  · refine lv_iconst (v := nI 0) hx hb dX1_lambda_decidedIn_10_16 (by decide) ?_
    exact hret _ _ _ (u_ff (fun q9 => c_9 (of_decide_eq_true q9))) dX1_lambda_decidedIn_10_17
  · refine lv_iconst (v := nI 1) hx hb dX1_lambda_decidedIn_10_12 (by decide) ?_
    refine lv_goto (tgt := 17) hx hb dX1_lambda_decidedIn_10_13 (by decide) ?_
    exact hret _ _ _ (u_tt (decide_eq_true c_9)) dX1_lambda_decidedIn_10_17

set_option maxHeartbeats 4000000 in
theorem c_X1_lambda_causes_7 (l : Launch) (dC : Nat → ClassId) (dI : Nat → Nat → Nat) (dA : Nat → ClassId) (b : Nat → Nat) (mc : Nat → Int32) (S : Nat → Int32) (Hd : Nat → Int32) (o : Nat) (hlt : o < ln S) (hS1 : SWf S) : Met l yX1_lambda_causes_7 (ws_ yX1_lambda_causes_7 cX1_lambda_causes_7 2 (some (.boolean))) (rmD 4 0 0) (uPx [.ref (b 0), .int (nI o)] (fun U H => famP dC dI b (offE b dA mc S Hd) H ∧ CE U) dC dI dA) (uQi (nI (decide (lr S o 6 = nI 2)).toNat)) 0 0 noF := by
  refine x_metz (own := RX1) (by decide) rfl (Nat.le_of_ble_eq_true rfl) fun p e R s m args below meth c Q SF rk hX hK hret ls hl => ?_
  have hx := SF.1
  have hb := SF.2.1
  have hml := SF.2.2.1
  have hown := SF.2.2.2.1
  have hts := SF.2.2.2.2
  have hO := hX.1
  have hCE := hX.2
  have hl : lv_has ls 2 [(0, .ref (b 0)), (1, .int (nI o))] := hl
  have hL := hS1.2.1
  refine lv_aload_n hx hb dX1_lambda_causes_7_0 rfl (lv_at hl 0 rfl) ?_
  refine lv_iload_n hx hb dX1_lambda_causes_7_1 rfl (lv_at hl 1 rfl) ?_
  refine x_runa (x_rV (C := RX5) (As := [.int (nI o)]) SF hK (d := 3) (rk.le (Nat.le_of_ble_eq_true rfl)) (c_X5_letter l dC dI dA b mc S Hd o (show o < ln S by omega) hS1) (lw_V q187 q188 q189 q139 q190) (n := 1) (by decide +kernel) rfl (by decide) (g_recv hK (hO 0 _ rfl) (ci := 1) rfl) (XOK.hp.and CE.ok) (⟨hO, hCE⟩) hl.1 (Nat.le_of_ble_eq_true rfl) ⟨Nat.zero_le _, Nat.zero_le _⟩ rfl dX1_lambda_causes_7_2) ?_
  refine g_top (y := .ref (b (22 + o))) rfl ?_
  refine va_getN (D := (dC, dI)) (ci := 3) (v := .int (lr S o 6)) (C := RX7) (T := TX7) (N := 6) hx hb hts in_X7 hown hK (hO _ _ (offE_lt (show o < ln S from (by omega)) hS1.2.1)) 0 rfl rfl 2 (by decide) (va_Nw.use rfl (hCE.1 14 (by decide))) (fun _ h9 => h9) rfl dX1_lambda_causes_7_5 ?_
  refine lv_iconst (v := nI 2) hx hb dX1_lambda_causes_7_8 (by decide) ?_
  refine lv_icmp_ne (tgt := 16) hx hb dX1_lambda_causes_7_9 (by decide) (fun c_9 => ?_) (fun c_9 => ?_)
  · refine lv_iconst (v := nI 0) hx hb dX1_lambda_causes_7_16 (by decide) ?_
    exact hret _ _ _ (u_ff (fun q9 => c_9 (of_decide_eq_true q9))) dX1_lambda_causes_7_17
  · refine lv_iconst (v := nI 1) hx hb dX1_lambda_causes_7_12 (by decide) ?_
    refine lv_goto (tgt := 17) hx hb dX1_lambda_causes_7_13 (by decide) ?_
    exact hret _ _ _ (u_tt (decide_eq_true c_9)) dX1_lambda_causes_7_17

set_option maxHeartbeats 4000000 in
theorem c_X1_lambda_town_3 (l : Launch) (dC : Nat → ClassId) (dI : Nat → Nat → Nat) (dA : Nat → ClassId) (b : Nat → Nat) (mc : Nat → Int32) (S : Nat → Int32) (Hd : Nat → Int32) (z : Int32) (o : Nat) (hlt : o < ln S) (hS1 : SWf S) (hT : TWf Hd) : Met l yX1_lambda_town_3 (ws_ yX1_lambda_town_3 cX1_lambda_town_3 3 (some (.boolean))) (rmD 11 0 0) (uPx [.ref (b 0), .int z, .int (nI o)] (fun U H => famP dC dI b (offE b dA mc S Hd) H ∧ CE U) dC dI dA) (uQi (nI (decide (oI (dcd S Hd o) = z)).toNat)) 0 0 noF := by
  refine x_metz (own := RX1) (by decide) rfl (Nat.le_of_ble_eq_true rfl) fun p e R s m args below meth c Q SF rk hX hK hret ls hl => ?_
  have hx := SF.1
  have hb := SF.2.1
  have hml := SF.2.2.1
  have hown := SF.2.2.2.1
  have hts := SF.2.2.2.2
  have hO := hX.1
  have hCE := hX.2
  have hl : lv_has ls 3 [(0, .ref (b 0)), (1, .int z), (2, .int (nI o))] := hl
  have hL := hS1.2.1
  have hn9 := hT.2.1
  refine lv_aload_n hx hb dX1_lambda_town_3_0 rfl (lv_at hl 0 rfl) ?_
  refine lv_iload_n hx hb dX1_lambda_town_3_1 rfl (lv_at hl 2 rfl) ?_
  refine u_run (x_rV (C := RX5) (As := [.int (nI o)]) SF hK (d := 10) (rk.le (Nat.le_of_ble_eq_true rfl)) (c_X5_decided l dC dI dA b mc S Hd o (show o < ln S by omega) hS1 hT) (lw_V q1339 q1181 q1182 q139 q1183) (n := 1) (by decide +kernel) rfl (by decide) (g_recv hK (hO 0 _ rfl) (ci := 1) rfl) (XOK.hp.and CE.ok) (⟨hO, hCE⟩) hl.1 (Nat.le_of_ble_eq_true rfl) ⟨Nat.zero_le _, Nat.zero_le _⟩ rfl dX1_lambda_town_3_2) ?_
  refine u_top (y := oI (dcd S Hd o)) rfl ?_
  refine lv_iload_n hx hb dX1_lambda_town_3_5 rfl (lv_at hl 1 rfl) ?_
  refine lv_icmp_ne (tgt := 13) hx hb dX1_lambda_town_3_6 (by decide) (fun c_6 => ?_) (fun c_6 => ?_)
  · refine lv_iconst (v := nI 0) hx hb dX1_lambda_town_3_13 (by decide) ?_
    exact hret _ _ _ (u_ff (fun q9 => c_6 (of_decide_eq_true q9))) dX1_lambda_town_3_14
  · refine lv_iconst (v := nI 1) hx hb dX1_lambda_town_3_9 (by decide) ?_
    refine lv_goto (tgt := 14) hx hb dX1_lambda_town_3_10 (by decide) ?_
    exact hret _ _ _ (u_tt (decide_eq_true c_6)) dX1_lambda_town_3_14

set_option maxHeartbeats 4000000 in
theorem c_X1_lambda_town_4 (l : Launch) (dC : Nat → ClassId) (dI : Nat → Nat → Nat) (dA : Nat → ClassId) (b : Nat → Nat) (mc : Nat → Int32) (S : Nat → Int32) (Hd : Nat → Int32) (t : Nat) (o : Nat) (hlt : o < ln S) (ht : t < tn Hd) (hS1 : SWf S) (hT : TWf Hd) : Met l yX1_lambda_town_4 (ws_ yX1_lambda_town_4 cX1_lambda_town_4 3 (some (.boolean))) (rmD 5 0 0) (uPx [.ref (b 0), .int (nI t), .int (nI o)] (fun U H => famP dC dI b (offE b dA mc S Hd) H ∧ CE U) dC dI dA) (uQi (nI (decide (farT S Hd o t ≤ lim S)).toNat)) 0 0 noF := by
  refine x_metz (own := RX1) (by decide) rfl (Nat.le_of_ble_eq_true rfl) fun p e R s m args below meth c Q SF rk hX hK hret ls hl => ?_
  have hx := SF.1
  have hb := SF.2.1
  have hml := SF.2.2.1
  have hown := SF.2.2.2.1
  have hts := SF.2.2.2.2
  have hO := hX.1
  have hCE := hX.2
  have hl : lv_has ls 3 [(0, .ref (b 0)), (1, .int (nI t)), (2, .int (nI o))] := hl
  have hL := hS1.2.1
  have hn9 := hT.2.1
  have hlim := hS1.2.2.2.1
  have hf9 := farT_le S Hd o t
  refine lv_aload_n hx hb dX1_lambda_town_4_0 rfl (lv_at hl 0 rfl) ?_
  refine lv_iload_n hx hb dX1_lambda_town_4_1 rfl (lv_at hl 2 rfl) ?_
  refine lv_iload_n hx hb dX1_lambda_town_4_2 rfl (lv_at hl 1 rfl) ?_
  refine u_run (x_rV (C := RX5) (As := [.int (nI o), .int (nI t)]) SF hK (d := 4) (rk.le (Nat.le_of_ble_eq_true rfl)) (c_X5_distance l dC dI dA b mc S Hd o t (show o < ln S by omega) (show t < tn Hd by omega) hS1 hT) (lw_V q1388 q1158 q1159 q139 q1160) (n := 2) (by decide +kernel) rfl (by decide) (g_recv hK (hO 0 _ rfl) (ci := 1) rfl) (XOK.hp.and CE.ok) (⟨hO, hCE⟩) hl.1 (Nat.le_of_ble_eq_true rfl) ⟨Nat.zero_le _, Nat.zero_le _⟩ rfl dX1_lambda_town_4_3) ?_
  refine u_top (y := nI (farT S Hd o t)) rfl ?_
  refine lv_aload_n hx hb dX1_lambda_town_4_6 rfl (lv_at hl 0 rfl) ?_
  refine va_getN (D := (dC, dI)) (ci := 1) (v := .int (S 0)) (C := RX5) (T := TX5) (N := 10) hx hb hts in_X5 hown hK (hO 0 _ rfl) 0 rfl rfl 7 (by decide) (va_Nw.use rfl (hCE.1 9 (by decide))) (fun _ h9 => h9) rfl dX1_lambda_town_4_7 ?_
  refine u_top (y := nI (lim S)) (hS1.2.2.1) ?_
  refine lv_icmp_gt (tgt := 17) hx hb dX1_lambda_town_4_10 (by decide) (fun c_10 => ?_) (fun c_10 => ?_)
  · have c_10 : lim S < farT S Hd o t := (nI_ltI (a := lim S) (b := farT S Hd o t) (by omega) (by omega)).mp c_10
    refine lv_iconst (v := nI 0) hx hb dX1_lambda_town_4_17 (by decide) ?_
    exact hret _ _ _ (u_ff (fun q9 => by have := of_decide_eq_true q9; omega)) dX1_lambda_town_4_18
  · have c_10 : ¬ (lim S < farT S Hd o t) := fun q9 => c_10 ((nI_ltI (a := lim S) (b := farT S Hd o t) (by omega) (by omega)).mpr q9)
    refine lv_iconst (v := nI 1) hx hb dX1_lambda_town_4_13 (by decide) ?_
    refine lv_goto (tgt := 18) hx hb dX1_lambda_town_4_14 (by decide) ?_
    exact hret _ _ _ (u_tt (decide_eq_true (by omega))) dX1_lambda_town_4_18

set_option maxHeartbeats 4000000 in
theorem c_X1_lambda_new_0 (l : Launch) (dC : Nat → ClassId) (dI : Nat → Nat → Nat) (dA : Nat → ClassId) (g : Nat → Nat) (b : Nat → Nat) (mc : Nat → Int32) (S : Nat → Int32) (Hd : Nat → Int32) (n : Nat → Int32) (o : Nat) (hlt : o < ln S) (hS1 : SWf S) : Met l yX1_lambda_new_0 (ws_ yX1_lambda_new_0 cX1_lambda_new_0 2 (some (.boolean))) (rmD 4 0 0) (uPx [.ref (g 0), .int (nI o)] (fun U H => cP dC dI (g 0) (obE g n (.ref (b 0))) H ∧ famP dC dI b (offE b dA mc S Hd) H ∧ CE U) dC dI dA) (uQi (nI (decide (lr S o 6 = 0)).toNat)) 0 0 noF := by
  refine x_metz (own := RX1) (by decide) rfl (Nat.le_of_ble_eq_true rfl) fun p e R s m args below meth c Q SF rk hX hK hret ls hl => ?_
  have hx := SF.1
  have hb := SF.2.1
  have hml := SF.2.2.1
  have hown := SF.2.2.2.1
  have hts := SF.2.2.2.2
  have hP1 := hX.1
  have hO := hX.2.1
  have hCE := hX.2.2
  have hl : lv_has ls 2 [(0, .ref (g 0)), (1, .int (nI o))] := hl
  have hL := hS1.2.1
  refine lv_aload_n hx hb dX1_lambda_new_0_0 rfl (lv_at hl 0 rfl) ?_
  refine va_get (D := (dC, dI)) (ci := 0) (v := .ref (b 0)) (C := RX1) (T := TX1) (N := 9) hx hb hts in_X1 hown hK hP1 0 rfl rfl 4 (by decide) (hts _ q220) (fun _ h9 => h9) rfl dX1_lambda_new_0_1 ?_
  refine lv_iload_n hx hb dX1_lambda_new_0_4 rfl (lv_at hl 1 rfl) ?_
  refine x_runa (x_rV (C := RX5) (As := [.int (nI o)]) SF hK (d := 3) (rk.le (Nat.le_of_ble_eq_true rfl)) (c_X5_letter l dC dI dA b mc S Hd o (show o < ln S by omega) hS1) (lw_V q187 q188 q189 q139 q190) (n := 1) (by decide +kernel) rfl (by decide) (g_recv hK (hO 0 _ rfl) (ci := 1) rfl) (XOK.hp.and CE.ok) (⟨hO, hCE⟩) hl.1 (Nat.le_of_ble_eq_true rfl) ⟨Nat.zero_le _, Nat.zero_le _⟩ rfl dX1_lambda_new_0_5) ?_
  refine g_top (y := .ref (b (22 + o))) rfl ?_
  refine va_getN (D := (dC, dI)) (ci := 3) (v := .int (lr S o 6)) (C := RX7) (T := TX7) (N := 6) hx hb hts in_X7 hown hK (hO _ _ (offE_lt (show o < ln S from (by omega)) hS1.2.1)) 0 rfl rfl 2 (by decide) (va_Nw.use rfl (hCE.1 14 (by decide))) (fun _ h9 => h9) rfl dX1_lambda_new_0_8 ?_
  refine lv_if_ne (tgt := 18) hx hb dX1_lambda_new_0_11 (by decide) (fun c_11 => ?_) (fun c_11 => ?_)
  · refine lv_iconst (v := nI 0) hx hb dX1_lambda_new_0_18 (by decide) ?_
    exact hret _ _ _ (u_ff (fun q9 => c_11 (of_decide_eq_true q9))) dX1_lambda_new_0_19
  · refine lv_iconst (v := nI 1) hx hb dX1_lambda_new_0_14 (by decide) ?_
    refine lv_goto (tgt := 19) hx hb dX1_lambda_new_0_15 (by decide) ?_
    exact hret _ _ _ (u_tt (decide_eq_true c_11)) dX1_lambda_new_0_19

set_option maxHeartbeats 4000000 in
theorem c_X1_isWrong (l : Launch) (dC : Nat → ClassId) (dI : Nat → Nat → Nat) (dA : Nat → ClassId) (g : Nat → Nat) (b : Nat → Nat) (mc : Nat → Int32) (S : Nat → Int32) (Hd : Nat → Int32) (n : Nat → Int32) (f : Option Nat) (hf : ∀ t, f = some t → t < tn Hd) (hT : TWf Hd) : Met l yX1_isWrong (ws_ yX1_isWrong cX1_isWrong 5 (some (.boolean))) (rmD 4 0 0) (uPx [.ref (g 0), .int (oI f)] (fun U H => cP dC dI (g 0) (obE g n (.ref (b 0))) H ∧ famP dC dI b (offE b dA mc S Hd) H ∧ CE U) dC dI dA) (uQi (nI (false).toNat)) 0 0 noF := by
  refine x_metz (own := RX1) (by decide) rfl (Nat.le_of_ble_eq_true rfl) fun p e R s m args below meth c Q SF rk hX hK hret ls hl => ?_
  have hx := SF.1
  have hb := SF.2.1
  have hml := SF.2.2.1
  have hown := SF.2.2.2.1
  have hts := SF.2.2.2.2
  have hP1 := hX.1
  have hO := hX.2.1
  have hCE := hX.2.2
  have hl : lv_has ls 5 [(0, .ref (g 0)), (1, .int (oI f))] := hl
  have hn9 := hT.2.1
  rcases f with _ | t9
  · have hl : lv_has ls 5 [(0, .ref (g 0)), (1, .int (-1))] := hl
    refine lv_iload_n hx hb dX1_isWrong_0 rfl (lv_at hl 1 rfl) ?_
    refine lv_iconst (v := (-1)) hx hb dX1_isWrong_1 (by decide) ?_
    refine lv_icmp_ne (tgt := 7) hx hb dX1_isWrong_2 (by decide) (fun c_2 => absurd (by decide) c_2) (fun c_2 => ?_)
    refine lv_iconst (v := nI 0) hx hb dX1_isWrong_5 (by decide) ?_
    exact hret _ _ _ rfl dX1_isWrong_6
  · have hl : lv_has ls 5 [(0, .ref (g 0)), (1, .int (nI t9))] := hl
    have ht9 := hf t9 rfl
    have hnt := (hT.2.2 t9 ht9).2.1
    have hdl := dg_lt (cd (num Hd t9))
    refine lv_iload_n hx hb dX1_isWrong_0 rfl (lv_at hl 1 rfl) ?_
    refine lv_iconst (v := (-1)) hx hb dX1_isWrong_1 (by decide) ?_
    refine lv_icmp_ne (tgt := 7) hx hb dX1_isWrong_2 (by decide) (fun c_2 => ?_) (fun c_2 => absurd c_2 (nI_m1 (by omega)))
    refine lv_aload_n hx hb dX1_isWrong_7 rfl (lv_at hl 0 rfl) ?_
    refine va_get (D := (dC, dI)) (ci := 0) (v := .ref (b 0)) (C := RX1) (T := TX1) (N := 9) hx hb hts in_X1 hown hK hP1 0 rfl rfl 4 (by decide) (hts _ q220) (fun _ h9 => h9) rfl dX1_isWrong_8 ?_
    refine lv_iload_n hx hb dX1_isWrong_11 rfl (lv_at hl 1 rfl) ?_
    refine x_runa (x_rV (C := RX5) (As := [.int (nI t9)]) SF hK (d := 3) (rk.le (Nat.le_of_ble_eq_true rfl)) (c_X5_town l dC dI dA b mc S Hd t9 (show t9 < tn Hd by omega) hT) (lw_V q1375 q966 q967 q139 q968) (n := 1) (by decide +kernel) rfl (by decide) (g_recv hK (hO 0 _ rfl) (ci := 1) rfl) (XOK.hp.and CE.ok) (⟨hO, hCE⟩) hl.1 (Nat.le_of_ble_eq_true rfl) ⟨Nat.zero_le _, Nat.zero_le _⟩ rfl dX1_isWrong_12) ?_
    refine g_top (y := .ref (b (10 + t9))) rfl ?_
    refine lv_astore_n (lv' := [(2, .ref (b (10 + t9))), (0, .ref (g 0)), (1, .int (nI t9))]) hx hb dX1_isWrong_15 rfl hl (by decide) rfl (fun ls hl => ?_)
    refine lv_iconst (v := nI 0) hx hb dX1_isWrong_16 (by decide) ?_
    refine lv_istore_n (lv' := [(3, .int (nI 0)), (2, .ref (b (10 + t9))), (0, .ref (g 0)), (1, .int (nI t9))]) hx hb dX1_isWrong_17 rfl hl (by decide) rfl (fun ls hl => ?_)
    refine lv_iconst (v := nI 0) hx hb dX1_isWrong_18 (by decide) ?_
    refine lv_istore (lv' := [(4, .int (nI 0)), (3, .int (nI 0)), (2, .ref (b (10 + t9))), (0, .ref (g 0)), (1, .int (nI t9))]) hx hb dX1_isWrong_19 hl (by decide) rfl (fun ls hl => ?_)
    have lp21 : ∀ (k0 : Nat) (k : Nat), k ≤ 5 → 5 < k + k0 → ∀ ls : Array Slot, lv_has ls 5 [(4, .int (nI k)), (3, .int (nI (sumN (fun q => wgt q * dg (cd (num Hd t9)) q) k))), (2, .ref (b (10 + t9))), (0, .ref (g 0)), (1, .int (nI t9))] → W p l e R s m args below meth c s.heap [] 0 0 Q (F0 m 21 ls []) := by
      intro k0
      induction k0 with
      | zero =>
        intro k hk1 hk2; omega
      | succ k0 ih =>
        intro k hk1 hk2 ls hl
        have ih21 := ih
        have hs9 : sumN (fun q => wgt q * dg (cd (num Hd t9)) q) k ≤ k * 27 := sumN_le k (fun j _ => Nat.le_trans (Nat.mul_le_mul (wgt_le j) (Nat.le_of_lt_succ (hdl j))) (by decide))
        have hw9 := wgt_le k
        have hd9 := hdl k
        have hm9 : wgt k * dg (cd (num Hd t9)) k ≤ 3 * 10 := Nat.mul_le_mul hw9 (by omega)
        refine lv_iload hx hb dX1_isWrong_21 (lv_at hl 0 rfl) ?_
        refine lv_iconst (v := nI 5) hx hb dX1_isWrong_23 (by decide) ?_
        refine lv_icmp_ge (tgt := 48) hx hb dX1_isWrong_24 (by decide) (fun c_24 => ?_) (fun c_24 => ?_)
        · have c_24 : 5 ≤ k := (nI_leI (a := 5) (b := k) (by omega) (by omega)).mp c_24
          have h5 : k = 5 := by omega
          have hcd := cd_ok _ hnt
          have hs0 : sumN (fun q => wgt q * dg (cd (num Hd t9)) q) k % 10 = 0 := by rw [h5]; simp only [sumN, wgt]; simp only [if_true, if_false, true_or, or_true, show ¬ (1 = 0 ∨ 1 = 2) by decide, show ¬ (3 = 0 ∨ 3 = 2) by decide, show ¬ (4 = 0 ∨ 4 = 2) by decide]; omega
          refine lv_iload_n hx hb dX1_isWrong_48 rfl (lv_at hl 1 rfl) ?_
          refine lv_bipush (v := nI 10) hx hb dX1_isWrong_49 (by decide) ?_
          refine lv_irem hx hb dX1_isWrong_51 (by decide) ?_
          refine u_top (pk_rem (by omega) (by omega) (by omega)) ?_
          refine lv_if_eq (tgt := 59) hx hb dX1_isWrong_52 (by decide) (fun c_52 => ?_) (fun c_52 => ?_)
          · have c_52 : (sumN (fun q => wgt q * dg (cd (num Hd t9)) q) k) % 10 = 0 := (nI_eq (a := (sumN (fun q => wgt q * dg (cd (num Hd t9)) q) k) % 10) (b := 0) (by omega) (by omega)).mp c_52
            refine lv_iconst (v := nI 0) hx hb dX1_isWrong_59 (by decide) ?_
            exact hret _ _ _ rfl dX1_isWrong_60
          · have c_52 : ¬ ((sumN (fun q => wgt q * dg (cd (num Hd t9)) q) k) % 10 = 0) := fun q9 => c_52 ((nI_eq (a := (sumN (fun q => wgt q * dg (cd (num Hd t9)) q) k) % 10) (b := 0) (by omega) (by omega)).mpr q9)
            refine lv_iconst (v := nI 1) hx hb dX1_isWrong_55 (by decide) ?_
            refine lv_goto (tgt := 60) hx hb dX1_isWrong_56 (by decide) ?_
            exact hret _ _ _ (absurd hs0 (by omega)) dX1_isWrong_60
        · have c_24 : ¬ (5 ≤ k) := fun q9 => c_24 ((nI_leI (a := 5) (b := k) (by omega) (by omega)).mpr q9)
          refine lv_iload_n hx hb dX1_isWrong_27 rfl (lv_at hl 1 rfl) ?_
          refine lv_iload hx hb dX1_isWrong_28 (lv_at hl 0 rfl) ?_
          refine u_run (x_rS (As := [.int (nI k)]) (X := fun _ _ => True) SF hK (d := 0) (rk.le (Nat.le_of_ble_eq_true rfl)) (c_X1_weight l dC dI dA k (show k < 5 by omega)) (lw_S q979 q980 q112 q981) (n := 1) (by decide +kernel) rfl (by decide) (XOK.hp) (trivial) hl.1 (Nat.le_of_ble_eq_true rfl) ⟨Nat.zero_le _, Nat.zero_le _⟩ rfl dX1_isWrong_30) ?_
          refine u_top (y := nI (wgt k)) rfl ?_
          refine lv_aload_n hx hb dX1_isWrong_33 rfl (lv_at hl 2 rfl) ?_
          refine lv_iload hx hb dX1_isWrong_34 (lv_at hl 0 rfl) ?_
          refine u_run (x_rV (C := RX6) (As := [.int (nI k)]) SF hK (d := 1) (rk.le (Nat.le_of_ble_eq_true rfl)) (c_X6_digit l dC dI dA b mc S Hd t9 k (show k < 5 by omega) (show t9 < tn Hd by omega) hT) (lw_V q1397 q1166 q1167 q143 q1168) (n := 1) (by decide +kernel) rfl (by decide) (g_recv hK (hO _ _ (offE_tw (show t9 < tn Hd from (by omega)) hT.2.1)) (ci := 4) rfl) (XOK.hp.and CE.ok) (⟨hO, hCE⟩) hl.1 (Nat.le_of_ble_eq_true rfl) ⟨Nat.zero_le _, Nat.zero_le _⟩ rfl dX1_isWrong_36) ?_
          refine u_top (y := nI (dg (cd (num Hd t9)) k)) rfl ?_
          refine lv_imul hx hb dX1_isWrong_39 ?_
          refine u_top (pk_mul _ _) ?_
          refine lv_iadd hx hb dX1_isWrong_40 ?_
          refine u_top (nI_add _ _) ?_
          refine lv_istore_n (lv' := [(3, .int (nI (sumN (fun q => wgt q * dg (cd (num Hd t9)) q) k + ((wgt k) * (dg (cd (num Hd t9)) k))))), (4, .int (nI k)), (2, .ref (b (10 + t9))), (0, .ref (g 0)), (1, .int (nI t9))]) hx hb dX1_isWrong_41 rfl hl (by decide) rfl (fun ls hl => ?_)
          refine lv_iinc (v := nI (k + 1)) (lv' := [(4, .int (nI (k + 1))), (3, .int (nI (sumN (fun q => wgt q * dg (cd (num Hd t9)) q) k + ((wgt k) * (dg (cd (num Hd t9)) k))))), (2, .ref (b (10 + t9))), (0, .ref (g 0)), (1, .int (nI t9))]) hx hb dX1_isWrong_42 hl (k := 1) rfl (nI_add _ 1) (by decide) rfl (fun ls hl => ?_)
          refine lv_goto (tgt := 21) hx hb dX1_isWrong_45 (by decide) ?_
          exact ih21 (k + 1) (by omega) (by omega) ls (lv_sub hl [0, 1, 2, 3, 4] rfl)
    exact lp21 (5 + 1) 0 (by omega) (by omega) ls (lv_sub hl [0, 1, 2, 3, 4] rfl)

set_option maxHeartbeats 4000000 in
theorem c_X1_lambda_gap_9 (l : Launch) (dC : Nat → ClassId) (dI : Nat → Nat → Nat) (dA : Nat → ClassId) (g : Nat → Nat) (b : Nat → Nat) (mc : Nat → Int32) (S : Nat → Int32) (Hd : Nat → Int32) (n : Nat → Int32) (o : Nat) (hlt : o < ln S) (hS1 : SWf S) (hT : TWf Hd) : Met l yX1_lambda_gap_9 (ws_ yX1_lambda_gap_9 cX1_lambda_gap_9 3 (some (.boolean))) (rmD 11 0 0) (uPx [.ref (g 0), .ref (b 0), .int (nI o)] (fun U H => cP dC dI (g 0) (obE g n (.ref (b 0))) H ∧ famP dC dI b (offE b dA mc S Hd) H ∧ CE U) dC dI dA) (uQi (nI (false).toNat)) 0 0 noF := by
  refine x_metz (own := RX1) (by decide) rfl (Nat.le_of_ble_eq_true rfl) fun p e R s m args below meth c Q SF rk hX hK hret ls hl => ?_
  have hx := SF.1
  have hb := SF.2.1
  have hml := SF.2.2.1
  have hown := SF.2.2.2.1
  have hts := SF.2.2.2.2
  have hP1 := hX.1
  have hO := hX.2.1
  have hCE := hX.2.2
  have hl : lv_has ls 3 [(0, .ref (g 0)), (1, .ref (b 0)), (2, .int (nI o))] := hl
  have hL := hS1.2.1
  have hn9 := hT.2.1
  refine lv_aload_n hx hb dX1_lambda_gap_9_0 rfl (lv_at hl 0 rfl) ?_
  refine lv_aload_n hx hb dX1_lambda_gap_9_1 rfl (lv_at hl 1 rfl) ?_
  refine lv_iload_n hx hb dX1_lambda_gap_9_2 rfl (lv_at hl 2 rfl) ?_
  refine u_run (x_rV (C := RX5) (As := [.int (nI o)]) SF hK (d := 10) (rk.le (Nat.le_of_ble_eq_true rfl)) (c_X5_decided l dC dI dA b mc S Hd o (show o < ln S by omega) hS1 hT) (lw_V q1339 q1181 q1182 q139 q1183) (n := 1) (by decide +kernel) rfl (by decide) (g_recv hK (hO 0 _ rfl) (ci := 1) rfl) (XOK.hp.and CE.ok) (⟨hO, hCE⟩) hl.1 (Nat.le_of_ble_eq_true rfl) ⟨Nat.zero_le _, Nat.zero_le _⟩ rfl dX1_lambda_gap_9_3) ?_
  refine u_top (y := oI (dcd S Hd o)) rfl ?_
  refine u_run (x_rV (C := RX1) (As := [.int (oI (dcd S Hd o))]) SF hK (d := 4) (rk.le (Nat.le_of_ble_eq_true rfl)) (c_X1_isWrong l dC dI dA g b mc S Hd n (dcd S Hd o) (fun t h => dcd_lt h) hT) (lw_V q1622 q1624 qs40 q112 q1625) (n := 1) (by decide +kernel) rfl (by decide) (g_recv hK hP1 (ci := 0) rfl) (XOK.hp.and (XOK.hp.and CE.ok)) (⟨hP1, hO, hCE⟩) hl.1 (Nat.le_of_ble_eq_true rfl) ⟨Nat.zero_le _, Nat.zero_le _⟩ rfl dX1_lambda_gap_9_6) ?_
  refine u_top (y := nI false.toNat) rfl ?_
  exact hret _ _ _ rfl dX1_lambda_gap_9_9
end LM1
