set_option maxRecDepth 100000
section SRT1
variable {p : Program} {l : Launch} {e : Env} {R : Room} {s : State} {m : MethodId} {args : Array Value} {below : List Frame} {meth : Method} {c : Code} {H : Heap} {locs : List Loc} {Q : State → Prop}
variable {cc : ByteArray} {pc nL : Nat} {ls : Array Slot} {rest : List Value} {dC : Nat → ClassId} {dI : Nat → Nat → Nat} {dA : Nat → ClassId} {a : Nat → Nat} {M : Nat → Nat → Int32} {H0 : Heap}

set_option maxHeartbeats 4000000 in
theorem c_X8_firstReason9 (l : Launch) (dC : Nat → ClassId) (dI : Nat → Nat → Nat) (dA : Nat → ClassId) (x : Nat) (y : Nat) (r : Int32)  : Met l yX8_firstReason (ws_ yX8_firstReason cX8_firstReason 2 (some (.int))) (rmD 0 0 0) (uPx [.ref x] (fun _ H => cP dC dI x (.inr (13, [.int (nI 0), .ref y, .null, .null, .null, .null, .null, .int 0])) H ∧ cP dC dI y (.inr (11, [.int r, .null, .null, .null, .null, .null, .null, .int 0])) H) dC dI dA) (uQi (r)) 0 0 noF := by
  refine x_meti (own := RX8) (by decide) rfl (Nat.le_of_ble_eq_true rfl) fun p e R s m args below meth c Q SF rk hX hK hret ls hl => ?_
  have hx := SF.1
  have hb := SF.2.1
  have hml := SF.2.2.1
  have hown := SF.2.2.2.1
  have hts := SF.2.2.2.2
  have hP1 := hX.1
  have hP2 := hX.2
  have hl : lv_has ls 2 [(0, .ref x)] := hl
  refine lv_aload_n hx hb dX8_firstReason_0 rfl (lv_at hl 0 rfl) ?_
  refine lv_astore_n (lv' := [(1, .ref x), (0, .ref x)]) hx hb dX8_firstReason_1 rfl hl (by decide) rfl (fun ls hl => ?_)
  refine lv_aload_n hx hb dX8_firstReason_2 rfl (lv_at hl 0 rfl) ?_
  refine va_get (D := (dC, dI)) (ci := 13) (v := .ref y) (C := RX11) (T := TX11) (N := 8) hx hb hts in_X11 hown hK hP1 0 rfl rfl 1 (by decide) (hts _ q1217) (fun _ h9 => h9) rfl dX8_firstReason_3 ?_
  refine lv_ifnull hx hb dX8_firstReason_6 ?_
  refine lv_aload_n hx hb dX8_firstReason_9 rfl (lv_at hl 0 rfl) ?_
  refine va_get (D := (dC, dI)) (ci := 13) (v := .ref y) (C := RX11) (T := TX11) (N := 8) hx hb hts in_X11 hown hK hP1 0 rfl rfl 1 (by decide) (hts _ q1217) (fun _ h9 => h9) rfl dX8_firstReason_10 ?_
  refine lv_astore_n (lv' := [(1, .ref y), (0, .ref x)]) hx hb dX8_firstReason_13 rfl hl (by decide) rfl (fun ls hl => ?_)
  refine lv_goto (tgt := 2) hx hb dX8_firstReason_14 (by decide) ?_
  refine lv_aload_n hx hb dX8_firstReason_2 rfl (lv_at hl 0 rfl) ?_
  refine va_get (D := (dC, dI)) (ci := 11) (v := .null) (C := RX9) (T := TX9) (N := 8) hx hb hts in_X9 hown hK hP2 0 rfl rfl 1 (by decide) (hts _ q1217) (fun _ h9 => h9) rfl dX8_firstReason_3 ?_
  refine lv_ifnullN (tgt := 17) hx hb dX8_firstReason_6 (by decide) ?_
  refine lv_aload_n hx hb dX8_firstReason_17 rfl (lv_at hl 0 rfl) ?_
  refine va_get (D := (dC, dI)) (ci := 11) (v := .int r) (C := RX9) (T := TX9) (N := 8) hx hb hts in_X9 hown hK hP2 0 rfl rfl 0 (by decide) (hts _ q1216) (fun _ h9 => h9) rfl dX8_firstReason_18 ?_
  exact hret _ _ _ rfl dX8_firstReason_21

set_option maxHeartbeats 4000000 in
theorem c_X8_firstReason10 (l : Launch) (dC : Nat → ClassId) (dI : Nat → Nat → Nat) (dA : Nat → ClassId) (x : Nat) (y : Nat) (r : Int32)  : Met l yX8_firstReason (ws_ yX8_firstReason cX8_firstReason 2 (some (.int))) (rmD 0 0 0) (uPx [.ref x] (fun _ H => cP dC dI x (.inr (13, [.int (nI 0), .ref y, .null, .null, .null, .null, .null, .int 0])) H ∧ cP dC dI y (.inr (12, [.int r, .null, .null, .null, .null, .null, .null, .int 0])) H) dC dI dA) (uQi (r)) 0 0 noF := by
  refine x_meti (own := RX8) (by decide) rfl (Nat.le_of_ble_eq_true rfl) fun p e R s m args below meth c Q SF rk hX hK hret ls hl => ?_
  have hx := SF.1
  have hb := SF.2.1
  have hml := SF.2.2.1
  have hown := SF.2.2.2.1
  have hts := SF.2.2.2.2
  have hP1 := hX.1
  have hP2 := hX.2
  have hl : lv_has ls 2 [(0, .ref x)] := hl
  refine lv_aload_n hx hb dX8_firstReason_0 rfl (lv_at hl 0 rfl) ?_
  refine lv_astore_n (lv' := [(1, .ref x), (0, .ref x)]) hx hb dX8_firstReason_1 rfl hl (by decide) rfl (fun ls hl => ?_)
  refine lv_aload_n hx hb dX8_firstReason_2 rfl (lv_at hl 0 rfl) ?_
  refine va_get (D := (dC, dI)) (ci := 13) (v := .ref y) (C := RX11) (T := TX11) (N := 8) hx hb hts in_X11 hown hK hP1 0 rfl rfl 1 (by decide) (hts _ q1217) (fun _ h9 => h9) rfl dX8_firstReason_3 ?_
  refine lv_ifnull hx hb dX8_firstReason_6 ?_
  refine lv_aload_n hx hb dX8_firstReason_9 rfl (lv_at hl 0 rfl) ?_
  refine va_get (D := (dC, dI)) (ci := 13) (v := .ref y) (C := RX11) (T := TX11) (N := 8) hx hb hts in_X11 hown hK hP1 0 rfl rfl 1 (by decide) (hts _ q1217) (fun _ h9 => h9) rfl dX8_firstReason_10 ?_
  refine lv_astore_n (lv' := [(1, .ref y), (0, .ref x)]) hx hb dX8_firstReason_13 rfl hl (by decide) rfl (fun ls hl => ?_)
  refine lv_goto (tgt := 2) hx hb dX8_firstReason_14 (by decide) ?_
  refine lv_aload_n hx hb dX8_firstReason_2 rfl (lv_at hl 0 rfl) ?_
  refine va_get (D := (dC, dI)) (ci := 12) (v := .null) (C := RX10) (T := TX10) (N := 8) hx hb hts in_X10 hown hK hP2 0 rfl rfl 1 (by decide) (hts _ q1217) (fun _ h9 => h9) rfl dX8_firstReason_3 ?_
  refine lv_ifnullN (tgt := 17) hx hb dX8_firstReason_6 (by decide) ?_
  refine lv_aload_n hx hb dX8_firstReason_17 rfl (lv_at hl 0 rfl) ?_
  refine va_get (D := (dC, dI)) (ci := 12) (v := .int r) (C := RX10) (T := TX10) (N := 8) hx hb hts in_X10 hown hK hP2 0 rfl rfl 0 (by decide) (hts _ q1216) (fun _ h9 => h9) rfl dX8_firstReason_18 ?_
  exact hret _ _ _ rfl dX8_firstReason_21

set_option maxHeartbeats 4000000 in
theorem c_X5_mustBeDecided (l : Launch) (dC : Nat → ClassId) (dI : Nat → Nat → Nat) (dA : Nat → ClassId) (b : Nat → Nat) (mc : Nat → Int32) (S : Nat → Int32) (Hd : Nat → Int32) (sz : Nat) (hs : Nat) (o : Nat) (hlt : o < ln S) (hS1 : SWf S) (hT : TWf Hd) (hsz : sz ≤ hs) : vx_Met l yX5_mustBeDecided (ws_ yX5_mustBeDecided cX5_mustBeDecided 3 (some (.int))) (rmD 12 (1) (8)) (gPx [.ref (b 0), .int (nI o)] (fun U H => famP dC dI b (offE b dA mc S Hd) H ∧ EN sz U H) hs dC dI dA) (gQ hs (fun _ => False) (fun v H => v = some (.int (oI (dcd S Hd o))) ∧ why S Hd o = 0)) (gX hs (fun _ => False) (fun E q H => E = "BadCodes$Undecided" ∧ ¬ why S Hd o = 0 ∧ cP dC dI q (.inr (11, [.int (nI (why S Hd o)), .null, .null, .null, .null, .null, .null, .int 0])) H)) (1) (8) (gF (fun _ => False) hs) := by
  refine v_meti (own := RX5) (by decide) rfl (Nat.le_of_ble_eq_true rfl) fun p e R s m args below meth c Q SF rk hRR hX hK hin hE hret hthr hQ ls hl => ?_
  have hx := SF.1
  have hb := SF.2.1
  have hml := SF.2.2.1
  have hown := SF.2.2.2.1
  have hts := SF.2.2.2.2
  have hz0 := hX.2
  have hz : hs ≤ s.heap.size := Nat.le_of_eq hX.2.symm
  have hX := hX.1
  have hRc := hRR.1
  have hRs := hRR.2
  have gFs : ∀ q : Nat, s.heap.size ≤ q → gF (fun _ => False) hs q := fun q h => Or.inr (hz0 ▸ h)
  have hS : va_S (gF (fun _ => False) hs) s.heap s.heap [] := va_S.rf
  have hl : lv_has ls 3 [(0, .ref (b 0)), (1, .int (nI o))] := hl
  have hO := hX.1
  have hEN := hX.2
  have hCE := hEN.1
  have hAz : ∀ q, gF (fun _ => False) hs q → sz ≤ q := fun q h => h.elim (fun e => e.elim) (fun h => Nat.le_trans hsz h)
  have hL := hS1.2.1
  have hn9 := hT.2.1
  have hwl := why_le S Hd o
  refine lv_aload_n hx hb dX5_mustBeDecided_0 rfl (lv_at hl 0 rfl) ?_
  refine lv_iload_n hx hb dX5_mustBeDecided_1 rfl (lv_at hl 1 rfl) ?_
  refine u_run (x_rV (C := RX5) (As := [.int (nI o)]) SF hK (d := 11) (rk.le (Nat.le_of_ble_eq_true rfl)) (c_X5_whyNot l dC dI dA b mc S Hd o (show o < ln S by omega) hS1 hT) (lw_V q1134 q1135 q1136 q139 q1137) (n := 1) (by decide +kernel) rfl (by decide) (g_recv hK ((hO.at hS hz0 (fun _ _ h => h)) 0 _ rfl) (ci := 1) rfl) (XOK.hp.and CE.ok) (⟨(hO.at hS hz0 (fun _ _ h => h)), hCE⟩) hl.1 (Nat.le_of_ble_eq_true rfl) ⟨(by omega), (by omega)⟩ rfl dX5_mustBeDecided_2) ?_
  refine u_top (y := nI (why S Hd o)) rfl ?_
  refine lv_istore_n (lv' := [(2, .int (nI (why S Hd o))), (0, .ref (b 0)), (1, .int (nI o))]) hx hb dX5_mustBeDecided_5 rfl hl (by decide) rfl (fun ls hl => ?_)
  refine lv_iload_n hx hb dX5_mustBeDecided_6 rfl (lv_at hl 0 rfl) ?_
  refine lv_if_le (tgt := 19) hx hb dX5_mustBeDecided_7 (by decide) (fun c_7 => ?_) (fun c_7 => ?_)
  · have c_7 : why S Hd o ≤ 0 := (nI_leI (a := why S Hd o) (b := 0) (by omega) (by omega)).mp c_7
    refine lv_aload_n hx hb dX5_mustBeDecided_19 rfl (lv_at hl 1 rfl) ?_
    refine lv_iload_n hx hb dX5_mustBeDecided_20 rfl (lv_at hl 2 rfl) ?_
    refine u_run (x_rV (C := RX5) (As := [.int (nI o)]) SF hK (d := 10) (rk.le (Nat.le_of_ble_eq_true rfl)) (c_X5_decided l dC dI dA b mc S Hd o (show o < ln S by omega) hS1 hT) (lw_V q1180 q1181 q1182 q139 q1183) (n := 1) (by decide +kernel) rfl (by decide) (g_recv hK ((hO.at hS hz0 (fun _ _ h => h)) 0 _ rfl) (ci := 1) rfl) (XOK.hp.and CE.ok) (⟨(hO.at hS hz0 (fun _ _ h => h)), hCE⟩) hl.1 (Nat.le_of_ble_eq_true rfl) ⟨(by omega), (by omega)⟩ rfl dX5_mustBeDecided_21) ?_
    refine u_top (y := oI (dcd S Hd o)) rfl ?_
    exact hret _ _ _ _ _ _ _ (⟨rfl, by omega⟩) hS (by omega) (by omega) dX5_mustBeDecided_24
  · have c_7 : ¬ (why S Hd o ≤ 0) := fun q9 => c_7 ((nI_leI (a := why S Hd o) (b := 0) (by omega) (by omega)).mpr q9)
    refine g_new (ci := 11) (fs := [.int 0, .null, .null, .null, .null, .null, .null, .int 0]) (C := RX9) (T := TX9) (N := 8) hx hb hts in_X9 tyX9 tyX9_ok hown (hts _ q1128) (hts _ q1201) (hts _ q146) hK hS rfl (fun j hj => by rcases (show j = 0 ∨ j = 1 ∨ j = 2 ∨ j = 3 ∨ j = 4 ∨ j = 5 ∨ j = 6 ∨ j = 7 by omega) with rfl | rfl | rfl | rfl | rfl | rfl | rfl | rfl <;> rfl) (by omega) (by omega) dX5_mustBeDecided_10 (fun q1 H heq9 hq1 hz9 oq hS => ?_)
    have hge_q1 : hs ≤ q1 := by omega
    have hz : hs ≤ H.size := by omega
    refine lv_dup hx hb dX5_mustBeDecided_13 rfl ?_
    refine lv_iload_n hx hb dX5_mustBeDecided_14 rfl (lv_at hl 0 rfl) ?_
    refine g_run (g_rI (As := [.int (nI (why S Hd o))]) SF hK (d := 4) (rk.le (Nat.le_of_ble_eq_true rfl)) (c_X9_init l dC dI dA q1 sz H.size (nI (why S Hd o)) (show sz ≤ q1 by omega) (show sz ≤ H.size by omega)) q146 q1209 q1210 q1211 rfl (n := 1) (by decide +kernel) rfl (by decide) (XOK.hs (XOK.hp.and EX.ok)) (⟨⟨hq1, (hEN.at hS hAz).2.1⟩, rfl⟩) hl.1 (Nat.le_of_ble_eq_true rfl) ⟨(by omega), (by omega)⟩ rfl dX5_mustBeDecided_15) rfl hS (fun z e => Or.inr (e ▸ hge_q1)) gFs (fun v9 H locs hP9 hz9 oq hS => ?_)
    obtain ⟨rfl, hq1⟩ := hP9
    have hz := Nat.le_trans hz hz9
    refine W.eq (g2 := F0 m 18 ls [.ref q1]) rfl ?_
    refine vx_athrow hx hb dX5_mustBeDecided_18 ?_
    obtain ⟨ce, hce, hcv, hcl⟩ := g_thrown hK hq1 (ci := 11) rfl
    exact hthr _ _ _ _ _ _ _ _ _ _ (⟨rfl, by omega, hq1⟩) hS (by omega) (by omega) hce hcv hcl

set_option maxHeartbeats 4000000 in
theorem c_X5_mustBeOpen (l : Launch) (dC : Nat → ClassId) (dI : Nat → Nat → Nat) (dA : Nat → ClassId) (b : Nat → Nat) (mc : Nat → Int32) (S : Nat → Int32) (Hd : Nat → Int32) (sz : Nat) (hs : Nat) (r : Nat) (hr : r < 6) (hsz : sz ≤ hs) : vx_Met l yX5_mustBeOpen (ws_ yX5_mustBeOpen cX5_mustBeOpen 2 none) (rmD 5 (1) (8)) (gPx [.ref (b 0), .int (nI r)] (fun U H => famP dC dI b (offE b dA mc S Hd) H ∧ EN sz U H) hs dC dI dA) (gQ hs (fun _ => False) (fun v H => v = none ∧ ¬ S (9 + r) = 0)) (gX hs (fun _ => False) (fun E q H => E = "BadCodes$ClosedRoute" ∧ S (9 + r) = 0 ∧ cP dC dI q (.inr (12, [.int (nI 4), .null, .null, .null, .null, .null, .null, .int 0])) H)) (1) (8) (gF (fun _ => False) hs) := by
  refine v_metv (own := RX5) (by decide) rfl (Nat.le_of_ble_eq_true rfl) fun p e R s m args below meth c Q SF rk hRR hX hK hin hE hret hthr hQ ls hl => ?_
  have hx := SF.1
  have hb := SF.2.1
  have hml := SF.2.2.1
  have hown := SF.2.2.2.1
  have hts := SF.2.2.2.2
  have hz0 := hX.2
  have hz : hs ≤ s.heap.size := Nat.le_of_eq hX.2.symm
  have hX := hX.1
  have hRc := hRR.1
  have hRs := hRR.2
  have gFs : ∀ q : Nat, s.heap.size ≤ q → gF (fun _ => False) hs q := fun q h => Or.inr (hz0 ▸ h)
  have hS : va_S (gF (fun _ => False) hs) s.heap s.heap [] := va_S.rf
  have hl : lv_has ls 2 [(0, .ref (b 0)), (1, .int (nI r))] := hl
  have hO := hX.1
  have hEN := hX.2
  have hCE := hEN.1
  have hAz : ∀ q, gF (fun _ => False) hs q → sz ≤ q := fun q h => h.elim (fun e => e.elim) (fun h => Nat.le_trans hsz h)
  refine lv_aload_n hx hb dX5_mustBeOpen_0 rfl (lv_at hl 0 rfl) ?_
  refine va_get (D := (dC, dI)) (ci := 1) (v := .ref (b 9)) (C := RX5) (T := TX5) (N := 10) hx hb hts in_X5 hown hK ((hO.at hS hz0 (fun _ _ h => h)) 0 _ rfl) 0 rfl rfl 6 (by decide) (hts _ q845) (fun _ h9 => h9) rfl dX5_mustBeOpen_1 ?_
  refine lv_iload_n hx hb dX5_mustBeOpen_4 rfl (lv_at hl 1 rfl) ?_
  refine g_zald hx hb hK ((hO.at hS hz0 (fun _ _ h => h)) 9 _ rfl) (i := r) (by omega) (by decide) dX5_mustBeOpen_5 ?_
  refine u_top (y := if S (9 + r) = 0 then nI 1 else nI 0) (by first | exact clip_at (by omega) | rfl) ?_
  by_cases hcl9 : S (9 + r) = 0
  · refine u_top (y := nI 1) (if_pos hcl9) ?_
    refine lv_if_eq (tgt := 17) hx hb dX5_mustBeOpen_6 (by decide) (fun c_6 => absurd c_6 (by decide)) (fun c_6 => ?_)
    refine g_new (ci := 12) (fs := [.int 0, .null, .null, .null, .null, .null, .null, .int 0]) (C := RX10) (T := TX10) (N := 8) hx hb hts in_X10 tyX10 tyX10_ok hown (hts _ q1129) (hts _ q1232) (hts _ q147) hK hS rfl (fun j hj => by rcases (show j = 0 ∨ j = 1 ∨ j = 2 ∨ j = 3 ∨ j = 4 ∨ j = 5 ∨ j = 6 ∨ j = 7 by omega) with rfl | rfl | rfl | rfl | rfl | rfl | rfl | rfl <;> rfl) (by omega) (by omega) dX5_mustBeOpen_9 (fun q1 H heq9 hq1 hz9 oq hS => ?_)
    have hge_q1 : hs ≤ q1 := by omega
    have hz : hs ≤ H.size := by omega
    refine lv_dup hx hb dX5_mustBeOpen_12 rfl ?_
    refine g_run (g_rI (As := []) SF hK (d := 4) (rk.le (Nat.le_of_ble_eq_true rfl)) (c_X10_init l dC dI dA q1 sz H.size (show sz ≤ q1 by omega) (show sz ≤ H.size by omega)) q147 q1240 q1241 q1242 rfl (n := 0) (by decide +kernel) rfl (by decide) (XOK.hs (XOK.hp.and EX.ok)) (⟨⟨hq1, (hEN.at hS hAz).2.1⟩, rfl⟩) hl.1 (Nat.le_of_ble_eq_true rfl) ⟨(by omega), (by omega)⟩ rfl dX5_mustBeOpen_13) rfl hS (fun z e => Or.inr (e ▸ hge_q1)) gFs (fun v9 H locs hP9 hz9 oq hS => ?_)
    obtain ⟨rfl, hq1⟩ := hP9
    have hz := Nat.le_trans hz hz9
    refine W.eq (g2 := F0 m 16 ls [.ref q1]) rfl ?_
    refine vx_athrow hx hb dX5_mustBeOpen_16 ?_
    obtain ⟨ce, hce, hcv, hcl⟩ := g_thrown hK hq1 (ci := 12) rfl
    exact hthr _ _ _ _ _ _ _ _ _ _ (⟨rfl, hcl9, hq1⟩) hS (by omega) (by omega) hce hcv hcl
  · refine u_top (y := nI 0) (if_neg hcl9) ?_
    refine lv_if_eq (tgt := 17) hx hb dX5_mustBeOpen_6 (by decide) (fun c_6 => ?_) (fun c_6 => absurd (by decide) c_6)
    exact hret _ _ _ _ _ _ (⟨rfl, hcl9⟩) hS (by omega) (by omega) dX5_mustBeOpen_17

set_option maxHeartbeats 4000000 in
theorem c_X5_mustBeSorted (l : Launch) (dC : Nat → ClassId) (dI : Nat → Nat → Nat) (dA : Nat → ClassId) (b : Nat → Nat) (mc : Nat → Int32) (S : Nat → Int32) (Hd : Nat → Int32) (sz : Nat) (hs : Nat) (o : Nat) (hlt : o < ln S) (hS1 : SWf S) (hT : TWf Hd) (hsz : sz ≤ hs) : vx_Met l yX5_mustBeSorted (wsW_ yX5_mustBeSorted cX5_mustBeSorted 3 (some (.int)) [(0, 19, 20, 149), (0, 19, 20, 152)]) (rmD 13 (3) (24)) (gPx [.ref (b 0), .int (nI o)] (fun U H => famP dC dI b (offE b dA mc S Hd) H ∧ EN sz U H) hs dC dI dA) (gQ hs (fun _ => False) (fun v H => v = some (.int (oI (dcd S Hd o))) ∧ cau S Hd o = 0)) (gX hs (fun _ => False) (fun E q H => E = "BadCodes$Returned" ∧ ¬ cau S Hd o = 0 ∧ ∃ y : Nat, cP dC dI q (.inr (13, [.int (nI 0), .ref y, .null, .null, .null, .null, .null, .int 0])) H ∧ (cP dC dI y (.inr (11, [.int (nI (cau S Hd o)), .null, .null, .null, .null, .null, .null, .int 0])) H ∨ cP dC dI y (.inr (12, [.int (nI (cau S Hd o)), .null, .null, .null, .null, .null, .null, .int 0])) H))) (3) (24) (gF (fun _ => False) hs) := by
  refine w_meti (own := RX5) (by decide) rfl (Nat.le_of_ble_eq_true rfl) fun p e R s m args below meth c Q SF rk hRR hX hK hin hTb hret hthr hQ ls hl => ?_
  have hx := SF.1
  have hb := SF.2.1
  have hml := SF.2.2.1
  have hown := SF.2.2.2.1
  have hts := SF.2.2.2.2
  have hz0 := hX.2
  have hz : hs ≤ s.heap.size := Nat.le_of_eq hX.2.symm
  have hX := hX.1
  have hRc := hRR.1
  have hRs := hRR.2
  have gFs : ∀ q : Nat, s.heap.size ≤ q → gF (fun _ => False) hs q := fun q h => Or.inr (hz0 ▸ h)
  have hS : va_S (gF (fun _ => False) hs) s.heap s.heap [] := va_S.rf
  have hl : lv_has ls 3 [(0, .ref (b 0)), (1, .int (nI o))] := hl
  have hO := hX.1
  have hEN := hX.2
  have hCE := hEN.1
  have hAz : ∀ q, gF (fun _ => False) hs q → sz ≤ q := fun q h => h.elim (fun e => e.elim) (fun h => Nat.le_trans hsz h)
  have hL := hS1.2.1
  have hn9 := hT.2.1
  refine lv_aload_n hx hb dX5_mustBeSorted_0 rfl (lv_at hl 0 rfl) ?_
  refine lv_iload_n hx hb dX5_mustBeSorted_1 rfl (lv_at hl 1 rfl) ?_
  refine g_runX (v_rV (C := RX5) (As := [.int (nI o)]) SF hK (d := 12) (rk.le (Nat.le_of_ble_eq_true rfl)) (c_X5_mustBeDecided l dC dI dA b mc S Hd sz s.heap.size o (show o < ln S by omega) hS1 hT (show sz ≤ s.heap.size by omega)) (lw_V q1130 q1132 qs20 q139 q1133) (n := 1) (by decide +kernel) rfl (by decide) (g_recv hK ((hO.at hS hz0 (fun _ _ h => h)) 0 _ rfl) (ci := 1) rfl) (XOK.hs (XOK.hp.and EN.ok)) (⟨⟨(hO.at hS hz0 (fun _ _ h => h)), hEN.at hS hAz⟩, rfl⟩) hl.1 (Nat.le_of_ble_eq_true rfl) ⟨(by omega), (by omega)⟩ rfl dX5_mustBeSorted_2) rfl hS (fun _ h => h.elim) gFs (fun v9 H locs hP9 hz9 oq hS => ?_) (fun E q9 ce H locs hP9 hz9 oq hS hce hcv hcl => ?_)
  · obtain ⟨rfl, hw0⟩ := hP9
    have hz := Nat.le_trans hz hz9
    refine W.eq (g2 := F0 m 5 ls [.int (oI (dcd S Hd o))]) rfl ?_
    obtain ⟨t9, hE⟩ : ∃ t9, dcd S Hd o = some t9 := by
      cases hE : dcd S Hd o with
      | none => exact absurd hw0 (why_ne hE)
      | some t => exact ⟨t, rfl⟩
    have ht9 := dcd_lt hE
    have hr9 := (hT.2.2 t9 ht9).2.2.2
    refine u_top (y := nI t9) (by rw [hE]; rfl) ?_
    refine lv_istore_n (lv' := [(2, .int (nI t9)), (0, .ref (b 0)), (1, .int (nI o))]) hx hb dX5_mustBeSorted_5 rfl hl (by decide) rfl (fun ls hl => ?_)
    refine lv_aload_n hx hb dX5_mustBeSorted_6 rfl (lv_at hl 1 rfl) ?_
    refine lv_aload_n hx hb dX5_mustBeSorted_7 rfl (lv_at hl 1 rfl) ?_
    refine lv_iload_n hx hb dX5_mustBeSorted_8 rfl (lv_at hl 0 rfl) ?_
    refine x_runa (x_rV (C := RX5) (As := [.int (nI t9)]) SF hK (d := 3) (rk.le (Nat.le_of_ble_eq_true rfl)) (c_X5_town l dC dI dA b mc S Hd t9 (show t9 < tn Hd by omega) hT) (lw_V q965 q966 q967 q139 q968) (n := 1) (by decide +kernel) rfl (by decide) (g_recv hK ((hO.at hS hz0 (fun _ _ h => h)) 0 _ rfl) (ci := 1) rfl) (XOK.hp.and CE.ok) (⟨(hO.at hS hz0 (fun _ _ h => h)), hCE⟩) hl.1 (Nat.le_of_ble_eq_true rfl) ⟨(by omega), (by omega)⟩ rfl dX5_mustBeSorted_9) ?_
    refine g_top (y := .ref (b (10 + t9))) rfl ?_
    refine u_run (x_rV (C := RX6) (As := []) SF hK (d := 0) (rk.le (Nat.le_of_ble_eq_true rfl)) (c_X6_route l dC dI dA b mc S Hd t9 (show t9 < tn Hd by omega) hT) (lw_V q1224 q1225 q1226 q143 q1227) (n := 0) (by decide +kernel) rfl (by decide) (g_recv hK ((hO.at hS hz0 (fun _ _ h => h)) _ _ (offE_tw (show t9 < tn Hd from (by omega)) hT.2.1)) (ci := 4) rfl) (XOK.hp.and CE.ok) (⟨(hO.at hS hz0 (fun _ _ h => h)), hCE⟩) hl.1 (Nat.le_of_ble_eq_true rfl) ⟨(by omega), (by omega)⟩ rfl dX5_mustBeSorted_12) ?_
    refine u_top (y := nI (rou Hd t9)) rfl ?_
    refine g_runX (v_rV (C := RX5) (As := [.int (nI (rou Hd t9))]) SF hK (d := 5) (rk.le (Nat.le_of_ble_eq_true rfl)) (c_X5_mustBeOpen l dC dI dA b mc S Hd sz H.size (rou Hd t9) hr9 (by omega)) (lw_V q1228 q1230 qs23 q139 q1231) (n := 1) (by decide +kernel) rfl (by decide) (g_recv hK ((hO.at hS hz0 (fun _ _ h => h)) 0 _ rfl) (ci := 1) rfl) (XOK.hs (XOK.hp.and EN.ok)) (⟨⟨(hO.at hS hz0 (fun _ _ h => h)), hEN.at hS hAz⟩, rfl⟩) hl.1 (Nat.le_of_ble_eq_true rfl) ⟨(by omega), (by omega)⟩ rfl dX5_mustBeSorted_15) rfl hS (fun _ h => h.elim) gFs (fun v9 H locs hP9 hz9 oq hS => ?_) (fun E q9 ce H locs hP9 hz9 oq hS hce hcv hcl => ?_)
    · obtain ⟨rfl, hop⟩ := hP9
      have hz := Nat.le_trans hz hz9
      refine W.eq (g2 := F0 m 18 ls []) rfl ?_
      refine lv_iload_n hx hb dX5_mustBeSorted_18 rfl (lv_at hl 0 rfl) ?_
      exact hret _ _ _ _ _ _ _ (⟨by rw [hE]; rfl, by rw [cau_some hE, if_neg hop]⟩) hS (by omega) (by omega) dX5_mustBeSorted_19
    · have hz := Nat.le_trans hz hz9
      obtain ⟨rfl, hwy, hq9⟩ := hP9
      have hcy4 : cau S Hd o = 4 := by rw [cau_some hE, if_pos hwy]
      rw [← hcy4] at hq9
      have hcy : ¬ cau S Hd o = 0 := by omega
      refine vx_catch hown [⟨0, 19, 20, 149⟩] ⟨0, 19, 20, 152⟩ [] hTb (by intro z hz; rw [List.mem_singleton] at hz; subst hz; exact Or.inr ⟨by decide, _, hts _ q1128, hEN.2.2.2.1 0 (by decide)⟩) (by decide) (by decide) (hts _ q1129) (va_Nw.use rfl (hEN.2.2.1 1 (by decide))) hce hcv hcl ?_
      refine W.eq (g2 := F0 m 20 ls [.ref q9]) rfl ?_
      refine lv_astore_n (lv' := [(2, .ref q9), (0, .ref (b 0)), (1, .int (nI o))]) hx hb dX5_mustBeSorted_20 rfl hl (by decide) rfl (fun ls hl => ?_)
      refine g_new (ci := 13) (fs := [.int 0, .null, .null, .null, .null, .null, .null, .int 0]) (C := RX11) (T := TX11) (N := 8) hx hb hts in_X11 tyX11 tyX11_ok hown (hts _ q1123) (hts _ q1248) (hts _ q148) hK hS rfl (fun j hj => by rcases (show j = 0 ∨ j = 1 ∨ j = 2 ∨ j = 3 ∨ j = 4 ∨ j = 5 ∨ j = 6 ∨ j = 7 by omega) with rfl | rfl | rfl | rfl | rfl | rfl | rfl | rfl <;> rfl) (by omega) (by omega) dX5_mustBeSorted_21 (fun q2 H heq9 hq2 hz9 oq hS => ?_)
      have hge_q2 : hs ≤ q2 := by omega
      have ne_q9_q2 : q9 ≠ q2 := Nat.ne_of_lt (Nat.lt_of_lt_of_eq hq9.lt heq9.symm)
      have hq9 := hq9.made oq
      have hz : hs ≤ H.size := by omega
      refine lv_dup hx hb dX5_mustBeSorted_24 rfl ?_
      refine lv_aload_n hx hb dX5_mustBeSorted_25 rfl (lv_at hl 0 rfl) ?_
      refine g_run (g_rI (As := [.ref q9]) SF hK (d := 4) (rk.le (Nat.le_of_ble_eq_true rfl)) (c_X11_init l dC dI dA q2 sz q9 H.size (show sz ≤ q2 by omega) (show sz ≤ H.size by omega)) q148 q1256 q1257 q1258 rfl (n := 1) (by decide +kernel) rfl (by decide) (XOK.hs (XOK.hp.and EX.ok)) (⟨⟨hq2, (hEN.at hS hAz).2.1⟩, rfl⟩) hl.1 (Nat.le_of_ble_eq_true rfl) ⟨(by omega), (by omega)⟩ rfl dX5_mustBeSorted_26) rfl hS (fun z e => Or.inr (e ▸ hge_q2)) gFs (fun v9 H locs hP9 hz9 oq hS => ?_)
      obtain ⟨rfl, hq2⟩ := hP9
      have hq9 := hq9.stay oq (fun e => ne_q9_q2 e)
      have hz := Nat.le_trans hz hz9
      refine W.eq (g2 := F0 m 29 ls [.ref q2]) rfl ?_
      refine vx_athrow hx hb dX5_mustBeSorted_29 ?_
      obtain ⟨ce, hce, hcv, hcl⟩ := g_thrown hK hq2 (ci := 13) rfl
      exact hthr _ _ _ _ _ _ _ _ _ _ (fun z hz => Or.inl ((by decide : ∀ z ∈ tableOf [(0, 19, 20, 149), (0, 19, 20, 152)], covers z 29 = false) z hz)) (⟨rfl, hcy, q9, hq2, Or.inr hq9⟩) hS (by omega) (by omega) hce hcv hcl
  · have hz := Nat.le_trans hz hz9
    obtain ⟨rfl, hwy, hq9⟩ := hP9
    rw [← cau_why hwy] at hq9
    have hcy : ¬ cau S Hd o = 0 := by rw [cau_why hwy]; exact hwy
    refine vx_catch hown [] ⟨0, 19, 20, 149⟩ [⟨0, 19, 20, 152⟩] hTb (fun z hz => nomatch hz) (by decide) (by decide) (hts _ q1128) (va_Nw.use rfl (hEN.2.2.1 0 (by decide))) hce hcv hcl ?_
    refine W.eq (g2 := F0 m 20 ls [.ref q9]) rfl ?_
    refine lv_astore_n (lv' := [(2, .ref q9), (0, .ref (b 0)), (1, .int (nI o))]) hx hb dX5_mustBeSorted_20 rfl hl (by decide) rfl (fun ls hl => ?_)
    refine g_new (ci := 13) (fs := [.int 0, .null, .null, .null, .null, .null, .null, .int 0]) (C := RX11) (T := TX11) (N := 8) hx hb hts in_X11 tyX11 tyX11_ok hown (hts _ q1123) (hts _ q1248) (hts _ q148) hK hS rfl (fun j hj => by rcases (show j = 0 ∨ j = 1 ∨ j = 2 ∨ j = 3 ∨ j = 4 ∨ j = 5 ∨ j = 6 ∨ j = 7 by omega) with rfl | rfl | rfl | rfl | rfl | rfl | rfl | rfl <;> rfl) (by omega) (by omega) dX5_mustBeSorted_21 (fun q2 H heq9 hq2 hz9 oq hS => ?_)
    have hge_q2 : hs ≤ q2 := by omega
    have ne_q9_q2 : q9 ≠ q2 := Nat.ne_of_lt (Nat.lt_of_lt_of_eq hq9.lt heq9.symm)
    have hq9 := hq9.made oq
    have hz : hs ≤ H.size := by omega
    refine lv_dup hx hb dX5_mustBeSorted_24 rfl ?_
    refine lv_aload_n hx hb dX5_mustBeSorted_25 rfl (lv_at hl 0 rfl) ?_
    refine g_run (g_rI (As := [.ref q9]) SF hK (d := 4) (rk.le (Nat.le_of_ble_eq_true rfl)) (c_X11_init l dC dI dA q2 sz q9 H.size (show sz ≤ q2 by omega) (show sz ≤ H.size by omega)) q148 q1256 q1257 q1258 rfl (n := 1) (by decide +kernel) rfl (by decide) (XOK.hs (XOK.hp.and EX.ok)) (⟨⟨hq2, (hEN.at hS hAz).2.1⟩, rfl⟩) hl.1 (Nat.le_of_ble_eq_true rfl) ⟨(by omega), (by omega)⟩ rfl dX5_mustBeSorted_26) rfl hS (fun z e => Or.inr (e ▸ hge_q2)) gFs (fun v9 H locs hP9 hz9 oq hS => ?_)
    obtain ⟨rfl, hq2⟩ := hP9
    have hq9 := hq9.stay oq (fun e => ne_q9_q2 e)
    have hz := Nat.le_trans hz hz9
    refine W.eq (g2 := F0 m 29 ls [.ref q2]) rfl ?_
    refine vx_athrow hx hb dX5_mustBeSorted_29 ?_
    obtain ⟨ce, hce, hcv, hcl⟩ := g_thrown hK hq2 (ci := 13) rfl
    exact hthr _ _ _ _ _ _ _ _ _ _ (fun z hz => Or.inl ((by decide : ∀ z ∈ tableOf [(0, 19, 20, 149), (0, 19, 20, 152)], covers z 29 = false) z hz)) (⟨rfl, hcy, q9, hq2, Or.inl hq9⟩) hS (by omega) (by omega) hce hcv hcl
end SRT1
