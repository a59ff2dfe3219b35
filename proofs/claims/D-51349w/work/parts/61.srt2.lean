set_option maxRecDepth 100000
section SRT2
variable {p : Program} {l : Launch} {e : Env} {R : Room} {s : State} {m : MethodId} {args : Array Value} {below : List Frame} {meth : Method} {c : Code} {H : Heap} {locs : List Loc} {Q : State → Prop}
variable {cc : ByteArray} {pc nL : Nat} {ls : Array Slot} {rest : List Value} {dC : Nat → ClassId} {dI : Nat → Nat → Nat} {dA : Nat → ClassId} {a : Nat → Nat} {M : Nat → Nat → Int32} {H0 : Heap}

set_option maxHeartbeats 4000000 in
theorem c_X5_cause (l : Launch) (dC : Nat → ClassId) (dI : Nat → Nat → Nat) (dA : Nat → ClassId) (b : Nat → Nat) (mc : Nat → Int32) (S : Nat → Int32) (Hd : Nat → Int32) (sz : Nat) (hs : Nat) (o : Nat) (hlt : o < ln S) (hS1 : SWf S) (hT : TWf Hd) (hsz : sz ≤ hs) : vx_Met l yX5_cause (wsW_ yX5_cause cX5_cause 3 (some (.int)) [(0, 7, 8, 164)]) (rmD 14 (3) (24)) (gPx [.ref (b 0), .int (nI o)] (fun U H => famP dC dI b (offE b dA mc S Hd) H ∧ EN sz U H) hs dC dI dA) (gQ hs (fun _ => False) (fun v H => v = some (.int (nI (cau S Hd o))))) (gX hs (fun _ => False) (fun E q H => False)) (3) (24) (gF (fun _ => False) hs) := by
  refine w_meti (own := RX5) (by decide) rfl (Nat.le_of_ble_eq_true rfl) fun p e R s m args below meth c Q SF rk hRR hX hK hin hTb hret hthr hQ ls hl => ?_
  have hx := SF.1
  have hb := SF.2.1
  have hml := SF.2.2.1
  have hown := SF.2.2.2.1
  have hts := SF.2.2.2.2
  have hz0 := hX.2
  have hz : hs ≤ s.heap.size := Nat.le_of_eq hX.2.symm
  have hX := hX.1
  have hRc := hRR.1
  have hRs := hRR.2
  have gFs : ∀ q : Nat, s.heap.size ≤ q → gF (fun _ => False) hs q := fun q h => Or.inr (hz0 ▸ h)
  have hS : va_S (gF (fun _ => False) hs) s.heap s.heap [] := va_S.rf
  have hl : lv_has ls 3 [(0, .ref (b 0)), (1, .int (nI o))] := hl
  have hO := hX.1
  have hEN := hX.2
  have hCE := hEN.1
  have hAz : ∀ q, gF (fun _ => False) hs q → sz ≤ q := fun q h => h.elim (fun e => e.elim) (fun h => Nat.le_trans hsz h)
  have hL := hS1.2.1
  have hn9 := hT.2.1
  refine lv_aload_n hx hb dX5_cause_0 rfl (lv_at hl 0 rfl) ?_
  refine lv_iload_n hx hb dX5_cause_1 rfl (lv_at hl 1 rfl) ?_
  refine g_runX (v_rVW (C := RX5) (As := [.int (nI o)]) SF hK (d := 13) (rk.le (Nat.le_of_ble_eq_true rfl)) (c_X5_mustBeSorted l dC dI dA b mc S Hd sz s.heap.size o (show o < ln S by omega) hS1 hT (show sz ≤ s.heap.size by omega)) (lw_VW q1124 q1126 qs19 q139 q1127) (n := 1) (by decide +kernel) rfl (by decide) (g_recv hK ((hO.at hS hz0 (fun _ _ h => h)) 0 _ rfl) (ci := 1) rfl) (XOK.hs (XOK.hp.and EN.ok)) (⟨⟨(hO.at hS hz0 (fun _ _ h => h)), hEN.at hS hAz⟩, rfl⟩) hl.1 (Nat.le_of_ble_eq_true rfl) ⟨(by omega), (by omega)⟩ rfl dX5_cause_2) rfl hS (fun _ h => h.elim) gFs (fun v9 H locs hP9 hz9 oq hS => ?_) (fun E q9 ce H locs hP9 hz9 oq hS hce hcv hcl => ?_)
  · obtain ⟨rfl, hw0⟩ := hP9
    have hz := Nat.le_trans hz hz9
    refine W.eq (g2 := F0 m 5 ls [.int (oI (dcd S Hd o))]) rfl ?_
    refine lv_istore_n (lv' := [(2, .int (oI (dcd S Hd o))), (0, .ref (b 0)), (1, .int (nI o))]) hx hb dX5_cause_5 rfl hl (by decide) rfl (fun ls hl => ?_)
    refine lv_iconst (v := nI 0) hx hb dX5_cause_6 (by decide) ?_
    exact hret _ _ _ _ _ _ _ (by rw [hw0]) hS (by omega) (by omega) dX5_cause_7
  · have hz := Nat.le_trans hz hz9
    obtain ⟨rfl, hcy, y9, hq9, hy9⟩ := hP9
    refine vx_catch hown [] ⟨0, 7, 8, 164⟩ [] hTb (fun z hz => nomatch hz) (by decide) (by decide) (hts _ q1123) (va_Nw.use rfl (hEN.2.2.1 2 (by decide))) hce hcv hcl ?_
    refine W.eq (g2 := F0 m 8 ls [.ref q9]) rfl ?_
    refine lv_astore_n (lv' := [(2, .ref q9), (0, .ref (b 0)), (1, .int (nI o))]) hx hb dX5_cause_8 rfl hl (by decide) rfl (fun ls hl => ?_)
    refine lv_aload_n hx hb dX5_cause_9 rfl (lv_at hl 0 rfl) ?_
    rcases hy9 with hy9 | hy9
    · refine u_run (x_rU (x := ⟨"BadCodes$Returned", "firstReason", "()I"⟩) (C := RX11) (owner := "BadCodes$Unsorted") (As := []) SF hK (d := 0) (rk.le (Nat.le_of_ble_eq_true rfl)) (c_X8_firstReason9 l dC dI dA q9 y9 (nI (cau S Hd o))) (lw_U q1268 q1269 q1271 q1272 q145 q1273) rfl (n := 0) (by decide +kernel) rfl (by decide) (g_recv hK hq9 (ci := 13) rfl) XOK.hp ⟨hq9, hy9⟩ hl.1 (Nat.le_of_ble_eq_true rfl) ⟨(by omega), (by omega)⟩ rfl dX5_cause_10) ?_
      refine W.eq (g2 := F0 m 13 ls [.int (nI (cau S Hd o))]) rfl ?_
      exact hret _ _ _ _ _ _ _ rfl hS (by omega) (by omega) dX5_cause_13
    · refine u_run (x_rU (x := ⟨"BadCodes$Returned", "firstReason", "()I"⟩) (C := RX11) (owner := "BadCodes$Unsorted") (As := []) SF hK (d := 0) (rk.le (Nat.le_of_ble_eq_true rfl)) (c_X8_firstReason10 l dC dI dA q9 y9 (nI (cau S Hd o))) (lw_U q1268 q1269 q1271 q1272 q145 q1273) rfl (n := 0) (by decide +kernel) rfl (by decide) (g_recv hK hq9 (ci := 13) rfl) XOK.hp ⟨hq9, hy9⟩ hl.1 (Nat.le_of_ble_eq_true rfl) ⟨(by omega), (by omega)⟩ rfl dX5_cause_10) ?_
      refine W.eq (g2 := F0 m 13 ls [.int (nI (cau S Hd o))]) rfl ?_
      exact hret _ _ _ _ _ _ _ rfl hS (by omega) (by omega) dX5_cause_13

set_option maxHeartbeats 4000000 in
theorem c_X5_comesToBag (l : Launch) (dC : Nat → ClassId) (dI : Nat → Nat → Nat) (dA : Nat → ClassId) (b : Nat → Nat) (mc : Nat → Int32) (S : Nat → Int32) (Hd : Nat → Int32) (sz : Nat) (hs : Nat) (r : Nat) (hr : r < 6) (hB : BGf S Hd) (hJ : offJ b (ln S) (tn Hd)) : Met l yX5_comesToBag (ws_ yX5_comesToBag cX5_comesToBag 2 none) (rmD 0 (0) (0)) (gPx [.ref (b 0), .int (nI r)] (fun U H => famP dC dI b (offE b dA mc S Hd) H ∧ EN sz U H) hs dC dI dA) (gQ hs (oA b (ln S)) (fun v H => v = none ∧ famP dC dI b (offE b dA mc (bagS S (Hd 0) r) Hd) H)) (0) (0) (gF (oA b (ln S)) hs) := by
  refine g_metv (own := RX5) (by decide) rfl (Nat.le_of_ble_eq_true rfl) fun p e R s m args below meth c Q SF rk hRR hX hK hin hret ls hl => ?_
  have hx := SF.1
  have hb := SF.2.1
  have hml := SF.2.2.1
  have hown := SF.2.2.2.1
  have hts := SF.2.2.2.2
  have hz0 := hX.2
  have hz : hs ≤ s.heap.size := Nat.le_of_eq hX.2.symm
  have hX := hX.1
  have hRc := hRR.1
  have hRs := hRR.2
  have gFs : ∀ q : Nat, s.heap.size ≤ q → gF (oA b (ln S)) hs q := fun q h => Or.inr (hz0 ▸ h)
  have hS : va_S (gF (oA b (ln S)) hs) s.heap s.heap [] := va_S.rf
  have hl : lv_has ls 2 [(0, .ref (b 0)), (1, .int (nI r))] := hl
  have hO := hX.1
  have hEN := hX.2
  have hCE := hEN.1
  obtain ⟨y, hy9, hy, hB6⟩ := hB
  obtain ⟨x, hxy, hx6⟩ := hB6 r hr
  refine lv_aload_n hx hb dX5_comesToBag_0 rfl (lv_at hl 0 rfl) ?_
  refine va_get (D := (dC, dI)) (ci := 1) (v := .ref (b 8)) (C := RX5) (T := TX5) (N := 10) hx hb hts in_X5 hown hK (hO 0 _ rfl) 0 rfl rfl 5 (by decide) (hts _ q843) (fun _ h9 => h9) rfl dX5_comesToBag_1 ?_
  refine lv_iload_n hx hb dX5_comesToBag_4 rfl (lv_at hl 1 rfl) ?_
  refine lv_dup2_11 hx hb dX5_comesToBag_5 rfl rfl ?_
  refine u_iald hx hb hK (hO 8 _ rfl) 0 0 rfl rfl (i := r) (by omega) (by decide) dX5_comesToBag_6 ?_
  refine u_top (y := S (27 + r)) (by first | exact clip_at (by omega) | rfl) ?_
  refine lv_iconst (v := nI 1) hx hb dX5_comesToBag_7 (by decide) ?_
  refine lv_iadd hx hb dX5_comesToBag_8 ?_
  refine o_ia8 SF hK hO hJ hS (Or.inl (oA_k (by unfold ownK; omega))) (by omega) dX5_comesToBag_9 (fun H locs hO hz9 oq hS => ?_)
  have hln : ln (upd S (27 + r) ((S (27 + r)) + (nI 1))) = ln S := (ln_upd (by omega))
  have hz := Nat.le_trans hz (Nat.le_of_eq hz9.symm)
  refine lv_aload_n hx hb dX5_comesToBag_10 rfl (lv_at hl 0 rfl) ?_
  refine va_get (D := (dC, dI)) (ci := 1) (v := .ref (b 6)) (C := RX5) (T := TX5) (N := 10) hx hb hts in_X5 hown hK (hO 0 _ rfl) 0 rfl rfl 3 (by decide) (hts _ q839) (fun _ h9 => h9) rfl dX5_comesToBag_11 ?_
  refine lv_iload_n hx hb dX5_comesToBag_14 rfl (lv_at hl 1 rfl) ?_
  refine lv_dup2_11 hx hb dX5_comesToBag_15 rfl rfl ?_
  refine u_iald hx hb hK (hO 6 _ rfl) 0 0 rfl rfl (i := r) (by omega) (by decide) dX5_comesToBag_16 ?_
  refine u_top (y := (upd S (27 + r) ((S (27 + r)) + (nI 1))) (15 + r)) (by first | exact clip_at (by omega) | rfl) ?_
  refine lv_iconst (v := nI 1) hx hb dX5_comesToBag_17 (by decide) ?_
  refine lv_iadd hx hb dX5_comesToBag_18 ?_
  refine o_ia6 SF hK hO (by rw [hln]; exact hJ) hS (Or.inl (oA_k (by unfold ownK; omega))) (by omega) dX5_comesToBag_19 (fun H locs hO hz9 oq hS => ?_)
  have hln : ln (upd (upd S (27 + r) ((S (27 + r)) + (nI 1))) (15 + r) (((upd S (27 + r) ((S (27 + r)) + (nI 1))) (15 + r)) + (nI 1))) = ln S := (ln_upd (by omega)).trans hln
  have hz := Nat.le_trans hz (Nat.le_of_eq hz9.symm)
  refine lv_aload_n hx hb dX5_comesToBag_20 rfl (lv_at hl 0 rfl) ?_
  refine va_get (D := (dC, dI)) (ci := 1) (v := .ref (b 6)) (C := RX5) (T := TX5) (N := 10) hx hb hts in_X5 hown hK (hO 0 _ rfl) 0 rfl rfl 3 (by decide) (hts _ q839) (fun _ h9 => h9) rfl dX5_comesToBag_21 ?_
  refine lv_iload_n hx hb dX5_comesToBag_24 rfl (lv_at hl 1 rfl) ?_
  refine u_iald hx hb hK (hO 6 _ rfl) 0 0 rfl rfl (i := r) (by omega) (by decide) dX5_comesToBag_25 ?_
  refine u_top (y := (upd (upd S (27 + r) ((S (27 + r)) + (nI 1))) (15 + r) (((upd S (27 + r) ((S (27 + r)) + (nI 1))) (15 + r)) + (nI 1))) (15 + r)) (by first | exact clip_at (by omega) | rfl) ?_
  refine u_top (y := nI (x + 1)) (by unfold upd at *; rw [if_pos rfl, if_neg (by omega), hx6, nI_add]) ?_
  refine lv_aload_n hx hb dX5_comesToBag_26 rfl (lv_at hl 0 rfl) ?_
  refine va_get (D := (dC, dI)) (ci := 1) (v := .int (Hd 0)) (C := RX5) (T := TX5) (N := 10) hx hb hts in_X5 hown hK (hO 0 _ rfl) 0 rfl rfl 8 (by decide) (hts _ q850) (fun _ h9 => h9) rfl dX5_comesToBag_27 ?_
  refine u_top (y := nI y) hy ?_
  refine lv_icmp_ge (tgt := 34) hx hb dX5_comesToBag_30 (by decide) (fun c_30 => ?_) (fun c_30 => ?_)
  · have c_30 : y ≤ x + 1 := (nI_leI (a := y) (b := x + 1) (by omega) (by omega)).mp c_30
    refine lv_aload_n hx hb dX5_comesToBag_34 rfl (lv_at hl 0 rfl) ?_
    refine va_get (D := (dC, dI)) (ci := 1) (v := .ref (b 6)) (C := RX5) (T := TX5) (N := 10) hx hb hts in_X5 hown hK (hO 0 _ rfl) 0 rfl rfl 3 (by decide) (hts _ q839) (fun _ h9 => h9) rfl dX5_comesToBag_35 ?_
    refine lv_iload_n hx hb dX5_comesToBag_38 rfl (lv_at hl 1 rfl) ?_
    refine lv_iconst (v := nI 0) hx hb dX5_comesToBag_39 (by decide) ?_
    refine o_ia6 SF hK hO (by rw [hln]; exact hJ) hS (Or.inl (oA_k (by unfold ownK; omega))) (by omega) dX5_comesToBag_40 (fun H locs hO hz9 oq hS => ?_)
    have hln : ln (upd (upd (upd S (27 + r) ((S (27 + r)) + (nI 1))) (15 + r) (((upd S (27 + r) ((S (27 + r)) + (nI 1))) (15 + r)) + (nI 1))) (15 + r) (nI 0)) = ln S := (ln_upd (by omega)).trans hln
    have hz := Nat.le_trans hz (Nat.le_of_eq hz9.symm)
    refine lv_aload_n hx hb dX5_comesToBag_41 rfl (lv_at hl 0 rfl) ?_
    refine va_get (D := (dC, dI)) (ci := 1) (v := .ref (b 7)) (C := RX5) (T := TX5) (N := 10) hx hb hts in_X5 hown hK (hO 0 _ rfl) 0 rfl rfl 4 (by decide) (hts _ q841) (fun _ h9 => h9) rfl dX5_comesToBag_42 ?_
    refine lv_iload_n hx hb dX5_comesToBag_45 rfl (lv_at hl 1 rfl) ?_
    refine lv_dup2_11 hx hb dX5_comesToBag_46 rfl rfl ?_
    refine u_iald hx hb hK (hO 7 _ rfl) 0 0 rfl rfl (i := r) (by omega) (by decide) dX5_comesToBag_47 ?_
    refine u_top (y := (upd (upd (upd S (27 + r) ((S (27 + r)) + (nI 1))) (15 + r) (((upd S (27 + r) ((S (27 + r)) + (nI 1))) (15 + r)) + (nI 1))) (15 + r) (nI 0)) (21 + r)) (by first | exact clip_at (by omega) | rfl) ?_
    refine lv_iconst (v := nI 1) hx hb dX5_comesToBag_48 (by decide) ?_
    refine lv_iadd hx hb dX5_comesToBag_49 ?_
    refine o_ia7 SF hK hO (by rw [hln]; exact hJ) hS (Or.inl (oA_k (by unfold ownK; omega))) (by omega) dX5_comesToBag_50 (fun H locs hO hz9 oq hS => ?_)
    have hln : ln (upd (upd (upd (upd S (27 + r) ((S (27 + r)) + (nI 1))) (15 + r) (((upd S (27 + r) ((S (27 + r)) + (nI 1))) (15 + r)) + (nI 1))) (15 + r) (nI 0)) (21 + r) (((upd (upd (upd S (27 + r) ((S (27 + r)) + (nI 1))) (15 + r) (((upd S (27 + r) ((S (27 + r)) + (nI 1))) (15 + r)) + (nI 1))) (15 + r) (nI 0)) (21 + r)) + (nI 1))) = ln S := (ln_upd (by omega)).trans hln
    have hz := Nat.le_trans hz (Nat.le_of_eq hz9.symm)
    exact hret _ _ _ _ _ _ (⟨rfl, by rw [bagS, if_pos (by rw [hy, show bagF S r (15 + r) = nI (x + 1) by unfold bagF; rw [upd_eq, upd_ne (by omega), hx6, nI_add], show x + 1 = y by omega])]; exact hO⟩) hS (by omega) (by omega) dX5_comesToBag_51
  · have c_30 : ¬ (y ≤ x + 1) := fun q9 => c_30 ((nI_leI (a := y) (b := x + 1) (by omega) (by omega)).mpr q9)
    exact hret _ _ _ _ _ _ (⟨rfl, by rw [bagS, if_neg (by rw [hy, show bagF S r (15 + r) = nI (x + 1) by unfold bagF; rw [upd_eq, upd_ne (by omega), hx6, nI_add]]; exact fun q9 => c_30 (by have := (nI_eq (by omega) (by omega)).mp q9; omega))]; exact hO⟩) hS (by omega) (by omega) dX5_comesToBag_33

set_option maxHeartbeats 4000000 in
theorem c_X5_sorts (l : Launch) (dC : Nat → ClassId) (dI : Nat → Nat → Nat) (dA : Nat → ClassId) (b : Nat → Nat) (mc : Nat → Int32) (S : Nat → Int32) (Hd : Nat → Int32) (sz : Nat) (hs : Nat) (o : Nat) (hlt : o < ln S) (hS1 : SWf S) (hT : TWf Hd) (hsz : sz ≤ hs) (hJ : offJ b (ln S) (tn Hd)) (hB : BGf S Hd) (h9 : lr S o 9 = -1) (hob : ∀ k, ownK (ln S) k → sz ≤ b k) : vx_Met l yX5_sorts (wsW_ yX5_sorts cX5_sorts 6 (some (.int)) [(8, 34, 42, 164), (8, 34, 61, 0), (42, 53, 61, 0), (61, 63, 61, 0)]) (rmD 14 (3) (24)) (gPx [.ref (b 0), .int (nI o)] (fun U H => famP dC dI b (offE b dA mc S Hd) H ∧ EN sz U H) hs dC dI dA) (gQ hs (oA b (ln S)) (fun v H => v = some (.int (oI (srtR S Hd o))) ∧ famP dC dI b (offE b dA mc (srtS S Hd o) Hd) H)) (gX hs (oA b (ln S)) (fun E q H => False)) (3) (24) (gF (oA b (ln S)) hs) := by
  refine w_meti (own := RX5) (by decide) rfl (Nat.le_of_ble_eq_true rfl) fun p e R s m args below meth c Q SF rk hRR hX hK hin hTb hret hthr hQ ls hl => ?_
  have hx := SF.1
  have hb := SF.2.1
  have hml := SF.2.2.1
  have hown := SF.2.2.2.1
  have hts := SF.2.2.2.2
  have hz0 := hX.2
  have hz : hs ≤ s.heap.size := Nat.le_of_eq hX.2.symm
  have hX := hX.1
  have hRc := hRR.1
  have hRs := hRR.2
  have gFs : ∀ q : Nat, s.heap.size ≤ q → gF (oA b (ln S)) hs q := fun q h => Or.inr (hz0 ▸ h)
  have hS : va_S (gF (oA b (ln S)) hs) s.heap s.heap [] := va_S.rf
  have hl : lv_has ls 6 [(0, .ref (b 0)), (1, .int (nI o))] := hl
  have hO := hX.1
  have hEN := hX.2
  have hCE := hEN.1
  have hAz : ∀ q, gF (oA b (ln S)) hs q → sz ≤ q := fun q h => h.elim (fun ⟨k, hk, e⟩ => e ▸ hob k hk) (fun h => Nat.le_trans hsz h)
  have hL := hS1.2.1
  have hn9 := hT.2.1
  refine lv_aload_n hx hb dX5_sorts_0 rfl (lv_at hl 0 rfl) ?_
  refine lv_iload_n hx hb dX5_sorts_1 rfl (lv_at hl 1 rfl) ?_
  refine x_runa (x_rV (C := RX5) (As := [.int (nI o)]) SF hK (d := 3) (rk.le (Nat.le_of_ble_eq_true rfl)) (c_X5_letter l dC dI dA b mc S Hd o (show o < ln S by omega) hS1) (lw_V q1118 q188 q189 q139 q190) (n := 1) (by decide +kernel) rfl (by decide) (g_recv hK (hO 0 _ rfl) (ci := 1) rfl) (XOK.hp.and CE.ok) (⟨hO, hCE⟩) hl.1 (Nat.le_of_ble_eq_true rfl) ⟨(by omega), (by omega)⟩ rfl dX5_sorts_2) ?_
  refine g_top (y := .ref (b (22 + o))) rfl ?_
  refine lv_astore_n (lv' := [(2, .ref (b (22 + o))), (0, .ref (b 0)), (1, .int (nI o))]) hx hb dX5_sorts_5 rfl hl (by decide) rfl (fun ls hl => ?_)
  refine lv_iconst (v := nI 2) hx hb dX5_sorts_6 (by decide) ?_
  refine lv_istore_n (lv' := [(3, .int (nI 2)), (2, .ref (b (22 + o))), (0, .ref (b 0)), (1, .int (nI o))]) hx hb dX5_sorts_7 rfl hl (by decide) rfl (fun ls hl => ?_)
  refine lv_aload_n hx hb dX5_sorts_8 rfl (lv_at hl 1 rfl) ?_
  refine lv_aload_n hx hb dX5_sorts_9 rfl (lv_at hl 2 rfl) ?_
  refine lv_iload_n hx hb dX5_sorts_10 rfl (lv_at hl 3 rfl) ?_
  refine g_runX (v_rVW (C := RX5) (As := [.int (nI o)]) SF hK (d := 13) (rk.le (Nat.le_of_ble_eq_true rfl)) (c_X5_mustBeSorted l dC dI dA b mc S Hd sz s.heap.size o (show o < ln S by omega) hS1 hT (show sz ≤ s.heap.size by omega)) (lw_VW q1124 q1126 qs19 q139 q1127) (n := 1) (by decide +kernel) rfl (by decide) (g_recv hK (hO 0 _ rfl) (ci := 1) rfl) (XOK.hs (XOK.hp.and EN.ok)) (⟨⟨hO, hEN.at hS hAz⟩, rfl⟩) hl.1 (Nat.le_of_ble_eq_true rfl) ⟨(by omega), (by omega)⟩ rfl dX5_sorts_11) rfl hS (fun _ h => h.elim) gFs (fun v9 H locs hP9 hz9 oq hS => ?_) (fun E q9 ce H locs hP9 hz9 oq hS hce hcv hcl => ?_)
  · obtain ⟨rfl, hw0⟩ := hP9
    have hz := Nat.le_trans hz hz9
    refine W.eq (g2 := F0 m 14 ls [.int (oI (dcd S Hd o)), .ref (b (22 + o))]) rfl ?_
    have hO := hO.stay oq (fun _ _ h => h)
    obtain ⟨t9, hE⟩ := cau_0 hw0
    have ht9 := dcd_lt hE
    have hr9 := (hT.2.2 t9 ht9).2.2.2
    refine u_top (y := nI t9) (by rw [hE]; rfl) ?_
    refine o_p_town SF hK hO hJ hS (Or.inl (oA_k (by unfold ownK; omega))) (by omega) (by omega) (va_Nw.use rfl (hCE.1 33 (by decide))) dX5_sorts_14 (fun H locs hO hz9 oq hS => ?_)
    have hln : ln (upd S (33 + 10 * o + 9) (nI t9)) = ln S := (ln_upd (by omega))
    have hz := Nat.le_trans hz (Nat.le_of_eq hz9.symm)
    refine lv_aload_n hx hb dX5_sorts_17 rfl (lv_at hl 2 rfl) ?_
    refine lv_aload_n hx hb dX5_sorts_18 rfl (lv_at hl 2 rfl) ?_
    refine lv_aload_n hx hb dX5_sorts_19 rfl (lv_at hl 1 rfl) ?_
    refine va_getN (D := (dC, dI)) (ci := 3) (v := .int (lr (upd S (33 + 10 * o + 9) (nI t9)) o 9)) (C := RX7) (T := TX7) (N := 6) hx hb hts in_X7 hown hK (hO _ _ (offE_lt (show o < ln (upd S (33 + 10 * o + 9) (nI t9)) from (by omega)) (by rw [hln]; exact hL))) 0 rfl rfl 5 (by decide) (va_Nw.use rfl (hCE.1 33 (by decide))) (fun _ h9 => h9) rfl dX5_sorts_20 ?_
    refine u_top (y := nI t9) upd_eq ?_
    refine x_runa (x_rV (C := RX5) (As := [.int (nI t9)]) SF hK (d := 3) (rk.le (Nat.le_of_ble_eq_true rfl)) (c_X5_town l dC dI dA b mc (upd S (33 + 10 * o + 9) (nI t9)) Hd t9 (show t9 < tn Hd by omega) hT) (lw_V q965 q966 q967 q139 q968) (n := 1) (by decide +kernel) rfl (by decide) (g_recv hK (hO 0 _ rfl) (ci := 1) rfl) (XOK.hp.and CE.ok) (⟨hO, hCE⟩) hl.1 (Nat.le_of_ble_eq_true rfl) ⟨(by omega), (by omega)⟩ rfl dX5_sorts_23) ?_
    refine g_top (y := .ref (b (10 + t9))) rfl ?_
    refine u_run (x_rV (C := RX6) (As := []) SF hK (d := 0) (rk.le (Nat.le_of_ble_eq_true rfl)) (c_X6_route l dC dI dA b mc (upd S (33 + 10 * o + 9) (nI t9)) Hd t9 (show t9 < tn Hd by omega) hT) (lw_V q1224 q1225 q1226 q143 q1227) (n := 0) (by decide +kernel) rfl (by decide) (g_recv hK (hO _ _ (offE_tw (show t9 < tn Hd from (by omega)) hT.2.1)) (ci := 4) rfl) (XOK.hp.and CE.ok) (⟨hO, hCE⟩) hl.1 (Nat.le_of_ble_eq_true rfl) ⟨(by omega), (by omega)⟩ rfl dX5_sorts_26) ?_
    refine u_top (y := nI (rou Hd t9)) rfl ?_
    refine g_run (g_rV (C := RX5) (As := [.int (nI (rou Hd t9))]) SF hK (d := 0) (rk.le (Nat.le_of_ble_eq_true rfl)) (c_X5_comesToBag l dC dI dA b mc (upd S (33 + 10 * o + 9) (nI t9)) Hd sz H.size (rou Hd t9) hr9 (BGf_upd hB (by omega)) (by rw [hln]; exact hJ)) (lw_V q1264 q1266 qs24 q139 q1267) (n := 1) (by decide +kernel) rfl (by decide) (g_recv hK (hO 0 _ rfl) (ci := 1) rfl) (XOK.hs (XOK.hp.and EN.ok)) (⟨⟨hO, hEN.at hS hAz⟩, rfl⟩) hl.1 (Nat.le_of_ble_eq_true rfl) ⟨(by omega), (by omega)⟩ rfl dX5_sorts_29) rfl hS (fun q h => Or.inl (by rw [hln] at h; exact h)) gFs (fun v9 H locs hP9 hz9 oq hS => ?_)
    obtain ⟨rfl, hO⟩ := hP9
    have hz := Nat.le_trans hz hz9
    refine W.eq (g2 := F0 m 32 ls []) rfl ?_
    have hln : ln (bagS (upd S (33 + 10 * o + 9) (nI t9)) (Hd 0) (rou Hd t9)) = ln S := (show ln (bagS _ _ _) = _ by unfold ln; rw [bagS_off hr9 (Or.inl (by decide))]; exact hln)
    refine lv_iconst (v := nI 1) hx hb dX5_sorts_32 (by decide) ?_
    refine lv_istore_n (lv' := [(3, .int (nI 1)), (2, .ref (b (22 + o))), (0, .ref (b 0)), (1, .int (nI o))]) hx hb dX5_sorts_33 rfl hl (by decide) rfl (fun ls hl => ?_)
    refine lv_aload_n hx hb dX5_sorts_34 rfl (lv_at hl 1 rfl) ?_
    refine lv_iload_n hx hb dX5_sorts_35 rfl (lv_at hl 0 rfl) ?_
    refine o_p_state SF hK hO (by rw [hln]; exact hJ) hS (Or.inl (oA_k (by unfold ownK; omega))) (by rw [hln]; omega) (by rw [hln]; omega) (va_Nw.use rfl (hCE.1 30 (by decide))) dX5_sorts_36 (fun H locs hO hz9 oq hS => ?_)
    have hln : ln (upd (bagS (upd S (33 + 10 * o + 9) (nI t9)) (Hd 0) (rou Hd t9)) (33 + 10 * o + 6) (nI 1)) = ln S := (ln_upd (by omega)).trans hln
    have hz := Nat.le_trans hz (Nat.le_of_eq hz9.symm)
    refine lv_goto (tgt := 71) hx hb dX5_sorts_39 (by decide) ?_
    refine lv_aload_n hx hb dX5_sorts_71 rfl (lv_at hl 1 rfl) ?_
    refine va_getN (D := (dC, dI)) (ci := 3) (v := .int (lr (upd (bagS (upd S (33 + 10 * o + 9) (nI t9)) (Hd 0) (rou Hd t9)) (33 + 10 * o + 6) (nI 1)) o 9)) (C := RX7) (T := TX7) (N := 6) hx hb hts in_X7 hown hK (hO _ _ (offE_lt (show o < ln (upd (bagS (upd S (33 + 10 * o + 9) (nI t9)) (Hd 0) (rou Hd t9)) (33 + 10 * o + 6) (nI 1)) from (by omega)) (by rw [hln]; exact hL))) 0 rfl rfl 5 (by decide) (va_Nw.use rfl (hCE.1 33 (by decide))) (fun _ h9 => h9) rfl dX5_sorts_72 ?_
    refine u_top (y := nI t9) (by unfold lr; rw [upd_ne (by omega), bagS_t hr9 (by omega)]; exact upd_eq) ?_
    exact hret _ _ _ _ _ _ _ (⟨by rw [srtR, if_pos hw0, hE]; rfl, by rw [srtS_cls hT hw0 hE]; exact hO⟩) hS (by omega) (by omega) dX5_sorts_75
  · have hz := Nat.le_trans hz hz9
    have hO := hO.stay oq (fun _ _ h => h)
    obtain ⟨rfl, hcy, y9, hq9, hy9⟩ := hP9
    refine vx_catch hown [] ⟨8, 34, 42, 164⟩ [⟨8, 34, 61, 0⟩, ⟨42, 53, 61, 0⟩, ⟨61, 63, 61, 0⟩] hTb (fun z hz => nomatch hz) (by decide) (by decide) (hts _ q1123) (va_Nw.use rfl (hEN.2.2.1 2 (by decide))) hce hcv hcl ?_
    refine W.eq (g2 := F0 m 42 ls [.ref q9]) rfl ?_
    refine lv_astore (lv' := [(4, .ref q9), (3, .int (nI 2)), (2, .ref (b (22 + o))), (0, .ref (b 0)), (1, .int (nI o))]) hx hb dX5_sorts_42 hl (by decide) rfl (fun ls hl => ?_)
    refine lv_aload_n hx hb dX5_sorts_44 rfl (lv_at hl 2 rfl) ?_
    refine lv_aload hx hb dX5_sorts_45 (lv_at hl 0 rfl) ?_
    rcases hy9 with hy9 | hy9
    · refine u_run (x_rU (x := ⟨"BadCodes$Returned", "firstReason", "()I"⟩) (C := RX11) (owner := "BadCodes$Unsorted") (As := []) SF hK (d := 0) (rk.le (Nat.le_of_ble_eq_true rfl)) (c_X8_firstReason9 l dC dI dA q9 y9 (nI (cau S Hd o))) (lw_U q1268 q1269 q1271 q1272 q145 q1273) rfl (n := 0) (by decide +kernel) rfl (by decide) (g_recv hK hq9 (ci := 13) rfl) XOK.hp ⟨hq9, hy9⟩ hl.1 (Nat.le_of_ble_eq_true rfl) ⟨(by omega), (by omega)⟩ rfl dX5_sorts_47) ?_
      refine W.eq (g2 := F0 m 50 ls [.int (nI (cau S Hd o)), .ref (b (22 + o))]) rfl ?_
      refine o_p_cause SF hK hO hJ hS (Or.inl (oA_k (by unfold ownK; omega))) (by omega) (by omega) (va_Nw.use rfl (hCE.1 32 (by decide))) dX5_sorts_50 (fun H locs hO hz9 oq hS => ?_)
      have hln : ln (upd S (33 + 10 * o + 8) (nI (cau S Hd o))) = ln S := (ln_upd (by omega))
      have hz := Nat.le_trans hz (Nat.le_of_eq hz9.symm)
      refine lv_aload_n hx hb dX5_sorts_53 rfl (lv_at hl 2 rfl) ?_
      refine lv_iload_n hx hb dX5_sorts_54 rfl (lv_at hl 1 rfl) ?_
      refine o_p_state SF hK hO (by rw [hln]; exact hJ) hS (Or.inl (oA_k (by unfold ownK; omega))) (by rw [hln]; omega) (by rw [hln]; omega) (va_Nw.use rfl (hCE.1 30 (by decide))) dX5_sorts_55 (fun H locs hO hz9 oq hS => ?_)
      have hln : ln (upd (upd S (33 + 10 * o + 8) (nI (cau S Hd o))) (33 + 10 * o + 6) (nI 2)) = ln S := (ln_upd (by omega)).trans hln
      have hz := Nat.le_trans hz (Nat.le_of_eq hz9.symm)
      refine lv_goto (tgt := 71) hx hb dX5_sorts_58 (by decide) ?_
      refine lv_aload_n hx hb dX5_sorts_71 rfl (lv_at hl 2 rfl) ?_
      refine va_getN (D := (dC, dI)) (ci := 3) (v := .int (lr (upd (upd S (33 + 10 * o + 8) (nI (cau S Hd o))) (33 + 10 * o + 6) (nI 2)) o 9)) (C := RX7) (T := TX7) (N := 6) hx hb hts in_X7 hown hK (hO _ _ (offE_lt (show o < ln (upd (upd S (33 + 10 * o + 8) (nI (cau S Hd o))) (33 + 10 * o + 6) (nI 2)) from (by omega)) (by rw [hln]; exact hL))) 0 rfl rfl 5 (by decide) (va_Nw.use rfl (hCE.1 33 (by decide))) (fun _ h9 => h9) rfl dX5_sorts_72 ?_
      refine u_top (y := (-1)) (by unfold lr; rw [upd_ne (by omega), upd_ne (by omega)]; exact h9) ?_
      exact hret _ _ _ _ _ _ _ (⟨by rw [srtR, if_neg hcy]; rfl, by rw [srtS_clsN hcy]; exact hO⟩) hS (by omega) (by omega) dX5_sorts_75
    · refine u_run (x_rU (x := ⟨"BadCodes$Returned", "firstReason", "()I"⟩) (C := RX11) (owner := "BadCodes$Unsorted") (As := []) SF hK (d := 0) (rk.le (Nat.le_of_ble_eq_true rfl)) (c_X8_firstReason10 l dC dI dA q9 y9 (nI (cau S Hd o))) (lw_U q1268 q1269 q1271 q1272 q145 q1273) rfl (n := 0) (by decide +kernel) rfl (by decide) (g_recv hK hq9 (ci := 13) rfl) XOK.hp ⟨hq9, hy9⟩ hl.1 (Nat.le_of_ble_eq_true rfl) ⟨(by omega), (by omega)⟩ rfl dX5_sorts_47) ?_
      refine W.eq (g2 := F0 m 50 ls [.int (nI (cau S Hd o)), .ref (b (22 + o))]) rfl ?_
      refine o_p_cause SF hK hO hJ hS (Or.inl (oA_k (by unfold ownK; omega))) (by omega) (by omega) (va_Nw.use rfl (hCE.1 32 (by decide))) dX5_sorts_50 (fun H locs hO hz9 oq hS => ?_)
      have hln : ln (upd S (33 + 10 * o + 8) (nI (cau S Hd o))) = ln S := (ln_upd (by omega))
      have hz := Nat.le_trans hz (Nat.le_of_eq hz9.symm)
      refine lv_aload_n hx hb dX5_sorts_53 rfl (lv_at hl 2 rfl) ?_
      refine lv_iload_n hx hb dX5_sorts_54 rfl (lv_at hl 1 rfl) ?_
      refine o_p_state SF hK hO (by rw [hln]; exact hJ) hS (Or.inl (oA_k (by unfold ownK; omega))) (by rw [hln]; omega) (by rw [hln]; omega) (va_Nw.use rfl (hCE.1 30 (by decide))) dX5_sorts_55 (fun H locs hO hz9 oq hS => ?_)
      have hln : ln (upd (upd S (33 + 10 * o + 8) (nI (cau S Hd o))) (33 + 10 * o + 6) (nI 2)) = ln S := (ln_upd (by omega)).trans hln
      have hz := Nat.le_trans hz (Nat.le_of_eq hz9.symm)
      refine lv_goto (tgt := 71) hx hb dX5_sorts_58 (by decide) ?_
      refine lv_aload_n hx hb dX5_sorts_71 rfl (lv_at hl 2 rfl) ?_
      refine va_getN (D := (dC, dI)) (ci := 3) (v := .int (lr (upd (upd S (33 + 10 * o + 8) (nI (cau S Hd o))) (33 + 10 * o + 6) (nI 2)) o 9)) (C := RX7) (T := TX7) (N := 6) hx hb hts in_X7 hown hK (hO _ _ (offE_lt (show o < ln (upd (upd S (33 + 10 * o + 8) (nI (cau S Hd o))) (33 + 10 * o + 6) (nI 2)) from (by omega)) (by rw [hln]; exact hL))) 0 rfl rfl 5 (by decide) (va_Nw.use rfl (hCE.1 33 (by decide))) (fun _ h9 => h9) rfl dX5_sorts_72 ?_
      refine u_top (y := (-1)) (by unfold lr; rw [upd_ne (by omega), upd_ne (by omega)]; exact h9) ?_
      exact hret _ _ _ _ _ _ _ (⟨by rw [srtR, if_neg hcy]; rfl, by rw [srtS_clsN hcy]; exact hO⟩) hS (by omega) (by omega) dX5_sorts_75

set_option maxHeartbeats 4000000 in
theorem c_X5_sortsAll (l : Launch) (dC : Nat → ClassId) (dI : Nat → Nat → Nat) (dA : Nat → ClassId) (b : Nat → Nat) (mc : Nat → Int32) (S : Nat → Int32) (Hd : Nat → Int32) (sz : Nat) (hs : Nat) (hS1 : SWf S) (hT : TWf Hd) (hsz : sz ≤ hs) (hJ : offJ b (ln S) (tn Hd)) (hC : CWf S Hd) (hob : ∀ k, ownK (ln S) k → sz ≤ b k) : Met l yX5_sortsAll (ws_ yX5_sortsAll cX5_sortsAll 3 (some (.int))) (rmD 15 (72) (576)) (gPx [.ref (b 0)] (fun U H => famP dC dI b (offE b dA mc S Hd) H ∧ EN sz U H) hs dC dI dA) (gQ hs (oA b (ln S)) (fun v H => v = some (.int (nI (sAn S Hd))) ∧ famP dC dI b (offE b dA mc (sAl S Hd) Hd) H)) (72) (576) (gF (oA b (ln S)) hs) := by
  refine g_meti (own := RX5) (by decide) rfl (Nat.le_of_ble_eq_true rfl) fun p e R s m args below meth c Q SF rk hRR hX hK hin hret ls hl => ?_
  have hx := SF.1
  have hb := SF.2.1
  have hml := SF.2.2.1
  have hown := SF.2.2.2.1
  have hts := SF.2.2.2.2
  have hz0 := hX.2
  have hz : hs ≤ s.heap.size := Nat.le_of_eq hX.2.symm
  have hX := hX.1
  have hRc := hRR.1
  have hRs := hRR.2
  have gFs : ∀ q : Nat, s.heap.size ≤ q → gF (oA b (ln S)) hs q := fun q h => Or.inr (hz0 ▸ h)
  have hS : va_S (gF (oA b (ln S)) hs) s.heap s.heap [] := va_S.rf
  have hl : lv_has ls 3 [(0, .ref (b 0))] := hl
  have hO := hX.1
  have hEN := hX.2
  have hCE := hEN.1
  have hAz : ∀ q, gF (oA b (ln S)) hs q → sz ≤ q := fun q h => h.elim (fun ⟨k, hk, e⟩ => e ▸ hob k hk) (fun h => Nat.le_trans hsz h)
  have hL := hS1.2.1
  have hn9 := hT.2.1
  refine lv_iconst (v := nI 0) hx hb dX5_sortsAll_0 (by decide) ?_
  refine lv_istore_n (lv' := [(1, .int (nI 0)), (0, .ref (b 0))]) hx hb dX5_sortsAll_1 rfl hl (by decide) rfl (fun ls hl => ?_)
  refine lv_iconst (v := nI 0) hx hb dX5_sortsAll_2 (by decide) ?_
  refine lv_istore_n (lv' := [(2, .int (nI 0)), (1, .int (nI 0)), (0, .ref (b 0))]) hx hb dX5_sortsAll_3 rfl hl (by decide) rfl (fun ls hl => ?_)
  have lp4 : ∀ (k0 : Nat) (k : Nat), k ≤ ln S → ln S < k + k0 → ∀ (H : Heap) (locs : List Loc), famP dC dI b (offE b dA mc ((sAll S Hd k).1) Hd) H → ln ((sAll S Hd k).1) = ln S → hs ≤ H.size → va_S (gF (oA b (ln S)) hs) s.heap H locs → ∀ ls : Array Slot, lv_has ls 3 [(2, .int (nI k)), (1, .int (nI ((sAll S Hd k).2))), (0, .ref (b 0))] → W p l e R s m args below meth c H locs (3 * k) (24 * k) Q (F0 m 4 ls []) := by
    intro k0
    induction k0 with
    | zero =>
      intro k hk1 hk2; omega
    | succ k0 ih =>
      intro k hk1 hk2 H locs hO hln hz hS ls hl
      have ih4 := ih
      refine lv_iload_n hx hb dX5_sortsAll_4 rfl (lv_at hl 0 rfl) ?_
      refine lv_aload_n hx hb dX5_sortsAll_5 rfl (lv_at hl 2 rfl) ?_
      refine va_get (D := (dC, dI)) (ci := 1) (v := .ref (b 3)) (C := RX5) (T := TX5) (N := 10) hx hb hts in_X5 hown hK (hO 0 _ rfl) 0 rfl rfl 1 (by decide) (hts _ q833) (fun _ h9 => h9) rfl dX5_sortsAll_6 ?_
      refine x_run5 (x_rF (C := RJ20) (As := []) (hK.1 6 _ rfl).2 SF hK (d := 0) (rk.le (Nat.le_of_ble_eq_true rfl)) (c_J20_size l dC dI dA (b 3) (b 4) (ln ((sAll S Hd k).1)) (mc 1) 24 (fun o => if o < ln ((sAll S Hd k).1) then some (b (22 + o)) else none) ) (lw_F q964 q954 q956 q141 q958) (hCE.2.2 7 (by decide)) (n := 0) (by decide +kernel) rfl (by decide) (g_recv hK (hO 3 _ rfl) (ci := 6) rfl) (XOK.hp) (⟨hO 3 _ rfl, hO 4 _ rfl⟩) hl.1 (Nat.le_of_ble_eq_true rfl) ⟨(by omega), (by omega)⟩ rfl dX5_sortsAll_9) ?_
      refine u_top (y := nI (ln ((sAll S Hd k).1))) rfl ?_
      refine lv_icmp_ge (tgt := 54) hx hb dX5_sortsAll_14 (by decide) (fun c_14 => ?_) (fun c_14 => ?_)
      · have c_14 : (ln ((sAll S Hd k).1)) ≤ k := (nI_leI (a := (ln ((sAll S Hd k).1))) (b := k) (by omega) (by omega)).mp c_14
        refine lv_iload_n hx hb dX5_sortsAll_54 rfl (lv_at hl 1 rfl) ?_
        exact hret _ _ _ _ _ _ _ (⟨by rw [sAn, show ln S = k by omega], by rw [sAl, show ln S = k by omega]; exact hO⟩) hS (by omega) (by omega) dX5_sortsAll_55
      · have c_14 : ¬ ((ln ((sAll S Hd k).1)) ≤ k) := fun q9 => c_14 ((nI_leI (a := (ln ((sAll S Hd k).1))) (b := k) (by omega) (by omega)).mpr q9)
        refine lv_iload_n hx hb dX5_sortsAll_17 rfl (lv_at hl 1 rfl) ?_
        refine lv_aload_n hx hb dX5_sortsAll_18 rfl (lv_at hl 2 rfl) ?_
        refine lv_iload_n hx hb dX5_sortsAll_19 rfl (lv_at hl 0 rfl) ?_
        refine x_runa (x_rV (C := RX5) (As := [.int (nI k)]) SF hK (d := 3) (rk.le (Nat.le_of_ble_eq_true rfl)) (c_X5_letter l dC dI dA b mc ((sAll S Hd k).1) Hd k (show k < ln ((sAll S Hd k).1) by omega) (sAll_wf hT hS1 k)) (lw_V q1118 q188 q189 q139 q190) (n := 1) (by decide +kernel) rfl (by decide) (g_recv hK (hO 0 _ rfl) (ci := 1) rfl) (XOK.hp.and CE.ok) (⟨hO, hCE⟩) hl.1 (Nat.le_of_ble_eq_true rfl) ⟨(by omega), (by omega)⟩ rfl dX5_sortsAll_20) ?_
        refine g_top (y := .ref (b (22 + k))) rfl ?_
        refine va_getN (D := (dC, dI)) (ci := 3) (v := .int (lr ((sAll S Hd k).1) k 6)) (C := RX7) (T := TX7) (N := 6) hx hb hts in_X7 hown hK (hO _ _ (offE_lt (show k < ln ((sAll S Hd k).1) from (by omega)) (by rw [hln]; exact hL))) 0 rfl rfl 2 (by decide) (va_Nw.use rfl (hCE.1 30 (by decide))) (fun _ h9 => h9) rfl dX5_sortsAll_23 ?_
        refine lv_if_ne (tgt := 42) hx hb dX5_sortsAll_26 (by decide) (fun c_26 => ?_) (fun c_26 => ?_)
        · refine lv_iconst (v := nI 0) hx hb dX5_sortsAll_42 (by decide) ?_
          refine u_top (y := nI false.toNat) rfl ?_
          refine u_run (x_rSN (As := [.int (nI false.toNat)]) (X := fun _ _ => True) SF hK (d := 0) (rk.le (Nat.le_of_ble_eq_true rfl)) (c_X1_one l dC dI dA false ) (hCE.2.1 5 (by decide)) q1147 q112 q1148 (n := 1) (by decide +kernel) rfl (by decide) (XOK.hp) (trivial) hl.1 (Nat.le_of_ble_eq_true rfl) ⟨(by omega), (by omega)⟩ rfl dX5_sortsAll_43) ?_
          refine u_top (y := nI false.toNat) rfl ?_
          refine lv_iadd hx hb dX5_sortsAll_46 ?_
          refine u_top (nI_add _ _) ?_
          refine u_top (y := nI ((sAll S Hd (k + 1)).2)) (by rw [sAll_stay c_26]; rfl) ?_
          refine lv_istore_n (lv' := [(1, .int (nI ((sAll S Hd (k + 1)).2))), (2, .int (nI k)), (0, .ref (b 0))]) hx hb dX5_sortsAll_47 rfl hl (by decide) rfl (fun ls hl => ?_)
          refine lv_iinc (v := nI (k + 1)) (lv' := [(2, .int (nI (k + 1))), (1, .int (nI ((sAll S Hd (k + 1)).2))), (0, .ref (b 0))]) hx hb dX5_sortsAll_48 hl (k := 1) rfl (nI_add _ 1) (by decide) rfl (fun ls hl => ?_)
          refine W.widen (k := 3 * (k + 1)) (n := 24 * (k + 1)) (by omega) (by omega) ?_
          refine lv_goto (tgt := 4) hx hb dX5_sortsAll_51 (by decide) ?_
          exact ih4 (k + 1) (by omega) (by omega) _ _ (by rw [sAll_stay c_26]; exact hO) (by rw [sAll_ln hT]) hz hS ls (lv_sub hl [0, 1, 2] rfl)
        · refine lv_aload_n hx hb dX5_sortsAll_29 rfl (lv_at hl 2 rfl) ?_
          refine lv_iload_n hx hb dX5_sortsAll_30 rfl (lv_at hl 0 rfl) ?_
          refine g_runX (v_rVW (C := RX5) (As := [.int (nI k)]) SF hK (d := 14) (rk.le (Nat.le_of_ble_eq_true rfl)) (c_X5_sorts l dC dI dA b mc ((sAll S Hd k).1) Hd sz H.size k (by omega) (sAll_wf hT hS1 k) hT (by omega) (by rw [hln]; exact hJ) (sAll_CWf hT hC k (by omega)).1 (((sAll_CWf hT hC k (by omega)).2.1 k (by omega)).1.resolve_left (by rw [c_26]; decide)) (by rw [hln]; exact hob)) (lw_VW q1119 q1120 q1121 q139 q1122) (n := 1) (by decide +kernel) rfl (by decide) (g_recv hK (hO 0 _ rfl) (ci := 1) rfl) (XOK.hs (XOK.hp.and EN.ok)) (⟨⟨hO, hEN.at hS hAz⟩, rfl⟩) hl.1 (Nat.le_of_ble_eq_true rfl) ⟨(by omega), (by omega)⟩ rfl dX5_sortsAll_31) rfl hS (fun q h => Or.inl (by rw [hln] at h; exact h)) gFs (fun v9 H locs hP9 hz9 oq hS => ?_) (fun E q9 ce H locs hP9 hz9 oq hS hce hcv hcl => ?_)
          · obtain ⟨rfl, hO⟩ := hP9
            have hz := Nat.le_trans hz hz9
            refine W.eq (g2 := F0 m 34 ls [.int (oI (srtR ((sAll S Hd k).1) Hd k)), .int (nI ((sAll S Hd k).2))]) rfl ?_
            have hln : ln (srtS ((sAll S Hd k).1) Hd k) = ln S := (srtS_ln hT).trans hln
            refine lv_iconst (v := (-1)) hx hb dX5_sortsAll_34 (by decide) ?_
            have jn43 : ∀ v9 : Int32, v9 = nI ((srtR (sAll S Hd k).1 Hd k).isSome.toNat) → ∀ (H : Heap) (locs : List Loc), famP dC dI b (offE b dA mc (srtS ((sAll S Hd k).1) Hd k) Hd) H → ln (srtS ((sAll S Hd k).1) Hd k) = ln S → hs ≤ H.size → va_S (gF (oA b (ln S)) hs) s.heap H locs → ∀ ls : Array Slot, lv_has ls 3 [(2, .int (nI k)), (1, .int (nI ((sAll S Hd k).2))), (0, .ref (b 0))] → W p l e R s m args below meth c H locs ((3 * k) + 3) ((24 * k) + 24) Q (F0 m 43 ls [.int v9, .int (nI ((sAll S Hd k).2))]) := by
              intro v9 hv9 H locs hO hln hz hS ls hl
              subst hv9
              refine u_run (x_rSN (As := [.int (nI ((srtR (sAll S Hd k).1 Hd k).isSome.toNat))]) (X := fun _ _ => True) SF hK (d := 0) (rk.le (Nat.le_of_ble_eq_true rfl)) (c_X1_one l dC dI dA ((srtR (sAll S Hd k).1 Hd k).isSome) ) (hCE.2.1 5 (by decide)) q1147 q112 q1148 (n := 1) (by decide +kernel) rfl (by decide) (XOK.hp) (trivial) hl.1 (Nat.le_of_ble_eq_true rfl) ⟨(by omega), (by omega)⟩ rfl dX5_sortsAll_43) ?_
              refine u_top (y := nI (((srtR (sAll S Hd k).1 Hd k).isSome).toNat)) rfl ?_
              refine lv_iadd hx hb dX5_sortsAll_46 ?_
              refine u_top (nI_add _ _) ?_
              refine u_top (y := nI ((sAll S Hd (k + 1)).2)) (by rw [sAll_go c_26]) ?_
              refine lv_istore_n (lv' := [(1, .int (nI ((sAll S Hd (k + 1)).2))), (2, .int (nI k)), (0, .ref (b 0))]) hx hb dX5_sortsAll_47 rfl hl (by decide) rfl (fun ls hl => ?_)
              refine lv_iinc (v := nI (k + 1)) (lv' := [(2, .int (nI (k + 1))), (1, .int (nI ((sAll S Hd (k + 1)).2))), (0, .ref (b 0))]) hx hb dX5_sortsAll_48 hl (k := 1) rfl (nI_add _ 1) (by decide) rfl (fun ls hl => ?_)
              refine W.widen (k := 3 * (k + 1)) (n := 24 * (k + 1)) (by omega) (by omega) ?_
              refine lv_goto (tgt := 4) hx hb dX5_sortsAll_51 (by decide) ?_
              exact ih4 (k + 1) (by omega) (by omega) _ _ (by rw [sAll_go c_26]; exact hO) (by rw [sAll_ln hT]) hz hS ls (lv_sub hl [0, 1, 2] rfl)
            refine lv_icmp_eq (tgt := 42) hx hb dX5_sortsAll_35 (by decide) (fun c_35 => ?_) (fun c_35 => ?_)
            · refine lv_iconst (v := nI 0) hx hb dX5_sortsAll_42 (by decide) ?_
              refine u_top (y := nI false.toNat) rfl ?_
              exact jn43 _ (u_ff (oI_no (fun t9 h9 => srtR_lt h9) (by omega) c_35)) _ _ hO hln hz hS ls (lv_sub hl [0, 1, 2] rfl)
            · refine lv_iconst (v := nI 1) hx hb dX5_sortsAll_38 (by decide) ?_
              refine lv_goto (tgt := 43) hx hb dX5_sortsAll_39 (by decide) ?_
              exact jn43 _ (u_tt (oI_is c_35)) _ _ hO hln hz hS ls (lv_sub hl [0, 1, 2] rfl)
          · have hz := Nat.le_trans hz hz9
            exact hP9.elim
  exact lp4 (ln S + 1) 0 (by omega) (by omega) _ _ hO rfl hz hS ls (lv_sub hl [0, 1, 2] rfl)

set_option maxHeartbeats 4000000 in
theorem c_X5_reads (l : Launch) (dC : Nat → ClassId) (dI : Nat → Nat → Nat) (dA : Nat → ClassId) (b : Nat → Nat) (mc : Nat → Int32) (S : Nat → Int32) (Hd : Nat → Int32) (sz : Nat) (hs : Nat) (o : Nat) (q : Nat) (z : Int32) (hlt : o < ln S) (hS1 : SWf S) (hJ : offJ b (ln S) (tn Hd)) (hq : q < 5) : Met l yX5_reads (ws_ yX5_reads cX5_reads 5 none) (rmD 4 (0) (0)) (gPx [.ref (b 0), .int (nI o), .int (nI q), .int z] (fun U H => famP dC dI b (offE b dA mc S Hd) H ∧ EN sz U H) hs dC dI dA) (gQ hs (oA b (ln S)) (fun v H => v = none ∧ famP dC dI b (offE b dA mc (agS S o q z) Hd) H)) (0) (0) (gF (oA b (ln S)) hs) := by
  refine g_metv (own := RX5) (by decide) rfl (Nat.le_of_ble_eq_true rfl) fun p e R s m args below meth c Q SF rk hRR hX hK hin hret ls hl => ?_
  have hx := SF.1
  have hb := SF.2.1
  have hml := SF.2.2.1
  have hown := SF.2.2.2.1
  have hts := SF.2.2.2.2
  have hz0 := hX.2
  have hz : hs ≤ s.heap.size := Nat.le_of_eq hX.2.symm
  have hX := hX.1
  have hRc := hRR.1
  have hRs := hRR.2
  have gFs : ∀ q : Nat, s.heap.size ≤ q → gF (oA b (ln S)) hs q := fun q h => Or.inr (hz0 ▸ h)
  have hS : va_S (gF (oA b (ln S)) hs) s.heap s.heap [] := va_S.rf
  have hl : lv_has ls 5 [(0, .ref (b 0)), (1, .int (nI o)), (2, .int (nI q)), (3, .int z)] := hl
  have hO := hX.1
  have hEN := hX.2
  have hCE := hEN.1
  have hL := hS1.2.1
  refine lv_aload_n hx hb dX5_reads_0 rfl (lv_at hl 0 rfl) ?_
  refine lv_iload_n hx hb dX5_reads_1 rfl (lv_at hl 1 rfl) ?_
  refine x_runa (x_rV (C := RX5) (As := [.int (nI o)]) SF hK (d := 3) (rk.le (Nat.le_of_ble_eq_true rfl)) (c_X5_letter l dC dI dA b mc S Hd o (show o < ln S by omega) hS1) (lw_V q1118 q188 q189 q139 q190) (n := 1) (by decide +kernel) rfl (by decide) (g_recv hK (hO 0 _ rfl) (ci := 1) rfl) (XOK.hp.and CE.ok) (⟨hO, hCE⟩) hl.1 (Nat.le_of_ble_eq_true rfl) ⟨(by omega), (by omega)⟩ rfl dX5_reads_2) ?_
  refine g_top (y := .ref (b (22 + o))) rfl ?_
  refine lv_astore (lv' := [(4, .ref (b (22 + o))), (0, .ref (b 0)), (1, .int (nI o)), (2, .int (nI q)), (3, .int z)]) hx hb dX5_reads_5 hl (by decide) rfl (fun ls hl => ?_)
  refine lv_aload hx hb dX5_reads_7 (lv_at hl 0 rfl) ?_
  refine lv_dup hx hb dX5_reads_9 rfl ?_
  refine va_getN (D := (dC, dI)) (ci := 3) (v := .int (lr S o 7)) (C := RX7) (T := TX7) (N := 6) hx hb hts in_X7 hown hK (hO _ _ (offE_lt (show o < ln S from (by omega)) hL)) 0 rfl rfl 3 (by decide) (va_Nw.use rfl (hCE.1 31 (by decide))) (fun _ h9 => h9) rfl dX5_reads_10 ?_
  refine u_top (y := lr S o 7) rfl ?_
  refine lv_iconst (v := nI 1) hx hb dX5_reads_13 (by decide) ?_
  refine lv_iadd hx hb dX5_reads_14 ?_
  refine o_p_tries SF hK hO hJ hS (Or.inl (oA_k (by unfold ownK; omega))) (by omega) (by omega) (va_Nw.use rfl (hCE.1 31 (by decide))) dX5_reads_15 (fun H locs hO hz9 oq hS => ?_)
  have hln : ln (upd S (33 + 10 * o + 7) ((lr S o 7) + (nI 1))) = ln S := (ln_upd (by omega))
  have hz := Nat.le_trans hz (Nat.le_of_eq hz9.symm)
  refine lv_aload hx hb dX5_reads_18 (lv_at hl 0 rfl) ?_
  refine va_getN (D := (dC, dI)) (ci := 3) (v := .ref (b (46 + o))) (C := RX7) (T := TX7) (N := 6) hx hb hts in_X7 hown hK (hO _ _ (offE_lt (show o < ln (upd S (33 + 10 * o + 7) ((lr S o 7) + (nI 1))) from (by omega)) (by rw [hln]; exact hL))) 0 rfl rfl 0 (by decide) (va_Nw.use rfl (hCE.1 28 (by decide))) (fun _ h9 => h9) rfl dX5_reads_20 ?_
  refine lv_iload_n hx hb dX5_reads_23 rfl (lv_at hl 3 rfl) ?_
  refine lv_iload_n hx hb dX5_reads_24 rfl (lv_at hl 4 rfl) ?_
  refine o_iard SF hK hO (by rw [hln]; exact hJ) hS (Or.inl (oA_k (by unfold ownK; omega))) (by rw [hln]; omega) (by rw [hln]; omega) (by omega) dX5_reads_25 (fun H locs hO hz9 oq hS => ?_)
  have hln : ln (upd (upd S (33 + 10 * o + 7) ((lr S o 7) + (nI 1))) (33 + 10 * o + q) z) = ln S := (ln_upd (by omega)).trans hln
  have hz := Nat.le_trans hz (Nat.le_of_eq hz9.symm)
  refine lv_aload hx hb dX5_reads_26 (lv_at hl 0 rfl) ?_
  refine lv_iconst (v := nI 0) hx hb dX5_reads_28 (by decide) ?_
  refine o_p_state SF hK hO (by rw [hln]; exact hJ) hS (Or.inl (oA_k (by unfold ownK; omega))) (by rw [hln]; omega) (by rw [hln]; omega) (va_Nw.use rfl (hCE.1 30 (by decide))) dX5_reads_29 (fun H locs hO hz9 oq hS => ?_)
  have hln : ln (upd (upd (upd S (33 + 10 * o + 7) ((lr S o 7) + (nI 1))) (33 + 10 * o + q) z) (33 + 10 * o + 6) (nI 0)) = ln S := (ln_upd (by omega)).trans hln
  have hz := Nat.le_trans hz (Nat.le_of_eq hz9.symm)
  refine lv_aload hx hb dX5_reads_32 (lv_at hl 0 rfl) ?_
  refine lv_iconst (v := nI 0) hx hb dX5_reads_34 (by decide) ?_
  refine o_p_cause SF hK hO (by rw [hln]; exact hJ) hS (Or.inl (oA_k (by unfold ownK; omega))) (by rw [hln]; omega) (by rw [hln]; omega) (va_Nw.use rfl (hCE.1 32 (by decide))) dX5_reads_35 (fun H locs hO hz9 oq hS => ?_)
  have hln : ln (upd (upd (upd (upd S (33 + 10 * o + 7) ((lr S o 7) + (nI 1))) (33 + 10 * o + q) z) (33 + 10 * o + 6) (nI 0)) (33 + 10 * o + 8) (nI 0)) = ln S := (ln_upd (by omega)).trans hln
  have hz := Nat.le_trans hz (Nat.le_of_eq hz9.symm)
  refine lv_aload_n hx hb dX5_reads_38 rfl (lv_at hl 1 rfl) ?_
  refine lv_dup hx hb dX5_reads_39 rfl ?_
  refine va_get (D := (dC, dI)) (ci := 1) (v := .int ((upd (upd (upd (upd S (33 + 10 * o + 7) ((lr S o 7) + (nI 1))) (33 + 10 * o + q) z) (33 + 10 * o + 6) (nI 0)) (33 + 10 * o + 8) (nI 0)) 1)) (C := RX5) (T := TX5) (N := 10) hx hb hts in_X5 hown hK (hO 0 _ rfl) 0 rfl rfl 9 (by decide) (hts _ q852) (fun _ h9 => h9) rfl dX5_reads_40 ?_
  refine lv_iconst (v := nI 1) hx hb dX5_reads_43 (by decide) ?_
  refine lv_iadd hx hb dX5_reads_44 ?_
  refine o_pAgain SF hK hO (by rw [hln]; exact hJ) hS (Or.inl (oA_k (Or.inl rfl))) (hts _ q852) dX5_reads_45 (fun H locs hO hz9 oq hS => ?_)
  have hln : ln (upd (upd (upd (upd (upd S (33 + 10 * o + 7) ((lr S o 7) + (nI 1))) (33 + 10 * o + q) z) (33 + 10 * o + 6) (nI 0)) (33 + 10 * o + 8) (nI 0)) 1 (((upd (upd (upd (upd S (33 + 10 * o + 7) ((lr S o 7) + (nI 1))) (33 + 10 * o + q) z) (33 + 10 * o + 6) (nI 0)) (33 + 10 * o + 8) (nI 0)) 1) + (nI 1))) = ln S := (ln_upd (by decide)).trans hln
  have hz := Nat.le_trans hz (Nat.le_of_eq hz9.symm)
  exact hret _ _ _ _ _ _ (⟨rfl, by rw [agS_cls hq]; exact hO⟩) hS (by omega) (by omega) dX5_reads_48
end SRT2
