set_option maxRecDepth 100000
section API8
variable {p : Program} {l : Launch} {e : Env} {R : Room} {s : State} {m : MethodId} {args : Array Value} {below : List Frame} {meth : Method} {c : Code} {H : Heap} {locs : List Loc} {Q : State → Prop}
variable {cc : ByteArray} {pc nL : Nat} {ls : Array Slot} {rest : List Value} {dC : Nat → ClassId} {dI : Nat → Nat → Nat} {dA : Nat → ClassId} {a : Nat → Nat} {M : Nat → Nat → Int32} {H0 : Heap}

set_option maxHeartbeats 4000000 in
theorem c_X1_decidedWith (l : Launch) (dC : Nat → ClassId) (dI : Nat → Nat → Nat) (dA : Nat → ClassId) (b : Nat → Nat) (mc : Nat → Int32) (S : Nat → Int32) (Hd : Nat → Int32) (hs : Nat) (lt : Nat) (q : Nat) (z : Int32) (hlt : lt < ln S) (hq : q < 5) (hzr : rdOK z) (hS1 : SWf S) (hT : TWf Hd) (hJ : offJ b (ln S) (tn Hd)) : Met l yX1_decidedWith (ws_ yX1_decidedWith cX1_decidedWith 7 (some (.int))) (rmD 11 (0) (0)) (gPx [.ref (b 0), .int (nI lt), .int (nI q), .int z] (fun U H => famP dC dI b (offE b dA mc S Hd) H ∧ CE U) hs dC dI dA) (gQ hs (oA b (ln S)) (fun v H => v = some (.int (oI (dcd (upd S (33 + 10 * lt + q) z) Hd lt))) ∧ famP dC dI b (offE b dA mc S Hd) H)) (0) (0) (gF (oA b (ln S)) hs) := by
  refine g_meti (own := RX1) (by decide) rfl (Nat.le_of_ble_eq_true rfl) fun p e R s m args below meth c Q SF rk hRR hX hK hin hret ls hl => ?_
  have hx := SF.1
  have hb := SF.2.1
  have hml := SF.2.2.1
  have hown := SF.2.2.2.1
  have hts := SF.2.2.2.2
  have hz0 := hX.2
  have hz : hs ≤ s.heap.size := Nat.le_of_eq hX.2.symm
  have hX := hX.1
  have hRc := hRR.1
  have hRs := hRR.2
  have gFs : ∀ q : Nat, s.heap.size ≤ q → gF (oA b (ln S)) hs q := fun q h => Or.inr (hz0 ▸ h)
  have hS : va_S (gF (oA b (ln S)) hs) s.heap s.heap [] := va_S.rf
  have hl : lv_has ls 7 [(0, .ref (b 0)), (1, .int (nI lt)), (2, .int (nI q)), (3, .int z)] := hl
  have hO := hX.1
  have hCE := hX.2
  have hL := hS1.2.1
  have hn9 := hT.2.1
  refine lv_aload_n hx hb dX1_decidedWith_0 rfl (lv_at hl 0 rfl) ?_
  refine lv_iload_n hx hb dX1_decidedWith_1 rfl (lv_at hl 1 rfl) ?_
  refine x_runa (x_rV (C := RX5) (As := [.int (nI lt)]) SF hK (d := 3) (rk.le (Nat.le_of_ble_eq_true rfl)) (c_X5_letter l dC dI dA b mc S Hd lt (show lt < ln S by omega) hS1) (lw_V q187 q188 q189 q139 q190) (n := 1) (by decide +kernel) rfl (by decide) (g_recv hK (hO 0 _ rfl) (ci := 1) rfl) (XOK.hp.and CE.ok) (⟨hO, hCE⟩) hl.1 (Nat.le_of_ble_eq_true rfl) ⟨(by omega), (by omega)⟩ rfl dX1_decidedWith_2) ?_
  refine g_top (y := .ref (b (22 + lt))) rfl ?_
  refine lv_astore (lv' := [(4, .ref (b (22 + lt))), (0, .ref (b 0)), (1, .int (nI lt)), (2, .int (nI q)), (3, .int z)]) hx hb dX1_decidedWith_5 hl (by decide) rfl (fun ls hl => ?_)
  refine lv_aload hx hb dX1_decidedWith_7 (lv_at hl 0 rfl) ?_
  refine va_getN (D := (dC, dI)) (ci := 3) (v := .ref (b (46 + lt))) (C := RX7) (T := TX7) (N := 6) hx hb hts in_X7 hown hK (hO _ _ (offE_lt (show lt < ln S from (by omega)) hL)) 0 rfl rfl 0 (by decide) (va_Nw.use rfl (hCE.1 12 (by decide))) (fun _ h9 => h9) rfl dX1_decidedWith_9 ?_
  refine lv_iload_n hx hb dX1_decidedWith_12 rfl (lv_at hl 3 rfl) ?_
  refine u_iald hx hb hK (hO _ _ (offE_rd (show lt < ln S from (by omega)) hL)) 0 0 rfl rfl (i := q) (by omega) (by decide) dX1_decidedWith_13 ?_
  refine u_top (y := lr S lt q) (by first | exact clip_at (by omega) | rfl) ?_
  refine lv_istore (lv' := [(5, .int (lr S lt q)), (4, .ref (b (22 + lt))), (0, .ref (b 0)), (1, .int (nI lt)), (2, .int (nI q)), (3, .int z)]) hx hb dX1_decidedWith_14 hl (by decide) rfl (fun ls hl => ?_)
  refine lv_aload hx hb dX1_decidedWith_16 (lv_at hl 1 rfl) ?_
  refine va_getN (D := (dC, dI)) (ci := 3) (v := .ref (b (46 + lt))) (C := RX7) (T := TX7) (N := 6) hx hb hts in_X7 hown hK (hO _ _ (offE_lt (show lt < ln S from (by omega)) hL)) 0 rfl rfl 0 (by decide) (va_Nw.use rfl (hCE.1 12 (by decide))) (fun _ h9 => h9) rfl dX1_decidedWith_18 ?_
  refine lv_iload_n hx hb dX1_decidedWith_21 rfl (lv_at hl 4 rfl) ?_
  refine lv_iload_n hx hb dX1_decidedWith_22 rfl (lv_at hl 5 rfl) ?_
  refine o_iard SF hK hO hJ hS (Or.inl (oA_k (by unfold ownK; omega))) (by omega) (by omega) (by omega) dX1_decidedWith_23 (fun H locs hO hz9 oq hS => ?_)
  have hln : ln (upd S (33 + 10 * lt + q) z) = ln S := (ln_upd (by omega))
  have hz := Nat.le_trans hz (Nat.le_of_eq hz9.symm)
  refine lv_aload_n hx hb dX1_decidedWith_24 rfl (lv_at hl 2 rfl) ?_
  refine lv_iload_n hx hb dX1_decidedWith_25 rfl (lv_at hl 3 rfl) ?_
  refine u_run (x_rV (C := RX5) (As := [.int (nI lt)]) SF hK (d := 10) (rk.le (Nat.le_of_ble_eq_true rfl)) (c_X5_decided l dC dI dA b mc (upd S (33 + 10 * lt + q) z) Hd lt (by rw [hln]; exact hlt) (SWf_read hS1 hlt hq hzr) hT) (lw_V q1339 q1181 q1182 q139 q1183) (n := 1) (by decide +kernel) rfl (by decide) (g_recv hK (hO 0 _ rfl) (ci := 1) rfl) (XOK.hp.and CE.ok) (⟨hO, hCE⟩) hl.1 (Nat.le_of_ble_eq_true rfl) ⟨(by omega), (by omega)⟩ rfl dX1_decidedWith_26) ?_
  refine u_top (y := oI (dcd (upd S (33 + 10 * lt + q) z) Hd lt)) rfl ?_
  refine lv_istore (lv' := [(6, .int (oI (dcd (upd S (33 + 10 * lt + q) z) Hd lt))), (5, .int (lr S lt q)), (4, .ref (b (22 + lt))), (0, .ref (b 0)), (1, .int (nI lt)), (2, .int (nI q)), (3, .int z)]) hx hb dX1_decidedWith_29 hl (by decide) rfl (fun ls hl => ?_)
  refine lv_aload hx hb dX1_decidedWith_31 (lv_at hl 2 rfl) ?_
  refine va_getN (D := (dC, dI)) (ci := 3) (v := .ref (b (46 + lt))) (C := RX7) (T := TX7) (N := 6) hx hb hts in_X7 hown hK (hO _ _ (offE_lt (show lt < ln (upd S (33 + 10 * lt + q) z) from (by omega)) (by rw [hln]; exact hL))) 0 rfl rfl 0 (by decide) (va_Nw.use rfl (hCE.1 12 (by decide))) (fun _ h9 => h9) rfl dX1_decidedWith_33 ?_
  refine lv_iload_n hx hb dX1_decidedWith_36 rfl (lv_at hl 5 rfl) ?_
  refine lv_iload hx hb dX1_decidedWith_37 (lv_at hl 1 rfl) ?_
  refine o_iard SF hK hO (by rw [hln]; exact hJ) hS (Or.inl (oA_k (by unfold ownK; omega))) (by rw [hln]; omega) (by rw [hln]; omega) (by omega) dX1_decidedWith_39 (fun H locs hO hz9 oq hS => ?_)
  have hln : ln (upd (upd S (33 + 10 * lt + q) z) (33 + 10 * lt + q) (lr S lt q)) = ln S := (ln_upd (by omega)).trans hln
  have hz := Nat.le_trans hz (Nat.le_of_eq hz9.symm)
  refine lv_iload hx hb dX1_decidedWith_40 (lv_at hl 0 rfl) ?_
  exact hret _ _ _ _ _ _ _ (⟨rfl, by rw [show upd (upd S (33 + 10 * lt + q) z) (33 + 10 * lt + q) (lr S lt q) = S from upd_self] at hO; exact hO⟩) hS (by omega) (by omega) dX1_decidedWith_42
end API8
