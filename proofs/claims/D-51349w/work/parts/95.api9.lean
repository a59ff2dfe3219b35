set_option maxRecDepth 100000
section API9
variable {p : Program} {l : Launch} {e : Env} {R : Room} {s : State} {m : MethodId} {args : Array Value} {below : List Frame} {meth : Method} {c : Code} {H : Heap} {locs : List Loc} {Q : State → Prop}
variable {cc : ByteArray} {pc nL : Nat} {ls : Array Slot} {rest : List Value} {dC : Nat → ClassId} {dI : Nat → Nat → Nat} {dA : Nat → ClassId} {a : Nat → Nat} {M : Nat → Nat → Int32} {H0 : Heap}

set_option maxHeartbeats 4000000 in
theorem c_X1_sortedWith (l : Launch) (dC : Nat → ClassId) (dI : Nat → Nat → Nat) (dA : Nat → ClassId) (g : Nat → Nat) (b : Nat → Nat) (mc : Nat → Int32) (S : Nat → Int32) (Hd : Nat → Int32) (n : Nat → Int32) (sz : Nat) (hs : Nat) (j : Nat) (hj : j ≤ 8) (hS1 : SWf S) (hT : TWf Hd) (hsz : sz ≤ hs) (hJ : offJ b (ln S) (tn Hd)) (hC : CWf S Hd) : Met l yX1_sortedWith (ws_ yX1_sortedWith cX1_sortedWith 3 (some (.int))) (rmD 16 (128) (907)) (gPx [.ref (g 0), .int (nI j)] (fun U H => cP dC dI (g 0) (obE g n (.ref (b 0))) H ∧ famP dC dI b (offE b dA mc S Hd) H ∧ EN sz U H) hs dC dI dA) (gQ hs (fun _ => False) (fun v H => v = some (.int (nI (sAn (upd S 0 (nI j)) Hd))))) (128) (907) (gF (fun _ => False) hs) := by
  refine g_meti (own := RX1) (by decide) rfl (Nat.le_of_ble_eq_true rfl) fun p e R s m args below meth c Q SF rk hRR hX hK hin hret ls hl => ?_
  have hx := SF.1
  have hb := SF.2.1
  have hml := SF.2.2.1
  have hown := SF.2.2.2.1
  have hts := SF.2.2.2.2
  have hz0 := hX.2
  have hz : hs ≤ s.heap.size := Nat.le_of_eq hX.2.symm
  have hX := hX.1
  have hRc := hRR.1
  have hRs := hRR.2
  have gFs : ∀ q : Nat, s.heap.size ≤ q → gF (fun _ => False) hs q := fun q h => Or.inr (hz0 ▸ h)
  have hS : va_S (gF (fun _ => False) hs) s.heap s.heap [] := va_S.rf
  have hl : lv_has ls 3 [(0, .ref (g 0)), (1, .int (nI j))] := hl
  have hP1 := hX.1
  have hO := hX.2.1
  have hEN := hX.2.2
  have hCE := hEN.1
  have hAz : ∀ q, gF (fun _ => False) hs q → sz ≤ q := fun q h => h.elim (fun e => e.elim) (fun h => Nat.le_trans hsz h)
  have hL := hS1.2.1
  have hn9 := hT.2.1
  refine g_new (ci := 1) (fs := [.null, .null, .null, .null, .null, .null, .null, .int 0, .int 0, .int 0]) (C := RX5) (T := TX5) (N := 10) hx hb hts in_X5 tyX5 tyX5_ok hown (hts _ q181) (hts _ q790) (hts _ q139) hK hS rfl (fun j hj => by rcases (show j = 0 ∨ j = 1 ∨ j = 2 ∨ j = 3 ∨ j = 4 ∨ j = 5 ∨ j = 6 ∨ j = 7 ∨ j = 8 ∨ j = 9 by omega) with rfl | rfl | rfl | rfl | rfl | rfl | rfl | rfl | rfl | rfl <;> rfl) (by omega) (by omega) dX1_sortedWith_0 (fun q1 H heq9 hq1 hz9 oq hS => ?_)
  have hge_q1 : hs ≤ q1 := by omega
  have hz : hs ≤ H.size := by omega
  refine lv_dup hx hb dX1_sortedWith_3 rfl ?_
  refine lv_aload_n hx hb dX1_sortedWith_4 rfl (lv_at hl 0 rfl) ?_
  refine va_get (D := (dC, dI)) (ci := 0) (v := .ref (b 0)) (C := RX1) (T := TX1) (N := 9) hx hb hts in_X1 hown hK (hP1.at hS hz0 (fun h => h)) 0 rfl rfl 4 (by decide) (hts _ q220) (fun _ h9 => h9) rfl dX1_sortedWith_5 ?_
  obtain ⟨hv, ehv⟩ : ∃ z, z = H.size := ⟨_, rfl⟩
  have hql : q1 < hv := ehv ▸ hq1.lt
  have hfl9 : ∀ k, useK (ln S) (tn Hd) k → b k < hs := fun k hk => hz0 ▸ fam_lt hO hn9 hL k hk
  refine g_run (g_rI (As := [.ref (b 0)]) SF hK (d := 4) (rk.le (Nat.le_of_ble_eq_true rfl)) (c_X5_init_2 l dC dI dA q1 b mc S Hd sz hv hS1 hT (by omega) (by omega) (fun k hk => Nat.ne_of_lt (Nat.lt_of_lt_of_le (hfl9 k hk) hge_q1))) q139 q1653 q1654 q1655 rfl (n := 1) (by decide +kernel) rfl (by decide) (XOK.hs (XOK.hp.and (XOK.hp.and EN.ok))) (⟨⟨hq1, hO.at hS hz0 (fun _ _ h => h), hEN.at hS hAz⟩, ehv.symm⟩) hl.1 (Nat.le_of_ble_eq_true rfl) ⟨(by omega), (by omega)⟩ rfl dX1_sortedWith_8) ehv.symm hS (fun z e => Or.inr (e ▸ hge_q1)) gFs (fun v9 H locs hP9 hz9 oq hS => ?_)
  obtain ⟨rfl, hO2, hz2⟩ := hP9
  have hz := Nat.le_trans hz hz9
  refine W.eq (g2 := F0 m 11 ls [.ref q1]) rfl ?_
  obtain ⟨b2, hb2⟩ : ∃ b2 : Nat → Nat, b2 = bN q1 hv b := ⟨_, rfl⟩
  rw [← hb2] at hO2
  have hJ2 : offJ b2 (ln S) (tn Hd) := by rw [hb2]; exact bN_J hn9 hL hJ hql (fun k hk => ⟨Nat.lt_of_lt_of_le (hfl9 k (by unfold useK; omega)) (by omega), Nat.ne_of_lt (Nat.lt_of_lt_of_le (hfl9 k (by unfold useK; omega)) hge_q1)⟩)
  have hob2 : ∀ k, ownK (ln S) k → hs ≤ b2 k := fun k hk => by rw [hb2]; rcases bN_own (x := q1) (hs := hv) (b := b) hk hL with e | e <;> omega
  have eb : q1 = b2 0 := by rw [hb2]; rfl
  rw [eb]
  have hOold := hO
  have hJold := hJ
  have hO := hO2
  have hJ := hJ2
  refine lv_astore_n (lv' := [(2, .ref (b2 0)), (0, .ref (g 0)), (1, .int (nI j))]) hx hb dX1_sortedWith_11 rfl hl (by decide) rfl (fun ls hl => ?_)
  refine lv_aload_n hx hb dX1_sortedWith_12 rfl (lv_at hl 0 rfl) ?_
  refine lv_iload_n hx hb dX1_sortedWith_13 rfl (lv_at hl 2 rfl) ?_
  refine o_pLimit SF hK hO hJ hS (Or.inr (hob2 _ (Or.inl rfl))) (va_Nw.use rfl (hCE.1 9 (by decide))) dX1_sortedWith_14 (fun H locs hO hz9 oq hS => ?_)
  have hln : ln (upd S 0 (nI j)) = ln S := (ln_upd (by decide))
  have hz := Nat.le_trans hz (Nat.le_of_eq hz9.symm)
  refine lv_aload_n hx hb dX1_sortedWith_17 rfl (lv_at hl 0 rfl) ?_
  refine g_run (g_rV (C := RX5) (As := []) SF hK (d := 15) (rk.le (Nat.le_of_ble_eq_true rfl)) (c_X5_sortsAll l dC dI dA b2 (mcN mc S) (upd S 0 (nI j)) Hd sz H.size (SWf_lim hS1 hj) hT (by omega) (by rw [hln]; exact hJ) (CWf_lim hC) (fun k hk => Nat.le_trans hsz (hob2 k (by rw [hln] at hk; exact hk)))) (lw_V q1666 q1115 q1116 q139 q1117) (n := 0) (by decide +kernel) rfl (by decide) (g_recv hK (hO 0 _ rfl) (ci := 1) rfl) (XOK.hs (XOK.hp.and EN.ok)) (⟨⟨hO, hEN.at hS hAz⟩, rfl⟩) hl.1 (Nat.le_of_ble_eq_true rfl) ⟨(by omega), (by omega)⟩ rfl dX1_sortedWith_18) rfl hS (fun q ⟨k, hk, e⟩ => Or.inr (e ▸ hob2 k (by rw [hln] at hk; exact hk))) gFs (fun v9 H locs hP9 hz9 oq hS => ?_)
  obtain ⟨rfl, hO3⟩ := hP9
  have hz := Nat.le_trans hz hz9
  refine W.eq (g2 := F0 m 21 ls [.int (nI (sAn (upd S 0 (nI j)) Hd))]) rfl ?_
  exact hret _ _ _ _ _ _ _ rfl hS (by omega) (by omega) dX1_sortedWith_21
end API9
