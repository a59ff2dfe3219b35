set_option maxRecDepth 100000
section API11
variable {p : Program} {l : Launch} {e : Env} {R : Room} {s : State} {m : MethodId} {args : Array Value} {below : List Frame} {meth : Method} {c : Code} {H : Heap} {locs : List Loc} {Q : State → Prop}
variable {cc : ByteArray} {pc nL : Nat} {ls : Array Slot} {rest : List Value} {dC : Nat → ClassId} {dI : Nat → Nat → Nat} {dA : Nat → ClassId} {a : Nat → Nat} {M : Nat → Nat → Int32} {H0 : Heap}

set_option maxHeartbeats 4000000 in
theorem c_X1_decidedIf (l : Launch) (dC : Nat → ClassId) (dI : Nat → Nat → Nat) (dA : Nat → ClassId) (g : Nat → Nat) (b : Nat → Nat) (mc : Nat → Int32) (S : Nat → Int32) (Hd : Nat → Int32) (n : Nat → Int32) (sz : Nat) (hs : Nat) (x : Int32) (y : Int32) (z : Int32) (hS1 : SWf S) (hT : TWf Hd) (hg0 : ¬ oA b (ln S) (g 0)) (hob : ∀ k, ownK (ln S) k → sz ≤ b k) (hJ : offJ b (ln S) (tn Hd)) (hsz : sz ≤ hs) (hfl : l.stackTraces = false) : vx_Met l yX1_decidedIf (ws_ yX1_decidedIf cX1_decidedIf 5 (some (.int))) (rmD 12 (5) (30)) (gPx [.ref (g 0), .int x, .int y, .int z] (fun U H => AX dC dI dA g b mc S Hd n sz U H) hs dC dI dA) (gQ hs (oA b (ln S)) (fun v H => v = some (.int (oI (dcd (upd S (33 + 10 * x.toNatClampNeg + y.toNatClampNeg) z) Hd x.toNatClampNeg))) ∧ thC [(lo (n 1), 1), (inZ x.toInt 0 ((ln S : Int) - 1), 2), (inZ y.toInt 0 4, 2), (inZ z.toInt (-1) 9, 3)] = 0 ∧ AXh dC dI g b dA mc S Hd n H)) (gX hs (oA b (ln S)) (fun E q H => ¬ thC [(lo (n 1), 1), (inZ x.toInt 0 ((ln S : Int) - 1), 2), (inZ y.toInt 0 4, 2), (inZ z.toInt (-1) 9, 3)] = 0 ∧ E = nmA (thC [(lo (n 1), 1), (inZ x.toInt 0 ((ln S : Int) - 1), 2), (inZ y.toInt 0 4, 2), (inZ z.toInt (-1) 9, 3)]) ∧ AXh dC dI g b dA mc S Hd n H)) (5) (30) (gF (oA b (ln S)) hs) := by
  refine v_meti (own := RX1) (by decide) rfl (Nat.le_of_ble_eq_true rfl) fun p e R s m args below meth c Q SF rk hRR hX hK hin hE hret hthr hQ ls hl => ?_
  have hx := SF.1
  have hb := SF.2.1
  have hml := SF.2.2.1
  have hown := SF.2.2.2.1
  have hts := SF.2.2.2.2
  have hz0 := hX.2
  have hz : hs ≤ s.heap.size := Nat.le_of_eq hX.2.symm
  have hX := hX.1
  have hRc := hRR.1
  have hRs := hRR.2
  have gFs : ∀ q : Nat, s.heap.size ≤ q → gF (oA b (ln S)) hs q := fun q h => Or.inr (hz0 ▸ h)
  have hS : va_S (gF (oA b (ln S)) hs) s.heap s.heap [] := va_S.rf
  have hl : lv_has ls 5 [(0, .ref (g 0)), (1, .int x), (2, .int y), (3, .int z)] := hl
  have hEN := hX.2.2
  have hCE := hEN.1
  have hAz : ∀ q, gF (oA b (ln S)) hs q → sz ≤ q := fun q h => h.elim (fun ⟨k, hk, e⟩ => e ▸ hob k hk) (fun h => Nat.le_trans hsz h)
  obtain ⟨nv, hP0⟩ := AX.ob hX
  have hXc := hX
  have hL := hS1.2.1
  have hn9 := hT.2.1
  refine lv_aload_n hx hb dX1_decidedIf_0 rfl (lv_at hl 0 rfl) ?_
  refine lv_iload_n hx hb dX1_decidedIf_1 rfl (lv_at hl 1 rfl) ?_
  refine lv_iload_n hx hb dX1_decidedIf_2 rfl (lv_at hl 2 rfl) ?_
  refine g_runX (v_rV (C := RX1) (As := [.int x, .int y]) SF hK (d := 8) (rk.le (Nat.le_of_ble_eq_true rfl)) (c_X1_withPlace l dC dI dA g b mc S Hd n sz s.heap.size x y hS1 (show sz ≤ s.heap.size by omega) hfl) (lw_V q1451 q1453 qs32 q112 q1454) (n := 2) (by decide +kernel) rfl (by decide) (g_recv hK (hP0.at hS hz0 hg0) (ci := 0) rfl) (XOK.hs (XOK.hp.and (XOK.hp.and EN.ok))) (⟨hXc, rfl⟩) hl.1 (Nat.le_of_ble_eq_true rfl) ⟨(by omega), (by omega)⟩ rfl dX1_decidedIf_3) rfl hS (fun _ h => h.elim) gFs (fun v9 H locs hP9 hz9 oq hS => ?_) (fun E q9 ce H locs hP9 hz9 oq hS hce hcv hcl => ?_)
  · obtain ⟨rfl, hlo, hok1, hok2⟩ := hP9
    have hXc := AX.stay hXc oq
    have hz := Nat.le_trans hz hz9
    refine W.eq (g2 := F0 m 6 ls [.ref (b 0)]) rfl ?_
    have hn1 := lo_n hlo
    obtain ⟨hP1, hO⟩ := hX.2.1 hn1
    obtain ⟨lt, ht_lt, htb_lt, rfl⟩ := inZ_n hok1
    have hcl_lt : (nI lt).toNatClampNeg = lt := nI_clamp htb_lt
    obtain ⟨q, ht_q, htb_q, rfl⟩ := inZ_n hok2
    have hcl_q : (nI q).toNatClampNeg = q := nI_clamp htb_q
    refine lv_astore (lv' := [(4, .ref (b 0)), (0, .ref (g 0)), (1, .int (nI lt)), (2, .int (nI q)), (3, .int z)]) hx hb dX1_decidedIf_6 hl (by decide) rfl (fun ls hl => ?_)
    refine lv_iload_n hx hb dX1_decidedIf_8 rfl (lv_at hl 4 rfl) ?_
    refine u_run (x_rS (As := [.int z]) SF hK (d := 1) (rk.le (Nat.le_of_ble_eq_true rfl)) (c_X1_isDigit l dC dI dA z ) (lw_S q1636 q1637 q112 q1638) (n := 1) (by decide +kernel) rfl (by decide) (XOK.hp) (trivial) hl.1 (Nat.le_of_ble_eq_true rfl) ⟨(by omega), (by omega)⟩ rfl dX1_decidedIf_9) ?_
    refine u_top (y := nI ((inZ z.toInt (-1) 9).toNat)) rfl ?_
    refine g_runX (v_rS (As := [.int (nI ((inZ z.toInt (-1) 9).toNat))]) SF hK (d := 6) (rk.le (Nat.le_of_ble_eq_true rfl)) (c_X1_checkRange l dC dI dA sz H.size (inZ z.toInt (-1) 9) (show sz ≤ H.size by omega) hfl) (lw_S q1405 q1406 q112 q1407) (n := 1) (by decide +kernel) rfl (by decide) (XOK.hs (EN.ok)) (⟨hXc.2.2, rfl⟩) hl.1 (Nat.le_of_ble_eq_true rfl) ⟨(by omega), (by omega)⟩ rfl dX1_decidedIf_12) rfl hS (fun _ h => h.elim) gFs (fun v9 H locs hP9 hz9 oq hS => ?_) (fun E q9 ce H locs hP9 hz9 oq hS hce hcv hcl => ?_)
    · obtain ⟨rfl, hz1⟩ := hP9
      have hXc := AX.stay hXc oq
      have hz := Nat.le_trans hz hz9
      refine W.eq (g2 := F0 m 15 ls []) rfl ?_
      have hok3 := hz1
      refine lv_aload hx hb dX1_decidedIf_15 (lv_at hl 0 rfl) ?_
      refine lv_iload_n hx hb dX1_decidedIf_17 rfl (lv_at hl 2 rfl) ?_
      refine lv_iload_n hx hb dX1_decidedIf_18 rfl (lv_at hl 3 rfl) ?_
      refine lv_iload_n hx hb dX1_decidedIf_19 rfl (lv_at hl 4 rfl) ?_
      refine g_run (g_rS (As := [.ref (b 0), .int (nI lt), .int (nI q), .int z]) SF hK (d := 11) (rk.le (Nat.le_of_ble_eq_true rfl)) (c_X1_decidedWith l dC dI dA b mc S Hd H.size lt q z (by omega) (by omega) (inZ_rd hok3) hS1 hT hJ) (lw_S q1639 q1640 q112 q1641) (n := 4) (by decide +kernel) rfl (by decide) (XOK.hs (XOK.hp.and CE.ok)) (⟨⟨(hXc.2.1 hn1).2, hCE⟩, rfl⟩) hl.1 (Nat.le_of_ble_eq_true rfl) ⟨(by omega), (by omega)⟩ rfl dX1_decidedIf_20) rfl hS (fun q h => Or.inl h) gFs (fun v9 H locs hP9 hz9 oq hS => ?_)
      obtain ⟨rfl, hO⟩ := hP9
      have hz := Nat.le_trans hz hz9
      refine W.eq (g2 := F0 m 23 ls [.int (oI (dcd (upd S (33 + 10 * lt + q) z) Hd lt))]) rfl ?_
      exact hret _ _ _ _ _ _ _ (⟨by simp only [hcl_lt, hcl_q], by simp [thC, hlo, hok1, hok2, hok3], ⟨fun h9 => absurd h9 hn1, fun _ => ⟨hP1.at hS hz0 hg0, hO⟩⟩⟩) hS (by omega) (by omega) dX1_decidedIf_23
    · have hz := Nat.le_trans hz hz9
      obtain ⟨h9, rfl⟩ := hP9
      have hXc := AX.stay hXc oq
      exact hthr _ _ _ _ _ _ _ _ _ _ (⟨by simp [thC, hlo, hok1, hok2, h9], by simp [thC, hlo, hok1, hok2, h9, nmA], hXc.1, hXc.2.1⟩) hS (by omega) (by omega) hce hcv hcl
  · have hz := Nat.le_trans hz hz9
    obtain ⟨h9, rfl⟩ := hP9
    have hXc := AX.stay hXc oq
    have hth9 := thX (L1 := [(lo (n 1), 1), (inZ x.toInt 0 ((ln S : Int) - 1), 2), (inZ y.toInt 0 4, 2)]) (L2 := [(inZ z.toInt (-1) 9, 3)]) (nm := nmA) (nm' := nmA) h9 rfl rfl
    exact hthr _ _ _ _ _ _ _ _ _ _ (⟨hth9.1, hth9.2, hXc.1, hXc.2.1⟩) hS (by omega) (by omega) hce hcv hcl

set_option maxHeartbeats 4000000 in
theorem c_X1_helpful (l : Launch) (dC : Nat → ClassId) (dI : Nat → Nat → Nat) (dA : Nat → ClassId) (g : Nat → Nat) (b : Nat → Nat) (mc : Nat → Int32) (S : Nat → Int32) (Hd : Nat → Int32) (n : Nat → Int32) (sz : Nat) (hs : Nat) (x : Int32) (hS1 : SWf S) (hT : TWf Hd) (hg0 : ¬ oA b (ln S) (g 0)) (hob : ∀ k, ownK (ln S) k → sz ≤ b k) (hJ : offJ b (ln S) (tn Hd)) (hsz : sz ≤ hs) (hfl : l.stackTraces = false) : vx_Met l yX1_helpful (ws_ yX1_helpful cX1_helpful 4 (some (.int))) (rmD 12 (5) (30)) (gPx [.ref (g 0), .int x] (fun U H => AX dC dI dA g b mc S Hd n sz U H) hs dC dI dA) (gQ hs (oA b (ln S)) (fun v H => v = some (.int (oI (hlp S Hd x.toNatClampNeg))) ∧ thC [(lo (n 1), 1), (inZ x.toInt 0 ((ln S : Int) - 1), 2)] = 0 ∧ AXh dC dI g b dA mc S Hd n H)) (gX hs (oA b (ln S)) (fun E q H => ¬ thC [(lo (n 1), 1), (inZ x.toInt 0 ((ln S : Int) - 1), 2)] = 0 ∧ E = nmA (thC [(lo (n 1), 1), (inZ x.toInt 0 ((ln S : Int) - 1), 2)]) ∧ AXh dC dI g b dA mc S Hd n H)) (5) (30) (gF (oA b (ln S)) hs) := by
  refine v_meti (own := RX1) (by decide) rfl (Nat.le_of_ble_eq_true rfl) fun p e R s m args below meth c Q SF rk hRR hX hK hin hE hret hthr hQ ls hl => ?_
  have hx := SF.1
  have hb := SF.2.1
  have hml := SF.2.2.1
  have hown := SF.2.2.2.1
  have hts := SF.2.2.2.2
  have hz0 := hX.2
  have hz : hs ≤ s.heap.size := Nat.le_of_eq hX.2.symm
  have hX := hX.1
  have hRc := hRR.1
  have hRs := hRR.2
  have gFs : ∀ q : Nat, s.heap.size ≤ q → gF (oA b (ln S)) hs q := fun q h => Or.inr (hz0 ▸ h)
  have hS : va_S (gF (oA b (ln S)) hs) s.heap s.heap [] := va_S.rf
  have hl : lv_has ls 4 [(0, .ref (g 0)), (1, .int x)] := hl
  have hEN := hX.2.2
  have hCE := hEN.1
  have hAz : ∀ q, gF (oA b (ln S)) hs q → sz ≤ q := fun q h => h.elim (fun ⟨k, hk, e⟩ => e ▸ hob k hk) (fun h => Nat.le_trans hsz h)
  obtain ⟨nv, hP0⟩ := AX.ob hX
  have hXc := hX
  have hL := hS1.2.1
  have hn9 := hT.2.1
  refine lv_aload_n hx hb dX1_helpful_0 rfl (lv_at hl 0 rfl) ?_
  refine lv_iload_n hx hb dX1_helpful_1 rfl (lv_at hl 1 rfl) ?_
  refine g_runX (v_rV (C := RX1) (As := [.int x]) SF hK (d := 7) (rk.le (Nat.le_of_ble_eq_true rfl)) (c_X1_withLetter l dC dI dA g b mc S Hd n sz s.heap.size x hS1 (show sz ≤ s.heap.size by omega) hfl) (lw_V q1434 q1436 qs30 q112 q1437) (n := 1) (by decide +kernel) rfl (by decide) (g_recv hK (hP0.at hS hz0 hg0) (ci := 0) rfl) (XOK.hs (XOK.hp.and (XOK.hp.and EN.ok))) (⟨hXc, rfl⟩) hl.1 (Nat.le_of_ble_eq_true rfl) ⟨(by omega), (by omega)⟩ rfl dX1_helpful_2) rfl hS (fun _ h => h.elim) gFs (fun v9 H locs hP9 hz9 oq hS => ?_) (fun E q9 ce H locs hP9 hz9 oq hS hce hcv hcl => ?_)
  · obtain ⟨rfl, hlo, hok1⟩ := hP9
    have hXc := AX.stay hXc oq
    have hz := Nat.le_trans hz hz9
    refine W.eq (g2 := F0 m 5 ls [.ref (b 0)]) rfl ?_
    have hn1 := lo_n hlo
    obtain ⟨hP1, hO⟩ := hX.2.1 hn1
    obtain ⟨lt, ht_lt, htb_lt, rfl⟩ := inZ_n hok1
    have hcl_lt : (nI lt).toNatClampNeg = lt := nI_clamp htb_lt
    refine lv_astore_n (lv' := [(2, .ref (b 0)), (0, .ref (g 0)), (1, .int (nI lt))]) hx hb dX1_helpful_5 rfl hl (by decide) rfl (fun ls hl => ?_)
    have hO := (hXc.2.1 hn1).2
    refine lv_iconst (v := nI 0) hx hb dX1_helpful_6 (by decide) ?_
    refine lv_istore_n (lv' := [(3, .int (nI 0)), (2, .ref (b 0)), (0, .ref (g 0)), (1, .int (nI lt))]) hx hb dX1_helpful_7 rfl hl (by decide) rfl (fun ls hl => ?_)
    have lp8 : ∀ (k0 : Nat) (k : Nat), k ≤ 5 → (∀ j, j < k → hlpP S Hd lt j = false) → 5 < k + k0 → ∀ (H : Heap) (locs : List Loc), famP dC dI b (offE b dA mc S Hd) H → hs ≤ H.size → va_S (gF (oA b (ln S)) hs) s.heap H locs → ∀ ls : Array Slot, lv_has ls 4 [(3, .int (nI k)), (2, .ref (b 0)), (0, .ref (g 0)), (1, .int (nI lt))] → W p l e R s m args below meth c H locs (0 + 2) (0 + 12) Q (F0 m 8 ls []) := by
      intro k0
      induction k0 with
      | zero =>
        intro k hk1 hkf hk2; omega
      | succ k0 ih =>
        intro k hk1 hkf hk2 H locs hO hz hS ls hl
        have ih8 := ih
        refine lv_iload_n hx hb dX1_helpful_8 rfl (lv_at hl 0 rfl) ?_
        refine lv_iconst (v := nI 5) hx hb dX1_helpful_9 (by decide) ?_
        refine lv_icmp_ge (tgt := 41) hx hb dX1_helpful_10 (by decide) (fun c_10 => ?_) (fun c_10 => ?_)
        · have c_10 : 5 ≤ k := (nI_leI (a := 5) (b := k) (by omega) (by omega)).mp c_10
          refine lv_iconst (v := (-1)) hx hb dX1_helpful_41 (by decide) ?_
          exact hret _ _ _ _ _ _ _ (⟨by first | (rw [hcl_lt, (hlp_s hE).1]; rfl) | (rw [hcl_lt, hlp_end (by omega) hkf]; rfl), by simp [thC, hlo, hok1], ⟨fun h9 => absurd h9 hn1, fun _ => ⟨hP1.at hS hz0 hg0, hO⟩⟩⟩) hS (by omega) (by omega) dX1_helpful_42
        · have c_10 : ¬ (5 ≤ k) := fun q9 => c_10 ((nI_leI (a := 5) (b := k) (by omega) (by omega)).mpr q9)
          refine lv_aload_n hx hb dX1_helpful_13 rfl (lv_at hl 1 rfl) ?_
          refine lv_iload_n hx hb dX1_helpful_14 rfl (lv_at hl 3 rfl) ?_
          refine u_run (x_rV (C := RX5) (As := [.int (nI lt)]) SF hK (d := 10) (rk.le (Nat.le_of_ble_eq_true rfl)) (c_X5_decided l dC dI dA b mc S Hd lt (show lt < ln S by omega) hS1 hT) (lw_V q1339 q1181 q1182 q139 q1183) (n := 1) (by decide +kernel) rfl (by decide) (g_recv hK (hO 0 _ rfl) (ci := 1) rfl) (XOK.hp.and CE.ok) (⟨hO, hCE⟩) hl.1 (Nat.le_of_ble_eq_true rfl) ⟨(by omega), (by omega)⟩ rfl dX1_helpful_15) ?_
          refine u_top (y := oI (dcd S Hd lt)) rfl ?_
          rcases hE : dcd S Hd lt with _ | t9
          · refine u_top (y := (-1)) rfl ?_
            refine lv_iconst (v := (-1)) hx hb dX1_helpful_18 (by decide) ?_
            refine lv_icmp_ne (tgt := 41) hx hb dX1_helpful_19 (by decide) (fun c_19 => absurd (by decide) c_19) (fun c_19 => ?_)
            refine lv_aload_n hx hb dX1_helpful_22 rfl (lv_at hl 1 rfl) ?_
            refine lv_iload_n hx hb dX1_helpful_23 rfl (lv_at hl 3 rfl) ?_
            refine lv_iload_n hx hb dX1_helpful_24 rfl (lv_at hl 0 rfl) ?_
            refine lv_iconst (v := (-1)) hx hb dX1_helpful_25 (by decide) ?_
            refine g_run (g_rS (As := [.ref (b 0), .int (nI lt), .int (nI k), .int (-1)]) SF hK (d := 11) (rk.le (Nat.le_of_ble_eq_true rfl)) (c_X1_decidedWith l dC dI dA b mc S Hd H.size lt k (-1) (by omega) (by omega) (Or.inl rfl) hS1 hT hJ) (lw_S q1639 q1640 q112 q1641) (n := 4) (by decide +kernel) rfl (by decide) (XOK.hs (XOK.hp.and CE.ok)) (⟨⟨hO, hCE⟩, rfl⟩) hl.1 (Nat.le_of_ble_eq_true rfl) ⟨(by omega), (by omega)⟩ rfl dX1_helpful_26) rfl hS (fun q h => Or.inl h) gFs (fun v9 H locs hP9 hz9 oq hS => ?_)
            obtain ⟨rfl, hO⟩ := hP9
            have hz := Nat.le_trans hz hz9
            refine W.eq (g2 := F0 m 29 ls [.int (oI (dcd (upd S (33 + 10 * lt + k) (-1)) Hd lt))]) rfl ?_
            rcases hE2 : dcd (upd S (33 + 10 * lt + k) (-1)) Hd lt with _ | t8
            · refine u_top (y := (-1)) rfl ?_
              refine lv_iconst (v := (-1)) hx hb dX1_helpful_29 (by decide) ?_
              refine lv_icmp_eq (tgt := 35) hx hb dX1_helpful_30 (by decide) (fun c_30 => ?_) (fun c_30 => absurd (by decide) c_30)
              refine lv_iinc (v := nI (k + 1)) (lv' := [(3, .int (nI (k + 1))), (2, .ref (b 0)), (0, .ref (g 0)), (1, .int (nI lt))]) hx hb dX1_helpful_35 hl (k := 0) rfl (nI_add _ 1) (by decide) rfl (fun ls hl => ?_)
              refine lv_goto (tgt := 8) hx hb dX1_helpful_38 (by decide) ?_
              exact ih8 (k + 1) (by omega) (all_s hkf (hlpP_f2 hE2)) (by omega) _ _ hO hz hS ls (lv_sub hl [0, 1, 2, 3] rfl)
            · have ht8 := dcd_lt hE2
              refine u_top (y := nI t8) rfl ?_
              refine lv_iconst (v := (-1)) hx hb dX1_helpful_29 (by decide) ?_
              refine lv_icmp_eq (tgt := 35) hx hb dX1_helpful_30 (by decide) (fun c_30 => absurd c_30 (nI_m1 (by omega))) (fun c_30 => ?_)
              refine lv_iload_n hx hb dX1_helpful_33 rfl (lv_at hl 0 rfl) ?_
              exact hret _ _ _ _ _ _ _ (⟨by rw [hcl_lt, (hlp_f hE (by omega) hkf (hlpP_d hE hE2)).1]; rfl, by simp [thC, hlo, hok1], ⟨fun h9 => absurd h9 hn1, fun _ => ⟨hP1.at hS hz0 hg0, hO⟩⟩⟩) hS (by omega) (by omega) dX1_helpful_34
          · have ht9 := dcd_lt hE
            refine u_top (y := nI t9) rfl ?_
            refine lv_iconst (v := (-1)) hx hb dX1_helpful_18 (by decide) ?_
            refine lv_icmp_ne (tgt := 41) hx hb dX1_helpful_19 (by decide) (fun c_19 => ?_) (fun c_19 => absurd c_19 (nI_m1 (by omega)))
            refine lv_iconst (v := (-1)) hx hb dX1_helpful_41 (by decide) ?_
            exact hret _ _ _ _ _ _ _ (⟨by first | (rw [hcl_lt, (hlp_s hE).1]; rfl) | (rw [hcl_lt, hlp_end (by omega) hkf]; rfl), by simp [thC, hlo, hok1], ⟨fun h9 => absurd h9 hn1, fun _ => ⟨hP1.at hS hz0 hg0, hO⟩⟩⟩) hS (by omega) (by omega) dX1_helpful_42
    exact lp8 6 0 (by omega) (fun j h => absurd h (Nat.not_lt_zero j)) (by omega) _ _ hO hz hS ls (lv_sub hl [0, 1, 2, 3] rfl)
  · have hz := Nat.le_trans hz hz9
    obtain ⟨h9, rfl⟩ := hP9
    have hXc := AX.stay hXc oq
    have hth9 := thX (L1 := [(lo (n 1), 1), (inZ x.toInt 0 ((ln S : Int) - 1), 2)]) (L2 := []) (nm := nmA) (nm' := nmA) h9 rfl rfl
    exact hthr _ _ _ _ _ _ _ _ _ _ (⟨hth9.1, hth9.2, hXc.1, hXc.2.1⟩) hS (by omega) (by omega) hce hcv hcl
end API11
