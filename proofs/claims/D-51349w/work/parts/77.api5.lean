set_option maxRecDepth 100000
section API5
variable {p : Program} {l : Launch} {e : Env} {R : Room} {s : State} {m : MethodId} {args : Array Value} {below : List Frame} {meth : Method} {c : Code} {H : Heap} {locs : List Loc} {Q : State → Prop}
variable {cc : ByteArray} {pc nL : Nat} {ls : Array Slot} {rest : List Value} {dC : Nat → ClassId} {dI : Nat → Nat → Nat} {dA : Nat → ClassId} {a : Nat → Nat} {M : Nat → Nat → Int32} {H0 : Heap}

def rgL (S : Nat → Int32) (lt : Nat) : Nat → Int32
  | 0 => 0
  | k + 1 => rgL S lt k + nI (wgt k) * lr S lt k
theorem rgL_5 (S : Nat → Int32) (lt : Nat) : rgL S lt 5 = rgS S lt := by
  have h1 : nI 1 = (1 : Int32) := rfl
  simp only [rgL, rgS, wgt, if_true, if_false, true_or, or_true, h1, Int32.zero_add, Int32.one_mul, show ¬ (1 = 0 ∨ 1 = 2) by decide, show ¬ (3 = 0 ∨ 3 = 2) by decide, show ¬ (4 = 0 ∨ 4 = 2) by decide]
set_option maxHeartbeats 4000000 in
theorem c_X1_isRight (l : Launch) (dC : Nat → ClassId) (dI : Nat → Nat → Nat) (dA : Nat → ClassId) (g : Nat → Nat) (b : Nat → Nat) (mc : Nat → Int32) (S : Nat → Int32) (Hd : Nat → Int32) (n : Nat → Int32) (sz : Nat) (hs : Nat) (x : Int32) (hS1 : SWf S) (hsz : sz ≤ hs) (hfl : l.stackTraces = false) : vx_Met l yX1_isRight (ws_ yX1_isRight cX1_isRight 5 (some (.boolean))) (rmD 8 (5) (30)) (gPx [.ref (g 0), .int x] (fun U H => AX dC dI dA g b mc S Hd n sz U H) hs dC dI dA) (gQ hs (fun _ => False) (fun v H => v = some (.int (nI (rgt S x.toNatClampNeg).toNat)) ∧ thC [(lo (n 1), 1), (inZ x.toInt 0 ((ln S : Int) - 1), 2)] = 0)) (gX hs (fun _ => False) (fun E q H => ¬ thC [(lo (n 1), 1), (inZ x.toInt 0 ((ln S : Int) - 1), 2)] = 0 ∧ E = nmA (thC [(lo (n 1), 1), (inZ x.toInt 0 ((ln S : Int) - 1), 2)]))) (5) (30) (gF (fun _ => False) hs) := by
  refine v_metz (own := RX1) (by decide) rfl (Nat.le_of_ble_eq_true rfl) fun p e R s m args below meth c Q SF rk hRR hX hK hin hE hret hthr hQ ls hl => ?_
  have hx := SF.1
  have hb := SF.2.1
  have hml := SF.2.2.1
  have hown := SF.2.2.2.1
  have hts := SF.2.2.2.2
  have hz0 := hX.2
  have hz : hs ≤ s.heap.size := Nat.le_of_eq hX.2.symm
  have hX := hX.1
  have hRc := hRR.1
  have hRs := hRR.2
  have gFs : ∀ q : Nat, s.heap.size ≤ q → gF (fun _ => False) hs q := fun q h => Or.inr (hz0 ▸ h)
  have hS : va_S (gF (fun _ => False) hs) s.heap s.heap [] := va_S.rf
  have hl : lv_has ls 5 [(0, .ref (g 0)), (1, .int x)] := hl
  have hEN := hX.2.2
  have hCE := hEN.1
  have hAz : ∀ q, gF (fun _ => False) hs q → sz ≤ q := fun q h => h.elim (fun e => e.elim) (fun h => Nat.le_trans hsz h)
  obtain ⟨nv, hP0⟩ := AX.ob hX
  have hL := hS1.2.1
  refine lv_aload_n hx hb dX1_isRight_0 rfl (lv_at hl 0 rfl) ?_
  refine lv_iload_n hx hb dX1_isRight_1 rfl (lv_at hl 1 rfl) ?_
  refine g_runX (v_rV (C := RX1) (As := [.int x]) SF hK (d := 7) (rk.le (Nat.le_of_ble_eq_true rfl)) (c_X1_withLetter l dC dI dA g b mc S Hd n sz s.heap.size x hS1 (show sz ≤ s.heap.size by omega) hfl) (lw_V q1434 q1436 qs30 q112 q1437) (n := 1) (by decide +kernel) rfl (by decide) (g_recv hK (hP0.at hS hz0 (fun h => h)) (ci := 0) rfl) (XOK.hs (XOK.hp.and (XOK.hp.and EN.ok))) (⟨AX.at hX hS hz0 hsz, rfl⟩) hl.1 (Nat.le_of_ble_eq_true rfl) ⟨(by omega), (by omega)⟩ rfl dX1_isRight_2) rfl hS (fun _ h => h.elim) gFs (fun v9 H locs hP9 hz9 oq hS => ?_) (fun E q9 ce H locs hP9 hz9 oq hS hce hcv hcl => ?_)
  · obtain ⟨rfl, hlo, hok1⟩ := hP9
    have hz := Nat.le_trans hz hz9
    refine W.eq (g2 := F0 m 5 ls [.ref (b 0)]) rfl ?_
    have hn1 := lo_n hlo
    obtain ⟨hP1, hO⟩ := hX.2.1 hn1
    obtain ⟨lt, ht_lt, htb_lt, rfl⟩ := inZ_n hok1
    have hcl_lt : (nI lt).toNatClampNeg = lt := nI_clamp htb_lt
    refine lv_iload_n hx hb dX1_isRight_5 rfl (lv_at hl 1 rfl) ?_
    refine x_runa (x_rV (C := RX5) (As := [.int (nI lt)]) SF hK (d := 3) (rk.le (Nat.le_of_ble_eq_true rfl)) (c_X5_letter l dC dI dA b mc S Hd lt (show lt < ln S by omega) hS1) (lw_V q187 q188 q189 q139 q190) (n := 1) (by decide +kernel) rfl (by decide) (g_recv hK ((hO.at hS hz0 (fun _ _ h => h)) 0 _ rfl) (ci := 1) rfl) (XOK.hp.and CE.ok) (⟨(hO.at hS hz0 (fun _ _ h => h)), hCE⟩) hl.1 (Nat.le_of_ble_eq_true rfl) ⟨(by omega), (by omega)⟩ rfl dX1_isRight_6) ?_
    refine g_top (y := .ref (b (22 + lt))) rfl ?_
    refine lv_astore_n (lv' := [(2, .ref (b (22 + lt))), (0, .ref (g 0)), (1, .int (nI lt))]) hx hb dX1_isRight_9 rfl hl (by decide) rfl (fun ls hl => ?_)
    refine lv_iconst (v := nI 0) hx hb dX1_isRight_10 (by decide) ?_
    refine lv_istore_n (lv' := [(3, .int (nI 0)), (2, .ref (b (22 + lt))), (0, .ref (g 0)), (1, .int (nI lt))]) hx hb dX1_isRight_11 rfl hl (by decide) rfl (fun ls hl => ?_)
    refine lv_iconst (v := nI 0) hx hb dX1_isRight_12 (by decide) ?_
    refine lv_istore (lv' := [(4, .int (nI 0)), (3, .int (nI 0)), (2, .ref (b (22 + lt))), (0, .ref (g 0)), (1, .int (nI lt))]) hx hb dX1_isRight_13 hl (by decide) rfl (fun ls hl => ?_)
    have lp15 : ∀ (k0 : Nat) (k : Nat), k ≤ 5 → 5 < k + k0 → ∀ ls : Array Slot, lv_has ls 5 [(4, .int (nI k)), (3, .int (rgL S lt k)), (2, .ref (b (22 + lt))), (0, .ref (g 0)), (1, .int (nI lt))] → W p l e R s m args below meth c H locs (0 + 2) (0 + 12) Q (F0 m 15 ls []) := by
      intro k0
      induction k0 with
      | zero =>
        intro k hk1 hk2; omega
      | succ k0 ih =>
        intro k hk1 hk2 ls hl
        have ih15 := ih
        refine lv_iload hx hb dX1_isRight_15 (lv_at hl 0 rfl) ?_
        refine lv_iconst (v := nI 5) hx hb dX1_isRight_17 (by decide) ?_
        refine lv_icmp_ge (tgt := 43) hx hb dX1_isRight_18 (by decide) (fun c_18 => ?_) (fun c_18 => ?_)
        · have c_18 : 5 ≤ k := (nI_leI (a := 5) (b := k) (by omega) (by omega)).mp c_18
          have h5 : k = 5 := by omega
          have hu9 : unr S lt ≤ 5 := cntN_le _ _
          refine lv_aload_n hx hb dX1_isRight_43 rfl (lv_at hl 2 rfl) ?_
          refine u_run (x_rV (C := RX7) (As := []) SF hK (d := 1) (rk.le (Nat.le_of_ble_eq_true rfl)) (c_X7_unread l dC dI dA b mc S Hd lt (show lt < ln S by omega) hS1) (lw_V q1438 q1143 q1144 q144 q1145) (n := 0) (by decide +kernel) rfl (by decide) (g_recv hK ((hO.at hS hz0 (fun _ _ h => h)) _ _ (offE_lt (show lt < ln S from (by omega)) hS1.2.1)) (ci := 3) rfl) (XOK.hp.and CE.ok) (⟨(hO.at hS hz0 (fun _ _ h => h)), hCE⟩) hl.1 (Nat.le_of_ble_eq_true rfl) ⟨(by omega), (by omega)⟩ rfl dX1_isRight_44) ?_
          refine u_top (y := nI (unr S lt)) rfl ?_
          refine lv_if_ne (tgt := 61) hx hb dX1_isRight_47 (by decide) (fun c_47 => ?_) (fun c_47 => ?_)
          · have c_47 : ¬ (unr S lt = 0) := fun q9 => c_47 ((nI_eq (a := unr S lt) (b := 0) (by omega) (by omega)).mpr q9)
            refine lv_iconst (v := nI 0) hx hb dX1_isRight_61 (by decide) ?_
            exact hret _ _ _ _ _ _ _ ((rgt S lt)) (u_ff (by intro q9; first | (rw [rgt_0a (by omega)] at q9; cases q9) | (rw [rgt_0b (by rw [← rgL_5, ← h5]; exact c_54)] at q9; cases q9))) (⟨by rw [hcl_lt]; exact congrArg (fun z => some (Value.int z)) (u_ff (by intro q9; first | (rw [rgt_0a (by omega)] at q9; cases q9) | (rw [rgt_0b (by rw [← rgL_5, ← h5]; exact c_54)] at q9; cases q9))), by simp [thC, hlo, hok1]⟩) hS (by omega) (by omega) dX1_isRight_62
          · have c_47 : unr S lt = 0 := (nI_eq (a := unr S lt) (b := 0) (by omega) (by omega)).mp c_47
            refine lv_iload_n hx hb dX1_isRight_50 rfl (lv_at hl 1 rfl) ?_
            refine lv_bipush (v := nI 10) hx hb dX1_isRight_51 (by decide) ?_
            refine lv_irem hx hb dX1_isRight_53 (by decide) ?_
            refine lv_if_ne (tgt := 61) hx hb dX1_isRight_54 (by decide) (fun c_54 => ?_) (fun c_54 => ?_)
            · refine lv_iconst (v := nI 0) hx hb dX1_isRight_61 (by decide) ?_
              exact hret _ _ _ _ _ _ _ ((rgt S lt)) (u_ff (by intro q9; first | (rw [rgt_0a (by omega)] at q9; cases q9) | (rw [rgt_0b (by rw [← rgL_5, ← h5]; exact c_54)] at q9; cases q9))) (⟨by rw [hcl_lt]; exact congrArg (fun z => some (Value.int z)) (u_ff (by intro q9; first | (rw [rgt_0a (by omega)] at q9; cases q9) | (rw [rgt_0b (by rw [← rgL_5, ← h5]; exact c_54)] at q9; cases q9))), by simp [thC, hlo, hok1]⟩) hS (by omega) (by omega) dX1_isRight_62
            · refine lv_iconst (v := nI 1) hx hb dX1_isRight_57 (by decide) ?_
              refine lv_goto (tgt := 62) hx hb dX1_isRight_58 (by decide) ?_
              exact hret _ _ _ _ _ _ _ ((rgt S lt)) (u_tt (rgt_1 (by omega) (by rw [← rgL_5, ← h5]; exact c_54))) (⟨by rw [hcl_lt]; exact congrArg (fun z => some (Value.int z)) (u_tt (rgt_1 (by omega) (by rw [← rgL_5, ← h5]; exact c_54))), by simp [thC, hlo, hok1]⟩) hS (by omega) (by omega) dX1_isRight_62
        · have c_18 : ¬ (5 ≤ k) := fun q9 => c_18 ((nI_leI (a := 5) (b := k) (by omega) (by omega)).mpr q9)
          refine lv_iload_n hx hb dX1_isRight_21 rfl (lv_at hl 1 rfl) ?_
          refine lv_iload hx hb dX1_isRight_22 (lv_at hl 0 rfl) ?_
          refine u_run (x_rS (As := [.int (nI k)]) (X := fun _ _ => True) SF hK (d := 0) (rk.le (Nat.le_of_ble_eq_true rfl)) (c_X1_weight l dC dI dA k (show k < 5 by omega)) (lw_S q979 q980 q112 q981) (n := 1) (by decide +kernel) rfl (by decide) (XOK.hp) (trivial) hl.1 (Nat.le_of_ble_eq_true rfl) ⟨(by omega), (by omega)⟩ rfl dX1_isRight_24) ?_
          refine u_top (y := nI (wgt k)) rfl ?_
          refine lv_aload_n hx hb dX1_isRight_27 rfl (lv_at hl 2 rfl) ?_
          refine va_getN (D := (dC, dI)) (ci := 3) (v := .ref (b (46 + lt))) (C := RX7) (T := TX7) (N := 6) hx hb hts in_X7 hown hK ((hO.at hS hz0 (fun _ _ h => h)) _ _ (offE_lt (show lt < ln S from (by omega)) hS1.2.1)) 0 rfl rfl 0 (by decide) (va_Nw.use rfl (hCE.1 12 (by decide))) (fun _ h9 => h9) rfl dX1_isRight_28 ?_
          refine lv_iload hx hb dX1_isRight_31 (lv_at hl 0 rfl) ?_
          refine u_iald hx hb hK ((hO.at hS hz0 (fun _ _ h => h)) _ _ (offE_rd (show lt < ln S from (by omega)) hS1.2.1)) 0 0 rfl rfl (i := k) (by omega) (by decide) dX1_isRight_33 ?_
          refine u_top (y := lr S lt k) (by first | exact clip_at (by omega) | rfl) ?_
          refine lv_imul hx hb dX1_isRight_34 ?_
          refine lv_iadd hx hb dX1_isRight_35 ?_
          refine lv_istore_n (lv' := [(3, .int ((rgL S lt k) + ((nI (wgt k)) * (lr S lt k)))), (4, .int (nI k)), (2, .ref (b (22 + lt))), (0, .ref (g 0)), (1, .int (nI lt))]) hx hb dX1_isRight_36 rfl hl (by decide) rfl (fun ls hl => ?_)
          refine lv_iinc (v := nI (k + 1)) (lv' := [(4, .int (nI (k + 1))), (3, .int ((rgL S lt k) + ((nI (wgt k)) * (lr S lt k)))), (2, .ref (b (22 + lt))), (0, .ref (g 0)), (1, .int (nI lt))]) hx hb dX1_isRight_37 hl (k := 1) rfl (nI_add _ 1) (by decide) rfl (fun ls hl => ?_)
          refine lv_goto (tgt := 15) hx hb dX1_isRight_40 (by decide) ?_
          exact ih15 (k + 1) (by omega) (by omega) ls (lv_sub hl [0, 1, 2, 3, 4] rfl)
    exact lp15 (5 + 1) 0 (by omega) (by omega) ls (lv_sub hl [0, 1, 2, 3, 4] rfl)
  · have hz := Nat.le_trans hz hz9
    obtain ⟨h9, rfl⟩ := hP9
    exact hthr _ _ _ _ _ _ _ _ _ _ (thX (L1 := [(lo (n 1), 1), (inZ x.toInt 0 ((ln S : Int) - 1), 2)]) (L2 := []) (nm' := nmA) h9 rfl rfl) hS (by omega) (by omega) hce hcv hcl

set_option maxHeartbeats 4000000 in
theorem c_X1_causeIf (l : Launch) (dC : Nat → ClassId) (dI : Nat → Nat → Nat) (dA : Nat → ClassId) (g : Nat → Nat) (b : Nat → Nat) (mc : Nat → Int32) (S : Nat → Int32) (Hd : Nat → Int32) (n : Nat → Int32) (sz : Nat) (hs : Nat) (x : Int32) (hS1 : SWf S) (hT : TWf Hd) (hsz : sz ≤ hs) (hfl : l.stackTraces = false) : vx_Met l yX1_causeIf (ws_ yX1_causeIf cX1_causeIf 3 (some (.int))) (rmD 15 (5) (36)) (gPx [.ref (g 0), .int x] (fun U H => AX dC dI dA g b mc S Hd n sz U H) hs dC dI dA) (gQ hs (fun _ => False) (fun v H => v = some (.int ((if lr S x.toNatClampNeg 6 = 0 then nI (cau S Hd x.toNatClampNeg) else nI 0))) ∧ thC [(lo (n 1), 1), (inZ x.toInt 0 ((ln S : Int) - 1), 2)] = 0)) (gX hs (fun _ => False) (fun E q H => ¬ thC [(lo (n 1), 1), (inZ x.toInt 0 ((ln S : Int) - 1), 2)] = 0 ∧ E = nmA (thC [(lo (n 1), 1), (inZ x.toInt 0 ((ln S : Int) - 1), 2)]))) (5) (36) (gF (fun _ => False) hs) := by
  refine v_meti (own := RX1) (by decide) rfl (Nat.le_of_ble_eq_true rfl) fun p e R s m args below meth c Q SF rk hRR hX hK hin hE hret hthr hQ ls hl => ?_
  have hx := SF.1
  have hb := SF.2.1
  have hml := SF.2.2.1
  have hown := SF.2.2.2.1
  have hts := SF.2.2.2.2
  have hz0 := hX.2
  have hz : hs ≤ s.heap.size := Nat.le_of_eq hX.2.symm
  have hX := hX.1
  have hRc := hRR.1
  have hRs := hRR.2
  have gFs : ∀ q : Nat, s.heap.size ≤ q → gF (fun _ => False) hs q := fun q h => Or.inr (hz0 ▸ h)
  have hS : va_S (gF (fun _ => False) hs) s.heap s.heap [] := va_S.rf
  have hl : lv_has ls 3 [(0, .ref (g 0)), (1, .int x)] := hl
  have hEN := hX.2.2
  have hCE := hEN.1
  have hAz : ∀ q, gF (fun _ => False) hs q → sz ≤ q := fun q h => h.elim (fun e => e.elim) (fun h => Nat.le_trans hsz h)
  obtain ⟨nv, hP0⟩ := AX.ob hX
  have hL := hS1.2.1
  have hn9 := hT.2.1
  refine lv_aload_n hx hb dX1_causeIf_0 rfl (lv_at hl 0 rfl) ?_
  refine lv_iload_n hx hb dX1_causeIf_1 rfl (lv_at hl 1 rfl) ?_
  refine g_runX (v_rV (C := RX1) (As := [.int x]) SF hK (d := 7) (rk.le (Nat.le_of_ble_eq_true rfl)) (c_X1_withLetter l dC dI dA g b mc S Hd n sz s.heap.size x hS1 (show sz ≤ s.heap.size by omega) hfl) (lw_V q1434 q1436 qs30 q112 q1437) (n := 1) (by decide +kernel) rfl (by decide) (g_recv hK (hP0.at hS hz0 (fun h => h)) (ci := 0) rfl) (XOK.hs (XOK.hp.and (XOK.hp.and EN.ok))) (⟨AX.at hX hS hz0 hsz, rfl⟩) hl.1 (Nat.le_of_ble_eq_true rfl) ⟨(by omega), (by omega)⟩ rfl dX1_causeIf_2) rfl hS (fun _ h => h.elim) gFs (fun v9 H locs hP9 hz9 oq hS => ?_) (fun E q9 ce H locs hP9 hz9 oq hS hce hcv hcl => ?_)
  · obtain ⟨rfl, hlo, hok1⟩ := hP9
    have hz := Nat.le_trans hz hz9
    refine W.eq (g2 := F0 m 5 ls [.ref (b 0)]) rfl ?_
    have hn1 := lo_n hlo
    obtain ⟨hP1, hO⟩ := hX.2.1 hn1
    obtain ⟨lt, ht_lt, htb_lt, rfl⟩ := inZ_n hok1
    have hcl_lt : (nI lt).toNatClampNeg = lt := nI_clamp htb_lt
    refine lv_astore_n (lv' := [(2, .ref (b 0)), (0, .ref (g 0)), (1, .int (nI lt))]) hx hb dX1_causeIf_5 rfl hl (by decide) rfl (fun ls hl => ?_)
    refine lv_aload_n hx hb dX1_causeIf_6 rfl (lv_at hl 0 rfl) ?_
    refine lv_iload_n hx hb dX1_causeIf_7 rfl (lv_at hl 2 rfl) ?_
    refine x_runa (x_rV (C := RX5) (As := [.int (nI lt)]) SF hK (d := 3) (rk.le (Nat.le_of_ble_eq_true rfl)) (c_X5_letter l dC dI dA b mc S Hd lt (show lt < ln S by omega) hS1) (lw_V q187 q188 q189 q139 q190) (n := 1) (by decide +kernel) rfl (by decide) (g_recv hK ((hO.at hS hz0 (fun _ _ h => h)) 0 _ rfl) (ci := 1) rfl) (XOK.hp.and CE.ok) (⟨(hO.at hS hz0 (fun _ _ h => h)), hCE⟩) hl.1 (Nat.le_of_ble_eq_true rfl) ⟨(by omega), (by omega)⟩ rfl dX1_causeIf_8) ?_
    refine g_top (y := .ref (b (22 + lt))) rfl ?_
    refine va_getN (D := (dC, dI)) (ci := 3) (v := .int (lr S lt 6)) (C := RX7) (T := TX7) (N := 6) hx hb hts in_X7 hown hK ((hO.at hS hz0 (fun _ _ h => h)) _ _ (offE_lt (show lt < ln S from (by omega)) hS1.2.1)) 0 rfl rfl 2 (by decide) (va_Nw.use rfl (hCE.1 14 (by decide))) (fun _ h9 => h9) rfl dX1_causeIf_11 ?_
    refine lv_if_ne (tgt := 25) hx hb dX1_causeIf_14 (by decide) (fun c_14 => ?_) (fun c_14 => ?_)
    · refine lv_iconst (v := nI 0) hx hb dX1_causeIf_25 (by decide) ?_
      exact hret _ _ _ _ _ _ _ (⟨by rw [hcl_lt]; exact congrArg (fun z => some (Value.int z)) (if_neg c_14).symm, by simp [thC, hlo, hok1]⟩) hS (by omega) (by omega) dX1_causeIf_26
    · refine lv_aload_n hx hb dX1_causeIf_17 rfl (lv_at hl 0 rfl) ?_
      refine lv_iload_n hx hb dX1_causeIf_18 rfl (lv_at hl 2 rfl) ?_
      refine g_runX (v_rVW (C := RX5) (As := [.int (nI lt)]) SF hK (d := 14) (rk.le (Nat.le_of_ble_eq_true rfl)) (c_X5_cause l dC dI dA b mc S Hd sz H.size lt (show lt < ln S by omega) hS1 hT (show sz ≤ H.size by omega)) (lw_VW q1711 q1712 q1713 q139 q1714) (n := 1) (by decide +kernel) rfl (by decide) (g_recv hK ((hO.at hS hz0 (fun _ _ h => h)) 0 _ rfl) (ci := 1) rfl) (XOK.hs (XOK.hp.and EN.ok)) (⟨⟨hO.at hS hz0 (fun _ _ h => h), hEN.at hS hAz⟩, rfl⟩) hl.1 (Nat.le_of_ble_eq_true rfl) ⟨(by omega), (by omega)⟩ rfl dX1_causeIf_19) rfl hS (fun _ h => h.elim) gFs (fun v9 H locs hP9 hz9 oq hS => ?_) (fun E q9 ce H locs hP9 hz9 oq hS hce hcv hcl => ?_)
      · obtain ⟨rfl⟩ := hP9
        have hz := Nat.le_trans hz hz9
        refine W.eq (g2 := F0 m 22 ls [.int (nI (cau S Hd lt))]) rfl ?_
        refine lv_goto (tgt := 26) hx hb dX1_causeIf_22 (by decide) ?_
        exact hret _ _ _ _ _ _ _ (⟨by rw [hcl_lt]; exact congrArg (fun z => some (Value.int z)) (if_pos c_14).symm, by simp [thC, hlo, hok1]⟩) hS (by omega) (by omega) dX1_causeIf_26
      · have hz := Nat.le_trans hz hz9
        exact hP9.elim
  · have hz := Nat.le_trans hz hz9
    obtain ⟨h9, rfl⟩ := hP9
    exact hthr _ _ _ _ _ _ _ _ _ _ (thX (L1 := [(lo (n 1), 1), (inZ x.toInt 0 ((ln S : Int) - 1), 2)]) (L2 := []) (nm' := nmA) h9 rfl rfl) hS (by omega) (by omega) hce hcv hcl

set_option maxHeartbeats 4000000 in
theorem c_X1_share (l : Launch) (dC : Nat → ClassId) (dI : Nat → Nat → Nat) (dA : Nat → ClassId) (g : Nat → Nat) (b : Nat → Nat) (mc : Nat → Int32) (S : Nat → Int32) (Hd : Nat → Int32) (n : Nat → Int32) (sz : Nat) (hs : Nat) (hS1 : SWf S) (hsz : sz ≤ hs) (hfl : l.stackTraces = false) : vx_Met l yX1_share (ws_ yX1_share cX1_share 3 (some (.float))) (rmD 7 (5) (30)) (gPx [.ref (g 0)] (fun U H => AX dC dI dA g b mc S Hd n sz U H) hs dC dI dA) (gQ hs (fun _ => False) (fun v H => v = some (.float (shr S)) ∧ thC [(lo (n 1), 1)] = 0)) (gX hs (fun _ => False) (fun E q H => ¬ thC [(lo (n 1), 1)] = 0 ∧ E = nmA (thC [(lo (n 1), 1)]))) (5) (30) (gF (fun _ => False) hs) := by
  refine v_metf (own := RX1) (by decide) rfl (Nat.le_of_ble_eq_true rfl) fun p e R s m args below meth c Q SF rk hRR hX hK hin hE hret hthr hQ ls hl => ?_
  have hx := SF.1
  have hb := SF.2.1
  have hml := SF.2.2.1
  have hown := SF.2.2.2.1
  have hts := SF.2.2.2.2
  have hz0 := hX.2
  have hz : hs ≤ s.heap.size := Nat.le_of_eq hX.2.symm
  have hX := hX.1
  have hRc := hRR.1
  have hRs := hRR.2
  have gFs : ∀ q : Nat, s.heap.size ≤ q → gF (fun _ => False) hs q := fun q h => Or.inr (hz0 ▸ h)
  have hS : va_S (gF (fun _ => False) hs) s.heap s.heap [] := va_S.rf
  have hl : lv_has ls 3 [(0, .ref (g 0))] := hl
  have hEN := hX.2.2
  have hCE := hEN.1
  have hAz : ∀ q, gF (fun _ => False) hs q → sz ≤ q := fun q h => h.elim (fun e => e.elim) (fun h => Nat.le_trans hsz h)
  obtain ⟨nv, hP0⟩ := AX.ob hX
  have hL := hS1.2.1
  have hs12 := sts_12 S
  refine lv_aload_n hx hb dX1_share_0 rfl (lv_at hl 0 rfl) ?_
  refine g_runX (v_rV (C := RX1) (As := []) SF hK (d := 6) (rk.le (Nat.le_of_ble_eq_true rfl)) (c_X1_office l dC dI dA g b mc S Hd n sz s.heap.size (show sz ≤ s.heap.size by omega) hfl) (lw_V q1312 q1314 qs25 q112 q1315) (n := 0) (by decide +kernel) rfl (by decide) (g_recv hK (hP0.at hS hz0 (fun h => h)) (ci := 0) rfl) (XOK.hs (XOK.hp.and (XOK.hp.and EN.ok))) (⟨AX.at hX hS hz0 hsz, rfl⟩) hl.1 (Nat.le_of_ble_eq_true rfl) ⟨(by omega), (by omega)⟩ rfl dX1_share_1) rfl hS (fun _ h => h.elim) gFs (fun v9 H locs hP9 hz9 oq hS => ?_) (fun E q9 ce H locs hP9 hz9 oq hS hce hcv hcl => ?_)
  · obtain ⟨rfl, hlo⟩ := hP9
    have hz := Nat.le_trans hz hz9
    refine W.eq (g2 := F0 m 4 ls [.ref (b 0)]) rfl ?_
    have hn1 := lo_n hlo
    obtain ⟨hP1, hO⟩ := hX.2.1 hn1
    refine lv_astore_n (lv' := [(1, .ref (b 0)), (0, .ref (g 0))]) hx hb dX1_share_4 rfl hl (by decide) rfl (fun ls hl => ?_)
    refine lv_aload_n hx hb dX1_share_5 rfl (lv_at hl 0 rfl) ?_
    refine lv_iconst (v := nI 1) hx hb dX1_share_6 (by decide) ?_
    refine u_run (x_rV (C := RX5) (As := [.int (nI 1)]) SF hK (d := 4) (rk.le (Nat.le_of_ble_eq_true rfl)) (c_X5_inState l dC dI dA b mc S Hd (nI 1) hS1) (lw_V q1331 q1332 q1333 q139 q1334) (n := 1) (by decide +kernel) rfl (by decide) (g_recv hK ((hO.at hS hz0 (fun _ _ h => h)) 0 _ rfl) (ci := 1) rfl) (XOK.hp.and CE.ok) (⟨(hO.at hS hz0 (fun _ _ h => h)), hCE⟩) hl.1 (Nat.le_of_ble_eq_true rfl) ⟨(by omega), (by omega)⟩ rfl dX1_share_7) ?_
    refine u_top (y := nI (sts S (nI 1))) rfl ?_
    refine lv_aload_n hx hb dX1_share_10 rfl (lv_at hl 0 rfl) ?_
    refine lv_iconst (v := nI 2) hx hb dX1_share_11 (by decide) ?_
    refine u_run (x_rV (C := RX5) (As := [.int (nI 2)]) SF hK (d := 4) (rk.le (Nat.le_of_ble_eq_true rfl)) (c_X5_inState l dC dI dA b mc S Hd (nI 2) hS1) (lw_V q1331 q1332 q1333 q139 q1334) (n := 1) (by decide +kernel) rfl (by decide) (g_recv hK ((hO.at hS hz0 (fun _ _ h => h)) 0 _ rfl) (ci := 1) rfl) (XOK.hp.and CE.ok) (⟨(hO.at hS hz0 (fun _ _ h => h)), hCE⟩) hl.1 (Nat.le_of_ble_eq_true rfl) ⟨(by omega), (by omega)⟩ rfl dX1_share_12) ?_
    refine u_top (y := nI (sts S (nI 2))) rfl ?_
    refine lv_iadd hx hb dX1_share_15 ?_
    refine u_top (nI_add _ _) ?_
    refine lv_istore_n (lv' := [(2, .int (nI (sts S (nI 1) + (sts S (nI 2))))), (1, .ref (b 0)), (0, .ref (g 0))]) hx hb dX1_share_16 rfl hl (by decide) rfl (fun ls hl => ?_)
    refine lv_iload_n hx hb dX1_share_17 rfl (lv_at hl 0 rfl) ?_
    refine lv_if_ne (tgt := 25) hx hb dX1_share_18 (by decide) (fun c_18 => ?_) (fun c_18 => ?_)
    · have c_18 : ¬ (sts S (nI 1) + (sts S (nI 2)) = 0) := fun q9 => c_18 ((nI_eq (a := sts S (nI 1) + (sts S (nI 2))) (b := 0) (by omega) (by omega)).mpr q9)
      refine lv_aload_n hx hb dX1_share_25 rfl (lv_at hl 1 rfl) ?_
      refine lv_iconst (v := nI 1) hx hb dX1_share_26 (by decide) ?_
      refine u_run (x_rV (C := RX5) (As := [.int (nI 1)]) SF hK (d := 4) (rk.le (Nat.le_of_ble_eq_true rfl)) (c_X5_inState l dC dI dA b mc S Hd (nI 1) hS1) (lw_V q1331 q1332 q1333 q139 q1334) (n := 1) (by decide +kernel) rfl (by decide) (g_recv hK ((hO.at hS hz0 (fun _ _ h => h)) 0 _ rfl) (ci := 1) rfl) (XOK.hp.and CE.ok) (⟨(hO.at hS hz0 (fun _ _ h => h)), hCE⟩) hl.1 (Nat.le_of_ble_eq_true rfl) ⟨(by omega), (by omega)⟩ rfl dX1_share_27) ?_
      refine u_top (y := nI (sts S (nI 1))) rfl ?_
      refine lv_i2f hx hb dX1_share_30 ?_
      refine lv_iload_n hx hb dX1_share_31 rfl (lv_at hl 0 rfl) ?_
      refine lv_i2f hx hb dX1_share_32 ?_
      refine lv_fdiv hx hb dX1_share_33 (fin32 _ (by omega) _ (by omega) (by omega)) ?_
      exact hret _ _ _ _ _ _ _ (⟨by rw [shr]; exact congrArg (fun z => some (Value.float z)) (if_neg c_18).symm, by simp [thC, hlo]⟩) hS (by omega) (by omega) dX1_share_34
    · have c_18 : sts S (nI 1) + (sts S (nI 2)) = 0 := (nI_eq (a := sts S (nI 1) + (sts S (nI 2))) (b := 0) (by omega) (by omega)).mp c_18
      refine lv_fconst0 hx hb dX1_share_21 ?_
      refine lv_goto (tgt := 34) hx hb dX1_share_22 (by decide) ?_
      exact hret _ _ _ _ _ _ _ (⟨by rw [shr]; exact congrArg (fun z => some (Value.float z)) (if_pos c_18).symm, by simp [thC, hlo]⟩) hS (by omega) (by omega) dX1_share_34
  · have hz := Nat.le_trans hz hz9
    obtain ⟨h9, rfl⟩ := hP9
    exact hthr _ _ _ _ _ _ _ _ _ _ (thX (L1 := [(lo (n 1), 1)]) (L2 := []) (nm' := nmA) h9 rfl (by first | rfl | (rw [thC_n1 h9]; try rfl))) hS (by omega) (by omega) hce hcv hcl

set_option maxHeartbeats 4000000 in
theorem c_X1_meanDistance (l : Launch) (dC : Nat → ClassId) (dI : Nat → Nat → Nat) (dA : Nat → ClassId) (g : Nat → Nat) (b : Nat → Nat) (mc : Nat → Int32) (S : Nat → Int32) (Hd : Nat → Int32) (n : Nat → Int32) (sz : Nat) (hs : Nat) (hS1 : SWf S) (hT : TWf Hd) (hsz : sz ≤ hs) (hfl : l.stackTraces = false) : vx_Met l yX1_meanDistance (ws_ yX1_meanDistance cX1_meanDistance 6 (some (.double))) (rmD 11 (5) (30)) (gPx [.ref (g 0)] (fun U H => AX dC dI dA g b mc S Hd n sz U H) hs dC dI dA) (gQ hs (fun _ => False) (fun v H => v = some (.double (mdV S Hd)) ∧ thC [(lo (n 1), 1)] = 0)) (gX hs (fun _ => False) (fun E q H => ¬ thC [(lo (n 1), 1)] = 0 ∧ E = nmA (thC [(lo (n 1), 1)]))) (5) (30) (gF (fun _ => False) hs) := by
  refine v_metd (own := RX1) (by decide) rfl (Nat.le_of_ble_eq_true rfl) fun p e R s m args below meth c Q SF rk hRR hX hK hin hE hret hthr hQ ls hl => ?_
  have hx := SF.1
  have hb := SF.2.1
  have hml := SF.2.2.1
  have hown := SF.2.2.2.1
  have hts := SF.2.2.2.2
  have hz0 := hX.2
  have hz : hs ≤ s.heap.size := Nat.le_of_eq hX.2.symm
  have hX := hX.1
  have hRc := hRR.1
  have hRs := hRR.2
  have gFs : ∀ q : Nat, s.heap.size ≤ q → gF (fun _ => False) hs q := fun q h => Or.inr (hz0 ▸ h)
  have hS : va_S (gF (fun _ => False) hs) s.heap s.heap [] := va_S.rf
  have hl : lv_has ls 6 [(0, .ref (g 0))] := hl
  have hEN := hX.2.2
  have hCE := hEN.1
  have hAz : ∀ q, gF (fun _ => False) hs q → sz ≤ q := fun q h => h.elim (fun e => e.elim) (fun h => Nat.le_trans hsz h)
  obtain ⟨nv, hP0⟩ := AX.ob hX
  have hL := hS1.2.1
  have hn9 := hT.2.1
  refine lv_aload_n hx hb dX1_meanDistance_0 rfl (lv_at hl 0 rfl) ?_
  refine g_runX (v_rV (C := RX1) (As := []) SF hK (d := 6) (rk.le (Nat.le_of_ble_eq_true rfl)) (c_X1_office l dC dI dA g b mc S Hd n sz s.heap.size (show sz ≤ s.heap.size by omega) hfl) (lw_V q1312 q1314 qs25 q112 q1315) (n := 0) (by decide +kernel) rfl (by decide) (g_recv hK (hP0.at hS hz0 (fun h => h)) (ci := 0) rfl) (XOK.hs (XOK.hp.and (XOK.hp.and EN.ok))) (⟨AX.at hX hS hz0 hsz, rfl⟩) hl.1 (Nat.le_of_ble_eq_true rfl) ⟨(by omega), (by omega)⟩ rfl dX1_meanDistance_1) rfl hS (fun _ h => h.elim) gFs (fun v9 H locs hP9 hz9 oq hS => ?_) (fun E q9 ce H locs hP9 hz9 oq hS hce hcv hcl => ?_)
  · obtain ⟨rfl, hlo⟩ := hP9
    have hz := Nat.le_trans hz hz9
    refine W.eq (g2 := F0 m 4 ls [.ref (b 0)]) rfl ?_
    have hn1 := lo_n hlo
    obtain ⟨hP1, hO⟩ := hX.2.1 hn1
    refine lv_astore_n (lv' := [(1, .ref (b 0)), (0, .ref (g 0))]) hx hb dX1_meanDistance_4 rfl hl (by decide) rfl (fun ls hl => ?_)
    refine lv_iconst (v := nI 0) hx hb dX1_meanDistance_5 (by decide) ?_
    refine lv_istore_n (lv' := [(2, .int (nI 0)), (1, .ref (b 0)), (0, .ref (g 0))]) hx hb dX1_meanDistance_6 rfl hl (by decide) rfl (fun ls hl => ?_)
    refine lv_iconst (v := nI 0) hx hb dX1_meanDistance_7 (by decide) ?_
    refine lv_istore_n (lv' := [(3, .int (nI 0)), (2, .int (nI 0)), (1, .ref (b 0)), (0, .ref (g 0))]) hx hb dX1_meanDistance_8 rfl hl (by decide) rfl (fun ls hl => ?_)
    refine lv_iconst (v := nI 0) hx hb dX1_meanDistance_9 (by decide) ?_
    refine lv_istore (lv' := [(4, .int (nI 0)), (3, .int (nI 0)), (2, .int (nI 0)), (1, .ref (b 0)), (0, .ref (g 0))]) hx hb dX1_meanDistance_10 hl (by decide) rfl (fun ls hl => ?_)
    have lp12 : ∀ (k0 : Nat) (k : Nat), k ≤ ln S → ln S < k + k0 → ∀ ls : Array Slot, lv_has ls 6 [(4, .int (nI k)), (3, .int (nI (mdN S Hd k))), (2, .int (nI (mdS S Hd k))), (1, .ref (b 0)), (0, .ref (g 0))] → W p l e R s m args below meth c H locs (0 + 1) (0 + 6) Q (F0 m 12 ls []) := by
      intro k0
      induction k0 with
      | zero =>
        intro k hk1 hk2; omega
      | succ k0 ih =>
        intro k hk1 hk2 ls hl
        have ih12 := ih
        have hm9 := md_le (S := S) (Hd := Hd) k
        refine lv_iload hx hb dX1_meanDistance_12 (lv_at hl 0 rfl) ?_
        refine lv_aload_n hx hb dX1_meanDistance_14 rfl (lv_at hl 3 rfl) ?_
        refine va_getN (D := (dC, dI)) (ci := 1) (v := .ref (b 3)) (C := RX5) (T := TX5) (N := 10) hx hb hts in_X5 hown hK ((hO.at hS hz0 (fun _ _ h => h)) 0 _ rfl) 0 rfl rfl 1 (by decide) (va_Nw.use rfl (hCE.1 3 (by decide))) (fun _ h9 => h9) rfl dX1_meanDistance_15 ?_
        refine x_run5 (x_rF (C := RJ20) (As := []) (hK.1 6 _ rfl).2 SF hK (d := 0) (rk.le (Nat.le_of_ble_eq_true rfl)) (c_J20_size l dC dI dA (b 3) (b 4) (ln S) (mc 1) 24 (fun o => if o < ln S then some (b (22 + o)) else none) ) (lw_F q1303 q954 q956 q141 q958) (hCE.2.2 7 (by decide)) (n := 0) (by decide +kernel) rfl (by decide) (g_recv hK ((hO.at hS hz0 (fun _ _ h => h)) 3 _ rfl) (ci := 6) rfl) (XOK.hp) (⟨(hO.at hS hz0 (fun _ _ h => h)) 3 _ rfl, (hO.at hS hz0 (fun _ _ h => h)) 4 _ rfl⟩) hl.1 (Nat.le_of_ble_eq_true rfl) ⟨(by omega), (by omega)⟩ rfl dX1_meanDistance_18) ?_
        refine u_top (y := nI (ln S)) rfl ?_
        refine lv_icmp_ge (tgt := 63) hx hb dX1_meanDistance_23 (by decide) (fun c_23 => ?_) (fun c_23 => ?_)
        · have c_23 : (ln S) ≤ k := (nI_leI (a := (ln S)) (b := k) (by omega) (by omega)).mp c_23
          refine lv_iload_n hx hb dX1_meanDistance_63 rfl (lv_at hl 1 rfl) ?_
          refine lv_if_ne (tgt := 71) hx hb dX1_meanDistance_64 (by decide) (fun c_64 => ?_) (fun c_64 => ?_)
          · have c_64 : ¬ (mdN S Hd k = 0) := fun q9 => c_64 ((nI_eq (a := mdN S Hd k) (b := 0) (by omega) (by omega)).mpr q9)
            refine lv_iload_n hx hb dX1_meanDistance_71 rfl (lv_at hl 2 rfl) ?_
            refine lv_i2d hx hb dX1_meanDistance_72 ?_
            refine lv_iload_n hx hb dX1_meanDistance_73 rfl (lv_at hl 1 rfl) ?_
            refine lv_i2d hx hb dX1_meanDistance_74 ?_
            refine lv_ddiv hx hb dX1_meanDistance_75 (fin64 _ (by omega) (by omega) _ (by omega)) ?_
            exact hret _ _ _ _ _ _ _ (⟨by rw [mdV, show ln S = k by omega]; exact congrArg (fun z => some (Value.double z)) (if_neg c_64).symm, by simp [thC, hlo]⟩) hS (by omega) (by omega) dX1_meanDistance_76
          · have c_64 : mdN S Hd k = 0 := (nI_eq (a := mdN S Hd k) (b := 0) (by omega) (by omega)).mp c_64
            refine lv_dconst0 hx hb dX1_meanDistance_67 ?_
            refine lv_goto (tgt := 76) hx hb dX1_meanDistance_68 (by decide) ?_
            exact hret _ _ _ _ _ _ _ (⟨by rw [mdV, show ln S = k by omega]; exact congrArg (fun z => some (Value.double z)) (if_pos c_64).symm, by simp [thC, hlo]⟩) hS (by omega) (by omega) dX1_meanDistance_76
        · have c_23 : ¬ ((ln S) ≤ k) := fun q9 => c_23 ((nI_leI (a := (ln S)) (b := k) (by omega) (by omega)).mpr q9)
          refine lv_aload_n hx hb dX1_meanDistance_26 rfl (lv_at hl 3 rfl) ?_
          refine lv_iload hx hb dX1_meanDistance_27 (lv_at hl 0 rfl) ?_
          refine u_run (x_rV (C := RX5) (As := [.int (nI k)]) SF hK (d := 10) (rk.le (Nat.le_of_ble_eq_true rfl)) (c_X5_decided l dC dI dA b mc S Hd k (show k < ln S by omega) hS1 hT) (lw_V q1339 q1181 q1182 q139 q1183) (n := 1) (by decide +kernel) rfl (by decide) (g_recv hK ((hO.at hS hz0 (fun _ _ h => h)) 0 _ rfl) (ci := 1) rfl) (XOK.hp.and CE.ok) (⟨(hO.at hS hz0 (fun _ _ h => h)), hCE⟩) hl.1 (Nat.le_of_ble_eq_true rfl) ⟨(by omega), (by omega)⟩ rfl dX1_meanDistance_29) ?_
          refine u_top (y := oI (dcd S Hd k)) rfl ?_
          rcases hE : dcd S Hd k with _ | t9
          · refine u_top (y := (-1)) rfl ?_
            refine lv_istore (lv' := [(5, .int (-1)), (4, .int (nI k)), (3, .int (nI (mdN S Hd k))), (2, .int (nI (mdS S Hd k))), (1, .ref (b 0)), (0, .ref (g 0))]) hx hb dX1_meanDistance_32 hl (by decide) rfl (fun ls hl => ?_)
            refine lv_iload hx hb dX1_meanDistance_34 (lv_at hl 0 rfl) ?_
            refine lv_iconst (v := (-1)) hx hb dX1_meanDistance_36 (by decide) ?_
            refine lv_icmp_ne (tgt := 43) hx hb dX1_meanDistance_37 (by decide) (fun c_37 => absurd (by decide) c_37) (fun c_37 => ?_)
            refine lv_goto (tgt := 57) hx hb dX1_meanDistance_40 (by decide) ?_
            have e9_3 : nI (mdN S Hd (k + 1)) = nI (mdN S Hd k) := (by show nI (mdN S Hd k + (dcd S Hd k).isSome.toNat) = _; rw [hE]; rfl)
            have hl : lv_has ls 6 [(5, .int (-1)), (4, .int (nI k)), (3, .int (nI (mdN S Hd (k + 1)))), (2, .int (nI (mdS S Hd k))), (1, .ref (b 0)), (0, .ref (g 0))] := by rw [e9_3]; exact hl
            have e9_2 : nI (mdS S Hd (k + 1)) = nI (mdS S Hd k) := (by show nI (mdS S Hd k + mdF S Hd k) = _; first | (rw [mdF, hE]; done) | (rw [mdF, hE]; rfl))
            have hl : lv_has ls 6 [(5, .int (-1)), (4, .int (nI k)), (3, .int (nI (mdN S Hd (k + 1)))), (2, .int (nI (mdS S Hd (k + 1)))), (1, .ref (b 0)), (0, .ref (g 0))] := by rw [e9_2]; exact hl
            refine lv_iinc (v := nI (k + 1)) (lv' := [(4, .int (nI (k + 1))), (5, .int (-1)), (3, .int (nI (mdN S Hd (k + 1)))), (2, .int (nI (mdS S Hd (k + 1)))), (1, .ref (b 0)), (0, .ref (g 0))]) hx hb dX1_meanDistance_57 hl (k := 1) rfl (nI_add _ 1) (by decide) rfl (fun ls hl => ?_)
            refine lv_goto (tgt := 12) hx hb dX1_meanDistance_60 (by decide) ?_
            exact ih12 (k + 1) (by omega) (by omega) ls (lv_sub hl [0, 2, 3, 4, 5] rfl)
          · have ht9 := dcd_lt hE
            refine u_top (y := nI t9) rfl ?_
            refine lv_istore (lv' := [(5, .int (nI t9)), (4, .int (nI k)), (3, .int (nI (mdN S Hd k))), (2, .int (nI (mdS S Hd k))), (1, .ref (b 0)), (0, .ref (g 0))]) hx hb dX1_meanDistance_32 hl (by decide) rfl (fun ls hl => ?_)
            refine lv_iload hx hb dX1_meanDistance_34 (lv_at hl 0 rfl) ?_
            refine lv_iconst (v := (-1)) hx hb dX1_meanDistance_36 (by decide) ?_
            refine lv_icmp_ne (tgt := 43) hx hb dX1_meanDistance_37 (by decide) (fun c_37 => ?_) (fun c_37 => absurd c_37 (nI_m1 (by omega)))
            refine lv_iload_n hx hb dX1_meanDistance_43 rfl (lv_at hl 3 rfl) ?_
            refine lv_aload_n hx hb dX1_meanDistance_44 rfl (lv_at hl 4 rfl) ?_
            have hf9 := farT_le S Hd k t9
            refine lv_iload hx hb dX1_meanDistance_45 (lv_at hl 1 rfl) ?_
            refine lv_iload hx hb dX1_meanDistance_47 (lv_at hl 0 rfl) ?_
            refine u_run (x_rV (C := RX5) (As := [.int (nI k), .int (nI t9)]) SF hK (d := 4) (rk.le (Nat.le_of_ble_eq_true rfl)) (c_X5_distance l dC dI dA b mc S Hd k t9 (show k < ln S by omega) (show t9 < tn Hd by omega) hS1 hT) (lw_V q1388 q1158 q1159 q139 q1160) (n := 2) (by decide +kernel) rfl (by decide) (g_recv hK ((hO.at hS hz0 (fun _ _ h => h)) 0 _ rfl) (ci := 1) rfl) (XOK.hp.and CE.ok) (⟨(hO.at hS hz0 (fun _ _ h => h)), hCE⟩) hl.1 (Nat.le_of_ble_eq_true rfl) ⟨(by omega), (by omega)⟩ rfl dX1_meanDistance_49) ?_
            refine u_top (y := nI (farT S Hd k t9)) rfl ?_
            refine lv_iadd hx hb dX1_meanDistance_52 ?_
            refine u_top (nI_add _ _) ?_
            refine lv_istore_n (lv' := [(2, .int (nI (mdS S Hd k + (farT S Hd k t9)))), (5, .int (nI t9)), (4, .int (nI k)), (3, .int (nI (mdN S Hd k))), (1, .ref (b 0)), (0, .ref (g 0))]) hx hb dX1_meanDistance_53 rfl hl (by decide) rfl (fun ls hl => ?_)
            refine lv_iinc (v := nI (mdN S Hd k + 1)) (lv' := [(3, .int (nI (mdN S Hd k + 1))), (2, .int (nI (mdS S Hd k + (farT S Hd k t9)))), (5, .int (nI t9)), (4, .int (nI k)), (1, .ref (b 0)), (0, .ref (g 0))]) hx hb dX1_meanDistance_54 hl (k := 3) rfl (nI_add _ 1) (by decide) rfl (fun ls hl => ?_)
            have e9_3 : nI (mdN S Hd (k + 1)) = nI (mdN S Hd k + 1) := (by show nI (mdN S Hd k + (dcd S Hd k).isSome.toNat) = _; rw [hE]; rfl)
            have hl : lv_has ls 6 [(3, .int (nI (mdN S Hd (k + 1)))), (2, .int (nI (mdS S Hd k + (farT S Hd k t9)))), (5, .int (nI t9)), (4, .int (nI k)), (1, .ref (b 0)), (0, .ref (g 0))] := by rw [e9_3]; exact hl
            have e9_2 : nI (mdS S Hd (k + 1)) = nI (mdS S Hd k + (farT S Hd k t9)) := (by show nI (mdS S Hd k + mdF S Hd k) = _; first | (rw [mdF, hE]; done) | (rw [mdF, hE]; rfl))
            have hl : lv_has ls 6 [(3, .int (nI (mdN S Hd (k + 1)))), (2, .int (nI (mdS S Hd (k + 1)))), (5, .int (nI t9)), (4, .int (nI k)), (1, .ref (b 0)), (0, .ref (g 0))] := by rw [e9_2]; exact hl
            refine lv_iinc (v := nI (k + 1)) (lv' := [(4, .int (nI (k + 1))), (3, .int (nI (mdN S Hd (k + 1)))), (2, .int (nI (mdS S Hd (k + 1)))), (5, .int (nI t9)), (1, .ref (b 0)), (0, .ref (g 0))]) hx hb dX1_meanDistance_57 hl (k := 3) rfl (nI_add _ 1) (by decide) rfl (fun ls hl => ?_)
            refine lv_goto (tgt := 12) hx hb dX1_meanDistance_60 (by decide) ?_
            exact ih12 (k + 1) (by omega) (by omega) ls (lv_sub hl [0, 1, 2, 4, 5] rfl)
    exact lp12 (ln S + 1) 0 (by omega) (by omega) ls (lv_sub hl [0, 1, 2, 3, 4] rfl)
  · have hz := Nat.le_trans hz hz9
    obtain ⟨h9, rfl⟩ := hP9
    exact hthr _ _ _ _ _ _ _ _ _ _ (thX (L1 := [(lo (n 1), 1)]) (L2 := []) (nm' := nmA) h9 rfl (by first | rfl | (rw [thC_n1 h9]; try rfl))) hS (by omega) (by omega) hce hcv hcl

set_option maxHeartbeats 4000000 in
theorem c_X1_buffered (l : Launch) (dC : Nat → ClassId) (dI : Nat → Nat → Nat) (dA : Nat → ClassId) (g : Nat → Nat) (n : Nat → Int32) (hs : Nat)  : Met l yX1_buffered (ws_ yX1_buffered cX1_buffered 1 (some (.int))) (rmD 0 (0) (0)) (gPx [.ref (g 0)] (fun U H => ∃ nv, cP dC dI (g 0) (obE g n nv) H) hs dC dI dA) (gQ hs (fun _ => False) (fun v H => v = some (.int (n 8)))) (0) (0) (gF (fun _ => False) hs) := by
  refine g_meti (own := RX1) (by decide) rfl (Nat.le_of_ble_eq_true rfl) fun p e R s m args below meth c Q SF rk hRR hX hK hin hret ls hl => ?_
  have hx := SF.1
  have hb := SF.2.1
  have hml := SF.2.2.1
  have hown := SF.2.2.2.1
  have hts := SF.2.2.2.2
  have hz0 := hX.2
  have hz : hs ≤ s.heap.size := Nat.le_of_eq hX.2.symm
  have hX := hX.1
  have hRc := hRR.1
  have hRs := hRR.2
  have gFs : ∀ q : Nat, s.heap.size ≤ q → gF (fun _ => False) hs q := fun q h => Or.inr (hz0 ▸ h)
  have hS : va_S (gF (fun _ => False) hs) s.heap s.heap [] := va_S.rf
  have hl : lv_has ls 1 [(0, .ref (g 0))] := hl
  obtain ⟨nv, hP0⟩ := hX
  refine lv_aload_n hx hb dX1_buffered_0 rfl (lv_at hl 0 rfl) ?_
  refine va_get (D := (dC, dI)) (ci := 0) (v := .int (n 8)) (C := RX1) (T := TX1) (N := 9) hx hb hts in_X1 hown hK (hP0.at hS hz0 (fun h => h)) 0 rfl rfl 1 (by decide) (hts _ q215) (fun _ h9 => h9) rfl dX1_buffered_1 ?_
  exact hret _ _ _ _ _ _ _ rfl hS (by omega) (by omega) dX1_buffered_4

set_option maxHeartbeats 4000000 in
theorem c_X1_parseError (l : Launch) (dC : Nat → ClassId) (dI : Nat → Nat → Nat) (dA : Nat → ClassId) (g : Nat → Nat) (n : Nat → Int32) (hs : Nat)  : Met l yX1_parseError (ws_ yX1_parseError cX1_parseError 1 (some (.int))) (rmD 0 (0) (0)) (gPx [.ref (g 0)] (fun U H => ∃ nv, cP dC dI (g 0) (obE g n nv) H) hs dC dI dA) (gQ hs (fun _ => False) (fun v H => v = some (.int (n 9)))) (0) (0) (gF (fun _ => False) hs) := by
  refine g_meti (own := RX1) (by decide) rfl (Nat.le_of_ble_eq_true rfl) fun p e R s m args below meth c Q SF rk hRR hX hK hin hret ls hl => ?_
  have hx := SF.1
  have hb := SF.2.1
  have hml := SF.2.2.1
  have hown := SF.2.2.2.1
  have hts := SF.2.2.2.2
  have hz0 := hX.2
  have hz : hs ≤ s.heap.size := Nat.le_of_eq hX.2.symm
  have hX := hX.1
  have hRc := hRR.1
  have hRs := hRR.2
  have gFs : ∀ q : Nat, s.heap.size ≤ q → gF (fun _ => False) hs q := fun q h => Or.inr (hz0 ▸ h)
  have hS : va_S (gF (fun _ => False) hs) s.heap s.heap [] := va_S.rf
  have hl : lv_has ls 1 [(0, .ref (g 0))] := hl
  obtain ⟨nv, hP0⟩ := hX
  refine lv_aload_n hx hb dX1_parseError_0 rfl (lv_at hl 0 rfl) ?_
  refine va_get (D := (dC, dI)) (ci := 0) (v := .int (n 9)) (C := RX1) (T := TX1) (N := 9) hx hb hts in_X1 hown hK (hP0.at hS hz0 (fun h => h)) 0 rfl rfl 2 (by decide) (hts _ q217) (fun _ h9 => h9) rfl dX1_parseError_1 ?_
  exact hret _ _ _ _ _ _ _ rfl hS (by omega) (by omega) dX1_parseError_4

set_option maxHeartbeats 4000000 in
theorem c_X1_errorPosition (l : Launch) (dC : Nat → ClassId) (dI : Nat → Nat → Nat) (dA : Nat → ClassId) (g : Nat → Nat) (n : Nat → Int32) (hs : Nat)  : Met l yX1_errorPosition (ws_ yX1_errorPosition cX1_errorPosition 1 (some (.int))) (rmD 0 (0) (0)) (gPx [.ref (g 0)] (fun U H => ∃ nv, cP dC dI (g 0) (obE g n nv) H) hs dC dI dA) (gQ hs (fun _ => False) (fun v H => v = some (.int (n 10)))) (0) (0) (gF (fun _ => False) hs) := by
  refine g_meti (own := RX1) (by decide) rfl (Nat.le_of_ble_eq_true rfl) fun p e R s m args below meth c Q SF rk hRR hX hK hin hret ls hl => ?_
  have hx := SF.1
  have hb := SF.2.1
  have hml := SF.2.2.1
  have hown := SF.2.2.2.1
  have hts := SF.2.2.2.2
  have hz0 := hX.2
  have hz : hs ≤ s.heap.size := Nat.le_of_eq hX.2.symm
  have hX := hX.1
  have hRc := hRR.1
  have hRs := hRR.2
  have gFs : ∀ q : Nat, s.heap.size ≤ q → gF (fun _ => False) hs q := fun q h => Or.inr (hz0 ▸ h)
  have hS : va_S (gF (fun _ => False) hs) s.heap s.heap [] := va_S.rf
  have hl : lv_has ls 1 [(0, .ref (g 0))] := hl
  obtain ⟨nv, hP0⟩ := hX
  refine lv_aload_n hx hb dX1_errorPosition_0 rfl (lv_at hl 0 rfl) ?_
  refine va_get (D := (dC, dI)) (ci := 0) (v := .int (n 10)) (C := RX1) (T := TX1) (N := 9) hx hb hts in_X1 hown hK (hP0.at hS hz0 (fun h => h)) 0 rfl rfl 3 (by decide) (hts _ q219) (fun _ h9 => h9) rfl dX1_errorPosition_1 ?_
  exact hret _ _ _ _ _ _ _ rfl hS (by omega) (by omega) dX1_errorPosition_4

set_option maxHeartbeats 4000000 in
theorem c_X1_bagged (l : Launch) (dC : Nat → ClassId) (dI : Nat → Nat → Nat) (dA : Nat → ClassId) (g : Nat → Nat) (b : Nat → Nat) (mc : Nat → Int32) (S : Nat → Int32) (Hd : Nat → Int32) (n : Nat → Int32)  : Met l yX1_bagged (ws_ yX1_bagged cX1_bagged 3 (some (.int))) (rmD 0 0 0) (uPx [.ref (g 0)] (fun U H => cP dC dI (g 0) (obE g n (.ref (b 0))) H ∧ famP dC dI b (offE b dA mc S Hd) H ∧ CE U) dC dI dA) (uQi (sum6 S 15 6)) 0 0 noF := by
  refine x_meti (own := RX1) (by decide) rfl (Nat.le_of_ble_eq_true rfl) fun p e R s m args below meth c Q SF rk hX hK hret ls hl => ?_
  have hx := SF.1
  have hb := SF.2.1
  have hml := SF.2.2.1
  have hown := SF.2.2.2.1
  have hts := SF.2.2.2.2
  have hP1 := hX.1
  have hO := hX.2.1
  have hCE := hX.2.2
  have hl : lv_has ls 3 [(0, .ref (g 0))] := hl
  refine lv_iconst (v := nI 0) hx hb dX1_bagged_0 (by decide) ?_
  refine lv_istore_n (lv' := [(1, .int (nI 0)), (0, .ref (g 0))]) hx hb dX1_bagged_1 rfl hl (by decide) rfl (fun ls hl => ?_)
  refine lv_iconst (v := nI 0) hx hb dX1_bagged_2 (by decide) ?_
  refine lv_istore_n (lv' := [(2, .int (nI 0)), (1, .int (nI 0)), (0, .ref (g 0))]) hx hb dX1_bagged_3 rfl hl (by decide) rfl (fun ls hl => ?_)
  have lp4 : ∀ (k0 : Nat) (k : Nat), k ≤ 6 → 6 < k + k0 → ∀ ls : Array Slot, lv_has ls 3 [(2, .int (nI k)), (1, .int (sum6 S 15 k)), (0, .ref (g 0))] → W p l e R s m args below meth c s.heap [] 0 0 Q (F0 m 4 ls []) := by
    intro k0
    induction k0 with
    | zero =>
      intro k hk1 hk2; omega
    | succ k0 ih =>
      intro k hk1 hk2 ls hl
      have ih4 := ih
      refine lv_iload_n hx hb dX1_bagged_4 rfl (lv_at hl 0 rfl) ?_
      refine lv_bipush (v := nI 6) hx hb dX1_bagged_5 (by decide) ?_
      refine lv_icmp_ge (tgt := 28) hx hb dX1_bagged_7 (by decide) (fun c_7 => ?_) (fun c_7 => ?_)
      · have c_7 : 6 ≤ k := (nI_leI (a := 6) (b := k) (by omega) (by omega)).mp c_7
        refine lv_iload_n hx hb dX1_bagged_28 rfl (lv_at hl 1 rfl) ?_
        exact hret _ _ _ (by rw [show k = 6 by omega]) dX1_bagged_29
      · have c_7 : ¬ (6 ≤ k) := fun q9 => c_7 ((nI_leI (a := 6) (b := k) (by omega) (by omega)).mpr q9)
        refine lv_iload_n hx hb dX1_bagged_10 rfl (lv_at hl 1 rfl) ?_
        refine lv_aload_n hx hb dX1_bagged_11 rfl (lv_at hl 2 rfl) ?_
        refine va_get (D := (dC, dI)) (ci := 0) (v := .ref (b 0)) (C := RX1) (T := TX1) (N := 9) hx hb hts in_X1 hown hK hP1 0 rfl rfl 4 (by decide) (hts _ q220) (fun _ h9 => h9) rfl dX1_bagged_12 ?_
        refine va_getN (D := (dC, dI)) (ci := 1) (v := .ref (b 6)) (C := RX5) (T := TX5) (N := 10) hx hb hts in_X5 hown hK (hO 0 _ rfl) 0 rfl rfl 3 (by decide) (va_Nw.use rfl (hCE.1 5 (by decide))) (fun _ h9 => h9) rfl dX1_bagged_15 ?_
        refine lv_iload_n hx hb dX1_bagged_18 rfl (lv_at hl 0 rfl) ?_
        refine u_iald hx hb hK (hO 6 _ rfl) 0 0 rfl rfl (i := k) (by omega) (by decide) dX1_bagged_19 ?_
        refine u_top (y := S (15 + k)) (by first | exact clip_at (by omega) | rfl) ?_
        refine lv_iadd hx hb dX1_bagged_20 ?_
        refine lv_istore_n (lv' := [(1, .int ((sum6 S 15 k) + (S (15 + k)))), (2, .int (nI k)), (0, .ref (g 0))]) hx hb dX1_bagged_21 rfl hl (by decide) rfl (fun ls hl => ?_)
        refine lv_iinc (v := nI (k + 1)) (lv' := [(2, .int (nI (k + 1))), (1, .int ((sum6 S 15 k) + (S (15 + k)))), (0, .ref (g 0))]) hx hb dX1_bagged_22 hl (k := 1) rfl (nI_add _ 1) (by decide) rfl (fun ls hl => ?_)
        refine lv_goto (tgt := 4) hx hb dX1_bagged_25 (by decide) ?_
        exact ih4 (k + 1) (by omega) (by omega) ls (lv_sub hl [0, 1, 2] rfl)
  exact lp4 (6 + 1) 0 (by omega) (by omega) ls (lv_sub hl [0, 1, 2] rfl)

set_option maxHeartbeats 4000000 in
theorem c_X1_openRoutes (l : Launch) (dC : Nat → ClassId) (dI : Nat → Nat → Nat) (dA : Nat → ClassId) (g : Nat → Nat) (b : Nat → Nat) (mc : Nat → Int32) (S : Nat → Int32) (Hd : Nat → Int32) (n : Nat → Int32) (hOP : OPf S) : Met l yX1_openRoutes (ws_ yX1_openRoutes cX1_openRoutes 3 (some (.int))) (rmD 1 0 0) (uPx [.ref (g 0)] (fun U H => cP dC dI (g 0) (obE g n (.ref (b 0))) H ∧ famP dC dI b (offE b dA mc S Hd) H ∧ CE U) dC dI dA) (uQi (sum6 S 9 6)) 0 0 noF := by
  refine x_meti (own := RX1) (by decide) rfl (Nat.le_of_ble_eq_true rfl) fun p e R s m args below meth c Q SF rk hX hK hret ls hl => ?_
  have hx := SF.1
  have hb := SF.2.1
  have hml := SF.2.2.1
  have hown := SF.2.2.2.1
  have hts := SF.2.2.2.2
  have hP1 := hX.1
  have hO := hX.2.1
  have hCE := hX.2.2
  have hl : lv_has ls 3 [(0, .ref (g 0))] := hl
  refine lv_iconst (v := nI 0) hx hb dX1_openRoutes_0 (by decide) ?_
  refine lv_istore_n (lv' := [(1, .int (nI 0)), (0, .ref (g 0))]) hx hb dX1_openRoutes_1 rfl hl (by decide) rfl (fun ls hl => ?_)
  refine lv_iconst (v := nI 0) hx hb dX1_openRoutes_2 (by decide) ?_
  refine lv_istore_n (lv' := [(2, .int (nI 0)), (1, .int (nI 0)), (0, .ref (g 0))]) hx hb dX1_openRoutes_3 rfl hl (by decide) rfl (fun ls hl => ?_)
  have lp4 : ∀ (k0 : Nat) (k : Nat), k ≤ 6 → 6 < k + k0 → ∀ ls : Array Slot, lv_has ls 3 [(2, .int (nI k)), (1, .int (sum6 S 9 k)), (0, .ref (g 0))] → W p l e R s m args below meth c s.heap [] 0 0 Q (F0 m 4 ls []) := by
    intro k0
    induction k0 with
    | zero =>
      intro k hk1 hk2; omega
    | succ k0 ih =>
      intro k hk1 hk2 ls hl
      have ih4 := ih
      refine lv_iload_n hx hb dX1_openRoutes_4 rfl (lv_at hl 0 rfl) ?_
      refine lv_bipush (v := nI 6) hx hb dX1_openRoutes_5 (by decide) ?_
      refine lv_icmp_ge (tgt := 39) hx hb dX1_openRoutes_7 (by decide) (fun c_7 => ?_) (fun c_7 => ?_)
      · have c_7 : 6 ≤ k := (nI_leI (a := 6) (b := k) (by omega) (by omega)).mp c_7
        refine lv_iload_n hx hb dX1_openRoutes_39 rfl (lv_at hl 1 rfl) ?_
        exact hret _ _ _ (by rw [show k = 6 by omega]) dX1_openRoutes_40
      · have c_7 : ¬ (6 ≤ k) := fun q9 => c_7 ((nI_leI (a := 6) (b := k) (by omega) (by omega)).mpr q9)
        refine lv_iload_n hx hb dX1_openRoutes_10 rfl (lv_at hl 1 rfl) ?_
        refine lv_aload_n hx hb dX1_openRoutes_11 rfl (lv_at hl 2 rfl) ?_
        refine va_get (D := (dC, dI)) (ci := 0) (v := .ref (b 0)) (C := RX1) (T := TX1) (N := 9) hx hb hts in_X1 hown hK hP1 0 rfl rfl 4 (by decide) (hts _ q220) (fun _ h9 => h9) rfl dX1_openRoutes_12 ?_
        refine va_getN (D := (dC, dI)) (ci := 1) (v := .ref (b 9)) (C := RX5) (T := TX5) (N := 10) hx hb hts in_X5 hown hK (hO 0 _ rfl) 0 rfl rfl 6 (by decide) (va_Nw.use rfl (hCE.1 8 (by decide))) (fun _ h9 => h9) rfl dX1_openRoutes_15 ?_
        refine lv_iload_n hx hb dX1_openRoutes_18 rfl (lv_at hl 0 rfl) ?_
        refine g_zald hx hb hK (hO 9 _ rfl) (i := k) (by omega) (by decide) dX1_openRoutes_19 ?_
        refine u_top (y := if S (9 + k) = 0 then nI 1 else nI 0) (by first | exact clip_at (by omega) | rfl) ?_
        by_cases hcl9 : S (9 + k) = 0
        · refine u_top (y := nI 1) (if_pos hcl9) ?_
          have jn28 : ∀ v9 : Int32, v9 = nI ((decide (1 = 0)).toNat) → ∀ ls : Array Slot, lv_has ls 3 [(2, .int (nI k)), (1, .int (sum6 S 9 k)), (0, .ref (g 0))] → W p l e R s m args below meth c s.heap [] 0 0 Q (F0 m 28 ls [.int v9, .int (sum6 S 9 k)]) := by
            intro v9 hv9 ls hl
            subst hv9
            refine u_run (x_rS (As := [.int (nI ((decide (1 = 0)).toNat))]) (X := fun _ _ => True) SF hK (d := 0) (rk.le (Nat.le_of_ble_eq_true rfl)) (c_X1_one l dC dI dA (decide (1 = 0)) ) (lw_S q1351 q1147 q112 q1148) (n := 1) (by decide +kernel) rfl (by decide) (XOK.hp) (trivial) hl.1 (Nat.le_of_ble_eq_true rfl) ⟨Nat.zero_le _, Nat.zero_le _⟩ rfl dX1_openRoutes_28) ?_
            refine u_top (y := nI ((decide (1 = 0)).toNat)) rfl ?_
            refine lv_iadd hx hb dX1_openRoutes_31 ?_
            refine u_top (y := sum6 S 9 (k + 1)) (by rw [sum6]; first | (rw [hcl9]; rfl) | (rw [hop9]; rfl)) ?_
            refine lv_istore_n (lv' := [(1, .int (sum6 S 9 (k + 1))), (2, .int (nI k)), (0, .ref (g 0))]) hx hb dX1_openRoutes_32 rfl hl (by decide) rfl (fun ls hl => ?_)
            refine lv_iinc (v := nI (k + 1)) (lv' := [(2, .int (nI (k + 1))), (1, .int (sum6 S 9 (k + 1))), (0, .ref (g 0))]) hx hb dX1_openRoutes_33 hl (k := 1) rfl (nI_add _ 1) (by decide) rfl (fun ls hl => ?_)
            refine lv_goto (tgt := 4) hx hb dX1_openRoutes_36 (by decide) ?_
            exact ih4 (k + 1) (by omega) (by omega) ls (lv_sub hl [0, 1, 2] rfl)
          refine lv_if_ne (tgt := 27) hx hb dX1_openRoutes_20 (by decide) (fun c_20 => ?_) (fun c_20 => ?_)
          · have c_20 : ¬ (1 = 0) := fun q9 => c_20 ((nI_eq (a := 1) (b := 0) (by omega) (by omega)).mpr q9)
            refine lv_iconst (v := nI 0) hx hb dX1_openRoutes_27 (by decide) ?_
            exact jn28 _ (u_d0 c_20) ls (lv_sub hl [0, 1, 2] rfl)
          · have c_20 : 1 = 0 := (nI_eq (a := 1) (b := 0) (by omega) (by omega)).mp c_20
            refine lv_iconst (v := nI 1) hx hb dX1_openRoutes_23 (by decide) ?_
            refine lv_goto (tgt := 28) hx hb dX1_openRoutes_24 (by decide) ?_
            exact jn28 _ (u_d1 c_20) ls (lv_sub hl [0, 1, 2] rfl)
        · have hop9 := (hOP k (by omega)).resolve_left hcl9
          refine u_top (y := nI 0) (if_neg hcl9) ?_
          have jn28_2 : ∀ v9 : Int32, v9 = nI ((decide (0 = 0)).toNat) → ∀ ls : Array Slot, lv_has ls 3 [(2, .int (nI k)), (1, .int (sum6 S 9 k)), (0, .ref (g 0))] → W p l e R s m args below meth c s.heap [] 0 0 Q (F0 m 28 ls [.int v9, .int (sum6 S 9 k)]) := by
            intro v9 hv9 ls hl
            subst hv9
            refine u_run (x_rS (As := [.int (nI ((decide (0 = 0)).toNat))]) (X := fun _ _ => True) SF hK (d := 0) (rk.le (Nat.le_of_ble_eq_true rfl)) (c_X1_one l dC dI dA (decide (0 = 0)) ) (lw_S q1351 q1147 q112 q1148) (n := 1) (by decide +kernel) rfl (by decide) (XOK.hp) (trivial) hl.1 (Nat.le_of_ble_eq_true rfl) ⟨Nat.zero_le _, Nat.zero_le _⟩ rfl dX1_openRoutes_28) ?_
            refine u_top (y := nI ((decide (0 = 0)).toNat)) rfl ?_
            refine lv_iadd hx hb dX1_openRoutes_31 ?_
            refine u_top (y := sum6 S 9 (k + 1)) (by rw [sum6]; first | (rw [hcl9]; rfl) | (rw [hop9]; rfl)) ?_
            refine lv_istore_n (lv' := [(1, .int (sum6 S 9 (k + 1))), (2, .int (nI k)), (0, .ref (g 0))]) hx hb dX1_openRoutes_32 rfl hl (by decide) rfl (fun ls hl => ?_)
            refine lv_iinc (v := nI (k + 1)) (lv' := [(2, .int (nI (k + 1))), (1, .int (sum6 S 9 (k + 1))), (0, .ref (g 0))]) hx hb dX1_openRoutes_33 hl (k := 1) rfl (nI_add _ 1) (by decide) rfl (fun ls hl => ?_)
            refine lv_goto (tgt := 4) hx hb dX1_openRoutes_36 (by decide) ?_
            exact ih4 (k + 1) (by omega) (by omega) ls (lv_sub hl [0, 1, 2] rfl)
          refine lv_if_ne (tgt := 27) hx hb dX1_openRoutes_20 (by decide) (fun c_20 => ?_) (fun c_20 => ?_)
          · have c_20 : ¬ (0 = 0) := fun q9 => c_20 ((nI_eq (a := 0) (b := 0) (by omega) (by omega)).mpr q9)
            refine lv_iconst (v := nI 0) hx hb dX1_openRoutes_27 (by decide) ?_
            exact jn28_2 _ (u_d0 c_20) ls (lv_sub hl [0, 1, 2] rfl)
          · have c_20 : 0 = 0 := (nI_eq (a := 0) (b := 0) (by omega) (by omega)).mp c_20
            refine lv_iconst (v := nI 1) hx hb dX1_openRoutes_23 (by decide) ?_
            refine lv_goto (tgt := 28) hx hb dX1_openRoutes_24 (by decide) ?_
            exact jn28_2 _ (u_d1 c_20) ls (lv_sub hl [0, 1, 2] rfl)
  exact lp4 (6 + 1) 0 (by omega) (by omega) ls (lv_sub hl [0, 1, 2] rfl)
end API5
