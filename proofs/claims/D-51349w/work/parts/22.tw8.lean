set_option maxRecDepth 100000
section TW
variable {p : Program} {l : Launch} {e : Env} {R : Room} {s : State} {m : MethodId} {args : Array Value} {below : List Frame} {meth : Method} {c : Code} {H : Heap} {locs : List Loc} {Q : State → Prop}
variable {cc : ByteArray} {pc nL : Nat} {ls : Array Slot} {rest : List Value} {dC : Nat → ClassId} {dI : Nat → Nat → Nat} {dA : Nat → ClassId} {a : Nat → Nat} {M : Nat → Nat → Int32} {H0 : Heap}

set_option maxHeartbeats 4000000 in
theorem c_X2_isRight (l : Launch) (dC : Nat → ClassId) (dI : Nat → Nat → Nat) (dA : Nat → ClassId) (a : Nat → Nat) (M : Nat → Nat → Int32) (hJ : mJ a) (x : Int32) (hS1 : SWf (M 2)) (hT : TWf (M 1)) : Met l yX2_isRight (ws_ yX2_isRight cX2_isRight 3 (some .boolean)) (rmD 3 0 0) (uPc [.ref (a 0), .int x] (mP dC dI dA a M) dC dI dA) (uMi (mA a) (nI (decide (thC [(lo (M 0 1), 1), (inZ x.toInt 0 ((ln (M 2) : Int) - 1), 2)] = 0) && rgt (M 2) x.toNatClampNeg).toNat) (mP dC dI dA a (mrow M 0 (upd (M 0) 0 (nI (thC [(lo (M 0 1), 1), (inZ x.toInt 0 ((ln (M 2) : Int) - 1), 2)])))))) 0 0 (mA a) := by
  refine u_metMz (own := RX2) (by decide) rfl (Nat.le_of_ble_eq_true rfl) fun p e R s m args below meth c Q SF rk hP hK hret ls hl => ?_
  have hx := SF.1
  have hb := SF.2.1
  have hml := SF.2.2.1
  have hown := SF.2.2.2.1
  have hts := SF.2.2.2.2
  have hS : uS (mA a) s.heap s.heap [] := uS.rf
  have hl : lv_has ls 3 [(0, .ref (a 0)), (1, .int x)] := hl
  have hL := hS1.2.1
  have hn9 := hT.2.1
  refine lv_aload_n hx hb dX2_isRight_0 rfl (lv_at hl 0 rfl) ?_
  refine lv_iload_n hx hb dX2_isRight_1 rfl (lv_at hl 1 rfl) ?_
  refine k_X2_noLetter  hJ hS1 SF hK (rk.le (Nat.le_of_ble_eq_true rfl)) hl.1 (Nat.le_of_ble_eq_true rfl) hP hS dX2_isRight_2 (fun H locs hP hS => ?_)
  have hP : mP dC dI dA a (mrow M 0 (upd (M 0) 0 (nI (thC [(lo (M 0 1), 1), (inZ x.toInt 0 ((ln (M 2) : Int) - 1), 2)])))) H := hP
  by_cases hq0 : thC [(lo (M 0 1), 1), (inZ x.toInt 0 ((ln (M 2) : Int) - 1), 2)] = 0
  · obtain ⟨hz0, hz1⟩ := thC_2 hq0
    refine u_top (y := nI 0) (by rw [hq0]; rfl) ?_
    rw [hq0] at hP
    have hP : mP dC dI dA a (mrow M 0 (upd (M 0) 0 (nI 0))) H := hP
    obtain ⟨lt, hlt_lt, hsm_lt, rfl⟩ := inZ_n hz1
    have hcl_lt : (nI lt).toNatClampNeg = lt := nI_clamp (by omega)
    have hP : mP dC dI dA a (mrow M 0 (upd (M 0) 0 (nI 0))) H := by assumption
    refine lv_if_ne (tgt := 16) hx hb dX2_isRight_5 (by decide) (fun c_5 => absurd (by decide) c_5) (fun c_5 => ?_)
    refine lv_aload_n hx hb dX2_isRight_8 rfl (lv_at hl 0 rfl) ?_
    refine lv_iload_n hx hb dX2_isRight_9 rfl (lv_at hl 1 rfl) ?_
    refine k_X2_unread (M := mrow M 0 (upd (M 0) 0 (nI 0)))  (show lt < 24 by omega) SF hK (rk.le (Nat.le_of_ble_eq_true rfl)) hl.1 (Nat.le_of_ble_eq_true rfl) hP dX2_isRight_10 ?_
    refine u_top (y := nI (unr (M 2) lt)) rfl ?_
    have hu9 : unr (M 2) lt ≤ 5 := cntN_le _ _
    refine lv_if_le (tgt := 18) hx hb dX2_isRight_13 (by decide) (fun c_13 => ?_) (fun c_13 => ?_)
    · have c_13 : unr (M 2) lt ≤ 0 := (nI_leI (a := unr (M 2) lt) (b := 0) (by omega) (by omega)).mp c_13
      refine lv_iconst (v := nI 3) hx hb dX2_isRight_18 (by decide) ?_
      refine lv_aload_n hx hb dX2_isRight_19 rfl (lv_at hl 0 rfl) ?_
      refine lv_iload_n hx hb dX2_isRight_20 rfl (lv_at hl 1 rfl) ?_
      refine lv_iconst (v := nI 0) hx hb dX2_isRight_21 (by decide) ?_
      refine k_X2_l (M := mrow M 0 (upd (M 0) 0 (nI 0)))  (show lt < 24 by omega) (show 0 < 10 by omega) SF hK (rk.le (Nat.le_of_ble_eq_true rfl)) hl.1 (Nat.le_of_ble_eq_true rfl) hP dX2_isRight_22 ?_
      refine u_top (y := lr (M 2) lt 0) rfl ?_
      refine lv_imul hx hb dX2_isRight_25 ?_
      refine lv_aload_n hx hb dX2_isRight_26 rfl (lv_at hl 0 rfl) ?_
      refine lv_iload_n hx hb dX2_isRight_27 rfl (lv_at hl 1 rfl) ?_
      refine lv_iconst (v := nI 1) hx hb dX2_isRight_28 (by decide) ?_
      refine k_X2_l (M := mrow M 0 (upd (M 0) 0 (nI 0)))  (show lt < 24 by omega) (show 1 < 10 by omega) SF hK (rk.le (Nat.le_of_ble_eq_true rfl)) hl.1 (Nat.le_of_ble_eq_true rfl) hP dX2_isRight_29 ?_
      refine u_top (y := lr (M 2) lt 1) rfl ?_
      refine lv_iadd hx hb dX2_isRight_32 ?_
      refine lv_iconst (v := nI 3) hx hb dX2_isRight_33 (by decide) ?_
      refine lv_aload_n hx hb dX2_isRight_34 rfl (lv_at hl 0 rfl) ?_
      refine lv_iload_n hx hb dX2_isRight_35 rfl (lv_at hl 1 rfl) ?_
      refine lv_iconst (v := nI 2) hx hb dX2_isRight_36 (by decide) ?_
      refine k_X2_l (M := mrow M 0 (upd (M 0) 0 (nI 0)))  (show lt < 24 by omega) (show 2 < 10 by omega) SF hK (rk.le (Nat.le_of_ble_eq_true rfl)) hl.1 (Nat.le_of_ble_eq_true rfl) hP dX2_isRight_37 ?_
      refine u_top (y := lr (M 2) lt 2) rfl ?_
      refine lv_imul hx hb dX2_isRight_40 ?_
      refine lv_iadd hx hb dX2_isRight_41 ?_
      refine lv_aload_n hx hb dX2_isRight_42 rfl (lv_at hl 0 rfl) ?_
      refine lv_iload_n hx hb dX2_isRight_43 rfl (lv_at hl 1 rfl) ?_
      refine lv_iconst (v := nI 3) hx hb dX2_isRight_44 (by decide) ?_
      refine k_X2_l (M := mrow M 0 (upd (M 0) 0 (nI 0)))  (show lt < 24 by omega) (show 3 < 10 by omega) SF hK (rk.le (Nat.le_of_ble_eq_true rfl)) hl.1 (Nat.le_of_ble_eq_true rfl) hP dX2_isRight_45 ?_
      refine u_top (y := lr (M 2) lt 3) rfl ?_
      refine lv_iadd hx hb dX2_isRight_48 ?_
      refine lv_aload_n hx hb dX2_isRight_49 rfl (lv_at hl 0 rfl) ?_
      refine lv_iload_n hx hb dX2_isRight_50 rfl (lv_at hl 1 rfl) ?_
      refine lv_iconst (v := nI 4) hx hb dX2_isRight_51 (by decide) ?_
      refine k_X2_l (M := mrow M 0 (upd (M 0) 0 (nI 0)))  (show lt < 24 by omega) (show 4 < 10 by omega) SF hK (rk.le (Nat.le_of_ble_eq_true rfl)) hl.1 (Nat.le_of_ble_eq_true rfl) hP dX2_isRight_52 ?_
      refine u_top (y := lr (M 2) lt 4) rfl ?_
      refine lv_iadd hx hb dX2_isRight_55 ?_
      refine lv_istore_n (lv' := [(2, .int ((((((nI 3) * (lr (M 2) lt 0)) + (lr (M 2) lt 1)) + ((nI 3) * (lr (M 2) lt 2))) + (lr (M 2) lt 3)) + (lr (M 2) lt 4))), (0, .ref (a 0)), (1, .int (nI lt))]) hx hb dX2_isRight_56 rfl hl (by decide) rfl (fun ls hl => ?_)
      refine lv_iload_n hx hb dX2_isRight_57 rfl (lv_at hl 0 rfl) ?_
      refine lv_bipush (v := nI 10) hx hb dX2_isRight_58 (by decide) ?_
      refine lv_irem hx hb dX2_isRight_60 (by decide) ?_
      refine lv_if_ne (tgt := 68) hx hb dX2_isRight_61 (by decide) (fun c_61 => ?_) (fun c_61 => ?_)
      · refine lv_iconst (v := nI 0) hx hb dX2_isRight_68 (by decide) ?_
        exact hret _ _ _ _ _ (by rw [hz0, hz1]; rw [hcl_lt, rgt_0b c_61]; rfl) (by rw [hz0, hz1]; exact hP) hS dX2_isRight_69
      · refine lv_iconst (v := nI 1) hx hb dX2_isRight_64 (by decide) ?_
        refine lv_goto (tgt := 69) hx hb dX2_isRight_65 (by decide) ?_
        exact hret _ _ _ _ _ (by rw [hz0, hz1]; rw [hcl_lt, rgt_1 (by omega) c_61]; rfl) (by rw [hz0, hz1]; exact hP) hS dX2_isRight_69
    · have c_13 : ¬ (unr (M 2) lt ≤ 0) := fun q9 => c_13 ((nI_leI (a := unr (M 2) lt) (b := 0) (by omega) (by omega)).mpr q9)
      refine lv_iconst (v := nI 0) hx hb dX2_isRight_16 (by decide) ?_
      exact hret _ _ _ _ _ (by rw [hz0, hz1]; rw [hcl_lt, rgt_0a (by omega)]; rfl) (by rw [hz0, hz1]; exact hP) hS dX2_isRight_17
  · refine u_top (y := nI 1) (by rw [decide_eq_false hq0]; rfl) ?_
    refine lv_if_ne (tgt := 16) hx hb dX2_isRight_5 (by decide) (fun c_5 => ?_) (fun c_5 => absurd c_5 (by decide))
    refine lv_iconst (v := nI 0) hx hb dX2_isRight_16 (by decide) ?_
    exact hret _ _ _ _ _ (by rw [show thC [(lo (M 0 1), 1), (inZ x.toInt 0 ((ln (M 2) : Int) - 1), 2)] = thC [(lo (M 0 1), 1), (inZ x.toInt 0 ((ln (M 2) : Int) - 1), 2)] from thC_pre (L1 := [(lo (M 0 1), 1), (inZ x.toInt 0 ((ln (M 2) : Int) - 1), 2)]) (L2 := []) hq0, decide_eq_false hq0]; rfl) (by rw [show thC [(lo (M 0 1), 1), (inZ x.toInt 0 ((ln (M 2) : Int) - 1), 2)] = thC [(lo (M 0 1), 1), (inZ x.toInt 0 ((ln (M 2) : Int) - 1), 2)] from thC_pre (L1 := [(lo (M 0 1), 1), (inZ x.toInt 0 ((ln (M 2) : Int) - 1), 2)]) (L2 := []) hq0]; exact hP) hS dX2_isRight_17

set_option maxHeartbeats 4000000 in
theorem c_X2_margin (l : Launch) (dC : Nat → ClassId) (dI : Nat → Nat → Nat) (dA : Nat → ClassId) (a : Nat → Nat) (M : Nat → Nat → Int32) (hJ : mJ a) (x : Int32) (hS1 : SWf (M 2)) (hT : TWf (M 1)) : Met l yX2_margin (ws_ yX2_margin cX2_margin 7 (some .int)) (rmD 6 0 0) (uPc [.ref (a 0), .int x] (mP dC dI dA a M) dC dI dA) (uMi (mA a) (if thC [(lo (M 0 1), 1), (inZ x.toInt 0 ((ln (M 2) : Int) - 1), 2)] = 0 then mgV (M 2) (M 1) x.toNatClampNeg else nI 0) (mP dC dI dA a (mrow M 0 (upd (M 0) 0 (nI (thC [(lo (M 0 1), 1), (inZ x.toInt 0 ((ln (M 2) : Int) - 1), 2)])))))) 0 0 (mA a) := by
  refine u_metMi (own := RX2) (by decide) rfl (Nat.le_of_ble_eq_true rfl) fun p e R s m args below meth c Q SF rk hP hK hret ls hl => ?_
  have hx := SF.1
  have hb := SF.2.1
  have hml := SF.2.2.1
  have hown := SF.2.2.2.1
  have hts := SF.2.2.2.2
  have hS : uS (mA a) s.heap s.heap [] := uS.rf
  have hl : lv_has ls 7 [(0, .ref (a 0)), (1, .int x)] := hl
  have hL := hS1.2.1
  have hn9 := hT.2.1
  refine lv_aload_n hx hb dX2_margin_0 rfl (lv_at hl 0 rfl) ?_
  refine lv_iload_n hx hb dX2_margin_1 rfl (lv_at hl 1 rfl) ?_
  refine k_X2_noLetter  hJ hS1 SF hK (rk.le (Nat.le_of_ble_eq_true rfl)) hl.1 (Nat.le_of_ble_eq_true rfl) hP hS dX2_margin_2 (fun H locs hP hS => ?_)
  have hP : mP dC dI dA a (mrow M 0 (upd (M 0) 0 (nI (thC [(lo (M 0 1), 1), (inZ x.toInt 0 ((ln (M 2) : Int) - 1), 2)])))) H := hP
  by_cases hq0 : thC [(lo (M 0 1), 1), (inZ x.toInt 0 ((ln (M 2) : Int) - 1), 2)] = 0
  · obtain ⟨hz0, hz1⟩ := thC_2 hq0
    refine u_top (y := nI 0) (by rw [hq0]; rfl) ?_
    rw [hq0] at hP
    have hP : mP dC dI dA a (mrow M 0 (upd (M 0) 0 (nI 0))) H := hP
    obtain ⟨lt, hlt_lt, hsm_lt, rfl⟩ := inZ_n hz1
    have hcl_lt : (nI lt).toNatClampNeg = lt := nI_clamp (by omega)
    have hP : mP dC dI dA a (mrow M 0 (upd (M 0) 0 (nI 0))) H := by assumption
    refine lv_if_eq (tgt := 10) hx hb dX2_margin_5 (by decide) (fun c_5 => ?_) (fun c_5 => absurd (by decide) c_5)
    refine lv_aload_n hx hb dX2_margin_10 rfl (lv_at hl 0 rfl) ?_
    refine lv_iload_n hx hb dX2_margin_11 rfl (lv_at hl 1 rfl) ?_
    refine k_X2_leastFar (M := mrow M 0 (upd (M 0) 0 (nI 0)))  (show lt < ln (M 2) by omega) hS1 hT SF hK (rk.le (Nat.le_of_ble_eq_true rfl)) hl.1 (Nat.le_of_ble_eq_true rfl) hP dX2_margin_12 ?_
    refine u_top (y := nI (lst (M 2) (M 1) lt)) rfl ?_
    refine lv_istore_n (lv' := [(2, .int (nI (lst (M 2) (M 1) lt))), (0, .ref (a 0)), (1, .int (nI lt))]) hx hb dX2_margin_15 rfl hl (by decide) rfl (fun ls hl => ?_)
    refine lv_iconst (v := nI 0) hx hb dX2_margin_16 (by decide) ?_
    refine lv_istore_n (lv' := [(3, .int (nI 0)), (2, .int (nI (lst (M 2) (M 1) lt))), (0, .ref (a 0)), (1, .int (nI lt))]) hx hb dX2_margin_17 rfl hl (by decide) rfl (fun ls hl => ?_)
    refine lv_iconst (v := (-1)) hx hb dX2_margin_18 (by decide) ?_
    refine lv_istore (lv' := [(4, .int (-1)), (3, .int (nI 0)), (2, .int (nI (lst (M 2) (M 1) lt))), (0, .ref (a 0)), (1, .int (nI lt))]) hx hb dX2_margin_19 hl (by decide) rfl (fun ls hl => ?_)
    refine lv_iconst (v := nI 0) hx hb dX2_margin_21 (by decide) ?_
    refine lv_istore (lv' := [(5, .int (nI 0)), (4, .int (-1)), (3, .int (nI 0)), (2, .int (nI (lst (M 2) (M 1) lt))), (0, .ref (a 0)), (1, .int (nI lt))]) hx hb dX2_margin_22 hl (by decide) rfl (fun ls hl => ?_)
    have lp24 : ∀ (k0 : Nat) (k : Nat), k ≤ tn (M 1) → tn (M 1) < k + k0 → ∀ (H : Heap) (locs : List Loc), mP dC dI dA a (mrow M 0 (upd (M 0) 0 (nI 0))) H → uS (mA a) s.heap H locs → ∀ ls : Array Slot, lv_has ls 7 [(5, .int (nI k)), (4, .int (oI (scN (M 2) (M 1) lt k))), (3, .int (nI (cntN (fun t => decide (farT (M 2) (M 1) lt t = lst (M 2) (M 1) lt)) k))), (2, .int (nI (lst (M 2) (M 1) lt))), (0, .ref (a 0)), (1, .int (nI lt))] → W p l e R s m args below meth c H locs 0 0 Q (F0 m 24 ls []) := by
      intro k0
      induction k0 with
      | zero =>
        intro k hk1 hk2; omega
      | succ k0 ih =>
        intro k hk1 hk2 H locs hP hS ls hl
        have ih24 := ih
        have hf9 := farT_le (M 2) (M 1) lt k
        have hm9 : lst (M 2) (M 1) lt ≤ 10 := minN_le _ _ _
        have hc9 := cntN_le (fun t => decide (farT (M 2) (M 1) lt t = lst (M 2) (M 1) lt)) k
        refine lv_iload hx hb dX2_margin_24 (lv_at hl 0 rfl) ?_
        refine lv_aload_n hx hb dX2_margin_26 rfl (lv_at hl 4 rfl) ?_
        refine k_X2_towns (M := mrow M 0 (upd (M 0) 0 (nI 0)))   SF hK (rk.le (Nat.le_of_ble_eq_true rfl)) hl.1 (Nat.le_of_ble_eq_true rfl) hP dX2_margin_27 ?_
        refine u_top (y := M 1 1) rfl ?_
        refine u_top (y := nI (tn (M 1))) hT.1 ?_
        refine lv_icmp_ge (tgt := 93) hx hb dX2_margin_30 (by decide) (fun c_30 => ?_) (fun c_30 => ?_)
        · have c_30 : tn (M 1) ≤ k := (nI_leI (a := tn (M 1)) (b := k) (by omega) (by omega)).mp c_30
          rw [show k = tn (M 1) by omega] at hl
          have hc8 : mny (M 2) (M 1) lt ≤ tn (M 1) := cntN_le _ _
          unfold mny at hc8
          refine lv_iload_n hx hb dX2_margin_93 rfl (lv_at hl 2 rfl) ?_
          refine lv_iconst (v := nI 1) hx hb dX2_margin_94 (by decide) ?_
          refine lv_icmp_le (tgt := 102) hx hb dX2_margin_95 (by decide) (fun c_95 => ?_) (fun c_95 => ?_)
          · have c_95 : cntN (fun t => decide (farT (M 2) (M 1) lt t = lst (M 2) (M 1) lt)) (tn (M 1)) ≤ 1 := (nI_leI (a := cntN (fun t => decide (farT (M 2) (M 1) lt t = lst (M 2) (M 1) lt)) (tn (M 1))) (b := 1) (by omega) (by omega)).mp c_95
            refine lv_iload hx hb dX2_margin_102 (lv_at hl 1 rfl) ?_
            rcases hE : scN (M 2) (M 1) lt (tn (M 1)) with _ | sx
            · refine u_top (y := (-1)) rfl ?_
              refine lv_iconst (v := (-1)) hx hb dX2_margin_104 (by decide) ?_
              refine lv_icmp_ne (tgt := 112) hx hb dX2_margin_105 (by decide) (fun c_105 => absurd (by decide) c_105) (fun c_105 => ?_)
              refine lv_iconst (v := (-1)) hx hb dX2_margin_108 (by decide) ?_
              refine lv_goto (tgt := 116) hx hb dX2_margin_109 (by decide) ?_
              exact hret _ _ _ _ _ (by rw [hz0, hz1]; show _ = _; rw [hcl_lt, mgV, if_neg (show ¬ 1 < mny (M 2) (M 1) lt from by unfold mny; omega), hE]; rfl) (by rw [hz0, hz1]; exact hP) hS dX2_margin_116
            · have hsx := scN_le hE
              refine u_top (y := nI sx) rfl ?_
              refine lv_iconst (v := (-1)) hx hb dX2_margin_104 (by decide) ?_
              refine lv_icmp_ne (tgt := 112) hx hb dX2_margin_105 (by decide) (fun c_105 => ?_) (fun c_105 => absurd c_105 (nI_m1 (by omega)))
              refine lv_iload hx hb dX2_margin_112 (lv_at hl 1 rfl) ?_
              rcases hE2 : scN (M 2) (M 1) lt (tn (M 1)) with _ | s2
              · rw [hE2] at hE; cases hE
              · refine u_top (y := nI sx) (by rw [hE2] at hE; cases hE; rfl) ?_
                refine lv_iload_n hx hb dX2_margin_114 rfl (lv_at hl 3 rfl) ?_
                refine lv_isub hx hb dX2_margin_115 ?_
                refine u_top (pk_sub (by omega)) ?_
                exact hret _ _ _ _ _ (by rw [hz0, hz1]; show _ = _; rw [hcl_lt, mgV, if_neg (show ¬ 1 < mny (M 2) (M 1) lt from by unfold mny; omega), hE]; rfl) (by rw [hz0, hz1]; exact hP) hS dX2_margin_116
          · have c_95 : ¬ (cntN (fun t => decide (farT (M 2) (M 1) lt t = lst (M 2) (M 1) lt)) (tn (M 1)) ≤ 1) := fun q9 => c_95 ((nI_leI (a := cntN (fun t => decide (farT (M 2) (M 1) lt t = lst (M 2) (M 1) lt)) (tn (M 1))) (b := 1) (by omega) (by omega)).mpr q9)
            refine lv_iconst (v := nI 0) hx hb dX2_margin_98 (by decide) ?_
            refine lv_goto (tgt := 116) hx hb dX2_margin_99 (by decide) ?_
            exact hret _ _ _ _ _ (by rw [hz0, hz1]; show _ = _; rw [hcl_lt, mgV]; exact (if_pos (show 1 < mny (M 2) (M 1) lt from by unfold mny; omega)).symm) (by rw [hz0, hz1]; exact hP) hS dX2_margin_116
        · have c_30 : ¬ (tn (M 1) ≤ k) := fun q9 => c_30 ((nI_leI (a := tn (M 1)) (b := k) (by omega) (by omega)).mpr q9)
          refine lv_aload_n hx hb dX2_margin_33 rfl (lv_at hl 4 rfl) ?_
          refine lv_iload_n hx hb dX2_margin_34 rfl (lv_at hl 5 rfl) ?_
          refine lv_iload hx hb dX2_margin_35 (lv_at hl 0 rfl) ?_
          refine k_X2_farTown (M := mrow M 0 (upd (M 0) 0 (nI 0)))  (show lt < ln (M 2) by omega) (show k < tn (M 1) by omega) hS1 hT SF hK (rk.le (Nat.le_of_ble_eq_true rfl)) hl.1 (Nat.le_of_ble_eq_true rfl) hP dX2_margin_37 ?_
          refine u_top (y := nI (farT (M 2) (M 1) lt k)) rfl ?_
          refine lv_istore (lv' := [(6, .int (nI (farT (M 2) (M 1) lt k))), (5, .int (nI k)), (4, .int (oI (scN (M 2) (M 1) lt k))), (3, .int (nI (cntN (fun t => decide (farT (M 2) (M 1) lt t = lst (M 2) (M 1) lt)) k))), (2, .int (nI (lst (M 2) (M 1) lt))), (0, .ref (a 0)), (1, .int (nI lt))]) hx hb dX2_margin_40 hl (by decide) rfl (fun ls hl => ?_)
          refine lv_iload_n hx hb dX2_margin_42 rfl (lv_at hl 3 rfl) ?_
          refine lv_iload hx hb dX2_margin_43 (lv_at hl 0 rfl) ?_
          refine lv_iload_n hx hb dX2_margin_45 rfl (lv_at hl 4 rfl) ?_
          have jn54 : ∀ v9 : Int32, v9 = nI ((decide (farT (M 2) (M 1) lt k = lst (M 2) (M 1) lt)).toNat) → ∀ (H : Heap) (locs : List Loc), mP dC dI dA a (mrow M 0 (upd (M 0) 0 (nI 0))) H → uS (mA a) s.heap H locs → ∀ ls : Array Slot, lv_has ls 7 [(6, .int (nI (farT (M 2) (M 1) lt k))), (5, .int (nI k)), (4, .int (oI (scN (M 2) (M 1) lt k))), (3, .int (nI (cntN (fun t => decide (farT (M 2) (M 1) lt t = lst (M 2) (M 1) lt)) k))), (2, .int (nI (lst (M 2) (M 1) lt))), (0, .ref (a 0)), (1, .int (nI lt))] → W p l e R s m args below meth c H locs 0 0 Q (F0 m 54 ls [.int v9, .int (nI (cntN (fun t => decide (farT (M 2) (M 1) lt t = lst (M 2) (M 1) lt)) k))]) := by
            intro v9 hv9 H locs hP hS ls hl
            subst hv9
            refine k_X2_flag   SF hK (rk.le (Nat.le_of_ble_eq_true rfl)) hl.1 (Nat.le_of_ble_eq_true rfl) dX2_margin_54 ?_
            refine lv_iadd hx hb dX2_margin_57 ?_
            refine u_top (nI_add _ _) ?_
            refine lv_istore_n (lv' := [(3, .int (nI (cntN (fun t => decide (farT (M 2) (M 1) lt t = lst (M 2) (M 1) lt)) k + ((decide (farT (M 2) (M 1) lt k = lst (M 2) (M 1) lt)).toNat)))), (6, .int (nI (farT (M 2) (M 1) lt k))), (5, .int (nI k)), (4, .int (oI (scN (M 2) (M 1) lt k))), (2, .int (nI (lst (M 2) (M 1) lt))), (0, .ref (a 0)), (1, .int (nI lt))]) hx hb dX2_margin_58 rfl hl (by decide) rfl (fun ls hl => ?_)
            refine lv_iload hx hb dX2_margin_59 (lv_at hl 1 rfl) ?_
            refine lv_iload_n hx hb dX2_margin_61 rfl (lv_at hl 4 rfl) ?_
            refine lv_icmp_le (tgt := 83) hx hb dX2_margin_62 (by decide) (fun c_62 => ?_) (fun c_62 => ?_)
            · have c_62 : farT (M 2) (M 1) lt k ≤ lst (M 2) (M 1) lt := (nI_leI (a := farT (M 2) (M 1) lt k) (b := lst (M 2) (M 1) lt) (by omega) (by omega)).mp c_62
              refine lv_iload hx hb dX2_margin_83 (lv_at hl 3 rfl) ?_
              refine u_top (y := oI (scN (M 2) (M 1) lt (k + 1))) (by first | (rw [scN, if_neg (by omega)]; done) | (rw [scN, if_pos (by omega), hE]; rfl) | (rw [scN_lt (by omega) hE (by omega)]; rfl) | (rw [scN_ge (by omega) hE (by omega), hE]) | (rw [scN_ge (by omega) hE (by omega)]; rfl)) ?_
              refine lv_istore (lv' := [(4, .int (oI (scN (M 2) (M 1) lt (k + 1)))), (3, .int (nI (cntN (fun t => decide (farT (M 2) (M 1) lt t = lst (M 2) (M 1) lt)) k + ((decide (farT (M 2) (M 1) lt k = lst (M 2) (M 1) lt)).toNat)))), (6, .int (nI (farT (M 2) (M 1) lt k))), (5, .int (nI k)), (2, .int (nI (lst (M 2) (M 1) lt))), (0, .ref (a 0)), (1, .int (nI lt))]) hx hb dX2_margin_85 hl (by decide) rfl (fun ls hl => ?_)
              refine lv_iinc (v := nI (k + 1)) (lv' := [(5, .int (nI (k + 1))), (4, .int (oI (scN (M 2) (M 1) lt (k + 1)))), (3, .int (nI (cntN (fun t => decide (farT (M 2) (M 1) lt t = lst (M 2) (M 1) lt)) k + ((decide (farT (M 2) (M 1) lt k = lst (M 2) (M 1) lt)).toNat)))), (6, .int (nI (farT (M 2) (M 1) lt k))), (2, .int (nI (lst (M 2) (M 1) lt))), (0, .ref (a 0)), (1, .int (nI lt))]) hx hb dX2_margin_87 hl (k := 3) rfl (nI_add _ 1) (by decide) rfl (fun ls hl => ?_)
              refine lv_goto (tgt := 24) hx hb dX2_margin_90 (by decide) ?_
              exact ih24 (k + 1) (by omega) (by omega) _ _ hP hS ls (lv_sub hl [0, 1, 2, 4, 5, 6] rfl)
            · have c_62 : ¬ (farT (M 2) (M 1) lt k ≤ lst (M 2) (M 1) lt) := fun q9 => c_62 ((nI_leI (a := farT (M 2) (M 1) lt k) (b := lst (M 2) (M 1) lt) (by omega) (by omega)).mpr q9)
              refine lv_iload hx hb dX2_margin_65 (lv_at hl 3 rfl) ?_
              rcases hE : scN (M 2) (M 1) lt k with _ | sx
              · refine u_top (y := (-1)) rfl ?_
                refine lv_iconst (v := (-1)) hx hb dX2_margin_67 (by decide) ?_
                refine lv_icmp_eq (tgt := 78) hx hb dX2_margin_68 (by decide) (fun c_68 => ?_) (fun c_68 => absurd (by decide) c_68)
                refine lv_iload hx hb dX2_margin_78 (lv_at hl 1 rfl) ?_
                refine lv_goto (tgt := 85) hx hb dX2_margin_80 (by decide) ?_
                refine u_top (y := oI (scN (M 2) (M 1) lt (k + 1))) (by first | (rw [scN, if_neg (by omega)]; done) | (rw [scN, if_pos (by omega), hE]; rfl) | (rw [scN_lt (by omega) hE (by omega)]; rfl) | (rw [scN_ge (by omega) hE (by omega), hE]) | (rw [scN_ge (by omega) hE (by omega)]; rfl)) ?_
                refine lv_istore (lv' := [(4, .int (oI (scN (M 2) (M 1) lt (k + 1)))), (3, .int (nI (cntN (fun t => decide (farT (M 2) (M 1) lt t = lst (M 2) (M 1) lt)) k + ((decide (farT (M 2) (M 1) lt k = lst (M 2) (M 1) lt)).toNat)))), (6, .int (nI (farT (M 2) (M 1) lt k))), (5, .int (nI k)), (2, .int (nI (lst (M 2) (M 1) lt))), (0, .ref (a 0)), (1, .int (nI lt))]) hx hb dX2_margin_85 hl (by decide) rfl (fun ls hl => ?_)
                refine lv_iinc (v := nI (k + 1)) (lv' := [(5, .int (nI (k + 1))), (4, .int (oI (scN (M 2) (M 1) lt (k + 1)))), (3, .int (nI (cntN (fun t => decide (farT (M 2) (M 1) lt t = lst (M 2) (M 1) lt)) k + ((decide (farT (M 2) (M 1) lt k = lst (M 2) (M 1) lt)).toNat)))), (6, .int (nI (farT (M 2) (M 1) lt k))), (2, .int (nI (lst (M 2) (M 1) lt))), (0, .ref (a 0)), (1, .int (nI lt))]) hx hb dX2_margin_87 hl (k := 3) rfl (nI_add _ 1) (by decide) rfl (fun ls hl => ?_)
                refine lv_goto (tgt := 24) hx hb dX2_margin_90 (by decide) ?_
                exact ih24 (k + 1) (by omega) (by omega) _ _ hP hS ls (lv_sub hl [0, 1, 2, 4, 5, 6] rfl)
              · have hsx := scN_le hE
                refine u_top (y := nI sx) rfl ?_
                refine lv_iconst (v := (-1)) hx hb dX2_margin_67 (by decide) ?_
                refine lv_icmp_eq (tgt := 78) hx hb dX2_margin_68 (by decide) (fun c_68 => absurd c_68 (nI_m1 (by omega))) (fun c_68 => ?_)
                refine lv_iload hx hb dX2_margin_71 (lv_at hl 1 rfl) ?_
                refine lv_iload hx hb dX2_margin_73 (lv_at hl 3 rfl) ?_
                rcases hE2 : scN (M 2) (M 1) lt k with _ | s2
                · rw [hE2] at hE; cases hE
                · refine u_top (y := nI sx) (by rw [hE2] at hE; cases hE; rfl) ?_
                  refine lv_icmp_ge (tgt := 83) hx hb dX2_margin_75 (by decide) (fun c_75 => ?_) (fun c_75 => ?_)
                  · have c_75 : sx ≤ farT (M 2) (M 1) lt k := (nI_leI (a := sx) (b := farT (M 2) (M 1) lt k) (by omega) (by omega)).mp c_75
                    refine lv_iload hx hb dX2_margin_83 (lv_at hl 3 rfl) ?_
                    refine u_top (y := oI (scN (M 2) (M 1) lt (k + 1))) (by first | (rw [scN, if_neg (by omega)]; done) | (rw [scN, if_pos (by omega), hE]; rfl) | (rw [scN_lt (by omega) hE (by omega)]; rfl) | (rw [scN_ge (by omega) hE (by omega), hE]) | (rw [scN_ge (by omega) hE (by omega)]; rfl)) ?_
                    refine lv_istore (lv' := [(4, .int (oI (scN (M 2) (M 1) lt (k + 1)))), (3, .int (nI (cntN (fun t => decide (farT (M 2) (M 1) lt t = lst (M 2) (M 1) lt)) k + ((decide (farT (M 2) (M 1) lt k = lst (M 2) (M 1) lt)).toNat)))), (6, .int (nI (farT (M 2) (M 1) lt k))), (5, .int (nI k)), (2, .int (nI (lst (M 2) (M 1) lt))), (0, .ref (a 0)), (1, .int (nI lt))]) hx hb dX2_margin_85 hl (by decide) rfl (fun ls hl => ?_)
                    refine lv_iinc (v := nI (k + 1)) (lv' := [(5, .int (nI (k + 1))), (4, .int (oI (scN (M 2) (M 1) lt (k + 1)))), (3, .int (nI (cntN (fun t => decide (farT (M 2) (M 1) lt t = lst (M 2) (M 1) lt)) k + ((decide (farT (M 2) (M 1) lt k = lst (M 2) (M 1) lt)).toNat)))), (6, .int (nI (farT (M 2) (M 1) lt k))), (2, .int (nI (lst (M 2) (M 1) lt))), (0, .ref (a 0)), (1, .int (nI lt))]) hx hb dX2_margin_87 hl (k := 3) rfl (nI_add _ 1) (by decide) rfl (fun ls hl => ?_)
                    refine lv_goto (tgt := 24) hx hb dX2_margin_90 (by decide) ?_
                    exact ih24 (k + 1) (by omega) (by omega) _ _ hP hS ls (lv_sub hl [0, 1, 2, 4, 5, 6] rfl)
                  · have c_75 : ¬ (sx ≤ farT (M 2) (M 1) lt k) := fun q9 => c_75 ((nI_leI (a := sx) (b := farT (M 2) (M 1) lt k) (by omega) (by omega)).mpr q9)
                    refine lv_iload hx hb dX2_margin_78 (lv_at hl 1 rfl) ?_
                    refine lv_goto (tgt := 85) hx hb dX2_margin_80 (by decide) ?_
                    refine u_top (y := oI (scN (M 2) (M 1) lt (k + 1))) (by first | (rw [scN, if_neg (by omega)]; done) | (rw [scN, if_pos (by omega), hE]; rfl) | (rw [scN_lt (by omega) hE (by omega)]; rfl) | (rw [scN_ge (by omega) hE (by omega), hE]) | (rw [scN_ge (by omega) hE (by omega)]; rfl)) ?_
                    refine lv_istore (lv' := [(4, .int (oI (scN (M 2) (M 1) lt (k + 1)))), (3, .int (nI (cntN (fun t => decide (farT (M 2) (M 1) lt t = lst (M 2) (M 1) lt)) k + ((decide (farT (M 2) (M 1) lt k = lst (M 2) (M 1) lt)).toNat)))), (6, .int (nI (farT (M 2) (M 1) lt k))), (5, .int (nI k)), (2, .int (nI (lst (M 2) (M 1) lt))), (0, .ref (a 0)), (1, .int (nI lt))]) hx hb dX2_margin_85 hl (by decide) rfl (fun ls hl => ?_)
                    refine lv_iinc (v := nI (k + 1)) (lv' := [(5, .int (nI (k + 1))), (4, .int (oI (scN (M 2) (M 1) lt (k + 1)))), (3, .int (nI (cntN (fun t => decide (farT (M 2) (M 1) lt t = lst (M 2) (M 1) lt)) k + ((decide (farT (M 2) (M 1) lt k = lst (M 2) (M 1) lt)).toNat)))), (6, .int (nI (farT (M 2) (M 1) lt k))), (2, .int (nI (lst (M 2) (M 1) lt))), (0, .ref (a 0)), (1, .int (nI lt))]) hx hb dX2_margin_87 hl (k := 3) rfl (nI_add _ 1) (by decide) rfl (fun ls hl => ?_)
                    refine lv_goto (tgt := 24) hx hb dX2_margin_90 (by decide) ?_
                    exact ih24 (k + 1) (by omega) (by omega) _ _ hP hS ls (lv_sub hl [0, 1, 2, 4, 5, 6] rfl)
          refine lv_icmp_ne (tgt := 53) hx hb dX2_margin_46 (by decide) (fun c_46 => ?_) (fun c_46 => ?_)
          · have c_46 : ¬ (farT (M 2) (M 1) lt k = lst (M 2) (M 1) lt) := fun q9 => c_46 ((nI_eq (a := farT (M 2) (M 1) lt k) (b := lst (M 2) (M 1) lt) (by omega) (by omega)).mpr q9)
            refine lv_iconst (v := nI 0) hx hb dX2_margin_53 (by decide) ?_
            exact jn54 _ (u_d0 c_46) _ _ hP hS ls (lv_sub hl [0, 1, 2, 3, 4, 5, 6] rfl)
          · have c_46 : farT (M 2) (M 1) lt k = lst (M 2) (M 1) lt := (nI_eq (a := farT (M 2) (M 1) lt k) (b := lst (M 2) (M 1) lt) (by omega) (by omega)).mp c_46
            refine lv_iconst (v := nI 1) hx hb dX2_margin_49 (by decide) ?_
            refine lv_goto (tgt := 54) hx hb dX2_margin_50 (by decide) ?_
            exact jn54 _ (u_d1 c_46) _ _ hP hS ls (lv_sub hl [0, 1, 2, 3, 4, 5, 6] rfl)
    exact lp24 (tn (M 1) + 1) 0 (by omega) (by omega) _ _ hP hS ls (lv_sub hl [0, 1, 2, 3, 4, 5] rfl)
  · refine u_top (y := nI 1) (by rw [decide_eq_false hq0]; rfl) ?_
    refine lv_if_eq (tgt := 10) hx hb dX2_margin_5 (by decide) (fun c_5 => absurd c_5 (by decide)) (fun c_5 => ?_)
    refine lv_iconst (v := nI 0) hx hb dX2_margin_8 (by decide) ?_
    exact hret _ _ _ _ _ (by rw [show thC [(lo (M 0 1), 1), (inZ x.toInt 0 ((ln (M 2) : Int) - 1), 2)] = thC [(lo (M 0 1), 1), (inZ x.toInt 0 ((ln (M 2) : Int) - 1), 2)] from thC_pre (L1 := [(lo (M 0 1), 1), (inZ x.toInt 0 ((ln (M 2) : Int) - 1), 2)]) (L2 := []) hq0, if_neg hq0]) (by rw [show thC [(lo (M 0 1), 1), (inZ x.toInt 0 ((ln (M 2) : Int) - 1), 2)] = thC [(lo (M 0 1), 1), (inZ x.toInt 0 ((ln (M 2) : Int) - 1), 2)] from thC_pre (L1 := [(lo (M 0 1), 1), (inZ x.toInt 0 ((ln (M 2) : Int) - 1), 2)]) (L2 := []) hq0]; exact hP) hS dX2_margin_9

set_option maxHeartbeats 4000000 in
theorem c_X2_mended (l : Launch) (dC : Nat → ClassId) (dI : Nat → Nat → Nat) (dA : Nat → ClassId) (a : Nat → Nat) (M : Nat → Nat → Int32) (hJ : mJ a) (x : Int32) (hS1 : SWf (M 2)) (hT : TWf (M 1)) : Met l yX2_mended (ws_ yX2_mended cX2_mended 5 (some .int)) (rmD 11 0 0) (uPc [.ref (a 0), .int x] (mP dC dI dA a M) dC dI dA) (uMi (mA a) (if thC [(lo (M 0 1), 1), (inZ x.toInt 0 ((ln (M 2) : Int) - 1), 2)] = 0 then mnd (M 2) (M 1) x.toNatClampNeg else nI 0) (mP dC dI dA a (mrow M 0 (upd (M 0) 0 (nI (thC [(lo (M 0 1), 1), (inZ x.toInt 0 ((ln (M 2) : Int) - 1), 2)])))))) 0 0 (mA a) := by
  refine u_metMi (own := RX2) (by decide) rfl (Nat.le_of_ble_eq_true rfl) fun p e R s m args below meth c Q SF rk hP hK hret ls hl => ?_
  have hx := SF.1
  have hb := SF.2.1
  have hml := SF.2.2.1
  have hown := SF.2.2.2.1
  have hts := SF.2.2.2.2
  have hS : uS (mA a) s.heap s.heap [] := uS.rf
  have hl : lv_has ls 5 [(0, .ref (a 0)), (1, .int x)] := hl
  have hL := hS1.2.1
  have hn9 := hT.2.1
  refine lv_aload_n hx hb dX2_mended_0 rfl (lv_at hl 0 rfl) ?_
  refine lv_iload_n hx hb dX2_mended_1 rfl (lv_at hl 1 rfl) ?_
  refine k_X2_noLetter  hJ hS1 SF hK (rk.le (Nat.le_of_ble_eq_true rfl)) hl.1 (Nat.le_of_ble_eq_true rfl) hP hS dX2_mended_2 (fun H locs hP hS => ?_)
  have hP : mP dC dI dA a (mrow M 0 (upd (M 0) 0 (nI (thC [(lo (M 0 1), 1), (inZ x.toInt 0 ((ln (M 2) : Int) - 1), 2)])))) H := hP
  by_cases hq0 : thC [(lo (M 0 1), 1), (inZ x.toInt 0 ((ln (M 2) : Int) - 1), 2)] = 0
  · obtain ⟨hz0, hz1⟩ := thC_2 hq0
    refine u_top (y := nI 0) (by rw [hq0]; rfl) ?_
    rw [hq0] at hP
    have hP : mP dC dI dA a (mrow M 0 (upd (M 0) 0 (nI 0))) H := hP
    obtain ⟨lt, hlt_lt, hsm_lt, rfl⟩ := inZ_n hz1
    have hcl_lt : (nI lt).toNatClampNeg = lt := nI_clamp (by omega)
    have hP : mP dC dI dA a (mrow M 0 (upd (M 0) 0 (nI 0))) H := by assumption
    refine lv_if_eq (tgt := 10) hx hb dX2_mended_5 (by decide) (fun c_5 => ?_) (fun c_5 => absurd (by decide) c_5)
    refine lv_aload_n hx hb dX2_mended_10 rfl (lv_at hl 0 rfl) ?_
    refine lv_iload_n hx hb dX2_mended_11 rfl (lv_at hl 1 rfl) ?_
    refine k_X2_decidedFor (M := mrow M 0 (upd (M 0) 0 (nI 0)))  (show lt < ln (M 2) by omega) hS1 hT SF hK (rk.le (Nat.le_of_ble_eq_true rfl)) hl.1 (Nat.le_of_ble_eq_true rfl) hP dX2_mended_12 ?_
    refine u_top (y := oI (dcd (M 2) (M 1) lt)) rfl ?_
    rcases hE : dcd (M 2) (M 1) lt with _ | t9
    · refine u_top (y := (-1)) rfl ?_
      refine lv_istore_n (lv' := [(2, .int (-1)), (0, .ref (a 0)), (1, .int (nI lt))]) hx hb dX2_mended_15 rfl hl (by decide) rfl (fun ls hl => ?_)
      refine lv_iconst (v := nI 0) hx hb dX2_mended_16 (by decide) ?_
      refine lv_istore_n (lv' := [(3, .int (nI 0)), (2, .int (-1)), (0, .ref (a 0)), (1, .int (nI lt))]) hx hb dX2_mended_17 rfl hl (by decide) rfl (fun ls hl => ?_)
      refine lv_iconst (v := nI 0) hx hb dX2_mended_18 (by decide) ?_
      refine lv_istore (lv' := [(4, .int (nI 0)), (3, .int (nI 0)), (2, .int (-1)), (0, .ref (a 0)), (1, .int (nI lt))]) hx hb dX2_mended_19 hl (by decide) rfl (fun ls hl => ?_)
      refine lv_iload_n hx hb dX2_mended_21 rfl (lv_at hl 2 rfl) ?_
      refine lv_iconst (v := (-1)) hx hb dX2_mended_22 (by decide) ?_
      refine lv_icmp_eq (tgt := 69) hx hb dX2_mended_23 (by decide) (fun c_23 => ?_) (fun c_23 => absurd (by decide) c_23)
      refine lv_iload_n hx hb dX2_mended_69 rfl (lv_at hl 2 rfl) ?_
      refine lv_iconst (v := (-1)) hx hb dX2_mended_70 (by decide) ?_
      refine lv_icmp_ne (tgt := 78) hx hb dX2_mended_71 (by decide) (fun c_71 => absurd (by decide) c_71) (fun c_71 => ?_)
      refine lv_iconst (v := (-1)) hx hb dX2_mended_74 (by decide) ?_
      refine lv_goto (tgt := 79) hx hb dX2_mended_75 (by decide) ?_
      exact hret _ _ _ _ _ (by rw [hz0, hz1]; show _ = _; rw [hcl_lt, mnd, hE]; rfl) (by rw [hz0, hz1]; exact hP) hS dX2_mended_79
    · have ht9 := dcd_lt hE
      refine u_top (y := nI t9) rfl ?_
      refine lv_istore_n (lv' := [(2, .int (nI t9)), (0, .ref (a 0)), (1, .int (nI lt))]) hx hb dX2_mended_15 rfl hl (by decide) rfl (fun ls hl => ?_)
      refine lv_iconst (v := nI 0) hx hb dX2_mended_16 (by decide) ?_
      refine lv_istore_n (lv' := [(3, .int (nI 0)), (2, .int (nI t9)), (0, .ref (a 0)), (1, .int (nI lt))]) hx hb dX2_mended_17 rfl hl (by decide) rfl (fun ls hl => ?_)
      refine lv_iconst (v := nI 0) hx hb dX2_mended_18 (by decide) ?_
      refine lv_istore (lv' := [(4, .int (nI 0)), (3, .int (nI 0)), (2, .int (nI t9)), (0, .ref (a 0)), (1, .int (nI lt))]) hx hb dX2_mended_19 hl (by decide) rfl (fun ls hl => ?_)
      have lp21 : ∀ (k0 : Nat) (k : Nat), k ≤ 5 → 5 < k + k0 → ∀ (H : Heap) (locs : List Loc), mP dC dI dA a (mrow M 0 (upd (M 0) 0 (nI 0))) H → uS (mA a) s.heap H locs → ∀ ls : Array Slot, lv_has ls 5 [(4, .int (nI k)), (3, .int (nI (cntN (fun p => !decide (lr (M 2) lt p = nI (dg (cd (num (M 1) t9)) p))) k))), (2, .int (nI t9)), (0, .ref (a 0)), (1, .int (nI lt))] → W p l e R s m args below meth c H locs 0 0 Q (F0 m 21 ls []) := by
        intro k0
        induction k0 with
        | zero =>
          intro k hk1 hk2; omega
        | succ k0 ih =>
          intro k hk1 hk2 H locs hP hS ls hl
          have ih21 := ih
          refine lv_iload_n hx hb dX2_mended_21 rfl (lv_at hl 2 rfl) ?_
          refine lv_iconst (v := (-1)) hx hb dX2_mended_22 (by decide) ?_
          refine lv_icmp_eq (tgt := 69) hx hb dX2_mended_23 (by decide) (fun c_23 => absurd c_23 (nI_m1 (by omega))) (fun c_23 => ?_)
          refine lv_iload hx hb dX2_mended_26 (lv_at hl 0 rfl) ?_
          refine lv_iconst (v := nI 5) hx hb dX2_mended_28 (by decide) ?_
          refine lv_icmp_ge (tgt := 69) hx hb dX2_mended_29 (by decide) (fun c_29 => ?_) (fun c_29 => ?_)
          · have c_29 : 5 ≤ k := (nI_leI (a := 5) (b := k) (by omega) (by omega)).mp c_29
            refine lv_iload_n hx hb dX2_mended_69 rfl (lv_at hl 2 rfl) ?_
            refine lv_iconst (v := (-1)) hx hb dX2_mended_70 (by decide) ?_
            refine lv_icmp_ne (tgt := 78) hx hb dX2_mended_71 (by decide) (fun c_71 => ?_) (fun c_71 => absurd c_71 (nI_m1 (by omega)))
            refine lv_iload_n hx hb dX2_mended_78 rfl (lv_at hl 1 rfl) ?_
            exact hret _ _ _ _ _ (by rw [hz0, hz1]; show _ = _; rw [hcl_lt, mnd, hE, show k = 5 by omega]; rfl) (by rw [hz0, hz1]; exact hP) hS dX2_mended_79
          · have c_29 : ¬ (5 ≤ k) := fun q9 => c_29 ((nI_leI (a := 5) (b := k) (by omega) (by omega)).mpr q9)
            refine lv_iload_n hx hb dX2_mended_32 rfl (lv_at hl 1 rfl) ?_
            refine lv_aload_n hx hb dX2_mended_33 rfl (lv_at hl 3 rfl) ?_
            refine lv_iload_n hx hb dX2_mended_34 rfl (lv_at hl 4 rfl) ?_
            refine lv_iload hx hb dX2_mended_35 (lv_at hl 0 rfl) ?_
            refine k_X2_l (M := mrow M 0 (upd (M 0) 0 (nI 0)))  (show lt < 24 by omega) (show k < 10 by omega) SF hK (rk.le (Nat.le_of_ble_eq_true rfl)) hl.1 (Nat.le_of_ble_eq_true rfl) hP dX2_mended_37 ?_
            refine u_top (y := lr (M 2) lt k) rfl ?_
            refine lv_aload_n hx hb dX2_mended_40 rfl (lv_at hl 3 rfl) ?_
            refine lv_iload_n hx hb dX2_mended_41 rfl (lv_at hl 2 rfl) ?_
            refine k_X2_codeAt (M := mrow M 0 (upd (M 0) 0 (nI 0)))  ht9 hT SF hK (rk.le (Nat.le_of_ble_eq_true rfl)) hl.1 (Nat.le_of_ble_eq_true rfl) hP dX2_mended_42 ?_
            refine u_top (y := nI (cd (num (M 1) t9))) rfl ?_
            refine lv_iload hx hb dX2_mended_45 (lv_at hl 0 rfl) ?_
            refine k_X2_digitOf  (cd_lt (hT.2.2 _ ht9).2.1) (by omega) SF hK (rk.le (Nat.le_of_ble_eq_true rfl)) hl.1 (Nat.le_of_ble_eq_true rfl) dX2_mended_47 ?_
            have jn58 : ∀ v9 : Int32, v9 = nI ((!decide (lr (M 2) lt k = nI (dg (cd (num (M 1) t9)) k))).toNat) → ∀ (H : Heap) (locs : List Loc), mP dC dI dA a (mrow M 0 (upd (M 0) 0 (nI 0))) H → uS (mA a) s.heap H locs → ∀ ls : Array Slot, lv_has ls 5 [(4, .int (nI k)), (3, .int (nI (cntN (fun p => !decide (lr (M 2) lt p = nI (dg (cd (num (M 1) t9)) p))) k))), (2, .int (nI t9)), (0, .ref (a 0)), (1, .int (nI lt))] → W p l e R s m args below meth c H locs 0 0 Q (F0 m 58 ls [.int v9, .int (nI (cntN (fun p => !decide (lr (M 2) lt p = nI (dg (cd (num (M 1) t9)) p))) k))]) := by
              intro v9 hv9 H locs hP hS ls hl
              subst hv9
              refine k_X2_flag   SF hK (rk.le (Nat.le_of_ble_eq_true rfl)) hl.1 (Nat.le_of_ble_eq_true rfl) dX2_mended_58 ?_
              refine lv_iadd hx hb dX2_mended_61 ?_
              refine u_top (nI_add _ _) ?_
              refine lv_istore_n (lv' := [(3, .int (nI (cntN (fun p => !decide (lr (M 2) lt p = nI (dg (cd (num (M 1) t9)) p))) k + ((!decide (lr (M 2) lt k = nI (dg (cd (num (M 1) t9)) k))).toNat)))), (4, .int (nI k)), (2, .int (nI t9)), (0, .ref (a 0)), (1, .int (nI lt))]) hx hb dX2_mended_62 rfl hl (by decide) rfl (fun ls hl => ?_)
              refine lv_iinc (v := nI (k + 1)) (lv' := [(4, .int (nI (k + 1))), (3, .int (nI (cntN (fun p => !decide (lr (M 2) lt p = nI (dg (cd (num (M 1) t9)) p))) k + ((!decide (lr (M 2) lt k = nI (dg (cd (num (M 1) t9)) k))).toNat)))), (2, .int (nI t9)), (0, .ref (a 0)), (1, .int (nI lt))]) hx hb dX2_mended_63 hl (k := 1) rfl (nI_add _ 1) (by decide) rfl (fun ls hl => ?_)
              refine lv_goto (tgt := 21) hx hb dX2_mended_66 (by decide) ?_
              exact ih21 (k + 1) (by omega) (by omega) _ _ hP hS ls (lv_sub hl [0, 1, 2, 3, 4] rfl)
            refine lv_icmp_eq (tgt := 57) hx hb dX2_mended_50 (by decide) (fun c_50 => ?_) (fun c_50 => ?_)
            · refine lv_iconst (v := nI 0) hx hb dX2_mended_57 (by decide) ?_
              exact jn58 _ (u_n0 c_50) _ _ hP hS ls (lv_sub hl [0, 1, 2, 3, 4] rfl)
            · refine lv_iconst (v := nI 1) hx hb dX2_mended_53 (by decide) ?_
              refine lv_goto (tgt := 58) hx hb dX2_mended_54 (by decide) ?_
              exact jn58 _ (u_n1 c_50) _ _ hP hS ls (lv_sub hl [0, 1, 2, 3, 4] rfl)
      exact lp21 (5 + 1) 0 (by omega) (by omega) _ _ hP hS ls (lv_sub hl [0, 1, 2, 3, 4] rfl)
  · refine u_top (y := nI 1) (by rw [decide_eq_false hq0]; rfl) ?_
    refine lv_if_eq (tgt := 10) hx hb dX2_mended_5 (by decide) (fun c_5 => absurd c_5 (by decide)) (fun c_5 => ?_)
    refine lv_iconst (v := nI 0) hx hb dX2_mended_8 (by decide) ?_
    exact hret _ _ _ _ _ (by rw [show thC [(lo (M 0 1), 1), (inZ x.toInt 0 ((ln (M 2) : Int) - 1), 2)] = thC [(lo (M 0 1), 1), (inZ x.toInt 0 ((ln (M 2) : Int) - 1), 2)] from thC_pre (L1 := [(lo (M 0 1), 1), (inZ x.toInt 0 ((ln (M 2) : Int) - 1), 2)]) (L2 := []) hq0, if_neg hq0]) (by rw [show thC [(lo (M 0 1), 1), (inZ x.toInt 0 ((ln (M 2) : Int) - 1), 2)] = thC [(lo (M 0 1), 1), (inZ x.toInt 0 ((ln (M 2) : Int) - 1), 2)] from thC_pre (L1 := [(lo (M 0 1), 1), (inZ x.toInt 0 ((ln (M 2) : Int) - 1), 2)]) (L2 := []) hq0]; exact hP) hS dX2_mended_9

set_option maxHeartbeats 4000000 in
theorem c_X2_codesNear (l : Launch) (dC : Nat → ClassId) (dI : Nat → Nat → Nat) (dA : Nat → ClassId) (a : Nat → Nat) (M : Nat → Nat → Int32) (hJ : mJ a) (x : Int32) (y : Int32) (hS1 : SWf (M 2)) (hT : TWf (M 1)) : Met l yX2_codesNear (ws_ yX2_codesNear cX2_codesNear 5 (some .int)) (rmD 4 0 0) (uPc [.ref (a 0), .int x, .int y] (mP dC dI dA a M) dC dI dA) (uMi (mA a) (if thC [(lo (M 0 1), 1), (inZ x.toInt 0 ((ln (M 2) : Int) - 1), 2), (inZ y.toInt 0 10, 3)] = 0 then nI (cnr (M 2) x.toNatClampNeg y.toNatClampNeg) else nI 0) (mP dC dI dA a (mrow M 0 (upd (M 0) 0 (nI (thC [(lo (M 0 1), 1), (inZ x.toInt 0 ((ln (M 2) : Int) - 1), 2), (inZ y.toInt 0 10, 3)])))))) 0 0 (mA a) := by
  refine u_metMi (own := RX2) (by decide) rfl (Nat.le_of_ble_eq_true rfl) fun p e R s m args below meth c Q SF rk hP hK hret ls hl => ?_
  have hx := SF.1
  have hb := SF.2.1
  have hml := SF.2.2.1
  have hown := SF.2.2.2.1
  have hts := SF.2.2.2.2
  have hS : uS (mA a) s.heap s.heap [] := uS.rf
  have hl : lv_has ls 5 [(0, .ref (a 0)), (1, .int x), (2, .int y)] := hl
  have hL := hS1.2.1
  have hn9 := hT.2.1
  refine lv_aload_n hx hb dX2_codesNear_0 rfl (lv_at hl 0 rfl) ?_
  refine lv_iload_n hx hb dX2_codesNear_1 rfl (lv_at hl 1 rfl) ?_
  refine k_X2_noLetter  hJ hS1 SF hK (rk.le (Nat.le_of_ble_eq_true rfl)) hl.1 (Nat.le_of_ble_eq_true rfl) hP hS dX2_codesNear_2 (fun H locs hP hS => ?_)
  have hP : mP dC dI dA a (mrow M 0 (upd (M 0) 0 (nI (thC [(lo (M 0 1), 1), (inZ x.toInt 0 ((ln (M 2) : Int) - 1), 2)])))) H := hP
  by_cases hq0 : thC [(lo (M 0 1), 1), (inZ x.toInt 0 ((ln (M 2) : Int) - 1), 2)] = 0
  · obtain ⟨hz0, hz1⟩ := thC_2 hq0
    refine u_top (y := nI 0) (by rw [hq0]; rfl) ?_
    rw [hq0] at hP
    have hP : mP dC dI dA a (mrow M 0 (upd (M 0) 0 (nI 0))) H := hP
    obtain ⟨lt, hlt_lt, hsm_lt, rfl⟩ := inZ_n hz1
    have hcl_lt : (nI lt).toNatClampNeg = lt := nI_clamp (by omega)
    have hP : mP dC dI dA a (mrow M 0 (upd (M 0) 0 (nI 0))) H := by assumption
    refine lv_if_ne (tgt := 33) hx hb dX2_codesNear_5 (by decide) (fun c_5 => absurd (by decide) c_5) (fun c_5 => ?_)
    refine lv_aload_n hx hb dX2_codesNear_8 rfl (lv_at hl 0 rfl) ?_
    refine lv_iload_n hx hb dX2_codesNear_9 rfl (lv_at hl 2 rfl) ?_
    refine lv_i2l hx hb dX2_codesNear_10 rfl ?_
    refine lv_lconst (v := 0) hx hb dX2_codesNear_11 rfl ?_
    refine lv_ldc2 (v := 10) hx hb hown (hts _ q2372) dX2_codesNear_12 ?_
    refine k_X2_in (X := y.toInt) (L := 0) (U := 10) (i2l_toInt y) (by decide) (by decide) SF hK (rk.le (Nat.le_of_ble_eq_true rfl)) hl.1 (Nat.le_of_ble_eq_true rfl) dX2_codesNear_15 ?_
    have jn26 : ∀ v9 : Int32, v9 = nI ((!(inZ y.toInt 0 10)).toNat) → ∀ (H : Heap) (locs : List Loc), mP dC dI dA a (mrow M 0 (upd (M 0) 0 (nI 0))) H → uS (mA a) s.heap H locs → ∀ ls : Array Slot, lv_has ls 5 [(0, .ref (a 0)), (1, .int (nI lt)), (2, .int y)] → W p l e R s m args below meth c H locs 0 0 Q (F0 m 26 ls [.int v9, .ref (a 0)]) := by
      intro v9 hv9 H locs hP hS ls hl
      subst hv9
      refine lv_iconst (v := nI 3) hx hb dX2_codesNear_26 (by decide) ?_
      refine k_X2_refuse (M := mrow M 0 (upd (M 0) 0 (nI 0)))  hJ  SF hK (rk.le (Nat.le_of_ble_eq_true rfl)) hl.1 (Nat.le_of_ble_eq_true rfl) hP hS dX2_codesNear_27 (fun H locs hP hS => ?_)
      refine u_top (y := nI ((!decide (rfT ((nI 0)) (!(inZ y.toInt 0 10)) (nI 3) = 0)).toNat)) rfl ?_
      have hP : mP dC dI dA a (mrow M 0 (upd (M 0) 0 (rfT ((nI 0)) (!(inZ y.toInt 0 10)) (nI 3)))) H := hP
      cases hq2 : (!(inZ y.toInt 0 10))
      · have hz2 : (inZ y.toInt 0 10) = true := by first | simpa using hq2 | simpa [lo, hcl_lt] using hq2
        rw [hq2, rfT_f] at hP
        refine u_top (y := nI 0) (by rw [rfT_f]; rfl) ?_
        have hP : mP dC dI dA a (mrow M 0 (upd (M 0) 0 (nI 0))) H := hP
        obtain ⟨dd, hlt_dd, hsm_dd, rfl⟩ := inZ_n hz2
        have hcl_dd : (nI dd).toNatClampNeg = dd := nI_clamp (by omega)
        have hP : mP dC dI dA a (mrow M 0 (upd (M 0) 0 (nI 0))) H := by assumption
        refine lv_if_eq (tgt := 35) hx hb dX2_codesNear_30 (by decide) (fun c_30 => ?_) (fun c_30 => absurd (by decide) c_30)
        refine lv_iconst (v := nI 0) hx hb dX2_codesNear_35 (by decide) ?_
        refine lv_istore_n (lv' := [(3, .int (nI 0)), (0, .ref (a 0)), (1, .int (nI lt)), (2, .int (nI dd))]) hx hb dX2_codesNear_36 rfl hl (by decide) rfl (fun ls hl => ?_)
        refine lv_iconst (v := nI 0) hx hb dX2_codesNear_37 (by decide) ?_
        refine lv_istore (lv' := [(4, .int (nI 0)), (3, .int (nI 0)), (0, .ref (a 0)), (1, .int (nI lt)), (2, .int (nI dd))]) hx hb dX2_codesNear_38 hl (by decide) rfl (fun ls hl => ?_)
        have lp40 : ∀ (k0 : Nat) (k : Nat), k ≤ 10000 → 10000 < k + k0 → ∀ (H : Heap) (locs : List Loc), mP dC dI dA a (mrow M 0 (upd (M 0) 0 (nI 0))) H → uS (mA a) s.heap H locs → ∀ ls : Array Slot, lv_has ls 5 [(4, .int (nI k)), (3, .int (nI (cntN (fun k => decide (far (lr (M 2) lt) (cd k) ≤ dd)) k))), (0, .ref (a 0)), (1, .int (nI lt)), (2, .int (nI dd))] → W p l e R s m args below meth c H locs 0 0 Q (F0 m 40 ls []) := by
          intro k0
          induction k0 with
          | zero =>
            intro k hk1 hk2; omega
          | succ k0 ih =>
            intro k hk1 hk2 H locs hP hS ls hl
            have ih40 := ih
            have hf9 := far_le (lr (M 2) lt) (cd k)
            refine lv_iload hx hb dX2_codesNear_40 (lv_at hl 0 rfl) ?_
            refine lv_sipush (v := nI 10000) hx hb dX2_codesNear_42 (by decide) ?_
            refine lv_icmp_ge (tgt := 79) hx hb dX2_codesNear_45 (by decide) (fun c_45 => ?_) (fun c_45 => ?_)
            · have c_45 : 10000 ≤ k := (nI_leI (a := 10000) (b := k) (by omega) (by omega)).mp c_45
              refine lv_iload_n hx hb dX2_codesNear_79 rfl (lv_at hl 1 rfl) ?_
              exact hret _ _ _ _ _ (by rw [hz0, hz1, hz2]; show _ = _; rw [hcl_lt, hcl_dd, show k = 10000 by omega]; rfl) (by rw [hz0, hz1, hz2]; exact hP) hS dX2_codesNear_80
            · have c_45 : ¬ (10000 ≤ k) := fun q9 => c_45 ((nI_leI (a := 10000) (b := k) (by omega) (by omega)).mpr q9)
              refine lv_iload_n hx hb dX2_codesNear_48 rfl (lv_at hl 1 rfl) ?_
              refine lv_aload_n hx hb dX2_codesNear_49 rfl (lv_at hl 2 rfl) ?_
              refine lv_iload_n hx hb dX2_codesNear_50 rfl (lv_at hl 3 rfl) ?_
              refine lv_iload hx hb dX2_codesNear_51 (lv_at hl 0 rfl) ?_
              refine k_X2_codeOf  (by omega) SF hK (rk.le (Nat.le_of_ble_eq_true rfl)) hl.1 (Nat.le_of_ble_eq_true rfl) dX2_codesNear_53 ?_
              refine k_X2_far (M := mrow M 0 (upd (M 0) 0 (nI 0)))  (by omega) (cd_lt (by omega)) (hS1.2.2.2.2 lt (by omega)).1 SF hK (rk.le (Nat.le_of_ble_eq_true rfl)) hl.1 (Nat.le_of_ble_eq_true rfl) hP dX2_codesNear_56 ?_
              refine u_top (y := nI (far (lr (M 2) lt) (cd k))) rfl ?_
              refine lv_iload_n hx hb dX2_codesNear_59 rfl (lv_at hl 4 rfl) ?_
              have jn68 : ∀ v9 : Int32, v9 = nI ((decide (far (lr (M 2) lt) (cd k) ≤ dd)).toNat) → ∀ (H : Heap) (locs : List Loc), mP dC dI dA a (mrow M 0 (upd (M 0) 0 (nI 0))) H → uS (mA a) s.heap H locs → ∀ ls : Array Slot, lv_has ls 5 [(4, .int (nI k)), (3, .int (nI (cntN (fun k => decide (far (lr (M 2) lt) (cd k) ≤ dd)) k))), (0, .ref (a 0)), (1, .int (nI lt)), (2, .int (nI dd))] → W p l e R s m args below meth c H locs 0 0 Q (F0 m 68 ls [.int v9, .int (nI (cntN (fun k => decide (far (lr (M 2) lt) (cd k) ≤ dd)) k))]) := by
                intro v9 hv9 H locs hP hS ls hl
                subst hv9
                refine k_X2_flag   SF hK (rk.le (Nat.le_of_ble_eq_true rfl)) hl.1 (Nat.le_of_ble_eq_true rfl) dX2_codesNear_68 ?_
                refine lv_iadd hx hb dX2_codesNear_71 ?_
                refine u_top (nI_add _ _) ?_
                refine lv_istore_n (lv' := [(3, .int (nI (cntN (fun k => decide (far (lr (M 2) lt) (cd k) ≤ dd)) k + ((decide (far (lr (M 2) lt) (cd k) ≤ dd)).toNat)))), (4, .int (nI k)), (0, .ref (a 0)), (1, .int (nI lt)), (2, .int (nI dd))]) hx hb dX2_codesNear_72 rfl hl (by decide) rfl (fun ls hl => ?_)
                refine lv_iinc (v := nI (k + 1)) (lv' := [(4, .int (nI (k + 1))), (3, .int (nI (cntN (fun k => decide (far (lr (M 2) lt) (cd k) ≤ dd)) k + ((decide (far (lr (M 2) lt) (cd k) ≤ dd)).toNat)))), (0, .ref (a 0)), (1, .int (nI lt)), (2, .int (nI dd))]) hx hb dX2_codesNear_73 hl (k := 1) rfl (nI_add _ 1) (by decide) rfl (fun ls hl => ?_)
                refine lv_goto (tgt := 40) hx hb dX2_codesNear_76 (by decide) ?_
                exact ih40 (k + 1) (by omega) (by omega) _ _ hP hS ls (lv_sub hl [0, 1, 2, 3, 4] rfl)
              refine lv_icmp_gt (tgt := 67) hx hb dX2_codesNear_60 (by decide) (fun c_60 => ?_) (fun c_60 => ?_)
              · have c_60 : dd < far (lr (M 2) lt) (cd k) := (nI_ltI (a := dd) (b := far (lr (M 2) lt) (cd k)) (by omega) (by omega)).mp c_60
                refine lv_iconst (v := nI 0) hx hb dX2_codesNear_67 (by decide) ?_
                exact jn68 _ (u_d0 (by omega)) _ _ hP hS ls (lv_sub hl [0, 1, 2, 3, 4] rfl)
              · have c_60 : ¬ (dd < far (lr (M 2) lt) (cd k)) := fun q9 => c_60 ((nI_ltI (a := dd) (b := far (lr (M 2) lt) (cd k)) (by omega) (by omega)).mpr q9)
                refine lv_iconst (v := nI 1) hx hb dX2_codesNear_63 (by decide) ?_
                refine lv_goto (tgt := 68) hx hb dX2_codesNear_64 (by decide) ?_
                exact jn68 _ (u_d1 (by omega)) _ _ hP hS ls (lv_sub hl [0, 1, 2, 3, 4] rfl)
        exact lp40 (10000 + 1) 0 (by omega) (by omega) _ _ hP hS ls (lv_sub hl [0, 1, 2, 3, 4] rfl)
      · have hz2 : (inZ y.toInt 0 10) = false := by first | simpa using hq2 | simpa [lo, hcl_lt] using hq2
        rw [hq2, rfT_t] at hP
        refine u_top (y := nI 1) (by rw [rfT_t]; rfl) ?_
        have hP : mP dC dI dA a (mrow M 0 (upd (M 0) 0 (nI 3))) H := hP
        refine lv_if_eq (tgt := 35) hx hb dX2_codesNear_30 (by decide) (fun c_30 => absurd c_30 (by decide)) (fun c_30 => ?_)
        refine lv_iconst (v := nI 0) hx hb dX2_codesNear_33 (by decide) ?_
        exact hret _ _ _ _ _ (by rw [hz0, hz1, hz2]; rfl) (by rw [hz0, hz1, hz2]; exact hP) hS dX2_codesNear_34
    refine lv_if_ne (tgt := 25) hx hb dX2_codesNear_18 (by decide) (fun c_18 => ?_) (fun c_18 => ?_)
    · have c_18 : ¬ ((inZ y.toInt 0 10) = false) := fun q9 => c_18 (u_zb.mpr q9)
      refine lv_iconst (v := nI 0) hx hb dX2_codesNear_25 (by decide) ?_
      exact jn26 _ (u_ff (by simp [c_18])) _ _ hP hS ls (lv_sub hl [0, 1, 2] rfl)
    · have c_18 : (inZ y.toInt 0 10) = false := u_zb.mp c_18
      refine lv_iconst (v := nI 1) hx hb dX2_codesNear_21 (by decide) ?_
      refine lv_goto (tgt := 26) hx hb dX2_codesNear_22 (by decide) ?_
      exact jn26 _ (u_tt (by simpa using c_18)) _ _ hP hS ls (lv_sub hl [0, 1, 2] rfl)
  · refine u_top (y := nI 1) (by rw [decide_eq_false hq0]; rfl) ?_
    refine lv_if_ne (tgt := 33) hx hb dX2_codesNear_5 (by decide) (fun c_5 => ?_) (fun c_5 => absurd c_5 (by decide))
    refine lv_iconst (v := nI 0) hx hb dX2_codesNear_33 (by decide) ?_
    exact hret _ _ _ _ _ (by rw [show thC [(lo (M 0 1), 1), (inZ x.toInt 0 ((ln (M 2) : Int) - 1), 2), (inZ y.toInt 0 10, 3)] = thC [(lo (M 0 1), 1), (inZ x.toInt 0 ((ln (M 2) : Int) - 1), 2)] from thC_pre (L1 := [(lo (M 0 1), 1), (inZ x.toInt 0 ((ln (M 2) : Int) - 1), 2)]) (L2 := [(inZ y.toInt 0 10, 3)]) hq0, if_neg hq0]) (by rw [show thC [(lo (M 0 1), 1), (inZ x.toInt 0 ((ln (M 2) : Int) - 1), 2), (inZ y.toInt 0 10, 3)] = thC [(lo (M 0 1), 1), (inZ x.toInt 0 ((ln (M 2) : Int) - 1), 2)] from thC_pre (L1 := [(lo (M 0 1), 1), (inZ x.toInt 0 ((ln (M 2) : Int) - 1), 2)]) (L2 := [(inZ y.toInt 0 10, 3)]) hq0]; exact hP) hS dX2_codesNear_34

set_option maxHeartbeats 4000000 in
theorem c_X2_bundle (l : Launch) (dC : Nat → ClassId) (dI : Nat → Nat → Nat) (dA : Nat → ClassId) (a : Nat → Nat) (M : Nat → Nat → Int32) (hJ : mJ a) (x : Int32) (y : Int32) (hS1 : SWf (M 2)) (hT : TWf (M 1)) : Met l yX2_bundle (ws_ yX2_bundle cX2_bundle 3 (some .int)) (rmD 10 0 0) (uPc [.ref (a 0), .int x, .int y] (mP dC dI dA a M) dC dI dA) (uMi (mA a) (if thC [(lo (M 0 1), 1), (inZ x.toInt 0 5, 2), (inZ y.toInt 0 3, 3)] = 0 then bunV (M 2) (M 1) x.toNatClampNeg y.toNatClampNeg else nI 0) (mP dC dI dA a (mrow M 0 (upd (M 0) 0 (nI (thC [(lo (M 0 1), 1), (inZ x.toInt 0 5, 2), (inZ y.toInt 0 3, 3)])))))) 0 0 (mA a) := by
  refine u_metMi (own := RX2) (by decide) rfl (Nat.le_of_ble_eq_true rfl) fun p e R s m args below meth c Q SF rk hP hK hret ls hl => ?_
  have hx := SF.1
  have hb := SF.2.1
  have hml := SF.2.2.1
  have hown := SF.2.2.2.1
  have hts := SF.2.2.2.2
  have hS : uS (mA a) s.heap s.heap [] := uS.rf
  have hl : lv_has ls 3 [(0, .ref (a 0)), (1, .int x), (2, .int y)] := hl
  have hL := hS1.2.1
  have hn9 := hT.2.1
  refine lv_aload_n hx hb dX2_bundle_0 rfl (lv_at hl 0 rfl) ?_
  refine lv_iload_n hx hb dX2_bundle_1 rfl (lv_at hl 1 rfl) ?_
  refine k_X2_noBundle  hJ  SF hK (rk.le (Nat.le_of_ble_eq_true rfl)) hl.1 (Nat.le_of_ble_eq_true rfl) hP hS dX2_bundle_2 (fun H locs hP hS => ?_)
  have hP : mP dC dI dA a (mrow M 0 (upd (M 0) 0 (nI (thC [(lo (M 0 1), 1), (inZ x.toInt 0 5, 2)])))) H := hP
  by_cases hq0 : thC [(lo (M 0 1), 1), (inZ x.toInt 0 5, 2)] = 0
  · obtain ⟨hz0, hz1⟩ := thC_2 hq0
    refine u_top (y := nI 0) (by rw [hq0]; rfl) ?_
    rw [hq0] at hP
    have hP : mP dC dI dA a (mrow M 0 (upd (M 0) 0 (nI 0))) H := hP
    obtain ⟨b, hlt_b, hsm_b, rfl⟩ := inZ_n hz1
    have hcl_b : (nI b).toNatClampNeg = b := nI_clamp (by omega)
    have hP : mP dC dI dA a (mrow M 0 (upd (M 0) 0 (nI 0))) H := by assumption
    refine lv_if_ne (tgt := 33) hx hb dX2_bundle_5 (by decide) (fun c_5 => absurd (by decide) c_5) (fun c_5 => ?_)
    refine lv_aload_n hx hb dX2_bundle_8 rfl (lv_at hl 0 rfl) ?_
    refine lv_iload_n hx hb dX2_bundle_9 rfl (lv_at hl 2 rfl) ?_
    refine lv_i2l hx hb dX2_bundle_10 rfl ?_
    refine lv_lconst (v := 0) hx hb dX2_bundle_11 rfl ?_
    refine lv_ldc2 (v := 3) hx hb hown (hts _ q2386) dX2_bundle_12 ?_
    refine k_X2_in (X := y.toInt) (L := 0) (U := 3) (i2l_toInt y) (by decide) (by decide) SF hK (rk.le (Nat.le_of_ble_eq_true rfl)) hl.1 (Nat.le_of_ble_eq_true rfl) dX2_bundle_15 ?_
    have jn26 : ∀ v9 : Int32, v9 = nI ((!(inZ y.toInt 0 3)).toNat) → ∀ (H : Heap) (locs : List Loc), mP dC dI dA a (mrow M 0 (upd (M 0) 0 (nI 0))) H → uS (mA a) s.heap H locs → ∀ ls : Array Slot, lv_has ls 3 [(0, .ref (a 0)), (1, .int (nI b)), (2, .int y)] → W p l e R s m args below meth c H locs 0 0 Q (F0 m 26 ls [.int v9, .ref (a 0)]) := by
      intro v9 hv9 H locs hP hS ls hl
      subst hv9
      refine lv_iconst (v := nI 3) hx hb dX2_bundle_26 (by decide) ?_
      refine k_X2_refuse (M := mrow M 0 (upd (M 0) 0 (nI 0)))  hJ  SF hK (rk.le (Nat.le_of_ble_eq_true rfl)) hl.1 (Nat.le_of_ble_eq_true rfl) hP hS dX2_bundle_27 (fun H locs hP hS => ?_)
      refine u_top (y := nI ((!decide (rfT ((nI 0)) (!(inZ y.toInt 0 3)) (nI 3) = 0)).toNat)) rfl ?_
      have hP : mP dC dI dA a (mrow M 0 (upd (M 0) 0 (rfT ((nI 0)) (!(inZ y.toInt 0 3)) (nI 3)))) H := hP
      cases hq2 : (!(inZ y.toInt 0 3))
      · have hz2 : (inZ y.toInt 0 3) = true := by first | simpa using hq2 | simpa [lo, hcl_b] using hq2
        rw [hq2, rfT_f] at hP
        refine u_top (y := nI 0) (by rw [rfT_f]; rfl) ?_
        have hP : mP dC dI dA a (mrow M 0 (upd (M 0) 0 (nI 0))) H := hP
        obtain ⟨jj, hlt_jj, hsm_jj, rfl⟩ := inZ_n hz2
        have hcl_jj : (nI jj).toNatClampNeg = jj := nI_clamp (by omega)
        have hP : mP dC dI dA a (mrow M 0 (upd (M 0) 0 (nI 0))) H := by assumption
        refine lv_if_eq (tgt := 35) hx hb dX2_bundle_30 (by decide) (fun c_30 => ?_) (fun c_30 => absurd (by decide) c_30)
        refine lv_iload_n hx hb dX2_bundle_35 rfl (lv_at hl 2 rfl) ?_
        rcases (show jj = 0 ∨ jj = 1 ∨ jj = 2 ∨ jj = 3 by omega) with rfl | rfl | rfl | rfl
        · refine lv_tableIn (off := 28) (tgt := 64) hx hb dX2_bundle_36 (by decide) (by decide) (by decide) (by decide) ?_
          refine lv_aload_n hx hb dX2_bundle_64 rfl (lv_at hl 0 rfl) ?_
          refine lv_iload_n hx hb dX2_bundle_65 rfl (lv_at hl 1 rfl) ?_
          refine k_X2_lettersOf (M := mrow M 0 (upd (M 0) 0 (nI 0)))  hS1 SF hK (rk.le (Nat.le_of_ble_eq_true rfl)) hl.1 (Nat.le_of_ble_eq_true rfl) hP dX2_bundle_66 ?_
          refine u_top (y := nI (ltO (M 2) (nI b))) rfl ?_
          exact hret _ _ _ _ _ (by rw [hz0, hz1, hz2]; show _ = _; rw [hcl_b]; rfl) (by rw [hz0, hz1, hz2]; exact hP) hS dX2_bundle_69
        · refine lv_tableIn (off := 34) (tgt := 70) hx hb dX2_bundle_36 (by decide) (by decide) (by decide) (by decide) ?_
          refine lv_aload_n hx hb dX2_bundle_70 rfl (lv_at hl 0 rfl) ?_
          refine va_get (D := (dC, dI)) (ci := 2) (v := .ref (a 2)) (C := RX2) (T := TX2) (N := 22) hx hb hts in_X2 hown hK hP 0 rfl rfl 3 (by decide) (hts _ q1954) (fun _ h9 => h9) rfl dX2_bundle_71 ?_
          refine lv_iconst (v := nI 3) hx hb dX2_bundle_74 (by decide) ?_
          refine lv_iload_n hx hb dX2_bundle_75 rfl (lv_at hl 1 rfl) ?_
          refine lv_iadd hx hb dX2_bundle_76 ?_
          refine u_top (nI_add _ _) ?_
          refine u_iald hx hb hK hP 2 0 rfl rfl (i := 3 + b) (by omega) (by decide) dX2_bundle_77 ?_
          refine u_top (y := M 2 (3 + b)) rfl ?_
          exact hret _ _ _ _ _ (by rw [hz0, hz1, hz2]; show _ = _; rw [hcl_b]; rfl) (by rw [hz0, hz1, hz2]; exact hP) hS dX2_bundle_78
        · refine lv_tableIn (off := 43) (tgt := 79) hx hb dX2_bundle_36 (by decide) (by decide) (by decide) (by decide) ?_
          refine lv_aload_n hx hb dX2_bundle_79 rfl (lv_at hl 0 rfl) ?_
          refine lv_iload_n hx hb dX2_bundle_80 rfl (lv_at hl 1 rfl) ?_
          refine lv_iconst (v := nI 0) hx hb dX2_bundle_81 (by decide) ?_
          refine u_top (y := nI false.toNat) rfl ?_
          refine k_X2_selves (M := mrow M 0 (upd (M 0) 0 (nI 0)))  hS1 hT SF hK (rk.le (Nat.le_of_ble_eq_true rfl)) hl.1 (Nat.le_of_ble_eq_true rfl) hP dX2_bundle_82 ?_
          refine u_top (y := nI (slv (M 2) (M 1) (nI b) false)) rfl ?_
          exact hret _ _ _ _ _ (by rw [hz0, hz1, hz2]; show _ = _; rw [hcl_b]; rfl) (by rw [hz0, hz1, hz2]; exact hP) hS dX2_bundle_85
        · refine lv_tableOut (tgt := 86) hx hb dX2_bundle_36 (by decide) (by decide) ?_
          refine lv_aload_n hx hb dX2_bundle_86 rfl (lv_at hl 0 rfl) ?_
          refine lv_iload_n hx hb dX2_bundle_87 rfl (lv_at hl 1 rfl) ?_
          refine lv_iconst (v := nI 1) hx hb dX2_bundle_88 (by decide) ?_
          refine u_top (y := nI true.toNat) rfl ?_
          refine k_X2_selves (M := mrow M 0 (upd (M 0) 0 (nI 0)))  hS1 hT SF hK (rk.le (Nat.le_of_ble_eq_true rfl)) hl.1 (Nat.le_of_ble_eq_true rfl) hP dX2_bundle_89 ?_
          refine u_top (y := nI (slv (M 2) (M 1) (nI b) true)) rfl ?_
          have hsl := slv_le (S := M 2) (Hd := M 1) (b := nI b) (z := true) hL
          refine lv_bipush (v := nI 10) hx hb dX2_bundle_92 (by decide) ?_
          refine lv_irem hx hb dX2_bundle_94 (by decide) ?_
          refine u_top (pk_rem (by omega) (by omega) (by omega)) ?_
          exact hret _ _ _ _ _ (by rw [hz0, hz1, hz2]; show _ = _; rw [hcl_b]; rfl) (by rw [hz0, hz1, hz2]; exact hP) hS dX2_bundle_95
      · have hz2 : (inZ y.toInt 0 3) = false := by first | simpa using hq2 | simpa [lo, hcl_b] using hq2
        rw [hq2, rfT_t] at hP
        refine u_top (y := nI 1) (by rw [rfT_t]; rfl) ?_
        have hP : mP dC dI dA a (mrow M 0 (upd (M 0) 0 (nI 3))) H := hP
        refine lv_if_eq (tgt := 35) hx hb dX2_bundle_30 (by decide) (fun c_30 => absurd c_30 (by decide)) (fun c_30 => ?_)
        refine lv_iconst (v := nI 0) hx hb dX2_bundle_33 (by decide) ?_
        exact hret _ _ _ _ _ (by rw [hz0, hz1, hz2]; rfl) (by rw [hz0, hz1, hz2]; exact hP) hS dX2_bundle_34
    refine lv_if_ne (tgt := 25) hx hb dX2_bundle_18 (by decide) (fun c_18 => ?_) (fun c_18 => ?_)
    · have c_18 : ¬ ((inZ y.toInt 0 3) = false) := fun q9 => c_18 (u_zb.mpr q9)
      refine lv_iconst (v := nI 0) hx hb dX2_bundle_25 (by decide) ?_
      exact jn26 _ (u_ff (by simp [c_18])) _ _ hP hS ls (lv_sub hl [0, 1, 2] rfl)
    · have c_18 : (inZ y.toInt 0 3) = false := u_zb.mp c_18
      refine lv_iconst (v := nI 1) hx hb dX2_bundle_21 (by decide) ?_
      refine lv_goto (tgt := 26) hx hb dX2_bundle_22 (by decide) ?_
      exact jn26 _ (u_tt (by simpa using c_18)) _ _ hP hS ls (lv_sub hl [0, 1, 2] rfl)
  · refine u_top (y := nI 1) (by rw [decide_eq_false hq0]; rfl) ?_
    refine lv_if_ne (tgt := 33) hx hb dX2_bundle_5 (by decide) (fun c_5 => ?_) (fun c_5 => absurd c_5 (by decide))
    refine lv_iconst (v := nI 0) hx hb dX2_bundle_33 (by decide) ?_
    exact hret _ _ _ _ _ (by rw [show thC [(lo (M 0 1), 1), (inZ x.toInt 0 5, 2), (inZ y.toInt 0 3, 3)] = thC [(lo (M 0 1), 1), (inZ x.toInt 0 5, 2)] from thC_pre (L1 := [(lo (M 0 1), 1), (inZ x.toInt 0 5, 2)]) (L2 := [(inZ y.toInt 0 3, 3)]) hq0, if_neg hq0]) (by rw [show thC [(lo (M 0 1), 1), (inZ x.toInt 0 5, 2), (inZ y.toInt 0 3, 3)] = thC [(lo (M 0 1), 1), (inZ x.toInt 0 5, 2)] from thC_pre (L1 := [(lo (M 0 1), 1), (inZ x.toInt 0 5, 2)]) (L2 := [(inZ y.toInt 0 3, 3)]) hq0]; exact hP) hS dX2_bundle_34

set_option maxHeartbeats 4000000 in
theorem c_X2_bag (l : Launch) (dC : Nat → ClassId) (dI : Nat → Nat → Nat) (dA : Nat → ClassId) (a : Nat → Nat) (M : Nat → Nat → Int32) (hJ : mJ a) (x : Int32) (y : Int32) (hS1 : SWf (M 2)) (hT : TWf (M 1)) : Met l yX2_bag (ws_ yX2_bag cX2_bag 3 (some .int)) (rmD 3 0 0) (uPc [.ref (a 0), .int x, .int y] (mP dC dI dA a M) dC dI dA) (uMi (mA a) (if thC [(lo (M 0 1), 1), (inZ x.toInt 0 5, 2), (inZ y.toInt 0 4, 3)] = 0 then bagV (M 2) (M 1) x.toNatClampNeg y.toNatClampNeg else nI 0) (mP dC dI dA a (mrow M 0 (upd (M 0) 0 (nI (thC [(lo (M 0 1), 1), (inZ x.toInt 0 5, 2), (inZ y.toInt 0 4, 3)])))))) 0 0 (mA a) := by
  refine u_metMi (own := RX2) (by decide) rfl (Nat.le_of_ble_eq_true rfl) fun p e R s m args below meth c Q SF rk hP hK hret ls hl => ?_
  have hx := SF.1
  have hb := SF.2.1
  have hml := SF.2.2.1
  have hown := SF.2.2.2.1
  have hts := SF.2.2.2.2
  have hS : uS (mA a) s.heap s.heap [] := uS.rf
  have hl : lv_has ls 3 [(0, .ref (a 0)), (1, .int x), (2, .int y)] := hl
  have hL := hS1.2.1
  have hn9 := hT.2.1
  refine lv_aload_n hx hb dX2_bag_0 rfl (lv_at hl 0 rfl) ?_
  refine lv_iload_n hx hb dX2_bag_1 rfl (lv_at hl 1 rfl) ?_
  refine k_X2_noRoute  hJ  SF hK (rk.le (Nat.le_of_ble_eq_true rfl)) hl.1 (Nat.le_of_ble_eq_true rfl) hP hS dX2_bag_2 (fun H locs hP hS => ?_)
  have hP : mP dC dI dA a (mrow M 0 (upd (M 0) 0 (nI (thC [(lo (M 0 1), 1), (inZ x.toInt 0 5, 2)])))) H := hP
  by_cases hq0 : thC [(lo (M 0 1), 1), (inZ x.toInt 0 5, 2)] = 0
  · obtain ⟨hz0, hz1⟩ := thC_2 hq0
    refine u_top (y := nI 0) (by rw [hq0]; rfl) ?_
    rw [hq0] at hP
    have hP : mP dC dI dA a (mrow M 0 (upd (M 0) 0 (nI 0))) H := hP
    obtain ⟨r, hlt_r, hsm_r, rfl⟩ := inZ_n hz1
    have hcl_r : (nI r).toNatClampNeg = r := nI_clamp (by omega)
    have hP : mP dC dI dA a (mrow M 0 (upd (M 0) 0 (nI 0))) H := by assumption
    refine lv_if_ne (tgt := 33) hx hb dX2_bag_5 (by decide) (fun c_5 => absurd (by decide) c_5) (fun c_5 => ?_)
    refine lv_aload_n hx hb dX2_bag_8 rfl (lv_at hl 0 rfl) ?_
    refine lv_iload_n hx hb dX2_bag_9 rfl (lv_at hl 2 rfl) ?_
    refine lv_i2l hx hb dX2_bag_10 rfl ?_
    refine lv_lconst (v := 0) hx hb dX2_bag_11 rfl ?_
    refine lv_ldc2 (v := 4) hx hb hown (hts _ q2281) dX2_bag_12 ?_
    refine k_X2_in (X := y.toInt) (L := 0) (U := 4) (i2l_toInt y) (by decide) (by decide) SF hK (rk.le (Nat.le_of_ble_eq_true rfl)) hl.1 (Nat.le_of_ble_eq_true rfl) dX2_bag_15 ?_
    have jn26 : ∀ v9 : Int32, v9 = nI ((!(inZ y.toInt 0 4)).toNat) → ∀ (H : Heap) (locs : List Loc), mP dC dI dA a (mrow M 0 (upd (M 0) 0 (nI 0))) H → uS (mA a) s.heap H locs → ∀ ls : Array Slot, lv_has ls 3 [(0, .ref (a 0)), (1, .int (nI r)), (2, .int y)] → W p l e R s m args below meth c H locs 0 0 Q (F0 m 26 ls [.int v9, .ref (a 0)]) := by
      intro v9 hv9 H locs hP hS ls hl
      subst hv9
      refine lv_iconst (v := nI 3) hx hb dX2_bag_26 (by decide) ?_
      refine k_X2_refuse (M := mrow M 0 (upd (M 0) 0 (nI 0)))  hJ  SF hK (rk.le (Nat.le_of_ble_eq_true rfl)) hl.1 (Nat.le_of_ble_eq_true rfl) hP hS dX2_bag_27 (fun H locs hP hS => ?_)
      refine u_top (y := nI ((!decide (rfT ((nI 0)) (!(inZ y.toInt 0 4)) (nI 3) = 0)).toNat)) rfl ?_
      have hP : mP dC dI dA a (mrow M 0 (upd (M 0) 0 (rfT ((nI 0)) (!(inZ y.toInt 0 4)) (nI 3)))) H := hP
      cases hq2 : (!(inZ y.toInt 0 4))
      · have hz2 : (inZ y.toInt 0 4) = true := by first | simpa using hq2 | simpa [lo, hcl_r] using hq2
        rw [hq2, rfT_f] at hP
        refine u_top (y := nI 0) (by rw [rfT_f]; rfl) ?_
        have hP : mP dC dI dA a (mrow M 0 (upd (M 0) 0 (nI 0))) H := hP
        obtain ⟨jj, hlt_jj, hsm_jj, rfl⟩ := inZ_n hz2
        have hcl_jj : (nI jj).toNatClampNeg = jj := nI_clamp (by omega)
        have hP : mP dC dI dA a (mrow M 0 (upd (M 0) 0 (nI 0))) H := by assumption
        refine lv_if_eq (tgt := 35) hx hb dX2_bag_30 (by decide) (fun c_30 => ?_) (fun c_30 => absurd (by decide) c_30)
        refine lv_iload_n hx hb dX2_bag_35 rfl (lv_at hl 2 rfl) ?_
        rcases (show jj = 0 ∨ jj = 1 ∨ jj = 2 ∨ jj = 3 ∨ jj = 4 by omega) with rfl | rfl | rfl | rfl | rfl
        · refine lv_tableIn (off := 32) (tgt := 68) hx hb dX2_bag_36 (by decide) (by decide) (by decide) (by decide) ?_
          refine lv_aload_n hx hb dX2_bag_68 rfl (lv_at hl 0 rfl) ?_
          refine va_get (D := (dC, dI)) (ci := 2) (v := .ref (a 2)) (C := RX2) (T := TX2) (N := 22) hx hb hts in_X2 hown hK hP 0 rfl rfl 3 (by decide) (hts _ q1954) (fun _ h9 => h9) rfl dX2_bag_69 ?_
          refine lv_bipush (v := nI 15) hx hb dX2_bag_72 (by decide) ?_
          refine lv_iload_n hx hb dX2_bag_74 rfl (lv_at hl 1 rfl) ?_
          refine lv_iadd hx hb dX2_bag_75 ?_
          refine u_top (nI_add _ _) ?_
          refine u_iald hx hb hK hP 2 0 rfl rfl (i := 15 + r) (by omega) (by decide) dX2_bag_76 ?_
          refine u_top (y := M 2 (15 + r)) rfl ?_
          exact hret _ _ _ _ _ (by rw [hz0, hz1, hz2]; show _ = _; rw [hcl_r]; rfl) (by rw [hz0, hz1, hz2]; exact hP) hS dX2_bag_77
        · refine lv_tableIn (off := 42) (tgt := 78) hx hb dX2_bag_36 (by decide) (by decide) (by decide) (by decide) ?_
          refine lv_aload_n hx hb dX2_bag_78 rfl (lv_at hl 0 rfl) ?_
          refine va_get (D := (dC, dI)) (ci := 2) (v := .ref (a 2)) (C := RX2) (T := TX2) (N := 22) hx hb hts in_X2 hown hK hP 0 rfl rfl 3 (by decide) (hts _ q1954) (fun _ h9 => h9) rfl dX2_bag_79 ?_
          refine lv_bipush (v := nI 21) hx hb dX2_bag_82 (by decide) ?_
          refine lv_iload_n hx hb dX2_bag_84 rfl (lv_at hl 1 rfl) ?_
          refine lv_iadd hx hb dX2_bag_85 ?_
          refine u_top (nI_add _ _) ?_
          refine u_iald hx hb hK hP 2 0 rfl rfl (i := 21 + r) (by omega) (by decide) dX2_bag_86 ?_
          refine u_top (y := M 2 (21 + r)) rfl ?_
          exact hret _ _ _ _ _ (by rw [hz0, hz1, hz2]; show _ = _; rw [hcl_r]; rfl) (by rw [hz0, hz1, hz2]; exact hP) hS dX2_bag_87
        · refine lv_tableIn (off := 52) (tgt := 88) hx hb dX2_bag_36 (by decide) (by decide) (by decide) (by decide) ?_
          refine lv_aload_n hx hb dX2_bag_88 rfl (lv_at hl 0 rfl) ?_
          refine va_get (D := (dC, dI)) (ci := 2) (v := .ref (a 2)) (C := RX2) (T := TX2) (N := 22) hx hb hts in_X2 hown hK hP 0 rfl rfl 3 (by decide) (hts _ q1954) (fun _ h9 => h9) rfl dX2_bag_89 ?_
          refine lv_bipush (v := nI 27) hx hb dX2_bag_92 (by decide) ?_
          refine lv_iload_n hx hb dX2_bag_94 rfl (lv_at hl 1 rfl) ?_
          refine lv_iadd hx hb dX2_bag_95 ?_
          refine u_top (nI_add _ _) ?_
          refine u_iald hx hb hK hP 2 0 rfl rfl (i := 27 + r) (by omega) (by decide) dX2_bag_96 ?_
          refine u_top (y := M 2 (27 + r)) rfl ?_
          exact hret _ _ _ _ _ (by rw [hz0, hz1, hz2]; show _ = _; rw [hcl_r]; rfl) (by rw [hz0, hz1, hz2]; exact hP) hS dX2_bag_97
        · refine lv_tableIn (off := 62) (tgt := 98) hx hb dX2_bag_36 (by decide) (by decide) (by decide) (by decide) ?_
          refine lv_aload_n hx hb dX2_bag_98 rfl (lv_at hl 0 rfl) ?_
          refine va_get (D := (dC, dI)) (ci := 2) (v := .ref (a 2)) (C := RX2) (T := TX2) (N := 22) hx hb hts in_X2 hown hK hP 0 rfl rfl 3 (by decide) (hts _ q1954) (fun _ h9 => h9) rfl dX2_bag_99 ?_
          refine lv_bipush (v := nI 9) hx hb dX2_bag_102 (by decide) ?_
          refine lv_iload_n hx hb dX2_bag_104 rfl (lv_at hl 1 rfl) ?_
          refine lv_iadd hx hb dX2_bag_105 ?_
          refine u_top (nI_add _ _) ?_
          refine u_iald hx hb hK hP 2 0 rfl rfl (i := 9 + r) (by omega) (by decide) dX2_bag_106 ?_
          refine u_top (y := M 2 (9 + r)) rfl ?_
          exact hret _ _ _ _ _ (by rw [hz0, hz1, hz2]; show _ = _; rw [hcl_r]; rfl) (by rw [hz0, hz1, hz2]; exact hP) hS dX2_bag_107
        · refine lv_tableOut (tgt := 108) hx hb dX2_bag_36 (by decide) (by decide) ?_
          refine lv_aload_n hx hb dX2_bag_108 rfl (lv_at hl 0 rfl) ?_
          refine lv_iload_n hx hb dX2_bag_109 rfl (lv_at hl 1 rfl) ?_
          refine k_X2_townsOn (M := mrow M 0 (upd (M 0) 0 (nI 0)))  hT SF hK (rk.le (Nat.le_of_ble_eq_true rfl)) hl.1 (Nat.le_of_ble_eq_true rfl) hP dX2_bag_110 ?_
          refine u_top (y := nI (tnO (M 1) (nI r))) rfl ?_
          exact hret _ _ _ _ _ (by rw [hz0, hz1, hz2]; show _ = _; rw [hcl_r]; rfl) (by rw [hz0, hz1, hz2]; exact hP) hS dX2_bag_113
      · have hz2 : (inZ y.toInt 0 4) = false := by first | simpa using hq2 | simpa [lo, hcl_r] using hq2
        rw [hq2, rfT_t] at hP
        refine u_top (y := nI 1) (by rw [rfT_t]; rfl) ?_
        have hP : mP dC dI dA a (mrow M 0 (upd (M 0) 0 (nI 3))) H := hP
        refine lv_if_eq (tgt := 35) hx hb dX2_bag_30 (by decide) (fun c_30 => absurd c_30 (by decide)) (fun c_30 => ?_)
        refine lv_iconst (v := nI 0) hx hb dX2_bag_33 (by decide) ?_
        exact hret _ _ _ _ _ (by rw [hz0, hz1, hz2]; rfl) (by rw [hz0, hz1, hz2]; exact hP) hS dX2_bag_34
    refine lv_if_ne (tgt := 25) hx hb dX2_bag_18 (by decide) (fun c_18 => ?_) (fun c_18 => ?_)
    · have c_18 : ¬ ((inZ y.toInt 0 4) = false) := fun q9 => c_18 (u_zb.mpr q9)
      refine lv_iconst (v := nI 0) hx hb dX2_bag_25 (by decide) ?_
      exact jn26 _ (u_ff (by simp [c_18])) _ _ hP hS ls (lv_sub hl [0, 1, 2] rfl)
    · have c_18 : (inZ y.toInt 0 4) = false := u_zb.mp c_18
      refine lv_iconst (v := nI 1) hx hb dX2_bag_21 (by decide) ?_
      refine lv_goto (tgt := 26) hx hb dX2_bag_22 (by decide) ?_
      exact jn26 _ (u_tt (by simpa using c_18)) _ _ hP hS ls (lv_sub hl [0, 1, 2] rfl)
  · refine u_top (y := nI 1) (by rw [decide_eq_false hq0]; rfl) ?_
    refine lv_if_ne (tgt := 33) hx hb dX2_bag_5 (by decide) (fun c_5 => ?_) (fun c_5 => absurd c_5 (by decide))
    refine lv_iconst (v := nI 0) hx hb dX2_bag_33 (by decide) ?_
    exact hret _ _ _ _ _ (by rw [show thC [(lo (M 0 1), 1), (inZ x.toInt 0 5, 2), (inZ y.toInt 0 4, 3)] = thC [(lo (M 0 1), 1), (inZ x.toInt 0 5, 2)] from thC_pre (L1 := [(lo (M 0 1), 1), (inZ x.toInt 0 5, 2)]) (L2 := [(inZ y.toInt 0 4, 3)]) hq0, if_neg hq0]) (by rw [show thC [(lo (M 0 1), 1), (inZ x.toInt 0 5, 2), (inZ y.toInt 0 4, 3)] = thC [(lo (M 0 1), 1), (inZ x.toInt 0 5, 2)] from thC_pre (L1 := [(lo (M 0 1), 1), (inZ x.toInt 0 5, 2)]) (L2 := [(inZ y.toInt 0 4, 3)]) hq0]; exact hP) hS dX2_bag_34

set_option maxHeartbeats 4000000 in
theorem c_X2_causes (l : Launch) (dC : Nat → ClassId) (dI : Nat → Nat → Nat) (dA : Nat → ClassId) (a : Nat → Nat) (M : Nat → Nat → Int32) (hJ : mJ a) (x : Int32) (hS1 : SWf (M 2)) (hT : TWf (M 1)) : Met l yX2_causes (ws_ yX2_causes cX2_causes 4 (some .int)) (rmD 2 0 0) (uPc [.ref (a 0), .int x] (mP dC dI dA a M) dC dI dA) (uMi (mA a) (if thC [(lo (M 0 1), 1), (inZ x.toInt 1 4, 2)] = 0 then nI (csV (M 2) x) else nI 0) (mP dC dI dA a (mrow M 0 (upd (M 0) 0 (nI (thC [(lo (M 0 1), 1), (inZ x.toInt 1 4, 2)])))))) 0 0 (mA a) := by
  refine u_metMi (own := RX2) (by decide) rfl (Nat.le_of_ble_eq_true rfl) fun p e R s m args below meth c Q SF rk hP hK hret ls hl => ?_
  have hx := SF.1
  have hb := SF.2.1
  have hml := SF.2.2.1
  have hown := SF.2.2.2.1
  have hts := SF.2.2.2.2
  have hS : uS (mA a) s.heap s.heap [] := uS.rf
  have hl : lv_has ls 4 [(0, .ref (a 0)), (1, .int x)] := hl
  have hL := hS1.2.1
  have hn9 := hT.2.1
  refine lv_aload_n hx hb dX2_causes_0 rfl (lv_at hl 0 rfl) ?_
  refine k_X2_notLoaded  hJ  SF hK (rk.le (Nat.le_of_ble_eq_true rfl)) hl.1 (Nat.le_of_ble_eq_true rfl) hP hS dX2_causes_1 (fun H locs hP hS => ?_)
  have hP : mP dC dI dA a (mrow M 0 (upd (M 0) 0 (nI (thC [(lo (M 0 1), 1)])))) H := hP
  by_cases hq0 : thC [(lo (M 0 1), 1)] = 0
  · have hz0 := thC_1 hq0
    refine u_top (y := nI 0) (by rw [hq0]; rfl) ?_
    rw [hq0] at hP
    have hP : mP dC dI dA a (mrow M 0 (upd (M 0) 0 (nI 0))) H := hP
    refine lv_if_ne (tgt := 32) hx hb dX2_causes_4 (by decide) (fun c_4 => absurd (by decide) c_4) (fun c_4 => ?_)
    refine lv_aload_n hx hb dX2_causes_7 rfl (lv_at hl 0 rfl) ?_
    refine lv_iload_n hx hb dX2_causes_8 rfl (lv_at hl 1 rfl) ?_
    refine lv_i2l hx hb dX2_causes_9 rfl ?_
    refine lv_lconst (v := 1) hx hb dX2_causes_10 rfl ?_
    refine lv_ldc2 (v := 4) hx hb hown (hts _ q2281) dX2_causes_11 ?_
    refine k_X2_in (X := x.toInt) (L := 1) (U := 4) (i2l_toInt x) (by decide) (by decide) SF hK (rk.le (Nat.le_of_ble_eq_true rfl)) hl.1 (Nat.le_of_ble_eq_true rfl) dX2_causes_14 ?_
    have jn25 : ∀ v9 : Int32, v9 = nI ((!(inZ x.toInt 1 4)).toNat) → ∀ (H : Heap) (locs : List Loc), mP dC dI dA a (mrow M 0 (upd (M 0) 0 (nI 0))) H → uS (mA a) s.heap H locs → ∀ ls : Array Slot, lv_has ls 4 [(0, .ref (a 0)), (1, .int x)] → W p l e R s m args below meth c H locs 0 0 Q (F0 m 25 ls [.int v9, .ref (a 0)]) := by
      intro v9 hv9 H locs hP hS ls hl
      subst hv9
      refine lv_iconst (v := nI 2) hx hb dX2_causes_25 (by decide) ?_
      refine k_X2_refuse (M := mrow M 0 (upd (M 0) 0 (nI 0)))  hJ  SF hK (rk.le (Nat.le_of_ble_eq_true rfl)) hl.1 (Nat.le_of_ble_eq_true rfl) hP hS dX2_causes_26 (fun H locs hP hS => ?_)
      refine u_top (y := nI ((!decide (rfT ((nI 0)) (!(inZ x.toInt 1 4)) (nI 2) = 0)).toNat)) rfl ?_
      have hP : mP dC dI dA a (mrow M 0 (upd (M 0) 0 (rfT ((nI 0)) (!(inZ x.toInt 1 4)) (nI 2)))) H := hP
      cases hq1 : (!(inZ x.toInt 1 4))
      · have hz1 : (inZ x.toInt 1 4) = true := by first | simpa using hq1 | simpa [lo] using hq1
        rw [hq1, rfT_f] at hP
        refine u_top (y := nI 0) (by rw [rfT_f]; rfl) ?_
        have hP : mP dC dI dA a (mrow M 0 (upd (M 0) 0 (nI 0))) H := hP
        refine lv_if_eq (tgt := 34) hx hb dX2_causes_29 (by decide) (fun c_29 => ?_) (fun c_29 => absurd (by decide) c_29)
        refine lv_iconst (v := nI 0) hx hb dX2_causes_34 (by decide) ?_
        refine lv_istore_n (lv' := [(2, .int (nI 0)), (0, .ref (a 0)), (1, .int x)]) hx hb dX2_causes_35 rfl hl (by decide) rfl (fun ls hl => ?_)
        refine lv_iconst (v := nI 0) hx hb dX2_causes_36 (by decide) ?_
        refine lv_istore_n (lv' := [(3, .int (nI 0)), (2, .int (nI 0)), (0, .ref (a 0)), (1, .int x)]) hx hb dX2_causes_37 rfl hl (by decide) rfl (fun ls hl => ?_)
        have lp38 : ∀ (k0 : Nat) (k : Nat), k ≤ ln (M 2) → ln (M 2) < k + k0 → ∀ (H : Heap) (locs : List Loc), mP dC dI dA a (mrow M 0 (upd (M 0) 0 (nI 0))) H → uS (mA a) s.heap H locs → ∀ ls : Array Slot, lv_has ls 4 [(3, .int (nI k)), (2, .int (nI (cntN (fun o => decide (lr (M 2) o 8 = x)) k))), (0, .ref (a 0)), (1, .int x)] → W p l e R s m args below meth c H locs 0 0 Q (F0 m 38 ls []) := by
          intro k0
          induction k0 with
          | zero =>
            intro k hk1 hk2; omega
          | succ k0 ih =>
            intro k hk1 hk2 H locs hP hS ls hl
            have ih38 := ih
            refine lv_iload_n hx hb dX2_causes_38 rfl (lv_at hl 0 rfl) ?_
            refine lv_aload_n hx hb dX2_causes_39 rfl (lv_at hl 2 rfl) ?_
            refine k_X2_letters (M := mrow M 0 (upd (M 0) 0 (nI 0)))   SF hK (rk.le (Nat.le_of_ble_eq_true rfl)) hl.1 (Nat.le_of_ble_eq_true rfl) hP dX2_causes_40 ?_
            refine u_top (y := M 2 2) rfl ?_
            refine u_top (y := nI (ln (M 2))) hS1.1 ?_
            refine lv_icmp_ge (tgt := 74) hx hb dX2_causes_43 (by decide) (fun c_43 => ?_) (fun c_43 => ?_)
            · have c_43 : ln (M 2) ≤ k := (nI_leI (a := ln (M 2)) (b := k) (by omega) (by omega)).mp c_43
              refine lv_iload_n hx hb dX2_causes_74 rfl (lv_at hl 1 rfl) ?_
              exact hret _ _ _ _ _ (by rw [hz0, hz1]; show _ = _; rw [show k = ln (M 2) by omega]; rfl) (by rw [hz0, hz1]; exact hP) hS dX2_causes_75
            · have c_43 : ¬ (ln (M 2) ≤ k) := fun q9 => c_43 ((nI_leI (a := ln (M 2)) (b := k) (by omega) (by omega)).mpr q9)
              refine lv_iload_n hx hb dX2_causes_46 rfl (lv_at hl 1 rfl) ?_
              refine lv_aload_n hx hb dX2_causes_47 rfl (lv_at hl 2 rfl) ?_
              refine lv_iload_n hx hb dX2_causes_48 rfl (lv_at hl 0 rfl) ?_
              refine lv_bipush (v := nI 8) hx hb dX2_causes_49 (by decide) ?_
              refine k_X2_l (M := mrow M 0 (upd (M 0) 0 (nI 0)))  (show k < 24 by omega) (show 8 < 10 by omega) SF hK (rk.le (Nat.le_of_ble_eq_true rfl)) hl.1 (Nat.le_of_ble_eq_true rfl) hP dX2_causes_51 ?_
              refine u_top (y := lr (M 2) k 8) rfl ?_
              refine lv_iload_n hx hb dX2_causes_54 rfl (lv_at hl 3 rfl) ?_
              have jn63 : ∀ v9 : Int32, v9 = nI ((decide (lr (M 2) k 8 = x)).toNat) → ∀ (H : Heap) (locs : List Loc), mP dC dI dA a (mrow M 0 (upd (M 0) 0 (nI 0))) H → uS (mA a) s.heap H locs → ∀ ls : Array Slot, lv_has ls 4 [(3, .int (nI k)), (2, .int (nI (cntN (fun o => decide (lr (M 2) o 8 = x)) k))), (0, .ref (a 0)), (1, .int x)] → W p l e R s m args below meth c H locs 0 0 Q (F0 m 63 ls [.int v9, .int (nI (cntN (fun o => decide (lr (M 2) o 8 = x)) k))]) := by
                intro v9 hv9 H locs hP hS ls hl
                subst hv9
                refine k_X2_flag   SF hK (rk.le (Nat.le_of_ble_eq_true rfl)) hl.1 (Nat.le_of_ble_eq_true rfl) dX2_causes_63 ?_
                refine lv_iadd hx hb dX2_causes_66 ?_
                refine u_top (nI_add _ _) ?_
                refine lv_istore_n (lv' := [(2, .int (nI (cntN (fun o => decide (lr (M 2) o 8 = x)) k + ((decide (lr (M 2) k 8 = x)).toNat)))), (3, .int (nI k)), (0, .ref (a 0)), (1, .int x)]) hx hb dX2_causes_67 rfl hl (by decide) rfl (fun ls hl => ?_)
                refine lv_iinc (v := nI (k + 1)) (lv' := [(3, .int (nI (k + 1))), (2, .int (nI (cntN (fun o => decide (lr (M 2) o 8 = x)) k + ((decide (lr (M 2) k 8 = x)).toNat)))), (0, .ref (a 0)), (1, .int x)]) hx hb dX2_causes_68 hl (k := 1) rfl (nI_add _ 1) (by decide) rfl (fun ls hl => ?_)
                refine lv_goto (tgt := 38) hx hb dX2_causes_71 (by decide) ?_
                exact ih38 (k + 1) (by omega) (by omega) _ _ hP hS ls (lv_sub hl [0, 1, 2, 3] rfl)
              refine lv_icmp_ne (tgt := 62) hx hb dX2_causes_55 (by decide) (fun c_55 => ?_) (fun c_55 => ?_)
              · refine lv_iconst (v := nI 0) hx hb dX2_causes_62 (by decide) ?_
                exact jn63 _ (u_d0 c_55) _ _ hP hS ls (lv_sub hl [0, 1, 2, 3] rfl)
              · refine lv_iconst (v := nI 1) hx hb dX2_causes_58 (by decide) ?_
                refine lv_goto (tgt := 63) hx hb dX2_causes_59 (by decide) ?_
                exact jn63 _ (u_d1 c_55) _ _ hP hS ls (lv_sub hl [0, 1, 2, 3] rfl)
        exact lp38 (ln (M 2) + 1) 0 (by omega) (by omega) _ _ hP hS ls (lv_sub hl [0, 1, 2, 3] rfl)
      · have hz1 : (inZ x.toInt 1 4) = false := by first | simpa using hq1 | simpa [lo] using hq1
        rw [hq1, rfT_t] at hP
        refine u_top (y := nI 1) (by rw [rfT_t]; rfl) ?_
        have hP : mP dC dI dA a (mrow M 0 (upd (M 0) 0 (nI 2))) H := hP
        refine lv_if_eq (tgt := 34) hx hb dX2_causes_29 (by decide) (fun c_29 => absurd c_29 (by decide)) (fun c_29 => ?_)
        refine lv_iconst (v := nI 0) hx hb dX2_causes_32 (by decide) ?_
        exact hret _ _ _ _ _ (by rw [hz0, hz1]; rfl) (by rw [hz0, hz1]; exact hP) hS dX2_causes_33
    refine lv_if_ne (tgt := 24) hx hb dX2_causes_17 (by decide) (fun c_17 => ?_) (fun c_17 => ?_)
    · have c_17 : ¬ ((inZ x.toInt 1 4) = false) := fun q9 => c_17 (u_zb.mpr q9)
      refine lv_iconst (v := nI 0) hx hb dX2_causes_24 (by decide) ?_
      exact jn25 _ (u_ff (by simp [c_17])) _ _ hP hS ls (lv_sub hl [0, 1] rfl)
    · have c_17 : (inZ x.toInt 1 4) = false := u_zb.mp c_17
      refine lv_iconst (v := nI 1) hx hb dX2_causes_20 (by decide) ?_
      refine lv_goto (tgt := 25) hx hb dX2_causes_21 (by decide) ?_
      exact jn25 _ (u_tt (by simpa using c_17)) _ _ hP hS ls (lv_sub hl [0, 1] rfl)
  · refine u_top (y := nI 1) (by rw [decide_eq_false hq0]; rfl) ?_
    refine lv_if_ne (tgt := 32) hx hb dX2_causes_4 (by decide) (fun c_4 => ?_) (fun c_4 => absurd c_4 (by decide))
    refine lv_iconst (v := nI 0) hx hb dX2_causes_32 (by decide) ?_
    exact hret _ _ _ _ _ (by rw [show thC [(lo (M 0 1), 1), (inZ x.toInt 1 4, 2)] = thC [(lo (M 0 1), 1)] from thC_pre (L1 := [(lo (M 0 1), 1)]) (L2 := [(inZ x.toInt 1 4, 2)]) hq0, if_neg hq0]) (by rw [show thC [(lo (M 0 1), 1), (inZ x.toInt 1 4, 2)] = thC [(lo (M 0 1), 1)] from thC_pre (L1 := [(lo (M 0 1), 1)]) (L2 := [(inZ x.toInt 1 4, 2)]) hq0]; exact hP) hS dX2_causes_33
end TW
