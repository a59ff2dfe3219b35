set_option maxRecDepth 100000
section TW
variable {p : Program} {l : Launch} {e : Env} {R : Room} {s : State} {m : MethodId} {args : Array Value} {below : List Frame} {meth : Method} {c : Code} {H : Heap} {locs : List Loc} {Q : State → Prop}
variable {cc : ByteArray} {pc nL : Nat} {ls : Array Slot} {rest : List Value} {dC : Nat → ClassId} {dI : Nat → Nat → Nat} {dA : Nat → ClassId} {a : Nat → Nat} {M : Nat → Nat → Int32} {H0 : Heap}

set_option maxHeartbeats 4000000 in
theorem c_X2_sort (l : Launch) (dC : Nat → ClassId) (dI : Nat → Nat → Nat) (dA : Nat → ClassId) (a : Nat → Nat) (M : Nat → Nat → Int32) (hJ : mJ a) (x : Int32) (ch : Nat) (hS1 : SWf (M 2)) (hT : TWf (M 1)) (hc : M 0 5 = nI ch) (hc8 : ch ≤ 8) : Met l yX2_sort (ws_ yX2_sort cX2_sort 2 (some .int)) (rmD 14 0 0) (uPc [.ref (a 0), .int x] (mP dC dI dA a M) dC dI dA) (uMi (mA a) (if thC [(lo (M 0 1), 1), (inZ x.toInt 0 ((ln (M 2) : Int) - 1), 2), (decide (lr (M 2) x.toNatClampNeg 6 = 0), 3)] = 0 then oI (srtR (M 2) (M 1) x.toNatClampNeg) else nI 0) (mP dC dI dA a (if thC [(lo (M 0 1), 1), (inZ x.toInt 0 ((ln (M 2) : Int) - 1), 2), (decide (lr (M 2) x.toNatClampNeg 6 = 0), 3)] = 0 then mrow (mrow (mrow M 0 (upd (upd (M 0) 0 (nI 0)) 5 (nI (kpN ch)))) 2 (srtS (M 2) (M 1) x.toNatClampNeg)) 3 (kpS (M 2) (M 3) ch) else mrow M 0 (upd (M 0) 0 (nI (thC [(lo (M 0 1), 1), (inZ x.toInt 0 ((ln (M 2) : Int) - 1), 2), (decide (lr (M 2) x.toNatClampNeg 6 = 0), 3)])))))) 0 0 (mA a) := by
  refine u_metMi (own := RX2) (by decide) rfl (Nat.le_of_ble_eq_true rfl) fun p e R s m args below meth c Q SF rk hP hK hret ls hl => ?_
  have hx := SF.1
  have hb := SF.2.1
  have hml := SF.2.2.1
  have hown := SF.2.2.2.1
  have hts := SF.2.2.2.2
  have hS : uS (mA a) s.heap s.heap [] := uS.rf
  have hl : lv_has ls 2 [(0, .ref (a 0)), (1, .int x)] := hl
  have hL := hS1.2.1
  have hn9 := hT.2.1
  refine lv_aload_n hx hb dX2_sort_0 rfl (lv_at hl 0 rfl) ?_
  refine lv_iload_n hx hb dX2_sort_1 rfl (lv_at hl 1 rfl) ?_
  refine k_X2_noWaiting  hJ hS1 SF hK (rk.le (Nat.le_of_ble_eq_true rfl)) hl.1 (Nat.le_of_ble_eq_true rfl) hP hS dX2_sort_2 (fun H locs hP hS => ?_)
  have hP : mP dC dI dA a (mrow M 0 (upd (M 0) 0 (nI (thC [(lo (M 0 1), 1), (inZ x.toInt 0 ((ln (M 2) : Int) - 1), 2), (decide (lr (M 2) x.toNatClampNeg 6 = 0), 3)])))) H := hP
  by_cases hq0 : thC [(lo (M 0 1), 1), (inZ x.toInt 0 ((ln (M 2) : Int) - 1), 2), (decide (lr (M 2) x.toNatClampNeg 6 = 0), 3)] = 0
  · obtain ⟨hz0, hz1, hz2⟩ := thC_3 hq0
    refine u_top (y := nI 0) (by rw [hq0]; rfl) ?_
    rw [hq0] at hP
    have hP : mP dC dI dA a (mrow M 0 (upd (M 0) 0 (nI 0))) H := hP
    obtain ⟨lt, hlt_lt, hsm_lt, rfl⟩ := inZ_n hz1
    have hcl_lt : (nI lt).toNatClampNeg = lt := nI_clamp (by omega)
    have hP : mP dC dI dA a (mrow M 0 (upd (M 0) 0 (nI 0))) H := by assumption
    refine lv_if_eq (tgt := 10) hx hb dX2_sort_5 (by decide) (fun c_5 => ?_) (fun c_5 => absurd (by decide) c_5)
    refine lv_aload_n hx hb dX2_sort_10 rfl (lv_at hl 0 rfl) ?_
    refine k_X2_keepsAll (M := mrow M 0 (upd (M 0) 0 (nI 0))) (ch := ch) hJ hc hc8 SF hK (rk.le (Nat.le_of_ble_eq_true rfl)) hl.1 (Nat.le_of_ble_eq_true rfl) hP hS dX2_sort_11 (fun H locs hP hS => ?_)
    have hP : mP dC dI dA a (mrow (mrow M 0 (upd (upd (M 0) 0 (nI 0)) 5 (nI (kpN ch)))) 3 (kpS (M 2) (M 3) ch)) H := hP
    refine lv_aload_n hx hb dX2_sort_14 rfl (lv_at hl 0 rfl) ?_
    refine lv_iload_n hx hb dX2_sort_15 rfl (lv_at hl 1 rfl) ?_
    refine k_X2_sorts (M := mrow (mrow M 0 (upd (upd (M 0) 0 (nI 0)) 5 (nI (kpN ch)))) 3 (kpS (M 2) (M 3) ch))  hJ (show lt < ln (M 2) by omega) hS1 hT SF hK (rk.le (Nat.le_of_ble_eq_true rfl)) hl.1 (Nat.le_of_ble_eq_true rfl) hP hS dX2_sort_16 (fun H locs hP hS => ?_)
    refine u_top (y := oI (srtR (M 2) (M 1) lt)) rfl ?_
    have hP : mP dC dI dA a (mrow (mrow (mrow M 0 (upd (upd (M 0) 0 (nI 0)) 5 (nI (kpN ch)))) 2 (srtS (M 2) (M 1) lt)) 3 (kpS (M 2) (M 3) ch)) H := hP
    exact hret _ _ _ _ _ (by rw [hz0, hz1, hz2]; show _ = _; rw [hcl_lt]; rfl) (by rw [hz0, hz1, hz2]; exact (by rw [hcl_lt]; exact hP)) hS dX2_sort_19
  · refine u_top (y := nI 1) (by rw [decide_eq_false hq0]; rfl) ?_
    refine lv_if_eq (tgt := 10) hx hb dX2_sort_5 (by decide) (fun c_5 => absurd c_5 (by decide)) (fun c_5 => ?_)
    refine lv_iconst (v := nI 0) hx hb dX2_sort_8 (by decide) ?_
    exact hret _ _ _ _ _ (by rw [show thC [(lo (M 0 1), 1), (inZ x.toInt 0 ((ln (M 2) : Int) - 1), 2), (decide (lr (M 2) x.toNatClampNeg 6 = 0), 3)] = thC [(lo (M 0 1), 1), (inZ x.toInt 0 ((ln (M 2) : Int) - 1), 2), (decide (lr (M 2) x.toNatClampNeg 6 = 0), 3)] from thC_pre (L1 := [(lo (M 0 1), 1), (inZ x.toInt 0 ((ln (M 2) : Int) - 1), 2), (decide (lr (M 2) x.toNatClampNeg 6 = 0), 3)]) (L2 := []) hq0, if_neg hq0]) (by rw [show thC [(lo (M 0 1), 1), (inZ x.toInt 0 ((ln (M 2) : Int) - 1), 2), (decide (lr (M 2) x.toNatClampNeg 6 = 0), 3)] = thC [(lo (M 0 1), 1), (inZ x.toInt 0 ((ln (M 2) : Int) - 1), 2), (decide (lr (M 2) x.toNatClampNeg 6 = 0), 3)] from thC_pre (L1 := [(lo (M 0 1), 1), (inZ x.toInt 0 ((ln (M 2) : Int) - 1), 2), (decide (lr (M 2) x.toNatClampNeg 6 = 0), 3)]) (L2 := []) hq0, if_neg hq0]; exact hP) hS dX2_sort_9

set_option maxHeartbeats 4000000 in
theorem c_X2_sortAll (l : Launch) (dC : Nat → ClassId) (dI : Nat → Nat → Nat) (dA : Nat → ClassId) (a : Nat → Nat) (M : Nat → Nat → Int32) (hJ : mJ a) (ch : Nat) (hS1 : SWf (M 2)) (hT : TWf (M 1)) (hc : M 0 5 = nI ch) (hc8 : ch ≤ 8) : Met l yX2_sortAll (ws_ yX2_sortAll cX2_sortAll 1 (some .int)) (rmD 15 0 0) (uPc [.ref (a 0)] (mP dC dI dA a M) dC dI dA) (uMi (mA a) (if thC [(lo (M 0 1), 1)] = 0 then nI (sAn (M 2) (M 1)) else nI 0) (mP dC dI dA a (if thC [(lo (M 0 1), 1)] = 0 then mrow (mrow (mrow M 0 (upd (upd (M 0) 0 (nI 0)) 5 (nI (kpN ch)))) 2 (sAl (M 2) (M 1))) 3 (kpS (M 2) (M 3) ch) else mrow M 0 (upd (M 0) 0 (nI (thC [(lo (M 0 1), 1)])))))) 0 0 (mA a) := by
  refine u_metMi (own := RX2) (by decide) rfl (Nat.le_of_ble_eq_true rfl) fun p e R s m args below meth c Q SF rk hP hK hret ls hl => ?_
  have hx := SF.1
  have hb := SF.2.1
  have hml := SF.2.2.1
  have hown := SF.2.2.2.1
  have hts := SF.2.2.2.2
  have hS : uS (mA a) s.heap s.heap [] := uS.rf
  have hl : lv_has ls 1 [(0, .ref (a 0))] := hl
  have hL := hS1.2.1
  have hn9 := hT.2.1
  refine lv_aload_n hx hb dX2_sortAll_0 rfl (lv_at hl 0 rfl) ?_
  refine k_X2_notLoaded  hJ  SF hK (rk.le (Nat.le_of_ble_eq_true rfl)) hl.1 (Nat.le_of_ble_eq_true rfl) hP hS dX2_sortAll_1 (fun H locs hP hS => ?_)
  have hP : mP dC dI dA a (mrow M 0 (upd (M 0) 0 (nI (thC [(lo (M 0 1), 1)])))) H := hP
  by_cases hq0 : thC [(lo (M 0 1), 1)] = 0
  · have hz0 := thC_1 hq0
    refine u_top (y := nI 0) (by rw [hq0]; rfl) ?_
    rw [hq0] at hP
    have hP : mP dC dI dA a (mrow M 0 (upd (M 0) 0 (nI 0))) H := hP
    refine lv_if_eq (tgt := 9) hx hb dX2_sortAll_4 (by decide) (fun c_4 => ?_) (fun c_4 => absurd (by decide) c_4)
    refine lv_aload_n hx hb dX2_sortAll_9 rfl (lv_at hl 0 rfl) ?_
    refine k_X2_keepsAll (M := mrow M 0 (upd (M 0) 0 (nI 0))) (ch := ch) hJ hc hc8 SF hK (rk.le (Nat.le_of_ble_eq_true rfl)) hl.1 (Nat.le_of_ble_eq_true rfl) hP hS dX2_sortAll_10 (fun H locs hP hS => ?_)
    have hP : mP dC dI dA a (mrow (mrow M 0 (upd (upd (M 0) 0 (nI 0)) 5 (nI (kpN ch)))) 3 (kpS (M 2) (M 3) ch)) H := hP
    refine lv_aload_n hx hb dX2_sortAll_13 rfl (lv_at hl 0 rfl) ?_
    refine k_X2_sortsAll (M := mrow (mrow M 0 (upd (upd (M 0) 0 (nI 0)) 5 (nI (kpN ch)))) 3 (kpS (M 2) (M 3) ch))  hJ hS1 hT SF hK (rk.le (Nat.le_of_ble_eq_true rfl)) hl.1 (Nat.le_of_ble_eq_true rfl) hP hS dX2_sortAll_14 (fun H locs hP hS => ?_)
    refine u_top (y := nI (sAn (M 2) (M 1))) rfl ?_
    have hP : mP dC dI dA a (mrow (mrow (mrow M 0 (upd (upd (M 0) 0 (nI 0)) 5 (nI (kpN ch)))) 2 (sAl (M 2) (M 1))) 3 (kpS (M 2) (M 3) ch)) H := hP
    exact hret _ _ _ _ _ (by rw [hz0]; exact (rfl)) (by rw [hz0]; exact hP) hS dX2_sortAll_17
  · refine u_top (y := nI 1) (by rw [decide_eq_false hq0]; rfl) ?_
    refine lv_if_eq (tgt := 9) hx hb dX2_sortAll_4 (by decide) (fun c_4 => absurd c_4 (by decide)) (fun c_4 => ?_)
    refine lv_iconst (v := nI 0) hx hb dX2_sortAll_7 (by decide) ?_
    exact hret _ _ _ _ _ (by rw [show thC [(lo (M 0 1), 1)] = thC [(lo (M 0 1), 1)] from thC_pre (L1 := [(lo (M 0 1), 1)]) (L2 := []) hq0, if_neg hq0]) (by rw [show thC [(lo (M 0 1), 1)] = thC [(lo (M 0 1), 1)] from thC_pre (L1 := [(lo (M 0 1), 1)]) (L2 := []) hq0, if_neg hq0]; exact hP) hS dX2_sortAll_8

set_option maxHeartbeats 4000000 in
theorem c_X2_setSum (l : Launch) (dC : Nat → ClassId) (dI : Nat → Nat → Nat) (dA : Nat → ClassId) (a : Nat → Nat) (M : Nat → Nat → Int32) (hJ : mJ a) (x : Int32) (y : Int32) (ch : Nat) (hS1 : SWf (M 2)) (hT : TWf (M 1)) (hc : M 0 5 = nI ch) (hc8 : ch ≤ 8) : Met l yX2_setSum (ws_ yX2_setSum cX2_setSum 4 (some .int)) (rmD 3 0 0) (uPc [.ref (a 0), .int x, .int y] (mP dC dI dA a M) dC dI dA) (uMi (mA a) (if thC [(lo (M 0 1), 1), (inZ x.toInt 0 5, 2), (inZ y.toInt (-1) 9, 3)] = 0 then M 2 (3 + x.toNatClampNeg) else nI 0) (mP dC dI dA a (if thC [(lo (M 0 1), 1), (inZ x.toInt 0 5, 2), (inZ y.toInt (-1) 9, 3)] = 0 then mrow (mrow (mrow M 0 (upd (upd (M 0) 0 (nI 0)) 5 (nI (kpN ch)))) 2 (upd (M 2) (3 + x.toNatClampNeg) y)) 3 (kpS (M 2) (M 3) ch) else mrow M 0 (upd (M 0) 0 (nI (thC [(lo (M 0 1), 1), (inZ x.toInt 0 5, 2), (inZ y.toInt (-1) 9, 3)])))))) 0 0 (mA a) := by
  refine u_metMi (own := RX2) (by decide) rfl (Nat.le_of_ble_eq_true rfl) fun p e R s m args below meth c Q SF rk hP hK hret ls hl => ?_
  have hx := SF.1
  have hb := SF.2.1
  have hml := SF.2.2.1
  have hown := SF.2.2.2.1
  have hts := SF.2.2.2.2
  have hS : uS (mA a) s.heap s.heap [] := uS.rf
  have hl : lv_has ls 4 [(0, .ref (a 0)), (1, .int x), (2, .int y)] := hl
  have hL := hS1.2.1
  have hn9 := hT.2.1
  refine lv_aload_n hx hb dX2_setSum_0 rfl (lv_at hl 0 rfl) ?_
  refine lv_iload_n hx hb dX2_setSum_1 rfl (lv_at hl 1 rfl) ?_
  refine k_X2_noBundle  hJ  SF hK (rk.le (Nat.le_of_ble_eq_true rfl)) hl.1 (Nat.le_of_ble_eq_true rfl) hP hS dX2_setSum_2 (fun H locs hP hS => ?_)
  have hP : mP dC dI dA a (mrow M 0 (upd (M 0) 0 (nI (thC [(lo (M 0 1), 1), (inZ x.toInt 0 5, 2)])))) H := hP
  by_cases hq0 : thC [(lo (M 0 1), 1), (inZ x.toInt 0 5, 2)] = 0
  · obtain ⟨hz0, hz1⟩ := thC_2 hq0
    refine u_top (y := nI 0) (by rw [hq0]; rfl) ?_
    rw [hq0] at hP
    have hP : mP dC dI dA a (mrow M 0 (upd (M 0) 0 (nI 0))) H := hP
    obtain ⟨b, hlt_b, hsm_b, rfl⟩ := inZ_n hz1
    have hcl_b : (nI b).toNatClampNeg = b := nI_clamp (by omega)
    have hP : mP dC dI dA a (mrow M 0 (upd (M 0) 0 (nI 0))) H := by assumption
    refine lv_if_ne (tgt := 35) hx hb dX2_setSum_5 (by decide) (fun c_5 => absurd (by decide) c_5) (fun c_5 => ?_)
    refine lv_aload_n hx hb dX2_setSum_8 rfl (lv_at hl 0 rfl) ?_
    refine lv_iload_n hx hb dX2_setSum_9 rfl (lv_at hl 2 rfl) ?_
    refine lv_i2l hx hb dX2_setSum_10 rfl ?_
    refine lv_ldc2 (v := -1) hx hb hown (hts _ q2420) dX2_setSum_11 ?_
    refine lv_ldc2 (v := 9) hx hb hown (hts _ q2421) dX2_setSum_14 ?_
    refine k_X2_in (X := y.toInt) (L := -1) (U := 9) (i2l_toInt y) (by decide) (by decide) SF hK (rk.le (Nat.le_of_ble_eq_true rfl)) hl.1 (Nat.le_of_ble_eq_true rfl) dX2_setSum_17 ?_
    have jn28 : ∀ v9 : Int32, v9 = nI ((!(inZ y.toInt (-1) 9)).toNat) → ∀ (H : Heap) (locs : List Loc), mP dC dI dA a (mrow M 0 (upd (M 0) 0 (nI 0))) H → uS (mA a) s.heap H locs → ∀ ls : Array Slot, lv_has ls 4 [(0, .ref (a 0)), (1, .int (nI b)), (2, .int y)] → W p l e R s m args below meth c H locs 0 0 Q (F0 m 28 ls [.int v9, .ref (a 0)]) := by
      intro v9 hv9 H locs hP hS ls hl
      subst hv9
      refine lv_iconst (v := nI 3) hx hb dX2_setSum_28 (by decide) ?_
      refine k_X2_refuse (M := mrow M 0 (upd (M 0) 0 (nI 0)))  hJ  SF hK (rk.le (Nat.le_of_ble_eq_true rfl)) hl.1 (Nat.le_of_ble_eq_true rfl) hP hS dX2_setSum_29 (fun H locs hP hS => ?_)
      refine u_top (y := nI ((!decide (rfT ((nI 0)) (!(inZ y.toInt (-1) 9)) (nI 3) = 0)).toNat)) rfl ?_
      have hP : mP dC dI dA a (mrow M 0 (upd (M 0) 0 (rfT ((nI 0)) (!(inZ y.toInt (-1) 9)) (nI 3)))) H := hP
      cases hq2 : (!(inZ y.toInt (-1) 9))
      · have hz2 : (inZ y.toInt (-1) 9) = true := by first | simpa using hq2 | simpa [lo, hcl_b] using hq2
        rw [hq2, rfT_f] at hP
        refine u_top (y := nI 0) (by rw [rfT_f]; rfl) ?_
        have hP : mP dC dI dA a (mrow M 0 (upd (M 0) 0 (nI 0))) H := hP
        refine lv_if_eq (tgt := 37) hx hb dX2_setSum_32 (by decide) (fun c_32 => ?_) (fun c_32 => absurd (by decide) c_32)
        refine lv_aload_n hx hb dX2_setSum_37 rfl (lv_at hl 0 rfl) ?_
        refine k_X2_keepsAll (M := mrow M 0 (upd (M 0) 0 (nI 0))) (ch := ch) hJ hc hc8 SF hK (rk.le (Nat.le_of_ble_eq_true rfl)) hl.1 (Nat.le_of_ble_eq_true rfl) hP hS dX2_setSum_38 (fun H locs hP hS => ?_)
        have hP : mP dC dI dA a (mrow (mrow M 0 (upd (upd (M 0) 0 (nI 0)) 5 (nI (kpN ch)))) 3 (kpS (M 2) (M 3) ch)) H := hP
        refine lv_aload_n hx hb dX2_setSum_41 rfl (lv_at hl 0 rfl) ?_
        refine va_get (D := (dC, dI)) (ci := 2) (v := .ref (a 2)) (C := RX2) (T := TX2) (N := 22) hx hb hts in_X2 hown hK hP 0 rfl rfl 3 (by decide) (hts _ q1954) (fun _ h9 => h9) rfl dX2_setSum_42 ?_
        refine lv_iconst (v := nI 3) hx hb dX2_setSum_45 (by decide) ?_
        refine lv_iload_n hx hb dX2_setSum_46 rfl (lv_at hl 1 rfl) ?_
        refine lv_iadd hx hb dX2_setSum_47 ?_
        refine u_top (nI_add _ _) ?_
        refine u_iald hx hb hK hP 2 0 rfl rfl (i := 3 + b) (by omega) (by decide) dX2_setSum_48 ?_
        refine u_top (y := M 2 (3 + b)) rfl ?_
        refine lv_istore_n (lv' := [(3, .int (M 2 (3 + b))), (0, .ref (a 0)), (1, .int (nI b)), (2, .int y)]) hx hb dX2_setSum_49 rfl hl (by decide) rfl (fun ls hl => ?_)
        refine lv_aload_n hx hb dX2_setSum_50 rfl (lv_at hl 1 rfl) ?_
        refine va_get (D := (dC, dI)) (ci := 2) (v := .ref (a 2)) (C := RX2) (T := TX2) (N := 22) hx hb hts in_X2 hown hK hP 0 rfl rfl 3 (by decide) (hts _ q1954) (fun _ h9 => h9) rfl dX2_setSum_51 ?_
        refine lv_iconst (v := nI 3) hx hb dX2_setSum_54 (by decide) ?_
        refine lv_iload_n hx hb dX2_setSum_55 rfl (lv_at hl 2 rfl) ?_
        refine lv_iadd hx hb dX2_setSum_56 ?_
        refine u_top (nI_add _ _) ?_
        refine lv_iload_n hx hb dX2_setSum_57 rfl (lv_at hl 3 rfl) ?_
        refine m_as2 SF hK hJ hP hS (i := 3 + b) (by omega) dX2_setSum_58 (fun H locs hP hS => ?_)
        have hP : mP dC dI dA a (mrow (mrow (mrow M 0 (upd (upd (M 0) 0 (nI 0)) 5 (nI (kpN ch)))) 2 (upd (M 2) (3 + b) y)) 3 (kpS (M 2) (M 3) ch)) H := hP
        refine lv_iload_n hx hb dX2_setSum_59 rfl (lv_at hl 0 rfl) ?_
        exact hret _ _ _ _ _ (by rw [hz0, hz1, hz2]; show _ = _; rw [hcl_b]; rfl) (by rw [hz0, hz1, hz2]; exact (by rw [hcl_b]; exact hP)) hS dX2_setSum_60
      · have hz2 : (inZ y.toInt (-1) 9) = false := by first | simpa using hq2 | simpa [lo, hcl_b] using hq2
        rw [hq2, rfT_t] at hP
        refine u_top (y := nI 1) (by rw [rfT_t]; rfl) ?_
        have hP : mP dC dI dA a (mrow M 0 (upd (M 0) 0 (nI 3))) H := hP
        refine lv_if_eq (tgt := 37) hx hb dX2_setSum_32 (by decide) (fun c_32 => absurd c_32 (by decide)) (fun c_32 => ?_)
        refine lv_iconst (v := nI 0) hx hb dX2_setSum_35 (by decide) ?_
        exact hret _ _ _ _ _ (by rw [hz0, hz1, hz2]; rfl) (by rw [hz0, hz1, hz2]; exact hP) hS dX2_setSum_36
    refine lv_if_ne (tgt := 27) hx hb dX2_setSum_20 (by decide) (fun c_20 => ?_) (fun c_20 => ?_)
    · have c_20 : ¬ ((inZ y.toInt (-1) 9) = false) := fun q9 => c_20 (u_zb.mpr q9)
      refine lv_iconst (v := nI 0) hx hb dX2_setSum_27 (by decide) ?_
      exact jn28 _ (u_ff (by simp [c_20])) _ _ hP hS ls (lv_sub hl [0, 1, 2] rfl)
    · have c_20 : (inZ y.toInt (-1) 9) = false := u_zb.mp c_20
      refine lv_iconst (v := nI 1) hx hb dX2_setSum_23 (by decide) ?_
      refine lv_goto (tgt := 28) hx hb dX2_setSum_24 (by decide) ?_
      exact jn28 _ (u_tt (by simpa using c_20)) _ _ hP hS ls (lv_sub hl [0, 1, 2] rfl)
  · refine u_top (y := nI 1) (by rw [decide_eq_false hq0]; rfl) ?_
    refine lv_if_ne (tgt := 35) hx hb dX2_setSum_5 (by decide) (fun c_5 => ?_) (fun c_5 => absurd c_5 (by decide))
    refine lv_iconst (v := nI 0) hx hb dX2_setSum_35 (by decide) ?_
    exact hret _ _ _ _ _ (by rw [show thC [(lo (M 0 1), 1), (inZ x.toInt 0 5, 2), (inZ y.toInt (-1) 9, 3)] = thC [(lo (M 0 1), 1), (inZ x.toInt 0 5, 2)] from thC_pre (L1 := [(lo (M 0 1), 1), (inZ x.toInt 0 5, 2)]) (L2 := [(inZ y.toInt (-1) 9, 3)]) hq0, if_neg hq0]) (by rw [show thC [(lo (M 0 1), 1), (inZ x.toInt 0 5, 2), (inZ y.toInt (-1) 9, 3)] = thC [(lo (M 0 1), 1), (inZ x.toInt 0 5, 2)] from thC_pre (L1 := [(lo (M 0 1), 1), (inZ x.toInt 0 5, 2)]) (L2 := [(inZ y.toInt (-1) 9, 3)]) hq0, if_neg hq0]; exact hP) hS dX2_setSum_36

set_option maxHeartbeats 4000000 in
theorem c_X2_setLimit (l : Launch) (dC : Nat → ClassId) (dI : Nat → Nat → Nat) (dA : Nat → ClassId) (a : Nat → Nat) (M : Nat → Nat → Int32) (hJ : mJ a) (x : Int32) (ch : Nat) (hS1 : SWf (M 2)) (hT : TWf (M 1)) (hc : M 0 5 = nI ch) (hc8 : ch ≤ 8) : Met l yX2_setLimit (ws_ yX2_setLimit cX2_setLimit 3 (some .int)) (rmD 3 0 0) (uPc [.ref (a 0), .int x] (mP dC dI dA a M) dC dI dA) (uMi (mA a) (if thC [(lo (M 0 1), 1), (inZ x.toInt 0 8, 2)] = 0 then M 2 0 else nI 0) (mP dC dI dA a (if thC [(lo (M 0 1), 1), (inZ x.toInt 0 8, 2)] = 0 then mrow (mrow (mrow M 0 (upd (upd (M 0) 0 (nI 0)) 5 (nI (kpN ch)))) 2 (upd (M 2) 0 x)) 3 (kpS (M 2) (M 3) ch) else mrow M 0 (upd (M 0) 0 (nI (thC [(lo (M 0 1), 1), (inZ x.toInt 0 8, 2)])))))) 0 0 (mA a) := by
  refine u_metMi (own := RX2) (by decide) rfl (Nat.le_of_ble_eq_true rfl) fun p e R s m args below meth c Q SF rk hP hK hret ls hl => ?_
  have hx := SF.1
  have hb := SF.2.1
  have hml := SF.2.2.1
  have hown := SF.2.2.2.1
  have hts := SF.2.2.2.2
  have hS : uS (mA a) s.heap s.heap [] := uS.rf
  have hl : lv_has ls 3 [(0, .ref (a 0)), (1, .int x)] := hl
  have hL := hS1.2.1
  have hn9 := hT.2.1
  refine lv_aload_n hx hb dX2_setLimit_0 rfl (lv_at hl 0 rfl) ?_
  refine lv_iload_n hx hb dX2_setLimit_1 rfl (lv_at hl 1 rfl) ?_
  refine k_X2_noLimit  hJ  SF hK (rk.le (Nat.le_of_ble_eq_true rfl)) hl.1 (Nat.le_of_ble_eq_true rfl) hP hS dX2_setLimit_2 (fun H locs hP hS => ?_)
  have hP : mP dC dI dA a (mrow M 0 (upd (M 0) 0 (nI (thC [(lo (M 0 1), 1), (inZ x.toInt 0 8, 2)])))) H := hP
  by_cases hq0 : thC [(lo (M 0 1), 1), (inZ x.toInt 0 8, 2)] = 0
  · obtain ⟨hz0, hz1⟩ := thC_2 hq0
    refine u_top (y := nI 0) (by rw [hq0]; rfl) ?_
    rw [hq0] at hP
    have hP : mP dC dI dA a (mrow M 0 (upd (M 0) 0 (nI 0))) H := hP
    obtain ⟨j, hlt_j, hsm_j, rfl⟩ := inZ_n hz1
    have hcl_j : (nI j).toNatClampNeg = j := nI_clamp (by omega)
    have hP : mP dC dI dA a (mrow M 0 (upd (M 0) 0 (nI 0))) H := by assumption
    refine lv_if_eq (tgt := 10) hx hb dX2_setLimit_5 (by decide) (fun c_5 => ?_) (fun c_5 => absurd (by decide) c_5)
    refine lv_aload_n hx hb dX2_setLimit_10 rfl (lv_at hl 0 rfl) ?_
    refine k_X2_keepsAll (M := mrow M 0 (upd (M 0) 0 (nI 0))) (ch := ch) hJ hc hc8 SF hK (rk.le (Nat.le_of_ble_eq_true rfl)) hl.1 (Nat.le_of_ble_eq_true rfl) hP hS dX2_setLimit_11 (fun H locs hP hS => ?_)
    have hP : mP dC dI dA a (mrow (mrow M 0 (upd (upd (M 0) 0 (nI 0)) 5 (nI (kpN ch)))) 3 (kpS (M 2) (M 3) ch)) H := hP
    refine lv_aload_n hx hb dX2_setLimit_14 rfl (lv_at hl 0 rfl) ?_
    refine va_get (D := (dC, dI)) (ci := 2) (v := .ref (a 2)) (C := RX2) (T := TX2) (N := 22) hx hb hts in_X2 hown hK hP 0 rfl rfl 3 (by decide) (hts _ q1954) (fun _ h9 => h9) rfl dX2_setLimit_15 ?_
    refine lv_iconst (v := nI 0) hx hb dX2_setLimit_18 (by decide) ?_
    refine u_iald hx hb hK hP 2 0 rfl rfl (i := 0) (by omega) (by decide) dX2_setLimit_19 ?_
    refine u_top (y := M 2 0) rfl ?_
    refine lv_istore_n (lv' := [(2, .int (M 2 0)), (0, .ref (a 0)), (1, .int (nI j))]) hx hb dX2_setLimit_20 rfl hl (by decide) rfl (fun ls hl => ?_)
    refine lv_aload_n hx hb dX2_setLimit_21 rfl (lv_at hl 1 rfl) ?_
    refine va_get (D := (dC, dI)) (ci := 2) (v := .ref (a 2)) (C := RX2) (T := TX2) (N := 22) hx hb hts in_X2 hown hK hP 0 rfl rfl 3 (by decide) (hts _ q1954) (fun _ h9 => h9) rfl dX2_setLimit_22 ?_
    refine lv_iconst (v := nI 0) hx hb dX2_setLimit_25 (by decide) ?_
    refine lv_iload_n hx hb dX2_setLimit_26 rfl (lv_at hl 2 rfl) ?_
    refine m_as2 SF hK hJ hP hS (i := 0) (by omega) dX2_setLimit_27 (fun H locs hP hS => ?_)
    have hP : mP dC dI dA a (mrow (mrow (mrow M 0 (upd (upd (M 0) 0 (nI 0)) 5 (nI (kpN ch)))) 2 (upd (M 2) 0 (nI j))) 3 (kpS (M 2) (M 3) ch)) H := hP
    refine lv_iload_n hx hb dX2_setLimit_28 rfl (lv_at hl 0 rfl) ?_
    exact hret _ _ _ _ _ (by rw [hz0, hz1]; exact (rfl)) (by rw [hz0, hz1]; exact hP) hS dX2_setLimit_29
  · refine u_top (y := nI 1) (by rw [decide_eq_false hq0]; rfl) ?_
    refine lv_if_eq (tgt := 10) hx hb dX2_setLimit_5 (by decide) (fun c_5 => absurd c_5 (by decide)) (fun c_5 => ?_)
    refine lv_iconst (v := nI 0) hx hb dX2_setLimit_8 (by decide) ?_
    exact hret _ _ _ _ _ (by rw [show thC [(lo (M 0 1), 1), (inZ x.toInt 0 8, 2)] = thC [(lo (M 0 1), 1), (inZ x.toInt 0 8, 2)] from thC_pre (L1 := [(lo (M 0 1), 1), (inZ x.toInt 0 8, 2)]) (L2 := []) hq0, if_neg hq0]) (by rw [show thC [(lo (M 0 1), 1), (inZ x.toInt 0 8, 2)] = thC [(lo (M 0 1), 1), (inZ x.toInt 0 8, 2)] from thC_pre (L1 := [(lo (M 0 1), 1), (inZ x.toInt 0 8, 2)]) (L2 := []) hq0, if_neg hq0]; exact hP) hS dX2_setLimit_9

set_option maxHeartbeats 4000000 in
theorem c_X2_turnRoute (l : Launch) (dC : Nat → ClassId) (dI : Nat → Nat → Nat) (dA : Nat → ClassId) (a : Nat → Nat) (M : Nat → Nat → Int32) (hJ : mJ a) (x : Int32) (ch : Nat) (hS1 : SWf (M 2)) (hT : TWf (M 1)) (hc : M 0 5 = nI ch) (hc8 : ch ≤ 8) : Met l yX2_turnRoute (ws_ yX2_turnRoute cX2_turnRoute 2 (some .int)) (rmD 3 0 0) (uPc [.ref (a 0), .int x] (mP dC dI dA a M) dC dI dA) (uMi (mA a) (if thC [(lo (M 0 1), 1), (inZ x.toInt 0 5, 2)] = 0 then nI 1 - M 2 (9 + x.toNatClampNeg) else nI 0) (mP dC dI dA a (if thC [(lo (M 0 1), 1), (inZ x.toInt 0 5, 2)] = 0 then mrow (mrow (mrow M 0 (upd (upd (M 0) 0 (nI 0)) 5 (nI (kpN ch)))) 2 (upd (M 2) (9 + x.toNatClampNeg) (nI 1 - M 2 (9 + x.toNatClampNeg)))) 3 (kpS (M 2) (M 3) ch) else mrow M 0 (upd (M 0) 0 (nI (thC [(lo (M 0 1), 1), (inZ x.toInt 0 5, 2)])))))) 0 0 (mA a) := by
  refine u_metMi (own := RX2) (by decide) rfl (Nat.le_of_ble_eq_true rfl) fun p e R s m args below meth c Q SF rk hP hK hret ls hl => ?_
  have hx := SF.1
  have hb := SF.2.1
  have hml := SF.2.2.1
  have hown := SF.2.2.2.1
  have hts := SF.2.2.2.2
  have hS : uS (mA a) s.heap s.heap [] := uS.rf
  have hl : lv_has ls 2 [(0, .ref (a 0)), (1, .int x)] := hl
  have hL := hS1.2.1
  have hn9 := hT.2.1
  refine lv_aload_n hx hb dX2_turnRoute_0 rfl (lv_at hl 0 rfl) ?_
  refine lv_iload_n hx hb dX2_turnRoute_1 rfl (lv_at hl 1 rfl) ?_
  refine k_X2_noRoute  hJ  SF hK (rk.le (Nat.le_of_ble_eq_true rfl)) hl.1 (Nat.le_of_ble_eq_true rfl) hP hS dX2_turnRoute_2 (fun H locs hP hS => ?_)
  have hP : mP dC dI dA a (mrow M 0 (upd (M 0) 0 (nI (thC [(lo (M 0 1), 1), (inZ x.toInt 0 5, 2)])))) H := hP
  by_cases hq0 : thC [(lo (M 0 1), 1), (inZ x.toInt 0 5, 2)] = 0
  · obtain ⟨hz0, hz1⟩ := thC_2 hq0
    refine u_top (y := nI 0) (by rw [hq0]; rfl) ?_
    rw [hq0] at hP
    have hP : mP dC dI dA a (mrow M 0 (upd (M 0) 0 (nI 0))) H := hP
    obtain ⟨r, hlt_r, hsm_r, rfl⟩ := inZ_n hz1
    have hcl_r : (nI r).toNatClampNeg = r := nI_clamp (by omega)
    have hP : mP dC dI dA a (mrow M 0 (upd (M 0) 0 (nI 0))) H := by assumption
    refine lv_if_eq (tgt := 10) hx hb dX2_turnRoute_5 (by decide) (fun c_5 => ?_) (fun c_5 => absurd (by decide) c_5)
    refine lv_aload_n hx hb dX2_turnRoute_10 rfl (lv_at hl 0 rfl) ?_
    refine k_X2_keepsAll (M := mrow M 0 (upd (M 0) 0 (nI 0))) (ch := ch) hJ hc hc8 SF hK (rk.le (Nat.le_of_ble_eq_true rfl)) hl.1 (Nat.le_of_ble_eq_true rfl) hP hS dX2_turnRoute_11 (fun H locs hP hS => ?_)
    have hP : mP dC dI dA a (mrow (mrow M 0 (upd (upd (M 0) 0 (nI 0)) 5 (nI (kpN ch)))) 3 (kpS (M 2) (M 3) ch)) H := hP
    refine lv_aload_n hx hb dX2_turnRoute_14 rfl (lv_at hl 0 rfl) ?_
    refine va_get (D := (dC, dI)) (ci := 2) (v := .ref (a 2)) (C := RX2) (T := TX2) (N := 22) hx hb hts in_X2 hown hK hP 0 rfl rfl 3 (by decide) (hts _ q1954) (fun _ h9 => h9) rfl dX2_turnRoute_15 ?_
    refine lv_bipush (v := nI 9) hx hb dX2_turnRoute_18 (by decide) ?_
    refine lv_iload_n hx hb dX2_turnRoute_20 rfl (lv_at hl 1 rfl) ?_
    refine lv_iadd hx hb dX2_turnRoute_21 ?_
    refine u_top (nI_add _ _) ?_
    refine lv_iconst (v := nI 1) hx hb dX2_turnRoute_22 (by decide) ?_
    refine lv_aload_n hx hb dX2_turnRoute_23 rfl (lv_at hl 0 rfl) ?_
    refine va_get (D := (dC, dI)) (ci := 2) (v := .ref (a 2)) (C := RX2) (T := TX2) (N := 22) hx hb hts in_X2 hown hK hP 0 rfl rfl 3 (by decide) (hts _ q1954) (fun _ h9 => h9) rfl dX2_turnRoute_24 ?_
    refine lv_bipush (v := nI 9) hx hb dX2_turnRoute_27 (by decide) ?_
    refine lv_iload_n hx hb dX2_turnRoute_29 rfl (lv_at hl 1 rfl) ?_
    refine lv_iadd hx hb dX2_turnRoute_30 ?_
    refine u_top (nI_add _ _) ?_
    refine u_iald hx hb hK hP 2 0 rfl rfl (i := 9 + r) (by omega) (by decide) dX2_turnRoute_31 ?_
    refine u_top (y := M 2 (9 + r)) rfl ?_
    refine lv_isub hx hb dX2_turnRoute_32 ?_
    refine m_as2 SF hK hJ hP hS (i := 9 + r) (by omega) dX2_turnRoute_33 (fun H locs hP hS => ?_)
    have hP : mP dC dI dA a (mrow (mrow (mrow M 0 (upd (upd (M 0) 0 (nI 0)) 5 (nI (kpN ch)))) 2 (upd (M 2) (9 + r) ((nI 1) - (M 2 (9 + r))))) 3 (kpS (M 2) (M 3) ch)) H := hP
    refine lv_aload_n hx hb dX2_turnRoute_34 rfl (lv_at hl 0 rfl) ?_
    refine va_get (D := (dC, dI)) (ci := 2) (v := .ref (a 2)) (C := RX2) (T := TX2) (N := 22) hx hb hts in_X2 hown hK hP 0 rfl rfl 3 (by decide) (hts _ q1954) (fun _ h9 => h9) rfl dX2_turnRoute_35 ?_
    refine lv_bipush (v := nI 9) hx hb dX2_turnRoute_38 (by decide) ?_
    refine lv_iload_n hx hb dX2_turnRoute_40 rfl (lv_at hl 1 rfl) ?_
    refine lv_iadd hx hb dX2_turnRoute_41 ?_
    refine u_top (nI_add _ _) ?_
    refine u_iald hx hb hK hP 2 0 rfl rfl (i := 9 + r) (by omega) (by decide) dX2_turnRoute_42 ?_
    refine u_top (y := (upd (M 2) (9 + r) ((nI 1) - (M 2 (9 + r)))) (9 + r)) rfl ?_
    exact hret _ _ _ _ _ (by rw [hz0, hz1]; show _ = _; rw [hcl_r]; exact upd_eq) (by rw [hz0, hz1]; exact (by rw [hcl_r]; exact hP)) hS dX2_turnRoute_43
  · refine u_top (y := nI 1) (by rw [decide_eq_false hq0]; rfl) ?_
    refine lv_if_eq (tgt := 10) hx hb dX2_turnRoute_5 (by decide) (fun c_5 => absurd c_5 (by decide)) (fun c_5 => ?_)
    refine lv_iconst (v := nI 0) hx hb dX2_turnRoute_8 (by decide) ?_
    exact hret _ _ _ _ _ (by rw [show thC [(lo (M 0 1), 1), (inZ x.toInt 0 5, 2)] = thC [(lo (M 0 1), 1), (inZ x.toInt 0 5, 2)] from thC_pre (L1 := [(lo (M 0 1), 1), (inZ x.toInt 0 5, 2)]) (L2 := []) hq0, if_neg hq0]) (by rw [show thC [(lo (M 0 1), 1), (inZ x.toInt 0 5, 2)] = thC [(lo (M 0 1), 1), (inZ x.toInt 0 5, 2)] from thC_pre (L1 := [(lo (M 0 1), 1), (inZ x.toInt 0 5, 2)]) (L2 := []) hq0, if_neg hq0]; exact hP) hS dX2_turnRoute_9

set_option maxHeartbeats 4000000 in
theorem c_X2_move (l : Launch) (dC : Nat → ClassId) (dI : Nat → Nat → Nat) (dA : Nat → ClassId) (a : Nat → Nat) (M : Nat → Nat → Int32) (hJ : mJ a) (x : Int32) (y : Int32) (ch : Nat) (hS1 : SWf (M 2)) (hT : TWf (M 1)) (hc : M 0 5 = nI ch) (hc8 : ch ≤ 8) : Met l yX2_move (ws_ yX2_move cX2_move 4 (some .int)) (rmD 3 0 0) (uPc [.ref (a 0), .int x, .int y] (mP dC dI dA a M) dC dI dA) (uMi (mA a) (if thC [(lo (M 0 1), 1), (inZ x.toInt 0 ((ln (M 2) : Int) - 1), 2), (inZ y.toInt 0 5, 2), (decide (lr (M 2) x.toNatClampNeg 6 = 0), 3)] = 0 then lr (M 2) x.toNatClampNeg 5 else nI 0) (mP dC dI dA a (if thC [(lo (M 0 1), 1), (inZ x.toInt 0 ((ln (M 2) : Int) - 1), 2), (inZ y.toInt 0 5, 2), (decide (lr (M 2) x.toNatClampNeg 6 = 0), 3)] = 0 then mrow (mrow (mrow M 0 (upd (upd (M 0) 0 (nI 0)) 5 (nI (kpN ch)))) 2 (upd (M 2) (33 + 10 * x.toNatClampNeg + 5) y)) 3 (kpS (M 2) (M 3) ch) else mrow M 0 (upd (M 0) 0 (nI (thC [(lo (M 0 1), 1), (inZ x.toInt 0 ((ln (M 2) : Int) - 1), 2), (inZ y.toInt 0 5, 2), (decide (lr (M 2) x.toNatClampNeg 6 = 0), 3)])))))) 0 0 (mA a) := by
  refine u_metMi (own := RX2) (by decide) rfl (Nat.le_of_ble_eq_true rfl) fun p e R s m args below meth c Q SF rk hP hK hret ls hl => ?_
  have hx := SF.1
  have hb := SF.2.1
  have hml := SF.2.2.1
  have hown := SF.2.2.2.1
  have hts := SF.2.2.2.2
  have hS : uS (mA a) s.heap s.heap [] := uS.rf
  have hl : lv_has ls 4 [(0, .ref (a 0)), (1, .int x), (2, .int y)] := hl
  have hL := hS1.2.1
  have hn9 := hT.2.1
  refine lv_aload_n hx hb dX2_move_0 rfl (lv_at hl 0 rfl) ?_
  refine lv_iload_n hx hb dX2_move_1 rfl (lv_at hl 1 rfl) ?_
  refine k_X2_noLetter  hJ hS1 SF hK (rk.le (Nat.le_of_ble_eq_true rfl)) hl.1 (Nat.le_of_ble_eq_true rfl) hP hS dX2_move_2 (fun H locs hP hS => ?_)
  have hP : mP dC dI dA a (mrow M 0 (upd (M 0) 0 (nI (thC [(lo (M 0 1), 1), (inZ x.toInt 0 ((ln (M 2) : Int) - 1), 2)])))) H := hP
  by_cases hq0 : thC [(lo (M 0 1), 1), (inZ x.toInt 0 ((ln (M 2) : Int) - 1), 2)] = 0
  · obtain ⟨hz0, hz1⟩ := thC_2 hq0
    refine u_top (y := nI 0) (by rw [hq0]; rfl) ?_
    rw [hq0] at hP
    have hP : mP dC dI dA a (mrow M 0 (upd (M 0) 0 (nI 0))) H := hP
    obtain ⟨lt, hlt_lt, hsm_lt, rfl⟩ := inZ_n hz1
    have hcl_lt : (nI lt).toNatClampNeg = lt := nI_clamp (by omega)
    have hP : mP dC dI dA a (mrow M 0 (upd (M 0) 0 (nI 0))) H := by assumption
    refine lv_if_ne (tgt := 56) hx hb dX2_move_5 (by decide) (fun c_5 => absurd (by decide) c_5) (fun c_5 => ?_)
    refine lv_aload_n hx hb dX2_move_8 rfl (lv_at hl 0 rfl) ?_
    refine lv_iload_n hx hb dX2_move_9 rfl (lv_at hl 2 rfl) ?_
    refine lv_i2l hx hb dX2_move_10 rfl ?_
    refine lv_lconst (v := 0) hx hb dX2_move_11 rfl ?_
    refine lv_ldc2 (v := 5) hx hb hown (hts _ q2385) dX2_move_12 ?_
    refine k_X2_in (X := y.toInt) (L := 0) (U := 5) (i2l_toInt y) (by decide) (by decide) SF hK (rk.le (Nat.le_of_ble_eq_true rfl)) hl.1 (Nat.le_of_ble_eq_true rfl) dX2_move_15 ?_
    have jn26 : ∀ v9 : Int32, v9 = nI ((!(inZ y.toInt 0 5)).toNat) → ∀ (H : Heap) (locs : List Loc), mP dC dI dA a (mrow M 0 (upd (M 0) 0 (nI 0))) H → uS (mA a) s.heap H locs → ∀ ls : Array Slot, lv_has ls 4 [(0, .ref (a 0)), (1, .int (nI lt)), (2, .int y)] → W p l e R s m args below meth c H locs 0 0 Q (F0 m 26 ls [.int v9, .ref (a 0)]) := by
      intro v9 hv9 H locs hP hS ls hl
      subst hv9
      refine lv_iconst (v := nI 2) hx hb dX2_move_26 (by decide) ?_
      refine k_X2_refuse (M := mrow M 0 (upd (M 0) 0 (nI 0)))  hJ  SF hK (rk.le (Nat.le_of_ble_eq_true rfl)) hl.1 (Nat.le_of_ble_eq_true rfl) hP hS dX2_move_27 (fun H locs hP hS => ?_)
      refine u_top (y := nI ((!decide (rfT ((nI 0)) (!(inZ y.toInt 0 5)) (nI 2) = 0)).toNat)) rfl ?_
      have hP : mP dC dI dA a (mrow M 0 (upd (M 0) 0 (rfT ((nI 0)) (!(inZ y.toInt 0 5)) (nI 2)))) H := hP
      cases hq2 : (!(inZ y.toInt 0 5))
      · have hz2 : (inZ y.toInt 0 5) = true := by first | simpa using hq2 | simpa [lo, hcl_lt] using hq2
        rw [hq2, rfT_f] at hP
        refine u_top (y := nI 0) (by rw [rfT_f]; rfl) ?_
        have hP : mP dC dI dA a (mrow M 0 (upd (M 0) 0 (nI 0))) H := hP
        obtain ⟨b, hlt_b, hsm_b, rfl⟩ := inZ_n hz2
        have hcl_b : (nI b).toNatClampNeg = b := nI_clamp (by omega)
        have hP : mP dC dI dA a (mrow M 0 (upd (M 0) 0 (nI 0))) H := by assumption
        refine lv_if_ne (tgt := 56) hx hb dX2_move_30 (by decide) (fun c_30 => absurd (by decide) c_30) (fun c_30 => ?_)
        refine lv_aload_n hx hb dX2_move_33 rfl (lv_at hl 0 rfl) ?_
        refine lv_aload_n hx hb dX2_move_34 rfl (lv_at hl 0 rfl) ?_
        refine lv_iload_n hx hb dX2_move_35 rfl (lv_at hl 1 rfl) ?_
        refine lv_bipush (v := nI 6) hx hb dX2_move_36 (by decide) ?_
        refine k_X2_l (M := mrow M 0 (upd (M 0) 0 (nI 0)))  (show lt < 24 by omega) (show 6 < 10 by omega) SF hK (rk.le (Nat.le_of_ble_eq_true rfl)) hl.1 (Nat.le_of_ble_eq_true rfl) hP dX2_move_38 ?_
        refine u_top (y := lr (M 2) lt 6) rfl ?_
        have jn49 : ∀ v9 : Int32, v9 = nI ((!decide (lr (M 2) lt 6 = 0)).toNat) → ∀ (H : Heap) (locs : List Loc), mP dC dI dA a (mrow M 0 (upd (M 0) 0 (nI 0))) H → uS (mA a) s.heap H locs → ∀ ls : Array Slot, lv_has ls 4 [(0, .ref (a 0)), (1, .int (nI lt)), (2, .int (nI b))] → W p l e R s m args below meth c H locs 0 0 Q (F0 m 49 ls [.int v9, .ref (a 0)]) := by
          intro v9 hv9 H locs hP hS ls hl
          subst hv9
          refine lv_iconst (v := nI 3) hx hb dX2_move_49 (by decide) ?_
          refine k_X2_refuse (M := mrow M 0 (upd (M 0) 0 (nI 0)))  hJ  SF hK (rk.le (Nat.le_of_ble_eq_true rfl)) hl.1 (Nat.le_of_ble_eq_true rfl) hP hS dX2_move_50 (fun H locs hP hS => ?_)
          refine u_top (y := nI ((!decide (rfT ((nI 0)) (!decide (lr (M 2) lt 6 = 0)) (nI 3) = 0)).toNat)) rfl ?_
          have hP : mP dC dI dA a (mrow M 0 (upd (M 0) 0 (rfT ((nI 0)) (!decide (lr (M 2) lt 6 = 0)) (nI 3)))) H := hP
          cases hq3 : (!decide (lr (M 2) lt 6 = 0))
          · have hz3 : (decide (lr (M 2) (nI lt).toNatClampNeg 6 = 0)) = true := by first | simpa using hq3 | simpa [lo, hcl_lt, hcl_b] using hq3
            rw [hq3, rfT_f] at hP
            refine u_top (y := nI 0) (by rw [rfT_f]; rfl) ?_
            have hP : mP dC dI dA a (mrow M 0 (upd (M 0) 0 (nI 0))) H := hP
            refine lv_if_eq (tgt := 58) hx hb dX2_move_53 (by decide) (fun c_53 => ?_) (fun c_53 => absurd (by decide) c_53)
            refine lv_aload_n hx hb dX2_move_58 rfl (lv_at hl 0 rfl) ?_
            refine k_X2_keepsAll (M := mrow M 0 (upd (M 0) 0 (nI 0))) (ch := ch) hJ hc hc8 SF hK (rk.le (Nat.le_of_ble_eq_true rfl)) hl.1 (Nat.le_of_ble_eq_true rfl) hP hS dX2_move_59 (fun H locs hP hS => ?_)
            have hP : mP dC dI dA a (mrow (mrow M 0 (upd (upd (M 0) 0 (nI 0)) 5 (nI (kpN ch)))) 3 (kpS (M 2) (M 3) ch)) H := hP
            refine lv_aload_n hx hb dX2_move_62 rfl (lv_at hl 0 rfl) ?_
            refine lv_iload_n hx hb dX2_move_63 rfl (lv_at hl 1 rfl) ?_
            refine lv_iconst (v := nI 5) hx hb dX2_move_64 (by decide) ?_
            refine k_X2_l (M := mrow (mrow M 0 (upd (upd (M 0) 0 (nI 0)) 5 (nI (kpN ch)))) 3 (kpS (M 2) (M 3) ch))  (show lt < 24 by omega) (show 5 < 10 by omega) SF hK (rk.le (Nat.le_of_ble_eq_true rfl)) hl.1 (Nat.le_of_ble_eq_true rfl) hP dX2_move_65 ?_
            refine u_top (y := lr (M 2) lt 5) rfl ?_
            refine lv_istore_n (lv' := [(3, .int (lr (M 2) lt 5)), (0, .ref (a 0)), (1, .int (nI lt)), (2, .int (nI b))]) hx hb dX2_move_68 rfl hl (by decide) rfl (fun ls hl => ?_)
            refine lv_aload_n hx hb dX2_move_69 rfl (lv_at hl 1 rfl) ?_
            refine lv_iload_n hx hb dX2_move_70 rfl (lv_at hl 2 rfl) ?_
            refine lv_iconst (v := nI 5) hx hb dX2_move_71 (by decide) ?_
            refine lv_iload_n hx hb dX2_move_72 rfl (lv_at hl 3 rfl) ?_
            refine k_X2_lays (M := mrow (mrow M 0 (upd (upd (M 0) 0 (nI 0)) 5 (nI (kpN ch)))) 3 (kpS (M 2) (M 3) ch))  hJ (show lt < 24 by omega) (show 5 < 10 by omega) SF hK (rk.le (Nat.le_of_ble_eq_true rfl)) hl.1 (Nat.le_of_ble_eq_true rfl) hP hS dX2_move_73 (fun H locs hP hS => ?_)
            have hP : mP dC dI dA a (mrow (mrow (mrow M 0 (upd (upd (M 0) 0 (nI 0)) 5 (nI (kpN ch)))) 2 (upd (M 2) (33 + 10 * lt + 5) (nI b))) 3 (kpS (M 2) (M 3) ch)) H := hP
            refine lv_iload_n hx hb dX2_move_76 rfl (lv_at hl 0 rfl) ?_
            exact hret _ _ _ _ _ (by rw [hz0, hz1, hz2, hz3]; show _ = _; rw [hcl_lt]; rfl) (by rw [hz0, hz1, hz2, hz3]; exact (by rw [hcl_lt]; exact hP)) hS dX2_move_77
          · have hz3 : (decide (lr (M 2) (nI lt).toNatClampNeg 6 = 0)) = false := by first | simpa using hq3 | simpa [lo, hcl_lt, hcl_b] using hq3
            rw [hq3, rfT_t] at hP
            refine u_top (y := nI 1) (by rw [rfT_t]; rfl) ?_
            have hP : mP dC dI dA a (mrow M 0 (upd (M 0) 0 (nI 3))) H := hP
            refine lv_if_eq (tgt := 58) hx hb dX2_move_53 (by decide) (fun c_53 => absurd c_53 (by decide)) (fun c_53 => ?_)
            refine lv_iconst (v := nI 0) hx hb dX2_move_56 (by decide) ?_
            exact hret _ _ _ _ _ (by rw [hz0, hz1, hz2, hz3]; rfl) (by rw [hz0, hz1, hz2, hz3]; exact hP) hS dX2_move_57
        refine lv_if_eq (tgt := 48) hx hb dX2_move_41 (by decide) (fun c_41 => ?_) (fun c_41 => ?_)
        · refine lv_iconst (v := nI 0) hx hb dX2_move_48 (by decide) ?_
          exact jn49 _ (u_n0 c_41) _ _ hP hS ls (lv_sub hl [0, 1, 2] rfl)
        · refine lv_iconst (v := nI 1) hx hb dX2_move_44 (by decide) ?_
          refine lv_goto (tgt := 49) hx hb dX2_move_45 (by decide) ?_
          exact jn49 _ (u_n1 c_41) _ _ hP hS ls (lv_sub hl [0, 1, 2] rfl)
      · have hz2 : (inZ y.toInt 0 5) = false := by first | simpa using hq2 | simpa [lo, hcl_lt] using hq2
        rw [hq2, rfT_t] at hP
        refine u_top (y := nI 1) (by rw [rfT_t]; rfl) ?_
        have hP : mP dC dI dA a (mrow M 0 (upd (M 0) 0 (nI 2))) H := hP
        refine lv_if_ne (tgt := 56) hx hb dX2_move_30 (by decide) (fun c_30 => ?_) (fun c_30 => absurd c_30 (by decide))
        refine lv_iconst (v := nI 0) hx hb dX2_move_56 (by decide) ?_
        exact hret _ _ _ _ _ (by rw [hz0, hz1, hz2]; rfl) (by rw [hz0, hz1, hz2]; exact hP) hS dX2_move_57
    refine lv_if_ne (tgt := 25) hx hb dX2_move_18 (by decide) (fun c_18 => ?_) (fun c_18 => ?_)
    · have c_18 : ¬ ((inZ y.toInt 0 5) = false) := fun q9 => c_18 (u_zb.mpr q9)
      refine lv_iconst (v := nI 0) hx hb dX2_move_25 (by decide) ?_
      exact jn26 _ (u_ff (by simp [c_18])) _ _ hP hS ls (lv_sub hl [0, 1, 2] rfl)
    · have c_18 : (inZ y.toInt 0 5) = false := u_zb.mp c_18
      refine lv_iconst (v := nI 1) hx hb dX2_move_21 (by decide) ?_
      refine lv_goto (tgt := 26) hx hb dX2_move_22 (by decide) ?_
      exact jn26 _ (u_tt (by simpa using c_18)) _ _ hP hS ls (lv_sub hl [0, 1, 2] rfl)
  · refine u_top (y := nI 1) (by rw [decide_eq_false hq0]; rfl) ?_
    refine lv_if_ne (tgt := 56) hx hb dX2_move_5 (by decide) (fun c_5 => ?_) (fun c_5 => absurd c_5 (by decide))
    refine lv_iconst (v := nI 0) hx hb dX2_move_56 (by decide) ?_
    exact hret _ _ _ _ _ (by rw [show thC [(lo (M 0 1), 1), (inZ x.toInt 0 ((ln (M 2) : Int) - 1), 2), (inZ y.toInt 0 5, 2), (decide (lr (M 2) x.toNatClampNeg 6 = 0), 3)] = thC [(lo (M 0 1), 1), (inZ x.toInt 0 ((ln (M 2) : Int) - 1), 2)] from thC_pre (L1 := [(lo (M 0 1), 1), (inZ x.toInt 0 ((ln (M 2) : Int) - 1), 2)]) (L2 := [(inZ y.toInt 0 5, 2), (decide (lr (M 2) x.toNatClampNeg 6 = 0), 3)]) hq0, if_neg hq0]) (by rw [show thC [(lo (M 0 1), 1), (inZ x.toInt 0 ((ln (M 2) : Int) - 1), 2), (inZ y.toInt 0 5, 2), (decide (lr (M 2) x.toNatClampNeg 6 = 0), 3)] = thC [(lo (M 0 1), 1), (inZ x.toInt 0 ((ln (M 2) : Int) - 1), 2)] from thC_pre (L1 := [(lo (M 0 1), 1), (inZ x.toInt 0 ((ln (M 2) : Int) - 1), 2)]) (L2 := [(inZ y.toInt 0 5, 2), (decide (lr (M 2) x.toNatClampNeg 6 = 0), 3)]) hq0, if_neg hq0]; exact hP) hS dX2_move_57

set_option maxHeartbeats 4000000 in
theorem c_X2_again (l : Launch) (dC : Nat → ClassId) (dI : Nat → Nat → Nat) (dA : Nat → ClassId) (a : Nat → Nat) (M : Nat → Nat → Int32) (hJ : mJ a) (x : Int32) (y : Int32) (z : Int32) (ch : Nat) (hS1 : SWf (M 2)) (hT : TWf (M 1)) (hc : M 0 5 = nI ch) (hc8 : ch ≤ 8) : Met l yX2_again (ws_ yX2_again cX2_again 4 (some .int)) (rmD 4 0 0) (uPc [.ref (a 0), .int x, .int y, .int z] (mP dC dI dA a M) dC dI dA) (uMi (mA a) (if thC [(lo (M 0 1), 1), (inZ x.toInt 0 ((ln (M 2) : Int) - 1), 2), (inZ y.toInt 0 4, 2), (inZ z.toInt (-1) 9 && decide (whR (M 2) x.toNatClampNeg = 0), 3)] = 0 then lr (agS (M 2) x.toNatClampNeg y.toNatClampNeg z) x.toNatClampNeg 7 else nI 0) (mP dC dI dA a (if thC [(lo (M 0 1), 1), (inZ x.toInt 0 ((ln (M 2) : Int) - 1), 2), (inZ y.toInt 0 4, 2), (inZ z.toInt (-1) 9 && decide (whR (M 2) x.toNatClampNeg = 0), 3)] = 0 then mrow (mrow (mrow M 0 (upd (upd (M 0) 0 (nI 0)) 5 (nI (kpN ch)))) 2 (agS (M 2) x.toNatClampNeg y.toNatClampNeg z)) 3 (kpS (M 2) (M 3) ch) else mrow M 0 (upd (M 0) 0 (nI (thC [(lo (M 0 1), 1), (inZ x.toInt 0 ((ln (M 2) : Int) - 1), 2), (inZ y.toInt 0 4, 2), (inZ z.toInt (-1) 9 && decide (whR (M 2) x.toNatClampNeg = 0), 3)])))))) 0 0 (mA a) := by
  refine u_metMi (own := RX2) (by decide) rfl (Nat.le_of_ble_eq_true rfl) fun p e R s m args below meth c Q SF rk hP hK hret ls hl => ?_
  have hx := SF.1
  have hb := SF.2.1
  have hml := SF.2.2.1
  have hown := SF.2.2.2.1
  have hts := SF.2.2.2.2
  have hS : uS (mA a) s.heap s.heap [] := uS.rf
  have hl : lv_has ls 4 [(0, .ref (a 0)), (1, .int x), (2, .int y), (3, .int z)] := hl
  have hL := hS1.2.1
  have hn9 := hT.2.1
  refine lv_aload_n hx hb dX2_again_0 rfl (lv_at hl 0 rfl) ?_
  refine lv_iload_n hx hb dX2_again_1 rfl (lv_at hl 1 rfl) ?_
  refine lv_iload_n hx hb dX2_again_2 rfl (lv_at hl 2 rfl) ?_
  refine k_X2_noPlace  hJ hS1 SF hK (rk.le (Nat.le_of_ble_eq_true rfl)) hl.1 (Nat.le_of_ble_eq_true rfl) hP hS dX2_again_3 (fun H locs hP hS => ?_)
  have hP : mP dC dI dA a (mrow M 0 (upd (M 0) 0 (nI (thC [(lo (M 0 1), 1), (inZ x.toInt 0 ((ln (M 2) : Int) - 1), 2), (inZ y.toInt 0 4, 2)])))) H := hP
  by_cases hq0 : thC [(lo (M 0 1), 1), (inZ x.toInt 0 ((ln (M 2) : Int) - 1), 2), (inZ y.toInt 0 4, 2)] = 0
  · obtain ⟨hz0, hz1, hz2⟩ := thC_3 hq0
    refine u_top (y := nI 0) (by rw [hq0]; rfl) ?_
    rw [hq0] at hP
    have hP : mP dC dI dA a (mrow M 0 (upd (M 0) 0 (nI 0))) H := hP
    obtain ⟨lt, hlt_lt, hsm_lt, rfl⟩ := inZ_n hz1
    have hcl_lt : (nI lt).toNatClampNeg = lt := nI_clamp (by omega)
    have hP : mP dC dI dA a (mrow M 0 (upd (M 0) 0 (nI 0))) H := by assumption
    obtain ⟨q, hlt_q, hsm_q, rfl⟩ := inZ_n hz2
    have hcl_q : (nI q).toNatClampNeg = q := nI_clamp (by omega)
    have hP : mP dC dI dA a (mrow M 0 (upd (M 0) 0 (nI 0))) H := by assumption
    refine lv_if_ne (tgt := 44) hx hb dX2_again_6 (by decide) (fun c_6 => absurd (by decide) c_6) (fun c_6 => ?_)
    refine lv_aload_n hx hb dX2_again_9 rfl (lv_at hl 0 rfl) ?_
    refine lv_iload_n hx hb dX2_again_10 rfl (lv_at hl 3 rfl) ?_
    refine lv_i2l hx hb dX2_again_11 rfl ?_
    refine lv_ldc2 (v := -1) hx hb hown (hts _ q2420) dX2_again_12 ?_
    refine lv_ldc2 (v := 9) hx hb hown (hts _ q2421) dX2_again_15 ?_
    refine k_X2_in (X := z.toInt) (L := -1) (U := 9) (i2l_toInt z) (by decide) (by decide) SF hK (rk.le (Nat.le_of_ble_eq_true rfl)) hl.1 (Nat.le_of_ble_eq_true rfl) dX2_again_18 ?_
    have jn37 : ∀ v9 : Int32, v9 = nI ((!(inZ z.toInt (-1) 9 && decide (whR (M 2) lt = 0))).toNat) → ∀ (H : Heap) (locs : List Loc), mP dC dI dA a (mrow M 0 (upd (M 0) 0 (nI 0))) H → uS (mA a) s.heap H locs → ∀ ls : Array Slot, lv_has ls 4 [(0, .ref (a 0)), (1, .int (nI lt)), (2, .int (nI q)), (3, .int z)] → W p l e R s m args below meth c H locs 0 0 Q (F0 m 37 ls [.int v9, .ref (a 0)]) := by
      intro v9 hv9 H locs hP hS ls hl
      subst hv9
      refine lv_iconst (v := nI 3) hx hb dX2_again_37 (by decide) ?_
      refine k_X2_refuse (M := mrow M 0 (upd (M 0) 0 (nI 0)))  hJ  SF hK (rk.le (Nat.le_of_ble_eq_true rfl)) hl.1 (Nat.le_of_ble_eq_true rfl) hP hS dX2_again_38 (fun H locs hP hS => ?_)
      refine u_top (y := nI ((!decide (rfT ((nI 0)) (!(inZ z.toInt (-1) 9 && decide (whR (M 2) lt = 0))) (nI 3) = 0)).toNat)) rfl ?_
      have hP : mP dC dI dA a (mrow M 0 (upd (M 0) 0 (rfT ((nI 0)) (!(inZ z.toInt (-1) 9 && decide (whR (M 2) lt = 0))) (nI 3)))) H := hP
      cases hq3 : (!(inZ z.toInt (-1) 9 && decide (whR (M 2) lt = 0)))
      · have hz3 : (inZ z.toInt (-1) 9 && decide (whR (M 2) (nI lt).toNatClampNeg = 0)) = true := by (try simp only [lo, hcl_lt, hcl_q]); exact b_nf hq3
        rw [hq3, rfT_f] at hP
        refine u_top (y := nI 0) (by rw [rfT_f]; rfl) ?_
        have hP : mP dC dI dA a (mrow M 0 (upd (M 0) 0 (nI 0))) H := hP
        refine lv_if_eq (tgt := 46) hx hb dX2_again_41 (by decide) (fun c_41 => ?_) (fun c_41 => absurd (by decide) c_41)
        refine lv_aload_n hx hb dX2_again_46 rfl (lv_at hl 0 rfl) ?_
        refine k_X2_keepsAll (M := mrow M 0 (upd (M 0) 0 (nI 0))) (ch := ch) hJ hc hc8 SF hK (rk.le (Nat.le_of_ble_eq_true rfl)) hl.1 (Nat.le_of_ble_eq_true rfl) hP hS dX2_again_47 (fun H locs hP hS => ?_)
        have hP : mP dC dI dA a (mrow (mrow M 0 (upd (upd (M 0) 0 (nI 0)) 5 (nI (kpN ch)))) 3 (kpS (M 2) (M 3) ch)) H := hP
        refine lv_aload_n hx hb dX2_again_50 rfl (lv_at hl 0 rfl) ?_
        refine lv_iload_n hx hb dX2_again_51 rfl (lv_at hl 1 rfl) ?_
        refine lv_iload_n hx hb dX2_again_52 rfl (lv_at hl 2 rfl) ?_
        refine lv_iload_n hx hb dX2_again_53 rfl (lv_at hl 3 rfl) ?_
        refine k_X2_lays (M := mrow (mrow M 0 (upd (upd (M 0) 0 (nI 0)) 5 (nI (kpN ch)))) 3 (kpS (M 2) (M 3) ch))  hJ (show lt < 24 by omega) (show q < 10 by omega) SF hK (rk.le (Nat.le_of_ble_eq_true rfl)) hl.1 (Nat.le_of_ble_eq_true rfl) hP hS dX2_again_54 (fun H locs hP hS => ?_)
        have hP : mP dC dI dA a (mrow (mrow (mrow M 0 (upd (upd (M 0) 0 (nI 0)) 5 (nI (kpN ch)))) 2 (upd (M 2) (33 + 10 * lt + q) z)) 3 (kpS (M 2) (M 3) ch)) H := hP
        refine lv_aload_n hx hb dX2_again_57 rfl (lv_at hl 0 rfl) ?_
        refine lv_iload_n hx hb dX2_again_58 rfl (lv_at hl 1 rfl) ?_
        refine lv_bipush (v := nI 7) hx hb dX2_again_59 (by decide) ?_
        refine lv_aload_n hx hb dX2_again_61 rfl (lv_at hl 0 rfl) ?_
        refine lv_iload_n hx hb dX2_again_62 rfl (lv_at hl 1 rfl) ?_
        refine lv_bipush (v := nI 7) hx hb dX2_again_63 (by decide) ?_
        refine k_X2_l (M := mrow (mrow (mrow M 0 (upd (upd (M 0) 0 (nI 0)) 5 (nI (kpN ch)))) 2 (upd (M 2) (33 + 10 * lt + q) z)) 3 (kpS (M 2) (M 3) ch))  (show lt < 24 by omega) (show 7 < 10 by omega) SF hK (rk.le (Nat.le_of_ble_eq_true rfl)) hl.1 (Nat.le_of_ble_eq_true rfl) hP dX2_again_65 ?_
        refine u_top (y := lr (upd (M 2) (33 + 10 * lt + q) z) lt 7) rfl ?_
        refine lv_iconst (v := nI 1) hx hb dX2_again_68 (by decide) ?_
        refine lv_iadd hx hb dX2_again_69 ?_
        refine k_X2_lays (M := mrow (mrow (mrow M 0 (upd (upd (M 0) 0 (nI 0)) 5 (nI (kpN ch)))) 2 (upd (M 2) (33 + 10 * lt + q) z)) 3 (kpS (M 2) (M 3) ch))  hJ (show lt < 24 by omega) (show 7 < 10 by omega) SF hK (rk.le (Nat.le_of_ble_eq_true rfl)) hl.1 (Nat.le_of_ble_eq_true rfl) hP hS dX2_again_70 (fun H locs hP hS => ?_)
        have hP : mP dC dI dA a (mrow (mrow (mrow M 0 (upd (upd (M 0) 0 (nI 0)) 5 (nI (kpN ch)))) 2 (upd (upd (M 2) (33 + 10 * lt + q) z) (33 + 10 * lt + 7) ((lr (upd (M 2) (33 + 10 * lt + q) z) lt 7) + (nI 1)))) 3 (kpS (M 2) (M 3) ch)) H := hP
        refine lv_aload_n hx hb dX2_again_73 rfl (lv_at hl 0 rfl) ?_
        refine lv_iload_n hx hb dX2_again_74 rfl (lv_at hl 1 rfl) ?_
        refine lv_bipush (v := nI 6) hx hb dX2_again_75 (by decide) ?_
        refine lv_iconst (v := nI 0) hx hb dX2_again_77 (by decide) ?_
        refine k_X2_lays (M := mrow (mrow (mrow M 0 (upd (upd (M 0) 0 (nI 0)) 5 (nI (kpN ch)))) 2 (upd (upd (M 2) (33 + 10 * lt + q) z) (33 + 10 * lt + 7) ((lr (upd (M 2) (33 + 10 * lt + q) z) lt 7) + (nI 1)))) 3 (kpS (M 2) (M 3) ch))  hJ (show lt < 24 by omega) (show 6 < 10 by omega) SF hK (rk.le (Nat.le_of_ble_eq_true rfl)) hl.1 (Nat.le_of_ble_eq_true rfl) hP hS dX2_again_78 (fun H locs hP hS => ?_)
        have hP : mP dC dI dA a (mrow (mrow (mrow M 0 (upd (upd (M 0) 0 (nI 0)) 5 (nI (kpN ch)))) 2 (upd (upd (upd (M 2) (33 + 10 * lt + q) z) (33 + 10 * lt + 7) ((lr (upd (M 2) (33 + 10 * lt + q) z) lt 7) + (nI 1))) (33 + 10 * lt + 6) (nI 0))) 3 (kpS (M 2) (M 3) ch)) H := hP
        refine lv_aload_n hx hb dX2_again_81 rfl (lv_at hl 0 rfl) ?_
        refine lv_iload_n hx hb dX2_again_82 rfl (lv_at hl 1 rfl) ?_
        refine lv_bipush (v := nI 8) hx hb dX2_again_83 (by decide) ?_
        refine lv_iconst (v := nI 0) hx hb dX2_again_85 (by decide) ?_
        refine k_X2_lays (M := mrow (mrow (mrow M 0 (upd (upd (M 0) 0 (nI 0)) 5 (nI (kpN ch)))) 2 (upd (upd (upd (M 2) (33 + 10 * lt + q) z) (33 + 10 * lt + 7) ((lr (upd (M 2) (33 + 10 * lt + q) z) lt 7) + (nI 1))) (33 + 10 * lt + 6) (nI 0))) 3 (kpS (M 2) (M 3) ch))  hJ (show lt < 24 by omega) (show 8 < 10 by omega) SF hK (rk.le (Nat.le_of_ble_eq_true rfl)) hl.1 (Nat.le_of_ble_eq_true rfl) hP hS dX2_again_86 (fun H locs hP hS => ?_)
        have hP : mP dC dI dA a (mrow (mrow (mrow M 0 (upd (upd (M 0) 0 (nI 0)) 5 (nI (kpN ch)))) 2 (upd (upd (upd (upd (M 2) (33 + 10 * lt + q) z) (33 + 10 * lt + 7) ((lr (upd (M 2) (33 + 10 * lt + q) z) lt 7) + (nI 1))) (33 + 10 * lt + 6) (nI 0)) (33 + 10 * lt + 8) (nI 0))) 3 (kpS (M 2) (M 3) ch)) H := hP
        refine lv_aload_n hx hb dX2_again_89 rfl (lv_at hl 0 rfl) ?_
        refine va_get (D := (dC, dI)) (ci := 2) (v := .ref (a 2)) (C := RX2) (T := TX2) (N := 22) hx hb hts in_X2 hown hK hP 0 rfl rfl 3 (by decide) (hts _ q1954) (fun _ h9 => h9) rfl dX2_again_90 ?_
        refine lv_iconst (v := nI 1) hx hb dX2_again_93 (by decide) ?_
        refine lv_dup2_11 hx hb dX2_again_94 rfl rfl ?_
        refine u_iald hx hb hK hP 2 0 rfl rfl (i := 1) (by omega) (by decide) dX2_again_95 ?_
        refine u_top (y := (upd (upd (upd (upd (M 2) (33 + 10 * lt + q) z) (33 + 10 * lt + 7) ((lr (upd (M 2) (33 + 10 * lt + q) z) lt 7) + (nI 1))) (33 + 10 * lt + 6) (nI 0)) (33 + 10 * lt + 8) (nI 0)) 1) rfl ?_
        refine lv_iconst (v := nI 1) hx hb dX2_again_96 (by decide) ?_
        refine lv_iadd hx hb dX2_again_97 ?_
        refine m_as2 SF hK hJ hP hS (i := 1) (by omega) dX2_again_98 (fun H locs hP hS => ?_)
        have hP : mP dC dI dA a (mrow (mrow (mrow M 0 (upd (upd (M 0) 0 (nI 0)) 5 (nI (kpN ch)))) 2 (upd (upd (upd (upd (upd (M 2) (33 + 10 * lt + q) z) (33 + 10 * lt + 7) ((lr (upd (M 2) (33 + 10 * lt + q) z) lt 7) + (nI 1))) (33 + 10 * lt + 6) (nI 0)) (33 + 10 * lt + 8) (nI 0)) 1 (((upd (upd (upd (upd (M 2) (33 + 10 * lt + q) z) (33 + 10 * lt + 7) ((lr (upd (M 2) (33 + 10 * lt + q) z) lt 7) + (nI 1))) (33 + 10 * lt + 6) (nI 0)) (33 + 10 * lt + 8) (nI 0)) 1) + (nI 1)))) 3 (kpS (M 2) (M 3) ch)) H := hP
        refine lv_aload_n hx hb dX2_again_99 rfl (lv_at hl 0 rfl) ?_
        refine lv_iload_n hx hb dX2_again_100 rfl (lv_at hl 1 rfl) ?_
        refine lv_bipush (v := nI 7) hx hb dX2_again_101 (by decide) ?_
        refine k_X2_l (M := mrow (mrow (mrow M 0 (upd (upd (M 0) 0 (nI 0)) 5 (nI (kpN ch)))) 2 (upd (upd (upd (upd (upd (M 2) (33 + 10 * lt + q) z) (33 + 10 * lt + 7) ((lr (upd (M 2) (33 + 10 * lt + q) z) lt 7) + (nI 1))) (33 + 10 * lt + 6) (nI 0)) (33 + 10 * lt + 8) (nI 0)) 1 (((upd (upd (upd (upd (M 2) (33 + 10 * lt + q) z) (33 + 10 * lt + 7) ((lr (upd (M 2) (33 + 10 * lt + q) z) lt 7) + (nI 1))) (33 + 10 * lt + 6) (nI 0)) (33 + 10 * lt + 8) (nI 0)) 1) + (nI 1)))) 3 (kpS (M 2) (M 3) ch))  (show lt < 24 by omega) (show 7 < 10 by omega) SF hK (rk.le (Nat.le_of_ble_eq_true rfl)) hl.1 (Nat.le_of_ble_eq_true rfl) hP dX2_again_103 ?_
        refine u_top (y := lr (upd (upd (upd (upd (upd (M 2) (33 + 10 * lt + q) z) (33 + 10 * lt + 7) ((lr (upd (M 2) (33 + 10 * lt + q) z) lt 7) + (nI 1))) (33 + 10 * lt + 6) (nI 0)) (33 + 10 * lt + 8) (nI 0)) 1 (((upd (upd (upd (upd (M 2) (33 + 10 * lt + q) z) (33 + 10 * lt + 7) ((lr (upd (M 2) (33 + 10 * lt + q) z) lt 7) + (nI 1))) (33 + 10 * lt + 6) (nI 0)) (33 + 10 * lt + 8) (nI 0)) 1) + (nI 1))) lt 7) rfl ?_
        exact hret _ _ _ _ _ (by rw [hz0, hz1, hz2, hz3]; show _ = _; rw [hcl_lt, hcl_q]; rfl) (by rw [hz0, hz1, hz2, hz3]; exact (by rw [hcl_lt, hcl_q]; exact hP)) hS dX2_again_106
      · have hz3 : (inZ z.toInt (-1) 9 && decide (whR (M 2) (nI lt).toNatClampNeg = 0)) = false := by (try simp only [lo, hcl_lt, hcl_q]); exact b_nt hq3
        rw [hq3, rfT_t] at hP
        refine u_top (y := nI 1) (by rw [rfT_t]; rfl) ?_
        have hP : mP dC dI dA a (mrow M 0 (upd (M 0) 0 (nI 3))) H := hP
        refine lv_if_eq (tgt := 46) hx hb dX2_again_41 (by decide) (fun c_41 => absurd c_41 (by decide)) (fun c_41 => ?_)
        refine lv_iconst (v := nI 0) hx hb dX2_again_44 (by decide) ?_
        exact hret _ _ _ _ _ (by rw [hz0, hz1, hz2, hz3]; rfl) (by rw [hz0, hz1, hz2, hz3]; exact hP) hS dX2_again_45
    refine lv_if_eq (tgt := 32) hx hb dX2_again_21 (by decide) (fun c_21 => ?_) (fun c_21 => ?_)
    · have c_21 : (inZ z.toInt (-1) 9) = false := u_zb.mp c_21
      refine lv_iconst (v := nI 1) hx hb dX2_again_32 (by decide) ?_
      refine lv_goto (tgt := 37) hx hb dX2_again_33 (by decide) ?_
      exact jn37 _ (u_tt (by cases hh : inZ z.toInt (-1) 9 <;> simp_all)) _ _ hP hS ls (lv_sub hl [0, 1, 2, 3] rfl)
    · have c_21 : ¬ ((inZ z.toInt (-1) 9) = false) := fun q9 => c_21 (u_zb.mpr q9)
      refine lv_aload_n hx hb dX2_again_24 rfl (lv_at hl 0 rfl) ?_
      refine lv_iload_n hx hb dX2_again_25 rfl (lv_at hl 1 rfl) ?_
      have hw9 : whR (M 2) lt ≤ 2 := by unfold whR; split <;> (try split) <;> omega
      refine k_X2_whyNotRead (M := mrow M 0 (upd (M 0) 0 (nI 0)))  (by omega) SF hK (rk.le (Nat.le_of_ble_eq_true rfl)) hl.1 (Nat.le_of_ble_eq_true rfl) hP dX2_again_26 ?_
      refine u_top (y := nI (whR (M 2) lt)) rfl ?_
      refine lv_if_eq (tgt := 36) hx hb dX2_again_29 (by decide) (fun c_29 => ?_) (fun c_29 => ?_)
      · have c_29 : whR (M 2) lt = 0 := (nI_eq (a := whR (M 2) lt) (b := 0) (by omega) (by omega)).mp c_29
        refine lv_iconst (v := nI 0) hx hb dX2_again_36 (by decide) ?_
        exact jn37 _ (u_ff (by cases hh : inZ z.toInt (-1) 9 <;> simp_all)) _ _ hP hS ls (lv_sub hl [0, 1, 2, 3] rfl)
      · have c_29 : ¬ (whR (M 2) lt = 0) := fun q9 => c_29 ((nI_eq (a := whR (M 2) lt) (b := 0) (by omega) (by omega)).mpr q9)
        refine lv_iconst (v := nI 1) hx hb dX2_again_32 (by decide) ?_
        refine lv_goto (tgt := 37) hx hb dX2_again_33 (by decide) ?_
        exact jn37 _ (u_tt (by cases hh : inZ z.toInt (-1) 9 <;> simp_all)) _ _ hP hS ls (lv_sub hl [0, 1, 2, 3] rfl)
  · refine u_top (y := nI 1) (by rw [decide_eq_false hq0]; rfl) ?_
    refine lv_if_ne (tgt := 44) hx hb dX2_again_6 (by decide) (fun c_6 => ?_) (fun c_6 => absurd c_6 (by decide))
    refine lv_iconst (v := nI 0) hx hb dX2_again_44 (by decide) ?_
    exact hret _ _ _ _ _ (by rw [show thC [(lo (M 0 1), 1), (inZ x.toInt 0 ((ln (M 2) : Int) - 1), 2), (inZ y.toInt 0 4, 2), (inZ z.toInt (-1) 9 && decide (whR (M 2) x.toNatClampNeg = 0), 3)] = thC [(lo (M 0 1), 1), (inZ x.toInt 0 ((ln (M 2) : Int) - 1), 2), (inZ y.toInt 0 4, 2)] from thC_pre (L1 := [(lo (M 0 1), 1), (inZ x.toInt 0 ((ln (M 2) : Int) - 1), 2), (inZ y.toInt 0 4, 2)]) (L2 := [(inZ z.toInt (-1) 9 && decide (whR (M 2) x.toNatClampNeg = 0), 3)]) hq0, if_neg hq0]) (by rw [show thC [(lo (M 0 1), 1), (inZ x.toInt 0 ((ln (M 2) : Int) - 1), 2), (inZ y.toInt 0 4, 2), (inZ z.toInt (-1) 9 && decide (whR (M 2) x.toNatClampNeg = 0), 3)] = thC [(lo (M 0 1), 1), (inZ x.toInt 0 ((ln (M 2) : Int) - 1), 2), (inZ y.toInt 0 4, 2)] from thC_pre (L1 := [(lo (M 0 1), 1), (inZ x.toInt 0 ((ln (M 2) : Int) - 1), 2), (inZ y.toInt 0 4, 2)]) (L2 := [(inZ z.toInt (-1) 9 && decide (whR (M 2) x.toNatClampNeg = 0), 3)]) hq0, if_neg hq0]; exact hP) hS dX2_again_45

set_option maxHeartbeats 4000000 in
theorem c_X2_addLetter (l : Launch) (dC : Nat → ClassId) (dI : Nat → Nat → Nat) (dA : Nat → ClassId) (a : Nat → Nat) (M : Nat → Nat → Int32) (hJ : mJ a) (x : Int32) (y : Int32) (z : Int32) (ch : Nat) (hS1 : SWf (M 2)) (hT : TWf (M 1)) (hc : M 0 5 = nI ch) (hc8 : ch ≤ 8) : Met l yX2_addLetter (ws_ yX2_addLetter cX2_addLetter 6 (some .int)) (rmD 3 0 0) (uPc [.ref (a 0), .int x, .int y, .int z] (mP dC dI dA a M) dC dI dA) (uMi (mA a) (if thC [(lo (M 0 1), 1), (inZ z.toInt 0 5, 2), ((inZ x.toInt 0 99999 && inZ y.toInt 0 31) && !decide (ln (M 2) = 24), 3)] = 0 then nI (ln (M 2)) else nI 0) (mP dC dI dA a (if thC [(lo (M 0 1), 1), (inZ z.toInt 0 5, 2), ((inZ x.toInt 0 99999 && inZ y.toInt 0 31) && !decide (ln (M 2) = 24), 3)] = 0 then mrow (mrow (mrow M 0 (upd (upd (M 0) 0 (nI 0)) 5 (nI (kpN ch)))) 2 (adS (M 2) x.toNatClampNeg y.toNatClampNeg z)) 3 (kpS (M 2) (M 3) ch) else mrow M 0 (upd (M 0) 0 (nI (thC [(lo (M 0 1), 1), (inZ z.toInt 0 5, 2), ((inZ x.toInt 0 99999 && inZ y.toInt 0 31) && !decide (ln (M 2) = 24), 3)])))))) 0 0 (mA a) := by
  refine u_metMi (own := RX2) (by decide) rfl (Nat.le_of_ble_eq_true rfl) fun p e R s m args below meth c Q SF rk hP hK hret ls hl => ?_
  have hx := SF.1
  have hb := SF.2.1
  have hml := SF.2.2.1
  have hown := SF.2.2.2.1
  have hts := SF.2.2.2.2
  have hS : uS (mA a) s.heap s.heap [] := uS.rf
  have hl : lv_has ls 6 [(0, .ref (a 0)), (1, .int x), (2, .int y), (3, .int z)] := hl
  have hL := hS1.2.1
  have hn9 := hT.2.1
  refine lv_aload_n hx hb dX2_addLetter_0 rfl (lv_at hl 0 rfl) ?_
  refine lv_iload_n hx hb dX2_addLetter_1 rfl (lv_at hl 3 rfl) ?_
  refine k_X2_noBundle  hJ  SF hK (rk.le (Nat.le_of_ble_eq_true rfl)) hl.1 (Nat.le_of_ble_eq_true rfl) hP hS dX2_addLetter_2 (fun H locs hP hS => ?_)
  have hP : mP dC dI dA a (mrow M 0 (upd (M 0) 0 (nI (thC [(lo (M 0 1), 1), (inZ z.toInt 0 5, 2)])))) H := hP
  by_cases hq0 : thC [(lo (M 0 1), 1), (inZ z.toInt 0 5, 2)] = 0
  · obtain ⟨hz0, hz1⟩ := thC_2 hq0
    refine u_top (y := nI 0) (by rw [hq0]; rfl) ?_
    rw [hq0] at hP
    have hP : mP dC dI dA a (mrow M 0 (upd (M 0) 0 (nI 0))) H := hP
    obtain ⟨b, hlt_b, hsm_b, rfl⟩ := inZ_n hz1
    have hcl_b : (nI b).toNatClampNeg = b := nI_clamp (by omega)
    have hP : mP dC dI dA a (mrow M 0 (upd (M 0) 0 (nI 0))) H := by assumption
    refine lv_if_ne (tgt := 54) hx hb dX2_addLetter_5 (by decide) (fun c_5 => absurd (by decide) c_5) (fun c_5 => ?_)
    refine lv_aload_n hx hb dX2_addLetter_8 rfl (lv_at hl 0 rfl) ?_
    refine lv_iload_n hx hb dX2_addLetter_9 rfl (lv_at hl 1 rfl) ?_
    refine lv_i2l hx hb dX2_addLetter_10 rfl ?_
    refine lv_lconst (v := 0) hx hb dX2_addLetter_11 rfl ?_
    refine lv_ldc2 (v := 99999) hx hb hown (hts _ q2523) dX2_addLetter_12 ?_
    refine k_X2_in (X := x.toInt) (L := 0) (U := 99999) (i2l_toInt x) (by decide) (by decide) SF hK (rk.le (Nat.le_of_ble_eq_true rfl)) hl.1 (Nat.le_of_ble_eq_true rfl) dX2_addLetter_15 ?_
    have jn47 : ∀ v9 : Int32, v9 = nI ((!((inZ x.toInt 0 99999 && inZ y.toInt 0 31) && !decide (ln (M 2) = 24))).toNat) → ∀ (H : Heap) (locs : List Loc), mP dC dI dA a (mrow M 0 (upd (M 0) 0 (nI 0))) H → uS (mA a) s.heap H locs → ∀ ls : Array Slot, lv_has ls 6 [(0, .ref (a 0)), (1, .int x), (2, .int y), (3, .int (nI b))] → W p l e R s m args below meth c H locs 0 0 Q (F0 m 47 ls [.int v9, .ref (a 0)]) := by
      intro v9 hv9 H locs hP hS ls hl
      subst hv9
      refine lv_iconst (v := nI 3) hx hb dX2_addLetter_47 (by decide) ?_
      refine k_X2_refuse (M := mrow M 0 (upd (M 0) 0 (nI 0)))  hJ  SF hK (rk.le (Nat.le_of_ble_eq_true rfl)) hl.1 (Nat.le_of_ble_eq_true rfl) hP hS dX2_addLetter_48 (fun H locs hP hS => ?_)
      refine u_top (y := nI ((!decide (rfT ((nI 0)) (!((inZ x.toInt 0 99999 && inZ y.toInt 0 31) && !decide (ln (M 2) = 24))) (nI 3) = 0)).toNat)) rfl ?_
      have hP : mP dC dI dA a (mrow M 0 (upd (M 0) 0 (rfT ((nI 0)) (!((inZ x.toInt 0 99999 && inZ y.toInt 0 31) && !decide (ln (M 2) = 24))) (nI 3)))) H := hP
      cases hq2 : (!((inZ x.toInt 0 99999 && inZ y.toInt 0 31) && !decide (ln (M 2) = 24)))
      · have hz2 : ((inZ x.toInt 0 99999 && inZ y.toInt 0 31) && !decide (ln (M 2) = 24)) = true := by (try simp only [lo, hcl_b]); exact b_nf hq2
        rw [hq2, rfT_f] at hP
        refine u_top (y := nI 0) (by rw [rfT_f]; rfl) ?_
        have hP : mP dC dI dA a (mrow M 0 (upd (M 0) 0 (nI 0))) H := hP
        have hxy := hz2
        rw [Bool.and_eq_true, Bool.and_eq_true] at hxy
        have hl24 : ¬ ln (M 2) = 24 := by simpa using hxy.2
        have hx1 := hxy.1.1
        have hy1 := hxy.1.2
        obtain ⟨xx, hlt_xx, hsm_xx, rfl⟩ := inZ_n hx1
        have hcl_xx : (nI xx).toNatClampNeg = xx := nI_clamp (by omega)
        have hP : mP dC dI dA a (mrow M 0 (upd (M 0) 0 (nI 0))) H := by assumption
        obtain ⟨yy, hlt_yy, hsm_yy, rfl⟩ := inZ_n hy1
        have hcl_yy : (nI yy).toNatClampNeg = yy := nI_clamp (by omega)
        have hP : mP dC dI dA a (mrow M 0 (upd (M 0) 0 (nI 0))) H := by assumption
        refine lv_if_eq (tgt := 56) hx hb dX2_addLetter_51 (by decide) (fun c_51 => ?_) (fun c_51 => absurd (by decide) c_51)
        refine lv_aload_n hx hb dX2_addLetter_56 rfl (lv_at hl 0 rfl) ?_
        refine k_X2_keepsAll (M := mrow M 0 (upd (M 0) 0 (nI 0))) (ch := ch) hJ hc hc8 SF hK (rk.le (Nat.le_of_ble_eq_true rfl)) hl.1 (Nat.le_of_ble_eq_true rfl) hP hS dX2_addLetter_57 (fun H locs hP hS => ?_)
        have hP : mP dC dI dA a (mrow (mrow M 0 (upd (upd (M 0) 0 (nI 0)) 5 (nI (kpN ch)))) 3 (kpS (M 2) (M 3) ch)) H := hP
        refine lv_aload_n hx hb dX2_addLetter_60 rfl (lv_at hl 0 rfl) ?_
        refine k_X2_letters (M := mrow (mrow M 0 (upd (upd (M 0) 0 (nI 0)) 5 (nI (kpN ch)))) 3 (kpS (M 2) (M 3) ch))   SF hK (rk.le (Nat.le_of_ble_eq_true rfl)) hl.1 (Nat.le_of_ble_eq_true rfl) hP dX2_addLetter_61 ?_
        refine u_top (y := M 2 2) rfl ?_
        refine u_top (y := nI (ln (M 2))) hS1.1 ?_
        refine lv_istore (lv' := [(4, .int (nI (ln (M 2)))), (0, .ref (a 0)), (1, .int (nI xx)), (2, .int (nI yy)), (3, .int (nI b))]) hx hb dX2_addLetter_64 hl (by decide) rfl (fun ls hl => ?_)
        refine lv_iconst (v := nI 0) hx hb dX2_addLetter_66 (by decide) ?_
        refine lv_istore (lv' := [(5, .int (nI 0)), (4, .int (nI (ln (M 2)))), (0, .ref (a 0)), (1, .int (nI xx)), (2, .int (nI yy)), (3, .int (nI b))]) hx hb dX2_addLetter_67 hl (by decide) rfl (fun ls hl => ?_)
        have lp69 : ∀ (k0 : Nat) (k : Nat), k ≤ 5 → 5 < k + k0 → ∀ (H : Heap) (locs : List Loc), mP dC dI dA a (mrow (mrow (mrow M 0 (upd (upd (M 0) 0 (nI 0)) 5 (nI (kpN ch)))) 2 (adK (M 2) (ln (M 2)) xx yy k)) 3 (kpS (M 2) (M 3) ch)) H → uS (mA a) s.heap H locs → ∀ ls : Array Slot, lv_has ls 6 [(5, .int (nI k)), (4, .int (nI (ln (M 2)))), (0, .ref (a 0)), (1, .int (nI xx)), (2, .int (nI yy)), (3, .int (nI b))] → W p l e R s m args below meth c H locs 0 0 Q (F0 m 69 ls []) := by
          intro k0
          induction k0 with
          | zero =>
            intro k hk1 hk2; omega
          | succ k0 ih =>
            intro k hk1 hk2 H locs hP hS ls hl
            have ih69 := ih
            refine lv_iload hx hb dX2_addLetter_69 (lv_at hl 0 rfl) ?_
            refine lv_iconst (v := nI 5) hx hb dX2_addLetter_71 (by decide) ?_
            refine lv_icmp_ge (tgt := 109) hx hb dX2_addLetter_72 (by decide) (fun c_72 => ?_) (fun c_72 => ?_)
            · have c_72 : 5 ≤ k := (nI_leI (a := 5) (b := k) (by omega) (by omega)).mp c_72
              refine lv_aload_n hx hb dX2_addLetter_109 rfl (lv_at hl 2 rfl) ?_
              refine lv_iload_n hx hb dX2_addLetter_110 rfl (lv_at hl 5 rfl) ?_
              refine k_X2_newLetter (M := mrow (mrow (mrow M 0 (upd (upd (M 0) 0 (nI 0)) 5 (nI (kpN ch)))) 2 (adK (M 2) (ln (M 2)) xx yy k)) 3 (kpS (M 2) (M 3) ch))  hJ ((adK_2 (by omega)).trans (hS1.1.trans (congrArg nI (adK_ln (by omega)).symm))) (show ln (adK (M 2) (ln (M 2)) xx yy k) < 24 from (by rw [adK_ln (by omega)]; omega)) SF hK (rk.le (Nat.le_of_ble_eq_true rfl)) hl.1 (Nat.le_of_ble_eq_true rfl) hP hS dX2_addLetter_111 (fun H locs hP hS => ?_)
              have hP : mP dC dI dA a (mrow (mrow (mrow M 0 (upd (upd (M 0) 0 (nI 0)) 5 (nI (kpN ch)))) 2 (nwS (adK (M 2) (ln (M 2)) xx yy k) (ln (adK (M 2) (ln (M 2)) xx yy k)) (nI b))) 3 (kpS (M 2) (M 3) ch)) H := hP
              refine lv_iload hx hb dX2_addLetter_114 (lv_at hl 1 rfl) ?_
              exact hret _ _ _ _ _ (by rw [hz0, hz1, hz2]; exact (rfl)) (by rw [hz0, hz1, hz2]; exact (by have h5 : k = 5 := (by omega); subst h5; rw [hcl_xx, hcl_yy]; rw [adK_ln (by omega)] at hP; exact hP)) hS dX2_addLetter_116
            · have c_72 : ¬ (5 ≤ k) := fun q9 => c_72 ((nI_leI (a := 5) (b := k) (by omega) (by omega)).mpr q9)
              refine lv_aload_n hx hb dX2_addLetter_75 rfl (lv_at hl 2 rfl) ?_
              refine lv_iload hx hb dX2_addLetter_76 (lv_at hl 1 rfl) ?_
              refine lv_iload hx hb dX2_addLetter_78 (lv_at hl 0 rfl) ?_
              refine lv_iload_n hx hb dX2_addLetter_80 rfl (lv_at hl 4 rfl) ?_
              refine lv_iload hx hb dX2_addLetter_81 (lv_at hl 0 rfl) ?_
              refine lv_ishr hx hb dX2_addLetter_83 ?_
              refine lv_iconst (v := nI 1) hx hb dX2_addLetter_84 (by decide) ?_
              refine lv_iand hx hb dX2_addLetter_85 ?_
              refine lv_iconst (v := nI 1) hx hb dX2_addLetter_86 (by decide) ?_
              refine lv_icmp_ne (tgt := 94) hx hb dX2_addLetter_87 (by decide) (fun c_87 => ?_) (fun c_87 => ?_)
              · refine lv_iload_n hx hb dX2_addLetter_94 rfl (lv_at hl 3 rfl) ?_
                refine lv_iload hx hb dX2_addLetter_95 (lv_at hl 0 rfl) ?_
                refine k_X2_digitOf  (by omega) (by omega) SF hK (rk.le (Nat.le_of_ble_eq_true rfl)) hl.1 (Nat.le_of_ble_eq_true rfl) dX2_addLetter_97 ?_
                refine k_X2_lays (M := mrow (mrow (mrow M 0 (upd (upd (M 0) 0 (nI 0)) 5 (nI (kpN ch)))) 2 (adK (M 2) (ln (M 2)) xx yy k)) 3 (kpS (M 2) (M 3) ch))  hJ (by omega) (by omega) SF hK (rk.le (Nat.le_of_ble_eq_true rfl)) hl.1 (Nat.le_of_ble_eq_true rfl) hP hS dX2_addLetter_100 (fun H locs hP hS => ?_)
                have hP : mP dC dI dA a (mrow (mrow (mrow M 0 (upd (upd (M 0) 0 (nI 0)) 5 (nI (kpN ch)))) 2 (upd (adK (M 2) (ln (M 2)) xx yy k) (33 + 10 * (ln (M 2)) + k) (nI (dg xx k)))) 3 (kpS (M 2) (M 3) ch)) H := hP
                refine lv_iinc (v := nI (k + 1)) (lv' := [(5, .int (nI (k + 1))), (4, .int (nI (ln (M 2)))), (0, .ref (a 0)), (1, .int (nI xx)), (2, .int (nI yy)), (3, .int (nI b))]) hx hb dX2_addLetter_103 hl (k := 0) rfl (nI_add _ 1) (by decide) rfl (fun ls hl => ?_)
                refine lv_goto (tgt := 69) hx hb dX2_addLetter_106 (by decide) ?_
                exact ih69 (k + 1) (by omega) (by omega) _ _ (by rw [adK, adR, if_neg c_87]; exact hP) hS ls (lv_sub hl [0, 1, 2, 3, 4, 5] rfl)
              · refine lv_iconst (v := (-1)) hx hb dX2_addLetter_90 (by decide) ?_
                refine lv_goto (tgt := 100) hx hb dX2_addLetter_91 (by decide) ?_
                refine k_X2_lays (M := mrow (mrow (mrow M 0 (upd (upd (M 0) 0 (nI 0)) 5 (nI (kpN ch)))) 2 (adK (M 2) (ln (M 2)) xx yy k)) 3 (kpS (M 2) (M 3) ch))  hJ (by omega) (by omega) SF hK (rk.le (Nat.le_of_ble_eq_true rfl)) hl.1 (Nat.le_of_ble_eq_true rfl) hP hS dX2_addLetter_100 (fun H locs hP hS => ?_)
                have hP : mP dC dI dA a (mrow (mrow (mrow M 0 (upd (upd (M 0) 0 (nI 0)) 5 (nI (kpN ch)))) 2 (upd (adK (M 2) (ln (M 2)) xx yy k) (33 + 10 * (ln (M 2)) + k) (-1))) 3 (kpS (M 2) (M 3) ch)) H := hP
                refine lv_iinc (v := nI (k + 1)) (lv' := [(5, .int (nI (k + 1))), (4, .int (nI (ln (M 2)))), (0, .ref (a 0)), (1, .int (nI xx)), (2, .int (nI yy)), (3, .int (nI b))]) hx hb dX2_addLetter_103 hl (k := 0) rfl (nI_add _ 1) (by decide) rfl (fun ls hl => ?_)
                refine lv_goto (tgt := 69) hx hb dX2_addLetter_106 (by decide) ?_
                exact ih69 (k + 1) (by omega) (by omega) _ _ (by rw [adK, adR, if_pos c_87]; exact hP) hS ls (lv_sub hl [0, 1, 2, 3, 4, 5] rfl)
        exact lp69 (5 + 1) 0 (by omega) (by omega) _ _ hP hS ls (lv_sub hl [0, 1, 2, 3, 4, 5] rfl)
      · have hz2 : ((inZ x.toInt 0 99999 && inZ y.toInt 0 31) && !decide (ln (M 2) = 24)) = false := by (try simp only [lo, hcl_b]); exact b_nt hq2
        rw [hq2, rfT_t] at hP
        refine u_top (y := nI 1) (by rw [rfT_t]; rfl) ?_
        have hP : mP dC dI dA a (mrow M 0 (upd (M 0) 0 (nI 3))) H := hP
        refine lv_if_eq (tgt := 56) hx hb dX2_addLetter_51 (by decide) (fun c_51 => absurd c_51 (by decide)) (fun c_51 => ?_)
        refine lv_iconst (v := nI 0) hx hb dX2_addLetter_54 (by decide) ?_
        exact hret _ _ _ _ _ (by rw [hz0, hz1, hz2]; rfl) (by rw [hz0, hz1, hz2]; exact hP) hS dX2_addLetter_55
    refine lv_if_eq (tgt := 42) hx hb dX2_addLetter_18 (by decide) (fun c_18 => ?_) (fun c_18 => ?_)
    · have c_18 : (inZ x.toInt 0 99999) = false := u_zb.mp c_18
      refine lv_iconst (v := nI 1) hx hb dX2_addLetter_42 (by decide) ?_
      refine lv_goto (tgt := 47) hx hb dX2_addLetter_43 (by decide) ?_
      exact jn47 _ (u_tt (by cases hh : inZ x.toInt 0 99999 <;> cases hh2 : inZ y.toInt 0 31 <;> simp_all)) _ _ hP hS ls (lv_sub hl [0, 1, 2, 3] rfl)
    · have c_18 : ¬ ((inZ x.toInt 0 99999) = false) := fun q9 => c_18 (u_zb.mpr q9)
      refine lv_iload_n hx hb dX2_addLetter_21 rfl (lv_at hl 2 rfl) ?_
      refine lv_i2l hx hb dX2_addLetter_22 rfl ?_
      refine lv_lconst (v := 0) hx hb dX2_addLetter_23 rfl ?_
      refine lv_ldc2 (v := 31) hx hb hown (hts _ q2524) dX2_addLetter_24 ?_
      refine k_X2_in (X := y.toInt) (L := 0) (U := 31) (i2l_toInt y) (by decide) (by decide) SF hK (rk.le (Nat.le_of_ble_eq_true rfl)) hl.1 (Nat.le_of_ble_eq_true rfl) dX2_addLetter_27 ?_
      refine lv_if_eq (tgt := 42) hx hb dX2_addLetter_30 (by decide) (fun c_30 => ?_) (fun c_30 => ?_)
      · have c_30 : (inZ y.toInt 0 31) = false := u_zb.mp c_30
        refine lv_iconst (v := nI 1) hx hb dX2_addLetter_42 (by decide) ?_
        refine lv_goto (tgt := 47) hx hb dX2_addLetter_43 (by decide) ?_
        exact jn47 _ (u_tt (by cases hh : inZ x.toInt 0 99999 <;> cases hh2 : inZ y.toInt 0 31 <;> simp_all)) _ _ hP hS ls (lv_sub hl [0, 1, 2, 3] rfl)
      · have c_30 : ¬ ((inZ y.toInt 0 31) = false) := fun q9 => c_30 (u_zb.mpr q9)
        refine lv_aload_n hx hb dX2_addLetter_33 rfl (lv_at hl 0 rfl) ?_
        refine k_X2_letters (M := mrow M 0 (upd (M 0) 0 (nI 0)))   SF hK (rk.le (Nat.le_of_ble_eq_true rfl)) hl.1 (Nat.le_of_ble_eq_true rfl) hP dX2_addLetter_34 ?_
        refine u_top (y := M 2 2) rfl ?_
        refine u_top (y := nI (ln (M 2))) hS1.1 ?_
        refine lv_bipush (v := nI 24) hx hb dX2_addLetter_37 (by decide) ?_
        refine lv_icmp_ne (tgt := 46) hx hb dX2_addLetter_39 (by decide) (fun c_39 => ?_) (fun c_39 => ?_)
        · have c_39 : ¬ (ln (M 2) = 24) := fun q9 => c_39 ((nI_eq (a := ln (M 2)) (b := 24) (by omega) (by omega)).mpr q9)
          refine lv_iconst (v := nI 0) hx hb dX2_addLetter_46 (by decide) ?_
          exact jn47 _ (u_ff (by cases hh : inZ x.toInt 0 99999 <;> cases hh2 : inZ y.toInt 0 31 <;> simp_all)) _ _ hP hS ls (lv_sub hl [0, 1, 2, 3] rfl)
        · have c_39 : ln (M 2) = 24 := (nI_eq (a := ln (M 2)) (b := 24) (by omega) (by omega)).mp c_39
          refine lv_iconst (v := nI 1) hx hb dX2_addLetter_42 (by decide) ?_
          refine lv_goto (tgt := 47) hx hb dX2_addLetter_43 (by decide) ?_
          exact jn47 _ (u_tt (by cases hh : inZ x.toInt 0 99999 <;> cases hh2 : inZ y.toInt 0 31 <;> simp_all)) _ _ hP hS ls (lv_sub hl [0, 1, 2, 3] rfl)
  · refine u_top (y := nI 1) (by rw [decide_eq_false hq0]; rfl) ?_
    refine lv_if_ne (tgt := 54) hx hb dX2_addLetter_5 (by decide) (fun c_5 => ?_) (fun c_5 => absurd c_5 (by decide))
    refine lv_iconst (v := nI 0) hx hb dX2_addLetter_54 (by decide) ?_
    exact hret _ _ _ _ _ (by rw [show thC [(lo (M 0 1), 1), (inZ z.toInt 0 5, 2), ((inZ x.toInt 0 99999 && inZ y.toInt 0 31) && !decide (ln (M 2) = 24), 3)] = thC [(lo (M 0 1), 1), (inZ z.toInt 0 5, 2)] from thC_pre (L1 := [(lo (M 0 1), 1), (inZ z.toInt 0 5, 2)]) (L2 := [((inZ x.toInt 0 99999 && inZ y.toInt 0 31) && !decide (ln (M 2) = 24), 3)]) hq0, if_neg hq0]) (by rw [show thC [(lo (M 0 1), 1), (inZ z.toInt 0 5, 2), ((inZ x.toInt 0 99999 && inZ y.toInt 0 31) && !decide (ln (M 2) = 24), 3)] = thC [(lo (M 0 1), 1), (inZ z.toInt 0 5, 2)] from thC_pre (L1 := [(lo (M 0 1), 1), (inZ z.toInt 0 5, 2)]) (L2 := [((inZ x.toInt 0 99999 && inZ y.toInt 0 31) && !decide (ln (M 2) = 24), 3)]) hq0, if_neg hq0]; exact hP) hS dX2_addLetter_55

set_option maxHeartbeats 4000000 in
theorem c_X2_undo (l : Launch) (dC : Nat → ClassId) (dI : Nat → Nat → Nat) (dA : Nat → ClassId) (a : Nat → Nat) (M : Nat → Nat → Int32) (hJ : mJ a) (ch : Nat) (hS1 : SWf (M 2)) (hT : TWf (M 1)) (hc : M 0 5 = nI ch) (hc8 : ch ≤ 8) : Met l yX2_undo (ws_ yX2_undo cX2_undo 1 (some .int)) (rmD 1 0 0) (uPc [.ref (a 0)] (mP dC dI dA a M) dC dI dA) (uMi (mA a) (if thC [(!decide (ch = 0), 1)] = 0 then nI (ch - 1) else nI 0) (mP dC dI dA a (if thC [(!decide (ch = 0), 1)] = 0 then mrow (mrow M 0 (upd (upd (M 0) 0 (nI 0)) 5 (nI (ch - 1)))) 2 (va_cpy (M 3) (M 2) (273 * (0 + (ch - 1))) 0 273) else mrow M 0 (upd (M 0) 0 (nI (thC [(!decide (ch = 0), 1)])))))) 0 0 (mA a) := by
  refine u_metMi (own := RX2) (by decide) rfl (Nat.le_of_ble_eq_true rfl) fun p e R s m args below meth c Q SF rk hP hK hret ls hl => ?_
  have hx := SF.1
  have hb := SF.2.1
  have hml := SF.2.2.1
  have hown := SF.2.2.2.1
  have hts := SF.2.2.2.2
  have hS : uS (mA a) s.heap s.heap [] := uS.rf
  have hl : lv_has ls 1 [(0, .ref (a 0))] := hl
  have hL := hS1.2.1
  have hn9 := hT.2.1
  refine lv_aload_n hx hb dX2_undo_0 rfl (lv_at hl 0 rfl) ?_
  refine lv_iconst (v := nI 0) hx hb dX2_undo_1 (by decide) ?_
  refine m_pf_thrown SF hK hJ hP hS dX2_undo_2 (fun H locs hP hS => ?_)
  have hP : mP dC dI dA a (mrow M 0 (upd (M 0) 0 (nI 0))) H := hP
  refine lv_aload_n hx hb dX2_undo_5 rfl (lv_at hl 0 rfl) ?_
  refine lv_aload_n hx hb dX2_undo_6 rfl (lv_at hl 0 rfl) ?_
  refine va_get (D := (dC, dI)) (ci := 2) (v := .int (M 0 5)) (C := RX2) (T := TX2) (N := 22) hx hb hts in_X2 hown hK hP 0 rfl rfl 5 (by decide) (hts _ q1956) (fun _ h9 => h9) rfl dX2_undo_7 ?_
  refine u_top (y := nI ch) hc ?_
  have jn18 : ∀ v9 : Int32, v9 = nI ((decide (ch = 0)).toNat) → ∀ (H : Heap) (locs : List Loc), mP dC dI dA a (mrow M 0 (upd (M 0) 0 (nI 0))) H → uS (mA a) s.heap H locs → ∀ ls : Array Slot, lv_has ls 1 [(0, .ref (a 0))] → W p l e R s m args below meth c H locs 0 0 Q (F0 m 18 ls [.int v9, .ref (a 0)]) := by
    intro v9 hv9 H locs hP hS ls hl
    subst hv9
    refine lv_iconst (v := nI 1) hx hb dX2_undo_18 (by decide) ?_
    refine k_X2_refuse (M := mrow M 0 (upd (M 0) 0 (nI 0)))  hJ  SF hK (rk.le (Nat.le_of_ble_eq_true rfl)) hl.1 (Nat.le_of_ble_eq_true rfl) hP hS dX2_undo_19 (fun H locs hP hS => ?_)
    refine u_top (y := nI ((!decide (rfT ((nI 0)) (decide (ch = 0)) (nI 1) = 0)).toNat)) rfl ?_
    have hP : mP dC dI dA a (mrow M 0 (upd (M 0) 0 (rfT ((nI 0)) (decide (ch = 0)) (nI 1)))) H := hP
    cases hq0 : (decide (ch = 0))
    · have hz0 : (!decide (ch = 0)) = true := by first | simpa using hq0 | simpa [lo] using hq0
      rw [hq0, rfT_f] at hP
      refine u_top (y := nI 0) (by rw [rfT_f]; rfl) ?_
      have hP : mP dC dI dA a (mrow M 0 (upd (M 0) 0 (nI 0))) H := hP
      have hne : ¬ ch = 0 := by simpa using hz0
      refine lv_if_eq (tgt := 27) hx hb dX2_undo_22 (by decide) (fun c_22 => ?_) (fun c_22 => absurd (by decide) c_22)
      refine lv_aload_n hx hb dX2_undo_27 rfl (lv_at hl 0 rfl) ?_
      refine lv_dup hx hb dX2_undo_28 rfl ?_
      refine va_get (D := (dC, dI)) (ci := 2) (v := .int (M 0 5)) (C := RX2) (T := TX2) (N := 22) hx hb hts in_X2 hown hK hP 0 rfl rfl 5 (by decide) (hts _ q1956) (fun _ h9 => h9) rfl dX2_undo_29 ?_
      refine u_top (y := nI ch) hc ?_
      refine lv_iconst (v := nI 1) hx hb dX2_undo_32 (by decide) ?_
      refine lv_isub hx hb dX2_undo_33 ?_
      refine u_top (pk_sub (by omega)) ?_
      refine m_pf_changes SF hK hJ hP hS dX2_undo_34 (fun H locs hP hS => ?_)
      have hP : mP dC dI dA a (mrow M 0 (upd (upd (M 0) 0 (nI 0)) 5 (nI (ch - 1)))) H := hP
      refine lv_aload_n hx hb dX2_undo_37 rfl (lv_at hl 0 rfl) ?_
      refine va_get (D := (dC, dI)) (ci := 2) (v := .ref (a 3)) (C := RX2) (T := TX2) (N := 22) hx hb hts in_X2 hown hK hP 0 rfl rfl 4 (by decide) (hts _ q1955) (fun _ h9 => h9) rfl dX2_undo_38 ?_
      refine lv_sipush (v := nI 273) hx hb dX2_undo_41 (by decide) ?_
      refine lv_iconst (v := nI 0) hx hb dX2_undo_44 (by decide) ?_
      refine lv_aload_n hx hb dX2_undo_45 rfl (lv_at hl 0 rfl) ?_
      refine va_get (D := (dC, dI)) (ci := 2) (v := .int (nI (ch - 1))) (C := RX2) (T := TX2) (N := 22) hx hb hts in_X2 hown hK hP 0 rfl rfl 5 (by decide) (hts _ q1956) (fun _ h9 => h9) rfl dX2_undo_46 ?_
      refine lv_iadd hx hb dX2_undo_49 ?_
      refine u_top (nI_add _ _) ?_
      refine lv_imul hx hb dX2_undo_50 ?_
      refine u_top (pk_mul _ _) ?_
      refine lv_aload_n hx hb dX2_undo_51 rfl (lv_at hl 0 rfl) ?_
      refine va_get (D := (dC, dI)) (ci := 2) (v := .ref (a 2)) (C := RX2) (T := TX2) (N := 22) hx hb hts in_X2 hown hK hP 0 rfl rfl 3 (by decide) (hts _ q1954) (fun _ h9 => h9) rfl dX2_undo_52 ?_
      refine lv_iconst (v := nI 0) hx hb dX2_undo_55 (by decide) ?_
      refine k_X2_copiesB (M := mrow M 0 (upd (upd (M 0) 0 (nI 0)) 5 (nI (ch - 1))))  hJ (by omega) (by omega) SF hK (rk.le (Nat.le_of_ble_eq_true rfl)) hl.1 (Nat.le_of_ble_eq_true rfl) hP hS dX2_undo_56 (fun H locs hP hS => ?_)
      have hP : mP dC dI dA a (mrow (mrow M 0 (upd (upd (M 0) 0 (nI 0)) 5 (nI (ch - 1)))) 2 (va_cpy (M 3) (M 2) (273 * (0 + (ch - 1))) 0 273)) H := hP
      refine lv_aload_n hx hb dX2_undo_59 rfl (lv_at hl 0 rfl) ?_
      refine va_get (D := (dC, dI)) (ci := 2) (v := .int (nI (ch - 1))) (C := RX2) (T := TX2) (N := 22) hx hb hts in_X2 hown hK hP 0 rfl rfl 5 (by decide) (hts _ q1956) (fun _ h9 => h9) rfl dX2_undo_60 ?_
      exact hret _ _ _ _ _ (by rw [hz0]; exact (rfl)) (by rw [hz0]; exact hP) hS dX2_undo_63
    · have hz0 : (!decide (ch = 0)) = false := by first | simpa using hq0 | simpa [lo] using hq0
      rw [hq0, rfT_t] at hP
      refine u_top (y := nI 1) (by rw [rfT_t]; rfl) ?_
      have hP : mP dC dI dA a (mrow M 0 (upd (M 0) 0 (nI 1))) H := hP
      refine lv_if_eq (tgt := 27) hx hb dX2_undo_22 (by decide) (fun c_22 => absurd c_22 (by decide)) (fun c_22 => ?_)
      refine lv_iconst (v := nI 0) hx hb dX2_undo_25 (by decide) ?_
      exact hret _ _ _ _ _ (by rw [hz0]; rfl) (by rw [hz0]; exact hP) hS dX2_undo_26
  refine lv_if_ne (tgt := 17) hx hb dX2_undo_10 (by decide) (fun c_10 => ?_) (fun c_10 => ?_)
  · have c_10 : ¬ (ch = 0) := fun q9 => c_10 ((nI_eq (a := ch) (b := 0) (by omega) (by omega)).mpr q9)
    refine lv_iconst (v := nI 0) hx hb dX2_undo_17 (by decide) ?_
    exact jn18 _ (u_d0 c_10) _ _ hP hS ls (lv_sub hl [0] rfl)
  · have c_10 : ch = 0 := (nI_eq (a := ch) (b := 0) (by omega) (by omega)).mp c_10
    refine lv_iconst (v := nI 1) hx hb dX2_undo_13 (by decide) ?_
    refine lv_goto (tgt := 18) hx hb dX2_undo_14 (by decide) ?_
    exact jn18 _ (u_d1 c_10) _ _ hP hS ls (lv_sub hl [0] rfl)

set_option maxHeartbeats 4000000 in
theorem c_X2_save (l : Launch) (dC : Nat → ClassId) (dI : Nat → Nat → Nat) (dA : Nat → ClassId) (a : Nat → Nat) (M : Nat → Nat → Int32) (hJ : mJ a) (x : Int32) (hS1 : SWf (M 2)) : Met l yX2_save (ws_ yX2_save cX2_save 2 (some .int)) (rmD 2 0 0) (uPc [.ref (a 0), .int x] (mP dC dI dA a M) dC dI dA) (uMi (mA a) (if thC [(lo (M 0 1), 1), (inZ x.toInt 0 1, 2)] = 0 then nI (sts (M 2) (nI 0)) else nI 0) (mP dC dI dA a (if thC [(lo (M 0 1), 1), (inZ x.toInt 0 1, 2)] = 0 then mrow (mrow (mrow M 0 (upd (M 0) 0 (nI 0))) 3 (va_cpy (M 2) (M 3) 0 (273 * (8 + x.toNatClampNeg)) 273)) 4 (upd (M 4) x.toNatClampNeg (nI 1)) else mrow M 0 (upd (M 0) 0 (nI (thC [(lo (M 0 1), 1), (inZ x.toInt 0 1, 2)])))))) 0 0 (mA a) := by
  refine u_metMi (own := RX2) (by decide) rfl (Nat.le_of_ble_eq_true rfl) fun p e R s m args below meth c Q SF rk hP hK hret ls hl => ?_
  have hx := SF.1
  have hb := SF.2.1
  have hml := SF.2.2.1
  have hown := SF.2.2.2.1
  have hts := SF.2.2.2.2
  have hS : uS (mA a) s.heap s.heap [] := uS.rf
  have hl : lv_has ls 2 [(0, .ref (a 0)), (1, .int x)] := hl
  have hL := hS1.2.1
  refine lv_aload_n hx hb dX2_save_0 rfl (lv_at hl 0 rfl) ?_
  refine k_X2_notLoaded  hJ  SF hK (rk.le (Nat.le_of_ble_eq_true rfl)) hl.1 (Nat.le_of_ble_eq_true rfl) hP hS dX2_save_1 (fun H locs hP hS => ?_)
  have hP : mP dC dI dA a (mrow M 0 (upd (M 0) 0 (nI (thC [(lo (M 0 1), 1)])))) H := hP
  by_cases hq0 : thC [(lo (M 0 1), 1)] = 0
  · have hz0 := thC_1 hq0
    refine u_top (y := nI 0) (by rw [hq0]; rfl) ?_
    rw [hq0] at hP
    have hP : mP dC dI dA a (mrow M 0 (upd (M 0) 0 (nI 0))) H := hP
    refine lv_if_ne (tgt := 30) hx hb dX2_save_4 (by decide) (fun c_4 => absurd (by decide) c_4) (fun c_4 => ?_)
    refine lv_aload_n hx hb dX2_save_7 rfl (lv_at hl 0 rfl) ?_
    refine lv_iload_n hx hb dX2_save_8 rfl (lv_at hl 1 rfl) ?_
    refine lv_i2l hx hb dX2_save_9 rfl ?_
    refine lv_lconst (v := 0) hx hb dX2_save_10 rfl ?_
    refine lv_lconst (v := 1) hx hb dX2_save_11 rfl ?_
    refine k_X2_in (X := x.toInt) (L := 0) (U := 1) (i2l_toInt x) (by decide) (by decide) SF hK (rk.le (Nat.le_of_ble_eq_true rfl)) hl.1 (Nat.le_of_ble_eq_true rfl) dX2_save_12 ?_
    have jn23 : ∀ v9 : Int32, v9 = nI ((!(inZ x.toInt 0 1)).toNat) → ∀ (H : Heap) (locs : List Loc), mP dC dI dA a (mrow M 0 (upd (M 0) 0 (nI 0))) H → uS (mA a) s.heap H locs → ∀ ls : Array Slot, lv_has ls 2 [(0, .ref (a 0)), (1, .int x)] → W p l e R s m args below meth c H locs 0 0 Q (F0 m 23 ls [.int v9, .ref (a 0)]) := by
      intro v9 hv9 H locs hP hS ls hl
      subst hv9
      refine lv_iconst (v := nI 2) hx hb dX2_save_23 (by decide) ?_
      refine k_X2_refuse (M := mrow M 0 (upd (M 0) 0 (nI 0)))  hJ  SF hK (rk.le (Nat.le_of_ble_eq_true rfl)) hl.1 (Nat.le_of_ble_eq_true rfl) hP hS dX2_save_24 (fun H locs hP hS => ?_)
      refine u_top (y := nI ((!decide (rfT ((nI 0)) (!(inZ x.toInt 0 1)) (nI 2) = 0)).toNat)) rfl ?_
      have hP : mP dC dI dA a (mrow M 0 (upd (M 0) 0 (rfT ((nI 0)) (!(inZ x.toInt 0 1)) (nI 2)))) H := hP
      cases hq1 : (!(inZ x.toInt 0 1))
      · have hz1 : (inZ x.toInt 0 1) = true := by first | simpa using hq1 | simpa [lo] using hq1
        rw [hq1, rfT_f] at hP
        refine u_top (y := nI 0) (by rw [rfT_f]; rfl) ?_
        have hP : mP dC dI dA a (mrow M 0 (upd (M 0) 0 (nI 0))) H := hP
        obtain ⟨j, hlt_j, hsm_j, rfl⟩ := inZ_n hz1
        have hcl_j : (nI j).toNatClampNeg = j := nI_clamp (by omega)
        have hP : mP dC dI dA a (mrow M 0 (upd (M 0) 0 (nI 0))) H := by assumption
        refine lv_if_eq (tgt := 32) hx hb dX2_save_27 (by decide) (fun c_27 => ?_) (fun c_27 => absurd (by decide) c_27)
        refine lv_aload_n hx hb dX2_save_32 rfl (lv_at hl 0 rfl) ?_
        refine va_get (D := (dC, dI)) (ci := 2) (v := .ref (a 2)) (C := RX2) (T := TX2) (N := 22) hx hb hts in_X2 hown hK hP 0 rfl rfl 3 (by decide) (hts _ q1954) (fun _ h9 => h9) rfl dX2_save_33 ?_
        refine lv_iconst (v := nI 0) hx hb dX2_save_36 (by decide) ?_
        refine lv_aload_n hx hb dX2_save_37 rfl (lv_at hl 0 rfl) ?_
        refine va_get (D := (dC, dI)) (ci := 2) (v := .ref (a 3)) (C := RX2) (T := TX2) (N := 22) hx hb hts in_X2 hown hK hP 0 rfl rfl 4 (by decide) (hts _ q1955) (fun _ h9 => h9) rfl dX2_save_38 ?_
        refine lv_sipush (v := nI 273) hx hb dX2_save_41 (by decide) ?_
        refine lv_bipush (v := nI 8) hx hb dX2_save_44 (by decide) ?_
        refine lv_iload_n hx hb dX2_save_46 rfl (lv_at hl 1 rfl) ?_
        refine lv_iadd hx hb dX2_save_47 ?_
        refine u_top (nI_add _ _) ?_
        refine lv_imul hx hb dX2_save_48 ?_
        refine u_top (pk_mul _ _) ?_
        refine k_X2_copiesA (M := mrow M 0 (upd (M 0) 0 (nI 0)))  hJ (by omega) (by omega) SF hK (rk.le (Nat.le_of_ble_eq_true rfl)) hl.1 (Nat.le_of_ble_eq_true rfl) hP hS dX2_save_49 (fun H locs hP hS => ?_)
        have hP : mP dC dI dA a (mrow (mrow M 0 (upd (M 0) 0 (nI 0))) 3 (va_cpy (M 2) (M 3) 0 (273 * (8 + j)) 273)) H := hP
        refine lv_aload_n hx hb dX2_save_52 rfl (lv_at hl 0 rfl) ?_
        refine va_get (D := (dC, dI)) (ci := 2) (v := .ref (a 4)) (C := RX2) (T := TX2) (N := 22) hx hb hts in_X2 hown hK hP 0 rfl rfl 6 (by decide) (hts _ q1957) (fun _ h9 => h9) rfl dX2_save_53 ?_
        refine lv_iload_n hx hb dX2_save_56 rfl (lv_at hl 1 rfl) ?_
        refine lv_iconst (v := nI 1) hx hb dX2_save_57 (by decide) ?_
        refine m_zst SF hK hJ hP hS (i := j) (v := 1) (by omega) (by omega) dX2_save_58 (fun H locs hP hS => ?_)
        have hP : mP dC dI dA a (mrow (mrow (mrow M 0 (upd (M 0) 0 (nI 0))) 3 (va_cpy (M 2) (M 3) 0 (273 * (8 + j)) 273)) 4 (upd (M 4) j (nI 1))) H := hP
        refine lv_aload_n hx hb dX2_save_59 rfl (lv_at hl 0 rfl) ?_
        refine lv_iconst (v := nI 0) hx hb dX2_save_60 (by decide) ?_
        refine k_X2_statesOf (M := mrow (mrow (mrow M 0 (upd (M 0) 0 (nI 0))) 3 (va_cpy (M 2) (M 3) 0 (273 * (8 + j)) 273)) 4 (upd (M 4) j (nI 1)))  hS1 SF hK (rk.le (Nat.le_of_ble_eq_true rfl)) hl.1 (Nat.le_of_ble_eq_true rfl) hP dX2_save_61 ?_
        refine u_top (y := nI (sts (M 2) (nI 0))) rfl ?_
        exact hret _ _ _ _ _ (by rw [hz0, hz1]; exact (rfl)) (by rw [hz0, hz1]; exact (by rw [hcl_j]; exact hP)) hS dX2_save_64
      · have hz1 : (inZ x.toInt 0 1) = false := by first | simpa using hq1 | simpa [lo] using hq1
        rw [hq1, rfT_t] at hP
        refine u_top (y := nI 1) (by rw [rfT_t]; rfl) ?_
        have hP : mP dC dI dA a (mrow M 0 (upd (M 0) 0 (nI 2))) H := hP
        refine lv_if_eq (tgt := 32) hx hb dX2_save_27 (by decide) (fun c_27 => absurd c_27 (by decide)) (fun c_27 => ?_)
        refine lv_iconst (v := nI 0) hx hb dX2_save_30 (by decide) ?_
        exact hret _ _ _ _ _ (by rw [hz0, hz1]; rfl) (by rw [hz0, hz1]; exact hP) hS dX2_save_31
    refine lv_if_ne (tgt := 22) hx hb dX2_save_15 (by decide) (fun c_15 => ?_) (fun c_15 => ?_)
    · have c_15 : ¬ ((inZ x.toInt 0 1) = false) := fun q9 => c_15 (u_zb.mpr q9)
      refine lv_iconst (v := nI 0) hx hb dX2_save_22 (by decide) ?_
      exact jn23 _ (u_ff (by simp [c_15])) _ _ hP hS ls (lv_sub hl [0, 1] rfl)
    · have c_15 : (inZ x.toInt 0 1) = false := u_zb.mp c_15
      refine lv_iconst (v := nI 1) hx hb dX2_save_18 (by decide) ?_
      refine lv_goto (tgt := 23) hx hb dX2_save_19 (by decide) ?_
      exact jn23 _ (u_tt (by simpa using c_15)) _ _ hP hS ls (lv_sub hl [0, 1] rfl)
  · refine u_top (y := nI 1) (by rw [decide_eq_false hq0]; rfl) ?_
    refine lv_if_ne (tgt := 30) hx hb dX2_save_4 (by decide) (fun c_4 => ?_) (fun c_4 => absurd c_4 (by decide))
    refine lv_iconst (v := nI 0) hx hb dX2_save_30 (by decide) ?_
    exact hret _ _ _ _ _ (by rw [show thC [(lo (M 0 1), 1), (inZ x.toInt 0 1, 2)] = thC [(lo (M 0 1), 1)] from thC_pre (L1 := [(lo (M 0 1), 1)]) (L2 := [(inZ x.toInt 0 1, 2)]) hq0, if_neg hq0]) (by rw [show thC [(lo (M 0 1), 1), (inZ x.toInt 0 1, 2)] = thC [(lo (M 0 1), 1)] from thC_pre (L1 := [(lo (M 0 1), 1)]) (L2 := [(inZ x.toInt 0 1, 2)]) hq0, if_neg hq0]; exact hP) hS dX2_save_31

set_option maxHeartbeats 4000000 in
theorem c_X2_restore (l : Launch) (dC : Nat → ClassId) (dI : Nat → Nat → Nat) (dA : Nat → ClassId) (a : Nat → Nat) (M : Nat → Nat → Int32) (hJ : mJ a) (x : Int32) (hS2 : ∀ j, j < 2 → SWf (va_cpy (M 3) (M 2) (273 * (8 + j)) 0 273)) : Met l yX2_restore (ws_ yX2_restore cX2_restore 2 (some .int)) (rmD 2 0 0) (uPc [.ref (a 0), .int x] (mP dC dI dA a M) dC dI dA) (uMi (mA a) (if thC [(inZ x.toInt 0 1, 1), (!decide (M 4 x.toNatClampNeg = 0), 2)] = 0 then nI (sts (va_cpy (M 3) (M 2) (273 * (8 + x.toNatClampNeg)) 0 273) (nI 0)) else nI 0) (mP dC dI dA a (if thC [(inZ x.toInt 0 1, 1), (!decide (M 4 x.toNatClampNeg = 0), 2)] = 0 then mrow (mrow M 0 (upd (upd (M 0) 0 (nI 0)) 5 (nI 0))) 2 (va_cpy (M 3) (M 2) (273 * (8 + x.toNatClampNeg)) 0 273) else mrow M 0 (upd (M 0) 0 (nI (thC [(inZ x.toInt 0 1, 1), (!decide (M 4 x.toNatClampNeg = 0), 2)])))))) 0 0 (mA a) := by
  refine u_metMi (own := RX2) (by decide) rfl (Nat.le_of_ble_eq_true rfl) fun p e R s m args below meth c Q SF rk hP hK hret ls hl => ?_
  have hx := SF.1
  have hb := SF.2.1
  have hml := SF.2.2.1
  have hown := SF.2.2.2.1
  have hts := SF.2.2.2.2
  have hS : uS (mA a) s.heap s.heap [] := uS.rf
  have hl : lv_has ls 2 [(0, .ref (a 0)), (1, .int x)] := hl
  refine lv_aload_n hx hb dX2_restore_0 rfl (lv_at hl 0 rfl) ?_
  refine lv_iconst (v := nI 0) hx hb dX2_restore_1 (by decide) ?_
  refine m_pf_thrown SF hK hJ hP hS dX2_restore_2 (fun H locs hP hS => ?_)
  have hP : mP dC dI dA a (mrow M 0 (upd (M 0) 0 (nI 0))) H := hP
  refine lv_aload_n hx hb dX2_restore_5 rfl (lv_at hl 0 rfl) ?_
  refine lv_iload_n hx hb dX2_restore_6 rfl (lv_at hl 1 rfl) ?_
  refine lv_i2l hx hb dX2_restore_7 rfl ?_
  refine lv_lconst (v := 0) hx hb dX2_restore_8 rfl ?_
  refine lv_lconst (v := 1) hx hb dX2_restore_9 rfl ?_
  refine k_X2_in (X := x.toInt) (L := 0) (U := 1) (i2l_toInt x) (by decide) (by decide) SF hK (rk.le (Nat.le_of_ble_eq_true rfl)) hl.1 (Nat.le_of_ble_eq_true rfl) dX2_restore_10 ?_
  have jn21 : ∀ v9 : Int32, v9 = nI ((!(inZ x.toInt 0 1)).toNat) → ∀ (H : Heap) (locs : List Loc), mP dC dI dA a (mrow M 0 (upd (M 0) 0 (nI 0))) H → uS (mA a) s.heap H locs → ∀ ls : Array Slot, lv_has ls 2 [(0, .ref (a 0)), (1, .int x)] → W p l e R s m args below meth c H locs 0 0 Q (F0 m 21 ls [.int v9, .ref (a 0)]) := by
    intro v9 hv9 H locs hP hS ls hl
    subst hv9
    refine lv_iconst (v := nI 1) hx hb dX2_restore_21 (by decide) ?_
    refine k_X2_refuse (M := mrow M 0 (upd (M 0) 0 (nI 0)))  hJ  SF hK (rk.le (Nat.le_of_ble_eq_true rfl)) hl.1 (Nat.le_of_ble_eq_true rfl) hP hS dX2_restore_22 (fun H locs hP hS => ?_)
    refine u_top (y := nI ((!decide (rfT ((nI 0)) (!(inZ x.toInt 0 1)) (nI 1) = 0)).toNat)) rfl ?_
    have hP : mP dC dI dA a (mrow M 0 (upd (M 0) 0 (rfT ((nI 0)) (!(inZ x.toInt 0 1)) (nI 1)))) H := hP
    cases hq0 : (!(inZ x.toInt 0 1))
    · have hz0 : (inZ x.toInt 0 1) = true := by first | simpa using hq0 | simpa [lo] using hq0
      rw [hq0, rfT_f] at hP
      refine u_top (y := nI 0) (by rw [rfT_f]; rfl) ?_
      have hP : mP dC dI dA a (mrow M 0 (upd (M 0) 0 (nI 0))) H := hP
      obtain ⟨j, hlt_j, hsm_j, rfl⟩ := inZ_n hz0
      have hcl_j : (nI j).toNatClampNeg = j := nI_clamp (by omega)
      have hP : mP dC dI dA a (mrow M 0 (upd (M 0) 0 (nI 0))) H := by assumption
      refine lv_if_ne (tgt := 50) hx hb dX2_restore_25 (by decide) (fun c_25 => absurd (by decide) c_25) (fun c_25 => ?_)
      refine lv_aload_n hx hb dX2_restore_28 rfl (lv_at hl 0 rfl) ?_
      refine lv_aload_n hx hb dX2_restore_29 rfl (lv_at hl 0 rfl) ?_
      refine va_get (D := (dC, dI)) (ci := 2) (v := .ref (a 4)) (C := RX2) (T := TX2) (N := 22) hx hb hts in_X2 hown hK hP 0 rfl rfl 6 (by decide) (hts _ q1957) (fun _ h9 => h9) rfl dX2_restore_30 ?_
      refine lv_iload_n hx hb dX2_restore_33 rfl (lv_at hl 1 rfl) ?_
      refine m_zld SF hK hP (i := j) (by omega) dX2_restore_34 ?_
      refine u_top (y := M 4 j) rfl ?_
      have jn43 : ∀ v9 : Int32, v9 = nI ((decide (M 4 j = 0)).toNat) → ∀ (H : Heap) (locs : List Loc), mP dC dI dA a (mrow M 0 (upd (M 0) 0 (nI 0))) H → uS (mA a) s.heap H locs → ∀ ls : Array Slot, lv_has ls 2 [(0, .ref (a 0)), (1, .int (nI j))] → W p l e R s m args below meth c H locs 0 0 Q (F0 m 43 ls [.int v9, .ref (a 0)]) := by
        intro v9 hv9 H locs hP hS ls hl
        subst hv9
        refine lv_iconst (v := nI 2) hx hb dX2_restore_43 (by decide) ?_
        refine k_X2_refuse (M := mrow M 0 (upd (M 0) 0 (nI 0)))  hJ  SF hK (rk.le (Nat.le_of_ble_eq_true rfl)) hl.1 (Nat.le_of_ble_eq_true rfl) hP hS dX2_restore_44 (fun H locs hP hS => ?_)
        refine u_top (y := nI ((!decide (rfT ((nI 0)) (decide (M 4 j = 0)) (nI 2) = 0)).toNat)) rfl ?_
        have hP : mP dC dI dA a (mrow M 0 (upd (M 0) 0 (rfT ((nI 0)) (decide (M 4 j = 0)) (nI 2)))) H := hP
        cases hq1 : (decide (M 4 j = 0))
        · have hz1 : (!decide (M 4 (nI j).toNatClampNeg = 0)) = true := by first | simpa using hq1 | simpa [lo, hcl_j] using hq1
          rw [hq1, rfT_f] at hP
          refine u_top (y := nI 0) (by rw [rfT_f]; rfl) ?_
          have hP : mP dC dI dA a (mrow M 0 (upd (M 0) 0 (nI 0))) H := hP
          refine lv_if_eq (tgt := 52) hx hb dX2_restore_47 (by decide) (fun c_47 => ?_) (fun c_47 => absurd (by decide) c_47)
          refine lv_aload_n hx hb dX2_restore_52 rfl (lv_at hl 0 rfl) ?_
          refine va_get (D := (dC, dI)) (ci := 2) (v := .ref (a 3)) (C := RX2) (T := TX2) (N := 22) hx hb hts in_X2 hown hK hP 0 rfl rfl 4 (by decide) (hts _ q1955) (fun _ h9 => h9) rfl dX2_restore_53 ?_
          refine lv_sipush (v := nI 273) hx hb dX2_restore_56 (by decide) ?_
          refine lv_bipush (v := nI 8) hx hb dX2_restore_59 (by decide) ?_
          refine lv_iload_n hx hb dX2_restore_61 rfl (lv_at hl 1 rfl) ?_
          refine lv_iadd hx hb dX2_restore_62 ?_
          refine u_top (nI_add _ _) ?_
          refine lv_imul hx hb dX2_restore_63 ?_
          refine u_top (pk_mul _ _) ?_
          refine lv_aload_n hx hb dX2_restore_64 rfl (lv_at hl 0 rfl) ?_
          refine va_get (D := (dC, dI)) (ci := 2) (v := .ref (a 2)) (C := RX2) (T := TX2) (N := 22) hx hb hts in_X2 hown hK hP 0 rfl rfl 3 (by decide) (hts _ q1954) (fun _ h9 => h9) rfl dX2_restore_65 ?_
          refine lv_iconst (v := nI 0) hx hb dX2_restore_68 (by decide) ?_
          refine k_X2_copiesB (M := mrow M 0 (upd (M 0) 0 (nI 0)))  hJ (by omega) (by omega) SF hK (rk.le (Nat.le_of_ble_eq_true rfl)) hl.1 (Nat.le_of_ble_eq_true rfl) hP hS dX2_restore_69 (fun H locs hP hS => ?_)
          have hP : mP dC dI dA a (mrow (mrow M 0 (upd (M 0) 0 (nI 0))) 2 (va_cpy (M 3) (M 2) (273 * (8 + j)) 0 273)) H := hP
          refine lv_aload_n hx hb dX2_restore_72 rfl (lv_at hl 0 rfl) ?_
          refine lv_iconst (v := nI 0) hx hb dX2_restore_73 (by decide) ?_
          refine m_pf_changes SF hK hJ hP hS dX2_restore_74 (fun H locs hP hS => ?_)
          have hP : mP dC dI dA a (mrow (mrow M 0 (upd (upd (M 0) 0 (nI 0)) 5 (nI 0))) 2 (va_cpy (M 3) (M 2) (273 * (8 + j)) 0 273)) H := hP
          refine lv_aload_n hx hb dX2_restore_77 rfl (lv_at hl 0 rfl) ?_
          refine lv_iconst (v := nI 0) hx hb dX2_restore_78 (by decide) ?_
          refine k_X2_statesOf (M := mrow (mrow M 0 (upd (upd (M 0) 0 (nI 0)) 5 (nI 0))) 2 (va_cpy (M 3) (M 2) (273 * (8 + j)) 0 273))  (hS2 j (by omega)) SF hK (rk.le (Nat.le_of_ble_eq_true rfl)) hl.1 (Nat.le_of_ble_eq_true rfl) hP dX2_restore_79 ?_
          refine u_top (y := nI (sts (va_cpy (M 3) (M 2) (273 * (8 + j)) 0 273) (nI 0))) rfl ?_
          exact hret _ _ _ _ _ (by rw [hz0, hz1]; show _ = _; rw [hcl_j]; rfl) (by rw [hz0, hz1]; exact (by rw [hcl_j]; exact hP)) hS dX2_restore_82
        · have hz1 : (!decide (M 4 (nI j).toNatClampNeg = 0)) = false := by first | simpa using hq1 | simpa [lo, hcl_j] using hq1
          rw [hq1, rfT_t] at hP
          refine u_top (y := nI 1) (by rw [rfT_t]; rfl) ?_
          have hP : mP dC dI dA a (mrow M 0 (upd (M 0) 0 (nI 2))) H := hP
          refine lv_if_eq (tgt := 52) hx hb dX2_restore_47 (by decide) (fun c_47 => absurd c_47 (by decide)) (fun c_47 => ?_)
          refine lv_iconst (v := nI 0) hx hb dX2_restore_50 (by decide) ?_
          exact hret _ _ _ _ _ (by rw [hz0, hz1]; rfl) (by rw [hz0, hz1]; exact hP) hS dX2_restore_51
      refine lv_if_ne (tgt := 42) hx hb dX2_restore_35 (by decide) (fun c_35 => ?_) (fun c_35 => ?_)
      · refine lv_iconst (v := nI 0) hx hb dX2_restore_42 (by decide) ?_
        exact jn43 _ (u_d0 c_35) _ _ hP hS ls (lv_sub hl [0, 1] rfl)
      · refine lv_iconst (v := nI 1) hx hb dX2_restore_38 (by decide) ?_
        refine lv_goto (tgt := 43) hx hb dX2_restore_39 (by decide) ?_
        exact jn43 _ (u_d1 c_35) _ _ hP hS ls (lv_sub hl [0, 1] rfl)
    · have hz0 : (inZ x.toInt 0 1) = false := by first | simpa using hq0 | simpa [lo] using hq0
      rw [hq0, rfT_t] at hP
      refine u_top (y := nI 1) (by rw [rfT_t]; rfl) ?_
      have hP : mP dC dI dA a (mrow M 0 (upd (M 0) 0 (nI 1))) H := hP
      refine lv_if_ne (tgt := 50) hx hb dX2_restore_25 (by decide) (fun c_25 => ?_) (fun c_25 => absurd c_25 (by decide))
      refine lv_iconst (v := nI 0) hx hb dX2_restore_50 (by decide) ?_
      exact hret _ _ _ _ _ (by rw [hz0]; rfl) (by rw [hz0]; exact hP) hS dX2_restore_51
  refine lv_if_ne (tgt := 20) hx hb dX2_restore_13 (by decide) (fun c_13 => ?_) (fun c_13 => ?_)
  · have c_13 : ¬ ((inZ x.toInt 0 1) = false) := fun q9 => c_13 (u_zb.mpr q9)
    refine lv_iconst (v := nI 0) hx hb dX2_restore_20 (by decide) ?_
    exact jn21 _ (u_ff (by simp [c_13])) _ _ hP hS ls (lv_sub hl [0, 1] rfl)
  · have c_13 : (inZ x.toInt 0 1) = false := u_zb.mp c_13
    refine lv_iconst (v := nI 1) hx hb dX2_restore_16 (by decide) ?_
    refine lv_goto (tgt := 21) hx hb dX2_restore_17 (by decide) ?_
    exact jn21 _ (u_tt (by simpa using c_13)) _ _ hP hS ls (lv_sub hl [0, 1] rfl)
end TW
