set_option maxRecDepth 100000
section TW
variable {p : Program} {l : Launch} {e : Env} {R : Room} {s : State} {m : MethodId} {args : Array Value} {below : List Frame} {meth : Method} {c : Code} {H : Heap} {locs : List Loc} {Q : State → Prop}
variable {cc : ByteArray} {pc nL : Nat} {ls : Array Slot} {rest : List Value} {dC : Nat → ClassId} {dI : Nat → Nat → Nat} {dA : Nat → ClassId} {a : Nat → Nat} {M : Nat → Nat → Int32} {H0 : Heap}

set_option maxHeartbeats 4000000 in
theorem c_X2_checkDigit (l : Launch) (dC : Nat → ClassId) (dI : Nat → Nat → Nat) (dA : Nat → ClassId) (a : Nat → Nat) (M : Nat → Nat → Int32) (hJ : mJ a) (x : Int32)  : Met l yX2_checkDigit (ws_ yX2_checkDigit cX2_checkDigit 2 (some .int)) (rmD 2 0 0) (uPc [.ref (a 0), .int x] (mP dC dI dA a M) dC dI dA) (uMi (mA a) (if thC [(lo (M 0 1), 1), (inZ x.toInt 0 9999, 2)] = 0 then nI (chk x.toNatClampNeg) else nI 0) (mP dC dI dA a (mrow M 0 (upd (M 0) 0 (nI (thC [(lo (M 0 1), 1), (inZ x.toInt 0 9999, 2)])))))) 0 0 (mA a) := by
  refine u_metMi (own := RX2) (by decide) rfl (Nat.le_of_ble_eq_true rfl) fun p e R s m args below meth c Q SF rk hP hK hret ls hl => ?_
  have hx := SF.1
  have hb := SF.2.1
  have hml := SF.2.2.1
  have hown := SF.2.2.2.1
  have hts := SF.2.2.2.2
  have hS : uS (mA a) s.heap s.heap [] := uS.rf
  have hl : lv_has ls 2 [(0, .ref (a 0)), (1, .int x)] := hl
  refine lv_aload_n hx hb dX2_checkDigit_0 rfl (lv_at hl 0 rfl) ?_
  refine k_X2_notLoaded  hJ  SF hK (rk.le (Nat.le_of_ble_eq_true rfl)) hl.1 (Nat.le_of_ble_eq_true rfl) hP hS dX2_checkDigit_1 (fun H locs hP hS => ?_)
  have hP : mP dC dI dA a (mrow M 0 (upd (M 0) 0 (nI (thC [(lo (M 0 1), 1)])))) H := hP
  by_cases hq0 : thC [(lo (M 0 1), 1)] = 0
  · have hz0 := thC_1 hq0
    refine u_top (y := nI 0) (by rw [hq0]; rfl) ?_
    rw [hq0] at hP
    have hP : mP dC dI dA a (mrow M 0 (upd (M 0) 0 (nI 0))) H := hP
    refine lv_if_ne (tgt := 32) hx hb dX2_checkDigit_4 (by decide) (fun c_4 => absurd (by decide) c_4) (fun c_4 => ?_)
    refine lv_aload_n hx hb dX2_checkDigit_7 rfl (lv_at hl 0 rfl) ?_
    refine lv_iload_n hx hb dX2_checkDigit_8 rfl (lv_at hl 1 rfl) ?_
    refine lv_i2l hx hb dX2_checkDigit_9 rfl ?_
    refine lv_lconst (v := 0) hx hb dX2_checkDigit_10 rfl ?_
    refine lv_ldc2 (v := 9999) hx hb hown (hts _ q2286) dX2_checkDigit_11 ?_
    refine k_X2_in (X := x.toInt) (L := 0) (U := 9999) (i2l_toInt x) (by decide) (by decide) SF hK (rk.le (Nat.le_of_ble_eq_true rfl)) hl.1 (Nat.le_of_ble_eq_true rfl) dX2_checkDigit_14 ?_
    have jn25 : ∀ v9 : Int32, v9 = nI ((!(inZ x.toInt 0 9999)).toNat) → ∀ (H : Heap) (locs : List Loc), mP dC dI dA a (mrow M 0 (upd (M 0) 0 (nI 0))) H → uS (mA a) s.heap H locs → ∀ ls : Array Slot, lv_has ls 2 [(0, .ref (a 0)), (1, .int x)] → W p l e R s m args below meth c H locs 0 0 Q (F0 m 25 ls [.int v9, .ref (a 0)]) := by
      intro v9 hv9 H locs hP hS ls hl
      subst hv9
      refine lv_iconst (v := nI 2) hx hb dX2_checkDigit_25 (by decide) ?_
      refine k_X2_refuse (M := mrow M 0 (upd (M 0) 0 (nI 0)))  hJ  SF hK (rk.le (Nat.le_of_ble_eq_true rfl)) hl.1 (Nat.le_of_ble_eq_true rfl) hP hS dX2_checkDigit_26 (fun H locs hP hS => ?_)
      refine u_top (y := nI ((!decide (rfT ((nI 0)) (!(inZ x.toInt 0 9999)) (nI 2) = 0)).toNat)) rfl ?_
      have hP : mP dC dI dA a (mrow M 0 (upd (M 0) 0 (rfT ((nI 0)) (!(inZ x.toInt 0 9999)) (nI 2)))) H := hP
      cases hq1 : (!(inZ x.toInt 0 9999))
      · have hz1 : (inZ x.toInt 0 9999) = true := by first | simpa using hq1 | simpa [lo] using hq1
        rw [hq1, rfT_f] at hP
        refine u_top (y := nI 0) (by rw [rfT_f]; rfl) ?_
        have hP : mP dC dI dA a (mrow M 0 (upd (M 0) 0 (nI 0))) H := hP
        obtain ⟨jj, hlt_jj, hsm_jj, rfl⟩ := inZ_n hz1
        have hcl_jj : (nI jj).toNatClampNeg = jj := nI_clamp (by omega)
        have hP : mP dC dI dA a (mrow M 0 (upd (M 0) 0 (nI 0))) H := by assumption
        refine lv_if_eq (tgt := 36) hx hb dX2_checkDigit_29 (by decide) (fun c_29 => ?_) (fun c_29 => absurd (by decide) c_29)
        refine lv_iload_n hx hb dX2_checkDigit_36 rfl (lv_at hl 1 rfl) ?_
        refine k_X2_checkOf  (show jj < 10000 by omega) SF hK (rk.le (Nat.le_of_ble_eq_true rfl)) hl.1 (Nat.le_of_ble_eq_true rfl) dX2_checkDigit_37 ?_
        exact hret _ _ _ _ _ (by rw [hz0, hz1]; show _ = _; rw [hcl_jj]; rfl) (by rw [hz0, hz1]; exact hP) hS dX2_checkDigit_40
      · have hz1 : (inZ x.toInt 0 9999) = false := by first | simpa using hq1 | simpa [lo] using hq1
        rw [hq1, rfT_t] at hP
        refine u_top (y := nI 1) (by rw [rfT_t]; rfl) ?_
        have hP : mP dC dI dA a (mrow M 0 (upd (M 0) 0 (nI 2))) H := hP
        refine lv_if_eq (tgt := 36) hx hb dX2_checkDigit_29 (by decide) (fun c_29 => absurd c_29 (by decide)) (fun c_29 => ?_)
        refine lv_iconst (v := nI 0) hx hb dX2_checkDigit_32 (by decide) ?_
        refine lv_goto (tgt := 40) hx hb dX2_checkDigit_33 (by decide) ?_
        exact hret _ _ _ _ _ (by rw [hz0, hz1]; rfl) (by rw [hz0, hz1]; exact hP) hS dX2_checkDigit_40
    refine lv_if_ne (tgt := 24) hx hb dX2_checkDigit_17 (by decide) (fun c_17 => ?_) (fun c_17 => ?_)
    · have c_17 : ¬ ((inZ x.toInt 0 9999) = false) := fun q9 => c_17 (u_zb.mpr q9)
      refine lv_iconst (v := nI 0) hx hb dX2_checkDigit_24 (by decide) ?_
      exact jn25 _ (u_ff (by simp [c_17])) _ _ hP hS ls (lv_sub hl [0, 1] rfl)
    · have c_17 : (inZ x.toInt 0 9999) = false := u_zb.mp c_17
      refine lv_iconst (v := nI 1) hx hb dX2_checkDigit_20 (by decide) ?_
      refine lv_goto (tgt := 25) hx hb dX2_checkDigit_21 (by decide) ?_
      exact jn25 _ (u_tt (by simpa using c_17)) _ _ hP hS ls (lv_sub hl [0, 1] rfl)
  · refine u_top (y := nI 1) (by rw [decide_eq_false hq0]; rfl) ?_
    refine lv_if_ne (tgt := 32) hx hb dX2_checkDigit_4 (by decide) (fun c_4 => ?_) (fun c_4 => absurd c_4 (by decide))
    refine lv_iconst (v := nI 0) hx hb dX2_checkDigit_32 (by decide) ?_
    refine lv_goto (tgt := 40) hx hb dX2_checkDigit_33 (by decide) ?_
    exact hret _ _ _ _ _ (by rw [show thC [(lo (M 0 1), 1), (inZ x.toInt 0 9999, 2)] = thC [(lo (M 0 1), 1)] from thC_pre (L1 := [(lo (M 0 1), 1)]) (L2 := [(inZ x.toInt 0 9999, 2)]) hq0, if_neg hq0]) (by rw [show thC [(lo (M 0 1), 1), (inZ x.toInt 0 9999, 2)] = thC [(lo (M 0 1), 1)] from thC_pre (L1 := [(lo (M 0 1), 1)]) (L2 := [(inZ x.toInt 0 9999, 2)]) hq0]; exact hP) hS dX2_checkDigit_40

set_option maxHeartbeats 4000000 in
theorem c_X2_apart (l : Launch) (dC : Nat → ClassId) (dI : Nat → Nat → Nat) (dA : Nat → ClassId) (a : Nat → Nat) (M : Nat → Nat → Int32) (hJ : mJ a) (x : Int32) (y : Int32) (hT : TWf (M 1)) : Met l yX2_apart (ws_ yX2_apart cX2_apart 3 (some .int)) (rmD 4 0 0) (uPc [.ref (a 0), .int x, .int y] (mP dC dI dA a M) dC dI dA) (uMi (mA a) (if thC [(lo (M 0 1), 1), (inZ x.toInt 0 ((tn (M 1) : Int) - 1), 2), (inZ y.toInt 0 ((tn (M 1) : Int) - 1), 2)] = 0 then nI (apr (M 1) x.toNatClampNeg y.toNatClampNeg) else nI 0) (mP dC dI dA a (mrow M 0 (upd (M 0) 0 (nI (thC [(lo (M 0 1), 1), (inZ x.toInt 0 ((tn (M 1) : Int) - 1), 2), (inZ y.toInt 0 ((tn (M 1) : Int) - 1), 2)])))))) 0 0 (mA a) := by
  refine u_metMi (own := RX2) (by decide) rfl (Nat.le_of_ble_eq_true rfl) fun p e R s m args below meth c Q SF rk hP hK hret ls hl => ?_
  have hx := SF.1
  have hb := SF.2.1
  have hml := SF.2.2.1
  have hown := SF.2.2.2.1
  have hts := SF.2.2.2.2
  have hS : uS (mA a) s.heap s.heap [] := uS.rf
  have hl : lv_has ls 3 [(0, .ref (a 0)), (1, .int x), (2, .int y)] := hl
  have hn9 := hT.2.1
  refine lv_aload_n hx hb dX2_apart_0 rfl (lv_at hl 0 rfl) ?_
  refine lv_iload_n hx hb dX2_apart_1 rfl (lv_at hl 1 rfl) ?_
  refine k_X2_noTown  hJ hT SF hK (rk.le (Nat.le_of_ble_eq_true rfl)) hl.1 (Nat.le_of_ble_eq_true rfl) hP hS dX2_apart_2 (fun H locs hP hS => ?_)
  have hP : mP dC dI dA a (mrow M 0 (upd (M 0) 0 (nI (thC [(lo (M 0 1), 1), (inZ x.toInt 0 ((tn (M 1) : Int) - 1), 2)])))) H := hP
  by_cases hq0 : thC [(lo (M 0 1), 1), (inZ x.toInt 0 ((tn (M 1) : Int) - 1), 2)] = 0
  · obtain ⟨hz0, hz1⟩ := thC_2 hq0
    refine u_top (y := nI 0) (by rw [hq0]; rfl) ?_
    rw [hq0] at hP
    have hP : mP dC dI dA a (mrow M 0 (upd (M 0) 0 (nI 0))) H := hP
    obtain ⟨t, hlt_t, hsm_t, rfl⟩ := inZ_n hz1
    have hcl_t : (nI t).toNatClampNeg = t := nI_clamp (by omega)
    have hP : mP dC dI dA a (mrow M 0 (upd (M 0) 0 (nI 0))) H := by assumption
    refine lv_if_ne (tgt := 29) hx hb dX2_apart_5 (by decide) (fun c_5 => absurd (by decide) c_5) (fun c_5 => ?_)
    refine lv_aload_n hx hb dX2_apart_8 rfl (lv_at hl 0 rfl) ?_
    refine lv_aload_n hx hb dX2_apart_9 rfl (lv_at hl 0 rfl) ?_
    refine lv_iload_n hx hb dX2_apart_10 rfl (lv_at hl 2 rfl) ?_
    refine k_X2_isTown (M := mrow M 0 (upd (M 0) 0 (nI 0)))  hT SF hK (rk.le (Nat.le_of_ble_eq_true rfl)) hl.1 (Nat.le_of_ble_eq_true rfl) hP dX2_apart_11 ?_
    refine u_top (y := nI ((inZ y.toInt 0 ((tn (M 1) : Int) - 1)).toNat)) rfl ?_
    have jn22 : ∀ v9 : Int32, v9 = nI ((!(inZ y.toInt 0 ((tn (M 1) : Int) - 1))).toNat) → ∀ (H : Heap) (locs : List Loc), mP dC dI dA a (mrow M 0 (upd (M 0) 0 (nI 0))) H → uS (mA a) s.heap H locs → ∀ ls : Array Slot, lv_has ls 3 [(0, .ref (a 0)), (1, .int (nI t)), (2, .int y)] → W p l e R s m args below meth c H locs 0 0 Q (F0 m 22 ls [.int v9, .ref (a 0)]) := by
      intro v9 hv9 H locs hP hS ls hl
      subst hv9
      refine lv_iconst (v := nI 2) hx hb dX2_apart_22 (by decide) ?_
      refine k_X2_refuse (M := mrow M 0 (upd (M 0) 0 (nI 0)))  hJ  SF hK (rk.le (Nat.le_of_ble_eq_true rfl)) hl.1 (Nat.le_of_ble_eq_true rfl) hP hS dX2_apart_23 (fun H locs hP hS => ?_)
      refine u_top (y := nI ((!decide (rfT ((nI 0)) (!(inZ y.toInt 0 ((tn (M 1) : Int) - 1))) (nI 2) = 0)).toNat)) rfl ?_
      have hP : mP dC dI dA a (mrow M 0 (upd (M 0) 0 (rfT ((nI 0)) (!(inZ y.toInt 0 ((tn (M 1) : Int) - 1))) (nI 2)))) H := hP
      cases hq2 : (!(inZ y.toInt 0 ((tn (M 1) : Int) - 1)))
      · have hz2 : (inZ y.toInt 0 ((tn (M 1) : Int) - 1)) = true := by first | simpa using hq2 | simpa [lo, hcl_t] using hq2
        rw [hq2, rfT_f] at hP
        refine u_top (y := nI 0) (by rw [rfT_f]; rfl) ?_
        have hP : mP dC dI dA a (mrow M 0 (upd (M 0) 0 (nI 0))) H := hP
        obtain ⟨u, hlt_u, hsm_u, rfl⟩ := inZ_n hz2
        have hcl_u : (nI u).toNatClampNeg = u := nI_clamp (by omega)
        have hP : mP dC dI dA a (mrow M 0 (upd (M 0) 0 (nI 0))) H := by assumption
        refine lv_if_eq (tgt := 33) hx hb dX2_apart_26 (by decide) (fun c_26 => ?_) (fun c_26 => absurd (by decide) c_26)
        refine lv_aload_n hx hb dX2_apart_33 rfl (lv_at hl 0 rfl) ?_
        refine lv_iload_n hx hb dX2_apart_34 rfl (lv_at hl 1 rfl) ?_
        refine lv_iload_n hx hb dX2_apart_35 rfl (lv_at hl 2 rfl) ?_
        refine k_X2_apartOf (M := mrow M 0 (upd (M 0) 0 (nI 0)))  (show t < tn (M 1) by omega) (show u < tn (M 1) by omega) hT SF hK (rk.le (Nat.le_of_ble_eq_true rfl)) hl.1 (Nat.le_of_ble_eq_true rfl) hP dX2_apart_36 ?_
        refine u_top (y := nI (apr (M 1) t u)) rfl ?_
        exact hret _ _ _ _ _ (by rw [hz0, hz1, hz2]; show _ = _; rw [hcl_t, hcl_u]; rfl) (by rw [hz0, hz1, hz2]; exact hP) hS dX2_apart_39
      · have hz2 : (inZ y.toInt 0 ((tn (M 1) : Int) - 1)) = false := by first | simpa using hq2 | simpa [lo, hcl_t] using hq2
        rw [hq2, rfT_t] at hP
        refine u_top (y := nI 1) (by rw [rfT_t]; rfl) ?_
        have hP : mP dC dI dA a (mrow M 0 (upd (M 0) 0 (nI 2))) H := hP
        refine lv_if_eq (tgt := 33) hx hb dX2_apart_26 (by decide) (fun c_26 => absurd c_26 (by decide)) (fun c_26 => ?_)
        refine lv_iconst (v := nI 0) hx hb dX2_apart_29 (by decide) ?_
        refine lv_goto (tgt := 39) hx hb dX2_apart_30 (by decide) ?_
        exact hret _ _ _ _ _ (by rw [hz0, hz1, hz2]; rfl) (by rw [hz0, hz1, hz2]; exact hP) hS dX2_apart_39
    refine lv_if_ne (tgt := 21) hx hb dX2_apart_14 (by decide) (fun c_14 => ?_) (fun c_14 => ?_)
    · have c_14 : ¬ ((inZ y.toInt 0 ((tn (M 1) : Int) - 1)) = false) := fun q9 => c_14 (u_zb.mpr q9)
      refine lv_iconst (v := nI 0) hx hb dX2_apart_21 (by decide) ?_
      exact jn22 _ (u_ff (by simp [c_14])) _ _ hP hS ls (lv_sub hl [0, 1, 2] rfl)
    · have c_14 : (inZ y.toInt 0 ((tn (M 1) : Int) - 1)) = false := u_zb.mp c_14
      refine lv_iconst (v := nI 1) hx hb dX2_apart_17 (by decide) ?_
      refine lv_goto (tgt := 22) hx hb dX2_apart_18 (by decide) ?_
      exact jn22 _ (u_tt (by simpa using c_14)) _ _ hP hS ls (lv_sub hl [0, 1, 2] rfl)
  · refine u_top (y := nI 1) (by rw [decide_eq_false hq0]; rfl) ?_
    refine lv_if_ne (tgt := 29) hx hb dX2_apart_5 (by decide) (fun c_5 => ?_) (fun c_5 => absurd c_5 (by decide))
    refine lv_iconst (v := nI 0) hx hb dX2_apart_29 (by decide) ?_
    refine lv_goto (tgt := 39) hx hb dX2_apart_30 (by decide) ?_
    exact hret _ _ _ _ _ (by rw [show thC [(lo (M 0 1), 1), (inZ x.toInt 0 ((tn (M 1) : Int) - 1), 2), (inZ y.toInt 0 ((tn (M 1) : Int) - 1), 2)] = thC [(lo (M 0 1), 1), (inZ x.toInt 0 ((tn (M 1) : Int) - 1), 2)] from thC_pre (L1 := [(lo (M 0 1), 1), (inZ x.toInt 0 ((tn (M 1) : Int) - 1), 2)]) (L2 := [(inZ y.toInt 0 ((tn (M 1) : Int) - 1), 2)]) hq0, if_neg hq0]) (by rw [show thC [(lo (M 0 1), 1), (inZ x.toInt 0 ((tn (M 1) : Int) - 1), 2), (inZ y.toInt 0 ((tn (M 1) : Int) - 1), 2)] = thC [(lo (M 0 1), 1), (inZ x.toInt 0 ((tn (M 1) : Int) - 1), 2)] from thC_pre (L1 := [(lo (M 0 1), 1), (inZ x.toInt 0 ((tn (M 1) : Int) - 1), 2)]) (L2 := [(inZ y.toInt 0 ((tn (M 1) : Int) - 1), 2)]) hq0]; exact hP) hS dX2_apart_39

set_option maxHeartbeats 4000000 in
theorem c_X2_closest (l : Launch) (dC : Nat → ClassId) (dI : Nat → Nat → Nat) (dA : Nat → ClassId) (a : Nat → Nat) (M : Nat → Nat → Int32) (hJ : mJ a) (x : Int32) (hT : TWf (M 1)) : Met l yX2_closest (ws_ yX2_closest cX2_closest 4 (some .int)) (rmD 4 0 0) (uPc [.ref (a 0), .int x] (mP dC dI dA a M) dC dI dA) (uMi (mA a) (if thC [(lo (M 0 1), 1), (inZ x.toInt 0 ((tn (M 1) : Int) - 1), 2)] = 0 then oI (clN (M 1) x.toNatClampNeg (tn (M 1))) else nI 0) (mP dC dI dA a (mrow M 0 (upd (M 0) 0 (nI (thC [(lo (M 0 1), 1), (inZ x.toInt 0 ((tn (M 1) : Int) - 1), 2)])))))) 0 0 (mA a) := by
  refine u_metMi (own := RX2) (by decide) rfl (Nat.le_of_ble_eq_true rfl) fun p e R s m args below meth c Q SF rk hP hK hret ls hl => ?_
  have hx := SF.1
  have hb := SF.2.1
  have hml := SF.2.2.1
  have hown := SF.2.2.2.1
  have hts := SF.2.2.2.2
  have hS : uS (mA a) s.heap s.heap [] := uS.rf
  have hl : lv_has ls 4 [(0, .ref (a 0)), (1, .int x)] := hl
  have hn9 := hT.2.1
  refine lv_aload_n hx hb dX2_closest_0 rfl (lv_at hl 0 rfl) ?_
  refine lv_iload_n hx hb dX2_closest_1 rfl (lv_at hl 1 rfl) ?_
  refine k_X2_noTown  hJ hT SF hK (rk.le (Nat.le_of_ble_eq_true rfl)) hl.1 (Nat.le_of_ble_eq_true rfl) hP hS dX2_closest_2 (fun H locs hP hS => ?_)
  have hP : mP dC dI dA a (mrow M 0 (upd (M 0) 0 (nI (thC [(lo (M 0 1), 1), (inZ x.toInt 0 ((tn (M 1) : Int) - 1), 2)])))) H := hP
  by_cases hq0 : thC [(lo (M 0 1), 1), (inZ x.toInt 0 ((tn (M 1) : Int) - 1), 2)] = 0
  · obtain ⟨hz0, hz1⟩ := thC_2 hq0
    refine u_top (y := nI 0) (by rw [hq0]; rfl) ?_
    rw [hq0] at hP
    have hP : mP dC dI dA a (mrow M 0 (upd (M 0) 0 (nI 0))) H := hP
    obtain ⟨t, hlt_t, hsm_t, rfl⟩ := inZ_n hz1
    have hcl_t : (nI t).toNatClampNeg = t := nI_clamp (by omega)
    have hP : mP dC dI dA a (mrow M 0 (upd (M 0) 0 (nI 0))) H := by assumption
    refine lv_if_eq (tgt := 10) hx hb dX2_closest_5 (by decide) (fun c_5 => ?_) (fun c_5 => absurd (by decide) c_5)
    refine lv_iconst (v := (-1)) hx hb dX2_closest_10 (by decide) ?_
    refine lv_istore_n (lv' := [(2, .int (-1)), (0, .ref (a 0)), (1, .int (nI t))]) hx hb dX2_closest_11 rfl hl (by decide) rfl (fun ls hl => ?_)
    refine lv_iconst (v := nI 0) hx hb dX2_closest_12 (by decide) ?_
    refine lv_istore_n (lv' := [(3, .int (nI 0)), (2, .int (-1)), (0, .ref (a 0)), (1, .int (nI t))]) hx hb dX2_closest_13 rfl hl (by decide) rfl (fun ls hl => ?_)
    have lp14 : ∀ (k0 : Nat) (k : Nat), k ≤ tn (M 1) → tn (M 1) < k + k0 → ∀ (H : Heap) (locs : List Loc), mP dC dI dA a (mrow M 0 (upd (M 0) 0 (nI 0))) H → uS (mA a) s.heap H locs → ∀ ls : Array Slot, lv_has ls 4 [(3, .int (nI k)), (2, .int (oI (clN (M 1) t k))), (0, .ref (a 0)), (1, .int (nI t))] → W p l e R s m args below meth c H locs 0 0 Q (F0 m 14 ls []) := by
      intro k0
      induction k0 with
      | zero =>
        intro k hk1 hk2; omega
      | succ k0 ih =>
        intro k hk1 hk2 H locs hP hS ls hl
        have ih14 := ih
        refine lv_iload_n hx hb dX2_closest_14 rfl (lv_at hl 0 rfl) ?_
        refine lv_aload_n hx hb dX2_closest_15 rfl (lv_at hl 2 rfl) ?_
        refine k_X2_towns (M := mrow M 0 (upd (M 0) 0 (nI 0)))   SF hK (rk.le (Nat.le_of_ble_eq_true rfl)) hl.1 (Nat.le_of_ble_eq_true rfl) hP dX2_closest_16 ?_
        refine u_top (y := M 1 1) rfl ?_
        refine u_top (y := nI (tn (M 1))) hT.1 ?_
        refine lv_icmp_ge (tgt := 55) hx hb dX2_closest_19 (by decide) (fun c_19 => ?_) (fun c_19 => ?_)
        · have c_19 : tn (M 1) ≤ k := (nI_leI (a := tn (M 1)) (b := k) (by omega) (by omega)).mp c_19
          refine lv_iload_n hx hb dX2_closest_55 rfl (lv_at hl 1 rfl) ?_
          exact hret _ _ _ _ _ (by rw [hz0, hz1]; show _ = _; rw [hcl_t, show tn (M 1) = k by omega]; rfl) (by rw [hz0, hz1]; exact hP) hS dX2_closest_56
        · have c_19 : ¬ (tn (M 1) ≤ k) := fun q9 => c_19 ((nI_leI (a := tn (M 1)) (b := k) (by omega) (by omega)).mpr q9)
          refine lv_iload_n hx hb dX2_closest_22 rfl (lv_at hl 0 rfl) ?_
          refine lv_iload_n hx hb dX2_closest_23 rfl (lv_at hl 3 rfl) ?_
          refine lv_icmp_eq (tgt := 49) hx hb dX2_closest_24 (by decide) (fun c_24 => ?_) (fun c_24 => ?_)
          · have c_24 : k = t := (nI_eq (a := k) (b := t) (by omega) (by omega)).mp c_24
            have e9_2 : oI (clN (M 1) t (k + 1)) = oI (clN (M 1) t k) := (by first | rw [clN_t c_24] | rw [clN_ge c_24 hE (by omega), hE])
            have hl : lv_has ls 4 [(3, .int (nI k)), (2, .int (oI (clN (M 1) t (k + 1)))), (0, .ref (a 0)), (1, .int (nI t))] := by rw [e9_2]; exact hl
            refine lv_iinc (v := nI (k + 1)) (lv' := [(3, .int (nI (k + 1))), (2, .int (oI (clN (M 1) t (k + 1)))), (0, .ref (a 0)), (1, .int (nI t))]) hx hb dX2_closest_49 hl (k := 0) rfl (nI_add _ 1) (by decide) rfl (fun ls hl => ?_)
            refine lv_goto (tgt := 14) hx hb dX2_closest_52 (by decide) ?_
            exact ih14 (k + 1) (by omega) (by omega) _ _ hP hS ls (lv_sub hl [0, 1, 2, 3] rfl)
          · have c_24 : ¬ (k = t) := fun q9 => c_24 ((nI_eq (a := k) (b := t) (by omega) (by omega)).mpr q9)
            refine lv_iload_n hx hb dX2_closest_27 rfl (lv_at hl 1 rfl) ?_
            rcases hE : clN (M 1) t k with _ | b
            · refine u_top (y := (-1)) rfl ?_
              refine lv_iconst (v := (-1)) hx hb dX2_closest_28 (by decide) ?_
              refine lv_icmp_eq (tgt := 47) hx hb dX2_closest_29 (by decide) (fun c_29 => ?_) (fun c_29 => absurd (by decide) c_29)
              refine lv_iload_n hx hb dX2_closest_47 rfl (lv_at hl 0 rfl) ?_
              refine lv_istore_n (lv' := [(2, .int (nI k)), (3, .int (nI k)), (0, .ref (a 0)), (1, .int (nI t))]) hx hb dX2_closest_48 rfl hl (by decide) rfl (fun ls hl => ?_)
              have e9_2 : oI (clN (M 1) t (k + 1)) = nI k := (by first | rw [clN_t c_24] | rw [clN_0 c_24 hE, hE] | (rw [clN_0 c_24 hE]; rfl) | (rw [clN_lt c_24 hE c_44']; rfl))
              have hl : lv_has ls 4 [(2, .int (oI (clN (M 1) t (k + 1)))), (3, .int (nI k)), (0, .ref (a 0)), (1, .int (nI t))] := by rw [e9_2]; exact hl
              refine lv_iinc (v := nI (k + 1)) (lv' := [(3, .int (nI (k + 1))), (2, .int (oI (clN (M 1) t (k + 1)))), (0, .ref (a 0)), (1, .int (nI t))]) hx hb dX2_closest_49 hl (k := 1) rfl (nI_add _ 1) (by decide) rfl (fun ls hl => ?_)
              refine lv_goto (tgt := 14) hx hb dX2_closest_52 (by decide) ?_
              exact ih14 (k + 1) (by omega) (by omega) _ _ hP hS ls (lv_sub hl [0, 1, 2, 3] rfl)
            · have hbk := clN_le hE
              refine u_top (y := nI b) rfl ?_
              refine lv_iconst (v := (-1)) hx hb dX2_closest_28 (by decide) ?_
              refine lv_icmp_eq (tgt := 47) hx hb dX2_closest_29 (by decide) (fun c_29 => absurd c_29 (nI_m1 (by omega))) (fun c_29 => ?_)
              refine lv_aload_n hx hb dX2_closest_32 rfl (lv_at hl 2 rfl) ?_
              refine lv_iload_n hx hb dX2_closest_33 rfl (lv_at hl 3 rfl) ?_
              refine lv_iload_n hx hb dX2_closest_34 rfl (lv_at hl 0 rfl) ?_
              refine k_X2_apartOf (M := mrow M 0 (upd (M 0) 0 (nI 0)))  (show t < tn (M 1) by omega) (show k < tn (M 1) by omega) hT SF hK (rk.le (Nat.le_of_ble_eq_true rfl)) hl.1 (Nat.le_of_ble_eq_true rfl) hP dX2_closest_35 ?_
              refine u_top (y := nI (apr (M 1) t k)) rfl ?_
              have ha1 := apr_le (M 1) t k
              have ha2 := apr_le (M 1) t b
              refine lv_aload_n hx hb dX2_closest_38 rfl (lv_at hl 2 rfl) ?_
              refine lv_iload_n hx hb dX2_closest_39 rfl (lv_at hl 3 rfl) ?_
              refine lv_iload_n hx hb dX2_closest_40 rfl (lv_at hl 1 rfl) ?_
              rcases hE2 : clN (M 1) t k with _ | b2
              · rw [hE2] at hE; cases hE
              · refine u_top (y := nI b) (by rw [hE2] at hE; cases hE; rfl) ?_
                refine k_X2_apartOf (M := mrow M 0 (upd (M 0) 0 (nI 0)))  (show t < tn (M 1) by omega) (show b < tn (M 1) by omega) hT SF hK (rk.le (Nat.le_of_ble_eq_true rfl)) hl.1 (Nat.le_of_ble_eq_true rfl) hP dX2_closest_41 ?_
                refine u_top (y := nI (apr (M 1) t b)) rfl ?_
                refine lv_icmp_ge (tgt := 49) hx hb dX2_closest_44 (by decide) (fun c_44 => ?_) (fun c_44 => ?_)
                · have c_44 : apr (M 1) t b ≤ apr (M 1) t k := (nI_leI (a := apr (M 1) t b) (b := apr (M 1) t k) (by omega) (by omega)).mp c_44
                  have e9_2 : oI (clN (M 1) t (k + 1)) = oI (clN (M 1) t k) := (by first | rw [clN_t c_24] | rw [clN_ge c_24 hE (by omega), hE])
                  have hl : lv_has ls 4 [(3, .int (nI k)), (2, .int (oI (clN (M 1) t (k + 1)))), (0, .ref (a 0)), (1, .int (nI t))] := by rw [e9_2]; exact hl
                  refine lv_iinc (v := nI (k + 1)) (lv' := [(3, .int (nI (k + 1))), (2, .int (oI (clN (M 1) t (k + 1)))), (0, .ref (a 0)), (1, .int (nI t))]) hx hb dX2_closest_49 hl (k := 0) rfl (nI_add _ 1) (by decide) rfl (fun ls hl => ?_)
                  refine lv_goto (tgt := 14) hx hb dX2_closest_52 (by decide) ?_
                  exact ih14 (k + 1) (by omega) (by omega) _ _ hP hS ls (lv_sub hl [0, 1, 2, 3] rfl)
                · have c_44 : ¬ (apr (M 1) t b ≤ apr (M 1) t k) := fun q9 => c_44 ((nI_leI (a := apr (M 1) t b) (b := apr (M 1) t k) (by omega) (by omega)).mpr q9)
                  have c_44' : apr (M 1) t k < apr (M 1) t b := by omega
                  refine lv_iload_n hx hb dX2_closest_47 rfl (lv_at hl 0 rfl) ?_
                  refine lv_istore_n (lv' := [(2, .int (nI k)), (3, .int (nI k)), (0, .ref (a 0)), (1, .int (nI t))]) hx hb dX2_closest_48 rfl hl (by decide) rfl (fun ls hl => ?_)
                  have e9_2 : oI (clN (M 1) t (k + 1)) = nI k := (by first | rw [clN_t c_24] | rw [clN_0 c_24 hE, hE] | (rw [clN_0 c_24 hE]; rfl) | (rw [clN_lt c_24 hE c_44']; rfl))
                  have hl : lv_has ls 4 [(2, .int (oI (clN (M 1) t (k + 1)))), (3, .int (nI k)), (0, .ref (a 0)), (1, .int (nI t))] := by rw [e9_2]; exact hl
                  refine lv_iinc (v := nI (k + 1)) (lv' := [(3, .int (nI (k + 1))), (2, .int (oI (clN (M 1) t (k + 1)))), (0, .ref (a 0)), (1, .int (nI t))]) hx hb dX2_closest_49 hl (k := 1) rfl (nI_add _ 1) (by decide) rfl (fun ls hl => ?_)
                  refine lv_goto (tgt := 14) hx hb dX2_closest_52 (by decide) ?_
                  exact ih14 (k + 1) (by omega) (by omega) _ _ hP hS ls (lv_sub hl [0, 1, 2, 3] rfl)
    exact lp14 (tn (M 1) + 1) 0 (by omega) (by omega) _ _ hP hS ls (lv_sub hl [0, 1, 2, 3] rfl)
  · refine u_top (y := nI 1) (by rw [decide_eq_false hq0]; rfl) ?_
    refine lv_if_eq (tgt := 10) hx hb dX2_closest_5 (by decide) (fun c_5 => absurd c_5 (by decide)) (fun c_5 => ?_)
    refine lv_iconst (v := nI 0) hx hb dX2_closest_8 (by decide) ?_
    exact hret _ _ _ _ _ (by rw [show thC [(lo (M 0 1), 1), (inZ x.toInt 0 ((tn (M 1) : Int) - 1), 2)] = thC [(lo (M 0 1), 1), (inZ x.toInt 0 ((tn (M 1) : Int) - 1), 2)] from thC_pre (L1 := [(lo (M 0 1), 1), (inZ x.toInt 0 ((tn (M 1) : Int) - 1), 2)]) (L2 := []) hq0, if_neg hq0]) (by rw [show thC [(lo (M 0 1), 1), (inZ x.toInt 0 ((tn (M 1) : Int) - 1), 2)] = thC [(lo (M 0 1), 1), (inZ x.toInt 0 ((tn (M 1) : Int) - 1), 2)] from thC_pre (L1 := [(lo (M 0 1), 1), (inZ x.toInt 0 ((tn (M 1) : Int) - 1), 2)]) (L2 := []) hq0]; exact hP) hS dX2_closest_9

set_option maxHeartbeats 4000000 in
theorem c_X2_letter (l : Launch) (dC : Nat → ClassId) (dI : Nat → Nat → Nat) (dA : Nat → ClassId) (a : Nat → Nat) (M : Nat → Nat → Int32) (hJ : mJ a) (x : Int32) (y : Int32) (hS1 : SWf (M 2)) (hT : TWf (M 1)) : Met l yX2_letter (ws_ yX2_letter cX2_letter 3 (some .int)) (rmD 8 0 0) (uPc [.ref (a 0), .int x, .int y] (mP dC dI dA a M) dC dI dA) (uMi (mA a) (if thC [(lo (M 0 1), 1), (inZ x.toInt 0 ((ln (M 2) : Int) - 1), 2), (inZ y.toInt 0 7, 3)] = 0 then letV (M 2) (M 1) x.toNatClampNeg y.toNatClampNeg else nI 0) (mP dC dI dA a (mrow M 0 (upd (M 0) 0 (nI (thC [(lo (M 0 1), 1), (inZ x.toInt 0 ((ln (M 2) : Int) - 1), 2), (inZ y.toInt 0 7, 3)])))))) 0 0 (mA a) := by
  refine u_metMi (own := RX2) (by decide) rfl (Nat.le_of_ble_eq_true rfl) fun p e R s m args below meth c Q SF rk hP hK hret ls hl => ?_
  have hx := SF.1
  have hb := SF.2.1
  have hml := SF.2.2.1
  have hown := SF.2.2.2.1
  have hts := SF.2.2.2.2
  have hS : uS (mA a) s.heap s.heap [] := uS.rf
  have hl : lv_has ls 3 [(0, .ref (a 0)), (1, .int x), (2, .int y)] := hl
  have hL := hS1.2.1
  have hn9 := hT.2.1
  refine lv_aload_n hx hb dX2_letter_0 rfl (lv_at hl 0 rfl) ?_
  refine lv_iload_n hx hb dX2_letter_1 rfl (lv_at hl 1 rfl) ?_
  refine k_X2_noLetter  hJ hS1 SF hK (rk.le (Nat.le_of_ble_eq_true rfl)) hl.1 (Nat.le_of_ble_eq_true rfl) hP hS dX2_letter_2 (fun H locs hP hS => ?_)
  have hP : mP dC dI dA a (mrow M 0 (upd (M 0) 0 (nI (thC [(lo (M 0 1), 1), (inZ x.toInt 0 ((ln (M 2) : Int) - 1), 2)])))) H := hP
  by_cases hq0 : thC [(lo (M 0 1), 1), (inZ x.toInt 0 ((ln (M 2) : Int) - 1), 2)] = 0
  · obtain ⟨hz0, hz1⟩ := thC_2 hq0
    refine u_top (y := nI 0) (by rw [hq0]; rfl) ?_
    rw [hq0] at hP
    have hP : mP dC dI dA a (mrow M 0 (upd (M 0) 0 (nI 0))) H := hP
    obtain ⟨lt, hlt_lt, hsm_lt, rfl⟩ := inZ_n hz1
    have hcl_lt : (nI lt).toNatClampNeg = lt := nI_clamp (by omega)
    have hP : mP dC dI dA a (mrow M 0 (upd (M 0) 0 (nI 0))) H := by assumption
    refine lv_if_ne (tgt := 33) hx hb dX2_letter_5 (by decide) (fun c_5 => absurd (by decide) c_5) (fun c_5 => ?_)
    refine lv_aload_n hx hb dX2_letter_8 rfl (lv_at hl 0 rfl) ?_
    refine lv_iload_n hx hb dX2_letter_9 rfl (lv_at hl 2 rfl) ?_
    refine lv_i2l hx hb dX2_letter_10 rfl ?_
    refine lv_lconst (v := 0) hx hb dX2_letter_11 rfl ?_
    refine lv_ldc2 (v := 7) hx hb hown (hts _ q2307) dX2_letter_12 ?_
    refine k_X2_in (X := y.toInt) (L := 0) (U := 7) (i2l_toInt y) (by decide) (by decide) SF hK (rk.le (Nat.le_of_ble_eq_true rfl)) hl.1 (Nat.le_of_ble_eq_true rfl) dX2_letter_15 ?_
    have jn26 : ∀ v9 : Int32, v9 = nI ((!(inZ y.toInt 0 7)).toNat) → ∀ (H : Heap) (locs : List Loc), mP dC dI dA a (mrow M 0 (upd (M 0) 0 (nI 0))) H → uS (mA a) s.heap H locs → ∀ ls : Array Slot, lv_has ls 3 [(0, .ref (a 0)), (1, .int (nI lt)), (2, .int y)] → W p l e R s m args below meth c H locs 0 0 Q (F0 m 26 ls [.int v9, .ref (a 0)]) := by
      intro v9 hv9 H locs hP hS ls hl
      subst hv9
      refine lv_iconst (v := nI 3) hx hb dX2_letter_26 (by decide) ?_
      refine k_X2_refuse (M := mrow M 0 (upd (M 0) 0 (nI 0)))  hJ  SF hK (rk.le (Nat.le_of_ble_eq_true rfl)) hl.1 (Nat.le_of_ble_eq_true rfl) hP hS dX2_letter_27 (fun H locs hP hS => ?_)
      refine u_top (y := nI ((!decide (rfT ((nI 0)) (!(inZ y.toInt 0 7)) (nI 3) = 0)).toNat)) rfl ?_
      have hP : mP dC dI dA a (mrow M 0 (upd (M 0) 0 (rfT ((nI 0)) (!(inZ y.toInt 0 7)) (nI 3)))) H := hP
      cases hq2 : (!(inZ y.toInt 0 7))
      · have hz2 : (inZ y.toInt 0 7) = true := by first | simpa using hq2 | simpa [lo, hcl_lt] using hq2
        rw [hq2, rfT_f] at hP
        refine u_top (y := nI 0) (by rw [rfT_f]; rfl) ?_
        have hP : mP dC dI dA a (mrow M 0 (upd (M 0) 0 (nI 0))) H := hP
        obtain ⟨jj, hlt_jj, hsm_jj, rfl⟩ := inZ_n hz2
        have hcl_jj : (nI jj).toNatClampNeg = jj := nI_clamp (by omega)
        have hP : mP dC dI dA a (mrow M 0 (upd (M 0) 0 (nI 0))) H := by assumption
        refine lv_if_eq (tgt := 35) hx hb dX2_letter_30 (by decide) (fun c_30 => ?_) (fun c_30 => absurd (by decide) c_30)
        refine lv_iload_n hx hb dX2_letter_35 rfl (lv_at hl 2 rfl) ?_
        rcases (show jj = 0 ∨ jj = 1 ∨ jj = 2 ∨ jj = 3 ∨ jj = 4 ∨ jj = 5 ∨ jj = 6 ∨ jj = 7 by omega) with rfl | rfl | rfl | rfl | rfl | rfl | rfl | rfl
        · refine lv_tableOut (tgt := 99) hx hb dX2_letter_36 (by decide) (by decide) ?_
          refine lv_aload_n hx hb dX2_letter_99 rfl (lv_at hl 0 rfl) ?_
          refine lv_iload_n hx hb dX2_letter_100 rfl (lv_at hl 1 rfl) ?_
          refine lv_iconst (v := nI 5) hx hb dX2_letter_101 (by decide) ?_
          refine lv_iload_n hx hb dX2_letter_102 rfl (lv_at hl 2 rfl) ?_
          refine lv_iadd hx hb dX2_letter_103 ?_
          refine u_top (y := nI 5) (by decide) ?_
          refine k_X2_l (M := mrow M 0 (upd (M 0) 0 (nI 0)))  (show lt < 24 by omega) (show 5 < 10 by omega) SF hK (rk.le (Nat.le_of_ble_eq_true rfl)) hl.1 (Nat.le_of_ble_eq_true rfl) hP dX2_letter_104 ?_
          refine u_top (y := lr (M 2) lt 5) rfl ?_
          exact hret _ _ _ _ _ (by rw [hz0, hz1, hz2]; show _ = _; rw [hcl_lt]; rfl) (by rw [hz0, hz1, hz2]; exact hP) hS dX2_letter_107
        · refine lv_tableOut (tgt := 99) hx hb dX2_letter_36 (by decide) (by decide) ?_
          refine lv_aload_n hx hb dX2_letter_99 rfl (lv_at hl 0 rfl) ?_
          refine lv_iload_n hx hb dX2_letter_100 rfl (lv_at hl 1 rfl) ?_
          refine lv_iconst (v := nI 5) hx hb dX2_letter_101 (by decide) ?_
          refine lv_iload_n hx hb dX2_letter_102 rfl (lv_at hl 2 rfl) ?_
          refine lv_iadd hx hb dX2_letter_103 ?_
          refine u_top (y := nI 6) (by decide) ?_
          refine k_X2_l (M := mrow M 0 (upd (M 0) 0 (nI 0)))  (show lt < 24 by omega) (show 6 < 10 by omega) SF hK (rk.le (Nat.le_of_ble_eq_true rfl)) hl.1 (Nat.le_of_ble_eq_true rfl) hP dX2_letter_104 ?_
          refine u_top (y := lr (M 2) lt 6) rfl ?_
          exact hret _ _ _ _ _ (by rw [hz0, hz1, hz2]; show _ = _; rw [hcl_lt]; rfl) (by rw [hz0, hz1, hz2]; exact hP) hS dX2_letter_107
        · refine lv_tableOut (tgt := 99) hx hb dX2_letter_36 (by decide) (by decide) ?_
          refine lv_aload_n hx hb dX2_letter_99 rfl (lv_at hl 0 rfl) ?_
          refine lv_iload_n hx hb dX2_letter_100 rfl (lv_at hl 1 rfl) ?_
          refine lv_iconst (v := nI 5) hx hb dX2_letter_101 (by decide) ?_
          refine lv_iload_n hx hb dX2_letter_102 rfl (lv_at hl 2 rfl) ?_
          refine lv_iadd hx hb dX2_letter_103 ?_
          refine u_top (y := nI 7) (by decide) ?_
          refine k_X2_l (M := mrow M 0 (upd (M 0) 0 (nI 0)))  (show lt < 24 by omega) (show 7 < 10 by omega) SF hK (rk.le (Nat.le_of_ble_eq_true rfl)) hl.1 (Nat.le_of_ble_eq_true rfl) hP dX2_letter_104 ?_
          refine u_top (y := lr (M 2) lt 7) rfl ?_
          exact hret _ _ _ _ _ (by rw [hz0, hz1, hz2]; show _ = _; rw [hcl_lt]; rfl) (by rw [hz0, hz1, hz2]; exact hP) hS dX2_letter_107
        · refine lv_tableIn (off := 36) (tgt := 72) hx hb dX2_letter_36 (by decide) (by decide) (by decide) (by decide) ?_
          refine lv_aload_n hx hb dX2_letter_72 rfl (lv_at hl 0 rfl) ?_
          refine lv_iload_n hx hb dX2_letter_73 rfl (lv_at hl 1 rfl) ?_
          refine k_X2_unread (M := mrow M 0 (upd (M 0) 0 (nI 0)))  (show lt < 24 by omega) SF hK (rk.le (Nat.le_of_ble_eq_true rfl)) hl.1 (Nat.le_of_ble_eq_true rfl) hP dX2_letter_74 ?_
          refine u_top (y := nI (unr (M 2) lt)) rfl ?_
          exact hret _ _ _ _ _ (by rw [hz0, hz1, hz2]; show _ = _; rw [hcl_lt]; rfl) (by rw [hz0, hz1, hz2]; exact hP) hS dX2_letter_77
        · refine lv_tableIn (off := 42) (tgt := 78) hx hb dX2_letter_36 (by decide) (by decide) (by decide) (by decide) ?_
          refine lv_aload_n hx hb dX2_letter_78 rfl (lv_at hl 0 rfl) ?_
          refine lv_iload_n hx hb dX2_letter_79 rfl (lv_at hl 1 rfl) ?_
          refine lv_iload_n hx hb dX2_letter_80 rfl (lv_at hl 2 rfl) ?_
          refine lv_iconst (v := nI 4) hx hb dX2_letter_81 (by decide) ?_
          refine lv_iadd hx hb dX2_letter_82 ?_
          refine u_top (y := nI 8) (by decide) ?_
          refine k_X2_l (M := mrow M 0 (upd (M 0) 0 (nI 0)))  (show lt < 24 by omega) (show 8 < 10 by omega) SF hK (rk.le (Nat.le_of_ble_eq_true rfl)) hl.1 (Nat.le_of_ble_eq_true rfl) hP dX2_letter_83 ?_
          refine u_top (y := lr (M 2) lt 8) rfl ?_
          exact hret _ _ _ _ _ (by rw [hz0, hz1, hz2]; show _ = _; rw [hcl_lt]; rfl) (by rw [hz0, hz1, hz2]; exact hP) hS dX2_letter_86
        · refine lv_tableIn (off := 42) (tgt := 78) hx hb dX2_letter_36 (by decide) (by decide) (by decide) (by decide) ?_
          refine lv_aload_n hx hb dX2_letter_78 rfl (lv_at hl 0 rfl) ?_
          refine lv_iload_n hx hb dX2_letter_79 rfl (lv_at hl 1 rfl) ?_
          refine lv_iload_n hx hb dX2_letter_80 rfl (lv_at hl 2 rfl) ?_
          refine lv_iconst (v := nI 4) hx hb dX2_letter_81 (by decide) ?_
          refine lv_iadd hx hb dX2_letter_82 ?_
          refine u_top (y := nI 9) (by decide) ?_
          refine k_X2_l (M := mrow M 0 (upd (M 0) 0 (nI 0)))  (show lt < 24 by omega) (show 9 < 10 by omega) SF hK (rk.le (Nat.le_of_ble_eq_true rfl)) hl.1 (Nat.le_of_ble_eq_true rfl) hP dX2_letter_83 ?_
          refine u_top (y := lr (M 2) lt 9) rfl ?_
          exact hret _ _ _ _ _ (by rw [hz0, hz1, hz2]; show _ = _; rw [hcl_lt]; rfl) (by rw [hz0, hz1, hz2]; exact hP) hS dX2_letter_86
        · refine lv_tableIn (off := 51) (tgt := 87) hx hb dX2_letter_36 (by decide) (by decide) (by decide) (by decide) ?_
          refine lv_aload_n hx hb dX2_letter_87 rfl (lv_at hl 0 rfl) ?_
          refine lv_iload_n hx hb dX2_letter_88 rfl (lv_at hl 1 rfl) ?_
          refine k_X2_nearTowns (M := mrow M 0 (upd (M 0) 0 (nI 0)))  (show lt < ln (M 2) by omega) hS1 hT SF hK (rk.le (Nat.le_of_ble_eq_true rfl)) hl.1 (Nat.le_of_ble_eq_true rfl) hP dX2_letter_89 ?_
          refine u_top (y := nI (nrT (M 2) (M 1) lt)) rfl ?_
          exact hret _ _ _ _ _ (by rw [hz0, hz1, hz2]; show _ = _; rw [hcl_lt]; rfl) (by rw [hz0, hz1, hz2]; exact hP) hS dX2_letter_92
        · refine lv_tableIn (off := 57) (tgt := 93) hx hb dX2_letter_36 (by decide) (by decide) (by decide) (by decide) ?_
          refine lv_aload_n hx hb dX2_letter_93 rfl (lv_at hl 0 rfl) ?_
          refine lv_iload_n hx hb dX2_letter_94 rfl (lv_at hl 1 rfl) ?_
          refine k_X2_bestTowns (M := mrow M 0 (upd (M 0) 0 (nI 0)))  (show lt < ln (M 2) by omega) hS1 hT SF hK (rk.le (Nat.le_of_ble_eq_true rfl)) hl.1 (Nat.le_of_ble_eq_true rfl) hP dX2_letter_95 ?_
          refine u_top (y := nI (bst (M 2) (M 1) lt)) rfl ?_
          exact hret _ _ _ _ _ (by rw [hz0, hz1, hz2]; show _ = _; rw [hcl_lt]; rfl) (by rw [hz0, hz1, hz2]; exact hP) hS dX2_letter_98
      · have hz2 : (inZ y.toInt 0 7) = false := by first | simpa using hq2 | simpa [lo, hcl_lt] using hq2
        rw [hq2, rfT_t] at hP
        refine u_top (y := nI 1) (by rw [rfT_t]; rfl) ?_
        have hP : mP dC dI dA a (mrow M 0 (upd (M 0) 0 (nI 3))) H := hP
        refine lv_if_eq (tgt := 35) hx hb dX2_letter_30 (by decide) (fun c_30 => absurd c_30 (by decide)) (fun c_30 => ?_)
        refine lv_iconst (v := nI 0) hx hb dX2_letter_33 (by decide) ?_
        exact hret _ _ _ _ _ (by rw [hz0, hz1, hz2]; rfl) (by rw [hz0, hz1, hz2]; exact hP) hS dX2_letter_34
    refine lv_if_ne (tgt := 25) hx hb dX2_letter_18 (by decide) (fun c_18 => ?_) (fun c_18 => ?_)
    · have c_18 : ¬ ((inZ y.toInt 0 7) = false) := fun q9 => c_18 (u_zb.mpr q9)
      refine lv_iconst (v := nI 0) hx hb dX2_letter_25 (by decide) ?_
      exact jn26 _ (u_ff (by simp [c_18])) _ _ hP hS ls (lv_sub hl [0, 1, 2] rfl)
    · have c_18 : (inZ y.toInt 0 7) = false := u_zb.mp c_18
      refine lv_iconst (v := nI 1) hx hb dX2_letter_21 (by decide) ?_
      refine lv_goto (tgt := 26) hx hb dX2_letter_22 (by decide) ?_
      exact jn26 _ (u_tt (by simpa using c_18)) _ _ hP hS ls (lv_sub hl [0, 1, 2] rfl)
  · refine u_top (y := nI 1) (by rw [decide_eq_false hq0]; rfl) ?_
    refine lv_if_ne (tgt := 33) hx hb dX2_letter_5 (by decide) (fun c_5 => ?_) (fun c_5 => absurd c_5 (by decide))
    refine lv_iconst (v := nI 0) hx hb dX2_letter_33 (by decide) ?_
    exact hret _ _ _ _ _ (by rw [show thC [(lo (M 0 1), 1), (inZ x.toInt 0 ((ln (M 2) : Int) - 1), 2), (inZ y.toInt 0 7, 3)] = thC [(lo (M 0 1), 1), (inZ x.toInt 0 ((ln (M 2) : Int) - 1), 2)] from thC_pre (L1 := [(lo (M 0 1), 1), (inZ x.toInt 0 ((ln (M 2) : Int) - 1), 2)]) (L2 := [(inZ y.toInt 0 7, 3)]) hq0, if_neg hq0]) (by rw [show thC [(lo (M 0 1), 1), (inZ x.toInt 0 ((ln (M 2) : Int) - 1), 2), (inZ y.toInt 0 7, 3)] = thC [(lo (M 0 1), 1), (inZ x.toInt 0 ((ln (M 2) : Int) - 1), 2)] from thC_pre (L1 := [(lo (M 0 1), 1), (inZ x.toInt 0 ((ln (M 2) : Int) - 1), 2)]) (L2 := [(inZ y.toInt 0 7, 3)]) hq0]; exact hP) hS dX2_letter_34

set_option maxHeartbeats 4000000 in
theorem c_X2_read (l : Launch) (dC : Nat → ClassId) (dI : Nat → Nat → Nat) (dA : Nat → ClassId) (a : Nat → Nat) (M : Nat → Nat → Int32) (hJ : mJ a) (x : Int32) (y : Int32) (hS1 : SWf (M 2)) : Met l yX2_read (ws_ yX2_read cX2_read 3 (some .int)) (rmD 4 0 0) (uPc [.ref (a 0), .int x, .int y] (mP dC dI dA a M) dC dI dA) (uMi (mA a) (if thC [(lo (M 0 1), 1), (inZ x.toInt 0 ((ln (M 2) : Int) - 1), 2), (inZ y.toInt 0 4, 2)] = 0 then lr (M 2) x.toNatClampNeg y.toNatClampNeg else nI 0) (mP dC dI dA a (mrow M 0 (upd (M 0) 0 (nI (thC [(lo (M 0 1), 1), (inZ x.toInt 0 ((ln (M 2) : Int) - 1), 2), (inZ y.toInt 0 4, 2)])))))) 0 0 (mA a) := by
  refine u_metMi (own := RX2) (by decide) rfl (Nat.le_of_ble_eq_true rfl) fun p e R s m args below meth c Q SF rk hP hK hret ls hl => ?_
  have hx := SF.1
  have hb := SF.2.1
  have hml := SF.2.2.1
  have hown := SF.2.2.2.1
  have hts := SF.2.2.2.2
  have hS : uS (mA a) s.heap s.heap [] := uS.rf
  have hl : lv_has ls 3 [(0, .ref (a 0)), (1, .int x), (2, .int y)] := hl
  have hL := hS1.2.1
  refine lv_aload_n hx hb dX2_read_0 rfl (lv_at hl 0 rfl) ?_
  refine lv_iload_n hx hb dX2_read_1 rfl (lv_at hl 1 rfl) ?_
  refine lv_iload_n hx hb dX2_read_2 rfl (lv_at hl 2 rfl) ?_
  refine k_X2_noPlace  hJ hS1 SF hK (rk.le (Nat.le_of_ble_eq_true rfl)) hl.1 (Nat.le_of_ble_eq_true rfl) hP hS dX2_read_3 (fun H locs hP hS => ?_)
  have hP : mP dC dI dA a (mrow M 0 (upd (M 0) 0 (nI (thC [(lo (M 0 1), 1), (inZ x.toInt 0 ((ln (M 2) : Int) - 1), 2), (inZ y.toInt 0 4, 2)])))) H := hP
  by_cases hq0 : thC [(lo (M 0 1), 1), (inZ x.toInt 0 ((ln (M 2) : Int) - 1), 2), (inZ y.toInt 0 4, 2)] = 0
  · obtain ⟨hz0, hz1, hz2⟩ := thC_3 hq0
    refine u_top (y := nI 0) (by rw [hq0]; rfl) ?_
    rw [hq0] at hP
    have hP : mP dC dI dA a (mrow M 0 (upd (M 0) 0 (nI 0))) H := hP
    obtain ⟨lt, hlt_lt, hsm_lt, rfl⟩ := inZ_n hz1
    have hcl_lt : (nI lt).toNatClampNeg = lt := nI_clamp (by omega)
    have hP : mP dC dI dA a (mrow M 0 (upd (M 0) 0 (nI 0))) H := by assumption
    obtain ⟨q, hlt_q, hsm_q, rfl⟩ := inZ_n hz2
    have hcl_q : (nI q).toNatClampNeg = q := nI_clamp (by omega)
    have hP : mP dC dI dA a (mrow M 0 (upd (M 0) 0 (nI 0))) H := by assumption
    refine lv_if_eq (tgt := 13) hx hb dX2_read_6 (by decide) (fun c_6 => ?_) (fun c_6 => absurd (by decide) c_6)
    refine lv_aload_n hx hb dX2_read_13 rfl (lv_at hl 0 rfl) ?_
    refine lv_iload_n hx hb dX2_read_14 rfl (lv_at hl 1 rfl) ?_
    refine lv_iload_n hx hb dX2_read_15 rfl (lv_at hl 2 rfl) ?_
    refine k_X2_l (M := mrow M 0 (upd (M 0) 0 (nI 0)))  (show lt < 24 by omega) (show q < 10 by omega) SF hK (rk.le (Nat.le_of_ble_eq_true rfl)) hl.1 (Nat.le_of_ble_eq_true rfl) hP dX2_read_16 ?_
    refine u_top (y := lr (M 2) lt q) rfl ?_
    exact hret _ _ _ _ _ (by rw [hz0, hz1, hz2]; show _ = _; rw [hcl_lt, hcl_q]; rfl) (by rw [hz0, hz1, hz2]; exact hP) hS dX2_read_19
  · refine u_top (y := nI 1) (by rw [decide_eq_false hq0]; rfl) ?_
    refine lv_if_eq (tgt := 13) hx hb dX2_read_6 (by decide) (fun c_6 => absurd c_6 (by decide)) (fun c_6 => ?_)
    refine lv_iconst (v := nI 0) hx hb dX2_read_9 (by decide) ?_
    refine lv_goto (tgt := 19) hx hb dX2_read_10 (by decide) ?_
    exact hret _ _ _ _ _ (by rw [show thC [(lo (M 0 1), 1), (inZ x.toInt 0 ((ln (M 2) : Int) - 1), 2), (inZ y.toInt 0 4, 2)] = thC [(lo (M 0 1), 1), (inZ x.toInt 0 ((ln (M 2) : Int) - 1), 2), (inZ y.toInt 0 4, 2)] from thC_pre (L1 := [(lo (M 0 1), 1), (inZ x.toInt 0 ((ln (M 2) : Int) - 1), 2), (inZ y.toInt 0 4, 2)]) (L2 := []) hq0, if_neg hq0]) (by rw [show thC [(lo (M 0 1), 1), (inZ x.toInt 0 ((ln (M 2) : Int) - 1), 2), (inZ y.toInt 0 4, 2)] = thC [(lo (M 0 1), 1), (inZ x.toInt 0 ((ln (M 2) : Int) - 1), 2), (inZ y.toInt 0 4, 2)] from thC_pre (L1 := [(lo (M 0 1), 1), (inZ x.toInt 0 ((ln (M 2) : Int) - 1), 2), (inZ y.toInt 0 4, 2)]) (L2 := []) hq0]; exact hP) hS dX2_read_19

set_option maxHeartbeats 4000000 in
theorem c_X2_distance (l : Launch) (dC : Nat → ClassId) (dI : Nat → Nat → Nat) (dA : Nat → ClassId) (a : Nat → Nat) (M : Nat → Nat → Int32) (hJ : mJ a) (x : Int32) (y : Int32) (hS1 : SWf (M 2)) (hT : TWf (M 1)) : Met l yX2_distance (ws_ yX2_distance cX2_distance 3 (some .int)) (rmD 5 0 0) (uPc [.ref (a 0), .int x, .int y] (mP dC dI dA a M) dC dI dA) (uMi (mA a) (if thC [(lo (M 0 1), 1), (inZ x.toInt 0 ((ln (M 2) : Int) - 1), 2), (inZ y.toInt 0 ((tn (M 1) : Int) - 1), 2)] = 0 then nI (farT (M 2) (M 1) x.toNatClampNeg y.toNatClampNeg) else nI 0) (mP dC dI dA a (mrow M 0 (upd (M 0) 0 (nI (thC [(lo (M 0 1), 1), (inZ x.toInt 0 ((ln (M 2) : Int) - 1), 2), (inZ y.toInt 0 ((tn (M 1) : Int) - 1), 2)])))))) 0 0 (mA a) := by
  refine u_metMi (own := RX2) (by decide) rfl (Nat.le_of_ble_eq_true rfl) fun p e R s m args below meth c Q SF rk hP hK hret ls hl => ?_
  have hx := SF.1
  have hb := SF.2.1
  have hml := SF.2.2.1
  have hown := SF.2.2.2.1
  have hts := SF.2.2.2.2
  have hS : uS (mA a) s.heap s.heap [] := uS.rf
  have hl : lv_has ls 3 [(0, .ref (a 0)), (1, .int x), (2, .int y)] := hl
  have hL := hS1.2.1
  have hn9 := hT.2.1
  refine lv_aload_n hx hb dX2_distance_0 rfl (lv_at hl 0 rfl) ?_
  refine lv_iload_n hx hb dX2_distance_1 rfl (lv_at hl 1 rfl) ?_
  refine k_X2_noLetter  hJ hS1 SF hK (rk.le (Nat.le_of_ble_eq_true rfl)) hl.1 (Nat.le_of_ble_eq_true rfl) hP hS dX2_distance_2 (fun H locs hP hS => ?_)
  have hP : mP dC dI dA a (mrow M 0 (upd (M 0) 0 (nI (thC [(lo (M 0 1), 1), (inZ x.toInt 0 ((ln (M 2) : Int) - 1), 2)])))) H := hP
  by_cases hq0 : thC [(lo (M 0 1), 1), (inZ x.toInt 0 ((ln (M 2) : Int) - 1), 2)] = 0
  · obtain ⟨hz0, hz1⟩ := thC_2 hq0
    refine u_top (y := nI 0) (by rw [hq0]; rfl) ?_
    rw [hq0] at hP
    have hP : mP dC dI dA a (mrow M 0 (upd (M 0) 0 (nI 0))) H := hP
    obtain ⟨lt, hlt_lt, hsm_lt, rfl⟩ := inZ_n hz1
    have hcl_lt : (nI lt).toNatClampNeg = lt := nI_clamp (by omega)
    have hP : mP dC dI dA a (mrow M 0 (upd (M 0) 0 (nI 0))) H := by assumption
    refine lv_if_ne (tgt := 29) hx hb dX2_distance_5 (by decide) (fun c_5 => absurd (by decide) c_5) (fun c_5 => ?_)
    refine lv_aload_n hx hb dX2_distance_8 rfl (lv_at hl 0 rfl) ?_
    refine lv_aload_n hx hb dX2_distance_9 rfl (lv_at hl 0 rfl) ?_
    refine lv_iload_n hx hb dX2_distance_10 rfl (lv_at hl 2 rfl) ?_
    refine k_X2_isTown (M := mrow M 0 (upd (M 0) 0 (nI 0)))  hT SF hK (rk.le (Nat.le_of_ble_eq_true rfl)) hl.1 (Nat.le_of_ble_eq_true rfl) hP dX2_distance_11 ?_
    refine u_top (y := nI ((inZ y.toInt 0 ((tn (M 1) : Int) - 1)).toNat)) rfl ?_
    have jn22 : ∀ v9 : Int32, v9 = nI ((!(inZ y.toInt 0 ((tn (M 1) : Int) - 1))).toNat) → ∀ (H : Heap) (locs : List Loc), mP dC dI dA a (mrow M 0 (upd (M 0) 0 (nI 0))) H → uS (mA a) s.heap H locs → ∀ ls : Array Slot, lv_has ls 3 [(0, .ref (a 0)), (1, .int (nI lt)), (2, .int y)] → W p l e R s m args below meth c H locs 0 0 Q (F0 m 22 ls [.int v9, .ref (a 0)]) := by
      intro v9 hv9 H locs hP hS ls hl
      subst hv9
      refine lv_iconst (v := nI 2) hx hb dX2_distance_22 (by decide) ?_
      refine k_X2_refuse (M := mrow M 0 (upd (M 0) 0 (nI 0)))  hJ  SF hK (rk.le (Nat.le_of_ble_eq_true rfl)) hl.1 (Nat.le_of_ble_eq_true rfl) hP hS dX2_distance_23 (fun H locs hP hS => ?_)
      refine u_top (y := nI ((!decide (rfT ((nI 0)) (!(inZ y.toInt 0 ((tn (M 1) : Int) - 1))) (nI 2) = 0)).toNat)) rfl ?_
      have hP : mP dC dI dA a (mrow M 0 (upd (M 0) 0 (rfT ((nI 0)) (!(inZ y.toInt 0 ((tn (M 1) : Int) - 1))) (nI 2)))) H := hP
      cases hq2 : (!(inZ y.toInt 0 ((tn (M 1) : Int) - 1)))
      · have hz2 : (inZ y.toInt 0 ((tn (M 1) : Int) - 1)) = true := by first | simpa using hq2 | simpa [lo, hcl_lt] using hq2
        rw [hq2, rfT_f] at hP
        refine u_top (y := nI 0) (by rw [rfT_f]; rfl) ?_
        have hP : mP dC dI dA a (mrow M 0 (upd (M 0) 0 (nI 0))) H := hP
        obtain ⟨t, hlt_t, hsm_t, rfl⟩ := inZ_n hz2
        have hcl_t : (nI t).toNatClampNeg = t := nI_clamp (by omega)
        have hP : mP dC dI dA a (mrow M 0 (upd (M 0) 0 (nI 0))) H := by assumption
        refine lv_if_eq (tgt := 33) hx hb dX2_distance_26 (by decide) (fun c_26 => ?_) (fun c_26 => absurd (by decide) c_26)
        refine lv_aload_n hx hb dX2_distance_33 rfl (lv_at hl 0 rfl) ?_
        refine lv_iload_n hx hb dX2_distance_34 rfl (lv_at hl 1 rfl) ?_
        refine lv_iload_n hx hb dX2_distance_35 rfl (lv_at hl 2 rfl) ?_
        refine k_X2_farTown (M := mrow M 0 (upd (M 0) 0 (nI 0)))  (show lt < ln (M 2) by omega) (show t < tn (M 1) by omega) hS1 hT SF hK (rk.le (Nat.le_of_ble_eq_true rfl)) hl.1 (Nat.le_of_ble_eq_true rfl) hP dX2_distance_36 ?_
        refine u_top (y := nI (farT (M 2) (M 1) lt t)) rfl ?_
        exact hret _ _ _ _ _ (by rw [hz0, hz1, hz2]; show _ = _; rw [hcl_lt, hcl_t]; rfl) (by rw [hz0, hz1, hz2]; exact hP) hS dX2_distance_39
      · have hz2 : (inZ y.toInt 0 ((tn (M 1) : Int) - 1)) = false := by first | simpa using hq2 | simpa [lo, hcl_lt] using hq2
        rw [hq2, rfT_t] at hP
        refine u_top (y := nI 1) (by rw [rfT_t]; rfl) ?_
        have hP : mP dC dI dA a (mrow M 0 (upd (M 0) 0 (nI 2))) H := hP
        refine lv_if_eq (tgt := 33) hx hb dX2_distance_26 (by decide) (fun c_26 => absurd c_26 (by decide)) (fun c_26 => ?_)
        refine lv_iconst (v := nI 0) hx hb dX2_distance_29 (by decide) ?_
        refine lv_goto (tgt := 39) hx hb dX2_distance_30 (by decide) ?_
        exact hret _ _ _ _ _ (by rw [hz0, hz1, hz2]; rfl) (by rw [hz0, hz1, hz2]; exact hP) hS dX2_distance_39
    refine lv_if_ne (tgt := 21) hx hb dX2_distance_14 (by decide) (fun c_14 => ?_) (fun c_14 => ?_)
    · have c_14 : ¬ ((inZ y.toInt 0 ((tn (M 1) : Int) - 1)) = false) := fun q9 => c_14 (u_zb.mpr q9)
      refine lv_iconst (v := nI 0) hx hb dX2_distance_21 (by decide) ?_
      exact jn22 _ (u_ff (by simp [c_14])) _ _ hP hS ls (lv_sub hl [0, 1, 2] rfl)
    · have c_14 : (inZ y.toInt 0 ((tn (M 1) : Int) - 1)) = false := u_zb.mp c_14
      refine lv_iconst (v := nI 1) hx hb dX2_distance_17 (by decide) ?_
      refine lv_goto (tgt := 22) hx hb dX2_distance_18 (by decide) ?_
      exact jn22 _ (u_tt (by simpa using c_14)) _ _ hP hS ls (lv_sub hl [0, 1, 2] rfl)
  · refine u_top (y := nI 1) (by rw [decide_eq_false hq0]; rfl) ?_
    refine lv_if_ne (tgt := 29) hx hb dX2_distance_5 (by decide) (fun c_5 => ?_) (fun c_5 => absurd c_5 (by decide))
    refine lv_iconst (v := nI 0) hx hb dX2_distance_29 (by decide) ?_
    refine lv_goto (tgt := 39) hx hb dX2_distance_30 (by decide) ?_
    exact hret _ _ _ _ _ (by rw [show thC [(lo (M 0 1), 1), (inZ x.toInt 0 ((ln (M 2) : Int) - 1), 2), (inZ y.toInt 0 ((tn (M 1) : Int) - 1), 2)] = thC [(lo (M 0 1), 1), (inZ x.toInt 0 ((ln (M 2) : Int) - 1), 2)] from thC_pre (L1 := [(lo (M 0 1), 1), (inZ x.toInt 0 ((ln (M 2) : Int) - 1), 2)]) (L2 := [(inZ y.toInt 0 ((tn (M 1) : Int) - 1), 2)]) hq0, if_neg hq0]) (by rw [show thC [(lo (M 0 1), 1), (inZ x.toInt 0 ((ln (M 2) : Int) - 1), 2), (inZ y.toInt 0 ((tn (M 1) : Int) - 1), 2)] = thC [(lo (M 0 1), 1), (inZ x.toInt 0 ((ln (M 2) : Int) - 1), 2)] from thC_pre (L1 := [(lo (M 0 1), 1), (inZ x.toInt 0 ((ln (M 2) : Int) - 1), 2)]) (L2 := [(inZ y.toInt 0 ((tn (M 1) : Int) - 1), 2)]) hq0]; exact hP) hS dX2_distance_39

set_option maxHeartbeats 4000000 in
theorem c_X2_near (l : Launch) (dC : Nat → ClassId) (dI : Nat → Nat → Nat) (dA : Nat → ClassId) (a : Nat → Nat) (M : Nat → Nat → Int32) (hJ : mJ a) (x : Int32) (y : Int32) (hS1 : SWf (M 2)) (hT : TWf (M 1)) : Met l yX2_near (ws_ yX2_near cX2_near 3 (some .int)) (rmD 6 0 0) (uPc [.ref (a 0), .int x, .int y] (mP dC dI dA a M) dC dI dA) (uMi (mA a) (if thC [(lo (M 0 1), 1), (inZ x.toInt 0 ((ln (M 2) : Int) - 1), 2)] = 0 then oI (nrA (M 2) (M 1) x.toNatClampNeg y) else nI 0) (mP dC dI dA a (mrow M 0 (upd (M 0) 0 (nI (thC [(lo (M 0 1), 1), (inZ x.toInt 0 ((ln (M 2) : Int) - 1), 2)])))))) 0 0 (mA a) := by
  refine u_metMi (own := RX2) (by decide) rfl (Nat.le_of_ble_eq_true rfl) fun p e R s m args below meth c Q SF rk hP hK hret ls hl => ?_
  have hx := SF.1
  have hb := SF.2.1
  have hml := SF.2.2.1
  have hown := SF.2.2.2.1
  have hts := SF.2.2.2.2
  have hS : uS (mA a) s.heap s.heap [] := uS.rf
  have hl : lv_has ls 3 [(0, .ref (a 0)), (1, .int x), (2, .int y)] := hl
  have hL := hS1.2.1
  have hn9 := hT.2.1
  refine lv_aload_n hx hb dX2_near_0 rfl (lv_at hl 0 rfl) ?_
  refine lv_iload_n hx hb dX2_near_1 rfl (lv_at hl 1 rfl) ?_
  refine k_X2_noLetter  hJ hS1 SF hK (rk.le (Nat.le_of_ble_eq_true rfl)) hl.1 (Nat.le_of_ble_eq_true rfl) hP hS dX2_near_2 (fun H locs hP hS => ?_)
  have hP : mP dC dI dA a (mrow M 0 (upd (M 0) 0 (nI (thC [(lo (M 0 1), 1), (inZ x.toInt 0 ((ln (M 2) : Int) - 1), 2)])))) H := hP
  by_cases hq0 : thC [(lo (M 0 1), 1), (inZ x.toInt 0 ((ln (M 2) : Int) - 1), 2)] = 0
  · obtain ⟨hz0, hz1⟩ := thC_2 hq0
    refine u_top (y := nI 0) (by rw [hq0]; rfl) ?_
    rw [hq0] at hP
    have hP : mP dC dI dA a (mrow M 0 (upd (M 0) 0 (nI 0))) H := hP
    obtain ⟨lt, hlt_lt, hsm_lt, rfl⟩ := inZ_n hz1
    have hcl_lt : (nI lt).toNatClampNeg = lt := nI_clamp (by omega)
    have hP : mP dC dI dA a (mrow M 0 (upd (M 0) 0 (nI 0))) H := by assumption
    refine lv_if_eq (tgt := 12) hx hb dX2_near_5 (by decide) (fun c_5 => ?_) (fun c_5 => absurd (by decide) c_5)
    refine lv_aload_n hx hb dX2_near_12 rfl (lv_at hl 0 rfl) ?_
    refine lv_iload_n hx hb dX2_near_13 rfl (lv_at hl 1 rfl) ?_
    refine lv_iload_n hx hb dX2_near_14 rfl (lv_at hl 2 rfl) ?_
    refine k_X2_nearAt (M := mrow M 0 (upd (M 0) 0 (nI 0)))  (show lt < ln (M 2) by omega) hS1 hT SF hK (rk.le (Nat.le_of_ble_eq_true rfl)) hl.1 (Nat.le_of_ble_eq_true rfl) hP dX2_near_15 ?_
    refine u_top (y := oI (nrA (M 2) (M 1) lt y)) rfl ?_
    exact hret _ _ _ _ _ (by rw [hz0, hz1]; show _ = _; rw [hcl_lt]; rfl) (by rw [hz0, hz1]; exact hP) hS dX2_near_18
  · refine u_top (y := nI 1) (by rw [decide_eq_false hq0]; rfl) ?_
    refine lv_if_eq (tgt := 12) hx hb dX2_near_5 (by decide) (fun c_5 => absurd c_5 (by decide)) (fun c_5 => ?_)
    refine lv_iconst (v := nI 0) hx hb dX2_near_8 (by decide) ?_
    refine lv_goto (tgt := 18) hx hb dX2_near_9 (by decide) ?_
    exact hret _ _ _ _ _ (by rw [show thC [(lo (M 0 1), 1), (inZ x.toInt 0 ((ln (M 2) : Int) - 1), 2)] = thC [(lo (M 0 1), 1), (inZ x.toInt 0 ((ln (M 2) : Int) - 1), 2)] from thC_pre (L1 := [(lo (M 0 1), 1), (inZ x.toInt 0 ((ln (M 2) : Int) - 1), 2)]) (L2 := []) hq0, if_neg hq0]) (by rw [show thC [(lo (M 0 1), 1), (inZ x.toInt 0 ((ln (M 2) : Int) - 1), 2)] = thC [(lo (M 0 1), 1), (inZ x.toInt 0 ((ln (M 2) : Int) - 1), 2)] from thC_pre (L1 := [(lo (M 0 1), 1), (inZ x.toInt 0 ((ln (M 2) : Int) - 1), 2)]) (L2 := []) hq0]; exact hP) hS dX2_near_18

set_option maxHeartbeats 4000000 in
theorem c_X2_decided (l : Launch) (dC : Nat → ClassId) (dI : Nat → Nat → Nat) (dA : Nat → ClassId) (a : Nat → Nat) (M : Nat → Nat → Int32) (hJ : mJ a) (x : Int32) (hS1 : SWf (M 2)) (hT : TWf (M 1)) : Met l yX2_decided (ws_ yX2_decided cX2_decided 2 (some .int)) (rmD 11 0 0) (uPc [.ref (a 0), .int x] (mP dC dI dA a M) dC dI dA) (uMi (mA a) (if thC [(lo (M 0 1), 1), (inZ x.toInt 0 ((ln (M 2) : Int) - 1), 2)] = 0 then oI (dcd (M 2) (M 1) x.toNatClampNeg) else nI 0) (mP dC dI dA a (mrow M 0 (upd (M 0) 0 (nI (thC [(lo (M 0 1), 1), (inZ x.toInt 0 ((ln (M 2) : Int) - 1), 2)])))))) 0 0 (mA a) := by
  refine u_metMi (own := RX2) (by decide) rfl (Nat.le_of_ble_eq_true rfl) fun p e R s m args below meth c Q SF rk hP hK hret ls hl => ?_
  have hx := SF.1
  have hb := SF.2.1
  have hml := SF.2.2.1
  have hown := SF.2.2.2.1
  have hts := SF.2.2.2.2
  have hS : uS (mA a) s.heap s.heap [] := uS.rf
  have hl : lv_has ls 2 [(0, .ref (a 0)), (1, .int x)] := hl
  have hL := hS1.2.1
  have hn9 := hT.2.1
  refine lv_aload_n hx hb dX2_decided_0 rfl (lv_at hl 0 rfl) ?_
  refine lv_iload_n hx hb dX2_decided_1 rfl (lv_at hl 1 rfl) ?_
  refine k_X2_noLetter  hJ hS1 SF hK (rk.le (Nat.le_of_ble_eq_true rfl)) hl.1 (Nat.le_of_ble_eq_true rfl) hP hS dX2_decided_2 (fun H locs hP hS => ?_)
  have hP : mP dC dI dA a (mrow M 0 (upd (M 0) 0 (nI (thC [(lo (M 0 1), 1), (inZ x.toInt 0 ((ln (M 2) : Int) - 1), 2)])))) H := hP
  by_cases hq0 : thC [(lo (M 0 1), 1), (inZ x.toInt 0 ((ln (M 2) : Int) - 1), 2)] = 0
  · obtain ⟨hz0, hz1⟩ := thC_2 hq0
    refine u_top (y := nI 0) (by rw [hq0]; rfl) ?_
    rw [hq0] at hP
    have hP : mP dC dI dA a (mrow M 0 (upd (M 0) 0 (nI 0))) H := hP
    obtain ⟨lt, hlt_lt, hsm_lt, rfl⟩ := inZ_n hz1
    have hcl_lt : (nI lt).toNatClampNeg = lt := nI_clamp (by omega)
    have hP : mP dC dI dA a (mrow M 0 (upd (M 0) 0 (nI 0))) H := by assumption
    refine lv_if_eq (tgt := 12) hx hb dX2_decided_5 (by decide) (fun c_5 => ?_) (fun c_5 => absurd (by decide) c_5)
    refine lv_aload_n hx hb dX2_decided_12 rfl (lv_at hl 0 rfl) ?_
    refine lv_iload_n hx hb dX2_decided_13 rfl (lv_at hl 1 rfl) ?_
    refine k_X2_decidedFor (M := mrow M 0 (upd (M 0) 0 (nI 0)))  (show lt < ln (M 2) by omega) hS1 hT SF hK (rk.le (Nat.le_of_ble_eq_true rfl)) hl.1 (Nat.le_of_ble_eq_true rfl) hP dX2_decided_14 ?_
    refine u_top (y := oI (dcd (M 2) (M 1) lt)) rfl ?_
    exact hret _ _ _ _ _ (by rw [hz0, hz1]; show _ = _; rw [hcl_lt]; rfl) (by rw [hz0, hz1]; exact hP) hS dX2_decided_17
  · refine u_top (y := nI 1) (by rw [decide_eq_false hq0]; rfl) ?_
    refine lv_if_eq (tgt := 12) hx hb dX2_decided_5 (by decide) (fun c_5 => absurd c_5 (by decide)) (fun c_5 => ?_)
    refine lv_iconst (v := nI 0) hx hb dX2_decided_8 (by decide) ?_
    refine lv_goto (tgt := 17) hx hb dX2_decided_9 (by decide) ?_
    exact hret _ _ _ _ _ (by rw [show thC [(lo (M 0 1), 1), (inZ x.toInt 0 ((ln (M 2) : Int) - 1), 2)] = thC [(lo (M 0 1), 1), (inZ x.toInt 0 ((ln (M 2) : Int) - 1), 2)] from thC_pre (L1 := [(lo (M 0 1), 1), (inZ x.toInt 0 ((ln (M 2) : Int) - 1), 2)]) (L2 := []) hq0, if_neg hq0]) (by rw [show thC [(lo (M 0 1), 1), (inZ x.toInt 0 ((ln (M 2) : Int) - 1), 2)] = thC [(lo (M 0 1), 1), (inZ x.toInt 0 ((ln (M 2) : Int) - 1), 2)] from thC_pre (L1 := [(lo (M 0 1), 1), (inZ x.toInt 0 ((ln (M 2) : Int) - 1), 2)]) (L2 := []) hq0]; exact hP) hS dX2_decided_17

set_option maxHeartbeats 4000000 in
theorem c_X2_whyNot (l : Launch) (dC : Nat → ClassId) (dI : Nat → Nat → Nat) (dA : Nat → ClassId) (a : Nat → Nat) (M : Nat → Nat → Int32) (hJ : mJ a) (x : Int32) (hS1 : SWf (M 2)) (hT : TWf (M 1)) : Met l yX2_whyNot (ws_ yX2_whyNot cX2_whyNot 2 (some .int)) (rmD 12 0 0) (uPc [.ref (a 0), .int x] (mP dC dI dA a M) dC dI dA) (uMi (mA a) (if thC [(lo (M 0 1), 1), (inZ x.toInt 0 ((ln (M 2) : Int) - 1), 2)] = 0 then nI (why (M 2) (M 1) x.toNatClampNeg) else nI 0) (mP dC dI dA a (mrow M 0 (upd (M 0) 0 (nI (thC [(lo (M 0 1), 1), (inZ x.toInt 0 ((ln (M 2) : Int) - 1), 2)])))))) 0 0 (mA a) := by
  refine u_metMi (own := RX2) (by decide) rfl (Nat.le_of_ble_eq_true rfl) fun p e R s m args below meth c Q SF rk hP hK hret ls hl => ?_
  have hx := SF.1
  have hb := SF.2.1
  have hml := SF.2.2.1
  have hown := SF.2.2.2.1
  have hts := SF.2.2.2.2
  have hS : uS (mA a) s.heap s.heap [] := uS.rf
  have hl : lv_has ls 2 [(0, .ref (a 0)), (1, .int x)] := hl
  have hL := hS1.2.1
  have hn9 := hT.2.1
  refine lv_aload_n hx hb dX2_whyNot_0 rfl (lv_at hl 0 rfl) ?_
  refine lv_iload_n hx hb dX2_whyNot_1 rfl (lv_at hl 1 rfl) ?_
  refine k_X2_noLetter  hJ hS1 SF hK (rk.le (Nat.le_of_ble_eq_true rfl)) hl.1 (Nat.le_of_ble_eq_true rfl) hP hS dX2_whyNot_2 (fun H locs hP hS => ?_)
  have hP : mP dC dI dA a (mrow M 0 (upd (M 0) 0 (nI (thC [(lo (M 0 1), 1), (inZ x.toInt 0 ((ln (M 2) : Int) - 1), 2)])))) H := hP
  by_cases hq0 : thC [(lo (M 0 1), 1), (inZ x.toInt 0 ((ln (M 2) : Int) - 1), 2)] = 0
  · obtain ⟨hz0, hz1⟩ := thC_2 hq0
    refine u_top (y := nI 0) (by rw [hq0]; rfl) ?_
    rw [hq0] at hP
    have hP : mP dC dI dA a (mrow M 0 (upd (M 0) 0 (nI 0))) H := hP
    obtain ⟨lt, hlt_lt, hsm_lt, rfl⟩ := inZ_n hz1
    have hcl_lt : (nI lt).toNatClampNeg = lt := nI_clamp (by omega)
    have hP : mP dC dI dA a (mrow M 0 (upd (M 0) 0 (nI 0))) H := by assumption
    refine lv_if_eq (tgt := 12) hx hb dX2_whyNot_5 (by decide) (fun c_5 => ?_) (fun c_5 => absurd (by decide) c_5)
    refine lv_aload_n hx hb dX2_whyNot_12 rfl (lv_at hl 0 rfl) ?_
    refine lv_iload_n hx hb dX2_whyNot_13 rfl (lv_at hl 1 rfl) ?_
    refine k_X2_whyOf (M := mrow M 0 (upd (M 0) 0 (nI 0)))  (show lt < ln (M 2) by omega) hS1 hT SF hK (rk.le (Nat.le_of_ble_eq_true rfl)) hl.1 (Nat.le_of_ble_eq_true rfl) hP dX2_whyNot_14 ?_
    refine u_top (y := nI (why (M 2) (M 1) lt)) rfl ?_
    exact hret _ _ _ _ _ (by rw [hz0, hz1]; show _ = _; rw [hcl_lt]; rfl) (by rw [hz0, hz1]; exact hP) hS dX2_whyNot_17
  · refine u_top (y := nI 1) (by rw [decide_eq_false hq0]; rfl) ?_
    refine lv_if_eq (tgt := 12) hx hb dX2_whyNot_5 (by decide) (fun c_5 => absurd c_5 (by decide)) (fun c_5 => ?_)
    refine lv_iconst (v := nI 0) hx hb dX2_whyNot_8 (by decide) ?_
    refine lv_goto (tgt := 17) hx hb dX2_whyNot_9 (by decide) ?_
    exact hret _ _ _ _ _ (by rw [show thC [(lo (M 0 1), 1), (inZ x.toInt 0 ((ln (M 2) : Int) - 1), 2)] = thC [(lo (M 0 1), 1), (inZ x.toInt 0 ((ln (M 2) : Int) - 1), 2)] from thC_pre (L1 := [(lo (M 0 1), 1), (inZ x.toInt 0 ((ln (M 2) : Int) - 1), 2)]) (L2 := []) hq0, if_neg hq0]) (by rw [show thC [(lo (M 0 1), 1), (inZ x.toInt 0 ((ln (M 2) : Int) - 1), 2)] = thC [(lo (M 0 1), 1), (inZ x.toInt 0 ((ln (M 2) : Int) - 1), 2)] from thC_pre (L1 := [(lo (M 0 1), 1), (inZ x.toInt 0 ((ln (M 2) : Int) - 1), 2)]) (L2 := []) hq0]; exact hP) hS dX2_whyNot_17

set_option maxHeartbeats 4000000 in
theorem c_X2_whyNotAgain (l : Launch) (dC : Nat → ClassId) (dI : Nat → Nat → Nat) (dA : Nat → ClassId) (a : Nat → Nat) (M : Nat → Nat → Int32) (hJ : mJ a) (x : Int32) (hS1 : SWf (M 2)) (hT : TWf (M 1)) : Met l yX2_whyNotAgain (ws_ yX2_whyNotAgain cX2_whyNotAgain 2 (some .int)) (rmD 3 0 0) (uPc [.ref (a 0), .int x] (mP dC dI dA a M) dC dI dA) (uMi (mA a) (if thC [(lo (M 0 1), 1), (inZ x.toInt 0 ((ln (M 2) : Int) - 1), 2)] = 0 then nI (whR (M 2) x.toNatClampNeg) else nI 0) (mP dC dI dA a (mrow M 0 (upd (M 0) 0 (nI (thC [(lo (M 0 1), 1), (inZ x.toInt 0 ((ln (M 2) : Int) - 1), 2)])))))) 0 0 (mA a) := by
  refine u_metMi (own := RX2) (by decide) rfl (Nat.le_of_ble_eq_true rfl) fun p e R s m args below meth c Q SF rk hP hK hret ls hl => ?_
  have hx := SF.1
  have hb := SF.2.1
  have hml := SF.2.2.1
  have hown := SF.2.2.2.1
  have hts := SF.2.2.2.2
  have hS : uS (mA a) s.heap s.heap [] := uS.rf
  have hl : lv_has ls 2 [(0, .ref (a 0)), (1, .int x)] := hl
  have hL := hS1.2.1
  have hn9 := hT.2.1
  refine lv_aload_n hx hb dX2_whyNotAgain_0 rfl (lv_at hl 0 rfl) ?_
  refine lv_iload_n hx hb dX2_whyNotAgain_1 rfl (lv_at hl 1 rfl) ?_
  refine k_X2_noLetter  hJ hS1 SF hK (rk.le (Nat.le_of_ble_eq_true rfl)) hl.1 (Nat.le_of_ble_eq_true rfl) hP hS dX2_whyNotAgain_2 (fun H locs hP hS => ?_)
  have hP : mP dC dI dA a (mrow M 0 (upd (M 0) 0 (nI (thC [(lo (M 0 1), 1), (inZ x.toInt 0 ((ln (M 2) : Int) - 1), 2)])))) H := hP
  by_cases hq0 : thC [(lo (M 0 1), 1), (inZ x.toInt 0 ((ln (M 2) : Int) - 1), 2)] = 0
  · obtain ⟨hz0, hz1⟩ := thC_2 hq0
    refine u_top (y := nI 0) (by rw [hq0]; rfl) ?_
    rw [hq0] at hP
    have hP : mP dC dI dA a (mrow M 0 (upd (M 0) 0 (nI 0))) H := hP
    obtain ⟨lt, hlt_lt, hsm_lt, rfl⟩ := inZ_n hz1
    have hcl_lt : (nI lt).toNatClampNeg = lt := nI_clamp (by omega)
    have hP : mP dC dI dA a (mrow M 0 (upd (M 0) 0 (nI 0))) H := by assumption
    refine lv_if_eq (tgt := 12) hx hb dX2_whyNotAgain_5 (by decide) (fun c_5 => ?_) (fun c_5 => absurd (by decide) c_5)
    refine lv_aload_n hx hb dX2_whyNotAgain_12 rfl (lv_at hl 0 rfl) ?_
    refine lv_iload_n hx hb dX2_whyNotAgain_13 rfl (lv_at hl 1 rfl) ?_
    refine k_X2_whyNotRead (M := mrow M 0 (upd (M 0) 0 (nI 0)))  (show lt < 24 by omega) SF hK (rk.le (Nat.le_of_ble_eq_true rfl)) hl.1 (Nat.le_of_ble_eq_true rfl) hP dX2_whyNotAgain_14 ?_
    refine u_top (y := nI (whR (M 2) lt)) rfl ?_
    exact hret _ _ _ _ _ (by rw [hz0, hz1]; show _ = _; rw [hcl_lt]; rfl) (by rw [hz0, hz1]; exact hP) hS dX2_whyNotAgain_17
  · refine u_top (y := nI 1) (by rw [decide_eq_false hq0]; rfl) ?_
    refine lv_if_eq (tgt := 12) hx hb dX2_whyNotAgain_5 (by decide) (fun c_5 => absurd c_5 (by decide)) (fun c_5 => ?_)
    refine lv_iconst (v := nI 0) hx hb dX2_whyNotAgain_8 (by decide) ?_
    refine lv_goto (tgt := 17) hx hb dX2_whyNotAgain_9 (by decide) ?_
    exact hret _ _ _ _ _ (by rw [show thC [(lo (M 0 1), 1), (inZ x.toInt 0 ((ln (M 2) : Int) - 1), 2)] = thC [(lo (M 0 1), 1), (inZ x.toInt 0 ((ln (M 2) : Int) - 1), 2)] from thC_pre (L1 := [(lo (M 0 1), 1), (inZ x.toInt 0 ((ln (M 2) : Int) - 1), 2)]) (L2 := []) hq0, if_neg hq0]) (by rw [show thC [(lo (M 0 1), 1), (inZ x.toInt 0 ((ln (M 2) : Int) - 1), 2)] = thC [(lo (M 0 1), 1), (inZ x.toInt 0 ((ln (M 2) : Int) - 1), 2)] from thC_pre (L1 := [(lo (M 0 1), 1), (inZ x.toInt 0 ((ln (M 2) : Int) - 1), 2)]) (L2 := []) hq0]; exact hP) hS dX2_whyNotAgain_17

set_option maxHeartbeats 4000000 in
theorem c_X2_how (l : Launch) (dC : Nat → ClassId) (dI : Nat → Nat → Nat) (dA : Nat → ClassId) (a : Nat → Nat) (M : Nat → Nat → Int32) (hJ : mJ a) (x : Int32) (hS1 : SWf (M 2)) (hT : TWf (M 1)) : Met l yX2_how (ws_ yX2_how cX2_how 3 (some .int)) (rmD 10 0 0) (uPc [.ref (a 0), .int x] (mP dC dI dA a M) dC dI dA) (uMi (mA a) (if thC [(lo (M 0 1), 1), (inZ x.toInt 0 ((ln (M 2) : Int) - 1), 2)] = 0 then nI (howV (M 2) (M 1) x.toNatClampNeg) else nI 0) (mP dC dI dA a (mrow M 0 (upd (M 0) 0 (nI (thC [(lo (M 0 1), 1), (inZ x.toInt 0 ((ln (M 2) : Int) - 1), 2)])))))) 0 0 (mA a) := by
  refine u_metMi (own := RX2) (by decide) rfl (Nat.le_of_ble_eq_true rfl) fun p e R s m args below meth c Q SF rk hP hK hret ls hl => ?_
  have hx := SF.1
  have hb := SF.2.1
  have hml := SF.2.2.1
  have hown := SF.2.2.2.1
  have hts := SF.2.2.2.2
  have hS : uS (mA a) s.heap s.heap [] := uS.rf
  have hl : lv_has ls 3 [(0, .ref (a 0)), (1, .int x)] := hl
  have hL := hS1.2.1
  have hn9 := hT.2.1
  refine lv_aload_n hx hb dX2_how_0 rfl (lv_at hl 0 rfl) ?_
  refine lv_iload_n hx hb dX2_how_1 rfl (lv_at hl 1 rfl) ?_
  refine k_X2_noLetter  hJ hS1 SF hK (rk.le (Nat.le_of_ble_eq_true rfl)) hl.1 (Nat.le_of_ble_eq_true rfl) hP hS dX2_how_2 (fun H locs hP hS => ?_)
  have hP : mP dC dI dA a (mrow M 0 (upd (M 0) 0 (nI (thC [(lo (M 0 1), 1), (inZ x.toInt 0 ((ln (M 2) : Int) - 1), 2)])))) H := hP
  by_cases hq0 : thC [(lo (M 0 1), 1), (inZ x.toInt 0 ((ln (M 2) : Int) - 1), 2)] = 0
  · obtain ⟨hz0, hz1⟩ := thC_2 hq0
    refine u_top (y := nI 0) (by rw [hq0]; rfl) ?_
    rw [hq0] at hP
    have hP : mP dC dI dA a (mrow M 0 (upd (M 0) 0 (nI 0))) H := hP
    obtain ⟨lt, hlt_lt, hsm_lt, rfl⟩ := inZ_n hz1
    have hcl_lt : (nI lt).toNatClampNeg = lt := nI_clamp (by omega)
    have hP : mP dC dI dA a (mrow M 0 (upd (M 0) 0 (nI 0))) H := by assumption
    refine lv_if_eq (tgt := 10) hx hb dX2_how_5 (by decide) (fun c_5 => ?_) (fun c_5 => absurd (by decide) c_5)
    refine lv_aload_n hx hb dX2_how_10 rfl (lv_at hl 0 rfl) ?_
    refine lv_iload_n hx hb dX2_how_11 rfl (lv_at hl 1 rfl) ?_
    refine k_X2_bySelf (M := mrow M 0 (upd (M 0) 0 (nI 0)))  (show lt < ln (M 2) by omega) hS1 hT SF hK (rk.le (Nat.le_of_ble_eq_true rfl)) hl.1 (Nat.le_of_ble_eq_true rfl) hP dX2_how_12 ?_
    refine u_top (y := oI (byS (M 2) (M 1) lt)) rfl ?_
    rcases hE : byS (M 2) (M 1) lt with _ | t9
    · refine u_top (y := (-1)) rfl ?_
      refine lv_istore_n (lv' := [(2, .int (-1)), (0, .ref (a 0)), (1, .int (nI lt))]) hx hb dX2_how_15 rfl hl (by decide) rfl (fun ls hl => ?_)
      refine lv_iload_n hx hb dX2_how_16 rfl (lv_at hl 0 rfl) ?_
      refine lv_iconst (v := (-1)) hx hb dX2_how_17 (by decide) ?_
      refine lv_icmp_eq (tgt := 36) hx hb dX2_how_18 (by decide) (fun c_18 => ?_) (fun c_18 => absurd (by decide) c_18)
      refine lv_aload_n hx hb dX2_how_36 rfl (lv_at hl 1 rfl) ?_
      refine lv_iload_n hx hb dX2_how_37 rfl (lv_at hl 2 rfl) ?_
      refine k_X2_byBundle (M := mrow M 0 (upd (M 0) 0 (nI 0)))  (show lt < ln (M 2) by omega) hS1 hT SF hK (rk.le (Nat.le_of_ble_eq_true rfl)) hl.1 (Nat.le_of_ble_eq_true rfl) hP dX2_how_38 ?_
      refine u_top (y := oI (byB (M 2) (M 1) lt)) rfl ?_
      rcases hE2 : byB (M 2) (M 1) lt with _ | t8
      · refine u_top (y := (-1)) rfl ?_
        refine lv_iconst (v := (-1)) hx hb dX2_how_41 (by decide) ?_
        refine lv_icmp_ne (tgt := 49) hx hb dX2_how_42 (by decide) (fun c_42 => absurd (by decide) c_42) (fun c_42 => ?_)
        refine lv_iconst (v := nI 0) hx hb dX2_how_45 (by decide) ?_
        refine lv_goto (tgt := 50) hx hb dX2_how_46 (by decide) ?_
        exact hret _ _ _ _ _ (by rw [hz0, hz1]; show _ = _; rw [hcl_lt, howV, hE, hE2]; rfl) (by rw [hz0, hz1]; exact hP) hS dX2_how_50
      · have ht8 := byB_lt hE2
        refine u_top (y := nI t8) rfl ?_
        refine lv_iconst (v := (-1)) hx hb dX2_how_41 (by decide) ?_
        refine lv_icmp_ne (tgt := 49) hx hb dX2_how_42 (by decide) (fun c_42 => ?_) (fun c_42 => absurd c_42 (nI_m1 (by omega)))
        refine lv_iconst (v := nI 3) hx hb dX2_how_49 (by decide) ?_
        exact hret _ _ _ _ _ (by rw [hz0, hz1]; show _ = _; rw [hcl_lt, howV, hE, hE2]; rfl) (by rw [hz0, hz1]; exact hP) hS dX2_how_50
    · have ht9 := byS_lt hE
      refine u_top (y := nI t9) rfl ?_
      refine lv_istore_n (lv' := [(2, .int (nI t9)), (0, .ref (a 0)), (1, .int (nI lt))]) hx hb dX2_how_15 rfl hl (by decide) rfl (fun ls hl => ?_)
      refine lv_iload_n hx hb dX2_how_16 rfl (lv_at hl 0 rfl) ?_
      refine lv_iconst (v := (-1)) hx hb dX2_how_17 (by decide) ?_
      refine lv_icmp_eq (tgt := 36) hx hb dX2_how_18 (by decide) (fun c_18 => absurd c_18 (nI_m1 (by omega))) (fun c_18 => ?_)
      refine lv_aload_n hx hb dX2_how_21 rfl (lv_at hl 1 rfl) ?_
      refine lv_iload_n hx hb dX2_how_22 rfl (lv_at hl 2 rfl) ?_
      refine lv_iload_n hx hb dX2_how_23 rfl (lv_at hl 0 rfl) ?_
      refine k_X2_farTown (M := mrow M 0 (upd (M 0) 0 (nI 0)))  (show lt < ln (M 2) by omega) (show t9 < tn (M 1) by omega) hS1 hT SF hK (rk.le (Nat.le_of_ble_eq_true rfl)) hl.1 (Nat.le_of_ble_eq_true rfl) hP dX2_how_24 ?_
      refine u_top (y := nI (farT (M 2) (M 1) lt t9)) rfl ?_
      have hf9 := farT_le (M 2) (M 1) lt t9
      refine lv_if_ne (tgt := 34) hx hb dX2_how_27 (by decide) (fun c_27 => ?_) (fun c_27 => ?_)
      · have c_27 : ¬ (farT (M 2) (M 1) lt t9 = 0) := fun q9 => c_27 ((nI_eq (a := farT (M 2) (M 1) lt t9) (b := 0) (by omega) (by omega)).mpr q9)
        refine lv_iconst (v := nI 2) hx hb dX2_how_34 (by decide) ?_
        exact hret _ _ _ _ _ (by rw [hz0, hz1]; show _ = _; rw [hcl_lt, howV, hE]; exact congrArg nI (if_neg c_27).symm) (by rw [hz0, hz1]; exact hP) hS dX2_how_35
      · have c_27 : farT (M 2) (M 1) lt t9 = 0 := (nI_eq (a := farT (M 2) (M 1) lt t9) (b := 0) (by omega) (by omega)).mp c_27
        refine lv_iconst (v := nI 1) hx hb dX2_how_30 (by decide) ?_
        refine lv_goto (tgt := 35) hx hb dX2_how_31 (by decide) ?_
        exact hret _ _ _ _ _ (by rw [hz0, hz1]; show _ = _; rw [hcl_lt, howV, hE]; exact congrArg nI (if_pos c_27).symm) (by rw [hz0, hz1]; exact hP) hS dX2_how_35
  · refine u_top (y := nI 1) (by rw [decide_eq_false hq0]; rfl) ?_
    refine lv_if_eq (tgt := 10) hx hb dX2_how_5 (by decide) (fun c_5 => absurd c_5 (by decide)) (fun c_5 => ?_)
    refine lv_iconst (v := nI 0) hx hb dX2_how_8 (by decide) ?_
    exact hret _ _ _ _ _ (by rw [show thC [(lo (M 0 1), 1), (inZ x.toInt 0 ((ln (M 2) : Int) - 1), 2)] = thC [(lo (M 0 1), 1), (inZ x.toInt 0 ((ln (M 2) : Int) - 1), 2)] from thC_pre (L1 := [(lo (M 0 1), 1), (inZ x.toInt 0 ((ln (M 2) : Int) - 1), 2)]) (L2 := []) hq0, if_neg hq0]) (by rw [show thC [(lo (M 0 1), 1), (inZ x.toInt 0 ((ln (M 2) : Int) - 1), 2)] = thC [(lo (M 0 1), 1), (inZ x.toInt 0 ((ln (M 2) : Int) - 1), 2)] from thC_pre (L1 := [(lo (M 0 1), 1), (inZ x.toInt 0 ((ln (M 2) : Int) - 1), 2)]) (L2 := []) hq0]; exact hP) hS dX2_how_9

set_option maxHeartbeats 4000000 in
theorem c_X2_leastFix (l : Launch) (dC : Nat → ClassId) (dI : Nat → Nat → Nat) (dA : Nat → ClassId) (a : Nat → Nat) (M : Nat → Nat → Int32) (hJ : mJ a) (x : Int32) (hS1 : SWf (M 2)) (hT : TWf (M 1)) : Met l yX2_leastFix (ws_ yX2_leastFix cX2_leastFix 2 (some .int)) (rmD 5 0 0) (uPc [.ref (a 0), .int x] (mP dC dI dA a M) dC dI dA) (uMi (mA a) (if thC [(lo (M 0 1), 1), (inZ x.toInt 0 ((ln (M 2) : Int) - 1), 2)] = 0 then nI (lfx (M 2) x.toNatClampNeg) else nI 0) (mP dC dI dA a (mrow M 0 (upd (M 0) 0 (nI (thC [(lo (M 0 1), 1), (inZ x.toInt 0 ((ln (M 2) : Int) - 1), 2)])))))) 0 0 (mA a) := by
  refine u_metMi (own := RX2) (by decide) rfl (Nat.le_of_ble_eq_true rfl) fun p e R s m args below meth c Q SF rk hP hK hret ls hl => ?_
  have hx := SF.1
  have hb := SF.2.1
  have hml := SF.2.2.1
  have hown := SF.2.2.2.1
  have hts := SF.2.2.2.2
  have hS : uS (mA a) s.heap s.heap [] := uS.rf
  have hl : lv_has ls 2 [(0, .ref (a 0)), (1, .int x)] := hl
  have hL := hS1.2.1
  have hn9 := hT.2.1
  refine lv_aload_n hx hb dX2_leastFix_0 rfl (lv_at hl 0 rfl) ?_
  refine lv_iload_n hx hb dX2_leastFix_1 rfl (lv_at hl 1 rfl) ?_
  refine k_X2_noLetter  hJ hS1 SF hK (rk.le (Nat.le_of_ble_eq_true rfl)) hl.1 (Nat.le_of_ble_eq_true rfl) hP hS dX2_leastFix_2 (fun H locs hP hS => ?_)
  have hP : mP dC dI dA a (mrow M 0 (upd (M 0) 0 (nI (thC [(lo (M 0 1), 1), (inZ x.toInt 0 ((ln (M 2) : Int) - 1), 2)])))) H := hP
  by_cases hq0 : thC [(lo (M 0 1), 1), (inZ x.toInt 0 ((ln (M 2) : Int) - 1), 2)] = 0
  · obtain ⟨hz0, hz1⟩ := thC_2 hq0
    refine u_top (y := nI 0) (by rw [hq0]; rfl) ?_
    rw [hq0] at hP
    have hP : mP dC dI dA a (mrow M 0 (upd (M 0) 0 (nI 0))) H := hP
    obtain ⟨lt, hlt_lt, hsm_lt, rfl⟩ := inZ_n hz1
    have hcl_lt : (nI lt).toNatClampNeg = lt := nI_clamp (by omega)
    have hP : mP dC dI dA a (mrow M 0 (upd (M 0) 0 (nI 0))) H := by assumption
    refine lv_if_eq (tgt := 12) hx hb dX2_leastFix_5 (by decide) (fun c_5 => ?_) (fun c_5 => absurd (by decide) c_5)
    refine lv_aload_n hx hb dX2_leastFix_12 rfl (lv_at hl 0 rfl) ?_
    refine lv_iload_n hx hb dX2_leastFix_13 rfl (lv_at hl 1 rfl) ?_
    refine lv_aload_n hx hb dX2_leastFix_14 rfl (lv_at hl 0 rfl) ?_
    refine lv_iload_n hx hb dX2_leastFix_15 rfl (lv_at hl 1 rfl) ?_
    refine k_X2_fix (M := mrow M 0 (upd (M 0) 0 (nI 0)))  (by omega) (hS1.2.2.2.2 lt (by omega)).1 SF hK (rk.le (Nat.le_of_ble_eq_true rfl)) hl.1 (Nat.le_of_ble_eq_true rfl) hP dX2_leastFix_16 ?_
    refine u_top (y := nI ((fxN (lr (M 2) lt) 10000).1)) rfl ?_
    refine k_X2_codeOf  (by have := (fxN_le (lr (M 2) lt) 10000).1; have := fxN_lt (lr (M 2) lt) 10000 (by decide); omega) SF hK (rk.le (Nat.le_of_ble_eq_true rfl)) hl.1 (Nat.le_of_ble_eq_true rfl) dX2_leastFix_19 ?_
    refine k_X2_far (M := mrow M 0 (upd (M 0) 0 (nI 0)))  (by omega) (cd_lt (by have := fxN_lt (lr (M 2) lt) 10000 (by decide); omega)) (hS1.2.2.2.2 lt (by omega)).1 SF hK (rk.le (Nat.le_of_ble_eq_true rfl)) hl.1 (Nat.le_of_ble_eq_true rfl) hP dX2_leastFix_22 ?_
    refine u_top (y := nI (far (lr (M 2) lt) (cd ((fxN (lr (M 2) lt) 10000).1)))) rfl ?_
    exact hret _ _ _ _ _ (by rw [hz0, hz1]; show _ = _; rw [hcl_lt]; rfl) (by rw [hz0, hz1]; exact hP) hS dX2_leastFix_25
  · refine u_top (y := nI 1) (by rw [decide_eq_false hq0]; rfl) ?_
    refine lv_if_eq (tgt := 12) hx hb dX2_leastFix_5 (by decide) (fun c_5 => absurd c_5 (by decide)) (fun c_5 => ?_)
    refine lv_iconst (v := nI 0) hx hb dX2_leastFix_8 (by decide) ?_
    refine lv_goto (tgt := 25) hx hb dX2_leastFix_9 (by decide) ?_
    exact hret _ _ _ _ _ (by rw [show thC [(lo (M 0 1), 1), (inZ x.toInt 0 ((ln (M 2) : Int) - 1), 2)] = thC [(lo (M 0 1), 1), (inZ x.toInt 0 ((ln (M 2) : Int) - 1), 2)] from thC_pre (L1 := [(lo (M 0 1), 1), (inZ x.toInt 0 ((ln (M 2) : Int) - 1), 2)]) (L2 := []) hq0, if_neg hq0]) (by rw [show thC [(lo (M 0 1), 1), (inZ x.toInt 0 ((ln (M 2) : Int) - 1), 2)] = thC [(lo (M 0 1), 1), (inZ x.toInt 0 ((ln (M 2) : Int) - 1), 2)] from thC_pre (L1 := [(lo (M 0 1), 1), (inZ x.toInt 0 ((ln (M 2) : Int) - 1), 2)]) (L2 := []) hq0]; exact hP) hS dX2_leastFix_25

set_option maxHeartbeats 4000000 in
theorem c_X2_firstFix (l : Launch) (dC : Nat → ClassId) (dI : Nat → Nat → Nat) (dA : Nat → ClassId) (a : Nat → Nat) (M : Nat → Nat → Int32) (hJ : mJ a) (x : Int32) (hS1 : SWf (M 2)) (hT : TWf (M 1)) : Met l yX2_firstFix (ws_ yX2_firstFix cX2_firstFix 2 (some .int)) (rmD 5 0 0) (uPc [.ref (a 0), .int x] (mP dC dI dA a M) dC dI dA) (uMi (mA a) (if thC [(lo (M 0 1), 1), (inZ x.toInt 0 ((ln (M 2) : Int) - 1), 2)] = 0 then nI (fxN (lr (M 2) x.toNatClampNeg) 10000).1 else nI 0) (mP dC dI dA a (mrow M 0 (upd (M 0) 0 (nI (thC [(lo (M 0 1), 1), (inZ x.toInt 0 ((ln (M 2) : Int) - 1), 2)])))))) 0 0 (mA a) := by
  refine u_metMi (own := RX2) (by decide) rfl (Nat.le_of_ble_eq_true rfl) fun p e R s m args below meth c Q SF rk hP hK hret ls hl => ?_
  have hx := SF.1
  have hb := SF.2.1
  have hml := SF.2.2.1
  have hown := SF.2.2.2.1
  have hts := SF.2.2.2.2
  have hS : uS (mA a) s.heap s.heap [] := uS.rf
  have hl : lv_has ls 2 [(0, .ref (a 0)), (1, .int x)] := hl
  have hL := hS1.2.1
  have hn9 := hT.2.1
  refine lv_aload_n hx hb dX2_firstFix_0 rfl (lv_at hl 0 rfl) ?_
  refine lv_iload_n hx hb dX2_firstFix_1 rfl (lv_at hl 1 rfl) ?_
  refine k_X2_noLetter  hJ hS1 SF hK (rk.le (Nat.le_of_ble_eq_true rfl)) hl.1 (Nat.le_of_ble_eq_true rfl) hP hS dX2_firstFix_2 (fun H locs hP hS => ?_)
  have hP : mP dC dI dA a (mrow M 0 (upd (M 0) 0 (nI (thC [(lo (M 0 1), 1), (inZ x.toInt 0 ((ln (M 2) : Int) - 1), 2)])))) H := hP
  by_cases hq0 : thC [(lo (M 0 1), 1), (inZ x.toInt 0 ((ln (M 2) : Int) - 1), 2)] = 0
  · obtain ⟨hz0, hz1⟩ := thC_2 hq0
    refine u_top (y := nI 0) (by rw [hq0]; rfl) ?_
    rw [hq0] at hP
    have hP : mP dC dI dA a (mrow M 0 (upd (M 0) 0 (nI 0))) H := hP
    obtain ⟨lt, hlt_lt, hsm_lt, rfl⟩ := inZ_n hz1
    have hcl_lt : (nI lt).toNatClampNeg = lt := nI_clamp (by omega)
    have hP : mP dC dI dA a (mrow M 0 (upd (M 0) 0 (nI 0))) H := by assumption
    refine lv_if_eq (tgt := 12) hx hb dX2_firstFix_5 (by decide) (fun c_5 => ?_) (fun c_5 => absurd (by decide) c_5)
    refine lv_aload_n hx hb dX2_firstFix_12 rfl (lv_at hl 0 rfl) ?_
    refine lv_iload_n hx hb dX2_firstFix_13 rfl (lv_at hl 1 rfl) ?_
    refine k_X2_fix (M := mrow M 0 (upd (M 0) 0 (nI 0)))  (by omega) (hS1.2.2.2.2 lt (by omega)).1 SF hK (rk.le (Nat.le_of_ble_eq_true rfl)) hl.1 (Nat.le_of_ble_eq_true rfl) hP dX2_firstFix_14 ?_
    refine u_top (y := nI ((fxN (lr (M 2) lt) 10000).1)) rfl ?_
    exact hret _ _ _ _ _ (by rw [hz0, hz1]; show _ = _; rw [hcl_lt]; rfl) (by rw [hz0, hz1]; exact hP) hS dX2_firstFix_17
  · refine u_top (y := nI 1) (by rw [decide_eq_false hq0]; rfl) ?_
    refine lv_if_eq (tgt := 12) hx hb dX2_firstFix_5 (by decide) (fun c_5 => absurd c_5 (by decide)) (fun c_5 => ?_)
    refine lv_iconst (v := nI 0) hx hb dX2_firstFix_8 (by decide) ?_
    refine lv_goto (tgt := 17) hx hb dX2_firstFix_9 (by decide) ?_
    exact hret _ _ _ _ _ (by rw [show thC [(lo (M 0 1), 1), (inZ x.toInt 0 ((ln (M 2) : Int) - 1), 2)] = thC [(lo (M 0 1), 1), (inZ x.toInt 0 ((ln (M 2) : Int) - 1), 2)] from thC_pre (L1 := [(lo (M 0 1), 1), (inZ x.toInt 0 ((ln (M 2) : Int) - 1), 2)]) (L2 := []) hq0, if_neg hq0]) (by rw [show thC [(lo (M 0 1), 1), (inZ x.toInt 0 ((ln (M 2) : Int) - 1), 2)] = thC [(lo (M 0 1), 1), (inZ x.toInt 0 ((ln (M 2) : Int) - 1), 2)] from thC_pre (L1 := [(lo (M 0 1), 1), (inZ x.toInt 0 ((ln (M 2) : Int) - 1), 2)]) (L2 := []) hq0]; exact hP) hS dX2_firstFix_17
end TW
