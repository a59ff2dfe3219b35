set_option maxRecDepth 100000
section TW
variable {p : Program} {l : Launch} {e : Env} {R : Room} {s : State} {m : MethodId} {args : Array Value} {below : List Frame} {meth : Method} {c : Code} {H : Heap} {locs : List Loc} {Q : State → Prop}
variable {cc : ByteArray} {pc nL : Nat} {ls : Array Slot} {rest : List Value} {dC : Nat → ClassId} {dI : Nat → Nat → Nat} {dA : Nat → ClassId} {a : Nat → Nat} {M : Nat → Nat → Int32} {H0 : Heap}

set_option maxHeartbeats 4000000 in
theorem c_X2_codeDigit (l : Launch) (dC : Nat → ClassId) (dI : Nat → Nat → Nat) (dA : Nat → ClassId) (a : Nat → Nat) (M : Nat → Nat → Int32) (hJ : mJ a) (x : Int32) (y : Int32) (hT : TWf (M 1)) : Met l yX2_codeDigit (ws_ yX2_codeDigit cX2_codeDigit 3 (some .int)) (rmD 3 0 0) (uPc [.ref (a 0), .int x, .int y] (mP dC dI dA a M) dC dI dA) (uMi (mA a) (if thC [(lo (M 0 1), 1), (inZ x.toInt 0 ((tn (M 1) : Int) - 1), 2), (inZ y.toInt 0 4, 2)] = 0 then nI (dg (cd (num (M 1) x.toNatClampNeg)) y.toNatClampNeg) else nI 0) (mP dC dI dA a (mrow M 0 (upd (M 0) 0 (nI (thC [(lo (M 0 1), 1), (inZ x.toInt 0 ((tn (M 1) : Int) - 1), 2), (inZ y.toInt 0 4, 2)])))))) 0 0 (mA a) := by
  refine u_metMi (own := RX2) (by decide) rfl (Nat.le_of_ble_eq_true rfl) fun p e R s m args below meth c Q SF rk hP hK hret ls hl => ?_
  have hx := SF.1
  have hb := SF.2.1
  have hml := SF.2.2.1
  have hown := SF.2.2.2.1
  have hts := SF.2.2.2.2
  have hS : uS (mA a) s.heap s.heap [] := uS.rf
  have hl : lv_has ls 3 [(0, .ref (a 0)), (1, .int x), (2, .int y)] := hl
  have hn9 := hT.2.1
  refine lv_aload_n hx hb dX2_codeDigit_0 rfl (lv_at hl 0 rfl) ?_
  refine lv_iload_n hx hb dX2_codeDigit_1 rfl (lv_at hl 1 rfl) ?_
  refine k_X2_noTown  hJ hT SF hK (rk.le (Nat.le_of_ble_eq_true rfl)) hl.1 (Nat.le_of_ble_eq_true rfl) hP hS dX2_codeDigit_2 (fun H locs hP hS => ?_)
  have hP : mP dC dI dA a (mrow M 0 (upd (M 0) 0 (nI (thC [(lo (M 0 1), 1), (inZ x.toInt 0 ((tn (M 1) : Int) - 1), 2)])))) H := hP
  by_cases hq0 : thC [(lo (M 0 1), 1), (inZ x.toInt 0 ((tn (M 1) : Int) - 1), 2)] = 0
  · obtain ⟨hz0, hz1⟩ := thC_2 hq0
    refine u_top (y := nI 0) (by rw [hq0]; rfl) ?_
    rw [hq0] at hP
    have hP : mP dC dI dA a (mrow M 0 (upd (M 0) 0 (nI 0))) H := hP
    obtain ⟨t, hlt_t, hsm_t, rfl⟩ := inZ_n hz1
    have hcl_t : (nI t).toNatClampNeg = t := nI_clamp (by omega)
    have hP : mP dC dI dA a (mrow M 0 (upd (M 0) 0 (nI 0))) H := by assumption
    refine lv_if_ne (tgt := 28) hx hb dX2_codeDigit_5 (by decide) (fun c_5 => absurd (by decide) c_5) (fun c_5 => ?_)
    refine lv_aload_n hx hb dX2_codeDigit_8 rfl (lv_at hl 0 rfl) ?_
    refine lv_iload_n hx hb dX2_codeDigit_9 rfl (lv_at hl 2 rfl) ?_
    refine k_X2_isPlace   SF hK (rk.le (Nat.le_of_ble_eq_true rfl)) hl.1 (Nat.le_of_ble_eq_true rfl) dX2_codeDigit_10 ?_
    have jn21 : ∀ v9 : Int32, v9 = nI ((!(inZ y.toInt 0 4)).toNat) → ∀ (H : Heap) (locs : List Loc), mP dC dI dA a (mrow M 0 (upd (M 0) 0 (nI 0))) H → uS (mA a) s.heap H locs → ∀ ls : Array Slot, lv_has ls 3 [(0, .ref (a 0)), (1, .int (nI t)), (2, .int y)] → W p l e R s m args below meth c H locs 0 0 Q (F0 m 21 ls [.int v9, .ref (a 0)]) := by
      intro v9 hv9 H locs hP hS ls hl
      subst hv9
      refine lv_iconst (v := nI 2) hx hb dX2_codeDigit_21 (by decide) ?_
      refine k_X2_refuse (M := mrow M 0 (upd (M 0) 0 (nI 0)))  hJ  SF hK (rk.le (Nat.le_of_ble_eq_true rfl)) hl.1 (Nat.le_of_ble_eq_true rfl) hP hS dX2_codeDigit_22 (fun H locs hP hS => ?_)
      refine u_top (y := nI ((!decide (rfT ((nI 0)) (!(inZ y.toInt 0 4)) (nI 2) = 0)).toNat)) rfl ?_
      have hP : mP dC dI dA a (mrow M 0 (upd (M 0) 0 (rfT ((nI 0)) (!(inZ y.toInt 0 4)) (nI 2)))) H := hP
      cases hq2 : (!(inZ y.toInt 0 4))
      · have hz2 : (inZ y.toInt 0 4) = true := by first | simpa using hq2 | simpa [lo, hcl_t] using hq2
        rw [hq2, rfT_f] at hP
        refine u_top (y := nI 0) (by rw [rfT_f]; rfl) ?_
        have hP : mP dC dI dA a (mrow M 0 (upd (M 0) 0 (nI 0))) H := hP
        obtain ⟨q, hlt_q, hsm_q, rfl⟩ := inZ_n hz2
        have hcl_q : (nI q).toNatClampNeg = q := nI_clamp (by omega)
        have hP : mP dC dI dA a (mrow M 0 (upd (M 0) 0 (nI 0))) H := by assumption
        refine lv_if_eq (tgt := 32) hx hb dX2_codeDigit_25 (by decide) (fun c_25 => ?_) (fun c_25 => absurd (by decide) c_25)
        refine lv_aload_n hx hb dX2_codeDigit_32 rfl (lv_at hl 0 rfl) ?_
        refine lv_iload_n hx hb dX2_codeDigit_33 rfl (lv_at hl 1 rfl) ?_
        refine k_X2_codeAt (M := mrow M 0 (upd (M 0) 0 (nI 0)))  (show t < tn (M 1) by omega) hT SF hK (rk.le (Nat.le_of_ble_eq_true rfl)) hl.1 (Nat.le_of_ble_eq_true rfl) hP dX2_codeDigit_34 ?_
        refine u_top (y := nI (cd (num (M 1) t))) rfl ?_
        refine lv_iload_n hx hb dX2_codeDigit_37 rfl (lv_at hl 2 rfl) ?_
        refine k_X2_digitOf  (cd_lt (hT.2.2 t (by omega)).2.1) (by omega) SF hK (rk.le (Nat.le_of_ble_eq_true rfl)) hl.1 (Nat.le_of_ble_eq_true rfl) dX2_codeDigit_38 ?_
        exact hret _ _ _ _ _ (by rw [hz0, hz1, hz2]; show _ = _; rw [hcl_t, hcl_q]; rfl) (by rw [hz0, hz1, hz2]; exact hP) hS dX2_codeDigit_41
      · have hz2 : (inZ y.toInt 0 4) = false := by first | simpa using hq2 | simpa [lo, hcl_t] using hq2
        rw [hq2, rfT_t] at hP
        refine u_top (y := nI 1) (by rw [rfT_t]; rfl) ?_
        have hP : mP dC dI dA a (mrow M 0 (upd (M 0) 0 (nI 2))) H := hP
        refine lv_if_eq (tgt := 32) hx hb dX2_codeDigit_25 (by decide) (fun c_25 => absurd c_25 (by decide)) (fun c_25 => ?_)
        refine lv_iconst (v := nI 0) hx hb dX2_codeDigit_28 (by decide) ?_
        refine lv_goto (tgt := 41) hx hb dX2_codeDigit_29 (by decide) ?_
        exact hret _ _ _ _ _ (by rw [hz0, hz1, hz2]; rfl) (by rw [hz0, hz1, hz2]; exact hP) hS dX2_codeDigit_41
    refine lv_if_ne (tgt := 20) hx hb dX2_codeDigit_13 (by decide) (fun c_13 => ?_) (fun c_13 => ?_)
    · have c_13 : ¬ ((inZ y.toInt 0 4) = false) := fun q9 => c_13 (u_zb.mpr q9)
      refine lv_iconst (v := nI 0) hx hb dX2_codeDigit_20 (by decide) ?_
      exact jn21 _ (u_ff (by simp [c_13])) _ _ hP hS ls (lv_sub hl [0, 1, 2] rfl)
    · have c_13 : (inZ y.toInt 0 4) = false := u_zb.mp c_13
      refine lv_iconst (v := nI 1) hx hb dX2_codeDigit_16 (by decide) ?_
      refine lv_goto (tgt := 21) hx hb dX2_codeDigit_17 (by decide) ?_
      exact jn21 _ (u_tt (by simpa using c_13)) _ _ hP hS ls (lv_sub hl [0, 1, 2] rfl)
  · refine u_top (y := nI 1) (by rw [decide_eq_false hq0]; rfl) ?_
    refine lv_if_ne (tgt := 28) hx hb dX2_codeDigit_5 (by decide) (fun c_5 => ?_) (fun c_5 => absurd c_5 (by decide))
    refine lv_iconst (v := nI 0) hx hb dX2_codeDigit_28 (by decide) ?_
    refine lv_goto (tgt := 41) hx hb dX2_codeDigit_29 (by decide) ?_
    exact hret _ _ _ _ _ (by rw [show thC [(lo (M 0 1), 1), (inZ x.toInt 0 ((tn (M 1) : Int) - 1), 2), (inZ y.toInt 0 4, 2)] = thC [(lo (M 0 1), 1), (inZ x.toInt 0 ((tn (M 1) : Int) - 1), 2)] from thC_pre (L1 := [(lo (M 0 1), 1), (inZ x.toInt 0 ((tn (M 1) : Int) - 1), 2)]) (L2 := [(inZ y.toInt 0 4, 2)]) hq0, if_neg hq0]) (by rw [show thC [(lo (M 0 1), 1), (inZ x.toInt 0 ((tn (M 1) : Int) - 1), 2), (inZ y.toInt 0 4, 2)] = thC [(lo (M 0 1), 1), (inZ x.toInt 0 ((tn (M 1) : Int) - 1), 2)] from thC_pre (L1 := [(lo (M 0 1), 1), (inZ x.toInt 0 ((tn (M 1) : Int) - 1), 2)]) (L2 := [(inZ y.toInt 0 4, 2)]) hq0]; exact hP) hS dX2_codeDigit_41
end TW
