set_option maxRecDepth 100000
section TW
variable {p : Program} {l : Launch} {e : Env} {R : Room} {s : State} {m : MethodId} {args : Array Value} {below : List Frame} {meth : Method} {c : Code} {H : Heap} {locs : List Loc} {Q : State → Prop}
variable {cc : ByteArray} {pc nL : Nat} {ls : Array Slot} {rest : List Value} {dC : Nat → ClassId} {dI : Nat → Nat → Nat} {dA : Nat → ClassId} {a : Nat → Nat} {M : Nat → Nat → Int32} {H0 : Heap}

set_option maxHeartbeats 4000000 in
theorem c_X2_decidedBy (l : Launch) (dC : Nat → ClassId) (dI : Nat → Nat → Nat) (dA : Nat → ClassId) (a : Nat → Nat) (M : Nat → Nat → Int32) (hJ : mJ a) (lt : Nat) (q : Nat) (z : Int32) (hlt : lt < ln (M 2)) (hq : q < 5) (hz : rdOK z) (hS1 : SWf (M 2)) (hT : TWf (M 1)) : Met l yX2_decidedBy (ws_ yX2_decidedBy cX2_decidedBy 4 (some .int)) (rmD 11 0 0) (uPc [.ref (a 0), .int (nI lt), .int (nI q), .int z] (mP dC dI dA a M) dC dI dA) (uMi (mA a) (oI (dcd (upd (M 2) (33 + 10 * lt + q) z) (M 1) lt)) (mP dC dI dA a (mrow M 3 (va_cpy (M 2) (M 3) 0 2730 273)))) 0 0 (mA a) := by
  refine u_metMi (own := RX2) (by decide) rfl (Nat.le_of_ble_eq_true rfl) fun p e R s m args below meth c Q SF rk hP hK hret ls hl => ?_
  have hx := SF.1
  have hb := SF.2.1
  have hml := SF.2.2.1
  have hown := SF.2.2.2.1
  have hts := SF.2.2.2.2
  have hS : uS (mA a) s.heap s.heap [] := uS.rf
  have hl : lv_has ls 4 [(0, .ref (a 0)), (1, .int (nI lt)), (2, .int (nI q)), (3, .int z)] := hl
  have hL := hS1.2.1
  have hn9 := hT.2.1
  refine lv_aload_n hx hb dX2_decidedBy_0 rfl (lv_at hl 0 rfl) ?_
  refine k_X2_laysAside  hJ  SF hK (rk.le (Nat.le_of_ble_eq_true rfl)) hl.1 (Nat.le_of_ble_eq_true rfl) hP hS dX2_decidedBy_1 (fun H locs hP hS => ?_)
  have hP : mP dC dI dA a (mrow M 3 (va_cpy (M 2) (M 3) 0 2730 273)) H := hP
  refine lv_aload_n hx hb dX2_decidedBy_4 rfl (lv_at hl 0 rfl) ?_
  refine lv_iload_n hx hb dX2_decidedBy_5 rfl (lv_at hl 1 rfl) ?_
  refine lv_iload_n hx hb dX2_decidedBy_6 rfl (lv_at hl 2 rfl) ?_
  refine lv_iload_n hx hb dX2_decidedBy_7 rfl (lv_at hl 3 rfl) ?_
  refine k_X2_lays (M := mrow M 3 (va_cpy (M 2) (M 3) 0 2730 273))  hJ (by omega) (by omega) SF hK (rk.le (Nat.le_of_ble_eq_true rfl)) hl.1 (Nat.le_of_ble_eq_true rfl) hP hS dX2_decidedBy_8 (fun H locs hP hS => ?_)
  have hP : mP dC dI dA a (mrow (mrow M 2 (upd (M 2) (33 + 10 * lt + q) z)) 3 (va_cpy (M 2) (M 3) 0 2730 273)) H := hP
  refine lv_aload_n hx hb dX2_decidedBy_11 rfl (lv_at hl 0 rfl) ?_
  refine lv_aload_n hx hb dX2_decidedBy_12 rfl (lv_at hl 0 rfl) ?_
  refine lv_iload_n hx hb dX2_decidedBy_13 rfl (lv_at hl 1 rfl) ?_
  refine k_X2_decidedFor (M := mrow (mrow M 2 (upd (M 2) (33 + 10 * lt + q) z)) 3 (va_cpy (M 2) (M 3) 0 2730 273))  (show lt < ln (upd (M 2) (33 + 10 * lt + q) z) from (by unfold ln; rw [upd_ne (by omega)]; exact hlt)) (SWf_read hS1 hlt hq hz) hT SF hK (rk.le (Nat.le_of_ble_eq_true rfl)) hl.1 (Nat.le_of_ble_eq_true rfl) hP dX2_decidedBy_14 ?_
  refine u_top (y := oI (dcd (upd (M 2) (33 + 10 * lt + q) z) (M 1) lt)) rfl ?_
  refine k_X2_back (M := mrow (mrow M 2 (upd (M 2) (33 + 10 * lt + q) z)) 3 (va_cpy (M 2) (M 3) 0 2730 273))  hJ  SF hK (rk.le (Nat.le_of_ble_eq_true rfl)) hl.1 (Nat.le_of_ble_eq_true rfl) hP hS dX2_decidedBy_17 (fun H locs hP hS => ?_)
  refine u_top (y := (oI (dcd (upd (M 2) (33 + 10 * lt + q) z) (M 1) lt))) rfl ?_
  have hP : mP dC dI dA a (mrow (mrow M 2 (va_cpy (va_cpy (M 2) (M 3) 0 2730 273) (upd (M 2) (33 + 10 * lt + q) z) 2730 0 273)) 3 (va_cpy (M 2) (M 3) 0 2730 273)) H := hP
  exact hret _ _ _ _ _ rfl (m_row2 (M := mrow M 3 (va_cpy (M 2) (M 3) 0 2730 273)) (f := va_cpy (va_cpy (M 2) (M 3) 0 2730 273) (upd (M 2) (33 + 10 * lt + q) z) 2730 0 273) (g := M 2) cpy_back hP) hS dX2_decidedBy_20
theorem k_X2_decidedBy (hJ : mJ a) {lt : Nat} {q : Nat} {z : Int32} (hlt : lt < ln (M 2)) (hq : q < 5) (hz : rdOK z) (hS1 : SWf (M 2)) (hT : TWf (M 1)) (SF : CallFix p m c cc nL s args lw_all RX2) (hK : KK dC dI dA s) (rk : rmOK 12 R) (hsz : ls.size = nL) (hcat : (rest.map fun v => v.category).sum ≤ 8) (hP : mP dC dI dA a M H) (hS : uS (mA a) H0 H locs) (hdg : decode cc pc = .ok (.invokevirtual 345, 3)) (k : ∀ (H1 : Heap) (locs1 : List Loc), mP dC dI dA a (mrow M 3 (va_cpy (M 2) (M 3) 0 2730 273)) H1 → uS (mA a) H0 H1 locs1 → W p l e R s m args below meth c H1 locs1 0 0 Q (F0 m (pc + 3) ls (.int (oI (dcd (upd (M 2) (33 + 10 * lt + q) z) (M 1) lt)) :: rest))) : W p l e R s m args below meth c H locs 0 0 Q (F0 m pc ls (.int z :: .int (nI q) :: .int (nI lt) :: .ref (a 0) :: rest)) :=
  u_runM (u_rV (C := RX2) (Ψ := (mP dC dI dA a M)) (As := [.int (nI lt), .int (nI q), .int z]) SF hK rk (c_X2_decidedBy l dC dI dA a M hJ lt q z hlt hq hz hS1 hT) (lw_V q2422 q2424 qs102 q117 q2425) (n := 3) (by decide +kernel) rfl (by decide) (va_recv hK hP (ci := 2) (q0 := 0) rfl rfl) hP hsz hcat ⟨Nat.zero_le _, Nat.zero_le _⟩ rfl hdg) hS (fun _ h => h) (fun H1 locs1 h1 h2 _ => k H1 locs1 h1 h2)

set_option maxHeartbeats 4000000 in
theorem c_X2_decidedIf (l : Launch) (dC : Nat → ClassId) (dI : Nat → Nat → Nat) (dA : Nat → ClassId) (a : Nat → Nat) (M : Nat → Nat → Int32) (hJ : mJ a) (x : Int32) (y : Int32) (z : Int32) (hS1 : SWf (M 2)) (hT : TWf (M 1)) : Met l yX2_decidedIf (ws_ yX2_decidedIf cX2_decidedIf 4 (some .int)) (rmD 12 0 0) (uPc [.ref (a 0), .int x, .int y, .int z] (mP dC dI dA a M) dC dI dA) (uMi (mA a) (if thC [(lo (M 0 1), 1), (inZ x.toInt 0 ((ln (M 2) : Int) - 1), 2), (inZ y.toInt 0 4, 2), (inZ z.toInt (-1) 9, 3)] = 0 then oI (dcd (upd (M 2) (33 + 10 * x.toNatClampNeg + y.toNatClampNeg) z) (M 1) x.toNatClampNeg) else nI 0) (mP dC dI dA a (if thC [(lo (M 0 1), 1), (inZ x.toInt 0 ((ln (M 2) : Int) - 1), 2), (inZ y.toInt 0 4, 2), (inZ z.toInt (-1) 9, 3)] = 0 then mrow (mrow M 0 (upd (M 0) 0 (nI 0))) 3 (va_cpy (M 2) (M 3) 0 2730 273) else mrow M 0 (upd (M 0) 0 (nI (thC [(lo (M 0 1), 1), (inZ x.toInt 0 ((ln (M 2) : Int) - 1), 2), (inZ y.toInt 0 4, 2), (inZ z.toInt (-1) 9, 3)])))))) 0 0 (mA a) := by
  refine u_metMi (own := RX2) (by decide) rfl (Nat.le_of_ble_eq_true rfl) fun p e R s m args below meth c Q SF rk hP hK hret ls hl => ?_
  have hx := SF.1
  have hb := SF.2.1
  have hml := SF.2.2.1
  have hown := SF.2.2.2.1
  have hts := SF.2.2.2.2
  have hS : uS (mA a) s.heap s.heap [] := uS.rf
  have hl : lv_has ls 4 [(0, .ref (a 0)), (1, .int x), (2, .int y), (3, .int z)] := hl
  have hL := hS1.2.1
  have hn9 := hT.2.1
  refine lv_aload_n hx hb dX2_decidedIf_0 rfl (lv_at hl 0 rfl) ?_
  refine lv_iload_n hx hb dX2_decidedIf_1 rfl (lv_at hl 1 rfl) ?_
  refine lv_iload_n hx hb dX2_decidedIf_2 rfl (lv_at hl 2 rfl) ?_
  refine k_X2_noPlace  hJ hS1 SF hK (rk.le (Nat.le_of_ble_eq_true rfl)) hl.1 (Nat.le_of_ble_eq_true rfl) hP hS dX2_decidedIf_3 (fun H locs hP hS => ?_)
  have hP : mP dC dI dA a (mrow M 0 (upd (M 0) 0 (nI (thC [(lo (M 0 1), 1), (inZ x.toInt 0 ((ln (M 2) : Int) - 1), 2), (inZ y.toInt 0 4, 2)])))) H := hP
  by_cases hq0 : thC [(lo (M 0 1), 1), (inZ x.toInt 0 ((ln (M 2) : Int) - 1), 2), (inZ y.toInt 0 4, 2)] = 0
  · obtain ⟨hz0, hz1, hz2⟩ := thC_3 hq0
    refine u_top (y := nI 0) (by rw [hq0]; rfl) ?_
    rw [hq0] at hP
    have hP : mP dC dI dA a (mrow M 0 (upd (M 0) 0 (nI 0))) H := hP
    obtain ⟨lt, hlt_lt, hsm_lt, rfl⟩ := inZ_n hz1
    have hcl_lt : (nI lt).toNatClampNeg = lt := nI_clamp (by omega)
    have hP : mP dC dI dA a (mrow M 0 (upd (M 0) 0 (nI 0))) H := by assumption
    obtain ⟨q, hlt_q, hsm_q, rfl⟩ := inZ_n hz2
    have hcl_q : (nI q).toNatClampNeg = q := nI_clamp (by omega)
    have hP : mP dC dI dA a (mrow M 0 (upd (M 0) 0 (nI 0))) H := by assumption
    refine lv_if_ne (tgt := 36) hx hb dX2_decidedIf_6 (by decide) (fun c_6 => absurd (by decide) c_6) (fun c_6 => ?_)
    refine lv_aload_n hx hb dX2_decidedIf_9 rfl (lv_at hl 0 rfl) ?_
    refine lv_iload_n hx hb dX2_decidedIf_10 rfl (lv_at hl 3 rfl) ?_
    refine lv_i2l hx hb dX2_decidedIf_11 rfl ?_
    refine lv_ldc2 (v := -1) hx hb hown (hts _ q2420) dX2_decidedIf_12 ?_
    refine lv_ldc2 (v := 9) hx hb hown (hts _ q2421) dX2_decidedIf_15 ?_
    refine k_X2_in (X := z.toInt) (L := -1) (U := 9) (i2l_toInt z) (by decide) (by decide) SF hK (rk.le (Nat.le_of_ble_eq_true rfl)) hl.1 (Nat.le_of_ble_eq_true rfl) dX2_decidedIf_18 ?_
    have jn29 : ∀ v9 : Int32, v9 = nI ((!(inZ z.toInt (-1) 9)).toNat) → ∀ (H : Heap) (locs : List Loc), mP dC dI dA a (mrow M 0 (upd (M 0) 0 (nI 0))) H → uS (mA a) s.heap H locs → ∀ ls : Array Slot, lv_has ls 4 [(0, .ref (a 0)), (1, .int (nI lt)), (2, .int (nI q)), (3, .int z)] → W p l e R s m args below meth c H locs 0 0 Q (F0 m 29 ls [.int v9, .ref (a 0)]) := by
      intro v9 hv9 H locs hP hS ls hl
      subst hv9
      refine lv_iconst (v := nI 3) hx hb dX2_decidedIf_29 (by decide) ?_
      refine k_X2_refuse (M := mrow M 0 (upd (M 0) 0 (nI 0)))  hJ  SF hK (rk.le (Nat.le_of_ble_eq_true rfl)) hl.1 (Nat.le_of_ble_eq_true rfl) hP hS dX2_decidedIf_30 (fun H locs hP hS => ?_)
      refine u_top (y := nI ((!decide (rfT ((nI 0)) (!(inZ z.toInt (-1) 9)) (nI 3) = 0)).toNat)) rfl ?_
      have hP : mP dC dI dA a (mrow M 0 (upd (M 0) 0 (rfT ((nI 0)) (!(inZ z.toInt (-1) 9)) (nI 3)))) H := hP
      cases hq3 : (!(inZ z.toInt (-1) 9))
      · have hz3 : (inZ z.toInt (-1) 9) = true := by first | simpa using hq3 | simpa [lo, hcl_lt, hcl_q] using hq3
        rw [hq3, rfT_f] at hP
        refine u_top (y := nI 0) (by rw [rfT_f]; rfl) ?_
        have hP : mP dC dI dA a (mrow M 0 (upd (M 0) 0 (nI 0))) H := hP
        refine lv_if_eq (tgt := 40) hx hb dX2_decidedIf_33 (by decide) (fun c_33 => ?_) (fun c_33 => absurd (by decide) c_33)
        refine lv_aload_n hx hb dX2_decidedIf_40 rfl (lv_at hl 0 rfl) ?_
        refine lv_iload_n hx hb dX2_decidedIf_41 rfl (lv_at hl 1 rfl) ?_
        refine lv_iload_n hx hb dX2_decidedIf_42 rfl (lv_at hl 2 rfl) ?_
        refine lv_iload_n hx hb dX2_decidedIf_43 rfl (lv_at hl 3 rfl) ?_
        refine k_X2_decidedBy (M := mrow M 0 (upd (M 0) 0 (nI 0)))  hJ (show lt < ln (M 2) from (by omega)) (by omega) (inZ_rd hz3) hS1 hT SF hK (rk.le (Nat.le_of_ble_eq_true rfl)) hl.1 (Nat.le_of_ble_eq_true rfl) hP hS dX2_decidedIf_44 (fun H locs hP hS => ?_)
        refine u_top (y := oI (dcd (upd (M 2) (33 + 10 * lt + q) z) (M 1) lt)) rfl ?_
        have hP : mP dC dI dA a (mrow (mrow M 0 (upd (M 0) 0 (nI 0))) 3 (va_cpy (M 2) (M 3) 0 2730 273)) H := hP
        exact hret _ _ _ _ _ (by rw [hz0, hz1, hz2, hz3]; show _ = _; rw [hcl_lt, hcl_q]; rfl) (by rw [hz0, hz1, hz2, hz3]; exact hP) hS dX2_decidedIf_47
      · have hz3 : (inZ z.toInt (-1) 9) = false := by first | simpa using hq3 | simpa [lo, hcl_lt, hcl_q] using hq3
        rw [hq3, rfT_t] at hP
        refine u_top (y := nI 1) (by rw [rfT_t]; rfl) ?_
        have hP : mP dC dI dA a (mrow M 0 (upd (M 0) 0 (nI 3))) H := hP
        refine lv_if_eq (tgt := 40) hx hb dX2_decidedIf_33 (by decide) (fun c_33 => absurd c_33 (by decide)) (fun c_33 => ?_)
        refine lv_iconst (v := nI 0) hx hb dX2_decidedIf_36 (by decide) ?_
        refine lv_goto (tgt := 47) hx hb dX2_decidedIf_37 (by decide) ?_
        exact hret _ _ _ _ _ (by rw [hz0, hz1, hz2, hz3]; rfl) (by rw [hz0, hz1, hz2, hz3]; exact hP) hS dX2_decidedIf_47
    refine lv_if_ne (tgt := 28) hx hb dX2_decidedIf_21 (by decide) (fun c_21 => ?_) (fun c_21 => ?_)
    · have c_21 : ¬ ((inZ z.toInt (-1) 9) = false) := fun q9 => c_21 (u_zb.mpr q9)
      refine lv_iconst (v := nI 0) hx hb dX2_decidedIf_28 (by decide) ?_
      exact jn29 _ (u_ff (by simp [c_21])) _ _ hP hS ls (lv_sub hl [0, 1, 2, 3] rfl)
    · have c_21 : (inZ z.toInt (-1) 9) = false := u_zb.mp c_21
      refine lv_iconst (v := nI 1) hx hb dX2_decidedIf_24 (by decide) ?_
      refine lv_goto (tgt := 29) hx hb dX2_decidedIf_25 (by decide) ?_
      exact jn29 _ (u_tt (by simpa using c_21)) _ _ hP hS ls (lv_sub hl [0, 1, 2, 3] rfl)
  · refine u_top (y := nI 1) (by rw [decide_eq_false hq0]; rfl) ?_
    refine lv_if_ne (tgt := 36) hx hb dX2_decidedIf_6 (by decide) (fun c_6 => ?_) (fun c_6 => absurd c_6 (by decide))
    refine lv_iconst (v := nI 0) hx hb dX2_decidedIf_36 (by decide) ?_
    refine lv_goto (tgt := 47) hx hb dX2_decidedIf_37 (by decide) ?_
    exact hret _ _ _ _ _ (by rw [show thC [(lo (M 0 1), 1), (inZ x.toInt 0 ((ln (M 2) : Int) - 1), 2), (inZ y.toInt 0 4, 2), (inZ z.toInt (-1) 9, 3)] = thC [(lo (M 0 1), 1), (inZ x.toInt 0 ((ln (M 2) : Int) - 1), 2), (inZ y.toInt 0 4, 2)] from thC_pre (L1 := [(lo (M 0 1), 1), (inZ x.toInt 0 ((ln (M 2) : Int) - 1), 2), (inZ y.toInt 0 4, 2)]) (L2 := [(inZ z.toInt (-1) 9, 3)]) hq0, if_neg hq0]) (by rw [show thC [(lo (M 0 1), 1), (inZ x.toInt 0 ((ln (M 2) : Int) - 1), 2), (inZ y.toInt 0 4, 2), (inZ z.toInt (-1) 9, 3)] = thC [(lo (M 0 1), 1), (inZ x.toInt 0 ((ln (M 2) : Int) - 1), 2), (inZ y.toInt 0 4, 2)] from thC_pre (L1 := [(lo (M 0 1), 1), (inZ x.toInt 0 ((ln (M 2) : Int) - 1), 2), (inZ y.toInt 0 4, 2)]) (L2 := [(inZ z.toInt (-1) 9, 3)]) hq0, if_neg hq0]; exact hP) hS dX2_decidedIf_47

set_option maxHeartbeats 4000000 in
theorem c_X2_sortedBy (l : Launch) (dC : Nat → ClassId) (dI : Nat → Nat → Nat) (dA : Nat → ClassId) (a : Nat → Nat) (M : Nat → Nat → Int32) (hJ : mJ a) (j : Nat) (hj : j ≤ 8) (hS1 : SWf (M 2)) (hT : TWf (M 1)) : Met l yX2_sortedBy (ws_ yX2_sortedBy cX2_sortedBy 2 (some .int)) (rmD 15 0 0) (uPc [.ref (a 0), .int (nI j)] (mP dC dI dA a M) dC dI dA) (uMi (mA a) (nI (sAn (upd (M 2) 0 (nI j)) (M 1))) (mP dC dI dA a (mrow M 3 (va_cpy (M 2) (M 3) 0 2730 273)))) 0 0 (mA a) := by
  refine u_metMi (own := RX2) (by decide) rfl (Nat.le_of_ble_eq_true rfl) fun p e R s m args below meth c Q SF rk hP hK hret ls hl => ?_
  have hx := SF.1
  have hb := SF.2.1
  have hml := SF.2.2.1
  have hown := SF.2.2.2.1
  have hts := SF.2.2.2.2
  have hS : uS (mA a) s.heap s.heap [] := uS.rf
  have hl : lv_has ls 2 [(0, .ref (a 0)), (1, .int (nI j))] := hl
  have hL := hS1.2.1
  have hn9 := hT.2.1
  refine lv_aload_n hx hb dX2_sortedBy_0 rfl (lv_at hl 0 rfl) ?_
  refine k_X2_laysAside  hJ  SF hK (rk.le (Nat.le_of_ble_eq_true rfl)) hl.1 (Nat.le_of_ble_eq_true rfl) hP hS dX2_sortedBy_1 (fun H locs hP hS => ?_)
  have hP : mP dC dI dA a (mrow M 3 (va_cpy (M 2) (M 3) 0 2730 273)) H := hP
  refine lv_aload_n hx hb dX2_sortedBy_4 rfl (lv_at hl 0 rfl) ?_
  refine va_get (D := (dC, dI)) (ci := 2) (v := .ref (a 2)) (C := RX2) (T := TX2) (N := 22) hx hb hts in_X2 hown hK hP 0 rfl rfl 3 (by decide) (hts _ q1954) (fun _ h9 => h9) rfl dX2_sortedBy_5 ?_
  refine lv_iconst (v := nI 0) hx hb dX2_sortedBy_8 (by decide) ?_
  refine lv_iload_n hx hb dX2_sortedBy_9 rfl (lv_at hl 1 rfl) ?_
  refine m_as2 SF hK hJ hP hS (i := 0) (by omega) dX2_sortedBy_10 (fun H locs hP hS => ?_)
  have hP : mP dC dI dA a (mrow (mrow M 2 (upd (M 2) 0 (nI j))) 3 (va_cpy (M 2) (M 3) 0 2730 273)) H := hP
  refine lv_aload_n hx hb dX2_sortedBy_11 rfl (lv_at hl 0 rfl) ?_
  refine lv_aload_n hx hb dX2_sortedBy_12 rfl (lv_at hl 0 rfl) ?_
  refine k_X2_sortsAll (M := mrow (mrow M 2 (upd (M 2) 0 (nI j))) 3 (va_cpy (M 2) (M 3) 0 2730 273))  hJ (SWf_lim hS1 hj) hT SF hK (rk.le (Nat.le_of_ble_eq_true rfl)) hl.1 (Nat.le_of_ble_eq_true rfl) hP hS dX2_sortedBy_13 (fun H locs hP hS => ?_)
  refine u_top (y := nI (sAn (upd (M 2) 0 (nI j)) (M 1))) rfl ?_
  have hP : mP dC dI dA a (mrow (mrow M 2 (sAl (upd (M 2) 0 (nI j)) (M 1))) 3 (va_cpy (M 2) (M 3) 0 2730 273)) H := hP
  refine k_X2_back (M := mrow (mrow M 2 (sAl (upd (M 2) 0 (nI j)) (M 1))) 3 (va_cpy (M 2) (M 3) 0 2730 273))  hJ  SF hK (rk.le (Nat.le_of_ble_eq_true rfl)) hl.1 (Nat.le_of_ble_eq_true rfl) hP hS dX2_sortedBy_16 (fun H locs hP hS => ?_)
  refine u_top (y := (nI (sAn (upd (M 2) 0 (nI j)) (M 1)))) rfl ?_
  have hP : mP dC dI dA a (mrow (mrow M 2 (va_cpy (va_cpy (M 2) (M 3) 0 2730 273) (sAl (upd (M 2) 0 (nI j)) (M 1)) 2730 0 273)) 3 (va_cpy (M 2) (M 3) 0 2730 273)) H := hP
  exact hret _ _ _ _ _ rfl (m_row2 (M := mrow M 3 (va_cpy (M 2) (M 3) 0 2730 273)) (f := va_cpy (va_cpy (M 2) (M 3) 0 2730 273) (sAl (upd (M 2) 0 (nI j)) (M 1)) 2730 0 273) (g := M 2) cpy_back hP) hS dX2_sortedBy_19
theorem k_X2_sortedBy (hJ : mJ a) {j : Nat} (hj : j ≤ 8) (hS1 : SWf (M 2)) (hT : TWf (M 1)) (SF : CallFix p m c cc nL s args lw_all RX2) (hK : KK dC dI dA s) (rk : rmOK 16 R) (hsz : ls.size = nL) (hcat : (rest.map fun v => v.category).sum ≤ 8) (hP : mP dC dI dA a M H) (hS : uS (mA a) H0 H locs) (hdg : decode cc pc = .ok (.invokevirtual 354, 3)) (k : ∀ (H1 : Heap) (locs1 : List Loc), mP dC dI dA a (mrow M 3 (va_cpy (M 2) (M 3) 0 2730 273)) H1 → uS (mA a) H0 H1 locs1 → W p l e R s m args below meth c H1 locs1 0 0 Q (F0 m (pc + 3) ls (.int (nI (sAn (upd (M 2) 0 (nI j)) (M 1))) :: rest))) : W p l e R s m args below meth c H locs 0 0 Q (F0 m pc ls (.int (nI j) :: .ref (a 0) :: rest)) :=
  u_runM (u_rV (C := RX2) (Ψ := (mP dC dI dA a M)) (As := [.int (nI j)]) SF hK rk (c_X2_sortedBy l dC dI dA a M hJ j hj hS1 hT) (lw_V q2435 q2437 qs104 q117 q2438) (n := 1) (by decide +kernel) rfl (by decide) (va_recv hK hP (ci := 2) (q0 := 0) rfl rfl) hP hsz hcat ⟨Nat.zero_le _, Nat.zero_le _⟩ rfl hdg) hS (fun _ h => h) (fun H1 locs1 h1 h2 _ => k H1 locs1 h1 h2)

set_option maxHeartbeats 4000000 in
theorem c_X2_sortedIf (l : Launch) (dC : Nat → ClassId) (dI : Nat → Nat → Nat) (dA : Nat → ClassId) (a : Nat → Nat) (M : Nat → Nat → Int32) (hJ : mJ a) (x : Int32) (hS1 : SWf (M 2)) (hT : TWf (M 1)) : Met l yX2_sortedIf (ws_ yX2_sortedIf cX2_sortedIf 2 (some .int)) (rmD 16 0 0) (uPc [.ref (a 0), .int x] (mP dC dI dA a M) dC dI dA) (uMi (mA a) (if thC [(lo (M 0 1), 1), (inZ x.toInt 0 8, 2)] = 0 then nI (sAn (upd (M 2) 0 (nI x.toNatClampNeg)) (M 1)) else nI 0) (mP dC dI dA a (if thC [(lo (M 0 1), 1), (inZ x.toInt 0 8, 2)] = 0 then mrow (mrow M 0 (upd (M 0) 0 (nI 0))) 3 (va_cpy (M 2) (M 3) 0 2730 273) else mrow M 0 (upd (M 0) 0 (nI (thC [(lo (M 0 1), 1), (inZ x.toInt 0 8, 2)])))))) 0 0 (mA a) := by
  refine u_metMi (own := RX2) (by decide) rfl (Nat.le_of_ble_eq_true rfl) fun p e R s m args below meth c Q SF rk hP hK hret ls hl => ?_
  have hx := SF.1
  have hb := SF.2.1
  have hml := SF.2.2.1
  have hown := SF.2.2.2.1
  have hts := SF.2.2.2.2
  have hS : uS (mA a) s.heap s.heap [] := uS.rf
  have hl : lv_has ls 2 [(0, .ref (a 0)), (1, .int x)] := hl
  have hL := hS1.2.1
  have hn9 := hT.2.1
  refine lv_aload_n hx hb dX2_sortedIf_0 rfl (lv_at hl 0 rfl) ?_
  refine lv_iload_n hx hb dX2_sortedIf_1 rfl (lv_at hl 1 rfl) ?_
  refine k_X2_noLimit  hJ  SF hK (rk.le (Nat.le_of_ble_eq_true rfl)) hl.1 (Nat.le_of_ble_eq_true rfl) hP hS dX2_sortedIf_2 (fun H locs hP hS => ?_)
  have hP : mP dC dI dA a (mrow M 0 (upd (M 0) 0 (nI (thC [(lo (M 0 1), 1), (inZ x.toInt 0 8, 2)])))) H := hP
  by_cases hq0 : thC [(lo (M 0 1), 1), (inZ x.toInt 0 8, 2)] = 0
  · obtain ⟨hz0, hz1⟩ := thC_2 hq0
    refine u_top (y := nI 0) (by rw [hq0]; rfl) ?_
    rw [hq0] at hP
    have hP : mP dC dI dA a (mrow M 0 (upd (M 0) 0 (nI 0))) H := hP
    obtain ⟨j, hlt_j, hsm_j, rfl⟩ := inZ_n hz1
    have hcl_j : (nI j).toNatClampNeg = j := nI_clamp (by omega)
    have hP : mP dC dI dA a (mrow M 0 (upd (M 0) 0 (nI 0))) H := by assumption
    refine lv_if_eq (tgt := 12) hx hb dX2_sortedIf_5 (by decide) (fun c_5 => ?_) (fun c_5 => absurd (by decide) c_5)
    refine lv_aload_n hx hb dX2_sortedIf_12 rfl (lv_at hl 0 rfl) ?_
    refine lv_iload_n hx hb dX2_sortedIf_13 rfl (lv_at hl 1 rfl) ?_
    refine k_X2_sortedBy (M := mrow M 0 (upd (M 0) 0 (nI 0)))  hJ (show j ≤ 8 by omega) hS1 hT SF hK (rk.le (Nat.le_of_ble_eq_true rfl)) hl.1 (Nat.le_of_ble_eq_true rfl) hP hS dX2_sortedIf_14 (fun H locs hP hS => ?_)
    refine u_top (y := nI (sAn (upd (M 2) 0 (nI j)) (M 1))) rfl ?_
    have hP : mP dC dI dA a (mrow (mrow M 0 (upd (M 0) 0 (nI 0))) 3 (va_cpy (M 2) (M 3) 0 2730 273)) H := hP
    exact hret _ _ _ _ _ (by rw [hz0, hz1]; show _ = _; rw [hcl_j]; rfl) (by rw [hz0, hz1]; exact hP) hS dX2_sortedIf_17
  · refine u_top (y := nI 1) (by rw [decide_eq_false hq0]; rfl) ?_
    refine lv_if_eq (tgt := 12) hx hb dX2_sortedIf_5 (by decide) (fun c_5 => absurd c_5 (by decide)) (fun c_5 => ?_)
    refine lv_iconst (v := nI 0) hx hb dX2_sortedIf_8 (by decide) ?_
    refine lv_goto (tgt := 17) hx hb dX2_sortedIf_9 (by decide) ?_
    exact hret _ _ _ _ _ (by rw [show thC [(lo (M 0 1), 1), (inZ x.toInt 0 8, 2)] = thC [(lo (M 0 1), 1), (inZ x.toInt 0 8, 2)] from thC_pre (L1 := [(lo (M 0 1), 1), (inZ x.toInt 0 8, 2)]) (L2 := []) hq0, if_neg hq0]) (by rw [show thC [(lo (M 0 1), 1), (inZ x.toInt 0 8, 2)] = thC [(lo (M 0 1), 1), (inZ x.toInt 0 8, 2)] from thC_pre (L1 := [(lo (M 0 1), 1), (inZ x.toInt 0 8, 2)]) (L2 := []) hq0, if_neg hq0]; exact hP) hS dX2_sortedIf_17

set_option maxHeartbeats 4000000 in
theorem c_X2_bestLimit (l : Launch) (dC : Nat → ClassId) (dI : Nat → Nat → Nat) (dA : Nat → ClassId) (a : Nat → Nat) (M : Nat → Nat → Int32) (hJ : mJ a)  (hS1 : SWf (M 2)) (hT : TWf (M 1)) : Met l yX2_bestLimit (ws_ yX2_bestLimit cX2_bestLimit 5 (some .int)) (rmD 16 0 0) (uPc [.ref (a 0)] (mP dC dI dA a M) dC dI dA) (uMi (mA a) (if thC [(lo (M 0 1), 1)] = 0 then nI (bstF (fun j => sAn (upd (M 2) 0 (nI j)) (M 1)) 8).1 else nI 0) (mP dC dI dA a (if thC [(lo (M 0 1), 1)] = 0 then mrow (mrow M 0 (upd (M 0) 0 (nI 0))) 3 (va_cpy (M 2) (M 3) 0 2730 273) else mrow M 0 (upd (M 0) 0 (nI (thC [(lo (M 0 1), 1)])))))) 0 0 (mA a) := by
  refine u_metMi (own := RX2) (by decide) rfl (Nat.le_of_ble_eq_true rfl) fun p e R s m args below meth c Q SF rk hP hK hret ls hl => ?_
  have hx := SF.1
  have hb := SF.2.1
  have hml := SF.2.2.1
  have hown := SF.2.2.2.1
  have hts := SF.2.2.2.2
  have hS : uS (mA a) s.heap s.heap [] := uS.rf
  have hl : lv_has ls 5 [(0, .ref (a 0))] := hl
  have hL := hS1.2.1
  have hn9 := hT.2.1
  have hs8 : ∀ j, sAn (upd (M 2) 0 (nI j)) (M 1) ≤ 24 := fun j => Nat.le_trans (sAll_le _) (by unfold ln; rw [upd_ne (by omega)]; exact hL)
  have hs9 := bstF_le hs8
  refine lv_aload_n hx hb dX2_bestLimit_0 rfl (lv_at hl 0 rfl) ?_
  refine k_X2_notLoaded  hJ  SF hK (rk.le (Nat.le_of_ble_eq_true rfl)) hl.1 (Nat.le_of_ble_eq_true rfl) hP hS dX2_bestLimit_1 (fun H locs hP hS => ?_)
  have hP : mP dC dI dA a (mrow M 0 (upd (M 0) 0 (nI (thC [(lo (M 0 1), 1)])))) H := hP
  by_cases hq0 : thC [(lo (M 0 1), 1)] = 0
  · have hz0 := thC_1 hq0
    refine u_top (y := nI 0) (by rw [hq0]; rfl) ?_
    rw [hq0] at hP
    have hP : mP dC dI dA a (mrow M 0 (upd (M 0) 0 (nI 0))) H := hP
    refine lv_if_eq (tgt := 9) hx hb dX2_bestLimit_4 (by decide) (fun c_4 => ?_) (fun c_4 => absurd (by decide) c_4)
    refine lv_iconst (v := nI 0) hx hb dX2_bestLimit_9 (by decide) ?_
    refine lv_istore_n (lv' := [(1, .int (nI 0)), (0, .ref (a 0))]) hx hb dX2_bestLimit_10 rfl hl (by decide) rfl (fun ls hl => ?_)
    refine lv_aload_n hx hb dX2_bestLimit_11 rfl (lv_at hl 1 rfl) ?_
    refine lv_iconst (v := nI 0) hx hb dX2_bestLimit_12 (by decide) ?_
    refine k_X2_sortedBy (M := mrow M 0 (upd (M 0) 0 (nI 0)))  hJ (by decide) hS1 hT SF hK (rk.le (Nat.le_of_ble_eq_true rfl)) hl.1 (Nat.le_of_ble_eq_true rfl) hP hS dX2_bestLimit_13 (fun H locs hP hS => ?_)
    refine u_top (y := nI (sAn (upd (M 2) 0 (nI 0)) (M 1))) rfl ?_
    have hP : mP dC dI dA a (mrow (mrow M 0 (upd (M 0) 0 (nI 0))) 3 (va_cpy (M 2) (M 3) 0 2730 273)) H := hP
    refine lv_istore_n (lv' := [(2, .int (nI (sAn (upd (M 2) 0 (nI 0)) (M 1)))), (1, .int (nI 0)), (0, .ref (a 0))]) hx hb dX2_bestLimit_16 rfl hl (by decide) rfl (fun ls hl => ?_)
    refine lv_iconst (v := nI 1) hx hb dX2_bestLimit_17 (by decide) ?_
    refine lv_istore_n (lv' := [(3, .int (nI 1)), (2, .int (nI (sAn (upd (M 2) 0 (nI 0)) (M 1)))), (1, .int (nI 0)), (0, .ref (a 0))]) hx hb dX2_bestLimit_18 rfl hl (by decide) rfl (fun ls hl => ?_)
    have lp19 : ∀ (k0 : Nat) (k : Nat), k ≤ 8 → 8 < k + k0 → ∀ (H : Heap) (locs : List Loc), mP dC dI dA a (mrow (mrow M 0 (upd (M 0) 0 (nI 0))) 3 (va_cpy (M 2) (M 3) 0 2730 273)) H → uS (mA a) s.heap H locs → ∀ ls : Array Slot, lv_has ls 5 [(3, .int (nI (k + 1))), (2, .int (nI ((bstF (fun j => sAn (upd (M 2) 0 (nI j)) (M 1)) k).2))), (1, .int (nI ((bstF (fun j => sAn (upd (M 2) 0 (nI j)) (M 1)) k).1))), (0, .ref (a 0))] → W p l e R s m args below meth c H locs 0 0 Q (F0 m 19 ls []) := by
      intro k0
      induction k0 with
      | zero =>
        intro k hk1 hk2; omega
      | succ k0 ih =>
        intro k hk1 hk2 H locs hP hS ls hl
        have ih19 := ih
        have hq9 := hs9 k
        have hq8 := hs8 (k + 1)
        refine lv_iload_n hx hb dX2_bestLimit_19 rfl (lv_at hl 0 rfl) ?_
        refine lv_bipush (v := nI 8) hx hb dX2_bestLimit_20 (by decide) ?_
        refine lv_icmp_gt (tgt := 57) hx hb dX2_bestLimit_22 (by decide) (fun c_22 => ?_) (fun c_22 => ?_)
        · have c_22 : 8 < k + 1 := (nI_ltI (a := 8) (b := k + 1) (by omega) (by omega)).mp c_22
          refine lv_iload_n hx hb dX2_bestLimit_57 rfl (lv_at hl 2 rfl) ?_
          exact hret _ _ _ _ _ (by rw [hz0]; show _ = _; rw [show k = 8 by omega]; rfl) (by rw [hz0]; exact hP) hS dX2_bestLimit_58
        · have c_22 : ¬ (8 < k + 1) := fun q9 => c_22 ((nI_ltI (a := 8) (b := k + 1) (by omega) (by omega)).mpr q9)
          refine lv_aload_n hx hb dX2_bestLimit_25 rfl (lv_at hl 3 rfl) ?_
          refine lv_iload_n hx hb dX2_bestLimit_26 rfl (lv_at hl 0 rfl) ?_
          refine k_X2_sortedBy (M := mrow (mrow M 0 (upd (M 0) 0 (nI 0))) 3 (va_cpy (M 2) (M 3) 0 2730 273))  hJ (by omega) hS1 hT SF hK (rk.le (Nat.le_of_ble_eq_true rfl)) hl.1 (Nat.le_of_ble_eq_true rfl) hP hS dX2_bestLimit_27 (fun H locs hP hS => ?_)
          refine u_top (y := nI (sAn (upd (M 2) 0 (nI (k + 1))) (M 1))) rfl ?_
          have hP : mP dC dI dA a (mrow (mrow M 0 (upd (M 0) 0 (nI 0))) 3 (va_cpy (M 2) (va_cpy (M 2) (M 3) 0 2730 273) 0 2730 273)) H := hP
          refine lv_istore (lv' := [(4, .int (nI (sAn (upd (M 2) 0 (nI (k + 1))) (M 1)))), (3, .int (nI (k + 1))), (2, .int (nI ((bstF (fun j => sAn (upd (M 2) 0 (nI j)) (M 1)) k).2))), (1, .int (nI ((bstF (fun j => sAn (upd (M 2) 0 (nI j)) (M 1)) k).1))), (0, .ref (a 0))]) hx hb dX2_bestLimit_30 hl (by decide) rfl (fun ls hl => ?_)
          refine lv_iload hx hb dX2_bestLimit_32 (lv_at hl 0 rfl) ?_
          refine lv_iload_n hx hb dX2_bestLimit_34 rfl (lv_at hl 2 rfl) ?_
          refine lv_icmp_le (tgt := 42) hx hb dX2_bestLimit_35 (by decide) (fun c_35 => ?_) (fun c_35 => ?_)
          · have c_35 : sAn (upd (M 2) 0 (nI (k + 1))) (M 1) ≤ (bstF (fun j => sAn (upd (M 2) 0 (nI j)) (M 1)) k).2 := (nI_leI (a := sAn (upd (M 2) 0 (nI (k + 1))) (M 1)) (b := (bstF (fun j => sAn (upd (M 2) 0 (nI j)) (M 1)) k).2) (by omega) (by omega)).mp c_35
            refine lv_iload_n hx hb dX2_bestLimit_42 rfl (lv_at hl 3 rfl) ?_
            refine u_top (y := nI (bstF (fun j => sAn (upd (M 2) 0 (nI j)) (M 1)) (k + 1)).1) (by rw [bstF]; exact congrArg nI (by first | rw [if_pos (show (bstF (fun j => sAn (upd (M 2) 0 (nI j)) (M 1)) k).2 < sAn (upd (M 2) 0 (nI (k + 1))) (M 1) from by omega)] | rw [if_neg (show ¬ (bstF (fun j => sAn (upd (M 2) 0 (nI j)) (M 1)) k).2 < sAn (upd (M 2) 0 (nI (k + 1))) (M 1) from by omega)])) ?_
            refine lv_istore_n (lv' := [(1, .int (nI ((bstF (fun j => sAn (upd (M 2) 0 (nI j)) (M 1)) (k + 1)).1))), (4, .int (nI (sAn (upd (M 2) 0 (nI (k + 1))) (M 1)))), (3, .int (nI (k + 1))), (2, .int (nI ((bstF (fun j => sAn (upd (M 2) 0 (nI j)) (M 1)) k).2))), (0, .ref (a 0))]) hx hb dX2_bestLimit_43 rfl hl (by decide) rfl (fun ls hl => ?_)
            refine lv_iload_n hx hb dX2_bestLimit_44 rfl (lv_at hl 3 rfl) ?_
            refine lv_iload hx hb dX2_bestLimit_45 (lv_at hl 1 rfl) ?_
            refine va_mmax hx hb (hml.trans hl.1.symm) hown (hts _ q2209) (hts _ q504) (hts _ q131) (hts _ q505) (Nat.le_trans (Nat.le_of_ble_eq_true rfl) rk.1) (Nat.le_trans (Nat.le_of_ble_eq_true rfl) rk.2) (Nat.zero_le _) (Nat.zero_le _) dX2_bestLimit_47 ?_
            refine u_top (nI_max (by omega) (by omega)) ?_
            refine u_top (y := nI (bstF (fun j => sAn (upd (M 2) 0 (nI j)) (M 1)) (k + 1)).2) (by rw [bstF_2]) ?_
            refine lv_istore_n (lv' := [(2, .int (nI ((bstF (fun j => sAn (upd (M 2) 0 (nI j)) (M 1)) (k + 1)).2))), (1, .int (nI ((bstF (fun j => sAn (upd (M 2) 0 (nI j)) (M 1)) (k + 1)).1))), (4, .int (nI (sAn (upd (M 2) 0 (nI (k + 1))) (M 1)))), (3, .int (nI (k + 1))), (0, .ref (a 0))]) hx hb dX2_bestLimit_50 rfl hl (by decide) rfl (fun ls hl => ?_)
            refine lv_iinc (v := nI (k + 1 + 1)) (lv' := [(3, .int (nI (k + 1 + 1))), (2, .int (nI ((bstF (fun j => sAn (upd (M 2) 0 (nI j)) (M 1)) (k + 1)).2))), (1, .int (nI ((bstF (fun j => sAn (upd (M 2) 0 (nI j)) (M 1)) (k + 1)).1))), (4, .int (nI (sAn (upd (M 2) 0 (nI (k + 1))) (M 1)))), (0, .ref (a 0))]) hx hb dX2_bestLimit_51 hl (k := 3) rfl (nI_add _ 1) (by decide) rfl (fun ls hl => ?_)
            refine lv_goto (tgt := 19) hx hb dX2_bestLimit_54 (by decide) ?_
            exact ih19 (k + 1) (by omega) (by omega) _ _ (by rw [cpy_idem] at hP; exact hP) hS ls (lv_sub hl [0, 1, 2, 4] rfl)
          · have c_35 : ¬ (sAn (upd (M 2) 0 (nI (k + 1))) (M 1) ≤ (bstF (fun j => sAn (upd (M 2) 0 (nI j)) (M 1)) k).2) := fun q9 => c_35 ((nI_leI (a := sAn (upd (M 2) 0 (nI (k + 1))) (M 1)) (b := (bstF (fun j => sAn (upd (M 2) 0 (nI j)) (M 1)) k).2) (by omega) (by omega)).mpr q9)
            refine lv_iload_n hx hb dX2_bestLimit_38 rfl (lv_at hl 1 rfl) ?_
            refine lv_goto (tgt := 43) hx hb dX2_bestLimit_39 (by decide) ?_
            refine u_top (y := nI (bstF (fun j => sAn (upd (M 2) 0 (nI j)) (M 1)) (k + 1)).1) (by rw [bstF]; exact congrArg nI (by first | rw [if_pos (show (bstF (fun j => sAn (upd (M 2) 0 (nI j)) (M 1)) k).2 < sAn (upd (M 2) 0 (nI (k + 1))) (M 1) from by omega)] | rw [if_neg (show ¬ (bstF (fun j => sAn (upd (M 2) 0 (nI j)) (M 1)) k).2 < sAn (upd (M 2) 0 (nI (k + 1))) (M 1) from by omega)])) ?_
            refine lv_istore_n (lv' := [(1, .int (nI ((bstF (fun j => sAn (upd (M 2) 0 (nI j)) (M 1)) (k + 1)).1))), (4, .int (nI (sAn (upd (M 2) 0 (nI (k + 1))) (M 1)))), (3, .int (nI (k + 1))), (2, .int (nI ((bstF (fun j => sAn (upd (M 2) 0 (nI j)) (M 1)) k).2))), (0, .ref (a 0))]) hx hb dX2_bestLimit_43 rfl hl (by decide) rfl (fun ls hl => ?_)
            refine lv_iload_n hx hb dX2_bestLimit_44 rfl (lv_at hl 3 rfl) ?_
            refine lv_iload hx hb dX2_bestLimit_45 (lv_at hl 1 rfl) ?_
            refine va_mmax hx hb (hml.trans hl.1.symm) hown (hts _ q2209) (hts _ q504) (hts _ q131) (hts _ q505) (Nat.le_trans (Nat.le_of_ble_eq_true rfl) rk.1) (Nat.le_trans (Nat.le_of_ble_eq_true rfl) rk.2) (Nat.zero_le _) (Nat.zero_le _) dX2_bestLimit_47 ?_
            refine u_top (nI_max (by omega) (by omega)) ?_
            refine u_top (y := nI (bstF (fun j => sAn (upd (M 2) 0 (nI j)) (M 1)) (k + 1)).2) (by rw [bstF_2]) ?_
            refine lv_istore_n (lv' := [(2, .int (nI ((bstF (fun j => sAn (upd (M 2) 0 (nI j)) (M 1)) (k + 1)).2))), (1, .int (nI ((bstF (fun j => sAn (upd (M 2) 0 (nI j)) (M 1)) (k + 1)).1))), (4, .int (nI (sAn (upd (M 2) 0 (nI (k + 1))) (M 1)))), (3, .int (nI (k + 1))), (0, .ref (a 0))]) hx hb dX2_bestLimit_50 rfl hl (by decide) rfl (fun ls hl => ?_)
            refine lv_iinc (v := nI (k + 1 + 1)) (lv' := [(3, .int (nI (k + 1 + 1))), (2, .int (nI ((bstF (fun j => sAn (upd (M 2) 0 (nI j)) (M 1)) (k + 1)).2))), (1, .int (nI ((bstF (fun j => sAn (upd (M 2) 0 (nI j)) (M 1)) (k + 1)).1))), (4, .int (nI (sAn (upd (M 2) 0 (nI (k + 1))) (M 1)))), (0, .ref (a 0))]) hx hb dX2_bestLimit_51 hl (k := 3) rfl (nI_add _ 1) (by decide) rfl (fun ls hl => ?_)
            refine lv_goto (tgt := 19) hx hb dX2_bestLimit_54 (by decide) ?_
            exact ih19 (k + 1) (by omega) (by omega) _ _ (by rw [cpy_idem] at hP; exact hP) hS ls (lv_sub hl [0, 1, 2, 4] rfl)
    exact lp19 9 0 (by omega) (by omega) _ _ hP hS ls (lv_sub hl [0, 1, 2, 3] rfl)
  · refine u_top (y := nI 1) (by rw [decide_eq_false hq0]; rfl) ?_
    refine lv_if_eq (tgt := 9) hx hb dX2_bestLimit_4 (by decide) (fun c_4 => absurd c_4 (by decide)) (fun c_4 => ?_)
    refine lv_iconst (v := nI 0) hx hb dX2_bestLimit_7 (by decide) ?_
    exact hret _ _ _ _ _ (by rw [show thC [(lo (M 0 1), 1)] = thC [(lo (M 0 1), 1)] from thC_pre (L1 := [(lo (M 0 1), 1)]) (L2 := []) hq0, if_neg hq0]) (by rw [show thC [(lo (M 0 1), 1)] = thC [(lo (M 0 1), 1)] from thC_pre (L1 := [(lo (M 0 1), 1)]) (L2 := []) hq0, if_neg hq0]; exact hP) hS dX2_bestLimit_8

set_option maxHeartbeats 4000000 in
theorem c_X2_decidedIn (l : Launch) (dC : Nat → ClassId) (dI : Nat → Nat → Nat) (dA : Nat → ClassId) (a : Nat → Nat) (M : Nat → Nat → Int32) (hJ : mJ a) (b : Nat) (v : Nat) (hb6 : b < 6) (hS1 : SWf (M 2)) (hT : TWf (M 1)) : Met l yX2_decidedIn (ws_ yX2_decidedIn cX2_decidedIn 5 (some .int)) (rmD 11 0 0) (uPc [.ref (a 0), .int (nI b), .int (nI v)] (mP dC dI dA a M) dC dI dA) (uMi (mA a) (nI (dIn (M 2) (M 1) b v)) (mP dC dI dA a (mrow M 3 (va_cpy (M 2) (M 3) 0 2730 273)))) 0 0 (mA a) := by
  refine u_metMi (own := RX2) (by decide) rfl (Nat.le_of_ble_eq_true rfl) fun p e R s m args below meth c Q SF rk hP hK hret ls hl => ?_
  have hx := SF.1
  have hb := SF.2.1
  have hml := SF.2.2.1
  have hown := SF.2.2.2.1
  have hts := SF.2.2.2.2
  have hS : uS (mA a) s.heap s.heap [] := uS.rf
  have hl : lv_has ls 5 [(0, .ref (a 0)), (1, .int (nI b)), (2, .int (nI v))] := hl
  have hL := hS1.2.1
  have hn9 := hT.2.1
  have hwf : SWf (upd (M 2) (3 + b) (nI v)) := SWf_low hS1 (by omega) (by omega)
  have hln : ln (upd (M 2) (3 + b) (nI v)) = ln (M 2) := by unfold ln; rw [upd_ne (by omega)]
  have hn2 : (upd (M 2) (3 + b) (nI v)) 2 = nI (ln (M 2)) := by rw [upd_ne (by omega)]; exact hS1.1
  refine lv_aload_n hx hb dX2_decidedIn_0 rfl (lv_at hl 0 rfl) ?_
  refine k_X2_laysAside  hJ  SF hK (rk.le (Nat.le_of_ble_eq_true rfl)) hl.1 (Nat.le_of_ble_eq_true rfl) hP hS dX2_decidedIn_1 (fun H locs hP hS => ?_)
  have hP : mP dC dI dA a (mrow M 3 (va_cpy (M 2) (M 3) 0 2730 273)) H := hP
  refine lv_aload_n hx hb dX2_decidedIn_4 rfl (lv_at hl 0 rfl) ?_
  refine va_get (D := (dC, dI)) (ci := 2) (v := .ref (a 2)) (C := RX2) (T := TX2) (N := 22) hx hb hts in_X2 hown hK hP 0 rfl rfl 3 (by decide) (hts _ q1954) (fun _ h9 => h9) rfl dX2_decidedIn_5 ?_
  refine lv_iconst (v := nI 3) hx hb dX2_decidedIn_8 (by decide) ?_
  refine lv_iload_n hx hb dX2_decidedIn_9 rfl (lv_at hl 1 rfl) ?_
  refine lv_iadd hx hb dX2_decidedIn_10 ?_
  refine u_top (nI_add _ _) ?_
  refine lv_iload_n hx hb dX2_decidedIn_11 rfl (lv_at hl 2 rfl) ?_
  refine m_as2 SF hK hJ hP hS (i := 3 + b) (by omega) dX2_decidedIn_12 (fun H locs hP hS => ?_)
  have hP : mP dC dI dA a (mrow (mrow M 2 (upd (M 2) (3 + b) (nI v))) 3 (va_cpy (M 2) (M 3) 0 2730 273)) H := hP
  refine lv_iconst (v := nI 0) hx hb dX2_decidedIn_13 (by decide) ?_
  refine lv_istore_n (lv' := [(3, .int (nI 0)), (0, .ref (a 0)), (1, .int (nI b)), (2, .int (nI v))]) hx hb dX2_decidedIn_14 rfl hl (by decide) rfl (fun ls hl => ?_)
  refine lv_iconst (v := nI 0) hx hb dX2_decidedIn_15 (by decide) ?_
  refine lv_istore (lv' := [(4, .int (nI 0)), (3, .int (nI 0)), (0, .ref (a 0)), (1, .int (nI b)), (2, .int (nI v))]) hx hb dX2_decidedIn_16 hl (by decide) rfl (fun ls hl => ?_)
  have lp18 : ∀ (k0 : Nat) (k : Nat), k ≤ ln (M 2) → ln (M 2) < k + k0 → ∀ (H : Heap) (locs : List Loc), mP dC dI dA a (mrow (mrow M 2 (upd (M 2) (3 + b) (nI v))) 3 (va_cpy (M 2) (M 3) 0 2730 273)) H → uS (mA a) s.heap H locs → ∀ ls : Array Slot, lv_has ls 5 [(4, .int (nI k)), (3, .int (nI (cntN (fun o => decide (lr (M 2) o 5 = nI b) && (dcd (upd (M 2) (3 + b) (nI v)) (M 1) o).isSome) k))), (0, .ref (a 0)), (1, .int (nI b)), (2, .int (nI v))] → W p l e R s m args below meth c H locs 0 0 Q (F0 m 18 ls []) := by
    intro k0
    induction k0 with
    | zero =>
      intro k hk1 hk2; omega
    | succ k0 ih =>
      intro k hk1 hk2 H locs hP hS ls hl
      have ih18 := ih
      refine lv_iload hx hb dX2_decidedIn_18 (lv_at hl 0 rfl) ?_
      refine lv_aload_n hx hb dX2_decidedIn_20 rfl (lv_at hl 2 rfl) ?_
      refine k_X2_letters (M := mrow (mrow M 2 (upd (M 2) (3 + b) (nI v))) 3 (va_cpy (M 2) (M 3) 0 2730 273))   SF hK (rk.le (Nat.le_of_ble_eq_true rfl)) hl.1 (Nat.le_of_ble_eq_true rfl) hP dX2_decidedIn_21 ?_
      refine u_top (y := (upd (M 2) (3 + b) (nI v)) 2) rfl ?_
      refine u_top (y := nI (ln (M 2))) hn2 ?_
      refine lv_icmp_ge (tgt := 65) hx hb dX2_decidedIn_24 (by decide) (fun c_24 => ?_) (fun c_24 => ?_)
      · have c_24 : ln (M 2) ≤ k := (nI_leI (a := ln (M 2)) (b := k) (by omega) (by omega)).mp c_24
        refine lv_aload_n hx hb dX2_decidedIn_65 rfl (lv_at hl 2 rfl) ?_
        refine lv_iload_n hx hb dX2_decidedIn_66 rfl (lv_at hl 1 rfl) ?_
        refine k_X2_back (M := mrow (mrow M 2 (upd (M 2) (3 + b) (nI v))) 3 (va_cpy (M 2) (M 3) 0 2730 273))  hJ  SF hK (rk.le (Nat.le_of_ble_eq_true rfl)) hl.1 (Nat.le_of_ble_eq_true rfl) hP hS dX2_decidedIn_67 (fun H locs hP hS => ?_)
        refine u_top (y := (nI (cntN (fun o => decide (lr (M 2) o 5 = nI b) && (dcd (upd (M 2) (3 + b) (nI v)) (M 1) o).isSome) k))) rfl ?_
        have hP : mP dC dI dA a (mrow (mrow M 2 (va_cpy (va_cpy (M 2) (M 3) 0 2730 273) (upd (M 2) (3 + b) (nI v)) 2730 0 273)) 3 (va_cpy (M 2) (M 3) 0 2730 273)) H := hP
        exact hret _ _ _ _ _ (by rw [show k = ln (M 2) by omega]; rfl) (m_row2 (M := mrow M 3 (va_cpy (M 2) (M 3) 0 2730 273)) (f := va_cpy (va_cpy (M 2) (M 3) 0 2730 273) (upd (M 2) (3 + b) (nI v)) 2730 0 273) (g := M 2) cpy_back hP) hS dX2_decidedIn_70
      · have c_24 : ¬ (ln (M 2) ≤ k) := fun q9 => c_24 ((nI_leI (a := ln (M 2)) (b := k) (by omega) (by omega)).mpr q9)
        refine lv_iload_n hx hb dX2_decidedIn_27 rfl (lv_at hl 1 rfl) ?_
        refine lv_aload_n hx hb dX2_decidedIn_28 rfl (lv_at hl 2 rfl) ?_
        refine lv_iload hx hb dX2_decidedIn_29 (lv_at hl 0 rfl) ?_
        refine lv_iconst (v := nI 5) hx hb dX2_decidedIn_31 (by decide) ?_
        refine k_X2_l (M := mrow (mrow M 2 (upd (M 2) (3 + b) (nI v))) 3 (va_cpy (M 2) (M 3) 0 2730 273))  (by omega) (by omega) SF hK (rk.le (Nat.le_of_ble_eq_true rfl)) hl.1 (Nat.le_of_ble_eq_true rfl) hP dX2_decidedIn_32 ?_
        refine u_top (y := lr (upd (M 2) (3 + b) (nI v)) k 5) rfl ?_
        refine lv_iload_n hx hb dX2_decidedIn_35 rfl (lv_at hl 3 rfl) ?_
        have e5 : lr (upd (M 2) (3 + b) (nI v)) k 5 = lr (M 2) k 5 := upd_ne (by omega)
        rw [e5]
        refine lv_icmp_ne (tgt := 53) hx hb dX2_decidedIn_36 (by decide) (fun c_36 => ?_) (fun c_36 => ?_)
        · refine lv_iconst (v := nI 0) hx hb dX2_decidedIn_53 (by decide) ?_
          refine u_top (y := nI ((decide (lr (M 2) k 5 = nI b) && (dcd (upd (M 2) (3 + b) (nI v)) (M 1) k).isSome).toNat)) (u_ff (by first | (rw [decide_eq_false c_36]; simp; done) | (rw [decide_eq_true c_36]; have h7 := oI_no (fun t9 h9 => dcd_lt h9) (by unfold tn at hn9 ⊢; omega) c_46; simpa using h7))) ?_
          refine k_X2_flag   SF hK (rk.le (Nat.le_of_ble_eq_true rfl)) hl.1 (Nat.le_of_ble_eq_true rfl) dX2_decidedIn_54 ?_
          refine lv_iadd hx hb dX2_decidedIn_57 ?_
          refine u_top (nI_add _ _) ?_
          refine lv_istore_n (lv' := [(3, .int (nI (cntN (fun o => decide (lr (M 2) o 5 = nI b) && (dcd (upd (M 2) (3 + b) (nI v)) (M 1) o).isSome) k + ((decide (lr (M 2) k 5 = nI b) && (dcd (upd (M 2) (3 + b) (nI v)) (M 1) k).isSome).toNat)))), (4, .int (nI k)), (0, .ref (a 0)), (1, .int (nI b)), (2, .int (nI v))]) hx hb dX2_decidedIn_58 rfl hl (by decide) rfl (fun ls hl => ?_)
          refine lv_iinc (v := nI (k + 1)) (lv' := [(4, .int (nI (k + 1))), (3, .int (nI (cntN (fun o => decide (lr (M 2) o 5 = nI b) && (dcd (upd (M 2) (3 + b) (nI v)) (M 1) o).isSome) k + ((decide (lr (M 2) k 5 = nI b) && (dcd (upd (M 2) (3 + b) (nI v)) (M 1) k).isSome).toNat)))), (0, .ref (a 0)), (1, .int (nI b)), (2, .int (nI v))]) hx hb dX2_decidedIn_59 hl (k := 1) rfl (nI_add _ 1) (by decide) rfl (fun ls hl => ?_)
          refine lv_goto (tgt := 18) hx hb dX2_decidedIn_62 (by decide) ?_
          exact ih18 (k + 1) (by omega) (by omega) _ _ hP hS ls (lv_sub hl [0, 1, 2, 3, 4] rfl)
        · refine lv_aload_n hx hb dX2_decidedIn_39 rfl (lv_at hl 2 rfl) ?_
          refine lv_iload hx hb dX2_decidedIn_40 (lv_at hl 0 rfl) ?_
          refine k_X2_decidedFor (M := mrow (mrow M 2 (upd (M 2) (3 + b) (nI v))) 3 (va_cpy (M 2) (M 3) 0 2730 273))  (show k < ln (upd (M 2) (3 + b) (nI v)) from (by rw [hln]; omega)) hwf hT SF hK (rk.le (Nat.le_of_ble_eq_true rfl)) hl.1 (Nat.le_of_ble_eq_true rfl) hP dX2_decidedIn_42 ?_
          refine u_top (y := oI (dcd (upd (M 2) (3 + b) (nI v)) (M 1) k)) rfl ?_
          refine lv_iconst (v := (-1)) hx hb dX2_decidedIn_45 (by decide) ?_
          refine lv_icmp_eq (tgt := 53) hx hb dX2_decidedIn_46 (by decide) (fun c_46 => ?_) (fun c_46 => ?_)
          · refine lv_iconst (v := nI 0) hx hb dX2_decidedIn_53 (by decide) ?_
            refine u_top (y := nI ((decide (lr (M 2) k 5 = nI b) && (dcd (upd (M 2) (3 + b) (nI v)) (M 1) k).isSome).toNat)) (u_ff (by first | (rw [decide_eq_false c_36]; simp; done) | (rw [decide_eq_true c_36]; have h7 := oI_no (fun t9 h9 => dcd_lt h9) (by unfold tn at hn9 ⊢; omega) c_46; simpa using h7))) ?_
            refine k_X2_flag   SF hK (rk.le (Nat.le_of_ble_eq_true rfl)) hl.1 (Nat.le_of_ble_eq_true rfl) dX2_decidedIn_54 ?_
            refine lv_iadd hx hb dX2_decidedIn_57 ?_
            refine u_top (nI_add _ _) ?_
            refine lv_istore_n (lv' := [(3, .int (nI (cntN (fun o => decide (lr (M 2) o 5 = nI b) && (dcd (upd (M 2) (3 + b) (nI v)) (M 1) o).isSome) k + ((decide (lr (M 2) k 5 = nI b) && (dcd (upd (M 2) (3 + b) (nI v)) (M 1) k).isSome).toNat)))), (4, .int (nI k)), (0, .ref (a 0)), (1, .int (nI b)), (2, .int (nI v))]) hx hb dX2_decidedIn_58 rfl hl (by decide) rfl (fun ls hl => ?_)
            refine lv_iinc (v := nI (k + 1)) (lv' := [(4, .int (nI (k + 1))), (3, .int (nI (cntN (fun o => decide (lr (M 2) o 5 = nI b) && (dcd (upd (M 2) (3 + b) (nI v)) (M 1) o).isSome) k + ((decide (lr (M 2) k 5 = nI b) && (dcd (upd (M 2) (3 + b) (nI v)) (M 1) k).isSome).toNat)))), (0, .ref (a 0)), (1, .int (nI b)), (2, .int (nI v))]) hx hb dX2_decidedIn_59 hl (k := 1) rfl (nI_add _ 1) (by decide) rfl (fun ls hl => ?_)
            refine lv_goto (tgt := 18) hx hb dX2_decidedIn_62 (by decide) ?_
            exact ih18 (k + 1) (by omega) (by omega) _ _ hP hS ls (lv_sub hl [0, 1, 2, 3, 4] rfl)
          · refine lv_iconst (v := nI 1) hx hb dX2_decidedIn_49 (by decide) ?_
            refine u_top (y := nI ((decide (lr (M 2) k 5 = nI b) && (dcd (upd (M 2) (3 + b) (nI v)) (M 1) k).isSome).toNat)) (u_tt (by rw [decide_eq_true c_36, oI_is c_46]; rfl)) ?_
            refine lv_goto (tgt := 54) hx hb dX2_decidedIn_50 (by decide) ?_
            refine k_X2_flag   SF hK (rk.le (Nat.le_of_ble_eq_true rfl)) hl.1 (Nat.le_of_ble_eq_true rfl) dX2_decidedIn_54 ?_
            refine lv_iadd hx hb dX2_decidedIn_57 ?_
            refine u_top (nI_add _ _) ?_
            refine lv_istore_n (lv' := [(3, .int (nI (cntN (fun o => decide (lr (M 2) o 5 = nI b) && (dcd (upd (M 2) (3 + b) (nI v)) (M 1) o).isSome) k + ((decide (lr (M 2) k 5 = nI b) && (dcd (upd (M 2) (3 + b) (nI v)) (M 1) k).isSome).toNat)))), (4, .int (nI k)), (0, .ref (a 0)), (1, .int (nI b)), (2, .int (nI v))]) hx hb dX2_decidedIn_58 rfl hl (by decide) rfl (fun ls hl => ?_)
            refine lv_iinc (v := nI (k + 1)) (lv' := [(4, .int (nI (k + 1))), (3, .int (nI (cntN (fun o => decide (lr (M 2) o 5 = nI b) && (dcd (upd (M 2) (3 + b) (nI v)) (M 1) o).isSome) k + ((decide (lr (M 2) k 5 = nI b) && (dcd (upd (M 2) (3 + b) (nI v)) (M 1) k).isSome).toNat)))), (0, .ref (a 0)), (1, .int (nI b)), (2, .int (nI v))]) hx hb dX2_decidedIn_59 hl (k := 1) rfl (nI_add _ 1) (by decide) rfl (fun ls hl => ?_)
            refine lv_goto (tgt := 18) hx hb dX2_decidedIn_62 (by decide) ?_
            exact ih18 (k + 1) (by omega) (by omega) _ _ hP hS ls (lv_sub hl [0, 1, 2, 3, 4] rfl)
  exact lp18 (ln (M 2) + 1) 0 (by omega) (by omega) _ _ hP hS ls (lv_sub hl [0, 1, 2, 3, 4] rfl)
theorem k_X2_decidedIn (hJ : mJ a) {b : Nat} {v : Nat} (hb6 : b < 6) (hS1 : SWf (M 2)) (hT : TWf (M 1)) (SF : CallFix p m c cc nL s args lw_all RX2) (hK : KK dC dI dA s) (rk : rmOK 12 R) (hsz : ls.size = nL) (hcat : (rest.map fun v => v.category).sum ≤ 8) (hP : mP dC dI dA a M H) (hS : uS (mA a) H0 H locs) (hdg : decode cc pc = .ok (.invokevirtual 357, 3)) (k : ∀ (H1 : Heap) (locs1 : List Loc), mP dC dI dA a (mrow M 3 (va_cpy (M 2) (M 3) 0 2730 273)) H1 → uS (mA a) H0 H1 locs1 → W p l e R s m args below meth c H1 locs1 0 0 Q (F0 m (pc + 3) ls (.int (nI (dIn (M 2) (M 1) b v)) :: rest))) : W p l e R s m args below meth c H locs 0 0 Q (F0 m pc ls (.int (nI v) :: .int (nI b) :: .ref (a 0) :: rest)) :=
  u_runM (u_rV (C := RX2) (Ψ := (mP dC dI dA a M)) (As := [.int (nI b), .int (nI v)]) SF hK rk (c_X2_decidedIn l dC dI dA a M hJ b v hb6 hS1 hT) (lw_V q2447 q2449 qs105 q117 q2450) (n := 2) (by decide +kernel) rfl (by decide) (va_recv hK hP (ci := 2) (q0 := 0) rfl rfl) hP hsz hcat ⟨Nat.zero_le _, Nat.zero_le _⟩ rfl hdg) hS (fun _ h => h) (fun H1 locs1 h1 h2 _ => k H1 locs1 h1 h2)

set_option maxHeartbeats 4000000 in
theorem c_X2_sumFor (l : Launch) (dC : Nat → ClassId) (dI : Nat → Nat → Nat) (dA : Nat → ClassId) (a : Nat → Nat) (M : Nat → Nat → Int32) (hJ : mJ a) (x : Int32) (hS1 : SWf (M 2)) (hT : TWf (M 1)) : Met l yX2_sumFor (ws_ yX2_sumFor cX2_sumFor 6 (some .int)) (rmD 12 0 0) (uPc [.ref (a 0), .int x] (mP dC dI dA a M) dC dI dA) (uMi (mA a) (if thC [(lo (M 0 1), 1), (inZ x.toInt 0 5, 2)] = 0 then nI (bstF (dIn (M 2) (M 1) x.toNatClampNeg) 9).1 else nI 0) (mP dC dI dA a (if thC [(lo (M 0 1), 1), (inZ x.toInt 0 5, 2)] = 0 then mrow (mrow M 0 (upd (M 0) 0 (nI 0))) 3 (va_cpy (M 2) (M 3) 0 2730 273) else mrow M 0 (upd (M 0) 0 (nI (thC [(lo (M 0 1), 1), (inZ x.toInt 0 5, 2)])))))) 0 0 (mA a) := by
  refine u_metMi (own := RX2) (by decide) rfl (Nat.le_of_ble_eq_true rfl) fun p e R s m args below meth c Q SF rk hP hK hret ls hl => ?_
  have hx := SF.1
  have hb := SF.2.1
  have hml := SF.2.2.1
  have hown := SF.2.2.2.1
  have hts := SF.2.2.2.2
  have hS : uS (mA a) s.heap s.heap [] := uS.rf
  have hl : lv_has ls 6 [(0, .ref (a 0)), (1, .int x)] := hl
  have hL := hS1.2.1
  have hn9 := hT.2.1
  refine lv_aload_n hx hb dX2_sumFor_0 rfl (lv_at hl 0 rfl) ?_
  refine lv_iload_n hx hb dX2_sumFor_1 rfl (lv_at hl 1 rfl) ?_
  refine k_X2_noBundle  hJ  SF hK (rk.le (Nat.le_of_ble_eq_true rfl)) hl.1 (Nat.le_of_ble_eq_true rfl) hP hS dX2_sumFor_2 (fun H locs hP hS => ?_)
  have hP : mP dC dI dA a (mrow M 0 (upd (M 0) 0 (nI (thC [(lo (M 0 1), 1), (inZ x.toInt 0 5, 2)])))) H := hP
  by_cases hq0 : thC [(lo (M 0 1), 1), (inZ x.toInt 0 5, 2)] = 0
  · obtain ⟨hz0, hz1⟩ := thC_2 hq0
    refine u_top (y := nI 0) (by rw [hq0]; rfl) ?_
    rw [hq0] at hP
    have hP : mP dC dI dA a (mrow M 0 (upd (M 0) 0 (nI 0))) H := hP
    obtain ⟨b, hlt_b, hsm_b, rfl⟩ := inZ_n hz1
    have hcl_b : (nI b).toNatClampNeg = b := nI_clamp (by omega)
    have hP : mP dC dI dA a (mrow M 0 (upd (M 0) 0 (nI 0))) H := by assumption
    refine lv_if_eq (tgt := 10) hx hb dX2_sumFor_5 (by decide) (fun c_5 => ?_) (fun c_5 => absurd (by decide) c_5)
    have hs8 : ∀ j, dIn (M 2) (M 1) b j ≤ 24 := fun j => Nat.le_trans (cntN_le _ _) hL
    have hs9 := bstF_le hs8
    refine lv_iconst (v := nI 0) hx hb dX2_sumFor_10 (by decide) ?_
    refine lv_istore_n (lv' := [(2, .int (nI 0)), (0, .ref (a 0)), (1, .int (nI b))]) hx hb dX2_sumFor_11 rfl hl (by decide) rfl (fun ls hl => ?_)
    refine lv_aload_n hx hb dX2_sumFor_12 rfl (lv_at hl 1 rfl) ?_
    refine lv_iload_n hx hb dX2_sumFor_13 rfl (lv_at hl 2 rfl) ?_
    refine lv_iconst (v := nI 0) hx hb dX2_sumFor_14 (by decide) ?_
    refine k_X2_decidedIn (M := mrow M 0 (upd (M 0) 0 (nI 0)))  hJ (by omega) hS1 hT SF hK (rk.le (Nat.le_of_ble_eq_true rfl)) hl.1 (Nat.le_of_ble_eq_true rfl) hP hS dX2_sumFor_15 (fun H locs hP hS => ?_)
    refine u_top (y := nI (dIn (M 2) (M 1) b 0)) rfl ?_
    have hP : mP dC dI dA a (mrow (mrow M 0 (upd (M 0) 0 (nI 0))) 3 (va_cpy (M 2) (M 3) 0 2730 273)) H := hP
    refine lv_istore_n (lv' := [(3, .int (nI (dIn (M 2) (M 1) b 0))), (2, .int (nI 0)), (0, .ref (a 0)), (1, .int (nI b))]) hx hb dX2_sumFor_18 rfl hl (by decide) rfl (fun ls hl => ?_)
    refine lv_iconst (v := nI 1) hx hb dX2_sumFor_19 (by decide) ?_
    refine lv_istore (lv' := [(4, .int (nI 1)), (3, .int (nI (dIn (M 2) (M 1) b 0))), (2, .int (nI 0)), (0, .ref (a 0)), (1, .int (nI b))]) hx hb dX2_sumFor_20 hl (by decide) rfl (fun ls hl => ?_)
    have lp22 : ∀ (k0 : Nat) (k : Nat), k ≤ 9 → 9 < k + k0 → ∀ (H : Heap) (locs : List Loc), mP dC dI dA a (mrow (mrow M 0 (upd (M 0) 0 (nI 0))) 3 (va_cpy (M 2) (M 3) 0 2730 273)) H → uS (mA a) s.heap H locs → ∀ ls : Array Slot, lv_has ls 6 [(4, .int (nI (k + 1))), (3, .int (nI ((bstF (dIn (M 2) (M 1) b) k).2))), (2, .int (nI ((bstF (dIn (M 2) (M 1) b) k).1))), (0, .ref (a 0)), (1, .int (nI b))] → W p l e R s m args below meth c H locs 0 0 Q (F0 m 22 ls []) := by
      intro k0
      induction k0 with
      | zero =>
        intro k hk1 hk2; omega
      | succ k0 ih =>
        intro k hk1 hk2 H locs hP hS ls hl
        have ih22 := ih
        have hq9 := hs9 k
        have hq8 := hs8 (k + 1)
        refine lv_iload hx hb dX2_sumFor_22 (lv_at hl 0 rfl) ?_
        refine lv_bipush (v := nI 10) hx hb dX2_sumFor_24 (by decide) ?_
        refine lv_icmp_ge (tgt := 64) hx hb dX2_sumFor_26 (by decide) (fun c_26 => ?_) (fun c_26 => ?_)
        · have c_26 : 10 ≤ k + 1 := (nI_leI (a := 10) (b := k + 1) (by omega) (by omega)).mp c_26
          refine lv_iload_n hx hb dX2_sumFor_64 rfl (lv_at hl 2 rfl) ?_
          exact hret _ _ _ _ _ (by rw [hz0, hz1]; show _ = _; rw [hcl_b, show k = 9 by omega]; rfl) (by rw [hz0, hz1]; exact hP) hS dX2_sumFor_65
        · have c_26 : ¬ (10 ≤ k + 1) := fun q9 => c_26 ((nI_leI (a := 10) (b := k + 1) (by omega) (by omega)).mpr q9)
          refine lv_aload_n hx hb dX2_sumFor_29 rfl (lv_at hl 3 rfl) ?_
          refine lv_iload_n hx hb dX2_sumFor_30 rfl (lv_at hl 4 rfl) ?_
          refine lv_iload hx hb dX2_sumFor_31 (lv_at hl 0 rfl) ?_
          refine k_X2_decidedIn (M := mrow (mrow M 0 (upd (M 0) 0 (nI 0))) 3 (va_cpy (M 2) (M 3) 0 2730 273))  hJ (by omega) hS1 hT SF hK (rk.le (Nat.le_of_ble_eq_true rfl)) hl.1 (Nat.le_of_ble_eq_true rfl) hP hS dX2_sumFor_33 (fun H locs hP hS => ?_)
          refine u_top (y := nI (dIn (M 2) (M 1) b (k + 1))) rfl ?_
          have hP : mP dC dI dA a (mrow (mrow M 0 (upd (M 0) 0 (nI 0))) 3 (va_cpy (M 2) (va_cpy (M 2) (M 3) 0 2730 273) 0 2730 273)) H := hP
          refine lv_istore (lv' := [(5, .int (nI (dIn (M 2) (M 1) b (k + 1)))), (4, .int (nI (k + 1))), (3, .int (nI ((bstF (dIn (M 2) (M 1) b) k).2))), (2, .int (nI ((bstF (dIn (M 2) (M 1) b) k).1))), (0, .ref (a 0)), (1, .int (nI b))]) hx hb dX2_sumFor_36 hl (by decide) rfl (fun ls hl => ?_)
          refine lv_iload hx hb dX2_sumFor_38 (lv_at hl 0 rfl) ?_
          refine lv_iload_n hx hb dX2_sumFor_40 rfl (lv_at hl 2 rfl) ?_
          refine lv_icmp_le (tgt := 49) hx hb dX2_sumFor_41 (by decide) (fun c_41 => ?_) (fun c_41 => ?_)
          · have c_41 : dIn (M 2) (M 1) b (k + 1) ≤ (bstF (dIn (M 2) (M 1) b) k).2 := (nI_leI (a := dIn (M 2) (M 1) b (k + 1)) (b := (bstF (dIn (M 2) (M 1) b) k).2) (by omega) (by omega)).mp c_41
            refine lv_iload_n hx hb dX2_sumFor_49 rfl (lv_at hl 3 rfl) ?_
            refine u_top (y := nI (bstF (dIn (M 2) (M 1) b) (k + 1)).1) (by rw [bstF]; exact congrArg nI (by first | rw [if_pos (show (bstF (dIn (M 2) (M 1) b) k).2 < dIn (M 2) (M 1) b (k + 1) from by omega)] | rw [if_neg (show ¬ (bstF (dIn (M 2) (M 1) b) k).2 < dIn (M 2) (M 1) b (k + 1) from by omega)])) ?_
            refine lv_istore_n (lv' := [(2, .int (nI ((bstF (dIn (M 2) (M 1) b) (k + 1)).1))), (5, .int (nI (dIn (M 2) (M 1) b (k + 1)))), (4, .int (nI (k + 1))), (3, .int (nI ((bstF (dIn (M 2) (M 1) b) k).2))), (0, .ref (a 0)), (1, .int (nI b))]) hx hb dX2_sumFor_50 rfl hl (by decide) rfl (fun ls hl => ?_)
            refine lv_iload_n hx hb dX2_sumFor_51 rfl (lv_at hl 3 rfl) ?_
            refine lv_iload hx hb dX2_sumFor_52 (lv_at hl 1 rfl) ?_
            refine va_mmax hx hb (hml.trans hl.1.symm) hown (hts _ q2209) (hts _ q504) (hts _ q131) (hts _ q505) (Nat.le_trans (Nat.le_of_ble_eq_true rfl) rk.1) (Nat.le_trans (Nat.le_of_ble_eq_true rfl) rk.2) (Nat.zero_le _) (Nat.zero_le _) dX2_sumFor_54 ?_
            refine u_top (nI_max (by omega) (by omega)) ?_
            refine u_top (y := nI (bstF (dIn (M 2) (M 1) b) (k + 1)).2) (by rw [bstF_2]) ?_
            refine lv_istore_n (lv' := [(3, .int (nI ((bstF (dIn (M 2) (M 1) b) (k + 1)).2))), (2, .int (nI ((bstF (dIn (M 2) (M 1) b) (k + 1)).1))), (5, .int (nI (dIn (M 2) (M 1) b (k + 1)))), (4, .int (nI (k + 1))), (0, .ref (a 0)), (1, .int (nI b))]) hx hb dX2_sumFor_57 rfl hl (by decide) rfl (fun ls hl => ?_)
            refine lv_iinc (v := nI (k + 1 + 1)) (lv' := [(4, .int (nI (k + 1 + 1))), (3, .int (nI ((bstF (dIn (M 2) (M 1) b) (k + 1)).2))), (2, .int (nI ((bstF (dIn (M 2) (M 1) b) (k + 1)).1))), (5, .int (nI (dIn (M 2) (M 1) b (k + 1)))), (0, .ref (a 0)), (1, .int (nI b))]) hx hb dX2_sumFor_58 hl (k := 3) rfl (nI_add _ 1) (by decide) rfl (fun ls hl => ?_)
            refine lv_goto (tgt := 22) hx hb dX2_sumFor_61 (by decide) ?_
            exact ih22 (k + 1) (by omega) (by omega) _ _ (by rw [cpy_idem] at hP; exact hP) hS ls (lv_sub hl [0, 1, 2, 4, 5] rfl)
          · have c_41 : ¬ (dIn (M 2) (M 1) b (k + 1) ≤ (bstF (dIn (M 2) (M 1) b) k).2) := fun q9 => c_41 ((nI_leI (a := dIn (M 2) (M 1) b (k + 1)) (b := (bstF (dIn (M 2) (M 1) b) k).2) (by omega) (by omega)).mpr q9)
            refine lv_iload hx hb dX2_sumFor_44 (lv_at hl 1 rfl) ?_
            refine lv_goto (tgt := 50) hx hb dX2_sumFor_46 (by decide) ?_
            refine u_top (y := nI (bstF (dIn (M 2) (M 1) b) (k + 1)).1) (by rw [bstF]; exact congrArg nI (by first | rw [if_pos (show (bstF (dIn (M 2) (M 1) b) k).2 < dIn (M 2) (M 1) b (k + 1) from by omega)] | rw [if_neg (show ¬ (bstF (dIn (M 2) (M 1) b) k).2 < dIn (M 2) (M 1) b (k + 1) from by omega)])) ?_
            refine lv_istore_n (lv' := [(2, .int (nI ((bstF (dIn (M 2) (M 1) b) (k + 1)).1))), (5, .int (nI (dIn (M 2) (M 1) b (k + 1)))), (4, .int (nI (k + 1))), (3, .int (nI ((bstF (dIn (M 2) (M 1) b) k).2))), (0, .ref (a 0)), (1, .int (nI b))]) hx hb dX2_sumFor_50 rfl hl (by decide) rfl (fun ls hl => ?_)
            refine lv_iload_n hx hb dX2_sumFor_51 rfl (lv_at hl 3 rfl) ?_
            refine lv_iload hx hb dX2_sumFor_52 (lv_at hl 1 rfl) ?_
            refine va_mmax hx hb (hml.trans hl.1.symm) hown (hts _ q2209) (hts _ q504) (hts _ q131) (hts _ q505) (Nat.le_trans (Nat.le_of_ble_eq_true rfl) rk.1) (Nat.le_trans (Nat.le_of_ble_eq_true rfl) rk.2) (Nat.zero_le _) (Nat.zero_le _) dX2_sumFor_54 ?_
            refine u_top (nI_max (by omega) (by omega)) ?_
            refine u_top (y := nI (bstF (dIn (M 2) (M 1) b) (k + 1)).2) (by rw [bstF_2]) ?_
            refine lv_istore_n (lv' := [(3, .int (nI ((bstF (dIn (M 2) (M 1) b) (k + 1)).2))), (2, .int (nI ((bstF (dIn (M 2) (M 1) b) (k + 1)).1))), (5, .int (nI (dIn (M 2) (M 1) b (k + 1)))), (4, .int (nI (k + 1))), (0, .ref (a 0)), (1, .int (nI b))]) hx hb dX2_sumFor_57 rfl hl (by decide) rfl (fun ls hl => ?_)
            refine lv_iinc (v := nI (k + 1 + 1)) (lv' := [(4, .int (nI (k + 1 + 1))), (3, .int (nI ((bstF (dIn (M 2) (M 1) b) (k + 1)).2))), (2, .int (nI ((bstF (dIn (M 2) (M 1) b) (k + 1)).1))), (5, .int (nI (dIn (M 2) (M 1) b (k + 1)))), (0, .ref (a 0)), (1, .int (nI b))]) hx hb dX2_sumFor_58 hl (k := 3) rfl (nI_add _ 1) (by decide) rfl (fun ls hl => ?_)
            refine lv_goto (tgt := 22) hx hb dX2_sumFor_61 (by decide) ?_
            exact ih22 (k + 1) (by omega) (by omega) _ _ (by rw [cpy_idem] at hP; exact hP) hS ls (lv_sub hl [0, 1, 2, 4, 5] rfl)
    exact lp22 10 0 (by omega) (by omega) _ _ hP hS ls (lv_sub hl [0, 1, 2, 3, 4] rfl)
  · refine u_top (y := nI 1) (by rw [decide_eq_false hq0]; rfl) ?_
    refine lv_if_eq (tgt := 10) hx hb dX2_sumFor_5 (by decide) (fun c_5 => absurd c_5 (by decide)) (fun c_5 => ?_)
    refine lv_iconst (v := nI 0) hx hb dX2_sumFor_8 (by decide) ?_
    exact hret _ _ _ _ _ (by rw [show thC [(lo (M 0 1), 1), (inZ x.toInt 0 5, 2)] = thC [(lo (M 0 1), 1), (inZ x.toInt 0 5, 2)] from thC_pre (L1 := [(lo (M 0 1), 1), (inZ x.toInt 0 5, 2)]) (L2 := []) hq0, if_neg hq0]) (by rw [show thC [(lo (M 0 1), 1), (inZ x.toInt 0 5, 2)] = thC [(lo (M 0 1), 1), (inZ x.toInt 0 5, 2)] from thC_pre (L1 := [(lo (M 0 1), 1), (inZ x.toInt 0 5, 2)]) (L2 := []) hq0, if_neg hq0]; exact hP) hS dX2_sumFor_9

set_option maxHeartbeats 4000000 in
theorem c_X2_causeIf (l : Launch) (dC : Nat → ClassId) (dI : Nat → Nat → Nat) (dA : Nat → ClassId) (a : Nat → Nat) (M : Nat → Nat → Int32) (hJ : mJ a) (x : Int32) (hS1 : SWf (M 2)) (hT : TWf (M 1)) : Met l yX2_causeIf (ws_ yX2_causeIf cX2_causeIf 2 (some .int)) (rmD 13 0 0) (uPc [.ref (a 0), .int x] (mP dC dI dA a M) dC dI dA) (uMi (mA a) (if thC [(lo (M 0 1), 1), (inZ x.toInt 0 ((ln (M 2) : Int) - 1), 2)] = 0 then (if lr (M 2) x.toNatClampNeg 6 = 0 then nI (cau (M 2) (M 1) x.toNatClampNeg) else nI 0) else nI 0) (mP dC dI dA a (mrow M 0 (upd (M 0) 0 (nI (thC [(lo (M 0 1), 1), (inZ x.toInt 0 ((ln (M 2) : Int) - 1), 2)])))))) 0 0 (mA a) := by
  refine u_metMi (own := RX2) (by decide) rfl (Nat.le_of_ble_eq_true rfl) fun p e R s m args below meth c Q SF rk hP hK hret ls hl => ?_
  have hx := SF.1
  have hb := SF.2.1
  have hml := SF.2.2.1
  have hown := SF.2.2.2.1
  have hts := SF.2.2.2.2
  have hS : uS (mA a) s.heap s.heap [] := uS.rf
  have hl : lv_has ls 2 [(0, .ref (a 0)), (1, .int x)] := hl
  have hL := hS1.2.1
  have hn9 := hT.2.1
  refine lv_aload_n hx hb dX2_causeIf_0 rfl (lv_at hl 0 rfl) ?_
  refine lv_iload_n hx hb dX2_causeIf_1 rfl (lv_at hl 1 rfl) ?_
  refine k_X2_noLetter  hJ hS1 SF hK (rk.le (Nat.le_of_ble_eq_true rfl)) hl.1 (Nat.le_of_ble_eq_true rfl) hP hS dX2_causeIf_2 (fun H locs hP hS => ?_)
  have hP : mP dC dI dA a (mrow M 0 (upd (M 0) 0 (nI (thC [(lo (M 0 1), 1), (inZ x.toInt 0 ((ln (M 2) : Int) - 1), 2)])))) H := hP
  by_cases hq0 : thC [(lo (M 0 1), 1), (inZ x.toInt 0 ((ln (M 2) : Int) - 1), 2)] = 0
  · obtain ⟨hz0, hz1⟩ := thC_2 hq0
    refine u_top (y := nI 0) (by rw [hq0]; rfl) ?_
    rw [hq0] at hP
    have hP : mP dC dI dA a (mrow M 0 (upd (M 0) 0 (nI 0))) H := hP
    obtain ⟨lt, hlt_lt, hsm_lt, rfl⟩ := inZ_n hz1
    have hcl_lt : (nI lt).toNatClampNeg = lt := nI_clamp (by omega)
    have hP : mP dC dI dA a (mrow M 0 (upd (M 0) 0 (nI 0))) H := by assumption
    refine lv_if_ne (tgt := 18) hx hb dX2_causeIf_5 (by decide) (fun c_5 => absurd (by decide) c_5) (fun c_5 => ?_)
    refine lv_aload_n hx hb dX2_causeIf_8 rfl (lv_at hl 0 rfl) ?_
    refine lv_iload_n hx hb dX2_causeIf_9 rfl (lv_at hl 1 rfl) ?_
    refine lv_bipush (v := nI 6) hx hb dX2_causeIf_10 (by decide) ?_
    refine k_X2_l (M := mrow M 0 (upd (M 0) 0 (nI 0)))  (show lt < 24 by omega) (show 6 < 10 by omega) SF hK (rk.le (Nat.le_of_ble_eq_true rfl)) hl.1 (Nat.le_of_ble_eq_true rfl) hP dX2_causeIf_12 ?_
    refine u_top (y := lr (M 2) lt 6) rfl ?_
    refine lv_if_eq (tgt := 22) hx hb dX2_causeIf_15 (by decide) (fun c_15 => ?_) (fun c_15 => ?_)
    · refine lv_aload_n hx hb dX2_causeIf_22 rfl (lv_at hl 0 rfl) ?_
      refine lv_iload_n hx hb dX2_causeIf_23 rfl (lv_at hl 1 rfl) ?_
      refine k_X2_causeNow (M := mrow M 0 (upd (M 0) 0 (nI 0)))  (show lt < ln (M 2) by omega) hS1 hT SF hK (rk.le (Nat.le_of_ble_eq_true rfl)) hl.1 (Nat.le_of_ble_eq_true rfl) hP dX2_causeIf_24 ?_
      refine u_top (y := nI (cau (M 2) (M 1) lt)) rfl ?_
      exact hret _ _ _ _ _ (by rw [hz0, hz1]; show _ = _; rw [hcl_lt]; exact (if_pos c_15).symm) (by rw [hz0, hz1]; exact hP) hS dX2_causeIf_27
    · refine lv_iconst (v := nI 0) hx hb dX2_causeIf_18 (by decide) ?_
      refine lv_goto (tgt := 27) hx hb dX2_causeIf_19 (by decide) ?_
      exact hret _ _ _ _ _ (by rw [hz0, hz1]; show _ = _; rw [hcl_lt]; exact (if_neg c_15).symm) (by rw [hz0, hz1]; exact hP) hS dX2_causeIf_27
  · refine u_top (y := nI 1) (by rw [decide_eq_false hq0]; rfl) ?_
    refine lv_if_ne (tgt := 18) hx hb dX2_causeIf_5 (by decide) (fun c_5 => ?_) (fun c_5 => absurd c_5 (by decide))
    refine lv_iconst (v := nI 0) hx hb dX2_causeIf_18 (by decide) ?_
    refine lv_goto (tgt := 27) hx hb dX2_causeIf_19 (by decide) ?_
    exact hret _ _ _ _ _ (by rw [show thC [(lo (M 0 1), 1), (inZ x.toInt 0 ((ln (M 2) : Int) - 1), 2)] = thC [(lo (M 0 1), 1), (inZ x.toInt 0 ((ln (M 2) : Int) - 1), 2)] from thC_pre (L1 := [(lo (M 0 1), 1), (inZ x.toInt 0 ((ln (M 2) : Int) - 1), 2)]) (L2 := []) hq0, if_neg hq0]) (by rw [show thC [(lo (M 0 1), 1), (inZ x.toInt 0 ((ln (M 2) : Int) - 1), 2)] = thC [(lo (M 0 1), 1), (inZ x.toInt 0 ((ln (M 2) : Int) - 1), 2)] from thC_pre (L1 := [(lo (M 0 1), 1), (inZ x.toInt 0 ((ln (M 2) : Int) - 1), 2)]) (L2 := []) hq0]; exact hP) hS dX2_causeIf_27

set_option maxHeartbeats 4000000 in
theorem c_X2_share (l : Launch) (dC : Nat → ClassId) (dI : Nat → Nat → Nat) (dA : Nat → ClassId) (a : Nat → Nat) (M : Nat → Nat → Int32) (hJ : mJ a)  (hS1 : SWf (M 2)) : Met l yX2_share (ws_ yX2_share cX2_share 2 (some .float)) (rmD 2 0 0) (uPc [.ref (a 0)] (mP dC dI dA a M) dC dI dA) (uMf (mA a) (if thC [(lo (M 0 1), 1)] = 0 then shr (M 2) else FP.fconst0) (mP dC dI dA a (mrow M 0 (upd (M 0) 0 (nI (thC [(lo (M 0 1), 1)])))))) 0 0 (mA a) := by
  refine u_metMf (own := RX2) (by decide) rfl (Nat.le_of_ble_eq_true rfl) fun p e R s m args below meth c Q SF rk hP hK hret ls hl => ?_
  have hx := SF.1
  have hb := SF.2.1
  have hml := SF.2.2.1
  have hown := SF.2.2.2.1
  have hts := SF.2.2.2.2
  have hS : uS (mA a) s.heap s.heap [] := uS.rf
  have hl : lv_has ls 2 [(0, .ref (a 0))] := hl
  have hL := hS1.2.1
  have hs12 := sts_12 (M 2)
  refine lv_aload_n hx hb dX2_share_0 rfl (lv_at hl 0 rfl) ?_
  refine k_X2_notLoaded  hJ  SF hK (rk.le (Nat.le_of_ble_eq_true rfl)) hl.1 (Nat.le_of_ble_eq_true rfl) hP hS dX2_share_1 (fun H locs hP hS => ?_)
  have hP : mP dC dI dA a (mrow M 0 (upd (M 0) 0 (nI (thC [(lo (M 0 1), 1)])))) H := hP
  by_cases hq0 : thC [(lo (M 0 1), 1)] = 0
  · have hz0 := thC_1 hq0
    refine u_top (y := nI 0) (by rw [hq0]; rfl) ?_
    rw [hq0] at hP
    have hP : mP dC dI dA a (mrow M 0 (upd (M 0) 0 (nI 0))) H := hP
    refine lv_if_eq (tgt := 9) hx hb dX2_share_4 (by decide) (fun c_4 => ?_) (fun c_4 => absurd (by decide) c_4)
    refine lv_aload_n hx hb dX2_share_9 rfl (lv_at hl 0 rfl) ?_
    refine lv_iconst (v := nI 1) hx hb dX2_share_10 (by decide) ?_
    refine k_X2_statesOf (M := mrow M 0 (upd (M 0) 0 (nI 0)))  hS1 SF hK (rk.le (Nat.le_of_ble_eq_true rfl)) hl.1 (Nat.le_of_ble_eq_true rfl) hP dX2_share_11 ?_
    refine u_top (y := nI (sts (M 2) (nI 1))) rfl ?_
    refine lv_aload_n hx hb dX2_share_14 rfl (lv_at hl 0 rfl) ?_
    refine lv_iconst (v := nI 2) hx hb dX2_share_15 (by decide) ?_
    refine k_X2_statesOf (M := mrow M 0 (upd (M 0) 0 (nI 0)))  hS1 SF hK (rk.le (Nat.le_of_ble_eq_true rfl)) hl.1 (Nat.le_of_ble_eq_true rfl) hP dX2_share_16 ?_
    refine u_top (y := nI (sts (M 2) (nI 2))) rfl ?_
    refine lv_iadd hx hb dX2_share_19 ?_
    refine u_top (nI_add _ _) ?_
    refine lv_istore_n (lv' := [(1, .int (nI (sts (M 2) (nI 1) + (sts (M 2) (nI 2))))), (0, .ref (a 0))]) hx hb dX2_share_20 rfl hl (by decide) rfl (fun ls hl => ?_)
    refine lv_iload_n hx hb dX2_share_21 rfl (lv_at hl 0 rfl) ?_
    refine lv_if_ne (tgt := 29) hx hb dX2_share_22 (by decide) (fun c_22 => ?_) (fun c_22 => ?_)
    · have c_22 : ¬ (sts (M 2) (nI 1) + (sts (M 2) (nI 2)) = 0) := fun q9 => c_22 ((nI_eq (a := sts (M 2) (nI 1) + (sts (M 2) (nI 2))) (b := 0) (by omega) (by omega)).mpr q9)
      refine lv_aload_n hx hb dX2_share_29 rfl (lv_at hl 1 rfl) ?_
      refine lv_iconst (v := nI 1) hx hb dX2_share_30 (by decide) ?_
      refine k_X2_statesOf (M := mrow M 0 (upd (M 0) 0 (nI 0)))  hS1 SF hK (rk.le (Nat.le_of_ble_eq_true rfl)) hl.1 (Nat.le_of_ble_eq_true rfl) hP dX2_share_31 ?_
      refine u_top (y := nI (sts (M 2) (nI 1))) rfl ?_
      refine lv_i2f hx hb dX2_share_34 ?_
      refine lv_iload_n hx hb dX2_share_35 rfl (lv_at hl 0 rfl) ?_
      refine lv_i2f hx hb dX2_share_36 ?_
      refine lv_fdiv hx hb dX2_share_37 (fin32 _ (by omega) _ (by omega) (by omega)) ?_
      exact hret _ _ _ _ _ (by rw [hz0]; show _ = _; rw [shr]; exact (if_neg c_22).symm) (by rw [hz0]; exact hP) hS dX2_share_38
    · have c_22 : sts (M 2) (nI 1) + (sts (M 2) (nI 2)) = 0 := (nI_eq (a := sts (M 2) (nI 1) + (sts (M 2) (nI 2))) (b := 0) (by omega) (by omega)).mp c_22
      refine lv_fconst0 hx hb dX2_share_25 ?_
      refine lv_goto (tgt := 38) hx hb dX2_share_26 (by decide) ?_
      exact hret _ _ _ _ _ (by rw [hz0]; show _ = _; rw [shr]; exact (if_pos c_22).symm) (by rw [hz0]; exact hP) hS dX2_share_38
  · refine u_top (y := nI 1) (by rw [decide_eq_false hq0]; rfl) ?_
    refine lv_if_eq (tgt := 9) hx hb dX2_share_4 (by decide) (fun c_4 => absurd c_4 (by decide)) (fun c_4 => ?_)
    refine lv_fconst0 hx hb dX2_share_7 ?_
    exact hret _ _ _ _ _ (by rw [show thC [(lo (M 0 1), 1)] = thC [(lo (M 0 1), 1)] from thC_pre (L1 := [(lo (M 0 1), 1)]) (L2 := []) hq0, if_neg hq0]) (by rw [show thC [(lo (M 0 1), 1)] = thC [(lo (M 0 1), 1)] from thC_pre (L1 := [(lo (M 0 1), 1)]) (L2 := []) hq0]; exact hP) hS dX2_share_8
end TW
