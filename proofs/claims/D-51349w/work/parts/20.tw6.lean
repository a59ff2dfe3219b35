set_option maxRecDepth 100000
section TW
variable {p : Program} {l : Launch} {e : Env} {R : Room} {s : State} {m : MethodId} {args : Array Value} {below : List Frame} {meth : Method} {c : Code} {H : Heap} {locs : List Loc} {Q : State → Prop}
variable {cc : ByteArray} {pc nL : Nat} {ls : Array Slot} {rest : List Value} {dC : Nat → ClassId} {dI : Nat → Nat → Nat} {dA : Nat → ClassId} {a : Nat → Nat} {M : Nat → Nat → Int32} {H0 : Heap}

set_option maxHeartbeats 4000000 in
theorem c_X2_noTown (l : Launch) (dC : Nat → ClassId) (dI : Nat → Nat → Nat) (dA : Nat → ClassId) (a : Nat → Nat) (M : Nat → Nat → Int32) (hJ : mJ a) (x : Int32) (hT : TWf (M 1)) : Met l yX2_noTown (ws_ yX2_noTown cX2_noTown 2 (some .boolean)) (rmD 2 0 0) (uPc [.ref (a 0), .int x] (mP dC dI dA a M) dC dI dA) (uMi (mA a) (nI (!decide (thC [(lo (M 0 1), 1), (inZ x.toInt 0 ((tn (M 1) : Int) - 1), 2)] = 0)).toNat) (mP dC dI dA a (mrow M 0 (upd (M 0) 0 (nI (thC [(lo (M 0 1), 1), (inZ x.toInt 0 ((tn (M 1) : Int) - 1), 2)])))))) 0 0 (mA a) := by
  refine u_metMz (own := RX2) (by decide) rfl (Nat.le_of_ble_eq_true rfl) fun p e R s m args below meth c Q SF rk hP hK hret ls hl => ?_
  have hx := SF.1
  have hb := SF.2.1
  have hml := SF.2.2.1
  have hown := SF.2.2.2.1
  have hts := SF.2.2.2.2
  have hS : uS (mA a) s.heap s.heap [] := uS.rf
  have hl : lv_has ls 2 [(0, .ref (a 0)), (1, .int x)] := hl
  have hn9 := hT.2.1
  refine lv_aload_n hx hb dX2_noTown_0 rfl (lv_at hl 0 rfl) ?_
  refine k_X2_notLoaded  hJ  SF hK (rk.le (Nat.le_of_ble_eq_true rfl)) hl.1 (Nat.le_of_ble_eq_true rfl) hP hS dX2_noTown_1 (fun H locs hP hS => ?_)
  have hP : mP dC dI dA a (mrow M 0 (upd (M 0) 0 (nI (thC [(lo (M 0 1), 1)])))) H := hP
  by_cases hq0 : thC [(lo (M 0 1), 1)] = 0
  · have hz0 := thC_1 hq0
    refine u_top (y := nI 0) (by rw [hq0]; rfl) ?_
    rw [hq0] at hP
    have hP : mP dC dI dA a (mrow M 0 (upd (M 0) 0 (nI 0))) H := hP
    refine lv_if_ne (tgt := 28) hx hb dX2_noTown_4 (by decide) (fun c_4 => absurd (by decide) c_4) (fun c_4 => ?_)
    refine lv_aload_n hx hb dX2_noTown_7 rfl (lv_at hl 0 rfl) ?_
    refine lv_aload_n hx hb dX2_noTown_8 rfl (lv_at hl 0 rfl) ?_
    refine lv_iload_n hx hb dX2_noTown_9 rfl (lv_at hl 1 rfl) ?_
    refine k_X2_isTown (M := mrow M 0 (upd (M 0) 0 (nI 0)))  hT SF hK (rk.le (Nat.le_of_ble_eq_true rfl)) hl.1 (Nat.le_of_ble_eq_true rfl) hP dX2_noTown_10 ?_
    refine u_top (y := nI ((inZ x.toInt 0 ((tn (M 1) : Int) - 1)).toNat)) rfl ?_
    have jn21 : ∀ v9 : Int32, v9 = nI ((!(inZ x.toInt 0 ((tn (M 1) : Int) - 1))).toNat) → ∀ (H : Heap) (locs : List Loc), mP dC dI dA a (mrow M 0 (upd (M 0) 0 (nI 0))) H → uS (mA a) s.heap H locs → ∀ ls : Array Slot, lv_has ls 2 [(0, .ref (a 0)), (1, .int x)] → W p l e R s m args below meth c H locs 0 0 Q (F0 m 21 ls [.int v9, .ref (a 0)]) := by
      intro v9 hv9 H locs hP hS ls hl
      subst hv9
      refine lv_iconst (v := nI 2) hx hb dX2_noTown_21 (by decide) ?_
      refine k_X2_refuse (M := mrow M 0 (upd (M 0) 0 (nI 0)))  hJ  SF hK (rk.le (Nat.le_of_ble_eq_true rfl)) hl.1 (Nat.le_of_ble_eq_true rfl) hP hS dX2_noTown_22 (fun H locs hP hS => ?_)
      refine u_top (y := nI ((!decide (rfT ((nI 0)) (!(inZ x.toInt 0 ((tn (M 1) : Int) - 1))) (nI 2) = 0)).toNat)) rfl ?_
      have hP : mP dC dI dA a (mrow M 0 (upd (M 0) 0 (rfT ((nI 0)) (!(inZ x.toInt 0 ((tn (M 1) : Int) - 1))) (nI 2)))) H := hP
      cases hq1 : (!(inZ x.toInt 0 ((tn (M 1) : Int) - 1)))
      · have hz1 : (inZ x.toInt 0 ((tn (M 1) : Int) - 1)) = true := by first | simpa using hq1 | simpa [lo] using hq1
        rw [hq1, rfT_f] at hP
        refine u_top (y := nI 0) (by rw [rfT_f]; rfl) ?_
        have hP : mP dC dI dA a (mrow M 0 (upd (M 0) 0 (nI 0))) H := hP
        have jn33 : ∀ v9 : Int32, v9 = nI ((!decide (0 = 0)).toNat) → ∀ (H : Heap) (locs : List Loc), mP dC dI dA a (mrow M 0 (upd (M 0) 0 (nI 0))) H → uS (mA a) s.heap H locs → ∀ ls : Array Slot, lv_has ls 2 [(0, .ref (a 0)), (1, .int x)] → W p l e R s m args below meth c H locs 0 0 Q (F0 m 33 ls [.int v9]) := by
          intro v9 hv9 H locs hP hS ls hl
          subst hv9
          exact hret _ _ _ _ _ (by rw [hz0, hz1]; rfl) (by rw [hz0, hz1]; exact hP) hS dX2_noTown_33
        refine lv_if_eq (tgt := 32) hx hb dX2_noTown_25 (by decide) (fun c_25 => ?_) (fun c_25 => ?_)
        · have c_25 : 0 = 0 := (nI_eq (a := 0) (b := 0) (by omega) (by omega)).mp c_25
          refine lv_iconst (v := nI 0) hx hb dX2_noTown_32 (by decide) ?_
          exact jn33 _ (u_n0 c_25) _ _ hP hS ls (lv_sub hl [0, 1] rfl)
        · have c_25 : ¬ (0 = 0) := fun q9 => c_25 ((nI_eq (a := 0) (b := 0) (by omega) (by omega)).mpr q9)
          refine lv_iconst (v := nI 1) hx hb dX2_noTown_28 (by decide) ?_
          refine lv_goto (tgt := 33) hx hb dX2_noTown_29 (by decide) ?_
          exact jn33 _ (u_n1 c_25) _ _ hP hS ls (lv_sub hl [0, 1] rfl)
      · have hz1 : (inZ x.toInt 0 ((tn (M 1) : Int) - 1)) = false := by first | simpa using hq1 | simpa [lo] using hq1
        rw [hq1, rfT_t] at hP
        refine u_top (y := nI 1) (by rw [rfT_t]; rfl) ?_
        have hP : mP dC dI dA a (mrow M 0 (upd (M 0) 0 (nI 2))) H := hP
        have jn33_2 : ∀ v9 : Int32, v9 = nI ((!decide (1 = 0)).toNat) → ∀ (H : Heap) (locs : List Loc), mP dC dI dA a (mrow M 0 (upd (M 0) 0 (nI 2))) H → uS (mA a) s.heap H locs → ∀ ls : Array Slot, lv_has ls 2 [(0, .ref (a 0)), (1, .int x)] → W p l e R s m args below meth c H locs 0 0 Q (F0 m 33 ls [.int v9]) := by
          intro v9 hv9 H locs hP hS ls hl
          subst hv9
          exact hret _ _ _ _ _ (by rw [hz0, hz1]; rfl) (by rw [hz0, hz1]; exact hP) hS dX2_noTown_33
        refine lv_if_eq (tgt := 32) hx hb dX2_noTown_25 (by decide) (fun c_25 => ?_) (fun c_25 => ?_)
        · have c_25 : 1 = 0 := (nI_eq (a := 1) (b := 0) (by omega) (by omega)).mp c_25
          refine lv_iconst (v := nI 0) hx hb dX2_noTown_32 (by decide) ?_
          exact jn33_2 _ (u_n0 c_25) _ _ hP hS ls (lv_sub hl [0, 1] rfl)
        · have c_25 : ¬ (1 = 0) := fun q9 => c_25 ((nI_eq (a := 1) (b := 0) (by omega) (by omega)).mpr q9)
          refine lv_iconst (v := nI 1) hx hb dX2_noTown_28 (by decide) ?_
          refine lv_goto (tgt := 33) hx hb dX2_noTown_29 (by decide) ?_
          exact jn33_2 _ (u_n1 c_25) _ _ hP hS ls (lv_sub hl [0, 1] rfl)
    refine lv_if_ne (tgt := 20) hx hb dX2_noTown_13 (by decide) (fun c_13 => ?_) (fun c_13 => ?_)
    · have c_13 : ¬ ((inZ x.toInt 0 ((tn (M 1) : Int) - 1)) = false) := fun q9 => c_13 (u_zb.mpr q9)
      refine lv_iconst (v := nI 0) hx hb dX2_noTown_20 (by decide) ?_
      exact jn21 _ (u_ff (by simp [c_13])) _ _ hP hS ls (lv_sub hl [0, 1] rfl)
    · have c_13 : (inZ x.toInt 0 ((tn (M 1) : Int) - 1)) = false := u_zb.mp c_13
      refine lv_iconst (v := nI 1) hx hb dX2_noTown_16 (by decide) ?_
      refine lv_goto (tgt := 21) hx hb dX2_noTown_17 (by decide) ?_
      exact jn21 _ (u_tt (by simpa using c_13)) _ _ hP hS ls (lv_sub hl [0, 1] rfl)
  · refine u_top (y := nI 1) (by rw [decide_eq_false hq0]; rfl) ?_
    refine lv_if_ne (tgt := 28) hx hb dX2_noTown_4 (by decide) (fun c_4 => ?_) (fun c_4 => absurd c_4 (by decide))
    refine lv_iconst (v := nI 1) hx hb dX2_noTown_28 (by decide) ?_
    refine lv_goto (tgt := 33) hx hb dX2_noTown_29 (by decide) ?_
    exact hret _ _ _ _ _ (by rw [show thC [(lo (M 0 1), 1), (inZ x.toInt 0 ((tn (M 1) : Int) - 1), 2)] = thC [(lo (M 0 1), 1)] from thC_pre (L1 := [(lo (M 0 1), 1)]) (L2 := [(inZ x.toInt 0 ((tn (M 1) : Int) - 1), 2)]) hq0]; rw [decide_eq_false hq0]; rfl) (by rw [show thC [(lo (M 0 1), 1), (inZ x.toInt 0 ((tn (M 1) : Int) - 1), 2)] = thC [(lo (M 0 1), 1)] from thC_pre (L1 := [(lo (M 0 1), 1)]) (L2 := [(inZ x.toInt 0 ((tn (M 1) : Int) - 1), 2)]) hq0]; exact hP) hS dX2_noTown_33
theorem k_X2_noTown (hJ : mJ a) {x : Int32} (hT : TWf (M 1)) (SF : CallFix p m c cc nL s args lw_all RX2) (hK : KK dC dI dA s) (rk : rmOK 3 R) (hsz : ls.size = nL) (hcat : (rest.map fun v => v.category).sum ≤ 8) (hP : mP dC dI dA a M H) (hS : uS (mA a) H0 H locs) (hdg : decode cc pc = .ok (.invokevirtual 278, 3)) (k : ∀ (H1 : Heap) (locs1 : List Loc), mP dC dI dA a (mrow M 0 (upd (M 0) 0 (nI (thC [(lo (M 0 1), 1), (inZ x.toInt 0 ((tn (M 1) : Int) - 1), 2)])))) H1 → uS (mA a) H0 H1 locs1 → W p l e R s m args below meth c H1 locs1 0 0 Q (F0 m (pc + 3) ls (.int (nI (!decide (thC [(lo (M 0 1), 1), (inZ x.toInt 0 ((tn (M 1) : Int) - 1), 2)] = 0)).toNat) :: rest))) : W p l e R s m args below meth c H locs 0 0 Q (F0 m pc ls (.int x :: .ref (a 0) :: rest)) :=
  u_runM (u_rV (C := RX2) (Ψ := (mP dC dI dA a M)) (As := [.int x]) SF hK rk (c_X2_noTown l dC dI dA a M hJ x hT) (lw_V q2257 q2259 qs87 q117 q2260) (n := 1) (by decide +kernel) rfl (by decide) (va_recv hK hP (ci := 2) (q0 := 0) rfl rfl) hP hsz hcat ⟨Nat.zero_le _, Nat.zero_le _⟩ rfl hdg) hS (fun _ h => h) (fun H1 locs1 h1 h2 _ => k H1 locs1 h1 h2)

set_option maxHeartbeats 4000000 in
theorem c_X2_noLetter (l : Launch) (dC : Nat → ClassId) (dI : Nat → Nat → Nat) (dA : Nat → ClassId) (a : Nat → Nat) (M : Nat → Nat → Int32) (hJ : mJ a) (x : Int32) (hS1 : SWf (M 2)) : Met l yX2_noLetter (ws_ yX2_noLetter cX2_noLetter 2 (some .boolean)) (rmD 2 0 0) (uPc [.ref (a 0), .int x] (mP dC dI dA a M) dC dI dA) (uMi (mA a) (nI (!decide (thC [(lo (M 0 1), 1), (inZ x.toInt 0 ((ln (M 2) : Int) - 1), 2)] = 0)).toNat) (mP dC dI dA a (mrow M 0 (upd (M 0) 0 (nI (thC [(lo (M 0 1), 1), (inZ x.toInt 0 ((ln (M 2) : Int) - 1), 2)])))))) 0 0 (mA a) := by
  refine u_metMz (own := RX2) (by decide) rfl (Nat.le_of_ble_eq_true rfl) fun p e R s m args below meth c Q SF rk hP hK hret ls hl => ?_
  have hx := SF.1
  have hb := SF.2.1
  have hml := SF.2.2.1
  have hown := SF.2.2.2.1
  have hts := SF.2.2.2.2
  have hS : uS (mA a) s.heap s.heap [] := uS.rf
  have hl : lv_has ls 2 [(0, .ref (a 0)), (1, .int x)] := hl
  have hL := hS1.2.1
  refine lv_aload_n hx hb dX2_noLetter_0 rfl (lv_at hl 0 rfl) ?_
  refine k_X2_notLoaded  hJ  SF hK (rk.le (Nat.le_of_ble_eq_true rfl)) hl.1 (Nat.le_of_ble_eq_true rfl) hP hS dX2_noLetter_1 (fun H locs hP hS => ?_)
  have hP : mP dC dI dA a (mrow M 0 (upd (M 0) 0 (nI (thC [(lo (M 0 1), 1)])))) H := hP
  by_cases hq0 : thC [(lo (M 0 1), 1)] = 0
  · have hz0 := thC_1 hq0
    refine u_top (y := nI 0) (by rw [hq0]; rfl) ?_
    rw [hq0] at hP
    have hP : mP dC dI dA a (mrow M 0 (upd (M 0) 0 (nI 0))) H := hP
    refine lv_if_ne (tgt := 36) hx hb dX2_noLetter_4 (by decide) (fun c_4 => absurd (by decide) c_4) (fun c_4 => ?_)
    refine lv_aload_n hx hb dX2_noLetter_7 rfl (lv_at hl 0 rfl) ?_
    refine lv_iload_n hx hb dX2_noLetter_8 rfl (lv_at hl 1 rfl) ?_
    refine lv_i2l hx hb dX2_noLetter_9 rfl ?_
    refine lv_lconst (v := 0) hx hb dX2_noLetter_10 rfl ?_
    refine lv_aload_n hx hb dX2_noLetter_11 rfl (lv_at hl 0 rfl) ?_
    refine k_X2_letters (M := mrow M 0 (upd (M 0) 0 (nI 0)))   SF hK (rk.le (Nat.le_of_ble_eq_true rfl)) hl.1 (Nat.le_of_ble_eq_true rfl) hP dX2_noLetter_12 ?_
    refine u_top (y := M 2 2) rfl ?_
    refine u_top (y := nI (ln (M 2))) hS1.1 ?_
    refine lv_iconst (v := nI 1) hx hb dX2_noLetter_15 (by decide) ?_
    refine lv_isub hx hb dX2_noLetter_16 ?_
    refine lv_i2l hx hb dX2_noLetter_17 rfl ?_
    refine k_X2_in (X := x.toInt) (L := 0) (U := (ln (M 2) : Int) - 1) (i2l_toInt x) (by decide) (by rw [i2l_toInt, pk_sub_toInt (by omega) (by decide)]; try rfl) SF hK (rk.le (Nat.le_of_ble_eq_true rfl)) hl.1 (Nat.le_of_ble_eq_true rfl) dX2_noLetter_18 ?_
    have jn29 : ∀ v9 : Int32, v9 = nI ((!(inZ x.toInt 0 ((ln (M 2) : Int) - 1))).toNat) → ∀ (H : Heap) (locs : List Loc), mP dC dI dA a (mrow M 0 (upd (M 0) 0 (nI 0))) H → uS (mA a) s.heap H locs → ∀ ls : Array Slot, lv_has ls 2 [(0, .ref (a 0)), (1, .int x)] → W p l e R s m args below meth c H locs 0 0 Q (F0 m 29 ls [.int v9, .ref (a 0)]) := by
      intro v9 hv9 H locs hP hS ls hl
      subst hv9
      refine lv_iconst (v := nI 2) hx hb dX2_noLetter_29 (by decide) ?_
      refine k_X2_refuse (M := mrow M 0 (upd (M 0) 0 (nI 0)))  hJ  SF hK (rk.le (Nat.le_of_ble_eq_true rfl)) hl.1 (Nat.le_of_ble_eq_true rfl) hP hS dX2_noLetter_30 (fun H locs hP hS => ?_)
      refine u_top (y := nI ((!decide (rfT ((nI 0)) (!(inZ x.toInt 0 ((ln (M 2) : Int) - 1))) (nI 2) = 0)).toNat)) rfl ?_
      have hP : mP dC dI dA a (mrow M 0 (upd (M 0) 0 (rfT ((nI 0)) (!(inZ x.toInt 0 ((ln (M 2) : Int) - 1))) (nI 2)))) H := hP
      cases hq1 : (!(inZ x.toInt 0 ((ln (M 2) : Int) - 1)))
      · have hz1 : (inZ x.toInt 0 ((ln (M 2) : Int) - 1)) = true := by first | simpa using hq1 | simpa [lo] using hq1
        rw [hq1, rfT_f] at hP
        refine u_top (y := nI 0) (by rw [rfT_f]; rfl) ?_
        have hP : mP dC dI dA a (mrow M 0 (upd (M 0) 0 (nI 0))) H := hP
        have jn41 : ∀ v9 : Int32, v9 = nI ((!decide (0 = 0)).toNat) → ∀ (H : Heap) (locs : List Loc), mP dC dI dA a (mrow M 0 (upd (M 0) 0 (nI 0))) H → uS (mA a) s.heap H locs → ∀ ls : Array Slot, lv_has ls 2 [(0, .ref (a 0)), (1, .int x)] → W p l e R s m args below meth c H locs 0 0 Q (F0 m 41 ls [.int v9]) := by
          intro v9 hv9 H locs hP hS ls hl
          subst hv9
          exact hret _ _ _ _ _ (by rw [hz0, hz1]; rfl) (by rw [hz0, hz1]; exact hP) hS dX2_noLetter_41
        refine lv_if_eq (tgt := 40) hx hb dX2_noLetter_33 (by decide) (fun c_33 => ?_) (fun c_33 => ?_)
        · have c_33 : 0 = 0 := (nI_eq (a := 0) (b := 0) (by omega) (by omega)).mp c_33
          refine lv_iconst (v := nI 0) hx hb dX2_noLetter_40 (by decide) ?_
          exact jn41 _ (u_n0 c_33) _ _ hP hS ls (lv_sub hl [0, 1] rfl)
        · have c_33 : ¬ (0 = 0) := fun q9 => c_33 ((nI_eq (a := 0) (b := 0) (by omega) (by omega)).mpr q9)
          refine lv_iconst (v := nI 1) hx hb dX2_noLetter_36 (by decide) ?_
          refine lv_goto (tgt := 41) hx hb dX2_noLetter_37 (by decide) ?_
          exact jn41 _ (u_n1 c_33) _ _ hP hS ls (lv_sub hl [0, 1] rfl)
      · have hz1 : (inZ x.toInt 0 ((ln (M 2) : Int) - 1)) = false := by first | simpa using hq1 | simpa [lo] using hq1
        rw [hq1, rfT_t] at hP
        refine u_top (y := nI 1) (by rw [rfT_t]; rfl) ?_
        have hP : mP dC dI dA a (mrow M 0 (upd (M 0) 0 (nI 2))) H := hP
        have jn41_2 : ∀ v9 : Int32, v9 = nI ((!decide (1 = 0)).toNat) → ∀ (H : Heap) (locs : List Loc), mP dC dI dA a (mrow M 0 (upd (M 0) 0 (nI 2))) H → uS (mA a) s.heap H locs → ∀ ls : Array Slot, lv_has ls 2 [(0, .ref (a 0)), (1, .int x)] → W p l e R s m args below meth c H locs 0 0 Q (F0 m 41 ls [.int v9]) := by
          intro v9 hv9 H locs hP hS ls hl
          subst hv9
          exact hret _ _ _ _ _ (by rw [hz0, hz1]; rfl) (by rw [hz0, hz1]; exact hP) hS dX2_noLetter_41
        refine lv_if_eq (tgt := 40) hx hb dX2_noLetter_33 (by decide) (fun c_33 => ?_) (fun c_33 => ?_)
        · have c_33 : 1 = 0 := (nI_eq (a := 1) (b := 0) (by omega) (by omega)).mp c_33
          refine lv_iconst (v := nI 0) hx hb dX2_noLetter_40 (by decide) ?_
          exact jn41_2 _ (u_n0 c_33) _ _ hP hS ls (lv_sub hl [0, 1] rfl)
        · have c_33 : ¬ (1 = 0) := fun q9 => c_33 ((nI_eq (a := 1) (b := 0) (by omega) (by omega)).mpr q9)
          refine lv_iconst (v := nI 1) hx hb dX2_noLetter_36 (by decide) ?_
          refine lv_goto (tgt := 41) hx hb dX2_noLetter_37 (by decide) ?_
          exact jn41_2 _ (u_n1 c_33) _ _ hP hS ls (lv_sub hl [0, 1] rfl)
    refine lv_if_ne (tgt := 28) hx hb dX2_noLetter_21 (by decide) (fun c_21 => ?_) (fun c_21 => ?_)
    · have c_21 : ¬ ((inZ x.toInt 0 ((ln (M 2) : Int) - 1)) = false) := fun q9 => c_21 (u_zb.mpr q9)
      refine lv_iconst (v := nI 0) hx hb dX2_noLetter_28 (by decide) ?_
      exact jn29 _ (u_ff (by simp [c_21])) _ _ hP hS ls (lv_sub hl [0, 1] rfl)
    · have c_21 : (inZ x.toInt 0 ((ln (M 2) : Int) - 1)) = false := u_zb.mp c_21
      refine lv_iconst (v := nI 1) hx hb dX2_noLetter_24 (by decide) ?_
      refine lv_goto (tgt := 29) hx hb dX2_noLetter_25 (by decide) ?_
      exact jn29 _ (u_tt (by simpa using c_21)) _ _ hP hS ls (lv_sub hl [0, 1] rfl)
  · refine u_top (y := nI 1) (by rw [decide_eq_false hq0]; rfl) ?_
    refine lv_if_ne (tgt := 36) hx hb dX2_noLetter_4 (by decide) (fun c_4 => ?_) (fun c_4 => absurd c_4 (by decide))
    refine lv_iconst (v := nI 1) hx hb dX2_noLetter_36 (by decide) ?_
    refine lv_goto (tgt := 41) hx hb dX2_noLetter_37 (by decide) ?_
    exact hret _ _ _ _ _ (by rw [show thC [(lo (M 0 1), 1), (inZ x.toInt 0 ((ln (M 2) : Int) - 1), 2)] = thC [(lo (M 0 1), 1)] from thC_pre (L1 := [(lo (M 0 1), 1)]) (L2 := [(inZ x.toInt 0 ((ln (M 2) : Int) - 1), 2)]) hq0]; rw [decide_eq_false hq0]; rfl) (by rw [show thC [(lo (M 0 1), 1), (inZ x.toInt 0 ((ln (M 2) : Int) - 1), 2)] = thC [(lo (M 0 1), 1)] from thC_pre (L1 := [(lo (M 0 1), 1)]) (L2 := [(inZ x.toInt 0 ((ln (M 2) : Int) - 1), 2)]) hq0]; exact hP) hS dX2_noLetter_41
theorem k_X2_noLetter (hJ : mJ a) {x : Int32} (hS1 : SWf (M 2)) (SF : CallFix p m c cc nL s args lw_all RX2) (hK : KK dC dI dA s) (rk : rmOK 3 R) (hsz : ls.size = nL) (hcat : (rest.map fun v => v.category).sum ≤ 8) (hP : mP dC dI dA a M H) (hS : uS (mA a) H0 H locs) (hdg : decode cc pc = .ok (.invokevirtual 299, 3)) (k : ∀ (H1 : Heap) (locs1 : List Loc), mP dC dI dA a (mrow M 0 (upd (M 0) 0 (nI (thC [(lo (M 0 1), 1), (inZ x.toInt 0 ((ln (M 2) : Int) - 1), 2)])))) H1 → uS (mA a) H0 H1 locs1 → W p l e R s m args below meth c H1 locs1 0 0 Q (F0 m (pc + 3) ls (.int (nI (!decide (thC [(lo (M 0 1), 1), (inZ x.toInt 0 ((ln (M 2) : Int) - 1), 2)] = 0)).toNat) :: rest))) : W p l e R s m args below meth c H locs 0 0 Q (F0 m pc ls (.int x :: .ref (a 0) :: rest)) :=
  u_runM (u_rV (C := RX2) (Ψ := (mP dC dI dA a M)) (As := [.int x]) SF hK rk (c_X2_noLetter l dC dI dA a M hJ x hS1) (lw_V q2303 q2305 qs92 q117 q2306) (n := 1) (by decide +kernel) rfl (by decide) (va_recv hK hP (ci := 2) (q0 := 0) rfl rfl) hP hsz hcat ⟨Nat.zero_le _, Nat.zero_le _⟩ rfl hdg) hS (fun _ h => h) (fun H1 locs1 h1 h2 _ => k H1 locs1 h1 h2)

set_option maxHeartbeats 4000000 in
theorem c_X2_noPlace (l : Launch) (dC : Nat → ClassId) (dI : Nat → Nat → Nat) (dA : Nat → ClassId) (a : Nat → Nat) (M : Nat → Nat → Int32) (hJ : mJ a) (x : Int32) (y : Int32) (hS1 : SWf (M 2)) : Met l yX2_noPlace (ws_ yX2_noPlace cX2_noPlace 3 (some .boolean)) (rmD 3 0 0) (uPc [.ref (a 0), .int x, .int y] (mP dC dI dA a M) dC dI dA) (uMi (mA a) (nI (!decide (thC [(lo (M 0 1), 1), (inZ x.toInt 0 ((ln (M 2) : Int) - 1), 2), (inZ y.toInt 0 4, 2)] = 0)).toNat) (mP dC dI dA a (mrow M 0 (upd (M 0) 0 (nI (thC [(lo (M 0 1), 1), (inZ x.toInt 0 ((ln (M 2) : Int) - 1), 2), (inZ y.toInt 0 4, 2)])))))) 0 0 (mA a) := by
  refine u_metMz (own := RX2) (by decide) rfl (Nat.le_of_ble_eq_true rfl) fun p e R s m args below meth c Q SF rk hP hK hret ls hl => ?_
  have hx := SF.1
  have hb := SF.2.1
  have hml := SF.2.2.1
  have hown := SF.2.2.2.1
  have hts := SF.2.2.2.2
  have hS : uS (mA a) s.heap s.heap [] := uS.rf
  have hl : lv_has ls 3 [(0, .ref (a 0)), (1, .int x), (2, .int y)] := hl
  have hL := hS1.2.1
  refine lv_aload_n hx hb dX2_noPlace_0 rfl (lv_at hl 0 rfl) ?_
  refine lv_iload_n hx hb dX2_noPlace_1 rfl (lv_at hl 1 rfl) ?_
  refine k_X2_noLetter  hJ hS1 SF hK (rk.le (Nat.le_of_ble_eq_true rfl)) hl.1 (Nat.le_of_ble_eq_true rfl) hP hS dX2_noPlace_2 (fun H locs hP hS => ?_)
  have hP : mP dC dI dA a (mrow M 0 (upd (M 0) 0 (nI (thC [(lo (M 0 1), 1), (inZ x.toInt 0 ((ln (M 2) : Int) - 1), 2)])))) H := hP
  by_cases hq0 : thC [(lo (M 0 1), 1), (inZ x.toInt 0 ((ln (M 2) : Int) - 1), 2)] = 0
  · obtain ⟨hz0, hz1⟩ := thC_2 hq0
    refine u_top (y := nI 0) (by rw [hq0]; rfl) ?_
    rw [hq0] at hP
    have hP : mP dC dI dA a (mrow M 0 (upd (M 0) 0 (nI 0))) H := hP
    refine lv_if_ne (tgt := 28) hx hb dX2_noPlace_5 (by decide) (fun c_5 => absurd (by decide) c_5) (fun c_5 => ?_)
    refine lv_aload_n hx hb dX2_noPlace_8 rfl (lv_at hl 0 rfl) ?_
    refine lv_iload_n hx hb dX2_noPlace_9 rfl (lv_at hl 2 rfl) ?_
    refine k_X2_isPlace   SF hK (rk.le (Nat.le_of_ble_eq_true rfl)) hl.1 (Nat.le_of_ble_eq_true rfl) dX2_noPlace_10 ?_
    have jn21 : ∀ v9 : Int32, v9 = nI ((!(inZ y.toInt 0 4)).toNat) → ∀ (H : Heap) (locs : List Loc), mP dC dI dA a (mrow M 0 (upd (M 0) 0 (nI 0))) H → uS (mA a) s.heap H locs → ∀ ls : Array Slot, lv_has ls 3 [(0, .ref (a 0)), (1, .int x), (2, .int y)] → W p l e R s m args below meth c H locs 0 0 Q (F0 m 21 ls [.int v9, .ref (a 0)]) := by
      intro v9 hv9 H locs hP hS ls hl
      subst hv9
      refine lv_iconst (v := nI 2) hx hb dX2_noPlace_21 (by decide) ?_
      refine k_X2_refuse (M := mrow M 0 (upd (M 0) 0 (nI 0)))  hJ  SF hK (rk.le (Nat.le_of_ble_eq_true rfl)) hl.1 (Nat.le_of_ble_eq_true rfl) hP hS dX2_noPlace_22 (fun H locs hP hS => ?_)
      refine u_top (y := nI ((!decide (rfT ((nI 0)) (!(inZ y.toInt 0 4)) (nI 2) = 0)).toNat)) rfl ?_
      have hP : mP dC dI dA a (mrow M 0 (upd (M 0) 0 (rfT ((nI 0)) (!(inZ y.toInt 0 4)) (nI 2)))) H := hP
      cases hq2 : (!(inZ y.toInt 0 4))
      · have hz2 : (inZ y.toInt 0 4) = true := by first | simpa using hq2 | simpa [lo] using hq2
        rw [hq2, rfT_f] at hP
        refine u_top (y := nI 0) (by rw [rfT_f]; rfl) ?_
        have hP : mP dC dI dA a (mrow M 0 (upd (M 0) 0 (nI 0))) H := hP
        have jn33 : ∀ v9 : Int32, v9 = nI ((!decide (0 = 0)).toNat) → ∀ (H : Heap) (locs : List Loc), mP dC dI dA a (mrow M 0 (upd (M 0) 0 (nI 0))) H → uS (mA a) s.heap H locs → ∀ ls : Array Slot, lv_has ls 3 [(0, .ref (a 0)), (1, .int x), (2, .int y)] → W p l e R s m args below meth c H locs 0 0 Q (F0 m 33 ls [.int v9]) := by
          intro v9 hv9 H locs hP hS ls hl
          subst hv9
          exact hret _ _ _ _ _ (by rw [hz0, hz1, hz2]; rfl) (by rw [hz0, hz1, hz2]; exact hP) hS dX2_noPlace_33
        refine lv_if_eq (tgt := 32) hx hb dX2_noPlace_25 (by decide) (fun c_25 => ?_) (fun c_25 => ?_)
        · have c_25 : 0 = 0 := (nI_eq (a := 0) (b := 0) (by omega) (by omega)).mp c_25
          refine lv_iconst (v := nI 0) hx hb dX2_noPlace_32 (by decide) ?_
          exact jn33 _ (u_n0 c_25) _ _ hP hS ls (lv_sub hl [0, 1, 2] rfl)
        · have c_25 : ¬ (0 = 0) := fun q9 => c_25 ((nI_eq (a := 0) (b := 0) (by omega) (by omega)).mpr q9)
          refine lv_iconst (v := nI 1) hx hb dX2_noPlace_28 (by decide) ?_
          refine lv_goto (tgt := 33) hx hb dX2_noPlace_29 (by decide) ?_
          exact jn33 _ (u_n1 c_25) _ _ hP hS ls (lv_sub hl [0, 1, 2] rfl)
      · have hz2 : (inZ y.toInt 0 4) = false := by first | simpa using hq2 | simpa [lo] using hq2
        rw [hq2, rfT_t] at hP
        refine u_top (y := nI 1) (by rw [rfT_t]; rfl) ?_
        have hP : mP dC dI dA a (mrow M 0 (upd (M 0) 0 (nI 2))) H := hP
        have jn33_2 : ∀ v9 : Int32, v9 = nI ((!decide (1 = 0)).toNat) → ∀ (H : Heap) (locs : List Loc), mP dC dI dA a (mrow M 0 (upd (M 0) 0 (nI 2))) H → uS (mA a) s.heap H locs → ∀ ls : Array Slot, lv_has ls 3 [(0, .ref (a 0)), (1, .int x), (2, .int y)] → W p l e R s m args below meth c H locs 0 0 Q (F0 m 33 ls [.int v9]) := by
          intro v9 hv9 H locs hP hS ls hl
          subst hv9
          exact hret _ _ _ _ _ (by rw [hz0, hz1, hz2]; rfl) (by rw [hz0, hz1, hz2]; exact hP) hS dX2_noPlace_33
        refine lv_if_eq (tgt := 32) hx hb dX2_noPlace_25 (by decide) (fun c_25 => ?_) (fun c_25 => ?_)
        · have c_25 : 1 = 0 := (nI_eq (a := 1) (b := 0) (by omega) (by omega)).mp c_25
          refine lv_iconst (v := nI 0) hx hb dX2_noPlace_32 (by decide) ?_
          exact jn33_2 _ (u_n0 c_25) _ _ hP hS ls (lv_sub hl [0, 1, 2] rfl)
        · have c_25 : ¬ (1 = 0) := fun q9 => c_25 ((nI_eq (a := 1) (b := 0) (by omega) (by omega)).mpr q9)
          refine lv_iconst (v := nI 1) hx hb dX2_noPlace_28 (by decide) ?_
          refine lv_goto (tgt := 33) hx hb dX2_noPlace_29 (by decide) ?_
          exact jn33_2 _ (u_n1 c_25) _ _ hP hS ls (lv_sub hl [0, 1, 2] rfl)
    refine lv_if_ne (tgt := 20) hx hb dX2_noPlace_13 (by decide) (fun c_13 => ?_) (fun c_13 => ?_)
    · have c_13 : ¬ ((inZ y.toInt 0 4) = false) := fun q9 => c_13 (u_zb.mpr q9)
      refine lv_iconst (v := nI 0) hx hb dX2_noPlace_20 (by decide) ?_
      exact jn21 _ (u_ff (by simp [c_13])) _ _ hP hS ls (lv_sub hl [0, 1, 2] rfl)
    · have c_13 : (inZ y.toInt 0 4) = false := u_zb.mp c_13
      refine lv_iconst (v := nI 1) hx hb dX2_noPlace_16 (by decide) ?_
      refine lv_goto (tgt := 21) hx hb dX2_noPlace_17 (by decide) ?_
      exact jn21 _ (u_tt (by simpa using c_13)) _ _ hP hS ls (lv_sub hl [0, 1, 2] rfl)
  · refine u_top (y := nI 1) (by rw [decide_eq_false hq0]; rfl) ?_
    refine lv_if_ne (tgt := 28) hx hb dX2_noPlace_5 (by decide) (fun c_5 => ?_) (fun c_5 => absurd c_5 (by decide))
    refine lv_iconst (v := nI 1) hx hb dX2_noPlace_28 (by decide) ?_
    refine lv_goto (tgt := 33) hx hb dX2_noPlace_29 (by decide) ?_
    exact hret _ _ _ _ _ (by rw [show thC [(lo (M 0 1), 1), (inZ x.toInt 0 ((ln (M 2) : Int) - 1), 2), (inZ y.toInt 0 4, 2)] = thC [(lo (M 0 1), 1), (inZ x.toInt 0 ((ln (M 2) : Int) - 1), 2)] from thC_pre (L1 := [(lo (M 0 1), 1), (inZ x.toInt 0 ((ln (M 2) : Int) - 1), 2)]) (L2 := [(inZ y.toInt 0 4, 2)]) hq0]; rw [decide_eq_false hq0]; rfl) (by rw [show thC [(lo (M 0 1), 1), (inZ x.toInt 0 ((ln (M 2) : Int) - 1), 2), (inZ y.toInt 0 4, 2)] = thC [(lo (M 0 1), 1), (inZ x.toInt 0 ((ln (M 2) : Int) - 1), 2)] from thC_pre (L1 := [(lo (M 0 1), 1), (inZ x.toInt 0 ((ln (M 2) : Int) - 1), 2)]) (L2 := [(inZ y.toInt 0 4, 2)]) hq0]; exact hP) hS dX2_noPlace_33
theorem k_X2_noPlace (hJ : mJ a) {x : Int32} {y : Int32} (hS1 : SWf (M 2)) (SF : CallFix p m c cc nL s args lw_all RX2) (hK : KK dC dI dA s) (rk : rmOK 4 R) (hsz : ls.size = nL) (hcat : (rest.map fun v => v.category).sum ≤ 8) (hP : mP dC dI dA a M H) (hS : uS (mA a) H0 H locs) (hdg : decode cc pc = .ok (.invokevirtual 304, 3)) (k : ∀ (H1 : Heap) (locs1 : List Loc), mP dC dI dA a (mrow M 0 (upd (M 0) 0 (nI (thC [(lo (M 0 1), 1), (inZ x.toInt 0 ((ln (M 2) : Int) - 1), 2), (inZ y.toInt 0 4, 2)])))) H1 → uS (mA a) H0 H1 locs1 → W p l e R s m args below meth c H1 locs1 0 0 Q (F0 m (pc + 3) ls (.int (nI (!decide (thC [(lo (M 0 1), 1), (inZ x.toInt 0 ((ln (M 2) : Int) - 1), 2), (inZ y.toInt 0 4, 2)] = 0)).toNat) :: rest))) : W p l e R s m args below meth c H locs 0 0 Q (F0 m pc ls (.int y :: .int x :: .ref (a 0) :: rest)) :=
  u_runM (u_rV (C := RX2) (Ψ := (mP dC dI dA a M)) (As := [.int x, .int y]) SF hK rk (c_X2_noPlace l dC dI dA a M hJ x y hS1) (lw_V q2312 q2314 qs93 q117 q2315) (n := 2) (by decide +kernel) rfl (by decide) (va_recv hK hP (ci := 2) (q0 := 0) rfl rfl) hP hsz hcat ⟨Nat.zero_le _, Nat.zero_le _⟩ rfl hdg) hS (fun _ h => h) (fun H1 locs1 h1 h2 _ => k H1 locs1 h1 h2)

set_option maxHeartbeats 4000000 in
theorem c_X2_noBundle (l : Launch) (dC : Nat → ClassId) (dI : Nat → Nat → Nat) (dA : Nat → ClassId) (a : Nat → Nat) (M : Nat → Nat → Int32) (hJ : mJ a) (x : Int32)  : Met l yX2_noBundle (ws_ yX2_noBundle cX2_noBundle 2 (some .boolean)) (rmD 2 0 0) (uPc [.ref (a 0), .int x] (mP dC dI dA a M) dC dI dA) (uMi (mA a) (nI (!decide (thC [(lo (M 0 1), 1), (inZ x.toInt 0 5, 2)] = 0)).toNat) (mP dC dI dA a (mrow M 0 (upd (M 0) 0 (nI (thC [(lo (M 0 1), 1), (inZ x.toInt 0 5, 2)])))))) 0 0 (mA a) := by
  refine u_metMz (own := RX2) (by decide) rfl (Nat.le_of_ble_eq_true rfl) fun p e R s m args below meth c Q SF rk hP hK hret ls hl => ?_
  have hx := SF.1
  have hb := SF.2.1
  have hml := SF.2.2.1
  have hown := SF.2.2.2.1
  have hts := SF.2.2.2.2
  have hS : uS (mA a) s.heap s.heap [] := uS.rf
  have hl : lv_has ls 2 [(0, .ref (a 0)), (1, .int x)] := hl
  refine lv_aload_n hx hb dX2_noBundle_0 rfl (lv_at hl 0 rfl) ?_
  refine k_X2_notLoaded  hJ  SF hK (rk.le (Nat.le_of_ble_eq_true rfl)) hl.1 (Nat.le_of_ble_eq_true rfl) hP hS dX2_noBundle_1 (fun H locs hP hS => ?_)
  have hP : mP dC dI dA a (mrow M 0 (upd (M 0) 0 (nI (thC [(lo (M 0 1), 1)])))) H := hP
  by_cases hq0 : thC [(lo (M 0 1), 1)] = 0
  · have hz0 := thC_1 hq0
    refine u_top (y := nI 0) (by rw [hq0]; rfl) ?_
    rw [hq0] at hP
    have hP : mP dC dI dA a (mrow M 0 (upd (M 0) 0 (nI 0))) H := hP
    refine lv_if_ne (tgt := 32) hx hb dX2_noBundle_4 (by decide) (fun c_4 => absurd (by decide) c_4) (fun c_4 => ?_)
    refine lv_aload_n hx hb dX2_noBundle_7 rfl (lv_at hl 0 rfl) ?_
    refine lv_iload_n hx hb dX2_noBundle_8 rfl (lv_at hl 1 rfl) ?_
    refine lv_i2l hx hb dX2_noBundle_9 rfl ?_
    refine lv_lconst (v := 0) hx hb dX2_noBundle_10 rfl ?_
    refine lv_ldc2 (v := 5) hx hb hown (hts _ q2385) dX2_noBundle_11 ?_
    refine k_X2_in (X := x.toInt) (L := 0) (U := 5) (i2l_toInt x) (by decide) (by decide) SF hK (rk.le (Nat.le_of_ble_eq_true rfl)) hl.1 (Nat.le_of_ble_eq_true rfl) dX2_noBundle_14 ?_
    have jn25 : ∀ v9 : Int32, v9 = nI ((!(inZ x.toInt 0 5)).toNat) → ∀ (H : Heap) (locs : List Loc), mP dC dI dA a (mrow M 0 (upd (M 0) 0 (nI 0))) H → uS (mA a) s.heap H locs → ∀ ls : Array Slot, lv_has ls 2 [(0, .ref (a 0)), (1, .int x)] → W p l e R s m args below meth c H locs 0 0 Q (F0 m 25 ls [.int v9, .ref (a 0)]) := by
      intro v9 hv9 H locs hP hS ls hl
      subst hv9
      refine lv_iconst (v := nI 2) hx hb dX2_noBundle_25 (by decide) ?_
      refine k_X2_refuse (M := mrow M 0 (upd (M 0) 0 (nI 0)))  hJ  SF hK (rk.le (Nat.le_of_ble_eq_true rfl)) hl.1 (Nat.le_of_ble_eq_true rfl) hP hS dX2_noBundle_26 (fun H locs hP hS => ?_)
      refine u_top (y := nI ((!decide (rfT ((nI 0)) (!(inZ x.toInt 0 5)) (nI 2) = 0)).toNat)) rfl ?_
      have hP : mP dC dI dA a (mrow M 0 (upd (M 0) 0 (rfT ((nI 0)) (!(inZ x.toInt 0 5)) (nI 2)))) H := hP
      cases hq1 : (!(inZ x.toInt 0 5))
      · have hz1 : (inZ x.toInt 0 5) = true := by first | simpa using hq1 | simpa [lo] using hq1
        rw [hq1, rfT_f] at hP
        refine u_top (y := nI 0) (by rw [rfT_f]; rfl) ?_
        have hP : mP dC dI dA a (mrow M 0 (upd (M 0) 0 (nI 0))) H := hP
        have jn37 : ∀ v9 : Int32, v9 = nI ((!decide (0 = 0)).toNat) → ∀ (H : Heap) (locs : List Loc), mP dC dI dA a (mrow M 0 (upd (M 0) 0 (nI 0))) H → uS (mA a) s.heap H locs → ∀ ls : Array Slot, lv_has ls 2 [(0, .ref (a 0)), (1, .int x)] → W p l e R s m args below meth c H locs 0 0 Q (F0 m 37 ls [.int v9]) := by
          intro v9 hv9 H locs hP hS ls hl
          subst hv9
          exact hret _ _ _ _ _ (by rw [hz0, hz1]; rfl) (by rw [hz0, hz1]; exact hP) hS dX2_noBundle_37
        refine lv_if_eq (tgt := 36) hx hb dX2_noBundle_29 (by decide) (fun c_29 => ?_) (fun c_29 => ?_)
        · have c_29 : 0 = 0 := (nI_eq (a := 0) (b := 0) (by omega) (by omega)).mp c_29
          refine lv_iconst (v := nI 0) hx hb dX2_noBundle_36 (by decide) ?_
          exact jn37 _ (u_n0 c_29) _ _ hP hS ls (lv_sub hl [0, 1] rfl)
        · have c_29 : ¬ (0 = 0) := fun q9 => c_29 ((nI_eq (a := 0) (b := 0) (by omega) (by omega)).mpr q9)
          refine lv_iconst (v := nI 1) hx hb dX2_noBundle_32 (by decide) ?_
          refine lv_goto (tgt := 37) hx hb dX2_noBundle_33 (by decide) ?_
          exact jn37 _ (u_n1 c_29) _ _ hP hS ls (lv_sub hl [0, 1] rfl)
      · have hz1 : (inZ x.toInt 0 5) = false := by first | simpa using hq1 | simpa [lo] using hq1
        rw [hq1, rfT_t] at hP
        refine u_top (y := nI 1) (by rw [rfT_t]; rfl) ?_
        have hP : mP dC dI dA a (mrow M 0 (upd (M 0) 0 (nI 2))) H := hP
        have jn37_2 : ∀ v9 : Int32, v9 = nI ((!decide (1 = 0)).toNat) → ∀ (H : Heap) (locs : List Loc), mP dC dI dA a (mrow M 0 (upd (M 0) 0 (nI 2))) H → uS (mA a) s.heap H locs → ∀ ls : Array Slot, lv_has ls 2 [(0, .ref (a 0)), (1, .int x)] → W p l e R s m args below meth c H locs 0 0 Q (F0 m 37 ls [.int v9]) := by
          intro v9 hv9 H locs hP hS ls hl
          subst hv9
          exact hret _ _ _ _ _ (by rw [hz0, hz1]; rfl) (by rw [hz0, hz1]; exact hP) hS dX2_noBundle_37
        refine lv_if_eq (tgt := 36) hx hb dX2_noBundle_29 (by decide) (fun c_29 => ?_) (fun c_29 => ?_)
        · have c_29 : 1 = 0 := (nI_eq (a := 1) (b := 0) (by omega) (by omega)).mp c_29
          refine lv_iconst (v := nI 0) hx hb dX2_noBundle_36 (by decide) ?_
          exact jn37_2 _ (u_n0 c_29) _ _ hP hS ls (lv_sub hl [0, 1] rfl)
        · have c_29 : ¬ (1 = 0) := fun q9 => c_29 ((nI_eq (a := 1) (b := 0) (by omega) (by omega)).mpr q9)
          refine lv_iconst (v := nI 1) hx hb dX2_noBundle_32 (by decide) ?_
          refine lv_goto (tgt := 37) hx hb dX2_noBundle_33 (by decide) ?_
          exact jn37_2 _ (u_n1 c_29) _ _ hP hS ls (lv_sub hl [0, 1] rfl)
    refine lv_if_ne (tgt := 24) hx hb dX2_noBundle_17 (by decide) (fun c_17 => ?_) (fun c_17 => ?_)
    · have c_17 : ¬ ((inZ x.toInt 0 5) = false) := fun q9 => c_17 (u_zb.mpr q9)
      refine lv_iconst (v := nI 0) hx hb dX2_noBundle_24 (by decide) ?_
      exact jn25 _ (u_ff (by simp [c_17])) _ _ hP hS ls (lv_sub hl [0, 1] rfl)
    · have c_17 : (inZ x.toInt 0 5) = false := u_zb.mp c_17
      refine lv_iconst (v := nI 1) hx hb dX2_noBundle_20 (by decide) ?_
      refine lv_goto (tgt := 25) hx hb dX2_noBundle_21 (by decide) ?_
      exact jn25 _ (u_tt (by simpa using c_17)) _ _ hP hS ls (lv_sub hl [0, 1] rfl)
  · refine u_top (y := nI 1) (by rw [decide_eq_false hq0]; rfl) ?_
    refine lv_if_ne (tgt := 32) hx hb dX2_noBundle_4 (by decide) (fun c_4 => ?_) (fun c_4 => absurd c_4 (by decide))
    refine lv_iconst (v := nI 1) hx hb dX2_noBundle_32 (by decide) ?_
    refine lv_goto (tgt := 37) hx hb dX2_noBundle_33 (by decide) ?_
    exact hret _ _ _ _ _ (by rw [show thC [(lo (M 0 1), 1), (inZ x.toInt 0 5, 2)] = thC [(lo (M 0 1), 1)] from thC_pre (L1 := [(lo (M 0 1), 1)]) (L2 := [(inZ x.toInt 0 5, 2)]) hq0]; rw [decide_eq_false hq0]; rfl) (by rw [show thC [(lo (M 0 1), 1), (inZ x.toInt 0 5, 2)] = thC [(lo (M 0 1), 1)] from thC_pre (L1 := [(lo (M 0 1), 1)]) (L2 := [(inZ x.toInt 0 5, 2)]) hq0]; exact hP) hS dX2_noBundle_37
theorem k_X2_noBundle (hJ : mJ a) {x : Int32}  (SF : CallFix p m c cc nL s args lw_all RX2) (hK : KK dC dI dA s) (rk : rmOK 3 R) (hsz : ls.size = nL) (hcat : (rest.map fun v => v.category).sum ≤ 8) (hP : mP dC dI dA a M H) (hS : uS (mA a) H0 H locs) (hdg : decode cc pc = .ok (.invokevirtual 320, 3)) (k : ∀ (H1 : Heap) (locs1 : List Loc), mP dC dI dA a (mrow M 0 (upd (M 0) 0 (nI (thC [(lo (M 0 1), 1), (inZ x.toInt 0 5, 2)])))) H1 → uS (mA a) H0 H1 locs1 → W p l e R s m args below meth c H1 locs1 0 0 Q (F0 m (pc + 3) ls (.int (nI (!decide (thC [(lo (M 0 1), 1), (inZ x.toInt 0 5, 2)] = 0)).toNat) :: rest))) : W p l e R s m args below meth c H locs 0 0 Q (F0 m pc ls (.int x :: .ref (a 0) :: rest)) :=
  u_runM (u_rV (C := RX2) (Ψ := (mP dC dI dA a M)) (As := [.int x]) SF hK rk (c_X2_noBundle l dC dI dA a M hJ x ) (lw_V q2381 q2383 qs97 q117 q2384) (n := 1) (by decide +kernel) rfl (by decide) (va_recv hK hP (ci := 2) (q0 := 0) rfl rfl) hP hsz hcat ⟨Nat.zero_le _, Nat.zero_le _⟩ rfl hdg) hS (fun _ h => h) (fun H1 locs1 h1 h2 _ => k H1 locs1 h1 h2)

set_option maxHeartbeats 4000000 in
theorem c_X2_noRoute (l : Launch) (dC : Nat → ClassId) (dI : Nat → Nat → Nat) (dA : Nat → ClassId) (a : Nat → Nat) (M : Nat → Nat → Int32) (hJ : mJ a) (x : Int32)  : Met l yX2_noRoute (ws_ yX2_noRoute cX2_noRoute 2 (some .boolean)) (rmD 2 0 0) (uPc [.ref (a 0), .int x] (mP dC dI dA a M) dC dI dA) (uMi (mA a) (nI (!decide (thC [(lo (M 0 1), 1), (inZ x.toInt 0 5, 2)] = 0)).toNat) (mP dC dI dA a (mrow M 0 (upd (M 0) 0 (nI (thC [(lo (M 0 1), 1), (inZ x.toInt 0 5, 2)])))))) 0 0 (mA a) := by
  refine u_metMz (own := RX2) (by decide) rfl (Nat.le_of_ble_eq_true rfl) fun p e R s m args below meth c Q SF rk hP hK hret ls hl => ?_
  have hx := SF.1
  have hb := SF.2.1
  have hml := SF.2.2.1
  have hown := SF.2.2.2.1
  have hts := SF.2.2.2.2
  have hS : uS (mA a) s.heap s.heap [] := uS.rf
  have hl : lv_has ls 2 [(0, .ref (a 0)), (1, .int x)] := hl
  refine lv_aload_n hx hb dX2_noRoute_0 rfl (lv_at hl 0 rfl) ?_
  refine k_X2_notLoaded  hJ  SF hK (rk.le (Nat.le_of_ble_eq_true rfl)) hl.1 (Nat.le_of_ble_eq_true rfl) hP hS dX2_noRoute_1 (fun H locs hP hS => ?_)
  have hP : mP dC dI dA a (mrow M 0 (upd (M 0) 0 (nI (thC [(lo (M 0 1), 1)])))) H := hP
  by_cases hq0 : thC [(lo (M 0 1), 1)] = 0
  · have hz0 := thC_1 hq0
    refine u_top (y := nI 0) (by rw [hq0]; rfl) ?_
    rw [hq0] at hP
    have hP : mP dC dI dA a (mrow M 0 (upd (M 0) 0 (nI 0))) H := hP
    refine lv_if_ne (tgt := 32) hx hb dX2_noRoute_4 (by decide) (fun c_4 => absurd (by decide) c_4) (fun c_4 => ?_)
    refine lv_aload_n hx hb dX2_noRoute_7 rfl (lv_at hl 0 rfl) ?_
    refine lv_iload_n hx hb dX2_noRoute_8 rfl (lv_at hl 1 rfl) ?_
    refine lv_i2l hx hb dX2_noRoute_9 rfl ?_
    refine lv_lconst (v := 0) hx hb dX2_noRoute_10 rfl ?_
    refine lv_ldc2 (v := 5) hx hb hown (hts _ q2385) dX2_noRoute_11 ?_
    refine k_X2_in (X := x.toInt) (L := 0) (U := 5) (i2l_toInt x) (by decide) (by decide) SF hK (rk.le (Nat.le_of_ble_eq_true rfl)) hl.1 (Nat.le_of_ble_eq_true rfl) dX2_noRoute_14 ?_
    have jn25 : ∀ v9 : Int32, v9 = nI ((!(inZ x.toInt 0 5)).toNat) → ∀ (H : Heap) (locs : List Loc), mP dC dI dA a (mrow M 0 (upd (M 0) 0 (nI 0))) H → uS (mA a) s.heap H locs → ∀ ls : Array Slot, lv_has ls 2 [(0, .ref (a 0)), (1, .int x)] → W p l e R s m args below meth c H locs 0 0 Q (F0 m 25 ls [.int v9, .ref (a 0)]) := by
      intro v9 hv9 H locs hP hS ls hl
      subst hv9
      refine lv_iconst (v := nI 2) hx hb dX2_noRoute_25 (by decide) ?_
      refine k_X2_refuse (M := mrow M 0 (upd (M 0) 0 (nI 0)))  hJ  SF hK (rk.le (Nat.le_of_ble_eq_true rfl)) hl.1 (Nat.le_of_ble_eq_true rfl) hP hS dX2_noRoute_26 (fun H locs hP hS => ?_)
      refine u_top (y := nI ((!decide (rfT ((nI 0)) (!(inZ x.toInt 0 5)) (nI 2) = 0)).toNat)) rfl ?_
      have hP : mP dC dI dA a (mrow M 0 (upd (M 0) 0 (rfT ((nI 0)) (!(inZ x.toInt 0 5)) (nI 2)))) H := hP
      cases hq1 : (!(inZ x.toInt 0 5))
      · have hz1 : (inZ x.toInt 0 5) = true := by first | simpa using hq1 | simpa [lo] using hq1
        rw [hq1, rfT_f] at hP
        refine u_top (y := nI 0) (by rw [rfT_f]; rfl) ?_
        have hP : mP dC dI dA a (mrow M 0 (upd (M 0) 0 (nI 0))) H := hP
        have jn37 : ∀ v9 : Int32, v9 = nI ((!decide (0 = 0)).toNat) → ∀ (H : Heap) (locs : List Loc), mP dC dI dA a (mrow M 0 (upd (M 0) 0 (nI 0))) H → uS (mA a) s.heap H locs → ∀ ls : Array Slot, lv_has ls 2 [(0, .ref (a 0)), (1, .int x)] → W p l e R s m args below meth c H locs 0 0 Q (F0 m 37 ls [.int v9]) := by
          intro v9 hv9 H locs hP hS ls hl
          subst hv9
          exact hret _ _ _ _ _ (by rw [hz0, hz1]; rfl) (by rw [hz0, hz1]; exact hP) hS dX2_noRoute_37
        refine lv_if_eq (tgt := 36) hx hb dX2_noRoute_29 (by decide) (fun c_29 => ?_) (fun c_29 => ?_)
        · have c_29 : 0 = 0 := (nI_eq (a := 0) (b := 0) (by omega) (by omega)).mp c_29
          refine lv_iconst (v := nI 0) hx hb dX2_noRoute_36 (by decide) ?_
          exact jn37 _ (u_n0 c_29) _ _ hP hS ls (lv_sub hl [0, 1] rfl)
        · have c_29 : ¬ (0 = 0) := fun q9 => c_29 ((nI_eq (a := 0) (b := 0) (by omega) (by omega)).mpr q9)
          refine lv_iconst (v := nI 1) hx hb dX2_noRoute_32 (by decide) ?_
          refine lv_goto (tgt := 37) hx hb dX2_noRoute_33 (by decide) ?_
          exact jn37 _ (u_n1 c_29) _ _ hP hS ls (lv_sub hl [0, 1] rfl)
      · have hz1 : (inZ x.toInt 0 5) = false := by first | simpa using hq1 | simpa [lo] using hq1
        rw [hq1, rfT_t] at hP
        refine u_top (y := nI 1) (by rw [rfT_t]; rfl) ?_
        have hP : mP dC dI dA a (mrow M 0 (upd (M 0) 0 (nI 2))) H := hP
        have jn37_2 : ∀ v9 : Int32, v9 = nI ((!decide (1 = 0)).toNat) → ∀ (H : Heap) (locs : List Loc), mP dC dI dA a (mrow M 0 (upd (M 0) 0 (nI 2))) H → uS (mA a) s.heap H locs → ∀ ls : Array Slot, lv_has ls 2 [(0, .ref (a 0)), (1, .int x)] → W p l e R s m args below meth c H locs 0 0 Q (F0 m 37 ls [.int v9]) := by
          intro v9 hv9 H locs hP hS ls hl
          subst hv9
          exact hret _ _ _ _ _ (by rw [hz0, hz1]; rfl) (by rw [hz0, hz1]; exact hP) hS dX2_noRoute_37
        refine lv_if_eq (tgt := 36) hx hb dX2_noRoute_29 (by decide) (fun c_29 => ?_) (fun c_29 => ?_)
        · have c_29 : 1 = 0 := (nI_eq (a := 1) (b := 0) (by omega) (by omega)).mp c_29
          refine lv_iconst (v := nI 0) hx hb dX2_noRoute_36 (by decide) ?_
          exact jn37_2 _ (u_n0 c_29) _ _ hP hS ls (lv_sub hl [0, 1] rfl)
        · have c_29 : ¬ (1 = 0) := fun q9 => c_29 ((nI_eq (a := 1) (b := 0) (by omega) (by omega)).mpr q9)
          refine lv_iconst (v := nI 1) hx hb dX2_noRoute_32 (by decide) ?_
          refine lv_goto (tgt := 37) hx hb dX2_noRoute_33 (by decide) ?_
          exact jn37_2 _ (u_n1 c_29) _ _ hP hS ls (lv_sub hl [0, 1] rfl)
    refine lv_if_ne (tgt := 24) hx hb dX2_noRoute_17 (by decide) (fun c_17 => ?_) (fun c_17 => ?_)
    · have c_17 : ¬ ((inZ x.toInt 0 5) = false) := fun q9 => c_17 (u_zb.mpr q9)
      refine lv_iconst (v := nI 0) hx hb dX2_noRoute_24 (by decide) ?_
      exact jn25 _ (u_ff (by simp [c_17])) _ _ hP hS ls (lv_sub hl [0, 1] rfl)
    · have c_17 : (inZ x.toInt 0 5) = false := u_zb.mp c_17
      refine lv_iconst (v := nI 1) hx hb dX2_noRoute_20 (by decide) ?_
      refine lv_goto (tgt := 25) hx hb dX2_noRoute_21 (by decide) ?_
      exact jn25 _ (u_tt (by simpa using c_17)) _ _ hP hS ls (lv_sub hl [0, 1] rfl)
  · refine u_top (y := nI 1) (by rw [decide_eq_false hq0]; rfl) ?_
    refine lv_if_ne (tgt := 32) hx hb dX2_noRoute_4 (by decide) (fun c_4 => ?_) (fun c_4 => absurd c_4 (by decide))
    refine lv_iconst (v := nI 1) hx hb dX2_noRoute_32 (by decide) ?_
    refine lv_goto (tgt := 37) hx hb dX2_noRoute_33 (by decide) ?_
    exact hret _ _ _ _ _ (by rw [show thC [(lo (M 0 1), 1), (inZ x.toInt 0 5, 2)] = thC [(lo (M 0 1), 1)] from thC_pre (L1 := [(lo (M 0 1), 1)]) (L2 := [(inZ x.toInt 0 5, 2)]) hq0]; rw [decide_eq_false hq0]; rfl) (by rw [show thC [(lo (M 0 1), 1), (inZ x.toInt 0 5, 2)] = thC [(lo (M 0 1), 1)] from thC_pre (L1 := [(lo (M 0 1), 1)]) (L2 := [(inZ x.toInt 0 5, 2)]) hq0]; exact hP) hS dX2_noRoute_37
theorem k_X2_noRoute (hJ : mJ a) {x : Int32}  (SF : CallFix p m c cc nL s args lw_all RX2) (hK : KK dC dI dA s) (rk : rmOK 3 R) (hsz : ls.size = nL) (hcat : (rest.map fun v => v.category).sum ≤ 8) (hP : mP dC dI dA a M H) (hS : uS (mA a) H0 H locs) (hdg : decode cc pc = .ok (.invokevirtual 332, 3)) (k : ∀ (H1 : Heap) (locs1 : List Loc), mP dC dI dA a (mrow M 0 (upd (M 0) 0 (nI (thC [(lo (M 0 1), 1), (inZ x.toInt 0 5, 2)])))) H1 → uS (mA a) H0 H1 locs1 → W p l e R s m args below meth c H1 locs1 0 0 Q (F0 m (pc + 3) ls (.int (nI (!decide (thC [(lo (M 0 1), 1), (inZ x.toInt 0 5, 2)] = 0)).toNat) :: rest))) : W p l e R s m args below meth c H locs 0 0 Q (F0 m pc ls (.int x :: .ref (a 0) :: rest)) :=
  u_runM (u_rV (C := RX2) (Ψ := (mP dC dI dA a M)) (As := [.int x]) SF hK rk (c_X2_noRoute l dC dI dA a M hJ x ) (lw_V q2399 q2401 qs100 q117 q2402) (n := 1) (by decide +kernel) rfl (by decide) (va_recv hK hP (ci := 2) (q0 := 0) rfl rfl) hP hsz hcat ⟨Nat.zero_le _, Nat.zero_le _⟩ rfl hdg) hS (fun _ h => h) (fun H1 locs1 h1 h2 _ => k H1 locs1 h1 h2)

set_option maxHeartbeats 4000000 in
theorem c_X2_noLimit (l : Launch) (dC : Nat → ClassId) (dI : Nat → Nat → Nat) (dA : Nat → ClassId) (a : Nat → Nat) (M : Nat → Nat → Int32) (hJ : mJ a) (x : Int32)  : Met l yX2_noLimit (ws_ yX2_noLimit cX2_noLimit 2 (some .boolean)) (rmD 2 0 0) (uPc [.ref (a 0), .int x] (mP dC dI dA a M) dC dI dA) (uMi (mA a) (nI (!decide (thC [(lo (M 0 1), 1), (inZ x.toInt 0 8, 2)] = 0)).toNat) (mP dC dI dA a (mrow M 0 (upd (M 0) 0 (nI (thC [(lo (M 0 1), 1), (inZ x.toInt 0 8, 2)])))))) 0 0 (mA a) := by
  refine u_metMz (own := RX2) (by decide) rfl (Nat.le_of_ble_eq_true rfl) fun p e R s m args below meth c Q SF rk hP hK hret ls hl => ?_
  have hx := SF.1
  have hb := SF.2.1
  have hml := SF.2.2.1
  have hown := SF.2.2.2.1
  have hts := SF.2.2.2.2
  have hS : uS (mA a) s.heap s.heap [] := uS.rf
  have hl : lv_has ls 2 [(0, .ref (a 0)), (1, .int x)] := hl
  refine lv_aload_n hx hb dX2_noLimit_0 rfl (lv_at hl 0 rfl) ?_
  refine k_X2_notLoaded  hJ  SF hK (rk.le (Nat.le_of_ble_eq_true rfl)) hl.1 (Nat.le_of_ble_eq_true rfl) hP hS dX2_noLimit_1 (fun H locs hP hS => ?_)
  have hP : mP dC dI dA a (mrow M 0 (upd (M 0) 0 (nI (thC [(lo (M 0 1), 1)])))) H := hP
  by_cases hq0 : thC [(lo (M 0 1), 1)] = 0
  · have hz0 := thC_1 hq0
    refine u_top (y := nI 0) (by rw [hq0]; rfl) ?_
    rw [hq0] at hP
    have hP : mP dC dI dA a (mrow M 0 (upd (M 0) 0 (nI 0))) H := hP
    refine lv_if_ne (tgt := 32) hx hb dX2_noLimit_4 (by decide) (fun c_4 => absurd (by decide) c_4) (fun c_4 => ?_)
    refine lv_aload_n hx hb dX2_noLimit_7 rfl (lv_at hl 0 rfl) ?_
    refine lv_iload_n hx hb dX2_noLimit_8 rfl (lv_at hl 1 rfl) ?_
    refine lv_i2l hx hb dX2_noLimit_9 rfl ?_
    refine lv_lconst (v := 0) hx hb dX2_noLimit_10 rfl ?_
    refine lv_ldc2 (v := 8) hx hb hown (hts _ q2434) dX2_noLimit_11 ?_
    refine k_X2_in (X := x.toInt) (L := 0) (U := 8) (i2l_toInt x) (by decide) (by decide) SF hK (rk.le (Nat.le_of_ble_eq_true rfl)) hl.1 (Nat.le_of_ble_eq_true rfl) dX2_noLimit_14 ?_
    have jn25 : ∀ v9 : Int32, v9 = nI ((!(inZ x.toInt 0 8)).toNat) → ∀ (H : Heap) (locs : List Loc), mP dC dI dA a (mrow M 0 (upd (M 0) 0 (nI 0))) H → uS (mA a) s.heap H locs → ∀ ls : Array Slot, lv_has ls 2 [(0, .ref (a 0)), (1, .int x)] → W p l e R s m args below meth c H locs 0 0 Q (F0 m 25 ls [.int v9, .ref (a 0)]) := by
      intro v9 hv9 H locs hP hS ls hl
      subst hv9
      refine lv_iconst (v := nI 2) hx hb dX2_noLimit_25 (by decide) ?_
      refine k_X2_refuse (M := mrow M 0 (upd (M 0) 0 (nI 0)))  hJ  SF hK (rk.le (Nat.le_of_ble_eq_true rfl)) hl.1 (Nat.le_of_ble_eq_true rfl) hP hS dX2_noLimit_26 (fun H locs hP hS => ?_)
      refine u_top (y := nI ((!decide (rfT ((nI 0)) (!(inZ x.toInt 0 8)) (nI 2) = 0)).toNat)) rfl ?_
      have hP : mP dC dI dA a (mrow M 0 (upd (M 0) 0 (rfT ((nI 0)) (!(inZ x.toInt 0 8)) (nI 2)))) H := hP
      cases hq1 : (!(inZ x.toInt 0 8))
      · have hz1 : (inZ x.toInt 0 8) = true := by first | simpa using hq1 | simpa [lo] using hq1
        rw [hq1, rfT_f] at hP
        refine u_top (y := nI 0) (by rw [rfT_f]; rfl) ?_
        have hP : mP dC dI dA a (mrow M 0 (upd (M 0) 0 (nI 0))) H := hP
        have jn37 : ∀ v9 : Int32, v9 = nI ((!decide (0 = 0)).toNat) → ∀ (H : Heap) (locs : List Loc), mP dC dI dA a (mrow M 0 (upd (M 0) 0 (nI 0))) H → uS (mA a) s.heap H locs → ∀ ls : Array Slot, lv_has ls 2 [(0, .ref (a 0)), (1, .int x)] → W p l e R s m args below meth c H locs 0 0 Q (F0 m 37 ls [.int v9]) := by
          intro v9 hv9 H locs hP hS ls hl
          subst hv9
          exact hret _ _ _ _ _ (by rw [hz0, hz1]; rfl) (by rw [hz0, hz1]; exact hP) hS dX2_noLimit_37
        refine lv_if_eq (tgt := 36) hx hb dX2_noLimit_29 (by decide) (fun c_29 => ?_) (fun c_29 => ?_)
        · have c_29 : 0 = 0 := (nI_eq (a := 0) (b := 0) (by omega) (by omega)).mp c_29
          refine lv_iconst (v := nI 0) hx hb dX2_noLimit_36 (by decide) ?_
          exact jn37 _ (u_n0 c_29) _ _ hP hS ls (lv_sub hl [0, 1] rfl)
        · have c_29 : ¬ (0 = 0) := fun q9 => c_29 ((nI_eq (a := 0) (b := 0) (by omega) (by omega)).mpr q9)
          refine lv_iconst (v := nI 1) hx hb dX2_noLimit_32 (by decide) ?_
          refine lv_goto (tgt := 37) hx hb dX2_noLimit_33 (by decide) ?_
          exact jn37 _ (u_n1 c_29) _ _ hP hS ls (lv_sub hl [0, 1] rfl)
      · have hz1 : (inZ x.toInt 0 8) = false := by first | simpa using hq1 | simpa [lo] using hq1
        rw [hq1, rfT_t] at hP
        refine u_top (y := nI 1) (by rw [rfT_t]; rfl) ?_
        have hP : mP dC dI dA a (mrow M 0 (upd (M 0) 0 (nI 2))) H := hP
        have jn37_2 : ∀ v9 : Int32, v9 = nI ((!decide (1 = 0)).toNat) → ∀ (H : Heap) (locs : List Loc), mP dC dI dA a (mrow M 0 (upd (M 0) 0 (nI 2))) H → uS (mA a) s.heap H locs → ∀ ls : Array Slot, lv_has ls 2 [(0, .ref (a 0)), (1, .int x)] → W p l e R s m args below meth c H locs 0 0 Q (F0 m 37 ls [.int v9]) := by
          intro v9 hv9 H locs hP hS ls hl
          subst hv9
          exact hret _ _ _ _ _ (by rw [hz0, hz1]; rfl) (by rw [hz0, hz1]; exact hP) hS dX2_noLimit_37
        refine lv_if_eq (tgt := 36) hx hb dX2_noLimit_29 (by decide) (fun c_29 => ?_) (fun c_29 => ?_)
        · have c_29 : 1 = 0 := (nI_eq (a := 1) (b := 0) (by omega) (by omega)).mp c_29
          refine lv_iconst (v := nI 0) hx hb dX2_noLimit_36 (by decide) ?_
          exact jn37_2 _ (u_n0 c_29) _ _ hP hS ls (lv_sub hl [0, 1] rfl)
        · have c_29 : ¬ (1 = 0) := fun q9 => c_29 ((nI_eq (a := 1) (b := 0) (by omega) (by omega)).mpr q9)
          refine lv_iconst (v := nI 1) hx hb dX2_noLimit_32 (by decide) ?_
          refine lv_goto (tgt := 37) hx hb dX2_noLimit_33 (by decide) ?_
          exact jn37_2 _ (u_n1 c_29) _ _ hP hS ls (lv_sub hl [0, 1] rfl)
    refine lv_if_ne (tgt := 24) hx hb dX2_noLimit_17 (by decide) (fun c_17 => ?_) (fun c_17 => ?_)
    · have c_17 : ¬ ((inZ x.toInt 0 8) = false) := fun q9 => c_17 (u_zb.mpr q9)
      refine lv_iconst (v := nI 0) hx hb dX2_noLimit_24 (by decide) ?_
      exact jn25 _ (u_ff (by simp [c_17])) _ _ hP hS ls (lv_sub hl [0, 1] rfl)
    · have c_17 : (inZ x.toInt 0 8) = false := u_zb.mp c_17
      refine lv_iconst (v := nI 1) hx hb dX2_noLimit_20 (by decide) ?_
      refine lv_goto (tgt := 25) hx hb dX2_noLimit_21 (by decide) ?_
      exact jn25 _ (u_tt (by simpa using c_17)) _ _ hP hS ls (lv_sub hl [0, 1] rfl)
  · refine u_top (y := nI 1) (by rw [decide_eq_false hq0]; rfl) ?_
    refine lv_if_ne (tgt := 32) hx hb dX2_noLimit_4 (by decide) (fun c_4 => ?_) (fun c_4 => absurd c_4 (by decide))
    refine lv_iconst (v := nI 1) hx hb dX2_noLimit_32 (by decide) ?_
    refine lv_goto (tgt := 37) hx hb dX2_noLimit_33 (by decide) ?_
    exact hret _ _ _ _ _ (by rw [show thC [(lo (M 0 1), 1), (inZ x.toInt 0 8, 2)] = thC [(lo (M 0 1), 1)] from thC_pre (L1 := [(lo (M 0 1), 1)]) (L2 := [(inZ x.toInt 0 8, 2)]) hq0]; rw [decide_eq_false hq0]; rfl) (by rw [show thC [(lo (M 0 1), 1), (inZ x.toInt 0 8, 2)] = thC [(lo (M 0 1), 1)] from thC_pre (L1 := [(lo (M 0 1), 1)]) (L2 := [(inZ x.toInt 0 8, 2)]) hq0]; exact hP) hS dX2_noLimit_37
theorem k_X2_noLimit (hJ : mJ a) {x : Int32}  (SF : CallFix p m c cc nL s args lw_all RX2) (hK : KK dC dI dA s) (rk : rmOK 3 R) (hsz : ls.size = nL) (hcat : (rest.map fun v => v.category).sum ≤ 8) (hP : mP dC dI dA a M H) (hS : uS (mA a) H0 H locs) (hdg : decode cc pc = .ok (.invokevirtual 351, 3)) (k : ∀ (H1 : Heap) (locs1 : List Loc), mP dC dI dA a (mrow M 0 (upd (M 0) 0 (nI (thC [(lo (M 0 1), 1), (inZ x.toInt 0 8, 2)])))) H1 → uS (mA a) H0 H1 locs1 → W p l e R s m args below meth c H1 locs1 0 0 Q (F0 m (pc + 3) ls (.int (nI (!decide (thC [(lo (M 0 1), 1), (inZ x.toInt 0 8, 2)] = 0)).toNat) :: rest))) : W p l e R s m args below meth c H locs 0 0 Q (F0 m pc ls (.int x :: .ref (a 0) :: rest)) :=
  u_runM (u_rV (C := RX2) (Ψ := (mP dC dI dA a M)) (As := [.int x]) SF hK rk (c_X2_noLimit l dC dI dA a M hJ x ) (lw_V q2430 q2432 qs103 q117 q2433) (n := 1) (by decide +kernel) rfl (by decide) (va_recv hK hP (ci := 2) (q0 := 0) rfl rfl) hP hsz hcat ⟨Nat.zero_le _, Nat.zero_le _⟩ rfl hdg) hS (fun _ h => h) (fun H1 locs1 h1 h2 _ => k H1 locs1 h1 h2)

set_option maxHeartbeats 4000000 in
theorem c_X2_noWaiting (l : Launch) (dC : Nat → ClassId) (dI : Nat → Nat → Nat) (dA : Nat → ClassId) (a : Nat → Nat) (M : Nat → Nat → Int32) (hJ : mJ a) (x : Int32) (hS1 : SWf (M 2)) : Met l yX2_noWaiting (ws_ yX2_noWaiting cX2_noWaiting 2 (some .boolean)) (rmD 3 0 0) (uPc [.ref (a 0), .int x] (mP dC dI dA a M) dC dI dA) (uMi (mA a) (nI (!decide (thC [(lo (M 0 1), 1), (inZ x.toInt 0 ((ln (M 2) : Int) - 1), 2), (decide (lr (M 2) x.toNatClampNeg 6 = 0), 3)] = 0)).toNat) (mP dC dI dA a (mrow M 0 (upd (M 0) 0 (nI (thC [(lo (M 0 1), 1), (inZ x.toInt 0 ((ln (M 2) : Int) - 1), 2), (decide (lr (M 2) x.toNatClampNeg 6 = 0), 3)])))))) 0 0 (mA a) := by
  refine u_metMz (own := RX2) (by decide) rfl (Nat.le_of_ble_eq_true rfl) fun p e R s m args below meth c Q SF rk hP hK hret ls hl => ?_
  have hx := SF.1
  have hb := SF.2.1
  have hml := SF.2.2.1
  have hown := SF.2.2.2.1
  have hts := SF.2.2.2.2
  have hS : uS (mA a) s.heap s.heap [] := uS.rf
  have hl : lv_has ls 2 [(0, .ref (a 0)), (1, .int x)] := hl
  have hL := hS1.2.1
  refine lv_aload_n hx hb dX2_noWaiting_0 rfl (lv_at hl 0 rfl) ?_
  refine lv_iload_n hx hb dX2_noWaiting_1 rfl (lv_at hl 1 rfl) ?_
  refine k_X2_noLetter  hJ hS1 SF hK (rk.le (Nat.le_of_ble_eq_true rfl)) hl.1 (Nat.le_of_ble_eq_true rfl) hP hS dX2_noWaiting_2 (fun H locs hP hS => ?_)
  have hP : mP dC dI dA a (mrow M 0 (upd (M 0) 0 (nI (thC [(lo (M 0 1), 1), (inZ x.toInt 0 ((ln (M 2) : Int) - 1), 2)])))) H := hP
  by_cases hq0 : thC [(lo (M 0 1), 1), (inZ x.toInt 0 ((ln (M 2) : Int) - 1), 2)] = 0
  · obtain ⟨hz0, hz1⟩ := thC_2 hq0
    refine u_top (y := nI 0) (by rw [hq0]; rfl) ?_
    rw [hq0] at hP
    have hP : mP dC dI dA a (mrow M 0 (upd (M 0) 0 (nI 0))) H := hP
    obtain ⟨lt, hlt_lt, hsm_lt, rfl⟩ := inZ_n hz1
    have hcl_lt : (nI lt).toNatClampNeg = lt := nI_clamp (by omega)
    have hP : mP dC dI dA a (mrow M 0 (upd (M 0) 0 (nI 0))) H := by assumption
    refine lv_if_ne (tgt := 31) hx hb dX2_noWaiting_5 (by decide) (fun c_5 => absurd (by decide) c_5) (fun c_5 => ?_)
    refine lv_aload_n hx hb dX2_noWaiting_8 rfl (lv_at hl 0 rfl) ?_
    refine lv_aload_n hx hb dX2_noWaiting_9 rfl (lv_at hl 0 rfl) ?_
    refine lv_iload_n hx hb dX2_noWaiting_10 rfl (lv_at hl 1 rfl) ?_
    refine lv_bipush (v := nI 6) hx hb dX2_noWaiting_11 (by decide) ?_
    refine k_X2_l (M := mrow M 0 (upd (M 0) 0 (nI 0)))  (show lt < 24 by omega) (show 6 < 10 by omega) SF hK (rk.le (Nat.le_of_ble_eq_true rfl)) hl.1 (Nat.le_of_ble_eq_true rfl) hP dX2_noWaiting_13 ?_
    refine u_top (y := lr (M 2) lt 6) rfl ?_
    have jn24 : ∀ v9 : Int32, v9 = nI ((!decide (lr (M 2) lt 6 = 0)).toNat) → ∀ (H : Heap) (locs : List Loc), mP dC dI dA a (mrow M 0 (upd (M 0) 0 (nI 0))) H → uS (mA a) s.heap H locs → ∀ ls : Array Slot, lv_has ls 2 [(0, .ref (a 0)), (1, .int (nI lt))] → W p l e R s m args below meth c H locs 0 0 Q (F0 m 24 ls [.int v9, .ref (a 0)]) := by
      intro v9 hv9 H locs hP hS ls hl
      subst hv9
      refine lv_iconst (v := nI 3) hx hb dX2_noWaiting_24 (by decide) ?_
      refine k_X2_refuse (M := mrow M 0 (upd (M 0) 0 (nI 0)))  hJ  SF hK (rk.le (Nat.le_of_ble_eq_true rfl)) hl.1 (Nat.le_of_ble_eq_true rfl) hP hS dX2_noWaiting_25 (fun H locs hP hS => ?_)
      refine u_top (y := nI ((!decide (rfT ((nI 0)) (!decide (lr (M 2) lt 6 = 0)) (nI 3) = 0)).toNat)) rfl ?_
      have hP : mP dC dI dA a (mrow M 0 (upd (M 0) 0 (rfT ((nI 0)) (!decide (lr (M 2) lt 6 = 0)) (nI 3)))) H := hP
      cases hq2 : (!decide (lr (M 2) lt 6 = 0))
      · have hz2 : (decide (lr (M 2) (nI lt).toNatClampNeg 6 = 0)) = true := by first | simpa using hq2 | simpa [lo, hcl_lt] using hq2
        rw [hq2, rfT_f] at hP
        refine u_top (y := nI 0) (by rw [rfT_f]; rfl) ?_
        have hP : mP dC dI dA a (mrow M 0 (upd (M 0) 0 (nI 0))) H := hP
        have jn36 : ∀ v9 : Int32, v9 = nI ((!decide (0 = 0)).toNat) → ∀ (H : Heap) (locs : List Loc), mP dC dI dA a (mrow M 0 (upd (M 0) 0 (nI 0))) H → uS (mA a) s.heap H locs → ∀ ls : Array Slot, lv_has ls 2 [(0, .ref (a 0)), (1, .int (nI lt))] → W p l e R s m args below meth c H locs 0 0 Q (F0 m 36 ls [.int v9]) := by
          intro v9 hv9 H locs hP hS ls hl
          subst hv9
          exact hret _ _ _ _ _ (by rw [hz0, hz1, hz2]; rfl) (by rw [hz0, hz1, hz2]; exact hP) hS dX2_noWaiting_36
        refine lv_if_eq (tgt := 35) hx hb dX2_noWaiting_28 (by decide) (fun c_28 => ?_) (fun c_28 => ?_)
        · have c_28 : 0 = 0 := (nI_eq (a := 0) (b := 0) (by omega) (by omega)).mp c_28
          refine lv_iconst (v := nI 0) hx hb dX2_noWaiting_35 (by decide) ?_
          exact jn36 _ (u_n0 c_28) _ _ hP hS ls (lv_sub hl [0, 1] rfl)
        · have c_28 : ¬ (0 = 0) := fun q9 => c_28 ((nI_eq (a := 0) (b := 0) (by omega) (by omega)).mpr q9)
          refine lv_iconst (v := nI 1) hx hb dX2_noWaiting_31 (by decide) ?_
          refine lv_goto (tgt := 36) hx hb dX2_noWaiting_32 (by decide) ?_
          exact jn36 _ (u_n1 c_28) _ _ hP hS ls (lv_sub hl [0, 1] rfl)
      · have hz2 : (decide (lr (M 2) (nI lt).toNatClampNeg 6 = 0)) = false := by first | simpa using hq2 | simpa [lo, hcl_lt] using hq2
        rw [hq2, rfT_t] at hP
        refine u_top (y := nI 1) (by rw [rfT_t]; rfl) ?_
        have hP : mP dC dI dA a (mrow M 0 (upd (M 0) 0 (nI 3))) H := hP
        have jn36_2 : ∀ v9 : Int32, v9 = nI ((!decide (1 = 0)).toNat) → ∀ (H : Heap) (locs : List Loc), mP dC dI dA a (mrow M 0 (upd (M 0) 0 (nI 3))) H → uS (mA a) s.heap H locs → ∀ ls : Array Slot, lv_has ls 2 [(0, .ref (a 0)), (1, .int (nI lt))] → W p l e R s m args below meth c H locs 0 0 Q (F0 m 36 ls [.int v9]) := by
          intro v9 hv9 H locs hP hS ls hl
          subst hv9
          exact hret _ _ _ _ _ (by rw [hz0, hz1, hz2]; rfl) (by rw [hz0, hz1, hz2]; exact hP) hS dX2_noWaiting_36
        refine lv_if_eq (tgt := 35) hx hb dX2_noWaiting_28 (by decide) (fun c_28 => ?_) (fun c_28 => ?_)
        · have c_28 : 1 = 0 := (nI_eq (a := 1) (b := 0) (by omega) (by omega)).mp c_28
          refine lv_iconst (v := nI 0) hx hb dX2_noWaiting_35 (by decide) ?_
          exact jn36_2 _ (u_n0 c_28) _ _ hP hS ls (lv_sub hl [0, 1] rfl)
        · have c_28 : ¬ (1 = 0) := fun q9 => c_28 ((nI_eq (a := 1) (b := 0) (by omega) (by omega)).mpr q9)
          refine lv_iconst (v := nI 1) hx hb dX2_noWaiting_31 (by decide) ?_
          refine lv_goto (tgt := 36) hx hb dX2_noWaiting_32 (by decide) ?_
          exact jn36_2 _ (u_n1 c_28) _ _ hP hS ls (lv_sub hl [0, 1] rfl)
    refine lv_if_eq (tgt := 23) hx hb dX2_noWaiting_16 (by decide) (fun c_16 => ?_) (fun c_16 => ?_)
    · refine lv_iconst (v := nI 0) hx hb dX2_noWaiting_23 (by decide) ?_
      exact jn24 _ (u_n0 c_16) _ _ hP hS ls (lv_sub hl [0, 1] rfl)
    · refine lv_iconst (v := nI 1) hx hb dX2_noWaiting_19 (by decide) ?_
      refine lv_goto (tgt := 24) hx hb dX2_noWaiting_20 (by decide) ?_
      exact jn24 _ (u_n1 c_16) _ _ hP hS ls (lv_sub hl [0, 1] rfl)
  · refine u_top (y := nI 1) (by rw [decide_eq_false hq0]; rfl) ?_
    refine lv_if_ne (tgt := 31) hx hb dX2_noWaiting_5 (by decide) (fun c_5 => ?_) (fun c_5 => absurd c_5 (by decide))
    refine lv_iconst (v := nI 1) hx hb dX2_noWaiting_31 (by decide) ?_
    refine lv_goto (tgt := 36) hx hb dX2_noWaiting_32 (by decide) ?_
    exact hret _ _ _ _ _ (by rw [show thC [(lo (M 0 1), 1), (inZ x.toInt 0 ((ln (M 2) : Int) - 1), 2), (decide (lr (M 2) x.toNatClampNeg 6 = 0), 3)] = thC [(lo (M 0 1), 1), (inZ x.toInt 0 ((ln (M 2) : Int) - 1), 2)] from thC_pre (L1 := [(lo (M 0 1), 1), (inZ x.toInt 0 ((ln (M 2) : Int) - 1), 2)]) (L2 := [(decide (lr (M 2) x.toNatClampNeg 6 = 0), 3)]) hq0]; rw [decide_eq_false hq0]; rfl) (by rw [show thC [(lo (M 0 1), 1), (inZ x.toInt 0 ((ln (M 2) : Int) - 1), 2), (decide (lr (M 2) x.toNatClampNeg 6 = 0), 3)] = thC [(lo (M 0 1), 1), (inZ x.toInt 0 ((ln (M 2) : Int) - 1), 2)] from thC_pre (L1 := [(lo (M 0 1), 1), (inZ x.toInt 0 ((ln (M 2) : Int) - 1), 2)]) (L2 := [(decide (lr (M 2) x.toNatClampNeg 6 = 0), 3)]) hq0]; exact hP) hS dX2_noWaiting_36
theorem k_X2_noWaiting (hJ : mJ a) {x : Int32} (hS1 : SWf (M 2)) (SF : CallFix p m c cc nL s args lw_all RX2) (hK : KK dC dI dA s) (rk : rmOK 4 R) (hsz : ls.size = nL) (hcat : (rest.map fun v => v.category).sum ≤ 8) (hP : mP dC dI dA a M H) (hS : uS (mA a) H0 H locs) (hdg : decode cc pc = .ok (.invokevirtual 372, 3)) (k : ∀ (H1 : Heap) (locs1 : List Loc), mP dC dI dA a (mrow M 0 (upd (M 0) 0 (nI (thC [(lo (M 0 1), 1), (inZ x.toInt 0 ((ln (M 2) : Int) - 1), 2), (decide (lr (M 2) x.toNatClampNeg 6 = 0), 3)])))) H1 → uS (mA a) H0 H1 locs1 → W p l e R s m args below meth c H1 locs1 0 0 Q (F0 m (pc + 3) ls (.int (nI (!decide (thC [(lo (M 0 1), 1), (inZ x.toInt 0 ((ln (M 2) : Int) - 1), 2), (decide (lr (M 2) x.toNatClampNeg 6 = 0), 3)] = 0)).toNat) :: rest))) : W p l e R s m args below meth c H locs 0 0 Q (F0 m pc ls (.int x :: .ref (a 0) :: rest)) :=
  u_runM (u_rV (C := RX2) (Ψ := (mP dC dI dA a M)) (As := [.int x]) SF hK rk (c_X2_noWaiting l dC dI dA a M hJ x hS1) (lw_V q2503 q2505 qs109 q117 q2506) (n := 1) (by decide +kernel) rfl (by decide) (va_recv hK hP (ci := 2) (q0 := 0) rfl rfl) hP hsz hcat ⟨Nat.zero_le _, Nat.zero_le _⟩ rfl hdg) hS (fun _ h => h) (fun H1 locs1 h1 h2 _ => k H1 locs1 h1 h2)

set_option maxHeartbeats 4000000 in
theorem c_X2_count (l : Launch) (dC : Nat → ClassId) (dI : Nat → Nat → Nat) (dA : Nat → ClassId) (a : Nat → Nat) (M : Nat → Nat → Int32) (hJ : mJ a) (x : Int32) (hS1 : SWf (M 2)) (hT : TWf (M 1)) : Met l yX2_count (ws_ yX2_count cX2_count 2 (some .int)) (rmD 12 0 0) (uPc [.ref (a 0), .int x] (mP dC dI dA a M) dC dI dA) (uMi (mA a) (if thC [(lo (M 0 1), 1), (inZ x.toInt 0 11, 2)] = 0 then cntV (M 2) (M 1) x.toNatClampNeg else nI 0) (mP dC dI dA a (mrow M 0 (upd (M 0) 0 (nI (thC [(lo (M 0 1), 1), (inZ x.toInt 0 11, 2)])))))) 0 0 (mA a) := by
  refine u_metMi (own := RX2) (by decide) rfl (Nat.le_of_ble_eq_true rfl) fun p e R s m args below meth c Q SF rk hP hK hret ls hl => ?_
  have hx := SF.1
  have hb := SF.2.1
  have hml := SF.2.2.1
  have hown := SF.2.2.2.1
  have hts := SF.2.2.2.2
  have hS : uS (mA a) s.heap s.heap [] := uS.rf
  have hl : lv_has ls 2 [(0, .ref (a 0)), (1, .int x)] := hl
  have hL := hS1.2.1
  have hn9 := hT.2.1
  refine lv_aload_n hx hb dX2_count_0 rfl (lv_at hl 0 rfl) ?_
  refine k_X2_notLoaded  hJ  SF hK (rk.le (Nat.le_of_ble_eq_true rfl)) hl.1 (Nat.le_of_ble_eq_true rfl) hP hS dX2_count_1 (fun H locs hP hS => ?_)
  have hP : mP dC dI dA a (mrow M 0 (upd (M 0) 0 (nI (thC [(lo (M 0 1), 1)])))) H := hP
  by_cases hq0 : thC [(lo (M 0 1), 1)] = 0
  · have hz0 := thC_1 hq0
    refine u_top (y := nI 0) (by rw [hq0]; rfl) ?_
    rw [hq0] at hP
    have hP : mP dC dI dA a (mrow M 0 (upd (M 0) 0 (nI 0))) H := hP
    refine lv_if_ne (tgt := 32) hx hb dX2_count_4 (by decide) (fun c_4 => absurd (by decide) c_4) (fun c_4 => ?_)
    refine lv_aload_n hx hb dX2_count_7 rfl (lv_at hl 0 rfl) ?_
    refine lv_iload_n hx hb dX2_count_8 rfl (lv_at hl 1 rfl) ?_
    refine lv_i2l hx hb dX2_count_9 rfl ?_
    refine lv_lconst (v := 0) hx hb dX2_count_10 rfl ?_
    refine lv_ldc2 (v := 11) hx hb hown (hts _ q2240) dX2_count_11 ?_
    refine k_X2_in (X := x.toInt) (L := 0) (U := 11) (i2l_toInt x) (by decide) (by decide) SF hK (rk.le (Nat.le_of_ble_eq_true rfl)) hl.1 (Nat.le_of_ble_eq_true rfl) dX2_count_14 ?_
    have jn25 : ∀ v9 : Int32, v9 = nI ((!(inZ x.toInt 0 11)).toNat) → ∀ (H : Heap) (locs : List Loc), mP dC dI dA a (mrow M 0 (upd (M 0) 0 (nI 0))) H → uS (mA a) s.heap H locs → ∀ ls : Array Slot, lv_has ls 2 [(0, .ref (a 0)), (1, .int x)] → W p l e R s m args below meth c H locs 0 0 Q (F0 m 25 ls [.int v9, .ref (a 0)]) := by
      intro v9 hv9 H locs hP hS ls hl
      subst hv9
      refine lv_iconst (v := nI 2) hx hb dX2_count_25 (by decide) ?_
      refine k_X2_refuse (M := mrow M 0 (upd (M 0) 0 (nI 0)))  hJ  SF hK (rk.le (Nat.le_of_ble_eq_true rfl)) hl.1 (Nat.le_of_ble_eq_true rfl) hP hS dX2_count_26 (fun H locs hP hS => ?_)
      refine u_top (y := nI ((!decide (rfT ((nI 0)) (!(inZ x.toInt 0 11)) (nI 2) = 0)).toNat)) rfl ?_
      have hP : mP dC dI dA a (mrow M 0 (upd (M 0) 0 (rfT ((nI 0)) (!(inZ x.toInt 0 11)) (nI 2)))) H := hP
      cases hq1 : (!(inZ x.toInt 0 11))
      · have hz1 : (inZ x.toInt 0 11) = true := by first | simpa using hq1 | simpa [lo] using hq1
        rw [hq1, rfT_f] at hP
        refine u_top (y := nI 0) (by rw [rfT_f]; rfl) ?_
        have hP : mP dC dI dA a (mrow M 0 (upd (M 0) 0 (nI 0))) H := hP
        obtain ⟨jj, hlt_jj, hsm_jj, rfl⟩ := inZ_n hz1
        have hcl_jj : (nI jj).toNatClampNeg = jj := nI_clamp (by omega)
        have hP : mP dC dI dA a (mrow M 0 (upd (M 0) 0 (nI 0))) H := by assumption
        refine lv_if_eq (tgt := 34) hx hb dX2_count_29 (by decide) (fun c_29 => ?_) (fun c_29 => absurd (by decide) c_29)
        refine lv_iload_n hx hb dX2_count_34 rfl (lv_at hl 1 rfl) ?_
        rcases (show jj = 0 ∨ jj = 1 ∨ jj = 2 ∨ jj = 3 ∨ jj = 4 ∨ jj = 5 ∨ jj = 6 ∨ jj = 7 ∨ jj = 8 ∨ jj = 9 ∨ jj = 10 ∨ jj = 11 by omega) with rfl | rfl | rfl | rfl | rfl | rfl | rfl | rfl | rfl | rfl | rfl | rfl
        · refine lv_tableIn (off := 57) (tgt := 92) hx hb dX2_count_35 (by decide) (by decide) (by decide) (by decide) ?_
          refine lv_aload_n hx hb dX2_count_92 rfl (lv_at hl 0 rfl) ?_
          refine k_X2_towns (M := mrow M 0 (upd (M 0) 0 (nI 0)))   SF hK (rk.le (Nat.le_of_ble_eq_true rfl)) hl.1 (Nat.le_of_ble_eq_true rfl) hP dX2_count_93 ?_
          refine u_top (y := M 1 1) rfl ?_
          refine u_top (y := nI (tn (M 1))) hT.1 ?_
          exact hret _ _ _ _ _ (by rw [hz0, hz1]; show _ = _; first | rfl | exact hS1.1.symm | exact hT.1.symm) (by rw [hz0, hz1]; exact hP) hS dX2_count_96
        · refine lv_tableIn (off := 62) (tgt := 97) hx hb dX2_count_35 (by decide) (by decide) (by decide) (by decide) ?_
          refine lv_aload_n hx hb dX2_count_97 rfl (lv_at hl 0 rfl) ?_
          refine k_X2_letters (M := mrow M 0 (upd (M 0) 0 (nI 0)))   SF hK (rk.le (Nat.le_of_ble_eq_true rfl)) hl.1 (Nat.le_of_ble_eq_true rfl) hP dX2_count_98 ?_
          refine u_top (y := M 2 2) rfl ?_
          refine u_top (y := nI (ln (M 2))) hS1.1 ?_
          exact hret _ _ _ _ _ (by rw [hz0, hz1]; show _ = _; first | rfl | exact hS1.1.symm | exact hT.1.symm) (by rw [hz0, hz1]; exact hP) hS dX2_count_101
        · refine lv_tableIn (off := 67) (tgt := 102) hx hb dX2_count_35 (by decide) (by decide) (by decide) (by decide) ?_
          refine lv_aload_n hx hb dX2_count_102 rfl (lv_at hl 0 rfl) ?_
          refine va_get (D := (dC, dI)) (ci := 2) (v := .ref (a 2)) (C := RX2) (T := TX2) (N := 22) hx hb hts in_X2 hown hK hP 0 rfl rfl 3 (by decide) (hts _ q1954) (fun _ h9 => h9) rfl dX2_count_103 ?_
          refine lv_iconst (v := nI 0) hx hb dX2_count_106 (by decide) ?_
          refine u_iald hx hb hK hP 2 0 rfl rfl (i := 0) (by omega) (by decide) dX2_count_107 ?_
          refine u_top (y := M 2 0) rfl ?_
          exact hret _ _ _ _ _ (by rw [hz0, hz1]; show _ = _; first | rfl | exact hS1.1.symm | exact hT.1.symm) (by rw [hz0, hz1]; exact hP) hS dX2_count_108
        · refine lv_tableIn (off := 74) (tgt := 109) hx hb dX2_count_35 (by decide) (by decide) (by decide) (by decide) ?_
          refine lv_aload_n hx hb dX2_count_109 rfl (lv_at hl 0 rfl) ?_
          refine va_get (D := (dC, dI)) (ci := 2) (v := .ref (a 1)) (C := RX2) (T := TX2) (N := 22) hx hb hts in_X2 hown hK hP 0 rfl rfl 2 (by decide) (hts _ q1953) (fun _ h9 => h9) rfl dX2_count_110 ?_
          refine lv_iconst (v := nI 0) hx hb dX2_count_113 (by decide) ?_
          refine u_iald hx hb hK hP 1 0 rfl rfl (i := 0) (by omega) (by decide) dX2_count_114 ?_
          refine u_top (y := M 1 0) rfl ?_
          exact hret _ _ _ _ _ (by rw [hz0, hz1]; show _ = _; first | rfl | exact hS1.1.symm | exact hT.1.symm) (by rw [hz0, hz1]; exact hP) hS dX2_count_115
        · refine lv_tableIn (off := 81) (tgt := 116) hx hb dX2_count_35 (by decide) (by decide) (by decide) (by decide) ?_
          refine lv_aload_n hx hb dX2_count_116 rfl (lv_at hl 0 rfl) ?_
          refine lv_iload_n hx hb dX2_count_117 rfl (lv_at hl 1 rfl) ?_
          refine lv_iconst (v := nI 4) hx hb dX2_count_118 (by decide) ?_
          refine lv_isub hx hb dX2_count_119 ?_
          refine k_X2_statesOf (M := mrow M 0 (upd (M 0) 0 (nI 0)))  hS1 SF hK (rk.le (Nat.le_of_ble_eq_true rfl)) hl.1 (Nat.le_of_ble_eq_true rfl) hP dX2_count_120 ?_
          refine u_top (y := nI (sts (M 2) ((nI 4) - (nI 4)))) rfl ?_
          exact hret _ _ _ _ _ (by rw [hz0, hz1]; show _ = _; first | rfl | exact hS1.1.symm | exact hT.1.symm) (by rw [hz0, hz1]; exact hP) hS dX2_count_123
        · refine lv_tableIn (off := 81) (tgt := 116) hx hb dX2_count_35 (by decide) (by decide) (by decide) (by decide) ?_
          refine lv_aload_n hx hb dX2_count_116 rfl (lv_at hl 0 rfl) ?_
          refine lv_iload_n hx hb dX2_count_117 rfl (lv_at hl 1 rfl) ?_
          refine lv_iconst (v := nI 4) hx hb dX2_count_118 (by decide) ?_
          refine lv_isub hx hb dX2_count_119 ?_
          refine k_X2_statesOf (M := mrow M 0 (upd (M 0) 0 (nI 0)))  hS1 SF hK (rk.le (Nat.le_of_ble_eq_true rfl)) hl.1 (Nat.le_of_ble_eq_true rfl) hP dX2_count_120 ?_
          refine u_top (y := nI (sts (M 2) ((nI 5) - (nI 4)))) rfl ?_
          exact hret _ _ _ _ _ (by rw [hz0, hz1]; show _ = _; first | rfl | exact hS1.1.symm | exact hT.1.symm) (by rw [hz0, hz1]; exact hP) hS dX2_count_123
        · refine lv_tableIn (off := 81) (tgt := 116) hx hb dX2_count_35 (by decide) (by decide) (by decide) (by decide) ?_
          refine lv_aload_n hx hb dX2_count_116 rfl (lv_at hl 0 rfl) ?_
          refine lv_iload_n hx hb dX2_count_117 rfl (lv_at hl 1 rfl) ?_
          refine lv_iconst (v := nI 4) hx hb dX2_count_118 (by decide) ?_
          refine lv_isub hx hb dX2_count_119 ?_
          refine k_X2_statesOf (M := mrow M 0 (upd (M 0) 0 (nI 0)))  hS1 SF hK (rk.le (Nat.le_of_ble_eq_true rfl)) hl.1 (Nat.le_of_ble_eq_true rfl) hP dX2_count_120 ?_
          refine u_top (y := nI (sts (M 2) ((nI 6) - (nI 4)))) rfl ?_
          exact hret _ _ _ _ _ (by rw [hz0, hz1]; show _ = _; first | rfl | exact hS1.1.symm | exact hT.1.symm) (by rw [hz0, hz1]; exact hP) hS dX2_count_123
        · refine lv_tableIn (off := 89) (tgt := 124) hx hb dX2_count_35 (by decide) (by decide) (by decide) (by decide) ?_
          refine lv_aload_n hx hb dX2_count_124 rfl (lv_at hl 0 rfl) ?_
          refine lv_iconst (v := (-1)) hx hb dX2_count_125 (by decide) ?_
          refine k_X2_waitingFor (M := mrow M 0 (upd (M 0) 0 (nI 0)))  hS1 hT SF hK (rk.le (Nat.le_of_ble_eq_true rfl)) hl.1 (Nat.le_of_ble_eq_true rfl) hP dX2_count_126 ?_
          refine u_top (y := nI (wtF (M 2) (M 1) (-1))) rfl ?_
          exact hret _ _ _ _ _ (by rw [hz0, hz1]; show _ = _; first | rfl | exact hS1.1.symm | exact hT.1.symm) (by rw [hz0, hz1]; exact hP) hS dX2_count_129
        · refine lv_tableIn (off := 95) (tgt := 130) hx hb dX2_count_35 (by decide) (by decide) (by decide) (by decide) ?_
          refine lv_aload_n hx hb dX2_count_130 rfl (lv_at hl 0 rfl) ?_
          refine lv_bipush (v := nI 21) hx hb dX2_count_131 (by decide) ?_
          refine k_X2_sumOf (M := mrow M 0 (upd (M 0) 0 (nI 0)))  (show 21 + 6 ≤ 273 by omega) SF hK (rk.le (Nat.le_of_ble_eq_true rfl)) hl.1 (Nat.le_of_ble_eq_true rfl) hP dX2_count_133 ?_
          refine u_top (y := sum6 (M 2) 21 6) rfl ?_
          exact hret _ _ _ _ _ (by rw [hz0, hz1]; show _ = _; first | rfl | exact hS1.1.symm | exact hT.1.symm) (by rw [hz0, hz1]; exact hP) hS dX2_count_136
        · refine lv_tableIn (off := 102) (tgt := 137) hx hb dX2_count_35 (by decide) (by decide) (by decide) (by decide) ?_
          refine lv_aload_n hx hb dX2_count_137 rfl (lv_at hl 0 rfl) ?_
          refine lv_bipush (v := nI 15) hx hb dX2_count_138 (by decide) ?_
          refine k_X2_sumOf (M := mrow M 0 (upd (M 0) 0 (nI 0)))  (show 15 + 6 ≤ 273 by omega) SF hK (rk.le (Nat.le_of_ble_eq_true rfl)) hl.1 (Nat.le_of_ble_eq_true rfl) hP dX2_count_140 ?_
          refine u_top (y := sum6 (M 2) 15 6) rfl ?_
          exact hret _ _ _ _ _ (by rw [hz0, hz1]; show _ = _; first | rfl | exact hS1.1.symm | exact hT.1.symm) (by rw [hz0, hz1]; exact hP) hS dX2_count_143
        · refine lv_tableIn (off := 109) (tgt := 144) hx hb dX2_count_35 (by decide) (by decide) (by decide) (by decide) ?_
          refine lv_aload_n hx hb dX2_count_144 rfl (lv_at hl 0 rfl) ?_
          refine lv_bipush (v := nI 9) hx hb dX2_count_145 (by decide) ?_
          refine k_X2_sumOf (M := mrow M 0 (upd (M 0) 0 (nI 0)))  (show 9 + 6 ≤ 273 by omega) SF hK (rk.le (Nat.le_of_ble_eq_true rfl)) hl.1 (Nat.le_of_ble_eq_true rfl) hP dX2_count_147 ?_
          refine u_top (y := sum6 (M 2) 9 6) rfl ?_
          exact hret _ _ _ _ _ (by rw [hz0, hz1]; show _ = _; first | rfl | exact hS1.1.symm | exact hT.1.symm) (by rw [hz0, hz1]; exact hP) hS dX2_count_150
        · refine lv_tableOut (tgt := 151) hx hb dX2_count_35 (by decide) (by decide) ?_
          refine lv_aload_n hx hb dX2_count_151 rfl (lv_at hl 0 rfl) ?_
          refine va_get (D := (dC, dI)) (ci := 2) (v := .ref (a 2)) (C := RX2) (T := TX2) (N := 22) hx hb hts in_X2 hown hK hP 0 rfl rfl 3 (by decide) (hts _ q1954) (fun _ h9 => h9) rfl dX2_count_152 ?_
          refine lv_iconst (v := nI 1) hx hb dX2_count_155 (by decide) ?_
          refine u_iald hx hb hK hP 2 0 rfl rfl (i := 1) (by omega) (by decide) dX2_count_156 ?_
          refine u_top (y := M 2 1) rfl ?_
          exact hret _ _ _ _ _ (by rw [hz0, hz1]; show _ = _; first | rfl | exact hS1.1.symm | exact hT.1.symm) (by rw [hz0, hz1]; exact hP) hS dX2_count_157
      · have hz1 : (inZ x.toInt 0 11) = false := by first | simpa using hq1 | simpa [lo] using hq1
        rw [hq1, rfT_t] at hP
        refine u_top (y := nI 1) (by rw [rfT_t]; rfl) ?_
        have hP : mP dC dI dA a (mrow M 0 (upd (M 0) 0 (nI 2))) H := hP
        refine lv_if_eq (tgt := 34) hx hb dX2_count_29 (by decide) (fun c_29 => absurd c_29 (by decide)) (fun c_29 => ?_)
        refine lv_iconst (v := nI 0) hx hb dX2_count_32 (by decide) ?_
        exact hret _ _ _ _ _ (by rw [hz0, hz1]; rfl) (by rw [hz0, hz1]; exact hP) hS dX2_count_33
    refine lv_if_ne (tgt := 24) hx hb dX2_count_17 (by decide) (fun c_17 => ?_) (fun c_17 => ?_)
    · have c_17 : ¬ ((inZ x.toInt 0 11) = false) := fun q9 => c_17 (u_zb.mpr q9)
      refine lv_iconst (v := nI 0) hx hb dX2_count_24 (by decide) ?_
      exact jn25 _ (u_ff (by simp [c_17])) _ _ hP hS ls (lv_sub hl [0, 1] rfl)
    · have c_17 : (inZ x.toInt 0 11) = false := u_zb.mp c_17
      refine lv_iconst (v := nI 1) hx hb dX2_count_20 (by decide) ?_
      refine lv_goto (tgt := 25) hx hb dX2_count_21 (by decide) ?_
      exact jn25 _ (u_tt (by simpa using c_17)) _ _ hP hS ls (lv_sub hl [0, 1] rfl)
  · refine u_top (y := nI 1) (by rw [decide_eq_false hq0]; rfl) ?_
    refine lv_if_ne (tgt := 32) hx hb dX2_count_4 (by decide) (fun c_4 => ?_) (fun c_4 => absurd c_4 (by decide))
    refine lv_iconst (v := nI 0) hx hb dX2_count_32 (by decide) ?_
    exact hret _ _ _ _ _ (by rw [show thC [(lo (M 0 1), 1), (inZ x.toInt 0 11, 2)] = thC [(lo (M 0 1), 1)] from thC_pre (L1 := [(lo (M 0 1), 1)]) (L2 := [(inZ x.toInt 0 11, 2)]) hq0, if_neg hq0]) (by rw [show thC [(lo (M 0 1), 1), (inZ x.toInt 0 11, 2)] = thC [(lo (M 0 1), 1)] from thC_pre (L1 := [(lo (M 0 1), 1)]) (L2 := [(inZ x.toInt 0 11, 2)]) hq0]; exact hP) hS dX2_count_33

set_option maxHeartbeats 4000000 in
theorem c_X2_town (l : Launch) (dC : Nat → ClassId) (dI : Nat → Nat → Nat) (dA : Nat → ClassId) (a : Nat → Nat) (M : Nat → Nat → Int32) (hJ : mJ a) (x : Int32) (y : Int32) (hS1 : SWf (M 2)) (hT : TWf (M 1)) : Met l yX2_town (ws_ yX2_town cX2_town 3 (some .int)) (rmD 12 0 0) (uPc [.ref (a 0), .int x, .int y] (mP dC dI dA a M) dC dI dA) (uMi (mA a) (if thC [(lo (M 0 1), 1), (inZ x.toInt 0 ((tn (M 1) : Int) - 1), 2), (inZ y.toInt 0 6, 3)] = 0 then twnV (M 2) (M 1) x.toNatClampNeg y.toNatClampNeg else nI 0) (mP dC dI dA a (mrow M 0 (upd (M 0) 0 (nI (thC [(lo (M 0 1), 1), (inZ x.toInt 0 ((tn (M 1) : Int) - 1), 2), (inZ y.toInt 0 6, 3)])))))) 0 0 (mA a) := by
  refine u_metMi (own := RX2) (by decide) rfl (Nat.le_of_ble_eq_true rfl) fun p e R s m args below meth c Q SF rk hP hK hret ls hl => ?_
  have hx := SF.1
  have hb := SF.2.1
  have hml := SF.2.2.1
  have hown := SF.2.2.2.1
  have hts := SF.2.2.2.2
  have hS : uS (mA a) s.heap s.heap [] := uS.rf
  have hl : lv_has ls 3 [(0, .ref (a 0)), (1, .int x), (2, .int y)] := hl
  have hL := hS1.2.1
  have hn9 := hT.2.1
  refine lv_aload_n hx hb dX2_town_0 rfl (lv_at hl 0 rfl) ?_
  refine lv_iload_n hx hb dX2_town_1 rfl (lv_at hl 1 rfl) ?_
  refine k_X2_noTown  hJ hT SF hK (rk.le (Nat.le_of_ble_eq_true rfl)) hl.1 (Nat.le_of_ble_eq_true rfl) hP hS dX2_town_2 (fun H locs hP hS => ?_)
  have hP : mP dC dI dA a (mrow M 0 (upd (M 0) 0 (nI (thC [(lo (M 0 1), 1), (inZ x.toInt 0 ((tn (M 1) : Int) - 1), 2)])))) H := hP
  by_cases hq0 : thC [(lo (M 0 1), 1), (inZ x.toInt 0 ((tn (M 1) : Int) - 1), 2)] = 0
  · obtain ⟨hz0, hz1⟩ := thC_2 hq0
    refine u_top (y := nI 0) (by rw [hq0]; rfl) ?_
    rw [hq0] at hP
    have hP : mP dC dI dA a (mrow M 0 (upd (M 0) 0 (nI 0))) H := hP
    obtain ⟨t, hlt_t, hsm_t, rfl⟩ := inZ_n hz1
    have hcl_t : (nI t).toNatClampNeg = t := nI_clamp (by omega)
    have hP : mP dC dI dA a (mrow M 0 (upd (M 0) 0 (nI 0))) H := by assumption
    refine lv_if_ne (tgt := 33) hx hb dX2_town_5 (by decide) (fun c_5 => absurd (by decide) c_5) (fun c_5 => ?_)
    refine lv_aload_n hx hb dX2_town_8 rfl (lv_at hl 0 rfl) ?_
    refine lv_iload_n hx hb dX2_town_9 rfl (lv_at hl 2 rfl) ?_
    refine lv_i2l hx hb dX2_town_10 rfl ?_
    refine lv_lconst (v := 0) hx hb dX2_town_11 rfl ?_
    refine lv_ldc2 (v := 6) hx hb hown (hts _ q2265) dX2_town_12 ?_
    refine k_X2_in (X := y.toInt) (L := 0) (U := 6) (i2l_toInt y) (by decide) (by decide) SF hK (rk.le (Nat.le_of_ble_eq_true rfl)) hl.1 (Nat.le_of_ble_eq_true rfl) dX2_town_15 ?_
    have jn26 : ∀ v9 : Int32, v9 = nI ((!(inZ y.toInt 0 6)).toNat) → ∀ (H : Heap) (locs : List Loc), mP dC dI dA a (mrow M 0 (upd (M 0) 0 (nI 0))) H → uS (mA a) s.heap H locs → ∀ ls : Array Slot, lv_has ls 3 [(0, .ref (a 0)), (1, .int (nI t)), (2, .int y)] → W p l e R s m args below meth c H locs 0 0 Q (F0 m 26 ls [.int v9, .ref (a 0)]) := by
      intro v9 hv9 H locs hP hS ls hl
      subst hv9
      refine lv_iconst (v := nI 3) hx hb dX2_town_26 (by decide) ?_
      refine k_X2_refuse (M := mrow M 0 (upd (M 0) 0 (nI 0)))  hJ  SF hK (rk.le (Nat.le_of_ble_eq_true rfl)) hl.1 (Nat.le_of_ble_eq_true rfl) hP hS dX2_town_27 (fun H locs hP hS => ?_)
      refine u_top (y := nI ((!decide (rfT ((nI 0)) (!(inZ y.toInt 0 6)) (nI 3) = 0)).toNat)) rfl ?_
      have hP : mP dC dI dA a (mrow M 0 (upd (M 0) 0 (rfT ((nI 0)) (!(inZ y.toInt 0 6)) (nI 3)))) H := hP
      cases hq2 : (!(inZ y.toInt 0 6))
      · have hz2 : (inZ y.toInt 0 6) = true := by first | simpa using hq2 | simpa [lo, hcl_t] using hq2
        rw [hq2, rfT_f] at hP
        refine u_top (y := nI 0) (by rw [rfT_f]; rfl) ?_
        have hP : mP dC dI dA a (mrow M 0 (upd (M 0) 0 (nI 0))) H := hP
        obtain ⟨jj, hlt_jj, hsm_jj, rfl⟩ := inZ_n hz2
        have hcl_jj : (nI jj).toNatClampNeg = jj := nI_clamp (by omega)
        have hP : mP dC dI dA a (mrow M 0 (upd (M 0) 0 (nI 0))) H := by assumption
        refine lv_if_eq (tgt := 35) hx hb dX2_town_30 (by decide) (fun c_30 => ?_) (fun c_30 => absurd (by decide) c_30)
        refine lv_iload_n hx hb dX2_town_35 rfl (lv_at hl 2 rfl) ?_
        rcases (show jj = 0 ∨ jj = 1 ∨ jj = 2 ∨ jj = 3 ∨ jj = 4 ∨ jj = 5 ∨ jj = 6 by omega) with rfl | rfl | rfl | rfl | rfl | rfl | rfl
        · refine lv_tableIn (off := 40) (tgt := 76) hx hb dX2_town_36 (by decide) (by decide) (by decide) (by decide) ?_
          refine lv_aload_n hx hb dX2_town_76 rfl (lv_at hl 0 rfl) ?_
          refine va_get (D := (dC, dI)) (ci := 2) (v := .ref (a 1)) (C := RX2) (T := TX2) (N := 22) hx hb hts in_X2 hown hK hP 0 rfl rfl 2 (by decide) (hts _ q1953) (fun _ h9 => h9) rfl dX2_town_77 ?_
          refine lv_iconst (v := nI 2) hx hb dX2_town_80 (by decide) ?_
          refine lv_iload_n hx hb dX2_town_81 rfl (lv_at hl 1 rfl) ?_
          refine lv_iadd hx hb dX2_town_82 ?_
          refine u_top (nI_add _ _) ?_
          refine u_iald hx hb hK hP 1 0 rfl rfl (i := 2 + t) (by omega) (by decide) dX2_town_83 ?_
          refine u_top (y := M 1 (2 + t)) rfl ?_
          exact hret _ _ _ _ _ (by rw [hz0, hz1, hz2]; show _ = _; rw [hcl_t]; first | rfl | (rw [twnV]; rfl)) (by rw [hz0, hz1, hz2]; exact hP) hS dX2_town_84
        · refine lv_tableIn (off := 49) (tgt := 85) hx hb dX2_town_36 (by decide) (by decide) (by decide) (by decide) ?_
          refine lv_aload_n hx hb dX2_town_85 rfl (lv_at hl 0 rfl) ?_
          refine va_get (D := (dC, dI)) (ci := 2) (v := .ref (a 1)) (C := RX2) (T := TX2) (N := 22) hx hb hts in_X2 hown hK hP 0 rfl rfl 2 (by decide) (hts _ q1953) (fun _ h9 => h9) rfl dX2_town_86 ?_
          refine lv_bipush (v := nI 14) hx hb dX2_town_89 (by decide) ?_
          refine lv_iload_n hx hb dX2_town_91 rfl (lv_at hl 1 rfl) ?_
          refine lv_iadd hx hb dX2_town_92 ?_
          refine u_top (nI_add _ _) ?_
          refine u_iald hx hb hK hP 1 0 rfl rfl (i := 14 + t) (by omega) (by decide) dX2_town_93 ?_
          refine u_top (y := M 1 (14 + t)) rfl ?_
          exact hret _ _ _ _ _ (by rw [hz0, hz1, hz2]; show _ = _; rw [hcl_t]; first | rfl | (rw [twnV]; rfl)) (by rw [hz0, hz1, hz2]; exact hP) hS dX2_town_94
        · refine lv_tableIn (off := 59) (tgt := 95) hx hb dX2_town_36 (by decide) (by decide) (by decide) (by decide) ?_
          refine lv_aload_n hx hb dX2_town_95 rfl (lv_at hl 0 rfl) ?_
          refine va_get (D := (dC, dI)) (ci := 2) (v := .ref (a 1)) (C := RX2) (T := TX2) (N := 22) hx hb hts in_X2 hown hK hP 0 rfl rfl 2 (by decide) (hts _ q1953) (fun _ h9 => h9) rfl dX2_town_96 ?_
          refine lv_iconst (v := nI 2) hx hb dX2_town_99 (by decide) ?_
          refine lv_iload_n hx hb dX2_town_100 rfl (lv_at hl 1 rfl) ?_
          refine lv_iadd hx hb dX2_town_101 ?_
          refine u_top (nI_add _ _) ?_
          refine u_iald hx hb hK hP 1 0 rfl rfl (i := 2 + t) (by omega) (by decide) dX2_town_102 ?_
          refine u_top (y := M 1 (2 + t)) rfl ?_
          refine u_top (y := nI (num (M 1) t)) ((hT.2.2 t (by omega)).1) ?_
          refine k_X2_checkOf  (hT.2.2 t (by omega)).2.1 SF hK (rk.le (Nat.le_of_ble_eq_true rfl)) hl.1 (Nat.le_of_ble_eq_true rfl) dX2_town_103 ?_
          exact hret _ _ _ _ _ (by rw [hz0, hz1, hz2]; show _ = _; rw [hcl_t]; first | rfl | (rw [twnV]; rfl)) (by rw [hz0, hz1, hz2]; exact hP) hS dX2_town_106
        · refine lv_tableIn (off := 71) (tgt := 107) hx hb dX2_town_36 (by decide) (by decide) (by decide) (by decide) ?_
          refine lv_aload_n hx hb dX2_town_107 rfl (lv_at hl 0 rfl) ?_
          refine lv_iload_n hx hb dX2_town_108 rfl (lv_at hl 1 rfl) ?_
          refine k_X2_sortedFor (M := mrow M 0 (upd (M 0) 0 (nI 0)))  hS1 SF hK (rk.le (Nat.le_of_ble_eq_true rfl)) hl.1 (Nat.le_of_ble_eq_true rfl) hP dX2_town_109 ?_
          refine u_top (y := nI (srF (M 2) (nI t))) rfl ?_
          exact hret _ _ _ _ _ (by rw [hz0, hz1, hz2]; show _ = _; rw [hcl_t]; first | rfl | (rw [twnV]; rfl)) (by rw [hz0, hz1, hz2]; exact hP) hS dX2_town_112
        · refine lv_tableIn (off := 77) (tgt := 113) hx hb dX2_town_36 (by decide) (by decide) (by decide) (by decide) ?_
          refine lv_aload_n hx hb dX2_town_113 rfl (lv_at hl 0 rfl) ?_
          refine lv_iload_n hx hb dX2_town_114 rfl (lv_at hl 1 rfl) ?_
          refine k_X2_waitingFor (M := mrow M 0 (upd (M 0) 0 (nI 0)))  hS1 hT SF hK (rk.le (Nat.le_of_ble_eq_true rfl)) hl.1 (Nat.le_of_ble_eq_true rfl) hP dX2_town_115 ?_
          refine u_top (y := nI (wtF (M 2) (M 1) (nI t))) rfl ?_
          exact hret _ _ _ _ _ (by rw [hz0, hz1, hz2]; show _ = _; rw [hcl_t]; first | rfl | (rw [twnV]; rfl)) (by rw [hz0, hz1, hz2]; exact hP) hS dX2_town_118
        · refine lv_tableIn (off := 83) (tgt := 119) hx hb dX2_town_36 (by decide) (by decide) (by decide) (by decide) ?_
          refine lv_aload_n hx hb dX2_town_119 rfl (lv_at hl 0 rfl) ?_
          refine lv_iload_n hx hb dX2_town_120 rfl (lv_at hl 1 rfl) ?_
          refine k_X2_nearLetters (M := mrow M 0 (upd (M 0) 0 (nI 0)))  (show t < tn (M 1) by omega) hS1 hT SF hK (rk.le (Nat.le_of_ble_eq_true rfl)) hl.1 (Nat.le_of_ble_eq_true rfl) hP dX2_town_121 ?_
          refine u_top (y := nI (nrL (M 2) (M 1) t)) rfl ?_
          exact hret _ _ _ _ _ (by rw [hz0, hz1, hz2]; show _ = _; rw [hcl_t]; first | rfl | (rw [twnV]; rfl)) (by rw [hz0, hz1, hz2]; exact hP) hS dX2_town_124
        · refine lv_tableOut (tgt := 125) hx hb dX2_town_36 (by decide) (by decide) ?_
          refine lv_aload_n hx hb dX2_town_125 rfl (lv_at hl 0 rfl) ?_
          refine lv_iload_n hx hb dX2_town_126 rfl (lv_at hl 1 rfl) ?_
          refine k_X2_codeAt (M := mrow M 0 (upd (M 0) 0 (nI 0)))  (show t < tn (M 1) by omega) hT SF hK (rk.le (Nat.le_of_ble_eq_true rfl)) hl.1 (Nat.le_of_ble_eq_true rfl) hP dX2_town_127 ?_
          refine u_top (y := nI (cd (num (M 1) t))) rfl ?_
          refine k_X2_digitsOf  (cd_lt (hT.2.2 t (by omega)).2.1) SF hK (rk.le (Nat.le_of_ble_eq_true rfl)) hl.1 (Nat.le_of_ble_eq_true rfl) dX2_town_130 ?_
          exact hret _ _ _ _ _ (by rw [hz0, hz1, hz2]; show _ = _; rw [hcl_t]; first | rfl | (rw [twnV]; rfl)) (by rw [hz0, hz1, hz2]; exact hP) hS dX2_town_133
      · have hz2 : (inZ y.toInt 0 6) = false := by first | simpa using hq2 | simpa [lo, hcl_t] using hq2
        rw [hq2, rfT_t] at hP
        refine u_top (y := nI 1) (by rw [rfT_t]; rfl) ?_
        have hP : mP dC dI dA a (mrow M 0 (upd (M 0) 0 (nI 3))) H := hP
        refine lv_if_eq (tgt := 35) hx hb dX2_town_30 (by decide) (fun c_30 => absurd c_30 (by decide)) (fun c_30 => ?_)
        refine lv_iconst (v := nI 0) hx hb dX2_town_33 (by decide) ?_
        exact hret _ _ _ _ _ (by rw [hz0, hz1, hz2]; rfl) (by rw [hz0, hz1, hz2]; exact hP) hS dX2_town_34
    refine lv_if_ne (tgt := 25) hx hb dX2_town_18 (by decide) (fun c_18 => ?_) (fun c_18 => ?_)
    · have c_18 : ¬ ((inZ y.toInt 0 6) = false) := fun q9 => c_18 (u_zb.mpr q9)
      refine lv_iconst (v := nI 0) hx hb dX2_town_25 (by decide) ?_
      exact jn26 _ (u_ff (by simp [c_18])) _ _ hP hS ls (lv_sub hl [0, 1, 2] rfl)
    · have c_18 : (inZ y.toInt 0 6) = false := u_zb.mp c_18
      refine lv_iconst (v := nI 1) hx hb dX2_town_21 (by decide) ?_
      refine lv_goto (tgt := 26) hx hb dX2_town_22 (by decide) ?_
      exact jn26 _ (u_tt (by simpa using c_18)) _ _ hP hS ls (lv_sub hl [0, 1, 2] rfl)
  · refine u_top (y := nI 1) (by rw [decide_eq_false hq0]; rfl) ?_
    refine lv_if_ne (tgt := 33) hx hb dX2_town_5 (by decide) (fun c_5 => ?_) (fun c_5 => absurd c_5 (by decide))
    refine lv_iconst (v := nI 0) hx hb dX2_town_33 (by decide) ?_
    exact hret _ _ _ _ _ (by rw [show thC [(lo (M 0 1), 1), (inZ x.toInt 0 ((tn (M 1) : Int) - 1), 2), (inZ y.toInt 0 6, 3)] = thC [(lo (M 0 1), 1), (inZ x.toInt 0 ((tn (M 1) : Int) - 1), 2)] from thC_pre (L1 := [(lo (M 0 1), 1), (inZ x.toInt 0 ((tn (M 1) : Int) - 1), 2)]) (L2 := [(inZ y.toInt 0 6, 3)]) hq0, if_neg hq0]) (by rw [show thC [(lo (M 0 1), 1), (inZ x.toInt 0 ((tn (M 1) : Int) - 1), 2), (inZ y.toInt 0 6, 3)] = thC [(lo (M 0 1), 1), (inZ x.toInt 0 ((tn (M 1) : Int) - 1), 2)] from thC_pre (L1 := [(lo (M 0 1), 1), (inZ x.toInt 0 ((tn (M 1) : Int) - 1), 2)]) (L2 := [(inZ y.toInt 0 6, 3)]) hq0]; exact hP) hS dX2_town_34
end TW
