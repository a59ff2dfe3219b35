set_option maxRecDepth 100000
section TW
variable {p : Program} {l : Launch} {e : Env} {R : Room} {s : State} {m : MethodId} {args : Array Value} {below : List Frame} {meth : Method} {c : Code} {H : Heap} {locs : List Loc} {Q : State → Prop}
variable {cc : ByteArray} {pc nL : Nat} {ls : Array Slot} {rest : List Value} {dC : Nat → ClassId} {dI : Nat → Nat → Nat} {dA : Nat → ClassId} {a : Nat → Nat} {M : Nat → Nat → Int32} {H0 : Heap}

set_option maxHeartbeats 4000000 in
theorem c_X2_line (l : Launch) (dC : Nat → ClassId) (dI : Nat → Nat → Nat) (dA : Nat → ClassId) (a : Nat → Nat) (M : Nat → Nat → Int32) (hJ : mJ a) (sz : Nat) (ks : Nat → Nat) (hW : PW M) (hS1 : SWf (M 2)) (hT : TWf (M 1)) (hA : ∀ j, j < 8 → sz ≤ a j) : Met l yX2_line (ws_ yX2_line cX2_line 2 none) (rmD 15 0 0) (uPx [.ref (a 0)] (fun U H => mP dC dI dA a M H ∧ (EW sz ks) U H) dC dI dA) (uMv (mA a) (mP dC dI dA a (lineM M))) 0 0 (mA a) := by
  refine x_metMv (own := RX2) (by decide) rfl (Nat.le_of_ble_eq_true rfl) fun p e R s m args below meth c Q SF rk hP hK hret ls hl => ?_
  have hE := hP.2
  have hP := hP.1
  have hx := SF.1
  have hb := SF.2.1
  have hml := SF.2.2.1
  have hown := SF.2.2.2.1
  have hts := SF.2.2.2.2
  have hS : uS (mA a) s.heap s.heap [] := uS.rf
  have hl : lv_has ls 2 [(0, .ref (a 0))] := hl
  refine lv_aload_n hx hb dX2_line_0 rfl (lv_at hl 0 rfl) ?_
  refine va_ldcS hx hb hown ((hE.2 1 (by decide)).1) dX2_line_1 ?_
  refine k_X2_isWord (q := ks (2 * 1)) (v := ks (2 * 1 + 1)) (n := (wB 1).length) (g := wG 1) hW (by decide) (wG_lt 1 (by decide)) SF hK (rk.le (Nat.le_of_ble_eq_true rfl)) hl.1 (Nat.le_of_ble_eq_true rfl) hP (EW.word (EW.kept hA hS hE) 1 (by decide)) dX2_line_3 ?_
  refine lv_if_eq (tgt := 16) hx hb dX2_line_6 (by decide) (fun c_6 => ?_) (fun c_6 => ?_)
  · have c_6 : (wrdB M ((wB 1).length) (wG 1)) = false := u_zb.mp c_6
    refine lv_aload_n hx hb dX2_line_16 rfl (lv_at hl 0 rfl) ?_
    refine va_ldcS hx hb hown ((hE.2 2 (by decide)).1) dX2_line_17 ?_
    refine k_X2_isWord (q := ks (2 * 2)) (v := ks (2 * 2 + 1)) (n := (wB 2).length) (g := wG 2) hW (by decide) (wG_lt 2 (by decide)) SF hK (rk.le (Nat.le_of_ble_eq_true rfl)) hl.1 (Nat.le_of_ble_eq_true rfl) hP (EW.word (EW.kept hA hS hE) 2 (by decide)) dX2_line_19 ?_
    refine lv_if_eq (tgt := 32) hx hb dX2_line_22 (by decide) (fun c_22 => ?_) (fun c_22 => ?_)
    · have c_22 : (wrdB M ((wB 2).length) (wG 2)) = false := u_zb.mp c_22
      refine lv_aload_n hx hb dX2_line_32 rfl (lv_at hl 0 rfl) ?_
      refine va_ldcS hx hb hown ((hE.2 3 (by decide)).1) dX2_line_33 ?_
      refine k_X2_isWord (q := ks (2 * 3)) (v := ks (2 * 3 + 1)) (n := (wB 3).length) (g := wG 3) hW (by decide) (wG_lt 3 (by decide)) SF hK (rk.le (Nat.le_of_ble_eq_true rfl)) hl.1 (Nat.le_of_ble_eq_true rfl) hP (EW.word (EW.kept hA hS hE) 3 (by decide)) dX2_line_35 ?_
      refine lv_if_eq (tgt := 48) hx hb dX2_line_38 (by decide) (fun c_38 => ?_) (fun c_38 => ?_)
      · have c_38 : (wrdB M ((wB 3).length) (wG 3)) = false := u_zb.mp c_38
        refine lv_aload_n hx hb dX2_line_48 rfl (lv_at hl 0 rfl) ?_
        refine va_ldcS hx hb hown ((hE.2 4 (by decide)).1) dX2_line_49 ?_
        refine k_X2_isWord (q := ks (2 * 4)) (v := ks (2 * 4 + 1)) (n := (wB 4).length) (g := wG 4) hW (by decide) (wG_lt 4 (by decide)) SF hK (rk.le (Nat.le_of_ble_eq_true rfl)) hl.1 (Nat.le_of_ble_eq_true rfl) hP (EW.word (EW.kept hA hS hE) 4 (by decide)) dX2_line_51 ?_
        refine lv_if_eq (tgt := 100) hx hb dX2_line_54 (by decide) (fun c_54 => ?_) (fun c_54 => ?_)
        · have c_54 : (wrdB M ((wB 4).length) (wG 4)) = false := u_zb.mp c_54
          refine lv_aload_n hx hb dX2_line_100 rfl (lv_at hl 0 rfl) ?_
          refine va_ldcS hx hb hown ((hE.2 5 (by decide)).1) dX2_line_101 ?_
          refine k_X2_isWord (q := ks (2 * 5)) (v := ks (2 * 5 + 1)) (n := (wB 5).length) (g := wG 5) hW (by decide) (wG_lt 5 (by decide)) SF hK (rk.le (Nat.le_of_ble_eq_true rfl)) hl.1 (Nat.le_of_ble_eq_true rfl) hP (EW.word (EW.kept hA hS hE) 5 (by decide)) dX2_line_103 ?_
          refine lv_if_eq (tgt := 126) hx hb dX2_line_106 (by decide) (fun c_106 => ?_) (fun c_106 => ?_)
          · have c_106 : (wrdB M ((wB 5).length) (wG 5)) = false := u_zb.mp c_106
            refine lv_aload_n hx hb dX2_line_126 rfl (lv_at hl 0 rfl) ?_
            refine lv_iconst (v := nI 1) hx hb dX2_line_127 (by decide) ?_
            refine k_X2_fails  hJ  SF hK (rk.le (Nat.le_of_ble_eq_true rfl)) hl.1 (Nat.le_of_ble_eq_true rfl) hP hS dX2_line_128 (fun H locs hP hS => ?_)
            have hP : mP dC dI dA a (failM M (nI 1)) H := hP
            exact hret _ _ _ _ (by rw [lin_6 c_6 c_22 c_38 c_54 c_106]; exact hP) hS dX2_line_131
          · have c_106 : ¬ ((wrdB M ((wB 5).length) (wG 5)) = false) := fun q9 => c_106 (u_zb.mpr q9)
            refine lv_aload_n hx hb dX2_line_109 rfl (lv_at hl 0 rfl) ?_
            refine k_X2_sortsAll  hJ hS1 hT SF hK (rk.le (Nat.le_of_ble_eq_true rfl)) hl.1 (Nat.le_of_ble_eq_true rfl) hP hS dX2_line_110 (fun H locs hP hS => ?_)
            have hP : mP dC dI dA a (mrow M 2 (sAl (M 2) (M 1))) H := hP
            refine lv_istore_n (lv' := [(1, .int (nI (sAn (M 2) (M 1)))), (0, .ref (a 0))]) hx hb dX2_line_113 rfl hl (by decide) rfl (fun ls hl => ?_)
            refine lv_aload_n hx hb dX2_line_114 rfl (lv_at hl 1 rfl) ?_
            refine lv_iconst (v := nI 1) hx hb dX2_line_115 (by decide) ?_
            refine m_pf_wasSorted (b9 := true) SF hK hJ hP hS dX2_line_116 (fun H locs hP hS => ?_)
            have hP : mP dC dI dA a (mrow (mrow M 0 (upd (M 0) 19 (nI 1))) 2 (sAl (M 2) (M 1))) H := hP
            refine lv_aload_n hx hb dX2_line_119 rfl (lv_at hl 1 rfl) ?_
            refine k_X2_goesOn (M := mrow (mrow M 0 (upd (M 0) 19 (nI 1))) 2 (sAl (M 2) (M 1)))  hJ (show PW0 _ from (soA_pw hW).p0) SF hK (rk.le (Nat.le_of_ble_eq_true rfl)) hl.1 (Nat.le_of_ble_eq_true rfl) hP hS dX2_line_120 (fun H locs hP hS => ?_)
            have hP : mP dC dI dA a (goM (mrow (mrow M 0 (upd (M 0) 19 (nI 1))) 2 (sAl (M 2) (M 1)))) H := hP
            refine lv_goto (tgt := 131) hx hb dX2_line_123 (by decide) ?_
            exact hret _ _ _ _ (by rw [lin_5 c_6 c_22 c_38 c_54 (wd_t c_106)]; exact hP) hS dX2_line_131
        · have c_54 : ¬ ((wrdB M ((wB 4).length) (wG 4)) = false) := fun q9 => c_54 (u_zb.mpr q9)
          refine lv_aload_n hx hb dX2_line_57 rfl (lv_at hl 0 rfl) ?_
          refine k_X2_goesOn  hJ hW.p0 SF hK (rk.le (Nat.le_of_ble_eq_true rfl)) hl.1 (Nat.le_of_ble_eq_true rfl) hP hS dX2_line_58 (fun H locs hP hS => ?_)
          have hP : mP dC dI dA a (goM M) H := hP
          obtain ⟨MA, hMA⟩ : ∃ z, z = goM M := ⟨_, rfl⟩
          rw [← hMA] at hP
          have hWA : PW MA := by rw [hMA]; exact (go_wf hW).1
          have hv5 := lookV_ok (M := MA) (a := 0) (b := 5) (by decide) (by decide)
          refine lv_aload_n hx hb dX2_line_61 rfl (lv_at hl 0 rfl) ?_
          refine lv_iconst (v := nI 0) hx hb dX2_line_62 (by decide) ?_
          refine lv_iconst (v := nI 5) hx hb dX2_line_63 (by decide) ?_
          refine k_X2_takes (M := MA)  hJ hWA SF hK (rk.le (Nat.le_of_ble_eq_true rfl)) hl.1 (Nat.le_of_ble_eq_true rfl) hP hS dX2_line_64 (fun H locs hP hS => ?_)
          refine u_top (y := lookV MA (nI 0) (nI 5)) rfl ?_
          have hP : mP dC dI dA a (takM MA (nI 0) (nI 5)) H := hP
          obtain ⟨MB, hMB⟩ : ∃ z, z = takM MA (nI 0) (nI 5) := ⟨_, rfl⟩
          rw [← hMB] at hP
          refine u_top (y := nI (cN (lookV MA (nI 0) (nI 5)))) hv5.1 ?_
          refine lv_istore_n (lv' := [(1, .int (nI (cN (lookV MA (nI 0) (nI 5))))), (0, .ref (a 0))]) hx hb dX2_line_67 rfl hl (by decide) rfl (fun ls hl => ?_)
          refine lv_aload_n hx hb dX2_line_68 rfl (lv_at hl 1 rfl) ?_
          refine va_get (D := (dC, dI)) (ci := 2) (v := .ref (a 2)) (C := RX2) (T := TX2) (N := 22) hx hb hts in_X2 hown hK hP 0 rfl rfl 3 (by decide) (hts _ q1954) (fun _ h9 => h9) rfl dX2_line_69 ?_
          refine lv_bipush (v := nI 9) hx hb dX2_line_72 (by decide) ?_
          refine lv_iload_n hx hb dX2_line_74 rfl (lv_at hl 0 rfl) ?_
          refine lv_iadd hx hb dX2_line_75 ?_
          refine u_top (nI_add _ _) ?_
          refine lv_aload_n hx hb dX2_line_76 rfl (lv_at hl 1 rfl) ?_
          refine va_get (D := (dC, dI)) (ci := 2) (v := .int (MB 0 16)) (C := RX2) (T := TX2) (N := 22) hx hb hts in_X2 hown hK hP 0 rfl rfl 16 (by decide) (hts _ q1967) (fun _ h9 => h9) rfl dX2_line_77 ?_
          refine lv_if_ne (tgt := 87) hx hb dX2_line_80 (by decide) (fun c_80 => ?_) (fun c_80 => ?_)
          · refine lv_aload_n hx hb dX2_line_87 rfl (lv_at hl 1 rfl) ?_
            refine va_get (D := (dC, dI)) (ci := 2) (v := .ref (a 2)) (C := RX2) (T := TX2) (N := 22) hx hb hts in_X2 hown hK hP 0 rfl rfl 3 (by decide) (hts _ q1954) (fun _ h9 => h9) rfl dX2_line_88 ?_
            refine lv_bipush (v := nI 9) hx hb dX2_line_91 (by decide) ?_
            refine lv_iload_n hx hb dX2_line_93 rfl (lv_at hl 0 rfl) ?_
            refine lv_iadd hx hb dX2_line_94 ?_
            refine u_top (nI_add _ _) ?_
            refine u_iald hx hb hK hP 2 0 rfl rfl (i := 9 + (cN (lookV MA (nI 0) (nI 5)))) (by omega) (by decide) dX2_line_95 ?_
            refine u_top (y := MB 2 (9 + (cN (lookV MA (nI 0) (nI 5))))) rfl ?_
            refine m_as2 SF hK hJ hP hS (i := 9 + (cN (lookV MA (nI 0) (nI 5)))) (by omega) dX2_line_96 (fun H locs hP hS => ?_)
            have hP : mP dC dI dA a (mrow MB 2 (upd (MB 2) (9 + (cN (lookV MA (nI 0) (nI 5)))) (MB 2 (9 + (cN (lookV MA (nI 0) (nI 5))))))) H := hP
            refine lv_goto (tgt := 131) hx hb dX2_line_97 (by decide) ?_
            exact hret _ _ _ _ (by rw [lin_4 c_6 c_22 c_38 (wd_t c_54), cloM, ← hMA, ← hMB, if_neg c_80]; exact hP) hS dX2_line_131
          · refine lv_iconst (v := nI 0) hx hb dX2_line_83 (by decide) ?_
            refine lv_goto (tgt := 96) hx hb dX2_line_84 (by decide) ?_
            refine m_as2 SF hK hJ hP hS (i := 9 + (cN (lookV MA (nI 0) (nI 5)))) (by omega) dX2_line_96 (fun H locs hP hS => ?_)
            have hP : mP dC dI dA a (mrow MB 2 (upd (MB 2) (9 + (cN (lookV MA (nI 0) (nI 5)))) (nI 0))) H := hP
            refine lv_goto (tgt := 131) hx hb dX2_line_97 (by decide) ?_
            exact hret _ _ _ _ (by rw [lin_4 c_6 c_22 c_38 (wd_t c_54), cloM, ← hMA, ← hMB, if_pos c_80]; exact hP) hS dX2_line_131
      · have c_38 : ¬ ((wrdB M ((wB 3).length) (wG 3)) = false) := fun q9 => c_38 (u_zb.mpr q9)
        refine lv_aload_n hx hb dX2_line_41 rfl (lv_at hl 0 rfl) ?_
        refine k_X2_sumLine  hJ hW SF hK (rk.le (Nat.le_of_ble_eq_true rfl)) hl.1 (Nat.le_of_ble_eq_true rfl) hP hS dX2_line_42 (fun H locs hP hS => ?_)
        have hP : mP dC dI dA a (sumM M) H := hP
        refine lv_goto (tgt := 131) hx hb dX2_line_45 (by decide) ?_
        exact hret _ _ _ _ (by rw [lin_3 c_6 c_22 (wd_t c_38)]; exact hP) hS dX2_line_131
    · have c_22 : ¬ ((wrdB M ((wB 2).length) (wG 2)) = false) := fun q9 => c_22 (u_zb.mpr q9)
      refine lv_aload_n hx hb dX2_line_25 rfl (lv_at hl 0 rfl) ?_
      refine k_X2_letterLine  hJ hW hS1 SF hK (rk.le (Nat.le_of_ble_eq_true rfl)) hl.1 (Nat.le_of_ble_eq_true rfl) hP hS dX2_line_26 (fun H locs hP hS => ?_)
      have hP : mP dC dI dA a (lettM M) H := hP
      refine lv_goto (tgt := 131) hx hb dX2_line_29 (by decide) ?_
      exact hret _ _ _ _ (by rw [lin_2 c_6 (wd_t c_22)]; exact hP) hS dX2_line_131
  · have c_6 : ¬ ((wrdB M ((wB 1).length) (wG 1)) = false) := fun q9 => c_6 (u_zb.mpr q9)
    refine lv_aload_n hx hb dX2_line_9 rfl (lv_at hl 0 rfl) ?_
    refine k_X2_townLine  hJ hW hT SF hK (rk.le (Nat.le_of_ble_eq_true rfl)) hl.1 (Nat.le_of_ble_eq_true rfl) hP hS dX2_line_10 (fun H locs hP hS => ?_)
    have hP : mP dC dI dA a (townM M) H := hP
    refine lv_goto (tgt := 131) hx hb dX2_line_13 (by decide) ?_
    exact hret _ _ _ _ (by rw [lin_1 (wd_t c_6)]; exact hP) hS dX2_line_131
theorem k_X2_line (hJ : mJ a) {sz : Nat} {ks : Nat → Nat} (hW : PW M) (hS1 : SWf (M 2)) (hT : TWf (M 1)) (hA : ∀ j, j < 8 → sz ≤ a j) (SF : CallFix p m c cc nL s args lw_all RX2) (hK : KK dC dI dA s) (rk : rmOK 16 R) (hsz : ls.size = nL) (hcat : (rest.map fun v => v.category).sum ≤ 8) (hP : mP dC dI dA a M H) (hE : (EW sz ks) s H) (hS : uS (mA a) H0 H locs) (hdg : decode cc pc = .ok (.invokevirtual 245, 3)) (k : ∀ (H1 : Heap) (locs1 : List Loc), mP dC dI dA a (lineM M) H1 → uS (mA a) H0 H1 locs1 → W p l e R s m args below meth c H1 locs1 0 0 Q (F0 m (pc + 3) ls (rest))) : W p l e R s m args below meth c H locs 0 0 Q (F0 m pc ls (.ref (a 0) :: rest)) :=
  u_runMv (x_rV (C := RX2) (As := []) SF hK rk (c_X2_line l dC dI dA a M hJ sz ks hW hS1 hT hA) (lw_V q2104 q2106 qs58 q117 q2107) (n := 0) (by decide +kernel) rfl (by decide) (va_recv hK hP (ci := 2) (q0 := 0) rfl rfl) (XOK.hp.and (EW.ok)) ⟨hP, hE⟩ hsz hcat ⟨Nat.zero_le _, Nat.zero_le _⟩ rfl hdg) hS (fun _ h => h) (fun H1 locs1 h1 h2 _ => k H1 locs1 h1 h2)
end TW
