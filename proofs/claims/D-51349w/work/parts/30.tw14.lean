set_option maxRecDepth 100000
section TW
variable {p : Program} {l : Launch} {e : Env} {R : Room} {s : State} {m : MethodId} {args : Array Value} {below : List Frame} {meth : Method} {c : Code} {H : Heap} {locs : List Loc} {Q : State → Prop}
variable {cc : ByteArray} {pc nL : Nat} {ls : Array Slot} {rest : List Value} {dC : Nat → ClassId} {dI : Nat → Nat → Nat} {dA : Nat → ClassId} {a : Nat → Nat} {M : Nat → Nat → Int32} {H0 : Heap}

set_option maxHeartbeats 4000000 in
theorem c_X2_townLine (l : Launch) (dC : Nat → ClassId) (dI : Nat → Nat → Nat) (dA : Nat → ClassId) (a : Nat → Nat) (M : Nat → Nat → Int32) (hJ : mJ a)  (hW : PW M) (hT : TWf (M 1)) : Met l yX2_townLine (ws_ yX2_townLine cX2_townLine 4 none) (rmD 5 0 0) (uPc [.ref (a 0)] (mP dC dI dA a M) dC dI dA) (uMv (mA a) (mP dC dI dA a (townM M))) 0 0 (mA a) := by
  refine u_metMv (own := RX2) (by decide) rfl (Nat.le_of_ble_eq_true rfl) fun p e R s m args below meth c Q SF rk hP hK hret ls hl => ?_
  have hx := SF.1
  have hb := SF.2.1
  have hml := SF.2.2.1
  have hown := SF.2.2.2.1
  have hts := SF.2.2.2.2
  have hS : uS (mA a) s.heap s.heap [] := uS.rf
  have hl : lv_has ls 4 [(0, .ref (a 0))] := hl
  have hn9 := hT.2.1
  refine lv_aload_n hx hb dX2_townLine_0 rfl (lv_at hl 0 rfl) ?_
  refine lv_aload_n hx hb dX2_townLine_1 rfl (lv_at hl 0 rfl) ?_
  refine k_X2_towns   SF hK (rk.le (Nat.le_of_ble_eq_true rfl)) hl.1 (Nat.le_of_ble_eq_true rfl) hP dX2_townLine_2 ?_
  refine u_top (y := nI (tn (M 1))) hT.1 ?_
  refine lv_bipush (v := nI 12) hx hb dX2_townLine_5 (by decide) ?_
  have jn22 : ∀ v9 : Int32, v9 = nI ((decide (tn (M 1) = 12) || !decide (M 0 19 = 0)).toNat) → ∀ (H : Heap) (locs : List Loc), mP dC dI dA a (M) H → uS (mA a) s.heap H locs → ∀ ls : Array Slot, lv_has ls 4 [(0, .ref (a 0))] → W p l e R s m args below meth c H locs 0 0 Q (F0 m 22 ls [.int v9, .ref (a 0)]) := by
    intro v9 hv9 H locs hP hS ls hl
    subst hv9
    refine lv_iconst (v := nI 4) hx hb dX2_townLine_22 (by decide) ?_
    refine k_X2_failsIf  hJ  SF hK (rk.le (Nat.le_of_ble_eq_true rfl)) hl.1 (Nat.le_of_ble_eq_true rfl) hP hS dX2_townLine_23 (fun H locs hP hS => ?_)
    have hP : mP dC dI dA a (fiM M (decide (tn (M 1) = 12) || !decide (M 0 19 = 0)) (nI 4)) H := hP
    refine lv_aload_n hx hb dX2_townLine_26 rfl (lv_at hl 0 rfl) ?_
    refine k_X2_goesOn (M := fiM M (decide (tn (M 1) = 12) || !decide (M 0 19 = 0)) (nI 4))  hJ ((fi_wf hW).1.p0) SF hK (rk.le (Nat.le_of_ble_eq_true rfl)) hl.1 (Nat.le_of_ble_eq_true rfl) hP hS dX2_townLine_27 (fun H locs hP hS => ?_)
    have hP : mP dC dI dA a (goM (fiM M (decide (tn (M 1) = 12) || !decide (M 0 19 = 0)) (nI 4))) H := hP
    obtain ⟨MA, hMA⟩ : ∃ z, z = goM (fiM M (decide (tn (M 1) = 12) || !decide (M 0 19 = 0)) (nI 4)) := ⟨_, rfl⟩
    rw [← hMA] at hP
    have hWA : PW MA := by rw [hMA]; exact (go_wf (fi_wf hW).1).1
    have hRA : RS M MA := by rw [hMA]; exact (twA_wf hW).2
    refine lv_aload_n hx hb dX2_townLine_30 rfl (lv_at hl 0 rfl) ?_
    refine k_X2_towns (M := MA)   SF hK (rk.le (Nat.le_of_ble_eq_true rfl)) hl.1 (Nat.le_of_ble_eq_true rfl) hP dX2_townLine_31 ?_
    refine u_top (y := MA 1 1) rfl ?_
    refine u_top (y := nI (tn (M 1))) (by rw [hRA.1 1 (by decide)]; exact hT.1) ?_
    refine lv_istore_n (lv' := [(1, .int (nI (tn (M 1)))), (0, .ref (a 0))]) hx hb dX2_townLine_34 rfl hl (by decide) rfl (fun ls hl => ?_)
    refine lv_aload_n hx hb dX2_townLine_35 rfl (lv_at hl 1 rfl) ?_
    refine lv_iconst (v := nI 0) hx hb dX2_townLine_36 (by decide) ?_
    refine lv_sipush (v := nI 9999) hx hb dX2_townLine_37 (by decide) ?_
    refine k_X2_looks (M := MA)  hJ  SF hK (rk.le (Nat.le_of_ble_eq_true rfl)) hl.1 (Nat.le_of_ble_eq_true rfl) hP hS dX2_townLine_40 (fun H locs hP hS => ?_)
    refine u_top (y := lookV MA (nI 0) (nI 9999)) rfl ?_
    have hP : mP dC dI dA a (lookM MA (nI 0).toInt (nI 9999).toInt) H := hP
    obtain ⟨MB, hMB⟩ : ∃ z, z = lookM MA (nI 0).toInt (nI 9999).toInt := ⟨_, rfl⟩
    rw [← hMB] at hP
    have hWB : PW MB := by rw [hMB]; exact (look_wf hWA).1
    refine lv_istore_n (lv' := [(2, .int (lookV MA (nI 0) (nI 9999))), (1, .int (nI (tn (M 1)))), (0, .ref (a 0))]) hx hb dX2_townLine_43 rfl hl (by decide) rfl (fun ls hl => ?_)
    refine lv_iconst (v := nI 0) hx hb dX2_townLine_44 (by decide) ?_
    refine lv_istore_n (lv' := [(3, .int (nI 0)), (2, .int (lookV MA (nI 0) (nI 9999))), (1, .int (nI (tn (M 1)))), (0, .ref (a 0))]) hx hb dX2_townLine_45 rfl hl (by decide) rfl (fun ls hl => ?_)
    have lp46 : ∀ (k0 : Nat) (k : Nat), k ≤ tn (M 1) → tn (M 1) < k + k0 → ∀ (H : Heap) (locs : List Loc), mP dC dI dA a ((twL MB (lookV MA (nI 0) (nI 9999)) k)) H → uS (mA a) s.heap H locs → ∀ ls : Array Slot, lv_has ls 4 [(3, .int (nI k)), (2, .int (lookV MA (nI 0) (nI 9999))), (1, .int (nI (tn (M 1)))), (0, .ref (a 0))] → W p l e R s m args below meth c H locs 0 0 Q (F0 m 46 ls []) := by
      intro k0
      induction k0 with
      | zero =>
        intro k hk1 hk2; omega
      | succ k0 ih =>
        intro k hk1 hk2 H locs hP hS ls hl
        have ih46 := ih
        refine lv_iload_n hx hb dX2_townLine_46 rfl (lv_at hl 0 rfl) ?_
        refine lv_iload_n hx hb dX2_townLine_47 rfl (lv_at hl 2 rfl) ?_
        refine lv_icmp_ge (tgt := 86) hx hb dX2_townLine_48 (by decide) (fun c_48 => ?_) (fun c_48 => ?_)
        · have c_48 : tn (M 1) ≤ k := (nI_leI (a := tn (M 1)) (b := k) (by omega) (by omega)).mp c_48
          have e9 : k = tn (M 1) := by omega
          subst e9
          have hP : mP dC dI dA a ((twL MB (lookV MA (nI 0) (nI 9999)) (tn (M 1)))) H := hP
          obtain ⟨MC, hMC⟩ : ∃ z, z = (twL MB (lookV MA (nI 0) (nI 9999)) (tn (M 1))) := ⟨_, rfl⟩
          rw [← hMC] at hP
          have hWC : PW MC := by rw [hMC]; exact (twL_wf hWB _).1
          refine lv_aload_n hx hb dX2_townLine_86 rfl (lv_at hl 3 rfl) ?_
          refine k_X2_goesOn (M := MC)  hJ hWC.p0 SF hK (rk.le (Nat.le_of_ble_eq_true rfl)) hl.1 (Nat.le_of_ble_eq_true rfl) hP hS dX2_townLine_87 (fun H locs hP hS => ?_)
          have hP : mP dC dI dA a (goM MC) H := hP
          obtain ⟨MD, hMD⟩ : ∃ z, z = goM MC := ⟨_, rfl⟩
          rw [← hMD] at hP
          have hWD : PW MD := by rw [hMD]; exact (go_wf hWC).1
          refine lv_aload_n hx hb dX2_townLine_90 rfl (lv_at hl 3 rfl) ?_
          refine lv_iconst (v := nI 0) hx hb dX2_townLine_91 (by decide) ?_
          refine lv_iconst (v := nI 5) hx hb dX2_townLine_92 (by decide) ?_
          refine k_X2_takes (M := MD)  hJ hWD SF hK (rk.le (Nat.le_of_ble_eq_true rfl)) hl.1 (Nat.le_of_ble_eq_true rfl) hP hS dX2_townLine_93 (fun H locs hP hS => ?_)
          refine u_top (y := lookV MD (nI 0) (nI 5)) rfl ?_
          have hP : mP dC dI dA a (takM MD (nI 0) (nI 5)) H := hP
          obtain ⟨ME, hME⟩ : ∃ z, z = takM MD (nI 0) (nI 5) := ⟨_, rfl⟩
          rw [← hME] at hP
          have eA : MA = twA M := hMA
          have eB : MB = twB M := by rw [hMB, eA]; rfl
          have eD : MD = twD M := by rw [hMD, hMC, eB, eA]; rfl
          have eE : ME = twE M := by rw [hME, eD]; rfl
          refine lv_istore_n (lv' := [(3, .int (lookV MD (nI 0) (nI 5))), (2, .int (lookV MA (nI 0) (nI 9999))), (1, .int (nI (tn (M 1)))), (0, .ref (a 0))]) hx hb dX2_townLine_96 rfl hl (by decide) rfl (fun ls hl => ?_)
          refine lv_aload_n hx hb dX2_townLine_97 rfl (lv_at hl 3 rfl) ?_
          refine va_get (D := (dC, dI)) (ci := 2) (v := .int (ME 0 16)) (C := RX2) (T := TX2) (N := 22) hx hb hts in_X2 hown hK hP 0 rfl rfl 16 (by decide) (hts _ q1967) (fun _ h9 => h9) rfl dX2_townLine_98 ?_
          refine lv_if_ne (tgt := 133) hx hb dX2_townLine_101 (by decide) (fun c_101 => ?_) (fun c_101 => ?_)
          · exact hret _ _ _ _ (by rw [townM, ← eE, if_neg c_101]; exact hP) hS dX2_townLine_133
          · have hok := twE_ok hW (by rw [← eE]; exact c_101)
            have ht12 := hok.1
            refine lv_aload_n hx hb dX2_townLine_104 rfl (lv_at hl 3 rfl) ?_
            refine va_get (D := (dC, dI)) (ci := 2) (v := .ref (a 1)) (C := RX2) (T := TX2) (N := 22) hx hb hts in_X2 hown hK hP 0 rfl rfl 2 (by decide) (hts _ q1953) (fun _ h9 => h9) rfl dX2_townLine_105 ?_
            refine lv_iconst (v := nI 2) hx hb dX2_townLine_108 (by decide) ?_
            refine lv_iload_n hx hb dX2_townLine_109 rfl (lv_at hl 2 rfl) ?_
            refine lv_iadd hx hb dX2_townLine_110 ?_
            refine u_top (nI_add _ _) ?_
            refine lv_iload_n hx hb dX2_townLine_111 rfl (lv_at hl 1 rfl) ?_
            refine m_as1 SF hK hJ hP hS (i := 2 + (tn (M 1))) (by omega) dX2_townLine_112 (fun H locs hP hS => ?_)
            have hP : mP dC dI dA a (mrow ME 1 (upd (ME 1) (2 + (tn (M 1))) (lookV MA (nI 0) (nI 9999)))) H := hP
            refine lv_aload_n hx hb dX2_townLine_113 rfl (lv_at hl 3 rfl) ?_
            refine va_get (D := (dC, dI)) (ci := 2) (v := .ref (a 1)) (C := RX2) (T := TX2) (N := 22) hx hb hts in_X2 hown hK hP 0 rfl rfl 2 (by decide) (hts _ q1953) (fun _ h9 => h9) rfl dX2_townLine_114 ?_
            refine lv_bipush (v := nI 14) hx hb dX2_townLine_117 (by decide) ?_
            refine lv_iload_n hx hb dX2_townLine_119 rfl (lv_at hl 2 rfl) ?_
            refine lv_iadd hx hb dX2_townLine_120 ?_
            refine u_top (nI_add _ _) ?_
            refine lv_iload_n hx hb dX2_townLine_121 rfl (lv_at hl 0 rfl) ?_
            refine m_as1 SF hK hJ hP hS (i := 14 + (tn (M 1))) (by omega) dX2_townLine_122 (fun H locs hP hS => ?_)
            have hP : mP dC dI dA a (mrow ME 1 (upd (upd (ME 1) (2 + (tn (M 1))) (lookV MA (nI 0) (nI 9999))) (14 + (tn (M 1))) (lookV MD (nI 0) (nI 5)))) H := hP
            refine lv_aload_n hx hb dX2_townLine_123 rfl (lv_at hl 3 rfl) ?_
            refine va_get (D := (dC, dI)) (ci := 2) (v := .ref (a 1)) (C := RX2) (T := TX2) (N := 22) hx hb hts in_X2 hown hK hP 0 rfl rfl 2 (by decide) (hts _ q1953) (fun _ h9 => h9) rfl dX2_townLine_124 ?_
            refine lv_iconst (v := nI 1) hx hb dX2_townLine_127 (by decide) ?_
            refine lv_dup2_11 hx hb dX2_townLine_128 rfl rfl ?_
            refine u_iald hx hb hK hP 1 0 rfl rfl (i := 1) (by omega) (by decide) dX2_townLine_129 ?_
            refine u_top (y := (upd (upd (ME 1) (2 + (tn (M 1))) (lookV MA (nI 0) (nI 9999))) (14 + (tn (M 1))) (lookV MD (nI 0) (nI 5))) 1) rfl ?_
            refine lv_iconst (v := nI 1) hx hb dX2_townLine_130 (by decide) ?_
            refine lv_iadd hx hb dX2_townLine_131 ?_
            refine m_as1 SF hK hJ hP hS (i := 1) (by omega) dX2_townLine_132 (fun H locs hP hS => ?_)
            have hP : mP dC dI dA a (mrow ME 1 (upd (upd (upd (ME 1) (2 + (tn (M 1))) (lookV MA (nI 0) (nI 9999))) (14 + (tn (M 1))) (lookV MD (nI 0) (nI 5))) 1 (((upd (upd (ME 1) (2 + (tn (M 1))) (lookV MA (nI 0) (nI 9999))) (14 + (tn (M 1))) (lookV MD (nI 0) (nI 5))) 1) + (nI 1)))) H := hP
            exact hret _ _ _ _ (by rw [townM, ← eE, if_pos c_101, twV, ← eA, twR, ← eD]; exact hP) hS dX2_townLine_133
        · have c_48 : ¬ (tn (M 1) ≤ k) := fun q9 => c_48 ((nI_leI (a := tn (M 1)) (b := k) (by omega) (by omega)).mpr q9)
          refine lv_aload_n hx hb dX2_townLine_51 rfl (lv_at hl 3 rfl) ?_
          refine lv_aload_n hx hb dX2_townLine_52 rfl (lv_at hl 3 rfl) ?_
          refine va_get (D := (dC, dI)) (ci := 2) (v := .int ((twL MB (lookV MA (nI 0) (nI 9999)) k) 0 16)) (C := RX2) (T := TX2) (N := 22) hx hb hts in_X2 hown hK hP 0 rfl rfl 16 (by decide) (hts _ q1967) (fun _ h9 => h9) rfl dX2_townLine_53 ?_
          have jn76 : ∀ v9 : Int32, v9 = nI ((decide (twL MB (lookV MA (nI 0) (nI 9999)) k 0 16 = 0) && decide (twL MB (lookV MA (nI 0) (nI 9999)) k 1 (2 + k) = (lookV MA (nI 0) (nI 9999)))).toNat) → ∀ (H : Heap) (locs : List Loc), mP dC dI dA a ((twL MB (lookV MA (nI 0) (nI 9999)) k)) H → uS (mA a) s.heap H locs → ∀ ls : Array Slot, lv_has ls 4 [(3, .int (nI k)), (2, .int (lookV MA (nI 0) (nI 9999))), (1, .int (nI (tn (M 1)))), (0, .ref (a 0))] → W p l e R s m args below meth c H locs 0 0 Q (F0 m 76 ls [.int v9, .ref (a 0)]) := by
            intro v9 hv9 H locs hP hS ls hl
            subst hv9
            refine lv_iconst (v := nI 3) hx hb dX2_townLine_76 (by decide) ?_
            refine k_X2_failsIf (M := (twL MB (lookV MA (nI 0) (nI 9999)) k))  hJ  SF hK (rk.le (Nat.le_of_ble_eq_true rfl)) hl.1 (Nat.le_of_ble_eq_true rfl) hP hS dX2_townLine_77 (fun H locs hP hS => ?_)
            have hP : mP dC dI dA a (fiM (twL MB (lookV MA (nI 0) (nI 9999)) k) (decide (twL MB (lookV MA (nI 0) (nI 9999)) k 0 16 = 0) && decide (twL MB (lookV MA (nI 0) (nI 9999)) k 1 (2 + k) = (lookV MA (nI 0) (nI 9999)))) (nI 3)) H := hP
            refine lv_iinc (v := nI (k + 1)) (lv' := [(3, .int (nI (k + 1))), (2, .int (lookV MA (nI 0) (nI 9999))), (1, .int (nI (tn (M 1)))), (0, .ref (a 0))]) hx hb dX2_townLine_80 hl (k := 0) rfl (nI_add _ 1) (by decide) rfl (fun ls hl => ?_)
            refine lv_goto (tgt := 46) hx hb dX2_townLine_83 (by decide) ?_
            exact ih46 (k + 1) (by omega) (by omega) _ _ hP hS ls (lv_sub hl [0, 1, 2, 3] rfl)
          refine lv_if_ne (tgt := 75) hx hb dX2_townLine_56 (by decide) (fun c_56 => ?_) (fun c_56 => ?_)
          · refine lv_iconst (v := nI 0) hx hb dX2_townLine_75 (by decide) ?_
            exact jn76 _ (u_ff (by first | (simp [c_56]; done) | (simp [c_68]; done))) _ _ hP hS ls (lv_sub hl [0, 1, 2, 3] rfl)
          · refine lv_aload_n hx hb dX2_townLine_59 rfl (lv_at hl 3 rfl) ?_
            refine va_get (D := (dC, dI)) (ci := 2) (v := .ref (a 1)) (C := RX2) (T := TX2) (N := 22) hx hb hts in_X2 hown hK hP 0 rfl rfl 2 (by decide) (hts _ q1953) (fun _ h9 => h9) rfl dX2_townLine_60 ?_
            refine lv_iconst (v := nI 2) hx hb dX2_townLine_63 (by decide) ?_
            refine lv_iload_n hx hb dX2_townLine_64 rfl (lv_at hl 0 rfl) ?_
            refine lv_iadd hx hb dX2_townLine_65 ?_
            refine u_top (nI_add _ _) ?_
            refine u_iald hx hb hK hP 1 0 rfl rfl (i := 2 + k) (by omega) (by decide) dX2_townLine_66 ?_
            refine u_top (y := ((twL MB (lookV MA (nI 0) (nI 9999)) k) 1) (2 + k)) rfl ?_
            refine lv_iload_n hx hb dX2_townLine_67 rfl (lv_at hl 1 rfl) ?_
            refine lv_icmp_ne (tgt := 75) hx hb dX2_townLine_68 (by decide) (fun c_68 => ?_) (fun c_68 => ?_)
            · refine lv_iconst (v := nI 0) hx hb dX2_townLine_75 (by decide) ?_
              exact jn76 _ (u_ff (by first | (simp [c_56]; done) | (simp [c_68]; done))) _ _ hP hS ls (lv_sub hl [0, 1, 2, 3] rfl)
            · refine lv_iconst (v := nI 1) hx hb dX2_townLine_71 (by decide) ?_
              refine lv_goto (tgt := 76) hx hb dX2_townLine_72 (by decide) ?_
              exact jn76 _ (u_tt (by simp [c_56, c_68])) _ _ hP hS ls (lv_sub hl [0, 1, 2, 3] rfl)
    exact lp46 (tn (M 1) + 1) 0 (by omega) (by omega) _ _ hP hS ls (lv_sub hl [0, 1, 2, 3] rfl)
  refine lv_icmp_eq (tgt := 17) hx hb dX2_townLine_7 (by decide) (fun c_7 => ?_) (fun c_7 => ?_)
  · have c_7 : tn (M 1) = 12 := (nI_eq (a := tn (M 1)) (b := 12) (by omega) (by omega)).mp c_7
    refine lv_iconst (v := nI 1) hx hb dX2_townLine_17 (by decide) ?_
    refine lv_goto (tgt := 22) hx hb dX2_townLine_18 (by decide) ?_
    exact jn22 _ (u_tt (by first | (simp [c_7]; done) | (simp [c_14]; done))) _ _ hP hS ls (lv_sub hl [0] rfl)
  · have c_7 : ¬ (tn (M 1) = 12) := fun q9 => c_7 ((nI_eq (a := tn (M 1)) (b := 12) (by omega) (by omega)).mpr q9)
    refine lv_aload_n hx hb dX2_townLine_10 rfl (lv_at hl 0 rfl) ?_
    refine va_get (D := (dC, dI)) (ci := 2) (v := .int (M 0 19)) (C := RX2) (T := TX2) (N := 22) hx hb hts in_X2 hown hK hP 0 rfl rfl 19 (by decide) (hts _ q1970) (fun _ h9 => h9) rfl dX2_townLine_11 ?_
    refine lv_if_eq (tgt := 21) hx hb dX2_townLine_14 (by decide) (fun c_14 => ?_) (fun c_14 => ?_)
    · refine lv_iconst (v := nI 0) hx hb dX2_townLine_21 (by decide) ?_
      exact jn22 _ (u_ff (by simp [c_7, c_14])) _ _ hP hS ls (lv_sub hl [0] rfl)
    · refine lv_iconst (v := nI 1) hx hb dX2_townLine_17 (by decide) ?_
      refine lv_goto (tgt := 22) hx hb dX2_townLine_18 (by decide) ?_
      exact jn22 _ (u_tt (by first | (simp [c_7]; done) | (simp [c_14]; done))) _ _ hP hS ls (lv_sub hl [0] rfl)
theorem k_X2_townLine (hJ : mJ a)  (hW : PW M) (hT : TWf (M 1)) (SF : CallFix p m c cc nL s args lw_all RX2) (hK : KK dC dI dA s) (rk : rmOK 6 R) (hsz : ls.size = nL) (hcat : (rest.map fun v => v.category).sum ≤ 8) (hP : mP dC dI dA a M H) (hS : uS (mA a) H0 H locs) (hdg : decode cc pc = .ok (.invokevirtual 224, 3)) (k : ∀ (H1 : Heap) (locs1 : List Loc), mP dC dI dA a (townM M) H1 → uS (mA a) H0 H1 locs1 → W p l e R s m args below meth c H1 locs1 0 0 Q (F0 m (pc + 3) ls (rest))) : W p l e R s m args below meth c H locs 0 0 Q (F0 m pc ls (.ref (a 0) :: rest)) :=
  u_runMv (u_rV (C := RX2) (Ψ := (mP dC dI dA a M)) (As := []) SF hK rk (c_X2_townLine l dC dI dA a M hJ  hW hT) (lw_V q2109 q2111 qs59 q117 q2112) (n := 0) (by decide +kernel) rfl (by decide) (va_recv hK hP (ci := 2) (q0 := 0) rfl rfl) hP hsz hcat ⟨Nat.zero_le _, Nat.zero_le _⟩ rfl hdg) hS (fun _ h => h) (fun H1 locs1 h1 h2 _ => k H1 locs1 h1 h2)

set_option maxHeartbeats 4000000 in
theorem c_X2_letterLine (l : Launch) (dC : Nat → ClassId) (dI : Nat → Nat → Nat) (dA : Nat → ClassId) (a : Nat → Nat) (M : Nat → Nat → Int32) (hJ : mJ a)  (hW : PW M) (hS1 : SWf (M 2)) : Met l yX2_letterLine (ws_ yX2_letterLine cX2_letterLine 3 none) (rmD 5 0 0) (uPc [.ref (a 0)] (mP dC dI dA a M) dC dI dA) (uMv (mA a) (mP dC dI dA a (lettM M))) 0 0 (mA a) := by
  refine u_metMv (own := RX2) (by decide) rfl (Nat.le_of_ble_eq_true rfl) fun p e R s m args below meth c Q SF rk hP hK hret ls hl => ?_
  have hx := SF.1
  have hb := SF.2.1
  have hml := SF.2.2.1
  have hown := SF.2.2.2.1
  have hts := SF.2.2.2.2
  have hS : uS (mA a) s.heap s.heap [] := uS.rf
  have hl : lv_has ls 3 [(0, .ref (a 0))] := hl
  have hL := hS1.2.1
  refine lv_aload_n hx hb dX2_letterLine_0 rfl (lv_at hl 0 rfl) ?_
  refine lv_aload_n hx hb dX2_letterLine_1 rfl (lv_at hl 0 rfl) ?_
  refine k_X2_letters   SF hK (rk.le (Nat.le_of_ble_eq_true rfl)) hl.1 (Nat.le_of_ble_eq_true rfl) hP dX2_letterLine_2 ?_
  refine u_top (y := nI (ln (M 2))) hS1.1 ?_
  refine lv_bipush (v := nI 24) hx hb dX2_letterLine_5 (by decide) ?_
  have jn15 : ∀ v9 : Int32, v9 = nI ((decide (ln (M 2) = 24)).toNat) → ∀ (H : Heap) (locs : List Loc), mP dC dI dA a (M) H → uS (mA a) s.heap H locs → ∀ ls : Array Slot, lv_has ls 3 [(0, .ref (a 0))] → W p l e R s m args below meth c H locs 0 0 Q (F0 m 15 ls [.int v9, .ref (a 0)]) := by
    intro v9 hv9 H locs hP hS ls hl
    subst hv9
    refine lv_iconst (v := nI 4) hx hb dX2_letterLine_15 (by decide) ?_
    refine k_X2_failsIf  hJ  SF hK (rk.le (Nat.le_of_ble_eq_true rfl)) hl.1 (Nat.le_of_ble_eq_true rfl) hP hS dX2_letterLine_16 (fun H locs hP hS => ?_)
    have hP : mP dC dI dA a (fiM M (decide (ln (M 2) = 24)) (nI 4)) H := hP
    refine lv_aload_n hx hb dX2_letterLine_19 rfl (lv_at hl 0 rfl) ?_
    refine k_X2_goesOn (M := fiM M (decide (ln (M 2) = 24)) (nI 4))  hJ ((fi_wf hW).1.p0) SF hK (rk.le (Nat.le_of_ble_eq_true rfl)) hl.1 (Nat.le_of_ble_eq_true rfl) hP hS dX2_letterLine_20 (fun H locs hP hS => ?_)
    have hP : mP dC dI dA a (goM (fiM M (decide (ln (M 2) = 24)) (nI 4))) H := hP
    obtain ⟨MA, hMA⟩ : ∃ z, z = goM (fiM M (decide (ln (M 2) = 24)) (nI 4)) := ⟨_, rfl⟩
    rw [← hMA] at hP
    have hWA : PW MA := by rw [hMA]; exact (ltA_wf hW).1
    refine lv_aload_n hx hb dX2_letterLine_23 rfl (lv_at hl 0 rfl) ?_
    refine lv_aload_n hx hb dX2_letterLine_24 rfl (lv_at hl 0 rfl) ?_
    refine va_get (D := (dC, dI)) (ci := 2) (v := .int (MA 0 14)) (C := RX2) (T := TX2) (N := 22) hx hb hts in_X2 hown hK hP 0 rfl rfl 14 (by decide) (hts _ q1965) (fun _ h9 => h9) rfl dX2_letterLine_25 ?_
    refine lv_iconst (v := nI 5) hx hb dX2_letterLine_28 (by decide) ?_
    have jn37 : ∀ v9 : Int32, v9 = nI ((!decide (MA 0 14 = nI 5)).toNat) → ∀ (H : Heap) (locs : List Loc), mP dC dI dA a (MA) H → uS (mA a) s.heap H locs → ∀ ls : Array Slot, lv_has ls 3 [(0, .ref (a 0))] → W p l e R s m args below meth c H locs 0 0 Q (F0 m 37 ls [.int v9, .ref (a 0)]) := by
      intro v9 hv9 H locs hP hS ls hl
      subst hv9
      refine lv_iconst (v := nI 1) hx hb dX2_letterLine_37 (by decide) ?_
      refine k_X2_failsIf (M := MA)  hJ  SF hK (rk.le (Nat.le_of_ble_eq_true rfl)) hl.1 (Nat.le_of_ble_eq_true rfl) hP hS dX2_letterLine_38 (fun H locs hP hS => ?_)
      have hP : mP dC dI dA a (fiM MA (!decide (MA 0 14 = nI 5)) (nI 1)) H := hP
      obtain ⟨MB, hMB⟩ : ∃ z, z = fiM MA (!decide (MA 0 14 = nI 5)) (nI 1) := ⟨_, rfl⟩
      rw [← hMB] at hP
      have eA : MA = ltA M := hMA
      have eB : MB = ltB M := by rw [hMB, eA]; rfl
      have hWB : PW MB := by rw [eB]; exact (ltB_wf hW).1
      have hRB : RS M MB := by rw [eB]; exact (ltB_wf hW).2
      have hfx := hWB.2.2.2.2.1
      have hfn := hWB.2.2.2.2.2.1
      have hnb := hWB.2.2.2.1
      have hb6 := hWB.2.1
      refine lv_iconst (v := nI 0) hx hb dX2_letterLine_41 (by decide) ?_
      refine lv_istore_n (lv' := [(1, .int (nI 0)), (0, .ref (a 0))]) hx hb dX2_letterLine_42 rfl hl (by decide) rfl (fun ls hl => ?_)
      have lp43 : ∀ (k0 : Nat) (k : Nat), k ≤ 5 → (0 < k → MB 0 16 = 0) → 5 < k + k0 → ∀ (H : Heap) (locs : List Loc), mP dC dI dA a (mrow MB 2 (ltW MB (ln (M 2)) k)) H → uS (mA a) s.heap H locs → ∀ ls : Array Slot, lv_has ls 3 [(1, .int (nI k)), (0, .ref (a 0))] → W p l e R s m args below meth c H locs 0 0 Q (F0 m 43 ls []) := by
        intro k0
        induction k0 with
        | zero =>
          intro k hk1 hk0 hk2; omega
        | succ k0 ih =>
          intro k hk1 hk0 hk2 H locs hP hS ls hl
          have ih43 := ih
          refine lv_aload_n hx hb dX2_letterLine_43 rfl (lv_at hl 1 rfl) ?_
          refine va_get (D := (dC, dI)) (ci := 2) (v := .int (MB 0 16)) (C := RX2) (T := TX2) (N := 22) hx hb hts in_X2 hown hK hP 0 rfl rfl 16 (by decide) (hts _ q1967) (fun _ h9 => h9) rfl dX2_letterLine_44 ?_
          refine lv_if_ne (tgt := 95) hx hb dX2_letterLine_47 (by decide) (fun c_47 => ?_) (fun c_47 => ?_)
          · have hP : mP dC dI dA a (ltC M) H := lt_exit eB (by omega) hk0 (by first | exact Or.inl c_47 | exact Or.inr (by omega)) hP
            obtain ⟨MC, hMC⟩ : ∃ z, z = (ltC M) := ⟨_, rfl⟩
            rw [← hMC] at hP
            have eC : MC = ltC M := hMC
            have hWC : PW MC := by rw [hMC]; exact (ltC_wf hW).1
            refine lv_aload_n hx hb dX2_letterLine_95 rfl (lv_at hl 1 rfl) ?_
            refine k_X2_goesOn (M := MC)  hJ hWC.p0 SF hK (rk.le (Nat.le_of_ble_eq_true rfl)) hl.1 (Nat.le_of_ble_eq_true rfl) hP hS dX2_letterLine_96 (fun H locs hP hS => ?_)
            have hP : mP dC dI dA a (goM MC) H := hP
            obtain ⟨MD, hMD⟩ : ∃ z, z = goM MC := ⟨_, rfl⟩
            rw [← hMD] at hP
            have hWD : PW MD := by rw [hMD]; exact (go_wf hWC).1
            refine lv_aload_n hx hb dX2_letterLine_99 rfl (lv_at hl 1 rfl) ?_
            refine lv_iconst (v := nI 0) hx hb dX2_letterLine_100 (by decide) ?_
            refine lv_iconst (v := nI 5) hx hb dX2_letterLine_101 (by decide) ?_
            refine k_X2_takes (M := MD)  hJ hWD SF hK (rk.le (Nat.le_of_ble_eq_true rfl)) hl.1 (Nat.le_of_ble_eq_true rfl) hP hS dX2_letterLine_102 (fun H locs hP hS => ?_)
            refine u_top (y := lookV MD (nI 0) (nI 5)) rfl ?_
            have hP : mP dC dI dA a (takM MD (nI 0) (nI 5)) H := hP
            obtain ⟨ME, hME⟩ : ∃ z, z = takM MD (nI 0) (nI 5) := ⟨_, rfl⟩
            rw [← hME] at hP
            have eD : MD = ltD M := by rw [hMD, eC]; rfl
            have eE : ME = ltE M := by rw [hME, eD]; rfl
            have hRE := (ltE_wf hW).2
            rw [← eE] at hRE
            refine lv_istore_n (lv' := [(1, .int (lookV MD (nI 0) (nI 5))), (0, .ref (a 0))]) hx hb dX2_letterLine_105 rfl hl (by decide) rfl (fun ls hl => ?_)
            refine lv_aload_n hx hb dX2_letterLine_106 rfl (lv_at hl 1 rfl) ?_
            refine va_get (D := (dC, dI)) (ci := 2) (v := .int (ME 0 16)) (C := RX2) (T := TX2) (N := 22) hx hb hts in_X2 hown hK hP 0 rfl rfl 16 (by decide) (hts _ q1967) (fun _ h9 => h9) rfl dX2_letterLine_107 ?_
            refine lv_if_ne (tgt := 118) hx hb dX2_letterLine_110 (by decide) (fun c_110 => ?_) (fun c_110 => ?_)
            · exact hret _ _ _ _ (by rw [lettM, ← eE, if_neg c_110]; exact hP) hS dX2_letterLine_118
            · have h0 : ltB M 0 16 = 0 := lt_bad hW (by rw [← eE]; exact c_110)
              have hlk := ltB_ok hW h0
              have hE2' : ME 2 2 = M 2 2 := (congrFun (hRE.1 2 (by decide)) 2).trans (ltC_wf hW).2.2.2.1
              have hEl : ln (ME 2) = ln (M 2) := by unfold ln; rw [hE2']
              have hE2 : ME 2 2 = nI (ln (ME 2)) := by rw [hEl, hE2']; exact hS1.1
              refine lv_aload_n hx hb dX2_letterLine_113 rfl (lv_at hl 1 rfl) ?_
              refine lv_iload_n hx hb dX2_letterLine_114 rfl (lv_at hl 0 rfl) ?_
              refine k_X2_newLetter (M := ME)  hJ hE2 (show ln (ME 2) < 24 from (by rw [hEl]; omega)) SF hK (rk.le (Nat.le_of_ble_eq_true rfl)) hl.1 (Nat.le_of_ble_eq_true rfl) hP hS dX2_letterLine_115 (fun H locs hP hS => ?_)
              have hP : mP dC dI dA a (mrow ME 2 (nwS (ME 2) (ln (ME 2)) (lookV MD (nI 0) (nI 5)))) H := hP
              exact hret _ _ _ _ (by rw [lettM, ← eE, if_pos c_110, ltV, ← eD, ← hEl]; exact hP) hS dX2_letterLine_118
          · have h0 : ltB M 0 16 = 0 := by rw [← eB]; exact c_47
            have hlk := ltB_ok hW h0
            have hl24 := hlk.2.1
            refine lv_iload_n hx hb dX2_letterLine_50 rfl (lv_at hl 0 rfl) ?_
            refine lv_iconst (v := nI 5) hx hb dX2_letterLine_51 (by decide) ?_
            refine lv_icmp_ge (tgt := 95) hx hb dX2_letterLine_52 (by decide) (fun c_52 => ?_) (fun c_52 => ?_)
            · have c_52 : 5 ≤ k := (nI_leI (a := 5) (b := k) (by omega) (by omega)).mp c_52
              have hP : mP dC dI dA a (ltC M) H := lt_exit eB (by omega) hk0 (by first | exact Or.inl c_47 | exact Or.inr (by omega)) hP
              obtain ⟨MC, hMC⟩ : ∃ z, z = (ltC M) := ⟨_, rfl⟩
              rw [← hMC] at hP
              have eC : MC = ltC M := hMC
              have hWC : PW MC := by rw [hMC]; exact (ltC_wf hW).1
              refine lv_aload_n hx hb dX2_letterLine_95 rfl (lv_at hl 1 rfl) ?_
              refine k_X2_goesOn (M := MC)  hJ hWC.p0 SF hK (rk.le (Nat.le_of_ble_eq_true rfl)) hl.1 (Nat.le_of_ble_eq_true rfl) hP hS dX2_letterLine_96 (fun H locs hP hS => ?_)
              have hP : mP dC dI dA a (goM MC) H := hP
              obtain ⟨MD, hMD⟩ : ∃ z, z = goM MC := ⟨_, rfl⟩
              rw [← hMD] at hP
              have hWD : PW MD := by rw [hMD]; exact (go_wf hWC).1
              refine lv_aload_n hx hb dX2_letterLine_99 rfl (lv_at hl 1 rfl) ?_
              refine lv_iconst (v := nI 0) hx hb dX2_letterLine_100 (by decide) ?_
              refine lv_iconst (v := nI 5) hx hb dX2_letterLine_101 (by decide) ?_
              refine k_X2_takes (M := MD)  hJ hWD SF hK (rk.le (Nat.le_of_ble_eq_true rfl)) hl.1 (Nat.le_of_ble_eq_true rfl) hP hS dX2_letterLine_102 (fun H locs hP hS => ?_)
              refine u_top (y := lookV MD (nI 0) (nI 5)) rfl ?_
              have hP : mP dC dI dA a (takM MD (nI 0) (nI 5)) H := hP
              obtain ⟨ME, hME⟩ : ∃ z, z = takM MD (nI 0) (nI 5) := ⟨_, rfl⟩
              rw [← hME] at hP
              have eD : MD = ltD M := by rw [hMD, eC]; rfl
              have eE : ME = ltE M := by rw [hME, eD]; rfl
              have hRE := (ltE_wf hW).2
              rw [← eE] at hRE
              refine lv_istore_n (lv' := [(1, .int (lookV MD (nI 0) (nI 5))), (0, .ref (a 0))]) hx hb dX2_letterLine_105 rfl hl (by decide) rfl (fun ls hl => ?_)
              refine lv_aload_n hx hb dX2_letterLine_106 rfl (lv_at hl 1 rfl) ?_
              refine va_get (D := (dC, dI)) (ci := 2) (v := .int (ME 0 16)) (C := RX2) (T := TX2) (N := 22) hx hb hts in_X2 hown hK hP 0 rfl rfl 16 (by decide) (hts _ q1967) (fun _ h9 => h9) rfl dX2_letterLine_107 ?_
              refine lv_if_ne (tgt := 118) hx hb dX2_letterLine_110 (by decide) (fun c_110 => ?_) (fun c_110 => ?_)
              · exact hret _ _ _ _ (by rw [lettM, ← eE, if_neg c_110]; exact hP) hS dX2_letterLine_118
              · have h0 : ltB M 0 16 = 0 := lt_bad hW (by rw [← eE]; exact c_110)
                have hlk := ltB_ok hW h0
                have hE2' : ME 2 2 = M 2 2 := (congrFun (hRE.1 2 (by decide)) 2).trans (ltC_wf hW).2.2.2.1
                have hEl : ln (ME 2) = ln (M 2) := by unfold ln; rw [hE2']
                have hE2 : ME 2 2 = nI (ln (ME 2)) := by rw [hEl, hE2']; exact hS1.1
                refine lv_aload_n hx hb dX2_letterLine_113 rfl (lv_at hl 1 rfl) ?_
                refine lv_iload_n hx hb dX2_letterLine_114 rfl (lv_at hl 0 rfl) ?_
                refine k_X2_newLetter (M := ME)  hJ hE2 (show ln (ME 2) < 24 from (by rw [hEl]; omega)) SF hK (rk.le (Nat.le_of_ble_eq_true rfl)) hl.1 (Nat.le_of_ble_eq_true rfl) hP hS dX2_letterLine_115 (fun H locs hP hS => ?_)
                have hP : mP dC dI dA a (mrow ME 2 (nwS (ME 2) (ln (ME 2)) (lookV MD (nI 0) (nI 5)))) H := hP
                exact hret _ _ _ _ (by rw [lettM, ← eE, if_pos c_110, ltV, ← eD, ← hEl]; exact hP) hS dX2_letterLine_118
            · have c_52 : ¬ (5 ≤ k) := fun q9 => c_52 ((nI_leI (a := 5) (b := k) (by omega) (by omega)).mpr q9)
              refine lv_aload_n hx hb dX2_letterLine_55 rfl (lv_at hl 1 rfl) ?_
              refine lv_aload_n hx hb dX2_letterLine_56 rfl (lv_at hl 1 rfl) ?_
              refine va_get (D := (dC, dI)) (ci := 2) (v := .int (MB 0 13)) (C := RX2) (T := TX2) (N := 22) hx hb hts in_X2 hown hK hP 0 rfl rfl 13 (by decide) (hts _ q1964) (fun _ h9 => h9) rfl dX2_letterLine_57 ?_
              refine u_top (y := nI (fr MB)) hfx ?_
              refine lv_iload_n hx hb dX2_letterLine_60 rfl (lv_at hl 0 rfl) ?_
              refine lv_iadd hx hb dX2_letterLine_61 ?_
              refine u_top (nI_add _ _) ?_
              refine k_X2_seen (M := mrow MB 2 (ltW MB (ln (M 2)) k))  hWB.1 hWB.2.1 (by omega) SF hK (rk.le (Nat.le_of_ble_eq_true rfl)) hl.1 (Nat.le_of_ble_eq_true rfl) hP dX2_letterLine_62 ?_
              refine u_top (y := sn (mrow MB 2 (ltW MB (ln (M 2)) k)) (fr MB + k)) rfl ?_
              refine u_top (y := sn MB (fr MB + k)) rfl ?_
              refine lv_istore_n (lv' := [(2, .int (sn MB (fr MB + k))), (1, .int (nI k)), (0, .ref (a 0))]) hx hb dX2_letterLine_65 rfl hl (by decide) rfl (fun ls hl => ?_)
              refine lv_aload_n hx hb dX2_letterLine_66 rfl (lv_at hl 2 rfl) ?_
              refine lv_aload_n hx hb dX2_letterLine_67 rfl (lv_at hl 2 rfl) ?_
              refine k_X2_letters (M := mrow MB 2 (ltW MB (ln (M 2)) k))   SF hK (rk.le (Nat.le_of_ble_eq_true rfl)) hl.1 (Nat.le_of_ble_eq_true rfl) hP dX2_letterLine_68 ?_
              refine u_top (y := (ltW MB (ln (M 2)) k) 2) rfl ?_
              refine u_top (y := nI (ln (M 2))) (by show ltW MB (ln (M 2)) k 2 = _; rw [ltW_off (by omega)]; exact (congrFun (hRB.1 2 (by decide)) 2).trans hS1.1) ?_
              refine lv_iload_n hx hb dX2_letterLine_71 rfl (lv_at hl 1 rfl) ?_
              refine lv_iload_n hx hb dX2_letterLine_72 rfl (lv_at hl 0 rfl) ?_
              refine lv_bipush (v := nI 63) hx hb dX2_letterLine_73 (by decide) ?_
              refine lv_icmp_ne (tgt := 82) hx hb dX2_letterLine_75 (by decide) (fun c_75 => ?_) (fun c_75 => ?_)
              · refine lv_iload_n hx hb dX2_letterLine_82 rfl (lv_at hl 0 rfl) ?_
                refine lv_bipush (v := nI 48) hx hb dX2_letterLine_83 (by decide) ?_
                refine lv_isub hx hb dX2_letterLine_85 ?_
                refine k_X2_lays (M := mrow MB 2 (ltW MB (ln (M 2)) k))  hJ (by omega) (by omega) SF hK (rk.le (Nat.le_of_ble_eq_true rfl)) hl.1 (Nat.le_of_ble_eq_true rfl) hP hS dX2_letterLine_86 (fun H locs hP hS => ?_)
                have hP : mP dC dI dA a (mrow MB 2 (upd (ltW MB (ln (M 2)) k) (33 + 10 * (ln (M 2)) + k) ((sn MB (fr MB + k)) - (nI 48)))) H := hP
                refine lv_iinc (v := nI (k + 1)) (lv' := [(1, .int (nI (k + 1))), (2, .int (sn MB (fr MB + k))), (0, .ref (a 0))]) hx hb dX2_letterLine_89 hl (k := 1) rfl (nI_add _ 1) (by decide) rfl (fun ls hl => ?_)
                refine lv_goto (tgt := 43) hx hb dX2_letterLine_92 (by decide) ?_
                exact ih43 (k + 1) (by omega) (fun _ => by rw [eB]; exact h0) (by omega) _ _ (by rw [ltW, if_neg c_75]; exact hP) hS ls (lv_sub hl [0, 2] rfl)
              · refine lv_iconst (v := (-1)) hx hb dX2_letterLine_78 (by decide) ?_
                refine lv_goto (tgt := 86) hx hb dX2_letterLine_79 (by decide) ?_
                refine k_X2_lays (M := mrow MB 2 (ltW MB (ln (M 2)) k))  hJ (by omega) (by omega) SF hK (rk.le (Nat.le_of_ble_eq_true rfl)) hl.1 (Nat.le_of_ble_eq_true rfl) hP hS dX2_letterLine_86 (fun H locs hP hS => ?_)
                have hP : mP dC dI dA a (mrow MB 2 (upd (ltW MB (ln (M 2)) k) (33 + 10 * (ln (M 2)) + k) (-1))) H := hP
                refine lv_iinc (v := nI (k + 1)) (lv' := [(1, .int (nI (k + 1))), (2, .int (sn MB (fr MB + k))), (0, .ref (a 0))]) hx hb dX2_letterLine_89 hl (k := 1) rfl (nI_add _ 1) (by decide) rfl (fun ls hl => ?_)
                refine lv_goto (tgt := 43) hx hb dX2_letterLine_92 (by decide) ?_
                exact ih43 (k + 1) (by omega) (fun _ => by rw [eB]; exact h0) (by omega) _ _ (by rw [ltW, if_pos c_75]; exact hP) hS ls (lv_sub hl [0, 2] rfl)
      exact lp43 6 0 (by omega) (fun q => absurd q (by decide)) (by omega) _ _ hP hS ls (lv_sub hl [0, 1] rfl)
    refine lv_icmp_eq (tgt := 36) hx hb dX2_letterLine_29 (by decide) (fun c_29 => ?_) (fun c_29 => ?_)
    · refine lv_iconst (v := nI 0) hx hb dX2_letterLine_36 (by decide) ?_
      exact jn37 _ (u_n0 c_29) _ _ hP hS ls (lv_sub hl [0] rfl)
    · refine lv_iconst (v := nI 1) hx hb dX2_letterLine_32 (by decide) ?_
      refine lv_goto (tgt := 37) hx hb dX2_letterLine_33 (by decide) ?_
      exact jn37 _ (u_n1 c_29) _ _ hP hS ls (lv_sub hl [0] rfl)
  refine lv_icmp_ne (tgt := 14) hx hb dX2_letterLine_7 (by decide) (fun c_7 => ?_) (fun c_7 => ?_)
  · have c_7 : ¬ (ln (M 2) = 24) := fun q9 => c_7 ((nI_eq (a := ln (M 2)) (b := 24) (by omega) (by omega)).mpr q9)
    refine lv_iconst (v := nI 0) hx hb dX2_letterLine_14 (by decide) ?_
    exact jn15 _ (u_d0 c_7) _ _ hP hS ls (lv_sub hl [0] rfl)
  · have c_7 : ln (M 2) = 24 := (nI_eq (a := ln (M 2)) (b := 24) (by omega) (by omega)).mp c_7
    refine lv_iconst (v := nI 1) hx hb dX2_letterLine_10 (by decide) ?_
    refine lv_goto (tgt := 15) hx hb dX2_letterLine_11 (by decide) ?_
    exact jn15 _ (u_d1 c_7) _ _ hP hS ls (lv_sub hl [0] rfl)
theorem k_X2_letterLine (hJ : mJ a)  (hW : PW M) (hS1 : SWf (M 2)) (SF : CallFix p m c cc nL s args lw_all RX2) (hK : KK dC dI dA s) (rk : rmOK 6 R) (hsz : ls.size = nL) (hcat : (rest.map fun v => v.category).sum ≤ 8) (hP : mP dC dI dA a M H) (hS : uS (mA a) H0 H locs) (hdg : decode cc pc = .ok (.invokevirtual 229, 3)) (k : ∀ (H1 : Heap) (locs1 : List Loc), mP dC dI dA a (lettM M) H1 → uS (mA a) H0 H1 locs1 → W p l e R s m args below meth c H1 locs1 0 0 Q (F0 m (pc + 3) ls (rest))) : W p l e R s m args below meth c H locs 0 0 Q (F0 m pc ls (.ref (a 0) :: rest)) :=
  u_runMv (u_rV (C := RX2) (Ψ := (mP dC dI dA a M)) (As := []) SF hK rk (c_X2_letterLine l dC dI dA a M hJ  hW hS1) (lw_V q2118 q2120 qs61 q117 q2121) (n := 0) (by decide +kernel) rfl (by decide) (va_recv hK hP (ci := 2) (q0 := 0) rfl rfl) hP hsz hcat ⟨Nat.zero_le _, Nat.zero_le _⟩ rfl hdg) hS (fun _ h => h) (fun H1 locs1 h1 h2 _ => k H1 locs1 h1 h2)

set_option maxHeartbeats 4000000 in
theorem c_X2_sumLine (l : Launch) (dC : Nat → ClassId) (dI : Nat → Nat → Nat) (dA : Nat → ClassId) (a : Nat → Nat) (M : Nat → Nat → Int32) (hJ : mJ a)  (hW : PW M) : Met l yX2_sumLine (ws_ yX2_sumLine cX2_sumLine 3 none) (rmD 5 0 0) (uPc [.ref (a 0)] (mP dC dI dA a M) dC dI dA) (uMv (mA a) (mP dC dI dA a (sumM M))) 0 0 (mA a) := by
  refine u_metMv (own := RX2) (by decide) rfl (Nat.le_of_ble_eq_true rfl) fun p e R s m args below meth c Q SF rk hP hK hret ls hl => ?_
  have hx := SF.1
  have hb := SF.2.1
  have hml := SF.2.2.1
  have hown := SF.2.2.2.1
  have hts := SF.2.2.2.2
  have hS : uS (mA a) s.heap s.heap [] := uS.rf
  have hl : lv_has ls 3 [(0, .ref (a 0))] := hl
  refine lv_aload_n hx hb dX2_sumLine_0 rfl (lv_at hl 0 rfl) ?_
  refine k_X2_goesOn  hJ hW.p0 SF hK (rk.le (Nat.le_of_ble_eq_true rfl)) hl.1 (Nat.le_of_ble_eq_true rfl) hP hS dX2_sumLine_1 (fun H locs hP hS => ?_)
  have hP : mP dC dI dA a (goM M) H := hP
  obtain ⟨MA, hMA⟩ : ∃ z, z = goM M := ⟨_, rfl⟩
  rw [← hMA] at hP
  have hWA : PW MA := by rw [hMA]; exact (go_wf hW).1
  have hv5 := lookV_ok (M := MA) (a := 0) (b := 5) (by decide) (by decide)
  refine lv_aload_n hx hb dX2_sumLine_4 rfl (lv_at hl 0 rfl) ?_
  refine lv_iconst (v := nI 0) hx hb dX2_sumLine_5 (by decide) ?_
  refine lv_iconst (v := nI 5) hx hb dX2_sumLine_6 (by decide) ?_
  refine k_X2_takes (M := MA)  hJ hWA SF hK (rk.le (Nat.le_of_ble_eq_true rfl)) hl.1 (Nat.le_of_ble_eq_true rfl) hP hS dX2_sumLine_7 (fun H locs hP hS => ?_)
  refine u_top (y := lookV MA (nI 0) (nI 5)) rfl ?_
  have hP : mP dC dI dA a (takM MA (nI 0) (nI 5)) H := hP
  obtain ⟨MB, hMB⟩ : ∃ z, z = takM MA (nI 0) (nI 5) := ⟨_, rfl⟩
  rw [← hMB] at hP
  refine u_top (y := nI (cN (lookV MA (nI 0) (nI 5)))) hv5.1 ?_
  have hWB : PW MB := by rw [hMB]; exact (tak_wf hWA).1
  refine lv_istore_n (lv' := [(1, .int (nI (cN (lookV MA (nI 0) (nI 5))))), (0, .ref (a 0))]) hx hb dX2_sumLine_10 rfl hl (by decide) rfl (fun ls hl => ?_)
  refine lv_aload_n hx hb dX2_sumLine_11 rfl (lv_at hl 1 rfl) ?_
  refine lv_iconst (v := nI 0) hx hb dX2_sumLine_12 (by decide) ?_
  refine lv_bipush (v := nI 9) hx hb dX2_sumLine_13 (by decide) ?_
  refine k_X2_takes (M := MB)  hJ hWB SF hK (rk.le (Nat.le_of_ble_eq_true rfl)) hl.1 (Nat.le_of_ble_eq_true rfl) hP hS dX2_sumLine_15 (fun H locs hP hS => ?_)
  refine u_top (y := lookV MB (nI 0) (nI 9)) rfl ?_
  have hP : mP dC dI dA a (takM MB (nI 0) (nI 9)) H := hP
  obtain ⟨MC, hMC⟩ : ∃ z, z = takM MB (nI 0) (nI 9) := ⟨_, rfl⟩
  rw [← hMC] at hP
  refine lv_istore_n (lv' := [(2, .int (lookV MB (nI 0) (nI 9))), (1, .int (nI (cN (lookV MA (nI 0) (nI 5))))), (0, .ref (a 0))]) hx hb dX2_sumLine_18 rfl hl (by decide) rfl (fun ls hl => ?_)
  refine lv_aload_n hx hb dX2_sumLine_19 rfl (lv_at hl 2 rfl) ?_
  refine va_get (D := (dC, dI)) (ci := 2) (v := .int (MC 0 16)) (C := RX2) (T := TX2) (N := 22) hx hb hts in_X2 hown hK hP 0 rfl rfl 16 (by decide) (hts _ q1967) (fun _ h9 => h9) rfl dX2_sumLine_20 ?_
  refine lv_if_ne (tgt := 35) hx hb dX2_sumLine_23 (by decide) (fun c_23 => ?_) (fun c_23 => ?_)
  · exact hret _ _ _ _ (by rw [sumM, show suE M = MC by rw [hMC, hMB, hMA]; rfl, if_neg c_23]; exact hP) hS dX2_sumLine_35
  · refine lv_aload_n hx hb dX2_sumLine_26 rfl (lv_at hl 2 rfl) ?_
    refine va_get (D := (dC, dI)) (ci := 2) (v := .ref (a 2)) (C := RX2) (T := TX2) (N := 22) hx hb hts in_X2 hown hK hP 0 rfl rfl 3 (by decide) (hts _ q1954) (fun _ h9 => h9) rfl dX2_sumLine_27 ?_
    refine lv_iconst (v := nI 3) hx hb dX2_sumLine_30 (by decide) ?_
    refine lv_iload_n hx hb dX2_sumLine_31 rfl (lv_at hl 1 rfl) ?_
    refine lv_iadd hx hb dX2_sumLine_32 ?_
    refine u_top (nI_add _ _) ?_
    refine lv_iload_n hx hb dX2_sumLine_33 rfl (lv_at hl 0 rfl) ?_
    refine m_as2 SF hK hJ hP hS (i := 3 + (cN (lookV MA (nI 0) (nI 5)))) (by omega) dX2_sumLine_34 (fun H locs hP hS => ?_)
    have hP : mP dC dI dA a (mrow MC 2 (upd (MC 2) (3 + (cN (lookV MA (nI 0) (nI 5)))) (lookV MB (nI 0) (nI 9)))) H := hP
    exact hret _ _ _ _ (by rw [sumM, show suE M = MC by rw [hMC, hMB, hMA]; rfl, if_pos c_23, show suB M = MB by rw [hMB, hMA]; rfl, ← hMA]; exact hP) hS dX2_sumLine_35
theorem k_X2_sumLine (hJ : mJ a)  (hW : PW M) (SF : CallFix p m c cc nL s args lw_all RX2) (hK : KK dC dI dA s) (rk : rmOK 6 R) (hsz : ls.size = nL) (hcat : (rest.map fun v => v.category).sum ≤ 8) (hP : mP dC dI dA a M H) (hS : uS (mA a) H0 H locs) (hdg : decode cc pc = .ok (.invokevirtual 234, 3)) (k : ∀ (H1 : Heap) (locs1 : List Loc), mP dC dI dA a (sumM M) H1 → uS (mA a) H0 H1 locs1 → W p l e R s m args below meth c H1 locs1 0 0 Q (F0 m (pc + 3) ls (rest))) : W p l e R s m args below meth c H locs 0 0 Q (F0 m pc ls (.ref (a 0) :: rest)) :=
  u_runMv (u_rV (C := RX2) (Ψ := (mP dC dI dA a M)) (As := []) SF hK rk (c_X2_sumLine l dC dI dA a M hJ  hW) (lw_V q2135 q2137 qs65 q117 q2138) (n := 0) (by decide +kernel) rfl (by decide) (va_recv hK hP (ci := 2) (q0 := 0) rfl rfl) hP hsz hcat ⟨Nat.zero_le _, Nat.zero_le _⟩ rfl hdg) hS (fun _ h => h) (fun H1 locs1 h1 h2 _ => k H1 locs1 h1 h2)
end TW
