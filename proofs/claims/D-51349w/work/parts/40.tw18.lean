set_option maxRecDepth 100000
section TW
variable {p : Program} {l : Launch} {e : Env} {R : Room} {s : State} {m : MethodId} {args : Array Value} {below : List Frame} {meth : Method} {c : Code} {H : Heap} {locs : List Loc} {Q : State → Prop}
variable {cc : ByteArray} {pc nL : Nat} {ls : Array Slot} {rest : List Value} {dC : Nat → ClassId} {dI : Nat → Nat → Nat} {dA : Nat → ClassId} {a : Nat → Nat} {M : Nat → Nat → Int32} {H0 : Heap}

set_option maxHeartbeats 4000000 in
theorem c_X2_reads (l : Launch) (dC : Nat → ClassId) (dI : Nat → Nat → Nat) (dA : Nat → ClassId) (a : Nat → Nat) (M : Nat → Nat → Int32) (hJ : mJ a) (sz : Nat) (ks : Nat → Nat) (hW : PW M) (hA : ∀ j, j < 8 → sz ≤ a j) : Met l yX2_reads (ws_ yX2_reads cX2_reads 2 none) (rmD 16 0 0) (uPx [.ref (a 0)] (fun U H => mP dC dI dA a M H ∧ (EW sz ks) U H) dC dI dA) (uMv (mA a) (mP dC dI dA a (readsM M))) 0 0 (mA a) := by
  refine x_metMv (own := RX2) (by decide) rfl (Nat.le_of_ble_eq_true rfl) fun p e R s m args below meth c Q SF rk hP hK hret ls hl => ?_
  have hE := hP.2
  have hP := hP.1
  have hx := SF.1
  have hb := SF.2.1
  have hml := SF.2.2.1
  have hown := SF.2.2.2.1
  have hts := SF.2.2.2.2
  have hS : uS (mA a) s.heap s.heap [] := uS.rf
  have hl : lv_has ls 2 [(0, .ref (a 0))] := hl
  refine lv_iconst (v := nI 0) hx hb dX2_reads_0 (by decide) ?_
  refine lv_istore_n (lv' := [(1, .int (nI 0)), (0, .ref (a 0))]) hx hb dX2_reads_1 rfl hl (by decide) rfl (fun ls hl => ?_)
  have lp2 : ∀ (k0 : Nat) (k : Nat), k ≤ 273 → 273 < k + k0 → ∀ (H : Heap) (locs : List Loc), mP dC dI dA a (mrow M 2 (fz (M 2) k)) H → uS (mA a) s.heap H locs → ∀ ls : Array Slot, lv_has ls 2 [(1, .int (nI k)), (0, .ref (a 0))] → W p l e R s m args below meth c H locs 0 0 Q (F0 m 2 ls []) := by
    intro k0
    induction k0 with
    | zero =>
      intro k hk1 hk2; omega
    | succ k0 ih =>
      intro k hk1 hk2 H locs hP hS ls hl
      have ih2 := ih
      refine lv_iload_n hx hb dX2_reads_2 rfl (lv_at hl 0 rfl) ?_
      refine lv_sipush (v := nI 273) hx hb dX2_reads_3 (by decide) ?_
      refine lv_icmp_ge (tgt := 22) hx hb dX2_reads_6 (by decide) (fun c_6 => ?_) (fun c_6 => ?_)
      · have c_6 : 273 ≤ k := (nI_leI (a := 273) (b := k) (by omega) (by omega)).mp c_6
        refine lv_iconst (v := nI 0) hx hb dX2_reads_22 (by decide) ?_
        refine lv_istore_n (lv' := [(1, .int (nI 0)), (0, .ref (a 0))]) hx hb dX2_reads_23 rfl hl (by decide) rfl (fun ls hl => ?_)
        have lp24 : ∀ (k0 : Nat) (k : Nat), k ≤ 26 → 26 < k + k0 → ∀ (H : Heap) (locs : List Loc), mP dC dI dA a (mrow (mrow M 1 (fz (M 1) k)) 2 (fz (M 2) 273)) H → uS (mA a) s.heap H locs → ∀ ls : Array Slot, lv_has ls 2 [(1, .int (nI k)), (0, .ref (a 0))] → W p l e R s m args below meth c H locs 0 0 Q (F0 m 24 ls []) := by
          intro k0
          induction k0 with
          | zero =>
            intro k hk1 hk2; omega
          | succ k0 ih =>
            intro k hk1 hk2 H locs hP hS ls hl
            have ih24 := ih
            refine lv_iload_n hx hb dX2_reads_24 rfl (lv_at hl 0 rfl) ?_
            refine lv_bipush (v := nI 26) hx hb dX2_reads_25 (by decide) ?_
            refine lv_icmp_ge (tgt := 43) hx hb dX2_reads_27 (by decide) (fun c_27 => ?_) (fun c_27 => ?_)
            · have c_27 : 26 ≤ k := (nI_leI (a := 26) (b := k) (by omega) (by omega)).mp c_27
              refine lv_iconst (v := nI 0) hx hb dX2_reads_43 (by decide) ?_
              refine lv_istore_n (lv' := [(1, .int (nI 0)), (0, .ref (a 0))]) hx hb dX2_reads_44 rfl hl (by decide) rfl (fun ls hl => ?_)
              have lp45 : ∀ (k0 : Nat) (k : Nat), k ≤ 6 → 6 < k + k0 → ∀ (H : Heap) (locs : List Loc), mP dC dI dA a (mrow (mrow M 1 (fz (M 1) 26)) 2 (iniS (fz (M 2) 273) k)) H → uS (mA a) s.heap H locs → ∀ ls : Array Slot, lv_has ls 2 [(1, .int (nI k)), (0, .ref (a 0))] → W p l e R s m args below meth c H locs 0 0 Q (F0 m 45 ls []) := by
                intro k0
                induction k0 with
                | zero =>
                  intro k hk1 hk2; omega
                | succ k0 ih =>
                  intro k hk1 hk2 H locs hP hS ls hl
                  have ih45 := ih
                  refine lv_iload_n hx hb dX2_reads_45 rfl (lv_at hl 0 rfl) ?_
                  refine lv_bipush (v := nI 6) hx hb dX2_reads_46 (by decide) ?_
                  refine lv_icmp_ge (tgt := 76) hx hb dX2_reads_48 (by decide) (fun c_48 => ?_) (fun c_48 => ?_)
                  · have c_48 : 6 ≤ k := (nI_leI (a := 6) (b := k) (by omega) (by omega)).mp c_48
                    refine lv_aload_n hx hb dX2_reads_76 rfl (lv_at hl 1 rfl) ?_
                    refine lv_iconst (v := nI 0) hx hb dX2_reads_77 (by decide) ?_
                    refine m_pf_wasSorted (b9 := false) SF hK hJ hP hS dX2_reads_78 (fun H locs hP hS => ?_)
                    have hP : mP dC dI dA a (mrow (mrow (mrow M 0 (upd (M 0) 19 (nI 0))) 1 (fz (M 1) 26)) 2 (iniS (fz (M 2) 273) k)) H := hP
                    have h6 : k = 6 := by omega
                    subst h6
                    obtain ⟨MZ, hMZ⟩ : ∃ z, z = mrow (mrow (mrow M 0 (upd (M 0) 19 (nI 0))) 1 (fz (M 1) 26)) 2 (iniS (fz (M 2) 273) 6) := ⟨_, rfl⟩
                    rw [← hMZ] at hP
                    have eZ : MZ = rd0 M := hMZ
                    have hZ := rd0_ri hW
                    rw [← eZ] at hZ
                    refine lv_aload_n hx hb dX2_reads_81 rfl (lv_at hl 1 rfl) ?_
                    refine lv_aload_n hx hb dX2_reads_82 rfl (lv_at hl 1 rfl) ?_
                    refine va_ldcS hx hb hown ((hE.2 0 (by decide)).1) dX2_reads_83 ?_
                    refine k_X2_isWord (M := MZ) (q := ks (2 * 0)) (v := ks (2 * 0 + 1)) (n := (wB 0).length) (g := wG 0) hZ.1.1 (by decide) (wG_lt 0 (by decide)) SF hK (rk.le (Nat.le_of_ble_eq_true rfl)) hl.1 (Nat.le_of_ble_eq_true rfl) hP (EW.word (EW.kept hA hS hE) 0 (by decide)) dX2_reads_85 ?_
                    refine u_top (y := nI ((wrdB MZ ((wB 0).length) (wG 0)).toNat)) rfl ?_
                    have jn96 : ∀ v9 : Int32, v9 = nI ((!(wrdB MZ ((wB 0).length) (wG 0))).toNat) → ∀ (H : Heap) (locs : List Loc), mP dC dI dA a (MZ) H → uS (mA a) s.heap H locs → ∀ ls : Array Slot, lv_has ls 2 [(1, .int (nI 6)), (0, .ref (a 0))] → W p l e R s m args below meth c H locs 0 0 Q (F0 m 96 ls [.int v9, .ref (a 0)]) := by
                      intro v9 hv9 H locs hP hS ls hl
                      subst hv9
                      refine lv_iconst (v := nI 1) hx hb dX2_reads_96 (by decide) ?_
                      refine k_X2_failsIf (M := MZ)  hJ  SF hK (rk.le (Nat.le_of_ble_eq_true rfl)) hl.1 (Nat.le_of_ble_eq_true rfl) hP hS dX2_reads_97 (fun H locs hP hS => ?_)
                      have hP : mP dC dI dA a (fiM MZ (!(wrdB MZ ((wB 0).length) (wG 0))) (nI 1)) H := hP
                      refine lv_aload_n hx hb dX2_reads_100 rfl (lv_at hl 1 rfl) ?_
                      refine k_X2_goesOn (M := fiM MZ (!(wrdB MZ ((wB 0).length) (wG 0))) (nI 1))  hJ ((fi_wf hZ.1.1).1.p0) SF hK (rk.le (Nat.le_of_ble_eq_true rfl)) hl.1 (Nat.le_of_ble_eq_true rfl) hP hS dX2_reads_101 (fun H locs hP hS => ?_)
                      have hP : mP dC dI dA a (goM (fiM MZ (!(wrdB MZ ((wB 0).length) (wG 0))) (nI 1))) H := hP
                      obtain ⟨MA, hMA⟩ : ∃ z, z = goM (fiM MZ (!(wrdB MZ ((wB 0).length) (wG 0))) (nI 1)) := ⟨_, rfl⟩
                      rw [← hMA] at hP
                      have eA : MA = rdA M := by rw [hMA, eZ]; rfl
                      have hA9 := rdA_ri hW
                      rw [← eA] at hA9
                      refine lv_aload_n hx hb dX2_reads_104 rfl (lv_at hl 1 rfl) ?_
                      refine va_get (D := (dC, dI)) (ci := 2) (v := .ref (a 2)) (C := RX2) (T := TX2) (N := 22) hx hb hts in_X2 hown hK hP 0 rfl rfl 3 (by decide) (hts _ q1954) (fun _ h9 => h9) rfl dX2_reads_105 ?_
                      refine lv_iconst (v := nI 0) hx hb dX2_reads_108 (by decide) ?_
                      refine lv_aload_n hx hb dX2_reads_109 rfl (lv_at hl 1 rfl) ?_
                      refine lv_iconst (v := nI 0) hx hb dX2_reads_110 (by decide) ?_
                      refine lv_bipush (v := nI 8) hx hb dX2_reads_111 (by decide) ?_
                      refine k_X2_takes (M := MA)  hJ hA9.1.1 SF hK (rk.le (Nat.le_of_ble_eq_true rfl)) hl.1 (Nat.le_of_ble_eq_true rfl) hP hS dX2_reads_113 (fun H locs hP hS => ?_)
                      refine u_top (y := lookV MA (nI 0) (nI 8)) rfl ?_
                      have hP : mP dC dI dA a (takM MA (nI 0) (nI 8)) H := hP
                      refine m_as2 SF hK hJ hP hS (i := 0) (by omega) dX2_reads_116 (fun H locs hP hS => ?_)
                      have hP : mP dC dI dA a (mrow (takM MA (nI 0) (nI 8)) 2 (upd ((takM MA (nI 0) (nI 8)) 2) 0 (lookV MA (nI 0) (nI 8)))) H := hP
                      obtain ⟨MB, hMB⟩ : ∃ z, z = mrow (takM MA (nI 0) (nI 8)) 2 (upd ((takM MA (nI 0) (nI 8)) 2) 0 (lookV MA (nI 0) (nI 8))) := ⟨_, rfl⟩
                      rw [← hMB] at hP
                      have eB : MB = rdB M := by rw [hMB, eA]; rfl
                      have hB9 := rdB_ri hW
                      rw [← eB] at hB9
                      refine lv_aload_n hx hb dX2_reads_117 rfl (lv_at hl 1 rfl) ?_
                      refine va_get (D := (dC, dI)) (ci := 2) (v := .ref (a 1)) (C := RX2) (T := TX2) (N := 22) hx hb hts in_X2 hown hK hP 0 rfl rfl 2 (by decide) (hts _ q1953) (fun _ h9 => h9) rfl dX2_reads_118 ?_
                      refine lv_iconst (v := nI 0) hx hb dX2_reads_121 (by decide) ?_
                      refine lv_aload_n hx hb dX2_reads_122 rfl (lv_at hl 1 rfl) ?_
                      refine lv_iconst (v := nI 1) hx hb dX2_reads_123 (by decide) ?_
                      refine lv_bipush (v := nI 9) hx hb dX2_reads_124 (by decide) ?_
                      refine k_X2_takes (M := MB)  hJ hB9.1.1 SF hK (rk.le (Nat.le_of_ble_eq_true rfl)) hl.1 (Nat.le_of_ble_eq_true rfl) hP hS dX2_reads_126 (fun H locs hP hS => ?_)
                      refine u_top (y := lookV MB (nI 1) (nI 9)) rfl ?_
                      have hP : mP dC dI dA a (takM MB (nI 1) (nI 9)) H := hP
                      refine m_as1 SF hK hJ hP hS (i := 0) (by omega) dX2_reads_129 (fun H locs hP hS => ?_)
                      have hP : mP dC dI dA a (mrow (takM MB (nI 1) (nI 9)) 1 (upd ((takM MB (nI 1) (nI 9)) 1) 0 (lookV MB (nI 1) (nI 9)))) H := hP
                      obtain ⟨MC, hMC⟩ : ∃ z, z = mrow (takM MB (nI 1) (nI 9)) 1 (upd ((takM MB (nI 1) (nI 9)) 1) 0 (lookV MB (nI 1) (nI 9))) := ⟨_, rfl⟩
                      rw [← hMC] at hP
                      have eC : MC = rdH M := by rw [hMC, eB]; rfl
                      have hC := rdH_ri hW
                      rw [← eC] at hC
                      have lp130 : ∀ (k0 : Nat) (N : Nat → Nat → Int32), RI N → bl N = bl M → 1 ≤ k0 → (N 0 16 = 0 → bl M + 1 < nx N + k0) → linesM k0 N = rdE M → ∀ (H : Heap) (locs : List Loc), mP dC dI dA a (N) H → uS (mA a) s.heap H locs → ∀ ls : Array Slot, lv_has ls 2 [(0, .ref (a 0))] → W p l e R s m args below meth c H locs 0 0 Q (F0 m 130 ls []) := by
                        intro k0
                        induction k0 with
                        | zero =>
                          intro N hN1 hN2 hN3 hN4 hN5; omega
                        | succ k0 ih =>
                          intro N hN1 hN2 hN3 hN4 hN5 H locs hP hS ls hl
                          have ih130 := ih
                          refine lv_aload_n hx hb dX2_reads_130 rfl (lv_at hl 0 rfl) ?_
                          refine va_get (D := (dC, dI)) (ci := 2) (v := .int (N 0 16)) (C := RX2) (T := TX2) (N := 22) hx hb hts in_X2 hown hK hP 0 rfl rfl 16 (by decide) (hts _ q1967) (fun _ h9 => h9) rfl dX2_reads_131 ?_
                          refine lv_if_ne (tgt := 156) hx hb dX2_reads_134 (by decide) (fun c_134 => ?_) (fun c_134 => ?_)
                          · have e9 : N = rdE M := by rw [← hN5, linesM, if_neg (fun q => by first | exact c_134 q.1 | exact c_142 q.2)]
                            refine lv_aload_n hx hb dX2_reads_156 rfl (lv_at hl 0 rfl) ?_
                            refine lv_aload_n hx hb dX2_reads_157 rfl (lv_at hl 0 rfl) ?_
                            refine va_get (D := (dC, dI)) (ci := 2) (v := .int (N 0 14)) (C := RX2) (T := TX2) (N := 22) hx hb hts in_X2 hown hK hP 0 rfl rfl 14 (by decide) (hts _ q1965) (fun _ h9 => h9) rfl dX2_reads_158 ?_
                            have jn169 : ∀ v9 : Int32, v9 = nI ((!decide (N 0 14 = 0)).toNat) → ∀ (H : Heap) (locs : List Loc), mP dC dI dA a (N) H → uS (mA a) s.heap H locs → ∀ ls : Array Slot, lv_has ls 2 [(0, .ref (a 0))] → W p l e R s m args below meth c H locs 0 0 Q (F0 m 169 ls [.int v9, .ref (a 0)]) := by
                              intro v9 hv9 H locs hP hS ls hl
                              subst hv9
                              refine lv_iconst (v := nI 1) hx hb dX2_reads_169 (by decide) ?_
                              refine k_X2_failsIf (M := N)  hJ  SF hK (rk.le (Nat.le_of_ble_eq_true rfl)) hl.1 (Nat.le_of_ble_eq_true rfl) hP hS dX2_reads_170 (fun H locs hP hS => ?_)
                              have hP : mP dC dI dA a (fiM N (!decide (N 0 14 = 0)) (nI 1)) H := hP
                              obtain ⟨MD, hMD⟩ : ∃ z, z = fiM N (!decide (N 0 14 = 0)) (nI 1) := ⟨_, rfl⟩
                              rw [← hMD] at hP
                              have eD : MD = rdD M := by rw [hMD, e9]; rfl
                              have hTD := (rdD_ri hW).1.2.2
                              rw [← eD] at hTD
                              have hTn := hTD.2.1
                              refine lv_aload_n hx hb dX2_reads_173 rfl (lv_at hl 0 rfl) ?_
                              refine lv_aload_n hx hb dX2_reads_174 rfl (lv_at hl 0 rfl) ?_
                              refine k_X2_towns (M := MD)   SF hK (rk.le (Nat.le_of_ble_eq_true rfl)) hl.1 (Nat.le_of_ble_eq_true rfl) hP dX2_reads_175 ?_
                              refine u_top (y := MD 1 1) rfl ?_
                              refine u_top (y := nI (tn (MD 1))) hTD.1 ?_
                              have jn186 : ∀ v9 : Int32, v9 = nI ((decide (tn (MD 1) = 0)).toNat) → ∀ (H : Heap) (locs : List Loc), mP dC dI dA a (MD) H → uS (mA a) s.heap H locs → ∀ ls : Array Slot, lv_has ls 2 [(0, .ref (a 0))] → W p l e R s m args below meth c H locs 0 0 Q (F0 m 186 ls [.int v9, .ref (a 0)]) := by
                                intro v9 hv9 H locs hP hS ls hl
                                subst hv9
                                refine lv_iconst (v := nI 5) hx hb dX2_reads_186 (by decide) ?_
                                refine k_X2_failsIf (M := MD)  hJ  SF hK (rk.le (Nat.le_of_ble_eq_true rfl)) hl.1 (Nat.le_of_ble_eq_true rfl) hP hS dX2_reads_187 (fun H locs hP hS => ?_)
                                have hP : mP dC dI dA a (fiM MD (decide (tn (MD 1) = 0)) (nI 5)) H := hP
                                exact hret _ _ _ _ (by rw [readsM, ← eD]; exact hP) hS dX2_reads_190
                              refine lv_if_ne (tgt := 185) hx hb dX2_reads_178 (by decide) (fun c_178 => ?_) (fun c_178 => ?_)
                              · have c_178 : ¬ (tn (MD 1) = 0) := fun q9 => c_178 ((nI_eq (a := tn (MD 1)) (b := 0) (by omega) (by omega)).mpr q9)
                                refine lv_iconst (v := nI 0) hx hb dX2_reads_185 (by decide) ?_
                                exact jn186 _ (u_d0 c_178) _ _ hP hS ls (lv_sub hl [0] rfl)
                              · have c_178 : tn (MD 1) = 0 := (nI_eq (a := tn (MD 1)) (b := 0) (by omega) (by omega)).mp c_178
                                refine lv_iconst (v := nI 1) hx hb dX2_reads_181 (by decide) ?_
                                refine lv_goto (tgt := 186) hx hb dX2_reads_182 (by decide) ?_
                                exact jn186 _ (u_d1 c_178) _ _ hP hS ls (lv_sub hl [0] rfl)
                            refine lv_if_eq (tgt := 168) hx hb dX2_reads_161 (by decide) (fun c_161 => ?_) (fun c_161 => ?_)
                            · refine lv_iconst (v := nI 0) hx hb dX2_reads_168 (by decide) ?_
                              exact jn169 _ (u_n0 c_161) _ _ hP hS ls (lv_sub hl [0] rfl)
                            · refine lv_iconst (v := nI 1) hx hb dX2_reads_164 (by decide) ?_
                              refine lv_goto (tgt := 169) hx hb dX2_reads_165 (by decide) ?_
                              exact jn169 _ (u_n1 c_161) _ _ hP hS ls (lv_sub hl [0] rfl)
                          · refine lv_aload_n hx hb dX2_reads_137 rfl (lv_at hl 0 rfl) ?_
                            refine va_get (D := (dC, dI)) (ci := 2) (v := .int (N 0 14)) (C := RX2) (T := TX2) (N := 22) hx hb hts in_X2 hown hK hP 0 rfl rfl 14 (by decide) (hts _ q1965) (fun _ h9 => h9) rfl dX2_reads_138 ?_
                            refine lv_iconst (v := nI 3) hx hb dX2_reads_141 (by decide) ?_
                            refine lv_icmp_ne (tgt := 156) hx hb dX2_reads_142 (by decide) (fun c_142 => ?_) (fun c_142 => ?_)
                            · have e9 : N = rdE M := by rw [← hN5, linesM, if_neg (fun q => by first | exact c_134 q.1 | exact c_142 q.2)]
                              refine lv_aload_n hx hb dX2_reads_156 rfl (lv_at hl 0 rfl) ?_
                              refine lv_aload_n hx hb dX2_reads_157 rfl (lv_at hl 0 rfl) ?_
                              refine va_get (D := (dC, dI)) (ci := 2) (v := .int (N 0 14)) (C := RX2) (T := TX2) (N := 22) hx hb hts in_X2 hown hK hP 0 rfl rfl 14 (by decide) (hts _ q1965) (fun _ h9 => h9) rfl dX2_reads_158 ?_
                              have jn169_2 : ∀ v9 : Int32, v9 = nI ((!decide (N 0 14 = 0)).toNat) → ∀ (H : Heap) (locs : List Loc), mP dC dI dA a (N) H → uS (mA a) s.heap H locs → ∀ ls : Array Slot, lv_has ls 2 [(0, .ref (a 0))] → W p l e R s m args below meth c H locs 0 0 Q (F0 m 169 ls [.int v9, .ref (a 0)]) := by
                                intro v9 hv9 H locs hP hS ls hl
                                subst hv9
                                refine lv_iconst (v := nI 1) hx hb dX2_reads_169 (by decide) ?_
                                refine k_X2_failsIf (M := N)  hJ  SF hK (rk.le (Nat.le_of_ble_eq_true rfl)) hl.1 (Nat.le_of_ble_eq_true rfl) hP hS dX2_reads_170 (fun H locs hP hS => ?_)
                                have hP : mP dC dI dA a (fiM N (!decide (N 0 14 = 0)) (nI 1)) H := hP
                                obtain ⟨MD, hMD⟩ : ∃ z, z = fiM N (!decide (N 0 14 = 0)) (nI 1) := ⟨_, rfl⟩
                                rw [← hMD] at hP
                                have eD : MD = rdD M := by rw [hMD, e9]; rfl
                                have hTD := (rdD_ri hW).1.2.2
                                rw [← eD] at hTD
                                have hTn := hTD.2.1
                                refine lv_aload_n hx hb dX2_reads_173 rfl (lv_at hl 0 rfl) ?_
                                refine lv_aload_n hx hb dX2_reads_174 rfl (lv_at hl 0 rfl) ?_
                                refine k_X2_towns (M := MD)   SF hK (rk.le (Nat.le_of_ble_eq_true rfl)) hl.1 (Nat.le_of_ble_eq_true rfl) hP dX2_reads_175 ?_
                                refine u_top (y := MD 1 1) rfl ?_
                                refine u_top (y := nI (tn (MD 1))) hTD.1 ?_
                                have jn186_2 : ∀ v9 : Int32, v9 = nI ((decide (tn (MD 1) = 0)).toNat) → ∀ (H : Heap) (locs : List Loc), mP dC dI dA a (MD) H → uS (mA a) s.heap H locs → ∀ ls : Array Slot, lv_has ls 2 [(0, .ref (a 0))] → W p l e R s m args below meth c H locs 0 0 Q (F0 m 186 ls [.int v9, .ref (a 0)]) := by
                                  intro v9 hv9 H locs hP hS ls hl
                                  subst hv9
                                  refine lv_iconst (v := nI 5) hx hb dX2_reads_186 (by decide) ?_
                                  refine k_X2_failsIf (M := MD)  hJ  SF hK (rk.le (Nat.le_of_ble_eq_true rfl)) hl.1 (Nat.le_of_ble_eq_true rfl) hP hS dX2_reads_187 (fun H locs hP hS => ?_)
                                  have hP : mP dC dI dA a (fiM MD (decide (tn (MD 1) = 0)) (nI 5)) H := hP
                                  exact hret _ _ _ _ (by rw [readsM, ← eD]; exact hP) hS dX2_reads_190
                                refine lv_if_ne (tgt := 185) hx hb dX2_reads_178 (by decide) (fun c_178 => ?_) (fun c_178 => ?_)
                                · have c_178 : ¬ (tn (MD 1) = 0) := fun q9 => c_178 ((nI_eq (a := tn (MD 1)) (b := 0) (by omega) (by omega)).mpr q9)
                                  refine lv_iconst (v := nI 0) hx hb dX2_reads_185 (by decide) ?_
                                  exact jn186_2 _ (u_d0 c_178) _ _ hP hS ls (lv_sub hl [0] rfl)
                                · have c_178 : tn (MD 1) = 0 := (nI_eq (a := tn (MD 1)) (b := 0) (by omega) (by omega)).mp c_178
                                  refine lv_iconst (v := nI 1) hx hb dX2_reads_181 (by decide) ?_
                                  refine lv_goto (tgt := 186) hx hb dX2_reads_182 (by decide) ?_
                                  exact jn186_2 _ (u_d1 c_178) _ _ hP hS ls (lv_sub hl [0] rfl)
                              refine lv_if_eq (tgt := 168) hx hb dX2_reads_161 (by decide) (fun c_161 => ?_) (fun c_161 => ?_)
                              · refine lv_iconst (v := nI 0) hx hb dX2_reads_168 (by decide) ?_
                                exact jn169_2 _ (u_n0 c_161) _ _ hP hS ls (lv_sub hl [0] rfl)
                              · refine lv_iconst (v := nI 1) hx hb dX2_reads_164 (by decide) ?_
                                refine lv_goto (tgt := 169) hx hb dX2_reads_165 (by decide) ?_
                                exact jn169_2 _ (u_n1 c_161) _ _ hP hS ls (lv_sub hl [0] rfl)
                            · refine lv_aload_n hx hb dX2_reads_145 rfl (lv_at hl 0 rfl) ?_
                              refine k_X2_token (M := N)  hJ hN1.1.p0 SF hK (rk.le (Nat.le_of_ble_eq_true rfl)) hl.1 (Nat.le_of_ble_eq_true rfl) hP hS dX2_reads_146 (fun H locs hP hS => ?_)
                              have hP : mP dC dI dA a (tokM N) H := hP
                              obtain ⟨MT, hMT⟩ : ∃ z, z = tokM N := ⟨_, rfl⟩
                              rw [← hMT] at hP
                              have hT1 : RI MT := by rw [hMT]; exact tok_ri hN1
                              refine lv_aload_n hx hb dX2_reads_149 rfl (lv_at hl 0 rfl) ?_
                              refine k_X2_line (M := MT) (sz := sz) (ks := ks) hJ hT1.1 hT1.2.1 hT1.2.2 hA SF hK (rk.le (Nat.le_of_ble_eq_true rfl)) hl.1 (Nat.le_of_ble_eq_true rfl) hP (EW.kept hA hS hE) hS dX2_reads_150 (fun H locs hP hS => ?_)
                              have hP : mP dC dI dA a (lineM MT) H := hP
                              obtain ⟨ML, hML⟩ : ∃ z, z = lineM MT := ⟨_, rfl⟩
                              rw [← hML] at hP
                              have hgo := line_go hN1 hN2 c_134 hN4
                              rw [← hMT, ← hML] at hgo
                              refine lv_goto (tgt := 130) hx hb dX2_reads_153 (by decide) ?_
                              exact ih130 ML hgo.1 hgo.2.1 hgo.2.2.1 hgo.2.2.2 (by rw [← hN5, linesM, if_pos ⟨c_134, c_142⟩, ← hMT, ← hML]) _ _ hP hS ls (lv_sub hl [0] rfl)
                      exact lp130 (bl M + 3) MC hC.1 (RT_bl hC.2) (by omega) (fun _ => by omega) (by rw [eC]; rfl) _ _ hP hS ls (lv_sub hl [1] rfl)
                    refine lv_if_ne (tgt := 95) hx hb dX2_reads_88 (by decide) (fun c_88 => ?_) (fun c_88 => ?_)
                    · have c_88 : ¬ ((wrdB MZ ((wB 0).length) (wG 0)) = false) := fun q9 => c_88 (u_zb.mpr q9)
                      refine lv_iconst (v := nI 0) hx hb dX2_reads_95 (by decide) ?_
                      exact jn96 _ (u_ff (by simp [c_88])) _ _ hP hS ls (lv_sub hl [0, 1] rfl)
                    · have c_88 : (wrdB MZ ((wB 0).length) (wG 0)) = false := u_zb.mp c_88
                      refine lv_iconst (v := nI 1) hx hb dX2_reads_91 (by decide) ?_
                      refine lv_goto (tgt := 96) hx hb dX2_reads_92 (by decide) ?_
                      exact jn96 _ (u_tt (by simpa using c_88)) _ _ hP hS ls (lv_sub hl [0, 1] rfl)
                  · have c_48 : ¬ (6 ≤ k) := fun q9 => c_48 ((nI_leI (a := 6) (b := k) (by omega) (by omega)).mpr q9)
                    refine lv_aload_n hx hb dX2_reads_51 rfl (lv_at hl 1 rfl) ?_
                    refine va_get (D := (dC, dI)) (ci := 2) (v := .ref (a 2)) (C := RX2) (T := TX2) (N := 22) hx hb hts in_X2 hown hK hP 0 rfl rfl 3 (by decide) (hts _ q1954) (fun _ h9 => h9) rfl dX2_reads_52 ?_
                    refine lv_iconst (v := nI 3) hx hb dX2_reads_55 (by decide) ?_
                    refine lv_iload_n hx hb dX2_reads_56 rfl (lv_at hl 0 rfl) ?_
                    refine lv_iadd hx hb dX2_reads_57 ?_
                    refine u_top (nI_add _ _) ?_
                    refine lv_iconst (v := (-1)) hx hb dX2_reads_58 (by decide) ?_
                    refine m_as2 SF hK hJ hP hS (i := 3 + k) (by omega) dX2_reads_59 (fun H locs hP hS => ?_)
                    have hP : mP dC dI dA a (mrow (mrow M 1 (fz (M 1) 26)) 2 (upd (iniS (fz (M 2) 273) k) (3 + k) (-1))) H := hP
                    refine lv_aload_n hx hb dX2_reads_60 rfl (lv_at hl 1 rfl) ?_
                    refine va_get (D := (dC, dI)) (ci := 2) (v := .ref (a 2)) (C := RX2) (T := TX2) (N := 22) hx hb hts in_X2 hown hK hP 0 rfl rfl 3 (by decide) (hts _ q1954) (fun _ h9 => h9) rfl dX2_reads_61 ?_
                    refine lv_bipush (v := nI 9) hx hb dX2_reads_64 (by decide) ?_
                    refine lv_iload_n hx hb dX2_reads_66 rfl (lv_at hl 0 rfl) ?_
                    refine lv_iadd hx hb dX2_reads_67 ?_
                    refine u_top (nI_add _ _) ?_
                    refine lv_iconst (v := nI 1) hx hb dX2_reads_68 (by decide) ?_
                    refine m_as2 SF hK hJ hP hS (i := 9 + k) (by omega) dX2_reads_69 (fun H locs hP hS => ?_)
                    have hP : mP dC dI dA a (mrow (mrow M 1 (fz (M 1) 26)) 2 (upd (upd (iniS (fz (M 2) 273) k) (3 + k) (-1)) (9 + k) (nI 1))) H := hP
                    refine lv_iinc (v := nI (k + 1)) (lv' := [(1, .int (nI (k + 1))), (0, .ref (a 0))]) hx hb dX2_reads_70 hl (k := 0) rfl (nI_add _ 1) (by decide) rfl (fun ls hl => ?_)
                    refine lv_goto (tgt := 45) hx hb dX2_reads_73 (by decide) ?_
                    exact ih45 (k + 1) (by omega) (by omega) _ _ hP hS ls (lv_sub hl [0, 1] rfl)
              exact lp45 (6 + 1) 0 (by omega) (by omega) _ _ (by have h2 : k = 26 := (by omega); rw [h2] at hP; exact hP) hS ls (lv_sub hl [0, 1] rfl)
            · have c_27 : ¬ (26 ≤ k) := fun q9 => c_27 ((nI_leI (a := 26) (b := k) (by omega) (by omega)).mpr q9)
              refine lv_aload_n hx hb dX2_reads_30 rfl (lv_at hl 1 rfl) ?_
              refine va_get (D := (dC, dI)) (ci := 2) (v := .ref (a 1)) (C := RX2) (T := TX2) (N := 22) hx hb hts in_X2 hown hK hP 0 rfl rfl 2 (by decide) (hts _ q1953) (fun _ h9 => h9) rfl dX2_reads_31 ?_
              refine lv_iload_n hx hb dX2_reads_34 rfl (lv_at hl 0 rfl) ?_
              refine lv_iconst (v := nI 0) hx hb dX2_reads_35 (by decide) ?_
              refine m_as1 SF hK hJ hP hS (i := k) (by omega) dX2_reads_36 (fun H locs hP hS => ?_)
              have hP : mP dC dI dA a (mrow (mrow M 1 (upd (fz (M 1) k) k (nI 0))) 2 (fz (M 2) 273)) H := hP
              refine lv_iinc (v := nI (k + 1)) (lv' := [(1, .int (nI (k + 1))), (0, .ref (a 0))]) hx hb dX2_reads_37 hl (k := 0) rfl (nI_add _ 1) (by decide) rfl (fun ls hl => ?_)
              refine lv_goto (tgt := 24) hx hb dX2_reads_40 (by decide) ?_
              exact ih24 (k + 1) (by omega) (by omega) _ _ (by rw [← fz_s]; exact hP) hS ls (lv_sub hl [0, 1] rfl)
        exact lp24 (26 + 1) 0 (by omega) (by omega) _ _ (by have h2 : k = 273 := (by omega); rw [h2] at hP; rw [fz_0]; exact hP) hS ls (lv_sub hl [0, 1] rfl)
      · have c_6 : ¬ (273 ≤ k) := fun q9 => c_6 ((nI_leI (a := 273) (b := k) (by omega) (by omega)).mpr q9)
        refine lv_aload_n hx hb dX2_reads_9 rfl (lv_at hl 1 rfl) ?_
        refine va_get (D := (dC, dI)) (ci := 2) (v := .ref (a 2)) (C := RX2) (T := TX2) (N := 22) hx hb hts in_X2 hown hK hP 0 rfl rfl 3 (by decide) (hts _ q1954) (fun _ h9 => h9) rfl dX2_reads_10 ?_
        refine lv_iload_n hx hb dX2_reads_13 rfl (lv_at hl 0 rfl) ?_
        refine lv_iconst (v := nI 0) hx hb dX2_reads_14 (by decide) ?_
        refine m_as2 SF hK hJ hP hS (i := k) (by omega) dX2_reads_15 (fun H locs hP hS => ?_)
        have hP : mP dC dI dA a (mrow M 2 (upd (fz (M 2) k) k (nI 0))) H := hP
        refine lv_iinc (v := nI (k + 1)) (lv' := [(1, .int (nI (k + 1))), (0, .ref (a 0))]) hx hb dX2_reads_16 hl (k := 0) rfl (nI_add _ 1) (by decide) rfl (fun ls hl => ?_)
        refine lv_goto (tgt := 2) hx hb dX2_reads_19 (by decide) ?_
        exact ih2 (k + 1) (by omega) (by omega) _ _ (by rw [← fz_s]; exact hP) hS ls (lv_sub hl [0, 1] rfl)
  exact lp2 (273 + 1) 0 (by omega) (by omega) _ _ (by rw [fz_0]; exact hP) hS ls (lv_sub hl [0, 1] rfl)
theorem k_X2_reads (hJ : mJ a) {sz : Nat} {ks : Nat → Nat} (hW : PW M) (hA : ∀ j, j < 8 → sz ≤ a j) (SF : CallFix p m c cc nL s args lw_all RX2) (hK : KK dC dI dA s) (rk : rmOK 17 R) (hsz : ls.size = nL) (hcat : (rest.map fun v => v.category).sum ≤ 8) (hP : mP dC dI dA a M H) (hE : (EW sz ks) s H) (hS : uS (mA a) H0 H locs) (hdg : decode cc pc = .ok (.invokevirtual 251, 3)) (k : ∀ (H1 : Heap) (locs1 : List Loc), mP dC dI dA a (readsM M) H1 → uS (mA a) H0 H1 locs1 → W p l e R s m args below meth c H1 locs1 0 0 Q (F0 m (pc + 3) ls (rest))) : W p l e R s m args below meth c H locs 0 0 Q (F0 m pc ls (.ref (a 0) :: rest)) :=
  u_runMv (x_rV (C := RX2) (As := []) SF hK rk (c_X2_reads l dC dI dA a M hJ sz ks hW hA) (lw_V q2073 q2075 qs51 q117 q2076) (n := 0) (by decide +kernel) rfl (by decide) (va_recv hK hP (ci := 2) (q0 := 0) rfl rfl) (XOK.hp.and (EW.ok)) ⟨hP, hE⟩ hsz hcat ⟨Nat.zero_le _, Nat.zero_le _⟩ rfl hdg) hS (fun _ h => h) (fun H1 locs1 h1 h2 _ => k H1 locs1 h1 h2)
end TW
