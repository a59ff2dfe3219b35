set_option maxRecDepth 100000
section TW
variable {p : Program} {l : Launch} {e : Env} {R : Room} {s : State} {m : MethodId} {args : Array Value} {below : List Frame} {meth : Method} {c : Code} {H : Heap} {locs : List Loc} {Q : State → Prop}
variable {cc : ByteArray} {pc nL : Nat} {ls : Array Slot} {rest : List Value} {dC : Nat → ClassId} {dI : Nat → Nat → Nat} {dA : Nat → ClassId} {a : Nat → Nat} {M : Nat → Nat → Int32} {H0 : Heap}

set_option maxHeartbeats 4000000 in
theorem c_X2_load (l : Launch) (dC : Nat → ClassId) (dI : Nat → Nat → Nat) (dA : Nat → ClassId) (a : Nat → Nat) (M : Nat → Nat → Int32) (hJ : mJ a) (x : Int32) (bf : Nat) (sz : Nat) (ks : Nat → Nat) (hbf : M 0 8 = nI bf) (hb6 : bf ≤ 600) (hA : ∀ j, j < 8 → sz ≤ a j) : Met l yX2_load (ws_ yX2_load cX2_load 3 (some .int)) (rmD 17 0 0) (uPx [.ref (a 0), .int x] (fun U H => mP dC dI dA a M H ∧ (EW sz ks) U H) dC dI dA) (uMi (mA a) (if inZ x.toInt 0 bf = true then (if ldB M x.toNatClampNeg 0 16 = 0 then nI (ln (ldB M x.toNatClampNeg 2)) else nI 0) else nI 0) (mP dC dI dA a (if inZ x.toInt 0 bf = true then (if ldB M x.toNatClampNeg 0 16 = 0 then ldO' (ldB M x.toNatClampNeg) else ldF' M (ldB M x.toNatClampNeg)) else mrow M 0 (upd (M 0) 0 (nI 1))))) 0 0 (mA a) := by
  refine x_metMi (own := RX2) (by decide) rfl (Nat.le_of_ble_eq_true rfl) fun p e R s m args below meth c Q SF rk hP hK hret ls hl => ?_
  have hE := hP.2
  have hP := hP.1
  have hx := SF.1
  have hb := SF.2.1
  have hml := SF.2.2.1
  have hown := SF.2.2.2.1
  have hts := SF.2.2.2.2
  have hS : uS (mA a) s.heap s.heap [] := uS.rf
  have hl : lv_has ls 3 [(0, .ref (a 0)), (1, .int x)] := hl
  refine lv_aload_n hx hb dX2_load_0 rfl (lv_at hl 0 rfl) ?_
  refine lv_iconst (v := nI 0) hx hb dX2_load_1 (by decide) ?_
  refine m_pf_thrown SF hK hJ hP hS dX2_load_2 (fun H locs hP hS => ?_)
  have hP : mP dC dI dA a (mrow M 0 (upd (M 0) 0 (nI 0))) H := hP
  refine lv_aload_n hx hb dX2_load_5 rfl (lv_at hl 0 rfl) ?_
  refine lv_iload_n hx hb dX2_load_6 rfl (lv_at hl 1 rfl) ?_
  refine lv_i2l hx hb dX2_load_7 rfl ?_
  refine lv_lconst (v := 0) hx hb dX2_load_8 rfl ?_
  refine lv_aload_n hx hb dX2_load_9 rfl (lv_at hl 0 rfl) ?_
  refine va_get (D := (dC, dI)) (ci := 2) (v := .int (M 0 8)) (C := RX2) (T := TX2) (N := 22) hx hb hts in_X2 hown hK hP 0 rfl rfl 8 (by decide) (hts _ q1959) (fun _ h9 => h9) rfl dX2_load_10 ?_
  refine u_top (y := nI bf) hbf ?_
  refine lv_i2l hx hb dX2_load_13 rfl ?_
  refine k_X2_in (X := x.toInt) (L := 0) (U := bf) (i2l_toInt x) (by decide) (by rw [i2l_toInt, nI_toInt (by omega)]) SF hK (rk.le (Nat.le_of_ble_eq_true rfl)) hl.1 (Nat.le_of_ble_eq_true rfl) dX2_load_14 ?_
  have jn25 : ∀ v9 : Int32, v9 = nI ((!(inZ x.toInt 0 bf)).toNat) → ∀ (H : Heap) (locs : List Loc), mP dC dI dA a (mrow M 0 (upd (M 0) 0 (nI 0))) H → uS (mA a) s.heap H locs → ∀ ls : Array Slot, lv_has ls 3 [(0, .ref (a 0)), (1, .int x)] → W p l e R s m args below meth c H locs 0 0 Q (F0 m 25 ls [.int v9, .ref (a 0)]) := by
    intro v9 hv9 H locs hP hS ls hl
    subst hv9
    refine lv_iconst (v := nI 1) hx hb dX2_load_25 (by decide) ?_
    refine k_X2_refuse (M := mrow M 0 (upd (M 0) 0 (nI 0)))  hJ  SF hK (rk.le (Nat.le_of_ble_eq_true rfl)) hl.1 (Nat.le_of_ble_eq_true rfl) hP hS dX2_load_26 (fun H locs hP hS => ?_)
    refine u_top (y := nI ((!decide (rfT ((nI 0)) (!(inZ x.toInt 0 bf)) (nI 1) = 0)).toNat)) rfl ?_
    have hP : mP dC dI dA a (mrow M 0 (upd (M 0) 0 (rfT ((nI 0)) (!(inZ x.toInt 0 bf)) (nI 1)))) H := hP
    cases hq0 : (!(inZ x.toInt 0 bf))
    · have hz0 : (inZ x.toInt 0 bf) = true := by first | simpa using hq0 | simpa [lo] using hq0
      rw [hq0, rfT_f] at hP
      refine u_top (y := nI 0) (by rw [rfT_f]; rfl) ?_
      have hP : mP dC dI dA a (mrow M 0 (upd (M 0) 0 (nI 0))) H := hP
      obtain ⟨n, hlt_n, hsm_n, rfl⟩ := inZ_n hz0
      have hcl_n : (nI n).toNatClampNeg = n := nI_clamp (by omega)
      have hP : mP dC dI dA a (mrow M 0 (upd (M 0) 0 (nI 0))) H := by assumption
      refine lv_if_eq (tgt := 34) hx hb dX2_load_29 (by decide) (fun c_29 => ?_) (fun c_29 => absurd (by decide) c_29)
      refine lv_aload_n hx hb dX2_load_34 rfl (lv_at hl 0 rfl) ?_
      refine k_X2_laysAside (M := mrow M 0 (upd (M 0) 0 (nI 0)))  hJ  SF hK (rk.le (Nat.le_of_ble_eq_true rfl)) hl.1 (Nat.le_of_ble_eq_true rfl) hP hS dX2_load_35 (fun H locs hP hS => ?_)
      have hP : mP dC dI dA a (mrow (mrow M 0 (upd (M 0) 0 (nI 0))) 3 (va_cpy (M 2) (M 3) 0 2730 273)) H := hP
      refine lv_iconst (v := nI 0) hx hb dX2_load_38 (by decide) ?_
      refine lv_istore_n (lv' := [(2, .int (nI 0)), (0, .ref (a 0)), (1, .int (nI n))]) hx hb dX2_load_39 rfl hl (by decide) rfl (fun ls hl => ?_)
      have lp40 : ∀ (k0 : Nat) (k : Nat), k ≤ 26 → 26 < k + k0 → ∀ (H : Heap) (locs : List Loc), mP dC dI dA a (mrow (mrow (mrow M 0 (upd (M 0) 0 (nI 0))) 3 (va_cpy (M 2) (M 3) 0 2730 273)) 6 (cpN (M 1) (M 6) k)) H → uS (mA a) s.heap H locs → ∀ ls : Array Slot, lv_has ls 3 [(2, .int (nI k)), (0, .ref (a 0)), (1, .int (nI n))] → W p l e R s m args below meth c H locs 0 0 Q (F0 m 40 ls []) := by
        intro k0
        induction k0 with
        | zero =>
          intro k hk1 hk2; omega
        | succ k0 ih =>
          intro k hk1 hk2 H locs hP hS ls hl
          have ih40 := ih
          refine lv_iload_n hx hb dX2_load_40 rfl (lv_at hl 0 rfl) ?_
          refine lv_bipush (v := nI 26) hx hb dX2_load_41 (by decide) ?_
          refine lv_icmp_ge (tgt := 64) hx hb dX2_load_43 (by decide) (fun c_43 => ?_) (fun c_43 => ?_)
          · have c_43 : 26 ≤ k := (nI_leI (a := 26) (b := k) (by omega) (by omega)).mp c_43
            have h26 : k = 26 := by omega
            subst h26
            have hP : mP dC dI dA a (mrow (mrow (mrow M 0 (upd (M 0) 0 (nI 0))) 3 (va_cpy (M 2) (M 3) 0 2730 273)) 6 (cpN (M 1) (M 6) 26)) H := hP
            refine lv_aload_n hx hb dX2_load_64 rfl (lv_at hl 1 rfl) ?_
            refine lv_iconst (v := nI 0) hx hb dX2_load_65 (by decide) ?_
            refine m_pf_buffered SF hK hJ hP hS dX2_load_66 (fun H locs hP hS => ?_)
            have hP : mP dC dI dA a (mrow (mrow (mrow M 0 (upd (upd (M 0) 0 (nI 0)) 8 (nI 0))) 3 (va_cpy (M 2) (M 3) 0 2730 273)) 6 (cpN (M 1) (M 6) 26)) H := hP
            refine lv_aload_n hx hb dX2_load_69 rfl (lv_at hl 1 rfl) ?_
            refine lv_iload_n hx hb dX2_load_70 rfl (lv_at hl 2 rfl) ?_
            refine m_pf_length SF hK hJ hP hS dX2_load_71 (fun H locs hP hS => ?_)
            have hP : mP dC dI dA a (mrow (mrow (mrow M 0 (upd (upd (upd (M 0) 0 (nI 0)) 8 (nI 0)) 11 (nI n))) 3 (va_cpy (M 2) (M 3) 0 2730 273)) 6 (cpN (M 1) (M 6) 26)) H := hP
            refine lv_aload_n hx hb dX2_load_74 rfl (lv_at hl 1 rfl) ?_
            refine lv_iconst (v := nI 0) hx hb dX2_load_75 (by decide) ?_
            refine m_pf_next SF hK hJ hP hS dX2_load_76 (fun H locs hP hS => ?_)
            have hP : mP dC dI dA a (mrow (mrow (mrow M 0 (upd (upd (upd (upd (M 0) 0 (nI 0)) 8 (nI 0)) 11 (nI n)) 12 (nI 0))) 3 (va_cpy (M 2) (M 3) 0 2730 273)) 6 (cpN (M 1) (M 6) 26)) H := hP
            refine lv_aload_n hx hb dX2_load_79 rfl (lv_at hl 1 rfl) ?_
            refine lv_iconst (v := nI 0) hx hb dX2_load_80 (by decide) ?_
            refine m_pf_bad SF hK hJ hP hS dX2_load_81 (fun H locs hP hS => ?_)
            have hP : mP dC dI dA a (mrow (mrow (mrow M 0 (upd (upd (upd (upd (upd (M 0) 0 (nI 0)) 8 (nI 0)) 11 (nI n)) 12 (nI 0)) 16 (nI 0))) 3 (va_cpy (M 2) (M 3) 0 2730 273)) 6 (cpN (M 1) (M 6) 26)) H := hP
            refine lv_aload_n hx hb dX2_load_84 rfl (lv_at hl 1 rfl) ?_
            refine lv_iconst (v := (-1)) hx hb dX2_load_85 (by decide) ?_
            refine m_pf_badAt SF hK hJ hP hS dX2_load_86 (fun H locs hP hS => ?_)
            have hP : mP dC dI dA a (mrow (mrow (mrow M 0 (upd (upd (upd (upd (upd (upd (M 0) 0 (nI 0)) 8 (nI 0)) 11 (nI n)) 12 (nI 0)) 16 (nI 0)) 17 (-1))) 3 (va_cpy (M 2) (M 3) 0 2730 273)) 6 (cpN (M 1) (M 6) 26)) H := hP
            obtain ⟨MA, hMA⟩ : ∃ z, z = mrow (mrow (mrow M 0 (upd (upd (upd (upd (upd (upd (M 0) 0 (nI 0)) 8 (nI 0)) 11 (nI n)) 12 (nI 0)) 16 (nI 0)) 17 (-1))) 3 (va_cpy (M 2) (M 3) 0 2730 273)) 6 (cpN (M 1) (M 6) 26) := ⟨_, rfl⟩
            rw [← hMA] at hP
            have eA : MA = ldA M n := hMA
            refine lv_aload_n hx hb dX2_load_89 rfl (lv_at hl 1 rfl) ?_
            refine k_X2_token (M := MA)  hJ (by rw [eA]; exact ldA_p0 (by omega)) SF hK (rk.le (Nat.le_of_ble_eq_true rfl)) hl.1 (Nat.le_of_ble_eq_true rfl) hP hS dX2_load_90 (fun H locs hP hS => ?_)
            have hP : mP dC dI dA a (tokM MA) H := hP
            obtain ⟨MT, hMT⟩ : ∃ z, z = tokM MA := ⟨_, rfl⟩
            rw [← hMT] at hP
            have hT9 : PW MT ∧ RS MA MT := by rw [hMT, eA]; exact ⟨(tok_wf (ldA_p0 (by omega))).1, (tok_wf (ldA_p0 (by omega))).2.1⟩
            refine lv_aload_n hx hb dX2_load_93 rfl (lv_at hl 1 rfl) ?_
            refine k_X2_reads (M := MT) (sz := sz) (ks := ks) hJ hT9.1 hA SF hK (rk.le (Nat.le_of_ble_eq_true rfl)) hl.1 (Nat.le_of_ble_eq_true rfl) hP (EW.kept hA hS hE) hS dX2_load_94 (fun H locs hP hS => ?_)
            have hP : mP dC dI dA a (readsM MT) H := hP
            obtain ⟨ML, hML⟩ : ∃ z, z = readsM MT := ⟨_, rfl⟩
            rw [← hML] at hP
            have eL : ML = ldB M n := by rw [hML, hMT, eA]; rfl
            have hL := reads_ri hT9.1
            rw [← hML] at hL
            have h00 : ML 0 0 = nI 0 := (hL.2.2 0 (by omega)).trans ((hT9.2.2 0 (by omega)).trans (by rw [eA]; rfl))
            have h6 : ML 6 = cpN (M 1) (M 6) 26 := (hL.2.1 6 (by decide) (by decide) (by decide)).trans ((hT9.2.1 6 (by decide)).trans (by rw [eA]; rfl))
            have h3 : ML 3 = va_cpy (M 2) (M 3) 0 2730 273 := (hL.2.1 3 (by decide) (by decide) (by decide)).trans ((hT9.2.1 3 (by decide)).trans (by rw [eA]; rfl))
            have hln := hL.1.2.1.2.1
            have hP := m_same (k := 0) h00 hP
            have hP : mP dC dI dA a (mrow ML 0 (upd (ML 0) 0 (nI 0))) H := hP
            refine lv_aload_n hx hb dX2_load_97 rfl (lv_at hl 1 rfl) ?_
            refine lv_aload_n hx hb dX2_load_98 rfl (lv_at hl 1 rfl) ?_
            refine va_get (D := (dC, dI)) (ci := 2) (v := .int (ML 0 16)) (C := RX2) (T := TX2) (N := 22) hx hb hts in_X2 hown hK hP 0 rfl rfl 16 (by decide) (hts _ q1967) (fun _ h9 => h9) rfl dX2_load_99 ?_
            refine m_pf_parseError SF hK hJ hP hS dX2_load_102 (fun H locs hP hS => ?_)
            have hP : mP dC dI dA a (mrow ML 0 (upd (upd (ML 0) 0 (nI 0)) 9 (ML 0 16))) H := hP
            refine lv_aload_n hx hb dX2_load_105 rfl (lv_at hl 1 rfl) ?_
            refine lv_aload_n hx hb dX2_load_106 rfl (lv_at hl 1 rfl) ?_
            refine va_get (D := (dC, dI)) (ci := 2) (v := .int (ML 0 16)) (C := RX2) (T := TX2) (N := 22) hx hb hts in_X2 hown hK hP 0 rfl rfl 16 (by decide) (hts _ q1967) (fun _ h9 => h9) rfl dX2_load_107 ?_
            have jn121 : ∀ v9 : Int32, v9 = ldE ML → ∀ (H : Heap) (locs : List Loc), mP dC dI dA a (mrow ML 0 (upd (upd (ML 0) 0 (nI 0)) 9 (ML 0 16))) H → uS (mA a) s.heap H locs → ∀ ls : Array Slot, lv_has ls 3 [(2, .int (nI 26)), (0, .ref (a 0)), (1, .int (nI n))] → W p l e R s m args below meth c H locs 0 0 Q (F0 m 121 ls [.int v9, .ref (a 0)]) := by
              intro v9 hv9 H locs hP hS ls hl
              subst hv9
              refine m_pf_errorPosition SF hK hJ hP hS dX2_load_121 (fun H locs hP hS => ?_)
              have hP : mP dC dI dA a (mrow ML 0 (upd (upd (upd (ML 0) 0 (nI 0)) 9 (ML 0 16)) 10 (ldE ML))) H := hP
              refine lv_aload_n hx hb dX2_load_124 rfl (lv_at hl 1 rfl) ?_
              refine lv_aload_n hx hb dX2_load_125 rfl (lv_at hl 1 rfl) ?_
              refine va_get (D := (dC, dI)) (ci := 2) (v := .int (ML 0 16)) (C := RX2) (T := TX2) (N := 22) hx hb hts in_X2 hown hK hP 0 rfl rfl 16 (by decide) (hts _ q1967) (fun _ h9 => h9) rfl dX2_load_126 ?_
              have jn137 : ∀ v9 : Int32, v9 = nI ((!decide (ML 0 16 = 0)).toNat) → ∀ (H : Heap) (locs : List Loc), mP dC dI dA a (mrow ML 0 (upd (upd (upd (ML 0) 0 (nI 0)) 9 (ML 0 16)) 10 (ldE ML))) H → uS (mA a) s.heap H locs → ∀ ls : Array Slot, lv_has ls 3 [(2, .int (nI 26)), (0, .ref (a 0)), (1, .int (nI n))] → W p l e R s m args below meth c H locs 0 0 Q (F0 m 137 ls [.int v9, .ref (a 0)]) := by
                intro v9 hv9 H locs hP hS ls hl
                subst hv9
                refine lv_iconst (v := nI 2) hx hb dX2_load_137 (by decide) ?_
                refine k_X2_refuse (M := mrow ML 0 (upd (upd (upd (ML 0) 0 (nI 0)) 9 (ML 0 16)) 10 (ldE ML)))  hJ  SF hK (rk.le (Nat.le_of_ble_eq_true rfl)) hl.1 (Nat.le_of_ble_eq_true rfl) hP hS dX2_load_138 (fun H locs hP hS => ?_)
                refine u_top (y := nI ((!decide (rfT ((nI 0)) (!decide (ML 0 16 = 0)) (nI 2) = 0)).toNat)) rfl ?_
                have hP : mP dC dI dA a (mrow ML 0 (upd (upd (upd (ML 0) 0 (rfT ((nI 0)) (!decide (ML 0 16 = 0)) (nI 2))) 9 (ML 0 16)) 10 (ldE ML))) H := hP
                cases hq1 : (!decide (ML 0 16 = 0))
                · have hz1 : (decide (ML 0 16 = 0)) = true := by first | simpa using hq1 | simpa [lo, hcl_n] using hq1
                  rw [hq1, rfT_f] at hP
                  refine u_top (y := nI 0) (by rw [rfT_f]; rfl) ?_
                  have hP : mP dC dI dA a (mrow ML 0 (upd (upd (upd (ML 0) 0 (nI 0)) 9 (ML 0 16)) 10 (ldE ML))) H := hP
                  refine lv_if_eq (tgt := 176) hx hb dX2_load_141 (by decide) (fun c_141 => ?_) (fun c_141 => absurd (by decide) c_141)
                  refine lv_aload_n hx hb dX2_load_176 rfl (lv_at hl 1 rfl) ?_
                  refine lv_iconst (v := nI 1) hx hb dX2_load_177 (by decide) ?_
                  refine m_pf_isLoaded (b9 := true) SF hK hJ hP hS dX2_load_178 (fun H locs hP hS => ?_)
                  have hP : mP dC dI dA a (mrow ML 0 (upd (upd (upd (upd (ML 0) 0 (nI 0)) 1 (nI 1)) 9 (ML 0 16)) 10 (ldE ML))) H := hP
                  refine lv_aload_n hx hb dX2_load_181 rfl (lv_at hl 1 rfl) ?_
                  refine lv_iconst (v := nI 0) hx hb dX2_load_182 (by decide) ?_
                  refine m_pf_changes SF hK hJ hP hS dX2_load_183 (fun H locs hP hS => ?_)
                  have hP : mP dC dI dA a (mrow ML 0 (upd (upd (upd (upd (upd (ML 0) 0 (nI 0)) 1 (nI 1)) 5 (nI 0)) 9 (ML 0 16)) 10 (ldE ML))) H := hP
                  refine lv_aload_n hx hb dX2_load_186 rfl (lv_at hl 1 rfl) ?_
                  refine va_get (D := (dC, dI)) (ci := 2) (v := .ref (a 4)) (C := RX2) (T := TX2) (N := 22) hx hb hts in_X2 hown hK hP 0 rfl rfl 6 (by decide) (hts _ q1957) (fun _ h9 => h9) rfl dX2_load_187 ?_
                  refine lv_iconst (v := nI 0) hx hb dX2_load_190 (by decide) ?_
                  refine lv_iconst (v := nI 0) hx hb dX2_load_191 (by decide) ?_
                  refine m_zst SF hK hJ hP hS (i := 0) (v := 0) (by omega) (by omega) dX2_load_192 (fun H locs hP hS => ?_)
                  have hP : mP dC dI dA a (mrow (mrow ML 0 (upd (upd (upd (upd (upd (ML 0) 0 (nI 0)) 1 (nI 1)) 5 (nI 0)) 9 (ML 0 16)) 10 (ldE ML))) 4 (upd (ML 4) 0 (nI 0))) H := hP
                  refine lv_aload_n hx hb dX2_load_193 rfl (lv_at hl 1 rfl) ?_
                  refine va_get (D := (dC, dI)) (ci := 2) (v := .ref (a 4)) (C := RX2) (T := TX2) (N := 22) hx hb hts in_X2 hown hK hP 0 rfl rfl 6 (by decide) (hts _ q1957) (fun _ h9 => h9) rfl dX2_load_194 ?_
                  refine lv_iconst (v := nI 1) hx hb dX2_load_197 (by decide) ?_
                  refine lv_iconst (v := nI 0) hx hb dX2_load_198 (by decide) ?_
                  refine m_zst SF hK hJ hP hS (i := 1) (v := 0) (by omega) (by omega) dX2_load_199 (fun H locs hP hS => ?_)
                  have hP : mP dC dI dA a (mrow (mrow ML 0 (upd (upd (upd (upd (upd (ML 0) 0 (nI 0)) 1 (nI 1)) 5 (nI 0)) 9 (ML 0 16)) 10 (ldE ML))) 4 (upd (upd (ML 4) 0 (nI 0)) 1 (nI 0))) H := hP
                  refine lv_aload_n hx hb dX2_load_200 rfl (lv_at hl 1 rfl) ?_
                  refine k_X2_letters (M := mrow (mrow ML 0 (upd (upd (upd (upd (upd (ML 0) 0 (nI 0)) 1 (nI 1)) 5 (nI 0)) 9 (ML 0 16)) 10 (ldE ML))) 4 (upd (upd (ML 4) 0 (nI 0)) 1 (nI 0)))   SF hK (rk.le (Nat.le_of_ble_eq_true rfl)) hl.1 (Nat.le_of_ble_eq_true rfl) hP dX2_load_201 ?_
                  refine u_top (y := ML 2 2) rfl ?_
                  refine u_top (y := nI (ln (ML 2))) hL.1.2.1.1 ?_
                  exact hret _ _ _ _ _ (by rw [if_pos hz0, hcl_n, ← eL, if_pos (by simpa using hz1)]) (by rw [if_pos hz0, hcl_n, ← eL, if_pos (by simpa using hz1), ldO']; exact hP) hS dX2_load_204
                · have hz1 : (decide (ML 0 16 = 0)) = false := by first | simpa using hq1 | simpa [lo, hcl_n] using hq1
                  rw [hq1, rfT_t] at hP
                  refine u_top (y := nI 1) (by rw [rfT_t]; rfl) ?_
                  have hP : mP dC dI dA a (mrow ML 0 (upd (upd (upd (ML 0) 0 (nI 2)) 9 (ML 0 16)) 10 (ldE ML))) H := hP
                  refine lv_if_eq (tgt := 176) hx hb dX2_load_141 (by decide) (fun c_141 => absurd c_141 (by decide)) (fun c_141 => ?_)
                  refine lv_iconst (v := nI 0) hx hb dX2_load_144 (by decide) ?_
                  refine lv_istore_n (lv' := [(2, .int (nI 0)), (0, .ref (a 0)), (1, .int (nI n))]) hx hb dX2_load_145 rfl hl (by decide) rfl (fun ls hl => ?_)
                  have lp146 : ∀ (k0 : Nat) (k : Nat), k ≤ 26 → 26 < k + k0 → ∀ (H : Heap) (locs : List Loc), mP dC dI dA a (mrow (mrow ML 0 (upd (upd (upd (ML 0) 0 (nI 2)) 9 (ML 0 16)) 10 (ldE ML))) 1 (cpN (ML 6) (ML 1) k)) H → uS (mA a) s.heap H locs → ∀ ls : Array Slot, lv_has ls 3 [(2, .int (nI k)), (0, .ref (a 0)), (1, .int (nI n))] → W p l e R s m args below meth c H locs 0 0 Q (F0 m 146 ls []) := by
                    intro k0
                    induction k0 with
                    | zero =>
                      intro k hk1 hk2; omega
                    | succ k0 ih =>
                      intro k hk1 hk2 H locs hP hS ls hl
                      have ih146 := ih
                      refine lv_iload_n hx hb dX2_load_146 rfl (lv_at hl 0 rfl) ?_
                      refine lv_bipush (v := nI 26) hx hb dX2_load_147 (by decide) ?_
                      refine lv_icmp_ge (tgt := 170) hx hb dX2_load_149 (by decide) (fun c_149 => ?_) (fun c_149 => ?_)
                      · have c_149 : 26 ≤ k := (nI_leI (a := 26) (b := k) (by omega) (by omega)).mp c_149
                        refine lv_aload_n hx hb dX2_load_170 rfl (lv_at hl 1 rfl) ?_
                        refine lv_iconst (v := nI 0) hx hb dX2_load_171 (by decide) ?_
                        refine k_X2_back (M := mrow (mrow ML 0 (upd (upd (upd (ML 0) 0 (nI 2)) 9 (ML 0 16)) 10 (ldE ML))) 1 (cpN (ML 6) (ML 1) k))  hJ  SF hK (rk.le (Nat.le_of_ble_eq_true rfl)) hl.1 (Nat.le_of_ble_eq_true rfl) hP hS dX2_load_172 (fun H locs hP hS => ?_)
                        refine u_top (y := (nI 0)) rfl ?_
                        have hP : mP dC dI dA a (mrow (mrow (mrow ML 0 (upd (upd (upd (ML 0) 0 (nI 2)) 9 (ML 0 16)) 10 (ldE ML))) 1 (cpN (ML 6) (ML 1) k)) 2 (va_cpy (ML 3) (ML 2) 2730 0 273)) H := hP
                        exact hret _ _ _ _ _ (by rw [if_pos hz0, hcl_n, ← eL, if_neg (by simpa using hz1)]) (by have h26 : k = 26 := (by omega); subst h26; rw [if_pos hz0, hcl_n, ← eL, if_neg (by simpa using hz1), ldF']; exact ld_back h6 h3 hP) hS dX2_load_175
                      · have c_149 : ¬ (26 ≤ k) := fun q9 => c_149 ((nI_leI (a := 26) (b := k) (by omega) (by omega)).mpr q9)
                        refine lv_aload_n hx hb dX2_load_152 rfl (lv_at hl 1 rfl) ?_
                        refine va_get (D := (dC, dI)) (ci := 2) (v := .ref (a 1)) (C := RX2) (T := TX2) (N := 22) hx hb hts in_X2 hown hK hP 0 rfl rfl 2 (by decide) (hts _ q1953) (fun _ h9 => h9) rfl dX2_load_153 ?_
                        refine lv_iload_n hx hb dX2_load_156 rfl (lv_at hl 0 rfl) ?_
                        refine lv_aload_n hx hb dX2_load_157 rfl (lv_at hl 1 rfl) ?_
                        refine va_get (D := (dC, dI)) (ci := 2) (v := .ref (a 6)) (C := RX2) (T := TX2) (N := 22) hx hb hts in_X2 hown hK hP 0 rfl rfl 18 (by decide) (hts _ q1969) (fun _ h9 => h9) rfl dX2_load_158 ?_
                        refine lv_iload_n hx hb dX2_load_161 rfl (lv_at hl 0 rfl) ?_
                        refine u_iald hx hb hK hP 6 0 rfl rfl (i := k) (by omega) (by decide) dX2_load_162 ?_
                        refine u_top (y := ML 6 k) rfl ?_
                        refine m_as1 SF hK hJ hP hS (i := k) (by omega) dX2_load_163 (fun H locs hP hS => ?_)
                        have hP : mP dC dI dA a (mrow (mrow ML 0 (upd (upd (upd (ML 0) 0 (nI 2)) 9 (ML 0 16)) 10 (ldE ML))) 1 (upd (cpN (ML 6) (ML 1) k) k (ML 6 k))) H := hP
                        refine lv_iinc (v := nI (k + 1)) (lv' := [(2, .int (nI (k + 1))), (0, .ref (a 0)), (1, .int (nI n))]) hx hb dX2_load_164 hl (k := 0) rfl (nI_add _ 1) (by decide) rfl (fun ls hl => ?_)
                        refine lv_goto (tgt := 146) hx hb dX2_load_167 (by decide) ?_
                        exact ih146 (k + 1) (by omega) (by omega) _ _ (by rw [← cpN_s]; exact hP) hS ls (lv_sub hl [0, 1, 2] rfl)
                  exact lp146 (26 + 1) 0 (by omega) (by omega) _ _ (by rw [cpN_0]; exact hP) hS ls (lv_sub hl [0, 1, 2] rfl)
              refine lv_if_eq (tgt := 136) hx hb dX2_load_129 (by decide) (fun c_129 => ?_) (fun c_129 => ?_)
              · refine lv_iconst (v := nI 0) hx hb dX2_load_136 (by decide) ?_
                exact jn137 _ (u_n0 c_129) _ _ hP hS ls (lv_sub hl [0, 1, 2] rfl)
              · refine lv_iconst (v := nI 1) hx hb dX2_load_132 (by decide) ?_
                refine lv_goto (tgt := 137) hx hb dX2_load_133 (by decide) ?_
                exact jn137 _ (u_n1 c_129) _ _ hP hS ls (lv_sub hl [0, 1, 2] rfl)
            refine lv_if_ne (tgt := 117) hx hb dX2_load_110 (by decide) (fun c_110 => ?_) (fun c_110 => ?_)
            · refine lv_aload_n hx hb dX2_load_117 rfl (lv_at hl 1 rfl) ?_
              refine va_get (D := (dC, dI)) (ci := 2) (v := .int (ML 0 17)) (C := RX2) (T := TX2) (N := 22) hx hb hts in_X2 hown hK hP 0 rfl rfl 17 (by decide) (hts _ q1968) (fun _ h9 => h9) rfl dX2_load_118 ?_
              exact jn121 _ ((by rw [ldE, if_neg c_110])) _ _ hP hS ls (lv_sub hl [0, 1, 2] rfl)
            · refine lv_iconst (v := (-1)) hx hb dX2_load_113 (by decide) ?_
              refine lv_goto (tgt := 121) hx hb dX2_load_114 (by decide) ?_
              exact jn121 _ ((by rw [ldE, if_pos c_110])) _ _ hP hS ls (lv_sub hl [0, 1, 2] rfl)
          · have c_43 : ¬ (26 ≤ k) := fun q9 => c_43 ((nI_leI (a := 26) (b := k) (by omega) (by omega)).mpr q9)
            refine lv_aload_n hx hb dX2_load_46 rfl (lv_at hl 1 rfl) ?_
            refine va_get (D := (dC, dI)) (ci := 2) (v := .ref (a 6)) (C := RX2) (T := TX2) (N := 22) hx hb hts in_X2 hown hK hP 0 rfl rfl 18 (by decide) (hts _ q1969) (fun _ h9 => h9) rfl dX2_load_47 ?_
            refine lv_iload_n hx hb dX2_load_50 rfl (lv_at hl 0 rfl) ?_
            refine lv_aload_n hx hb dX2_load_51 rfl (lv_at hl 1 rfl) ?_
            refine va_get (D := (dC, dI)) (ci := 2) (v := .ref (a 1)) (C := RX2) (T := TX2) (N := 22) hx hb hts in_X2 hown hK hP 0 rfl rfl 2 (by decide) (hts _ q1953) (fun _ h9 => h9) rfl dX2_load_52 ?_
            refine lv_iload_n hx hb dX2_load_55 rfl (lv_at hl 0 rfl) ?_
            refine u_iald hx hb hK hP 1 0 rfl rfl (i := k) (by omega) (by decide) dX2_load_56 ?_
            refine u_top (y := M 1 k) rfl ?_
            refine m_as6 SF hK hJ hP hS (i := k) (by omega) dX2_load_57 (fun H locs hP hS => ?_)
            have hP : mP dC dI dA a (mrow (mrow (mrow M 0 (upd (M 0) 0 (nI 0))) 3 (va_cpy (M 2) (M 3) 0 2730 273)) 6 (upd (cpN (M 1) (M 6) k) k (M 1 k))) H := hP
            refine lv_iinc (v := nI (k + 1)) (lv' := [(2, .int (nI (k + 1))), (0, .ref (a 0)), (1, .int (nI n))]) hx hb dX2_load_58 hl (k := 0) rfl (nI_add _ 1) (by decide) rfl (fun ls hl => ?_)
            refine lv_goto (tgt := 40) hx hb dX2_load_61 (by decide) ?_
            exact ih40 (k + 1) (by omega) (by omega) _ _ (by rw [← cpN_s]; exact hP) hS ls (lv_sub hl [0, 1, 2] rfl)
      exact lp40 (26 + 1) 0 (by omega) (by omega) _ _ (by rw [cpN_0]; exact hP) hS ls (lv_sub hl [0, 1, 2] rfl)
    · have hz0 : (inZ x.toInt 0 bf) = false := by first | simpa using hq0 | simpa [lo] using hq0
      rw [hq0, rfT_t] at hP
      refine u_top (y := nI 1) (by rw [rfT_t]; rfl) ?_
      have hP : mP dC dI dA a (mrow M 0 (upd (M 0) 0 (nI 1))) H := hP
      refine lv_if_eq (tgt := 34) hx hb dX2_load_29 (by decide) (fun c_29 => absurd c_29 (by decide)) (fun c_29 => ?_)
      refine lv_iconst (v := nI 0) hx hb dX2_load_32 (by decide) ?_
      exact hret _ _ _ _ _ (by rw [if_neg (by rw [hz0]; decide)]) (by rw [if_neg (by rw [hz0]; decide)]; exact hP) hS dX2_load_33
  refine lv_if_ne (tgt := 24) hx hb dX2_load_17 (by decide) (fun c_17 => ?_) (fun c_17 => ?_)
  · have c_17 : ¬ ((inZ x.toInt 0 bf) = false) := fun q9 => c_17 (u_zb.mpr q9)
    refine lv_iconst (v := nI 0) hx hb dX2_load_24 (by decide) ?_
    exact jn25 _ (u_ff (by simp [c_17])) _ _ hP hS ls (lv_sub hl [0, 1] rfl)
  · have c_17 : (inZ x.toInt 0 bf) = false := u_zb.mp c_17
    refine lv_iconst (v := nI 1) hx hb dX2_load_20 (by decide) ?_
    refine lv_goto (tgt := 25) hx hb dX2_load_21 (by decide) ?_
    exact jn25 _ (u_tt (by simpa using c_17)) _ _ hP hS ls (lv_sub hl [0, 1] rfl)
end TW
