set_option maxRecDepth 100000
section TW
variable {p : Program} {l : Launch} {e : Env} {R : Room} {s : State} {m : MethodId} {args : Array Value} {below : List Frame} {meth : Method} {c : Code} {H : Heap} {locs : List Loc} {Q : State → Prop}
variable {cc : ByteArray} {pc nL : Nat} {ls : Array Slot} {rest : List Value} {dC : Nat → ClassId} {dI : Nat → Nat → Nat} {dA : Nat → ClassId} {a : Nat → Nat} {M : Nat → Nat → Int32} {H0 : Heap}

set_option maxHeartbeats 4000000 in
theorem c_X2_writeBags (l : Launch) (dC : Nat → ClassId) (dI : Nat → Nat → Nat) (dA : Nat → ClassId) (a : Nat → Nat) (M : Nat → Nat → Int32) (hJ : mJ a)  (hS1 : SWf (M 2)) (hT : TWf (M 1)) (hB : BWf (M 2)) : Met l yX2_writeBags (ws_ yX2_writeBags cX2_writeBags 2 (some .int)) (rmD 2 0 0) (uPc [.ref (a 0)] (mP dC dI dA a M) dC dI dA) (uMi (mA a) (if thC [(lo (M 0 1), 1)] = 0 then nI (wBgR (M 2) 6).length else nI 0) (mP dC dI dA a (if thC [(lo (M 0 1), 1)] = 0 then mrow (mrow M 0 (upd (upd (M 0) 0 (nI 0)) 21 (nI (wBgR (M 2) 6).length))) 7 (putL (M 7) 0 (wBgR (M 2) 6)) else mrow M 0 (upd (M 0) 0 (nI (thC [(lo (M 0 1), 1)])))))) 0 0 (mA a) := by
  refine u_metMi (own := RX2) (by decide) rfl (Nat.le_of_ble_eq_true rfl) fun p e R s m args below meth c Q SF rk hP hK hret ls hl => ?_
  have hx := SF.1
  have hb := SF.2.1
  have hml := SF.2.2.1
  have hown := SF.2.2.2.1
  have hts := SF.2.2.2.2
  have hS : uS (mA a) s.heap s.heap [] := uS.rf
  have hl : lv_has ls 2 [(0, .ref (a 0))] := hl
  have hL := hS1.2.1
  have hn9 := hT.2.1
  refine lv_aload_n hx hb dX2_writeBags_0 rfl (lv_at hl 0 rfl) ?_
  refine k_X2_notLoaded  hJ  SF hK (rk.le (Nat.le_of_ble_eq_true rfl)) hl.1 (Nat.le_of_ble_eq_true rfl) hP hS dX2_writeBags_1 (fun H locs hP hS => ?_)
  have hP : mP dC dI dA a (mrow M 0 (upd (M 0) 0 (nI (thC [(lo (M 0 1), 1)])))) H := hP
  by_cases hq0 : thC [(lo (M 0 1), 1)] = 0
  · have hz0 := thC_1 hq0
    refine u_top (y := nI 0) (by rw [hq0]; rfl) ?_
    rw [hq0] at hP
    have hP : mP dC dI dA a (mrow M 0 (upd (M 0) 0 (nI 0))) H := hP
    refine lv_if_eq (tgt := 9) hx hb dX2_writeBags_4 (by decide) (fun c_4 => ?_) (fun c_4 => absurd (by decide) c_4)
    refine lv_aload_n hx hb dX2_writeBags_9 rfl (lv_at hl 0 rfl) ?_
    refine lv_iconst (v := nI 0) hx hb dX2_writeBags_10 (by decide) ?_
    refine m_pf_textLong SF hK hJ hP hS dX2_writeBags_11 (fun H locs hP hS => ?_)
    have hP : mP dC dI dA a (mrow M 0 (upd (upd (M 0) 0 (nI 0)) 21 (nI 0))) H := hP
    have hP : mP dC dI dA a (mrow (mrow M 0 (upd (upd (M 0) 0 (nI 0)) 21 (nI ((([] : List Nat)).length)))) 7 (putL (M 7) 0 ([] : List Nat))) H := m_says0 hP
    refine lv_iconst (v := nI 0) hx hb dX2_writeBags_14 (by decide) ?_
    refine lv_istore_n (lv' := [(1, .int (nI 0)), (0, .ref (a 0))]) hx hb dX2_writeBags_15 rfl hl (by decide) rfl (fun ls hl => ?_)
    have lp16 : ∀ (k0 : Nat) (k : Nat), k ≤ 6 → 6 < k + k0 → ∀ (H : Heap) (locs : List Loc), mP dC dI dA a (mrow (mrow M 0 (upd (upd (M 0) 0 (nI 0)) 21 (nI ((wBgR (M 2) k).length)))) 7 (putL (M 7) 0 (wBgR (M 2) k))) H → uS (mA a) s.heap H locs → ∀ ls : Array Slot, lv_has ls 2 [(1, .int (nI k)), (0, .ref (a 0))] → W p l e R s m args below meth c H locs 0 0 Q (F0 m 16 ls []) := by
      intro k0
      induction k0 with
      | zero =>
        intro k hk1 hk2; omega
      | succ k0 ih =>
        intro k hk1 hk2 H locs hP hS ls hl
        have ih16 := ih
        have hwl := wBgR_len (M 2) k
        refine lv_iload_n hx hb dX2_writeBags_16 rfl (lv_at hl 0 rfl) ?_
        refine lv_bipush (v := nI 6) hx hb dX2_writeBags_17 (by decide) ?_
        refine lv_icmp_ge (tgt := 88) hx hb dX2_writeBags_19 (by decide) (fun c_19 => ?_) (fun c_19 => ?_)
        · have c_19 : 6 ≤ k := (nI_leI (a := 6) (b := k) (by omega) (by omega)).mp c_19
          refine lv_aload_n hx hb dX2_writeBags_88 rfl (lv_at hl 1 rfl) ?_
          refine va_get (D := (dC, dI)) (ci := 2) (v := .int (nI ((wBgR (M 2) k).length))) (C := RX2) (T := TX2) (N := 22) hx hb hts in_X2 hown hK hP 0 rfl rfl 21 (by decide) (hts _ q1972) (fun _ h9 => h9) rfl dX2_writeBags_89 ?_
          exact hret _ _ _ _ _ (by rw [hz0]; show _ = _; have h6 : k = 6 := (by omega); rw [h6]; rfl) (by rw [hz0]; exact (by have h6 : k = 6 := (by omega); rw [h6] at hP; exact hP)) hS dX2_writeBags_92
        · have c_19 : ¬ (6 ≤ k) := fun q9 => c_19 ((nI_leI (a := 6) (b := k) (by omega) (by omega)).mpr q9)
          obtain ⟨hb1, hb2, hb3, hb4⟩ := hB k (by omega)
          have hg1 := sgN_len (cN (M 2 (21 + k)))
          have hg2 := sgN_len (cN (M 2 (15 + k)))
          refine lv_iload_n hx hb dX2_writeBags_22 rfl (lv_at hl 0 rfl) ?_
          refine lv_if_le (tgt := 32) hx hb dX2_writeBags_23 (by decide) (fun c_23 => ?_) (fun c_23 => ?_)
          · have c_23 : k ≤ 0 := (nI_leI (a := k) (b := 0) (by omega) (by omega)).mp c_23
            refine lv_aload_n hx hb dX2_writeBags_32 rfl (lv_at hl 1 rfl) ?_
            refine lv_aload_n hx hb dX2_writeBags_33 rfl (lv_at hl 1 rfl) ?_
            refine va_get (D := (dC, dI)) (ci := 2) (v := .ref (a 2)) (C := RX2) (T := TX2) (N := 22) hx hb hts in_X2 hown hK hP 0 rfl rfl 3 (by decide) (hts _ q1954) (fun _ h9 => h9) rfl dX2_writeBags_34 ?_
            refine lv_bipush (v := nI 21) hx hb dX2_writeBags_37 (by decide) ?_
            refine lv_iload_n hx hb dX2_writeBags_39 rfl (lv_at hl 0 rfl) ?_
            refine lv_iadd hx hb dX2_writeBags_40 ?_
            refine u_top (nI_add _ _) ?_
            refine u_iald hx hb hK hP 2 0 rfl rfl (i := 21 + k) (by omega) (by decide) dX2_writeBags_41 ?_
            refine u_top (y := M 2 (21 + k)) rfl ?_
            refine u_top (y := nI (cN (M 2 (21 + k)))) hb1 ?_
            refine k_X2_saysNumber (M := mrow (mrow M 0 (upd (upd (M 0) 0 (nI 0)) 21 (nI ((wBgR (M 2) k).length)))) 7 (putL (M 7) 0 (wBgR (M 2) k))) (n := (wBgR (M 2) k).length) hJ rfl (by first | omega | (simp only [List.length_append, List.length_singleton, List.length_nil, rdL_len, sgC_len]; omega)) hb2 SF hK (rk.le (Nat.le_of_ble_eq_true rfl)) hl.1 (Nat.le_of_ble_eq_true rfl) hP hS dX2_writeBags_42 (fun H locs hP hS => ?_)
            have hP : mP dC dI dA a (mrow (mrow M 0 (upd (upd (M 0) 0 (nI 0)) 21 (nI (((wBgR (M 2) k).length) + (sgN (cN (M 2 (21 + k)))).length)))) 7 (putL (putL (M 7) 0 (wBgR (M 2) k)) ((wBgR (M 2) k).length) (sgN (cN (M 2 (21 + k)))))) H := hP
            have hP : mP dC dI dA a (mrow (mrow M 0 (upd (upd (M 0) 0 (nI 0)) 21 (nI ((wBgR (M 2) k ++ sgN (cN (M 2 (21 + k)))).length)))) 7 (putL (M 7) 0 (wBgR (M 2) k ++ sgN (cN (M 2 (21 + k)))))) H := m_says (L := wBgR (M 2) k) (Lc := sgN (cN (M 2 (21 + k)))) hP
            refine lv_aload_n hx hb dX2_writeBags_45 rfl (lv_at hl 1 rfl) ?_
            refine lv_bipush (v := nI 43) hx hb dX2_writeBags_46 (by decide) ?_
            refine k_X2_says (M := mrow (mrow M 0 (upd (upd (M 0) 0 (nI 0)) 21 (nI ((wBgR (M 2) k ++ sgN (cN (M 2 (21 + k)))).length)))) 7 (putL (M 7) 0 (wBgR (M 2) k ++ sgN (cN (M 2 (21 + k)))))) (n := (wBgR (M 2) k ++ sgN (cN (M 2 (21 + k)))).length) hJ rfl (by first | omega | (simp only [List.length_append, List.length_singleton, List.length_nil, rdL_len, sgC_len]; omega)) SF hK (rk.le (Nat.le_of_ble_eq_true rfl)) hl.1 (Nat.le_of_ble_eq_true rfl) hP hS dX2_writeBags_48 (fun H locs hP hS => ?_)
            have hP : mP dC dI dA a (mrow (mrow M 0 (upd (upd (M 0) 0 (nI 0)) 21 (nI (((wBgR (M 2) k ++ sgN (cN (M 2 (21 + k)))).length) + 1)))) 7 (putL (putL (M 7) 0 (wBgR (M 2) k ++ sgN (cN (M 2 (21 + k))))) ((wBgR (M 2) k ++ sgN (cN (M 2 (21 + k)))).length) [43])) H := hP
            have hP : mP dC dI dA a (mrow (mrow M 0 (upd (upd (M 0) 0 (nI 0)) 21 (nI ((wBgR (M 2) k ++ sgN (cN (M 2 (21 + k))) ++ [43]).length)))) 7 (putL (M 7) 0 (wBgR (M 2) k ++ sgN (cN (M 2 (21 + k))) ++ [43]))) H := m_says (L := wBgR (M 2) k ++ sgN (cN (M 2 (21 + k)))) (Lc := [43]) hP
            refine lv_aload_n hx hb dX2_writeBags_51 rfl (lv_at hl 1 rfl) ?_
            refine lv_aload_n hx hb dX2_writeBags_52 rfl (lv_at hl 1 rfl) ?_
            refine va_get (D := (dC, dI)) (ci := 2) (v := .ref (a 2)) (C := RX2) (T := TX2) (N := 22) hx hb hts in_X2 hown hK hP 0 rfl rfl 3 (by decide) (hts _ q1954) (fun _ h9 => h9) rfl dX2_writeBags_53 ?_
            refine lv_bipush (v := nI 15) hx hb dX2_writeBags_56 (by decide) ?_
            refine lv_iload_n hx hb dX2_writeBags_58 rfl (lv_at hl 0 rfl) ?_
            refine lv_iadd hx hb dX2_writeBags_59 ?_
            refine u_top (nI_add _ _) ?_
            refine u_iald hx hb hK hP 2 0 rfl rfl (i := 15 + k) (by omega) (by decide) dX2_writeBags_60 ?_
            refine u_top (y := M 2 (15 + k)) rfl ?_
            refine u_top (y := nI (cN (M 2 (15 + k)))) hb3 ?_
            refine k_X2_saysNumber (M := mrow (mrow M 0 (upd (upd (M 0) 0 (nI 0)) 21 (nI ((wBgR (M 2) k ++ sgN (cN (M 2 (21 + k))) ++ [43]).length)))) 7 (putL (M 7) 0 (wBgR (M 2) k ++ sgN (cN (M 2 (21 + k))) ++ [43]))) (n := (wBgR (M 2) k ++ sgN (cN (M 2 (21 + k))) ++ [43]).length) hJ rfl (by first | omega | (simp only [List.length_append, List.length_singleton, List.length_nil, rdL_len, sgC_len]; omega)) hb4 SF hK (rk.le (Nat.le_of_ble_eq_true rfl)) hl.1 (Nat.le_of_ble_eq_true rfl) hP hS dX2_writeBags_61 (fun H locs hP hS => ?_)
            have hP : mP dC dI dA a (mrow (mrow M 0 (upd (upd (M 0) 0 (nI 0)) 21 (nI (((wBgR (M 2) k ++ sgN (cN (M 2 (21 + k))) ++ [43]).length) + (sgN (cN (M 2 (15 + k)))).length)))) 7 (putL (putL (M 7) 0 (wBgR (M 2) k ++ sgN (cN (M 2 (21 + k))) ++ [43])) ((wBgR (M 2) k ++ sgN (cN (M 2 (21 + k))) ++ [43]).length) (sgN (cN (M 2 (15 + k)))))) H := hP
            have hP : mP dC dI dA a (mrow (mrow M 0 (upd (upd (M 0) 0 (nI 0)) 21 (nI ((wBgR (M 2) k ++ sgN (cN (M 2 (21 + k))) ++ [43] ++ sgN (cN (M 2 (15 + k)))).length)))) 7 (putL (M 7) 0 (wBgR (M 2) k ++ sgN (cN (M 2 (21 + k))) ++ [43] ++ sgN (cN (M 2 (15 + k)))))) H := m_says (L := wBgR (M 2) k ++ sgN (cN (M 2 (21 + k))) ++ [43]) (Lc := sgN (cN (M 2 (15 + k)))) hP
            refine lv_aload_n hx hb dX2_writeBags_64 rfl (lv_at hl 1 rfl) ?_
            refine va_get (D := (dC, dI)) (ci := 2) (v := .ref (a 2)) (C := RX2) (T := TX2) (N := 22) hx hb hts in_X2 hown hK hP 0 rfl rfl 3 (by decide) (hts _ q1954) (fun _ h9 => h9) rfl dX2_writeBags_65 ?_
            refine lv_bipush (v := nI 9) hx hb dX2_writeBags_68 (by decide) ?_
            refine lv_iload_n hx hb dX2_writeBags_70 rfl (lv_at hl 0 rfl) ?_
            refine lv_iadd hx hb dX2_writeBags_71 ?_
            refine u_top (nI_add _ _) ?_
            refine u_iald hx hb hK hP 2 0 rfl rfl (i := 9 + k) (by omega) (by decide) dX2_writeBags_72 ?_
            refine u_top (y := M 2 (9 + k)) rfl ?_
            refine lv_if_ne (tgt := 82) hx hb dX2_writeBags_73 (by decide) (fun c_73 => ?_) (fun c_73 => ?_)
            · refine lv_iinc (v := nI (k + 1)) (lv' := [(1, .int (nI (k + 1))), (0, .ref (a 0))]) hx hb dX2_writeBags_82 hl (k := 0) rfl (nI_add _ 1) (by decide) rfl (fun ls hl => ?_)
              refine lv_goto (tgt := 16) hx hb dX2_writeBags_85 (by decide) ?_
              exact ih16 (k + 1) (by omega) (by omega) _ _ (by rw [wBgR]; simpa [show ¬ 0 < k by omega, c_73] using hP) hS ls (lv_sub hl [0, 1] rfl)
            · refine lv_aload_n hx hb dX2_writeBags_76 rfl (lv_at hl 1 rfl) ?_
              refine lv_bipush (v := nI 120) hx hb dX2_writeBags_77 (by decide) ?_
              refine k_X2_says (M := mrow (mrow M 0 (upd (upd (M 0) 0 (nI 0)) 21 (nI ((wBgR (M 2) k ++ sgN (cN (M 2 (21 + k))) ++ [43] ++ sgN (cN (M 2 (15 + k)))).length)))) 7 (putL (M 7) 0 (wBgR (M 2) k ++ sgN (cN (M 2 (21 + k))) ++ [43] ++ sgN (cN (M 2 (15 + k)))))) (n := (wBgR (M 2) k ++ sgN (cN (M 2 (21 + k))) ++ [43] ++ sgN (cN (M 2 (15 + k)))).length) hJ rfl (by first | omega | (simp only [List.length_append, List.length_singleton, List.length_nil, rdL_len, sgC_len]; omega)) SF hK (rk.le (Nat.le_of_ble_eq_true rfl)) hl.1 (Nat.le_of_ble_eq_true rfl) hP hS dX2_writeBags_79 (fun H locs hP hS => ?_)
              have hP : mP dC dI dA a (mrow (mrow M 0 (upd (upd (M 0) 0 (nI 0)) 21 (nI (((wBgR (M 2) k ++ sgN (cN (M 2 (21 + k))) ++ [43] ++ sgN (cN (M 2 (15 + k)))).length) + 1)))) 7 (putL (putL (M 7) 0 (wBgR (M 2) k ++ sgN (cN (M 2 (21 + k))) ++ [43] ++ sgN (cN (M 2 (15 + k))))) ((wBgR (M 2) k ++ sgN (cN (M 2 (21 + k))) ++ [43] ++ sgN (cN (M 2 (15 + k)))).length) [120])) H := hP
              have hP : mP dC dI dA a (mrow (mrow M 0 (upd (upd (M 0) 0 (nI 0)) 21 (nI ((wBgR (M 2) k ++ sgN (cN (M 2 (21 + k))) ++ [43] ++ sgN (cN (M 2 (15 + k))) ++ [120]).length)))) 7 (putL (M 7) 0 (wBgR (M 2) k ++ sgN (cN (M 2 (21 + k))) ++ [43] ++ sgN (cN (M 2 (15 + k))) ++ [120]))) H := m_says (L := wBgR (M 2) k ++ sgN (cN (M 2 (21 + k))) ++ [43] ++ sgN (cN (M 2 (15 + k)))) (Lc := [120]) hP
              refine lv_iinc (v := nI (k + 1)) (lv' := [(1, .int (nI (k + 1))), (0, .ref (a 0))]) hx hb dX2_writeBags_82 hl (k := 0) rfl (nI_add _ 1) (by decide) rfl (fun ls hl => ?_)
              refine lv_goto (tgt := 16) hx hb dX2_writeBags_85 (by decide) ?_
              exact ih16 (k + 1) (by omega) (by omega) _ _ (by rw [wBgR]; simpa [show ¬ 0 < k by omega, c_73] using hP) hS ls (lv_sub hl [0, 1] rfl)
          · have c_23 : ¬ (k ≤ 0) := fun q9 => c_23 ((nI_leI (a := k) (b := 0) (by omega) (by omega)).mpr q9)
            refine lv_aload_n hx hb dX2_writeBags_26 rfl (lv_at hl 1 rfl) ?_
            refine lv_bipush (v := nI 32) hx hb dX2_writeBags_27 (by decide) ?_
            refine k_X2_says (M := mrow (mrow M 0 (upd (upd (M 0) 0 (nI 0)) 21 (nI ((wBgR (M 2) k).length)))) 7 (putL (M 7) 0 (wBgR (M 2) k))) (n := (wBgR (M 2) k).length) hJ rfl (by first | omega | (simp only [List.length_append, List.length_singleton, List.length_nil, rdL_len, sgC_len]; omega)) SF hK (rk.le (Nat.le_of_ble_eq_true rfl)) hl.1 (Nat.le_of_ble_eq_true rfl) hP hS dX2_writeBags_29 (fun H locs hP hS => ?_)
            have hP : mP dC dI dA a (mrow (mrow M 0 (upd (upd (M 0) 0 (nI 0)) 21 (nI (((wBgR (M 2) k).length) + 1)))) 7 (putL (putL (M 7) 0 (wBgR (M 2) k)) ((wBgR (M 2) k).length) [32])) H := hP
            have hP : mP dC dI dA a (mrow (mrow M 0 (upd (upd (M 0) 0 (nI 0)) 21 (nI ((wBgR (M 2) k ++ [32]).length)))) 7 (putL (M 7) 0 (wBgR (M 2) k ++ [32]))) H := m_says (L := wBgR (M 2) k) (Lc := [32]) hP
            refine lv_aload_n hx hb dX2_writeBags_32 rfl (lv_at hl 1 rfl) ?_
            refine lv_aload_n hx hb dX2_writeBags_33 rfl (lv_at hl 1 rfl) ?_
            refine va_get (D := (dC, dI)) (ci := 2) (v := .ref (a 2)) (C := RX2) (T := TX2) (N := 22) hx hb hts in_X2 hown hK hP 0 rfl rfl 3 (by decide) (hts _ q1954) (fun _ h9 => h9) rfl dX2_writeBags_34 ?_
            refine lv_bipush (v := nI 21) hx hb dX2_writeBags_37 (by decide) ?_
            refine lv_iload_n hx hb dX2_writeBags_39 rfl (lv_at hl 0 rfl) ?_
            refine lv_iadd hx hb dX2_writeBags_40 ?_
            refine u_top (nI_add _ _) ?_
            refine u_iald hx hb hK hP 2 0 rfl rfl (i := 21 + k) (by omega) (by decide) dX2_writeBags_41 ?_
            refine u_top (y := M 2 (21 + k)) rfl ?_
            refine u_top (y := nI (cN (M 2 (21 + k)))) hb1 ?_
            refine k_X2_saysNumber (M := mrow (mrow M 0 (upd (upd (M 0) 0 (nI 0)) 21 (nI ((wBgR (M 2) k ++ [32]).length)))) 7 (putL (M 7) 0 (wBgR (M 2) k ++ [32]))) (n := (wBgR (M 2) k ++ [32]).length) hJ rfl (by first | omega | (simp only [List.length_append, List.length_singleton, List.length_nil, rdL_len, sgC_len]; omega)) hb2 SF hK (rk.le (Nat.le_of_ble_eq_true rfl)) hl.1 (Nat.le_of_ble_eq_true rfl) hP hS dX2_writeBags_42 (fun H locs hP hS => ?_)
            have hP : mP dC dI dA a (mrow (mrow M 0 (upd (upd (M 0) 0 (nI 0)) 21 (nI (((wBgR (M 2) k ++ [32]).length) + (sgN (cN (M 2 (21 + k)))).length)))) 7 (putL (putL (M 7) 0 (wBgR (M 2) k ++ [32])) ((wBgR (M 2) k ++ [32]).length) (sgN (cN (M 2 (21 + k)))))) H := hP
            have hP : mP dC dI dA a (mrow (mrow M 0 (upd (upd (M 0) 0 (nI 0)) 21 (nI ((wBgR (M 2) k ++ [32] ++ sgN (cN (M 2 (21 + k)))).length)))) 7 (putL (M 7) 0 (wBgR (M 2) k ++ [32] ++ sgN (cN (M 2 (21 + k)))))) H := m_says (L := wBgR (M 2) k ++ [32]) (Lc := sgN (cN (M 2 (21 + k)))) hP
            refine lv_aload_n hx hb dX2_writeBags_45 rfl (lv_at hl 1 rfl) ?_
            refine lv_bipush (v := nI 43) hx hb dX2_writeBags_46 (by decide) ?_
            refine k_X2_says (M := mrow (mrow M 0 (upd (upd (M 0) 0 (nI 0)) 21 (nI ((wBgR (M 2) k ++ [32] ++ sgN (cN (M 2 (21 + k)))).length)))) 7 (putL (M 7) 0 (wBgR (M 2) k ++ [32] ++ sgN (cN (M 2 (21 + k)))))) (n := (wBgR (M 2) k ++ [32] ++ sgN (cN (M 2 (21 + k)))).length) hJ rfl (by first | omega | (simp only [List.length_append, List.length_singleton, List.length_nil, rdL_len, sgC_len]; omega)) SF hK (rk.le (Nat.le_of_ble_eq_true rfl)) hl.1 (Nat.le_of_ble_eq_true rfl) hP hS dX2_writeBags_48 (fun H locs hP hS => ?_)
            have hP : mP dC dI dA a (mrow (mrow M 0 (upd (upd (M 0) 0 (nI 0)) 21 (nI (((wBgR (M 2) k ++ [32] ++ sgN (cN (M 2 (21 + k)))).length) + 1)))) 7 (putL (putL (M 7) 0 (wBgR (M 2) k ++ [32] ++ sgN (cN (M 2 (21 + k))))) ((wBgR (M 2) k ++ [32] ++ sgN (cN (M 2 (21 + k)))).length) [43])) H := hP
            have hP : mP dC dI dA a (mrow (mrow M 0 (upd (upd (M 0) 0 (nI 0)) 21 (nI ((wBgR (M 2) k ++ [32] ++ sgN (cN (M 2 (21 + k))) ++ [43]).length)))) 7 (putL (M 7) 0 (wBgR (M 2) k ++ [32] ++ sgN (cN (M 2 (21 + k))) ++ [43]))) H := m_says (L := wBgR (M 2) k ++ [32] ++ sgN (cN (M 2 (21 + k)))) (Lc := [43]) hP
            refine lv_aload_n hx hb dX2_writeBags_51 rfl (lv_at hl 1 rfl) ?_
            refine lv_aload_n hx hb dX2_writeBags_52 rfl (lv_at hl 1 rfl) ?_
            refine va_get (D := (dC, dI)) (ci := 2) (v := .ref (a 2)) (C := RX2) (T := TX2) (N := 22) hx hb hts in_X2 hown hK hP 0 rfl rfl 3 (by decide) (hts _ q1954) (fun _ h9 => h9) rfl dX2_writeBags_53 ?_
            refine lv_bipush (v := nI 15) hx hb dX2_writeBags_56 (by decide) ?_
            refine lv_iload_n hx hb dX2_writeBags_58 rfl (lv_at hl 0 rfl) ?_
            refine lv_iadd hx hb dX2_writeBags_59 ?_
            refine u_top (nI_add _ _) ?_
            refine u_iald hx hb hK hP 2 0 rfl rfl (i := 15 + k) (by omega) (by decide) dX2_writeBags_60 ?_
            refine u_top (y := M 2 (15 + k)) rfl ?_
            refine u_top (y := nI (cN (M 2 (15 + k)))) hb3 ?_
            refine k_X2_saysNumber (M := mrow (mrow M 0 (upd (upd (M 0) 0 (nI 0)) 21 (nI ((wBgR (M 2) k ++ [32] ++ sgN (cN (M 2 (21 + k))) ++ [43]).length)))) 7 (putL (M 7) 0 (wBgR (M 2) k ++ [32] ++ sgN (cN (M 2 (21 + k))) ++ [43]))) (n := (wBgR (M 2) k ++ [32] ++ sgN (cN (M 2 (21 + k))) ++ [43]).length) hJ rfl (by first | omega | (simp only [List.length_append, List.length_singleton, List.length_nil, rdL_len, sgC_len]; omega)) hb4 SF hK (rk.le (Nat.le_of_ble_eq_true rfl)) hl.1 (Nat.le_of_ble_eq_true rfl) hP hS dX2_writeBags_61 (fun H locs hP hS => ?_)
            have hP : mP dC dI dA a (mrow (mrow M 0 (upd (upd (M 0) 0 (nI 0)) 21 (nI (((wBgR (M 2) k ++ [32] ++ sgN (cN (M 2 (21 + k))) ++ [43]).length) + (sgN (cN (M 2 (15 + k)))).length)))) 7 (putL (putL (M 7) 0 (wBgR (M 2) k ++ [32] ++ sgN (cN (M 2 (21 + k))) ++ [43])) ((wBgR (M 2) k ++ [32] ++ sgN (cN (M 2 (21 + k))) ++ [43]).length) (sgN (cN (M 2 (15 + k)))))) H := hP
            have hP : mP dC dI dA a (mrow (mrow M 0 (upd (upd (M 0) 0 (nI 0)) 21 (nI ((wBgR (M 2) k ++ [32] ++ sgN (cN (M 2 (21 + k))) ++ [43] ++ sgN (cN (M 2 (15 + k)))).length)))) 7 (putL (M 7) 0 (wBgR (M 2) k ++ [32] ++ sgN (cN (M 2 (21 + k))) ++ [43] ++ sgN (cN (M 2 (15 + k)))))) H := m_says (L := wBgR (M 2) k ++ [32] ++ sgN (cN (M 2 (21 + k))) ++ [43]) (Lc := sgN (cN (M 2 (15 + k)))) hP
            refine lv_aload_n hx hb dX2_writeBags_64 rfl (lv_at hl 1 rfl) ?_
            refine va_get (D := (dC, dI)) (ci := 2) (v := .ref (a 2)) (C := RX2) (T := TX2) (N := 22) hx hb hts in_X2 hown hK hP 0 rfl rfl 3 (by decide) (hts _ q1954) (fun _ h9 => h9) rfl dX2_writeBags_65 ?_
            refine lv_bipush (v := nI 9) hx hb dX2_writeBags_68 (by decide) ?_
            refine lv_iload_n hx hb dX2_writeBags_70 rfl (lv_at hl 0 rfl) ?_
            refine lv_iadd hx hb dX2_writeBags_71 ?_
            refine u_top (nI_add _ _) ?_
            refine u_iald hx hb hK hP 2 0 rfl rfl (i := 9 + k) (by omega) (by decide) dX2_writeBags_72 ?_
            refine u_top (y := M 2 (9 + k)) rfl ?_
            refine lv_if_ne (tgt := 82) hx hb dX2_writeBags_73 (by decide) (fun c_73 => ?_) (fun c_73 => ?_)
            · refine lv_iinc (v := nI (k + 1)) (lv' := [(1, .int (nI (k + 1))), (0, .ref (a 0))]) hx hb dX2_writeBags_82 hl (k := 0) rfl (nI_add _ 1) (by decide) rfl (fun ls hl => ?_)
              refine lv_goto (tgt := 16) hx hb dX2_writeBags_85 (by decide) ?_
              exact ih16 (k + 1) (by omega) (by omega) _ _ (by rw [wBgR]; simpa [show 0 < k by omega, c_73] using hP) hS ls (lv_sub hl [0, 1] rfl)
            · refine lv_aload_n hx hb dX2_writeBags_76 rfl (lv_at hl 1 rfl) ?_
              refine lv_bipush (v := nI 120) hx hb dX2_writeBags_77 (by decide) ?_
              refine k_X2_says (M := mrow (mrow M 0 (upd (upd (M 0) 0 (nI 0)) 21 (nI ((wBgR (M 2) k ++ [32] ++ sgN (cN (M 2 (21 + k))) ++ [43] ++ sgN (cN (M 2 (15 + k)))).length)))) 7 (putL (M 7) 0 (wBgR (M 2) k ++ [32] ++ sgN (cN (M 2 (21 + k))) ++ [43] ++ sgN (cN (M 2 (15 + k)))))) (n := (wBgR (M 2) k ++ [32] ++ sgN (cN (M 2 (21 + k))) ++ [43] ++ sgN (cN (M 2 (15 + k)))).length) hJ rfl (by first | omega | (simp only [List.length_append, List.length_singleton, List.length_nil, rdL_len, sgC_len]; omega)) SF hK (rk.le (Nat.le_of_ble_eq_true rfl)) hl.1 (Nat.le_of_ble_eq_true rfl) hP hS dX2_writeBags_79 (fun H locs hP hS => ?_)
              have hP : mP dC dI dA a (mrow (mrow M 0 (upd (upd (M 0) 0 (nI 0)) 21 (nI (((wBgR (M 2) k ++ [32] ++ sgN (cN (M 2 (21 + k))) ++ [43] ++ sgN (cN (M 2 (15 + k)))).length) + 1)))) 7 (putL (putL (M 7) 0 (wBgR (M 2) k ++ [32] ++ sgN (cN (M 2 (21 + k))) ++ [43] ++ sgN (cN (M 2 (15 + k))))) ((wBgR (M 2) k ++ [32] ++ sgN (cN (M 2 (21 + k))) ++ [43] ++ sgN (cN (M 2 (15 + k)))).length) [120])) H := hP
              have hP : mP dC dI dA a (mrow (mrow M 0 (upd (upd (M 0) 0 (nI 0)) 21 (nI ((wBgR (M 2) k ++ [32] ++ sgN (cN (M 2 (21 + k))) ++ [43] ++ sgN (cN (M 2 (15 + k))) ++ [120]).length)))) 7 (putL (M 7) 0 (wBgR (M 2) k ++ [32] ++ sgN (cN (M 2 (21 + k))) ++ [43] ++ sgN (cN (M 2 (15 + k))) ++ [120]))) H := m_says (L := wBgR (M 2) k ++ [32] ++ sgN (cN (M 2 (21 + k))) ++ [43] ++ sgN (cN (M 2 (15 + k)))) (Lc := [120]) hP
              refine lv_iinc (v := nI (k + 1)) (lv' := [(1, .int (nI (k + 1))), (0, .ref (a 0))]) hx hb dX2_writeBags_82 hl (k := 0) rfl (nI_add _ 1) (by decide) rfl (fun ls hl => ?_)
              refine lv_goto (tgt := 16) hx hb dX2_writeBags_85 (by decide) ?_
              exact ih16 (k + 1) (by omega) (by omega) _ _ (by rw [wBgR]; simpa [show 0 < k by omega, c_73] using hP) hS ls (lv_sub hl [0, 1] rfl)
    exact lp16 (6 + 1) 0 (by omega) (by omega) _ _ hP hS ls (lv_sub hl [0, 1] rfl)
  · refine u_top (y := nI 1) (by rw [decide_eq_false hq0]; rfl) ?_
    refine lv_if_eq (tgt := 9) hx hb dX2_writeBags_4 (by decide) (fun c_4 => absurd c_4 (by decide)) (fun c_4 => ?_)
    refine lv_iconst (v := nI 0) hx hb dX2_writeBags_7 (by decide) ?_
    exact hret _ _ _ _ _ (by rw [show thC [(lo (M 0 1), 1)] = thC [(lo (M 0 1), 1)] from thC_pre (L1 := [(lo (M 0 1), 1)]) (L2 := []) hq0, if_neg hq0]) (by rw [show thC [(lo (M 0 1), 1)] = thC [(lo (M 0 1), 1)] from thC_pre (L1 := [(lo (M 0 1), 1)]) (L2 := []) hq0, if_neg hq0]; exact hP) hS dX2_writeBags_8

set_option maxHeartbeats 4000000 in
theorem c_X2_textByte (l : Launch) (dC : Nat → ClassId) (dI : Nat → Nat → Nat) (dA : Nat → ClassId) (a : Nat → Nat) (M : Nat → Nat → Int32) (hJ : mJ a) (x : Int32) (n : Nat) (hn : M 0 21 = nI n) (hn4 : n ≤ 400) : Met l yX2_textByte (ws_ yX2_textByte cX2_textByte 2 (some .int)) (rmD 1 0 0) (uPc [.ref (a 0), .int x] (mP dC dI dA a M) dC dI dA) (uMi (mA a) (if thC [(inZ x.toInt 0 ((n : Int) - 1), 1)] = 0 then M 7 x.toNatClampNeg else nI 0) (mP dC dI dA a (mrow M 0 (upd (M 0) 0 (nI (thC [(inZ x.toInt 0 ((n : Int) - 1), 1)])))))) 0 0 (mA a) := by
  refine u_metMi (own := RX2) (by decide) rfl (Nat.le_of_ble_eq_true rfl) fun p e R s m args below meth c Q SF rk hP hK hret ls hl => ?_
  have hx := SF.1
  have hb := SF.2.1
  have hml := SF.2.2.1
  have hown := SF.2.2.2.1
  have hts := SF.2.2.2.2
  have hS : uS (mA a) s.heap s.heap [] := uS.rf
  have hl : lv_has ls 2 [(0, .ref (a 0)), (1, .int x)] := hl
  refine lv_aload_n hx hb dX2_textByte_0 rfl (lv_at hl 0 rfl) ?_
  refine lv_iconst (v := nI 0) hx hb dX2_textByte_1 (by decide) ?_
  refine m_pf_thrown SF hK hJ hP hS dX2_textByte_2 (fun H locs hP hS => ?_)
  have hP : mP dC dI dA a (mrow M 0 (upd (M 0) 0 (nI 0))) H := hP
  refine lv_aload_n hx hb dX2_textByte_5 rfl (lv_at hl 0 rfl) ?_
  refine lv_iload_n hx hb dX2_textByte_6 rfl (lv_at hl 1 rfl) ?_
  refine lv_i2l hx hb dX2_textByte_7 rfl ?_
  refine lv_lconst (v := 0) hx hb dX2_textByte_8 rfl ?_
  refine lv_aload_n hx hb dX2_textByte_9 rfl (lv_at hl 0 rfl) ?_
  refine va_get (D := (dC, dI)) (ci := 2) (v := .int (M 0 21)) (C := RX2) (T := TX2) (N := 22) hx hb hts in_X2 hown hK hP 0 rfl rfl 21 (by decide) (hts _ q1972) (fun _ h9 => h9) rfl dX2_textByte_10 ?_
  refine u_top (y := nI n) hn ?_
  refine lv_iconst (v := nI 1) hx hb dX2_textByte_13 (by decide) ?_
  refine lv_isub hx hb dX2_textByte_14 ?_
  refine lv_i2l hx hb dX2_textByte_15 rfl ?_
  refine k_X2_in (X := x.toInt) (L := 0) (U := (n : Int) - 1) (i2l_toInt x) (by decide) (by rw [i2l_toInt, pk_sub_toInt (by omega) (by decide)]; try rfl) SF hK (rk.le (Nat.le_of_ble_eq_true rfl)) hl.1 (Nat.le_of_ble_eq_true rfl) dX2_textByte_16 ?_
  have jn27 : ∀ v9 : Int32, v9 = nI ((!(inZ x.toInt 0 ((n : Int) - 1))).toNat) → ∀ (H : Heap) (locs : List Loc), mP dC dI dA a (mrow M 0 (upd (M 0) 0 (nI 0))) H → uS (mA a) s.heap H locs → ∀ ls : Array Slot, lv_has ls 2 [(0, .ref (a 0)), (1, .int x)] → W p l e R s m args below meth c H locs 0 0 Q (F0 m 27 ls [.int v9, .ref (a 0)]) := by
    intro v9 hv9 H locs hP hS ls hl
    subst hv9
    refine lv_iconst (v := nI 1) hx hb dX2_textByte_27 (by decide) ?_
    refine k_X2_refuse (M := mrow M 0 (upd (M 0) 0 (nI 0)))  hJ  SF hK (rk.le (Nat.le_of_ble_eq_true rfl)) hl.1 (Nat.le_of_ble_eq_true rfl) hP hS dX2_textByte_28 (fun H locs hP hS => ?_)
    refine u_top (y := nI ((!decide (rfT ((nI 0)) (!(inZ x.toInt 0 ((n : Int) - 1))) (nI 1) = 0)).toNat)) rfl ?_
    have hP : mP dC dI dA a (mrow M 0 (upd (M 0) 0 (rfT ((nI 0)) (!(inZ x.toInt 0 ((n : Int) - 1))) (nI 1)))) H := hP
    cases hq0 : (!(inZ x.toInt 0 ((n : Int) - 1)))
    · have hz0 : (inZ x.toInt 0 ((n : Int) - 1)) = true := by first | simpa using hq0 | simpa [lo] using hq0
      rw [hq0, rfT_f] at hP
      refine u_top (y := nI 0) (by rw [rfT_f]; rfl) ?_
      have hP : mP dC dI dA a (mrow M 0 (upd (M 0) 0 (nI 0))) H := hP
      obtain ⟨jj, hlt_jj, hsm_jj, rfl⟩ := inZ_n hz0
      have hcl_jj : (nI jj).toNatClampNeg = jj := nI_clamp (by omega)
      have hP : mP dC dI dA a (mrow M 0 (upd (M 0) 0 (nI 0))) H := by assumption
      refine lv_if_eq (tgt := 38) hx hb dX2_textByte_31 (by decide) (fun c_31 => ?_) (fun c_31 => absurd (by decide) c_31)
      refine lv_aload_n hx hb dX2_textByte_38 rfl (lv_at hl 0 rfl) ?_
      refine va_get (D := (dC, dI)) (ci := 2) (v := .ref (a 7)) (C := RX2) (T := TX2) (N := 22) hx hb hts in_X2 hown hK hP 0 rfl rfl 20 (by decide) (hts _ q1971) (fun _ h9 => h9) rfl dX2_textByte_39 ?_
      refine lv_iload_n hx hb dX2_textByte_42 rfl (lv_at hl 1 rfl) ?_
      refine u_iald hx hb hK hP 7 0 rfl rfl (i := jj) (by omega) (by decide) dX2_textByte_43 ?_
      refine u_top (y := M 7 jj) rfl ?_
      exact hret _ _ _ _ _ (by rw [hz0]; show _ = _; rw [hcl_jj]; rfl) (by rw [hz0]; exact hP) hS dX2_textByte_44
    · have hz0 : (inZ x.toInt 0 ((n : Int) - 1)) = false := by first | simpa using hq0 | simpa [lo] using hq0
      rw [hq0, rfT_t] at hP
      refine u_top (y := nI 1) (by rw [rfT_t]; rfl) ?_
      have hP : mP dC dI dA a (mrow M 0 (upd (M 0) 0 (nI 1))) H := hP
      refine lv_if_eq (tgt := 38) hx hb dX2_textByte_31 (by decide) (fun c_31 => absurd c_31 (by decide)) (fun c_31 => ?_)
      refine lv_iconst (v := nI 0) hx hb dX2_textByte_34 (by decide) ?_
      refine lv_goto (tgt := 44) hx hb dX2_textByte_35 (by decide) ?_
      exact hret _ _ _ _ _ (by rw [hz0]; rfl) (by rw [hz0]; exact hP) hS dX2_textByte_44
  refine lv_if_ne (tgt := 26) hx hb dX2_textByte_19 (by decide) (fun c_19 => ?_) (fun c_19 => ?_)
  · have c_19 : ¬ ((inZ x.toInt 0 ((n : Int) - 1)) = false) := fun q9 => c_19 (u_zb.mpr q9)
    refine lv_iconst (v := nI 0) hx hb dX2_textByte_26 (by decide) ?_
    exact jn27 _ (u_ff (by simp [c_19])) _ _ hP hS ls (lv_sub hl [0, 1] rfl)
  · have c_19 : (inZ x.toInt 0 ((n : Int) - 1)) = false := u_zb.mp c_19
    refine lv_iconst (v := nI 1) hx hb dX2_textByte_22 (by decide) ?_
    refine lv_goto (tgt := 27) hx hb dX2_textByte_23 (by decide) ?_
    exact jn27 _ (u_tt (by simpa using c_19)) _ _ hP hS ls (lv_sub hl [0, 1] rfl)

set_option maxHeartbeats 4000000 in
theorem c_X2_gap (l : Launch) (dC : Nat → ClassId) (dI : Nat → Nat → Nat) (dA : Nat → ClassId) (a : Nat → Nat) (M : Nat → Nat → Int32) (hJ : mJ a)  (hS1 : SWf (M 2)) (hT : TWf (M 1)) : Met l yX2_gap (ws_ yX2_gap cX2_gap 6 (some .int)) (rmD 11 0 0) (uPc [.ref (a 0)] (mP dC dI dA a M) dC dI dA) (uMi (mA a) (if thC [(lo (M 0 1), 1)] = 0 then gapR (M 2) (M 1) 6 else nI 0) (mP dC dI dA a (mrow M 0 (upd (M 0) 0 (nI (thC [(lo (M 0 1), 1)])))))) 0 0 (mA a) := by
  refine u_metMi (own := RX2) (by decide) rfl (Nat.le_of_ble_eq_true rfl) fun p e R s m args below meth c Q SF rk hP hK hret ls hl => ?_
  have hx := SF.1
  have hb := SF.2.1
  have hml := SF.2.2.1
  have hown := SF.2.2.2.1
  have hts := SF.2.2.2.2
  have hS : uS (mA a) s.heap s.heap [] := uS.rf
  have hl : lv_has ls 6 [(0, .ref (a 0))] := hl
  have hL := hS1.2.1
  have hn9 := hT.2.1
  refine lv_aload_n hx hb dX2_gap_0 rfl (lv_at hl 0 rfl) ?_
  refine k_X2_notLoaded  hJ  SF hK (rk.le (Nat.le_of_ble_eq_true rfl)) hl.1 (Nat.le_of_ble_eq_true rfl) hP hS dX2_gap_1 (fun H locs hP hS => ?_)
  have hP : mP dC dI dA a (mrow M 0 (upd (M 0) 0 (nI (thC [(lo (M 0 1), 1)])))) H := hP
  by_cases hq0 : thC [(lo (M 0 1), 1)] = 0
  · have hz0 := thC_1 hq0
    refine u_top (y := nI 0) (by rw [hq0]; rfl) ?_
    rw [hq0] at hP
    have hP : mP dC dI dA a (mrow M 0 (upd (M 0) 0 (nI 0))) H := hP
    refine lv_if_eq (tgt := 9) hx hb dX2_gap_4 (by decide) (fun c_4 => ?_) (fun c_4 => absurd (by decide) c_4)
    refine lv_aload_n hx hb dX2_gap_9 rfl (lv_at hl 0 rfl) ?_
    refine k_X2_letters (M := mrow M 0 (upd (M 0) 0 (nI 0)))   SF hK (rk.le (Nat.le_of_ble_eq_true rfl)) hl.1 (Nat.le_of_ble_eq_true rfl) hP dX2_gap_10 ?_
    refine u_top (y := M 2 2) rfl ?_
    refine u_top (y := nI (ln (M 2))) hS1.1 ?_
    refine lv_aload_n hx hb dX2_gap_13 rfl (lv_at hl 0 rfl) ?_
    refine lv_iconst (v := nI 0) hx hb dX2_gap_14 (by decide) ?_
    refine k_X2_statesOf (M := mrow M 0 (upd (M 0) 0 (nI 0)))  hS1 SF hK (rk.le (Nat.le_of_ble_eq_true rfl)) hl.1 (Nat.le_of_ble_eq_true rfl) hP dX2_gap_15 ?_
    refine u_top (y := nI (sts (M 2) (nI 0))) rfl ?_
    refine lv_isub hx hb dX2_gap_18 ?_
    refine lv_aload_n hx hb dX2_gap_19 rfl (lv_at hl 0 rfl) ?_
    refine lv_iconst (v := nI 1) hx hb dX2_gap_20 (by decide) ?_
    refine k_X2_statesOf (M := mrow M 0 (upd (M 0) 0 (nI 0)))  hS1 SF hK (rk.le (Nat.le_of_ble_eq_true rfl)) hl.1 (Nat.le_of_ble_eq_true rfl) hP dX2_gap_21 ?_
    refine u_top (y := nI (sts (M 2) (nI 1))) rfl ?_
    refine lv_isub hx hb dX2_gap_24 ?_
    refine lv_aload_n hx hb dX2_gap_25 rfl (lv_at hl 0 rfl) ?_
    refine lv_iconst (v := nI 2) hx hb dX2_gap_26 (by decide) ?_
    refine k_X2_statesOf (M := mrow M 0 (upd (M 0) 0 (nI 0)))  hS1 SF hK (rk.le (Nat.le_of_ble_eq_true rfl)) hl.1 (Nat.le_of_ble_eq_true rfl) hP dX2_gap_27 ?_
    refine u_top (y := nI (sts (M 2) (nI 2))) rfl ?_
    refine lv_isub hx hb dX2_gap_30 ?_
    refine va_mabs hx hb (hml.trans hl.1.symm) hown (hts _ q2415) (hts _ q1627) (hts _ q131) (hts _ q1628) (Nat.le_trans (Nat.le_of_ble_eq_true rfl) rk.1) (Nat.le_trans (Nat.le_of_ble_eq_true rfl) rk.2) (Nat.zero_le _) (Nat.zero_le _) dX2_gap_31 ?_
    refine u_top (y := absI ((((nI (ln (M 2))) - (nI (sts (M 2) (nI 0)))) - (nI (sts (M 2) (nI 1)))) - (nI (sts (M 2) (nI 2))))) rfl ?_
    refine lv_istore_n (lv' := [(1, .int (absI ((((nI (ln (M 2))) - (nI (sts (M 2) (nI 0)))) - (nI (sts (M 2) (nI 1)))) - (nI (sts (M 2) (nI 2)))))), (0, .ref (a 0))]) hx hb dX2_gap_34 rfl hl (by decide) rfl (fun ls hl => ?_)
    refine lv_iconst (v := nI 0) hx hb dX2_gap_35 (by decide) ?_
    refine lv_istore_n (lv' := [(2, .int (nI 0)), (1, .int (absI ((((nI (ln (M 2))) - (nI (sts (M 2) (nI 0)))) - (nI (sts (M 2) (nI 1)))) - (nI (sts (M 2) (nI 2)))))), (0, .ref (a 0))]) hx hb dX2_gap_36 rfl hl (by decide) rfl (fun ls hl => ?_)
    have lp37 : ∀ (k0 : Nat) (k : Nat), k ≤ ln (M 2) → ln (M 2) < k + k0 → ∀ (H : Heap) (locs : List Loc), mP dC dI dA a (mrow M 0 (upd (M 0) 0 (nI 0))) H → uS (mA a) s.heap H locs → ∀ ls : Array Slot, lv_has ls 6 [(2, .int (nI k)), (1, .int (gapR (M 2) (M 1) 0)), (0, .ref (a 0))] → W p l e R s m args below meth c H locs 0 0 Q (F0 m 37 ls []) := by
      intro k0
      induction k0 with
      | zero =>
        intro k hk1 hk2; omega
      | succ k0 ih =>
        intro k hk1 hk2 H locs hP hS ls hl
        have ih37 := ih
        refine lv_iload_n hx hb dX2_gap_37 rfl (lv_at hl 0 rfl) ?_
        refine lv_aload_n hx hb dX2_gap_38 rfl (lv_at hl 2 rfl) ?_
        refine k_X2_letters (M := mrow M 0 (upd (M 0) 0 (nI 0)))   SF hK (rk.le (Nat.le_of_ble_eq_true rfl)) hl.1 (Nat.le_of_ble_eq_true rfl) hP dX2_gap_39 ?_
        refine u_top (y := M 2 2) rfl ?_
        refine u_top (y := nI (ln (M 2))) hS1.1 ?_
        refine lv_icmp_ge (tgt := 132) hx hb dX2_gap_42 (by decide) (fun c_42 => ?_) (fun c_42 => ?_)
        · have c_42 : ln (M 2) ≤ k := (nI_leI (a := ln (M 2)) (b := k) (by omega) (by omega)).mp c_42
          refine lv_iconst (v := nI 0) hx hb dX2_gap_132 (by decide) ?_
          refine lv_istore_n (lv' := [(2, .int (nI 0)), (1, .int (gapR (M 2) (M 1) 0)), (0, .ref (a 0))]) hx hb dX2_gap_133 rfl hl (by decide) rfl (fun ls hl => ?_)
          have lp134 : ∀ (k0 : Nat) (k : Nat), k ≤ 6 → 6 < k + k0 → ∀ (H : Heap) (locs : List Loc), mP dC dI dA a (mrow M 0 (upd (M 0) 0 (nI 0))) H → uS (mA a) s.heap H locs → ∀ ls : Array Slot, lv_has ls 6 [(2, .int (nI k)), (1, .int (gapR (M 2) (M 1) k)), (0, .ref (a 0))] → W p l e R s m args below meth c H locs 0 0 Q (F0 m 134 ls []) := by
            intro k0
            induction k0 with
            | zero =>
              intro k hk1 hk2; omega
            | succ k0 ih =>
              intro k hk1 hk2 H locs hP hS ls hl
              have ih134 := ih
              refine lv_iload_n hx hb dX2_gap_134 rfl (lv_at hl 0 rfl) ?_
              refine lv_bipush (v := nI 6) hx hb dX2_gap_135 (by decide) ?_
              refine lv_icmp_ge (tgt := 188) hx hb dX2_gap_137 (by decide) (fun c_137 => ?_) (fun c_137 => ?_)
              · have c_137 : 6 ≤ k := (nI_leI (a := 6) (b := k) (by omega) (by omega)).mp c_137
                refine lv_iload_n hx hb dX2_gap_188 rfl (lv_at hl 1 rfl) ?_
                exact hret _ _ _ _ _ (by rw [hz0]; show _ = _; rw [show k = 6 by omega]; rfl) (by rw [hz0]; exact hP) hS dX2_gap_189
              · have c_137 : ¬ (6 ≤ k) := fun q9 => c_137 ((nI_leI (a := 6) (b := k) (by omega) (by omega)).mpr q9)
                refine lv_iload_n hx hb dX2_gap_140 rfl (lv_at hl 1 rfl) ?_
                refine lv_aload_n hx hb dX2_gap_141 rfl (lv_at hl 2 rfl) ?_
                refine va_get (D := (dC, dI)) (ci := 2) (v := .ref (a 2)) (C := RX2) (T := TX2) (N := 22) hx hb hts in_X2 hown hK hP 0 rfl rfl 3 (by decide) (hts _ q1954) (fun _ h9 => h9) rfl dX2_gap_142 ?_
                refine lv_bipush (v := nI 15) hx hb dX2_gap_145 (by decide) ?_
                refine lv_iload_n hx hb dX2_gap_147 rfl (lv_at hl 0 rfl) ?_
                refine lv_iadd hx hb dX2_gap_148 ?_
                refine u_top (nI_add _ _) ?_
                refine u_iald hx hb hK hP 2 0 rfl rfl (i := 15 + k) (by omega) (by decide) dX2_gap_149 ?_
                refine u_top (y := M 2 (15 + k)) rfl ?_
                refine lv_aload_n hx hb dX2_gap_150 rfl (lv_at hl 2 rfl) ?_
                refine va_get (D := (dC, dI)) (ci := 2) (v := .ref (a 1)) (C := RX2) (T := TX2) (N := 22) hx hb hts in_X2 hown hK hP 0 rfl rfl 2 (by decide) (hts _ q1953) (fun _ h9 => h9) rfl dX2_gap_151 ?_
                refine lv_iconst (v := nI 0) hx hb dX2_gap_154 (by decide) ?_
                refine u_iald hx hb hK hP 1 0 rfl rfl (i := 0) (by omega) (by decide) dX2_gap_155 ?_
                refine u_top (y := M 1 0) rfl ?_
                refine lv_aload_n hx hb dX2_gap_156 rfl (lv_at hl 2 rfl) ?_
                refine va_get (D := (dC, dI)) (ci := 2) (v := .ref (a 2)) (C := RX2) (T := TX2) (N := 22) hx hb hts in_X2 hown hK hP 0 rfl rfl 3 (by decide) (hts _ q1954) (fun _ h9 => h9) rfl dX2_gap_157 ?_
                refine lv_bipush (v := nI 21) hx hb dX2_gap_160 (by decide) ?_
                refine lv_iload_n hx hb dX2_gap_162 rfl (lv_at hl 0 rfl) ?_
                refine lv_iadd hx hb dX2_gap_163 ?_
                refine u_top (nI_add _ _) ?_
                refine u_iald hx hb hK hP 2 0 rfl rfl (i := 21 + k) (by omega) (by decide) dX2_gap_164 ?_
                refine u_top (y := M 2 (21 + k)) rfl ?_
                refine lv_imul hx hb dX2_gap_165 ?_
                refine lv_iadd hx hb dX2_gap_166 ?_
                refine lv_aload_n hx hb dX2_gap_167 rfl (lv_at hl 2 rfl) ?_
                refine va_get (D := (dC, dI)) (ci := 2) (v := .ref (a 2)) (C := RX2) (T := TX2) (N := 22) hx hb hts in_X2 hown hK hP 0 rfl rfl 3 (by decide) (hts _ q1954) (fun _ h9 => h9) rfl dX2_gap_168 ?_
                refine lv_bipush (v := nI 27) hx hb dX2_gap_171 (by decide) ?_
                refine lv_iload_n hx hb dX2_gap_173 rfl (lv_at hl 0 rfl) ?_
                refine lv_iadd hx hb dX2_gap_174 ?_
                refine u_top (nI_add _ _) ?_
                refine u_iald hx hb hK hP 2 0 rfl rfl (i := 27 + k) (by omega) (by decide) dX2_gap_175 ?_
                refine u_top (y := M 2 (27 + k)) rfl ?_
                refine lv_isub hx hb dX2_gap_176 ?_
                refine va_mabs hx hb (hml.trans hl.1.symm) hown (hts _ q2415) (hts _ q1627) (hts _ q131) (hts _ q1628) (Nat.le_trans (Nat.le_of_ble_eq_true rfl) rk.1) (Nat.le_trans (Nat.le_of_ble_eq_true rfl) rk.2) (Nat.zero_le _) (Nat.zero_le _) dX2_gap_177 ?_
                refine u_top (y := absI (((M 2 (15 + k)) + ((M 1 0) * (M 2 (21 + k)))) - (M 2 (27 + k)))) rfl ?_
                refine lv_iadd hx hb dX2_gap_180 ?_
                refine u_top (y := gapR (M 2) (M 1) (k + 1)) rfl ?_
                refine lv_istore_n (lv' := [(1, .int (gapR (M 2) (M 1) (k + 1))), (2, .int (nI k)), (0, .ref (a 0))]) hx hb dX2_gap_181 rfl hl (by decide) rfl (fun ls hl => ?_)
                refine lv_iinc (v := nI (k + 1)) (lv' := [(2, .int (nI (k + 1))), (1, .int (gapR (M 2) (M 1) (k + 1))), (0, .ref (a 0))]) hx hb dX2_gap_182 hl (k := 1) rfl (nI_add _ 1) (by decide) rfl (fun ls hl => ?_)
                refine lv_goto (tgt := 134) hx hb dX2_gap_185 (by decide) ?_
                exact ih134 (k + 1) (by omega) (by omega) _ _ hP hS ls (lv_sub hl [0, 1, 2] rfl)
          exact lp134 (6 + 1) 0 (by omega) (by omega) _ _ hP hS ls (lv_sub hl [0, 1, 2] rfl)
        · have c_42 : ¬ (ln (M 2) ≤ k) := fun q9 => c_42 ((nI_leI (a := ln (M 2)) (b := k) (by omega) (by omega)).mpr q9)
          refine lv_aload_n hx hb dX2_gap_45 rfl (lv_at hl 2 rfl) ?_
          refine lv_iload_n hx hb dX2_gap_46 rfl (lv_at hl 0 rfl) ?_
          refine k_X2_decidedFor (M := mrow M 0 (upd (M 0) 0 (nI 0)))  (show k < ln (M 2) from (by omega)) hS1 hT SF hK (rk.le (Nat.le_of_ble_eq_true rfl)) hl.1 (Nat.le_of_ble_eq_true rfl) hP dX2_gap_47 ?_
          refine u_top (y := oI (dcd (M 2) (M 1) k)) rfl ?_
          rcases hE : dcd (M 2) (M 1) k with _ | t9
          · refine u_top (y := (-1)) rfl ?_
            refine lv_istore_n (lv' := [(3, .int (-1)), (2, .int (nI k)), (1, .int (gapR (M 2) (M 1) 0)), (0, .ref (a 0))]) hx hb dX2_gap_50 rfl hl (by decide) rfl (fun ls hl => ?_)
            refine lv_iload_n hx hb dX2_gap_51 rfl (lv_at hl 0 rfl) ?_
            refine lv_iconst (v := (-1)) hx hb dX2_gap_52 (by decide) ?_
            refine lv_icmp_ne (tgt := 60) hx hb dX2_gap_53 (by decide) (fun c_53 => absurd (by decide) c_53) (fun c_53 => ?_)
            refine lv_iconst (v := nI 0) hx hb dX2_gap_56 (by decide) ?_
            refine lv_goto (tgt := 65) hx hb dX2_gap_57 (by decide) ?_
            refine lv_istore (lv' := [(4, .int (nI 0)), (3, .int (-1)), (2, .int (nI k)), (1, .int (gapR (M 2) (M 1) 0)), (0, .ref (a 0))]) hx hb dX2_gap_65 hl (by decide) rfl (fun ls hl => ?_)
            refine lv_iconst (v := nI 3) hx hb dX2_gap_67 (by decide) ?_
            refine lv_iload hx hb dX2_gap_68 (lv_at hl 0 rfl) ?_
            refine lv_iconst (v := nI 0) hx hb dX2_gap_70 (by decide) ?_
            refine k_X2_digitOf  (by decide) (by decide) SF hK (rk.le (Nat.le_of_ble_eq_true rfl)) hl.1 (Nat.le_of_ble_eq_true rfl) dX2_gap_71 ?_
            refine lv_imul hx hb dX2_gap_74 ?_
            refine u_top (pk_mul _ _) ?_
            refine lv_iload hx hb dX2_gap_75 (lv_at hl 0 rfl) ?_
            refine lv_iconst (v := nI 1) hx hb dX2_gap_77 (by decide) ?_
            refine k_X2_digitOf  (by decide) (by decide) SF hK (rk.le (Nat.le_of_ble_eq_true rfl)) hl.1 (Nat.le_of_ble_eq_true rfl) dX2_gap_78 ?_
            refine lv_iadd hx hb dX2_gap_81 ?_
            refine u_top (nI_add _ _) ?_
            refine lv_iconst (v := nI 3) hx hb dX2_gap_82 (by decide) ?_
            refine lv_iload hx hb dX2_gap_83 (lv_at hl 0 rfl) ?_
            refine lv_iconst (v := nI 2) hx hb dX2_gap_85 (by decide) ?_
            refine k_X2_digitOf  (by decide) (by decide) SF hK (rk.le (Nat.le_of_ble_eq_true rfl)) hl.1 (Nat.le_of_ble_eq_true rfl) dX2_gap_86 ?_
            refine lv_imul hx hb dX2_gap_89 ?_
            refine u_top (pk_mul _ _) ?_
            refine lv_iadd hx hb dX2_gap_90 ?_
            refine u_top (nI_add _ _) ?_
            refine lv_iload hx hb dX2_gap_91 (lv_at hl 0 rfl) ?_
            refine lv_iconst (v := nI 3) hx hb dX2_gap_93 (by decide) ?_
            refine k_X2_digitOf  (by decide) (by decide) SF hK (rk.le (Nat.le_of_ble_eq_true rfl)) hl.1 (Nat.le_of_ble_eq_true rfl) dX2_gap_94 ?_
            refine lv_iadd hx hb dX2_gap_97 ?_
            refine u_top (nI_add _ _) ?_
            refine lv_iload hx hb dX2_gap_98 (lv_at hl 0 rfl) ?_
            refine lv_iconst (v := nI 4) hx hb dX2_gap_100 (by decide) ?_
            refine k_X2_digitOf  (by decide) (by decide) SF hK (rk.le (Nat.le_of_ble_eq_true rfl)) hl.1 (Nat.le_of_ble_eq_true rfl) dX2_gap_101 ?_
            refine lv_iadd hx hb dX2_gap_104 ?_
            refine u_top (nI_add _ _) ?_
            have hd0 := dg_lt 0 0
            have hd1 := dg_lt 0 1
            have hd2 := dg_lt 0 2
            have hd3 := dg_lt 0 3
            have hd4 := dg_lt 0 4
            have hcd : (3 * dg 0 0 + dg 0 1 + 3 * dg 0 2 + dg 0 3 + dg 0 4) % 10 = 0 := by decide
            refine lv_istore (lv' := [(5, .int (nI (3 * (dg 0 0) + (dg 0 1) + (3 * (dg 0 2)) + (dg 0 3) + (dg 0 4)))), (4, .int (nI 0)), (3, .int (-1)), (2, .int (nI k)), (1, .int (gapR (M 2) (M 1) 0)), (0, .ref (a 0))]) hx hb dX2_gap_105 hl (by decide) rfl (fun ls hl => ?_)
            refine lv_iload_n hx hb dX2_gap_107 rfl (lv_at hl 4 rfl) ?_
            refine lv_iload hx hb dX2_gap_108 (lv_at hl 0 rfl) ?_
            refine lv_bipush (v := nI 10) hx hb dX2_gap_110 (by decide) ?_
            refine lv_irem hx hb dX2_gap_112 (by decide) ?_
            refine u_top (pk_rem (by omega) (by omega) (by omega)) ?_
            have jn121 : ∀ v9 : Int32, v9 = nI ((!decide ((3 * (dg 0 0) + (dg 0 1) + (3 * (dg 0 2)) + (dg 0 3) + (dg 0 4)) % 10 = 0)).toNat) → ∀ (H : Heap) (locs : List Loc), mP dC dI dA a (mrow M 0 (upd (M 0) 0 (nI 0))) H → uS (mA a) s.heap H locs → ∀ ls : Array Slot, lv_has ls 6 [(5, .int (nI (3 * (dg 0 0) + (dg 0 1) + (3 * (dg 0 2)) + (dg 0 3) + (dg 0 4)))), (4, .int (nI 0)), (3, .int (-1)), (2, .int (nI k)), (1, .int (gapR (M 2) (M 1) 0)), (0, .ref (a 0))] → W p l e R s m args below meth c H locs 0 0 Q (F0 m 121 ls [.int v9, .int (gapR (M 2) (M 1) 0)]) := by
              intro v9 hv9 H locs hP hS ls hl
              subst hv9
              refine k_X2_flag   SF hK (rk.le (Nat.le_of_ble_eq_true rfl)) hl.1 (Nat.le_of_ble_eq_true rfl) dX2_gap_121 ?_
              refine lv_iadd hx hb dX2_gap_124 ?_
              refine u_top (y := gapR (M 2) (M 1) 0) (i_add_n0 hcd) ?_
              refine lv_istore_n (lv' := [(1, .int (gapR (M 2) (M 1) 0)), (5, .int (nI (3 * (dg 0 0) + (dg 0 1) + (3 * (dg 0 2)) + (dg 0 3) + (dg 0 4)))), (4, .int (nI 0)), (3, .int (-1)), (2, .int (nI k)), (0, .ref (a 0))]) hx hb dX2_gap_125 rfl hl (by decide) rfl (fun ls hl => ?_)
              refine lv_iinc (v := nI (k + 1)) (lv' := [(2, .int (nI (k + 1))), (1, .int (gapR (M 2) (M 1) 0)), (5, .int (nI (3 * (dg 0 0) + (dg 0 1) + (3 * (dg 0 2)) + (dg 0 3) + (dg 0 4)))), (4, .int (nI 0)), (3, .int (-1)), (0, .ref (a 0))]) hx hb dX2_gap_126 hl (k := 4) rfl (nI_add _ 1) (by decide) rfl (fun ls hl => ?_)
              refine lv_goto (tgt := 37) hx hb dX2_gap_129 (by decide) ?_
              exact ih37 (k + 1) (by omega) (by omega) _ _ hP hS ls (lv_sub hl [0, 1, 5] rfl)
            refine lv_if_eq (tgt := 120) hx hb dX2_gap_113 (by decide) (fun c_113 => ?_) (fun c_113 => ?_)
            · have c_113 : (3 * (dg 0 0) + (dg 0 1) + (3 * (dg 0 2)) + (dg 0 3) + (dg 0 4)) % 10 = 0 := (nI_eq (a := (3 * (dg 0 0) + (dg 0 1) + (3 * (dg 0 2)) + (dg 0 3) + (dg 0 4)) % 10) (b := 0) (by omega) (by omega)).mp c_113
              refine lv_iconst (v := nI 0) hx hb dX2_gap_120 (by decide) ?_
              exact jn121 _ (u_n0 c_113) _ _ hP hS ls (lv_sub hl [0, 1, 2, 3, 4, 5] rfl)
            · have c_113 : ¬ ((3 * (dg 0 0) + (dg 0 1) + (3 * (dg 0 2)) + (dg 0 3) + (dg 0 4)) % 10 = 0) := fun q9 => c_113 ((nI_eq (a := (3 * (dg 0 0) + (dg 0 1) + (3 * (dg 0 2)) + (dg 0 3) + (dg 0 4)) % 10) (b := 0) (by omega) (by omega)).mpr q9)
              refine lv_iconst (v := nI 1) hx hb dX2_gap_116 (by decide) ?_
              refine lv_goto (tgt := 121) hx hb dX2_gap_117 (by decide) ?_
              exact jn121 _ (u_n1 c_113) _ _ hP hS ls (lv_sub hl [0, 1, 2, 3, 4, 5] rfl)
          · have ht9 := dcd_lt hE
            refine u_top (y := nI t9) rfl ?_
            refine lv_istore_n (lv' := [(3, .int (nI t9)), (2, .int (nI k)), (1, .int (gapR (M 2) (M 1) 0)), (0, .ref (a 0))]) hx hb dX2_gap_50 rfl hl (by decide) rfl (fun ls hl => ?_)
            refine lv_iload_n hx hb dX2_gap_51 rfl (lv_at hl 0 rfl) ?_
            refine lv_iconst (v := (-1)) hx hb dX2_gap_52 (by decide) ?_
            refine lv_icmp_ne (tgt := 60) hx hb dX2_gap_53 (by decide) (fun c_53 => ?_) (fun c_53 => absurd c_53 (nI_m1 (by omega)))
            refine lv_aload_n hx hb dX2_gap_60 rfl (lv_at hl 3 rfl) ?_
            refine lv_iload_n hx hb dX2_gap_61 rfl (lv_at hl 0 rfl) ?_
            refine k_X2_codeAt (M := mrow M 0 (upd (M 0) 0 (nI 0)))  ht9 hT SF hK (rk.le (Nat.le_of_ble_eq_true rfl)) hl.1 (Nat.le_of_ble_eq_true rfl) hP dX2_gap_62 ?_
            refine u_top (y := nI (cd (num (M 1) t9))) rfl ?_
            refine lv_istore (lv' := [(4, .int (nI (cd (num (M 1) t9)))), (3, .int (nI t9)), (2, .int (nI k)), (1, .int (gapR (M 2) (M 1) 0)), (0, .ref (a 0))]) hx hb dX2_gap_65 hl (by decide) rfl (fun ls hl => ?_)
            refine lv_iconst (v := nI 3) hx hb dX2_gap_67 (by decide) ?_
            refine lv_iload hx hb dX2_gap_68 (lv_at hl 0 rfl) ?_
            refine lv_iconst (v := nI 0) hx hb dX2_gap_70 (by decide) ?_
            refine k_X2_digitOf  (cd_lt (hT.2.2 t9 ht9).2.1) (by omega) SF hK (rk.le (Nat.le_of_ble_eq_true rfl)) hl.1 (Nat.le_of_ble_eq_true rfl) dX2_gap_71 ?_
            refine lv_imul hx hb dX2_gap_74 ?_
            refine u_top (pk_mul _ _) ?_
            refine lv_iload hx hb dX2_gap_75 (lv_at hl 0 rfl) ?_
            refine lv_iconst (v := nI 1) hx hb dX2_gap_77 (by decide) ?_
            refine k_X2_digitOf  (cd_lt (hT.2.2 t9 ht9).2.1) (by omega) SF hK (rk.le (Nat.le_of_ble_eq_true rfl)) hl.1 (Nat.le_of_ble_eq_true rfl) dX2_gap_78 ?_
            refine lv_iadd hx hb dX2_gap_81 ?_
            refine u_top (nI_add _ _) ?_
            refine lv_iconst (v := nI 3) hx hb dX2_gap_82 (by decide) ?_
            refine lv_iload hx hb dX2_gap_83 (lv_at hl 0 rfl) ?_
            refine lv_iconst (v := nI 2) hx hb dX2_gap_85 (by decide) ?_
            refine k_X2_digitOf  (cd_lt (hT.2.2 t9 ht9).2.1) (by omega) SF hK (rk.le (Nat.le_of_ble_eq_true rfl)) hl.1 (Nat.le_of_ble_eq_true rfl) dX2_gap_86 ?_
            refine lv_imul hx hb dX2_gap_89 ?_
            refine u_top (pk_mul _ _) ?_
            refine lv_iadd hx hb dX2_gap_90 ?_
            refine u_top (nI_add _ _) ?_
            refine lv_iload hx hb dX2_gap_91 (lv_at hl 0 rfl) ?_
            refine lv_iconst (v := nI 3) hx hb dX2_gap_93 (by decide) ?_
            refine k_X2_digitOf  (cd_lt (hT.2.2 t9 ht9).2.1) (by omega) SF hK (rk.le (Nat.le_of_ble_eq_true rfl)) hl.1 (Nat.le_of_ble_eq_true rfl) dX2_gap_94 ?_
            refine lv_iadd hx hb dX2_gap_97 ?_
            refine u_top (nI_add _ _) ?_
            refine lv_iload hx hb dX2_gap_98 (lv_at hl 0 rfl) ?_
            refine lv_iconst (v := nI 4) hx hb dX2_gap_100 (by decide) ?_
            refine k_X2_digitOf  (cd_lt (hT.2.2 t9 ht9).2.1) (by omega) SF hK (rk.le (Nat.le_of_ble_eq_true rfl)) hl.1 (Nat.le_of_ble_eq_true rfl) dX2_gap_101 ?_
            refine lv_iadd hx hb dX2_gap_104 ?_
            refine u_top (nI_add _ _) ?_
            have hd0 := dg_lt (cd (num (M 1) t9)) 0
            have hd1 := dg_lt (cd (num (M 1) t9)) 1
            have hd2 := dg_lt (cd (num (M 1) t9)) 2
            have hd3 := dg_lt (cd (num (M 1) t9)) 3
            have hd4 := dg_lt (cd (num (M 1) t9)) 4
            have hcd := cd_ok _ (hT.2.2 t9 ht9).2.1
            refine lv_istore (lv' := [(5, .int (nI (3 * (dg (cd (num (M 1) t9)) 0) + (dg (cd (num (M 1) t9)) 1) + (3 * (dg (cd (num (M 1) t9)) 2)) + (dg (cd (num (M 1) t9)) 3) + (dg (cd (num (M 1) t9)) 4)))), (4, .int (nI (cd (num (M 1) t9)))), (3, .int (nI t9)), (2, .int (nI k)), (1, .int (gapR (M 2) (M 1) 0)), (0, .ref (a 0))]) hx hb dX2_gap_105 hl (by decide) rfl (fun ls hl => ?_)
            refine lv_iload_n hx hb dX2_gap_107 rfl (lv_at hl 4 rfl) ?_
            refine lv_iload hx hb dX2_gap_108 (lv_at hl 0 rfl) ?_
            refine lv_bipush (v := nI 10) hx hb dX2_gap_110 (by decide) ?_
            refine lv_irem hx hb dX2_gap_112 (by decide) ?_
            refine u_top (pk_rem (by omega) (by omega) (by omega)) ?_
            have jn121_2 : ∀ v9 : Int32, v9 = nI ((!decide ((3 * (dg (cd (num (M 1) t9)) 0) + (dg (cd (num (M 1) t9)) 1) + (3 * (dg (cd (num (M 1) t9)) 2)) + (dg (cd (num (M 1) t9)) 3) + (dg (cd (num (M 1) t9)) 4)) % 10 = 0)).toNat) → ∀ (H : Heap) (locs : List Loc), mP dC dI dA a (mrow M 0 (upd (M 0) 0 (nI 0))) H → uS (mA a) s.heap H locs → ∀ ls : Array Slot, lv_has ls 6 [(5, .int (nI (3 * (dg (cd (num (M 1) t9)) 0) + (dg (cd (num (M 1) t9)) 1) + (3 * (dg (cd (num (M 1) t9)) 2)) + (dg (cd (num (M 1) t9)) 3) + (dg (cd (num (M 1) t9)) 4)))), (4, .int (nI (cd (num (M 1) t9)))), (3, .int (nI t9)), (2, .int (nI k)), (1, .int (gapR (M 2) (M 1) 0)), (0, .ref (a 0))] → W p l e R s m args below meth c H locs 0 0 Q (F0 m 121 ls [.int v9, .int (gapR (M 2) (M 1) 0)]) := by
              intro v9 hv9 H locs hP hS ls hl
              subst hv9
              refine k_X2_flag   SF hK (rk.le (Nat.le_of_ble_eq_true rfl)) hl.1 (Nat.le_of_ble_eq_true rfl) dX2_gap_121 ?_
              refine lv_iadd hx hb dX2_gap_124 ?_
              refine u_top (y := gapR (M 2) (M 1) 0) (i_add_n0 hcd) ?_
              refine lv_istore_n (lv' := [(1, .int (gapR (M 2) (M 1) 0)), (5, .int (nI (3 * (dg (cd (num (M 1) t9)) 0) + (dg (cd (num (M 1) t9)) 1) + (3 * (dg (cd (num (M 1) t9)) 2)) + (dg (cd (num (M 1) t9)) 3) + (dg (cd (num (M 1) t9)) 4)))), (4, .int (nI (cd (num (M 1) t9)))), (3, .int (nI t9)), (2, .int (nI k)), (0, .ref (a 0))]) hx hb dX2_gap_125 rfl hl (by decide) rfl (fun ls hl => ?_)
              refine lv_iinc (v := nI (k + 1)) (lv' := [(2, .int (nI (k + 1))), (1, .int (gapR (M 2) (M 1) 0)), (5, .int (nI (3 * (dg (cd (num (M 1) t9)) 0) + (dg (cd (num (M 1) t9)) 1) + (3 * (dg (cd (num (M 1) t9)) 2)) + (dg (cd (num (M 1) t9)) 3) + (dg (cd (num (M 1) t9)) 4)))), (4, .int (nI (cd (num (M 1) t9)))), (3, .int (nI t9)), (0, .ref (a 0))]) hx hb dX2_gap_126 hl (k := 4) rfl (nI_add _ 1) (by decide) rfl (fun ls hl => ?_)
              refine lv_goto (tgt := 37) hx hb dX2_gap_129 (by decide) ?_
              exact ih37 (k + 1) (by omega) (by omega) _ _ hP hS ls (lv_sub hl [0, 1, 5] rfl)
            refine lv_if_eq (tgt := 120) hx hb dX2_gap_113 (by decide) (fun c_113 => ?_) (fun c_113 => ?_)
            · have c_113 : (3 * (dg (cd (num (M 1) t9)) 0) + (dg (cd (num (M 1) t9)) 1) + (3 * (dg (cd (num (M 1) t9)) 2)) + (dg (cd (num (M 1) t9)) 3) + (dg (cd (num (M 1) t9)) 4)) % 10 = 0 := (nI_eq (a := (3 * (dg (cd (num (M 1) t9)) 0) + (dg (cd (num (M 1) t9)) 1) + (3 * (dg (cd (num (M 1) t9)) 2)) + (dg (cd (num (M 1) t9)) 3) + (dg (cd (num (M 1) t9)) 4)) % 10) (b := 0) (by omega) (by omega)).mp c_113
              refine lv_iconst (v := nI 0) hx hb dX2_gap_120 (by decide) ?_
              exact jn121_2 _ (u_n0 c_113) _ _ hP hS ls (lv_sub hl [0, 1, 2, 3, 4, 5] rfl)
            · have c_113 : ¬ ((3 * (dg (cd (num (M 1) t9)) 0) + (dg (cd (num (M 1) t9)) 1) + (3 * (dg (cd (num (M 1) t9)) 2)) + (dg (cd (num (M 1) t9)) 3) + (dg (cd (num (M 1) t9)) 4)) % 10 = 0) := fun q9 => c_113 ((nI_eq (a := (3 * (dg (cd (num (M 1) t9)) 0) + (dg (cd (num (M 1) t9)) 1) + (3 * (dg (cd (num (M 1) t9)) 2)) + (dg (cd (num (M 1) t9)) 3) + (dg (cd (num (M 1) t9)) 4)) % 10) (b := 0) (by omega) (by omega)).mpr q9)
              refine lv_iconst (v := nI 1) hx hb dX2_gap_116 (by decide) ?_
              refine lv_goto (tgt := 121) hx hb dX2_gap_117 (by decide) ?_
              exact jn121_2 _ (u_n1 c_113) _ _ hP hS ls (lv_sub hl [0, 1, 2, 3, 4, 5] rfl)
    exact lp37 (ln (M 2) + 1) 0 (by omega) (by omega) _ _ hP hS ls (lv_sub hl [0, 1, 2] rfl)
  · refine u_top (y := nI 1) (by rw [decide_eq_false hq0]; rfl) ?_
    refine lv_if_eq (tgt := 9) hx hb dX2_gap_4 (by decide) (fun c_4 => absurd c_4 (by decide)) (fun c_4 => ?_)
    refine lv_iconst (v := nI 0) hx hb dX2_gap_7 (by decide) ?_
    exact hret _ _ _ _ _ (by rw [show thC [(lo (M 0 1), 1)] = thC [(lo (M 0 1), 1)] from thC_pre (L1 := [(lo (M 0 1), 1)]) (L2 := []) hq0, if_neg hq0]) (by rw [show thC [(lo (M 0 1), 1)] = thC [(lo (M 0 1), 1)] from thC_pre (L1 := [(lo (M 0 1), 1)]) (L2 := []) hq0]; exact hP) hS dX2_gap_8

set_option maxHeartbeats 4000000 in
theorem c_X2_bagsIf (l : Launch) (dC : Nat → ClassId) (dI : Nat → Nat → Nat) (dA : Nat → ClassId) (a : Nat → Nat) (M : Nat → Nat → Int32) (hJ : mJ a) (x : Int32) (hS1 : SWf (M 2)) (hT : TWf (M 1)) : Met l yX2_bagsIf (ws_ yX2_bagsIf cX2_bagsIf 4 (some .int)) (rmD 15 0 0) (uPc [.ref (a 0), .int x] (mP dC dI dA a M) dC dI dA) (uMi (mA a) (if thC [(lo (M 0 1), 1), (inZ x.toInt 1 9, 2)] = 0 then bgI (M 2) (M 1) x else nI 0) (mP dC dI dA a (if thC [(lo (M 0 1), 1), (inZ x.toInt 1 9, 2)] = 0 then mrow (mrow M 0 (upd (M 0) 0 (nI 0))) 3 (va_cpy (M 2) (M 3) 0 2730 273) else mrow M 0 (upd (M 0) 0 (nI (thC [(lo (M 0 1), 1), (inZ x.toInt 1 9, 2)])))))) 0 0 (mA a) := by
  refine u_metMi (own := RX2) (by decide) rfl (Nat.le_of_ble_eq_true rfl) fun p e R s m args below meth c Q SF rk hP hK hret ls hl => ?_
  have hx := SF.1
  have hb := SF.2.1
  have hml := SF.2.2.1
  have hown := SF.2.2.2.1
  have hts := SF.2.2.2.2
  have hS : uS (mA a) s.heap s.heap [] := uS.rf
  have hl : lv_has ls 4 [(0, .ref (a 0)), (1, .int x)] := hl
  have hL := hS1.2.1
  have hn9 := hT.2.1
  refine lv_aload_n hx hb dX2_bagsIf_0 rfl (lv_at hl 0 rfl) ?_
  refine k_X2_notLoaded  hJ  SF hK (rk.le (Nat.le_of_ble_eq_true rfl)) hl.1 (Nat.le_of_ble_eq_true rfl) hP hS dX2_bagsIf_1 (fun H locs hP hS => ?_)
  have hP : mP dC dI dA a (mrow M 0 (upd (M 0) 0 (nI (thC [(lo (M 0 1), 1)])))) H := hP
  by_cases hq0 : thC [(lo (M 0 1), 1)] = 0
  · have hz0 := thC_1 hq0
    refine u_top (y := nI 0) (by rw [hq0]; rfl) ?_
    rw [hq0] at hP
    have hP : mP dC dI dA a (mrow M 0 (upd (M 0) 0 (nI 0))) H := hP
    refine lv_if_ne (tgt := 32) hx hb dX2_bagsIf_4 (by decide) (fun c_4 => absurd (by decide) c_4) (fun c_4 => ?_)
    refine lv_aload_n hx hb dX2_bagsIf_7 rfl (lv_at hl 0 rfl) ?_
    refine lv_iload_n hx hb dX2_bagsIf_8 rfl (lv_at hl 1 rfl) ?_
    refine lv_i2l hx hb dX2_bagsIf_9 rfl ?_
    refine lv_lconst (v := 1) hx hb dX2_bagsIf_10 rfl ?_
    refine lv_ldc2 (v := 9) hx hb hown (hts _ q2421) dX2_bagsIf_11 ?_
    refine k_X2_in (X := x.toInt) (L := 1) (U := 9) (i2l_toInt x) (by decide) (by decide) SF hK (rk.le (Nat.le_of_ble_eq_true rfl)) hl.1 (Nat.le_of_ble_eq_true rfl) dX2_bagsIf_14 ?_
    have jn25 : ∀ v9 : Int32, v9 = nI ((!(inZ x.toInt 1 9)).toNat) → ∀ (H : Heap) (locs : List Loc), mP dC dI dA a (mrow M 0 (upd (M 0) 0 (nI 0))) H → uS (mA a) s.heap H locs → ∀ ls : Array Slot, lv_has ls 4 [(0, .ref (a 0)), (1, .int x)] → W p l e R s m args below meth c H locs 0 0 Q (F0 m 25 ls [.int v9, .ref (a 0)]) := by
      intro v9 hv9 H locs hP hS ls hl
      subst hv9
      refine lv_iconst (v := nI 2) hx hb dX2_bagsIf_25 (by decide) ?_
      refine k_X2_refuse (M := mrow M 0 (upd (M 0) 0 (nI 0)))  hJ  SF hK (rk.le (Nat.le_of_ble_eq_true rfl)) hl.1 (Nat.le_of_ble_eq_true rfl) hP hS dX2_bagsIf_26 (fun H locs hP hS => ?_)
      refine u_top (y := nI ((!decide (rfT ((nI 0)) (!(inZ x.toInt 1 9)) (nI 2) = 0)).toNat)) rfl ?_
      have hP : mP dC dI dA a (mrow M 0 (upd (M 0) 0 (rfT ((nI 0)) (!(inZ x.toInt 1 9)) (nI 2)))) H := hP
      cases hq1 : (!(inZ x.toInt 1 9))
      · have hz1 : (inZ x.toInt 1 9) = true := by first | simpa using hq1 | simpa [lo] using hq1
        rw [hq1, rfT_f] at hP
        refine u_top (y := nI 0) (by rw [rfT_f]; rfl) ?_
        have hP : mP dC dI dA a (mrow M 0 (upd (M 0) 0 (nI 0))) H := hP
        refine lv_if_eq (tgt := 34) hx hb dX2_bagsIf_29 (by decide) (fun c_29 => ?_) (fun c_29 => absurd (by decide) c_29)
        refine lv_aload_n hx hb dX2_bagsIf_34 rfl (lv_at hl 0 rfl) ?_
        refine k_X2_laysAside (M := mrow M 0 (upd (M 0) 0 (nI 0)))  hJ  SF hK (rk.le (Nat.le_of_ble_eq_true rfl)) hl.1 (Nat.le_of_ble_eq_true rfl) hP hS dX2_bagsIf_35 (fun H locs hP hS => ?_)
        have hP : mP dC dI dA a (mrow (mrow M 0 (upd (M 0) 0 (nI 0))) 3 (va_cpy (M 2) (M 3) 0 2730 273)) H := hP
        refine lv_aload_n hx hb dX2_bagsIf_38 rfl (lv_at hl 0 rfl) ?_
        refine va_get (D := (dC, dI)) (ci := 2) (v := .ref (a 1)) (C := RX2) (T := TX2) (N := 22) hx hb hts in_X2 hown hK hP 0 rfl rfl 2 (by decide) (hts _ q1953) (fun _ h9 => h9) rfl dX2_bagsIf_39 ?_
        refine lv_iconst (v := nI 0) hx hb dX2_bagsIf_42 (by decide) ?_
        refine u_iald hx hb hK hP 1 0 rfl rfl (i := 0) (by omega) (by decide) dX2_bagsIf_43 ?_
        refine u_top (y := M 1 0) rfl ?_
        refine lv_istore_n (lv' := [(2, .int (M 1 0)), (0, .ref (a 0)), (1, .int x)]) hx hb dX2_bagsIf_44 rfl hl (by decide) rfl (fun ls hl => ?_)
        refine lv_aload_n hx hb dX2_bagsIf_45 rfl (lv_at hl 1 rfl) ?_
        refine va_get (D := (dC, dI)) (ci := 2) (v := .ref (a 1)) (C := RX2) (T := TX2) (N := 22) hx hb hts in_X2 hown hK hP 0 rfl rfl 2 (by decide) (hts _ q1953) (fun _ h9 => h9) rfl dX2_bagsIf_46 ?_
        refine lv_iconst (v := nI 0) hx hb dX2_bagsIf_49 (by decide) ?_
        refine lv_iload_n hx hb dX2_bagsIf_50 rfl (lv_at hl 2 rfl) ?_
        refine m_as1 SF hK hJ hP hS (i := 0) (by omega) dX2_bagsIf_51 (fun H locs hP hS => ?_)
        have hP : mP dC dI dA a (mrow (mrow (mrow M 0 (upd (M 0) 0 (nI 0))) 1 (upd (M 1) 0 x)) 3 (va_cpy (M 2) (M 3) 0 2730 273)) H := hP
        refine lv_iconst (v := nI 0) hx hb dX2_bagsIf_52 (by decide) ?_
        refine lv_istore_n (lv' := [(3, .int (nI 0)), (2, .int (M 1 0)), (0, .ref (a 0)), (1, .int x)]) hx hb dX2_bagsIf_53 rfl hl (by decide) rfl (fun ls hl => ?_)
        have lp54 : ∀ (k0 : Nat) (k : Nat), k ≤ 6 → 6 < k + k0 → ∀ (H : Heap) (locs : List Loc), mP dC dI dA a (mrow (mrow (mrow (mrow M 0 (upd (M 0) 0 (nI 0))) 1 (upd (M 1) 0 x)) 2 (zrS (M 2) k)) 3 (va_cpy (M 2) (M 3) 0 2730 273)) H → uS (mA a) s.heap H locs → ∀ ls : Array Slot, lv_has ls 4 [(3, .int (nI k)), (2, .int (M 1 0)), (0, .ref (a 0)), (1, .int x)] → W p l e R s m args below meth c H locs 0 0 Q (F0 m 54 ls []) := by
          intro k0
          induction k0 with
          | zero =>
            intro k hk1 hk2; omega
          | succ k0 ih =>
            intro k hk1 hk2 H locs hP hS ls hl
            have ih54 := ih
            refine lv_iload_n hx hb dX2_bagsIf_54 rfl (lv_at hl 0 rfl) ?_
            refine lv_bipush (v := nI 6) hx hb dX2_bagsIf_55 (by decide) ?_
            refine lv_icmp_ge (tgt := 86) hx hb dX2_bagsIf_57 (by decide) (fun c_57 => ?_) (fun c_57 => ?_)
            · have c_57 : 6 ≤ k := (nI_leI (a := 6) (b := k) (by omega) (by omega)).mp c_57
              refine lv_aload_n hx hb dX2_bagsIf_86 rfl (lv_at hl 2 rfl) ?_
              refine k_X2_sortsAll (M := mrow (mrow (mrow (mrow M 0 (upd (M 0) 0 (nI 0))) 1 (upd (M 1) 0 x)) 2 (zrS (M 2) k)) 3 (va_cpy (M 2) (M 3) 0 2730 273))  hJ (zrS_wf (by omega) hS1) (TWf_bag hT) SF hK (rk.le (Nat.le_of_ble_eq_true rfl)) hl.1 (Nat.le_of_ble_eq_true rfl) hP hS dX2_bagsIf_87 (fun H locs hP hS => ?_)
              refine u_top (y := nI (sAn (zrS (M 2) k) (upd (M 1) 0 x))) rfl ?_
              have hP : mP dC dI dA a (mrow (mrow (mrow (mrow M 0 (upd (M 0) 0 (nI 0))) 1 (upd (M 1) 0 x)) 2 (sAl (zrS (M 2) k) (upd (M 1) 0 x))) 3 (va_cpy (M 2) (M 3) 0 2730 273)) H := hP
              refine lv_istore_n (lv' := [(3, .int (nI (sAn (zrS (M 2) k) (upd (M 1) 0 x)))), (2, .int (M 1 0)), (0, .ref (a 0)), (1, .int x)]) hx hb dX2_bagsIf_90 rfl hl (by decide) rfl (fun ls hl => ?_)
              refine lv_aload_n hx hb dX2_bagsIf_91 rfl (lv_at hl 2 rfl) ?_
              refine va_get (D := (dC, dI)) (ci := 2) (v := .ref (a 1)) (C := RX2) (T := TX2) (N := 22) hx hb hts in_X2 hown hK hP 0 rfl rfl 2 (by decide) (hts _ q1953) (fun _ h9 => h9) rfl dX2_bagsIf_92 ?_
              refine lv_iconst (v := nI 0) hx hb dX2_bagsIf_95 (by decide) ?_
              refine lv_iload_n hx hb dX2_bagsIf_96 rfl (lv_at hl 1 rfl) ?_
              refine m_as1 SF hK hJ hP hS (i := 0) (by omega) dX2_bagsIf_97 (fun H locs hP hS => ?_)
              have hP : mP dC dI dA a (mrow (mrow (mrow (mrow M 0 (upd (M 0) 0 (nI 0))) 1 (upd (upd (M 1) 0 x) 0 (M 1 0))) 2 (sAl (zrS (M 2) k) (upd (M 1) 0 x))) 3 (va_cpy (M 2) (M 3) 0 2730 273)) H := hP
              refine lv_aload_n hx hb dX2_bagsIf_98 rfl (lv_at hl 2 rfl) ?_
              refine lv_aload_n hx hb dX2_bagsIf_99 rfl (lv_at hl 2 rfl) ?_
              refine lv_bipush (v := nI 21) hx hb dX2_bagsIf_100 (by decide) ?_
              refine k_X2_sumOf (M := mrow (mrow (mrow (mrow M 0 (upd (M 0) 0 (nI 0))) 1 (upd (upd (M 1) 0 x) 0 (M 1 0))) 2 (sAl (zrS (M 2) k) (upd (M 1) 0 x))) 3 (va_cpy (M 2) (M 3) 0 2730 273))  (by decide) SF hK (rk.le (Nat.le_of_ble_eq_true rfl)) hl.1 (Nat.le_of_ble_eq_true rfl) hP dX2_bagsIf_102 ?_
              refine u_top (y := sum6 (sAl (zrS (M 2) k) (upd (M 1) 0 x)) 21 6) rfl ?_
              refine k_X2_back (M := mrow (mrow (mrow (mrow M 0 (upd (M 0) 0 (nI 0))) 1 (upd (upd (M 1) 0 x) 0 (M 1 0))) 2 (sAl (zrS (M 2) k) (upd (M 1) 0 x))) 3 (va_cpy (M 2) (M 3) 0 2730 273))  hJ  SF hK (rk.le (Nat.le_of_ble_eq_true rfl)) hl.1 (Nat.le_of_ble_eq_true rfl) hP hS dX2_bagsIf_105 (fun H locs hP hS => ?_)
              refine u_top (y := (sum6 (sAl (zrS (M 2) k) (upd (M 1) 0 x)) 21 6)) rfl ?_
              have hP : mP dC dI dA a (mrow (mrow (mrow (mrow M 0 (upd (M 0) 0 (nI 0))) 1 (upd (upd (M 1) 0 x) 0 (M 1 0))) 2 (va_cpy (va_cpy (M 2) (M 3) 0 2730 273) (sAl (zrS (M 2) k) (upd (M 1) 0 x)) 2730 0 273)) 3 (va_cpy (M 2) (M 3) 0 2730 273)) H := hP
              exact hret _ _ _ _ _ (by rw [hz0, hz1]; show _ = _; rw [bgI, show 6 = k by omega]; rfl) (by rw [hz0, hz1]; exact (by rw [upd_self] at hP; exact m_row2 (M := mrow (mrow M 0 (upd (M 0) 0 (nI 0))) 3 (va_cpy (M 2) (M 3) 0 2730 273)) (f := va_cpy (va_cpy (M 2) (M 3) 0 2730 273) (sAl (zrS (M 2) k) (upd (M 1) 0 x)) 2730 0 273) (g := M 2) cpy_back hP)) hS dX2_bagsIf_108
            · have c_57 : ¬ (6 ≤ k) := fun q9 => c_57 ((nI_leI (a := 6) (b := k) (by omega) (by omega)).mpr q9)
              refine lv_aload_n hx hb dX2_bagsIf_60 rfl (lv_at hl 2 rfl) ?_
              refine va_get (D := (dC, dI)) (ci := 2) (v := .ref (a 2)) (C := RX2) (T := TX2) (N := 22) hx hb hts in_X2 hown hK hP 0 rfl rfl 3 (by decide) (hts _ q1954) (fun _ h9 => h9) rfl dX2_bagsIf_61 ?_
              refine lv_bipush (v := nI 15) hx hb dX2_bagsIf_64 (by decide) ?_
              refine lv_iload_n hx hb dX2_bagsIf_66 rfl (lv_at hl 0 rfl) ?_
              refine lv_iadd hx hb dX2_bagsIf_67 ?_
              refine u_top (nI_add _ _) ?_
              refine lv_iconst (v := nI 0) hx hb dX2_bagsIf_68 (by decide) ?_
              refine m_as2 SF hK hJ hP hS (i := 15 + k) (by omega) dX2_bagsIf_69 (fun H locs hP hS => ?_)
              have hP : mP dC dI dA a (mrow (mrow (mrow (mrow M 0 (upd (M 0) 0 (nI 0))) 1 (upd (M 1) 0 x)) 2 (upd (zrS (M 2) k) (15 + k) (nI 0))) 3 (va_cpy (M 2) (M 3) 0 2730 273)) H := hP
              refine lv_aload_n hx hb dX2_bagsIf_70 rfl (lv_at hl 2 rfl) ?_
              refine va_get (D := (dC, dI)) (ci := 2) (v := .ref (a 2)) (C := RX2) (T := TX2) (N := 22) hx hb hts in_X2 hown hK hP 0 rfl rfl 3 (by decide) (hts _ q1954) (fun _ h9 => h9) rfl dX2_bagsIf_71 ?_
              refine lv_bipush (v := nI 21) hx hb dX2_bagsIf_74 (by decide) ?_
              refine lv_iload_n hx hb dX2_bagsIf_76 rfl (lv_at hl 0 rfl) ?_
              refine lv_iadd hx hb dX2_bagsIf_77 ?_
              refine u_top (nI_add _ _) ?_
              refine lv_iconst (v := nI 0) hx hb dX2_bagsIf_78 (by decide) ?_
              refine m_as2 SF hK hJ hP hS (i := 21 + k) (by omega) dX2_bagsIf_79 (fun H locs hP hS => ?_)
              have hP : mP dC dI dA a (mrow (mrow (mrow (mrow M 0 (upd (M 0) 0 (nI 0))) 1 (upd (M 1) 0 x)) 2 (upd (upd (zrS (M 2) k) (15 + k) (nI 0)) (21 + k) (nI 0))) 3 (va_cpy (M 2) (M 3) 0 2730 273)) H := hP
              refine lv_iinc (v := nI (k + 1)) (lv' := [(3, .int (nI (k + 1))), (2, .int (M 1 0)), (0, .ref (a 0)), (1, .int x)]) hx hb dX2_bagsIf_80 hl (k := 0) rfl (nI_add _ 1) (by decide) rfl (fun ls hl => ?_)
              refine lv_goto (tgt := 54) hx hb dX2_bagsIf_83 (by decide) ?_
              exact ih54 (k + 1) (by omega) (by omega) _ _ hP hS ls (lv_sub hl [0, 1, 2, 3] rfl)
        exact lp54 (6 + 1) 0 (by omega) (by omega) _ _ hP hS ls (lv_sub hl [0, 1, 2, 3] rfl)
      · have hz1 : (inZ x.toInt 1 9) = false := by first | simpa using hq1 | simpa [lo] using hq1
        rw [hq1, rfT_t] at hP
        refine u_top (y := nI 1) (by rw [rfT_t]; rfl) ?_
        have hP : mP dC dI dA a (mrow M 0 (upd (M 0) 0 (nI 2))) H := hP
        refine lv_if_eq (tgt := 34) hx hb dX2_bagsIf_29 (by decide) (fun c_29 => absurd c_29 (by decide)) (fun c_29 => ?_)
        refine lv_iconst (v := nI 0) hx hb dX2_bagsIf_32 (by decide) ?_
        exact hret _ _ _ _ _ (by rw [hz0, hz1]; rfl) (by rw [hz0, hz1]; exact hP) hS dX2_bagsIf_33
    refine lv_if_ne (tgt := 24) hx hb dX2_bagsIf_17 (by decide) (fun c_17 => ?_) (fun c_17 => ?_)
    · have c_17 : ¬ ((inZ x.toInt 1 9) = false) := fun q9 => c_17 (u_zb.mpr q9)
      refine lv_iconst (v := nI 0) hx hb dX2_bagsIf_24 (by decide) ?_
      exact jn25 _ (u_ff (by simp [c_17])) _ _ hP hS ls (lv_sub hl [0, 1] rfl)
    · have c_17 : (inZ x.toInt 1 9) = false := u_zb.mp c_17
      refine lv_iconst (v := nI 1) hx hb dX2_bagsIf_20 (by decide) ?_
      refine lv_goto (tgt := 25) hx hb dX2_bagsIf_21 (by decide) ?_
      exact jn25 _ (u_tt (by simpa using c_17)) _ _ hP hS ls (lv_sub hl [0, 1] rfl)
  · refine u_top (y := nI 1) (by rw [decide_eq_false hq0]; rfl) ?_
    refine lv_if_ne (tgt := 32) hx hb dX2_bagsIf_4 (by decide) (fun c_4 => ?_) (fun c_4 => absurd c_4 (by decide))
    refine lv_iconst (v := nI 0) hx hb dX2_bagsIf_32 (by decide) ?_
    exact hret _ _ _ _ _ (by rw [show thC [(lo (M 0 1), 1), (inZ x.toInt 1 9, 2)] = thC [(lo (M 0 1), 1)] from thC_pre (L1 := [(lo (M 0 1), 1)]) (L2 := [(inZ x.toInt 1 9, 2)]) hq0, if_neg hq0]) (by rw [show thC [(lo (M 0 1), 1), (inZ x.toInt 1 9, 2)] = thC [(lo (M 0 1), 1)] from thC_pre (L1 := [(lo (M 0 1), 1)]) (L2 := [(inZ x.toInt 1 9, 2)]) hq0, if_neg hq0]; exact hP) hS dX2_bagsIf_33

set_option maxHeartbeats 4000000 in
theorem c_X2_helpful (l : Launch) (dC : Nat → ClassId) (dI : Nat → Nat → Nat) (dA : Nat → ClassId) (a : Nat → Nat) (M : Nat → Nat → Int32) (hJ : mJ a) (x : Int32) (hS1 : SWf (M 2)) (hT : TWf (M 1)) : Met l yX2_helpful (ws_ yX2_helpful cX2_helpful 3 (some .int)) (rmD 12 0 0) (uPc [.ref (a 0), .int x] (mP dC dI dA a M) dC dI dA) (uMi (mA a) (if thC [(lo (M 0 1), 1), (inZ x.toInt 0 ((ln (M 2) : Int) - 1), 2)] = 0 then oI (hlp (M 2) (M 1) x.toNatClampNeg) else nI 0) (mP dC dI dA a (if thC [(lo (M 0 1), 1), (inZ x.toInt 0 ((ln (M 2) : Int) - 1), 2)] = 0 then mrow (mrow M 0 (upd (M 0) 0 (nI 0))) 3 (asdF (hlpM (M 2) (M 1) x.toNatClampNeg) (M 2) (M 3)) else mrow M 0 (upd (M 0) 0 (nI (thC [(lo (M 0 1), 1), (inZ x.toInt 0 ((ln (M 2) : Int) - 1), 2)])))))) 0 0 (mA a) := by
  refine u_metMi (own := RX2) (by decide) rfl (Nat.le_of_ble_eq_true rfl) fun p e R s m args below meth c Q SF rk hP hK hret ls hl => ?_
  have hx := SF.1
  have hb := SF.2.1
  have hml := SF.2.2.1
  have hown := SF.2.2.2.1
  have hts := SF.2.2.2.2
  have hS : uS (mA a) s.heap s.heap [] := uS.rf
  have hl : lv_has ls 3 [(0, .ref (a 0)), (1, .int x)] := hl
  have hL := hS1.2.1
  have hn9 := hT.2.1
  refine lv_aload_n hx hb dX2_helpful_0 rfl (lv_at hl 0 rfl) ?_
  refine lv_iload_n hx hb dX2_helpful_1 rfl (lv_at hl 1 rfl) ?_
  refine k_X2_noLetter  hJ hS1 SF hK (rk.le (Nat.le_of_ble_eq_true rfl)) hl.1 (Nat.le_of_ble_eq_true rfl) hP hS dX2_helpful_2 (fun H locs hP hS => ?_)
  have hP : mP dC dI dA a (mrow M 0 (upd (M 0) 0 (nI (thC [(lo (M 0 1), 1), (inZ x.toInt 0 ((ln (M 2) : Int) - 1), 2)])))) H := hP
  by_cases hq0 : thC [(lo (M 0 1), 1), (inZ x.toInt 0 ((ln (M 2) : Int) - 1), 2)] = 0
  · obtain ⟨hz0, hz1⟩ := thC_2 hq0
    refine u_top (y := nI 0) (by rw [hq0]; rfl) ?_
    rw [hq0] at hP
    have hP : mP dC dI dA a (mrow M 0 (upd (M 0) 0 (nI 0))) H := hP
    obtain ⟨lt, hlt_lt, hsm_lt, rfl⟩ := inZ_n hz1
    have hcl_lt : (nI lt).toNatClampNeg = lt := nI_clamp (by omega)
    have hP : mP dC dI dA a (mrow M 0 (upd (M 0) 0 (nI 0))) H := by assumption
    refine lv_if_ne (tgt := 17) hx hb dX2_helpful_5 (by decide) (fun c_5 => absurd (by decide) c_5) (fun c_5 => ?_)
    refine lv_aload_n hx hb dX2_helpful_8 rfl (lv_at hl 0 rfl) ?_
    refine lv_iload_n hx hb dX2_helpful_9 rfl (lv_at hl 1 rfl) ?_
    refine k_X2_decidedFor (M := mrow M 0 (upd (M 0) 0 (nI 0)))  (show lt < ln (M 2) by omega) hS1 hT SF hK (rk.le (Nat.le_of_ble_eq_true rfl)) hl.1 (Nat.le_of_ble_eq_true rfl) hP dX2_helpful_10 ?_
    refine u_top (y := oI (dcd (M 2) (M 1) lt)) rfl ?_
    rcases hE : dcd (M 2) (M 1) lt with _ | t9
    · refine u_top (y := (-1)) rfl ?_
      refine lv_iconst (v := (-1)) hx hb dX2_helpful_13 (by decide) ?_
      refine lv_icmp_eq (tgt := 30) hx hb dX2_helpful_14 (by decide) (fun c_14 => ?_) (fun c_14 => absurd (by decide) c_14)
      refine lv_iconst (v := nI 0) hx hb dX2_helpful_30 (by decide) ?_
      refine lv_istore_n (lv' := [(2, .int (nI 0)), (0, .ref (a 0)), (1, .int (nI lt))]) hx hb dX2_helpful_31 rfl hl (by decide) rfl (fun ls hl => ?_)
      have lp32 : ∀ (k0 : Nat) (k : Nat), k ≤ 5 → (∀ j, j < k → hlpP (M 2) (M 1) lt j = false) → 5 < k + k0 → ∀ (H : Heap) (locs : List Loc), mP dC dI dA a (mrow (mrow M 0 (upd (M 0) 0 (nI 0))) 3 (asdF (anyR (M 2) lt k) (M 2) (M 3))) H → uS (mA a) s.heap H locs → ∀ ls : Array Slot, lv_has ls 3 [(2, .int (nI k)), (0, .ref (a 0)), (1, .int (nI lt))] → W p l e R s m args below meth c H locs 0 0 Q (F0 m 32 ls []) := by
        intro k0
        induction k0 with
        | zero =>
          intro k hk1 hkf hk2; omega
        | succ k0 ih =>
          intro k hk1 hkf hk2 H locs hP hS ls hl
          have ih32 := ih
          refine lv_iload_n hx hb dX2_helpful_32 rfl (lv_at hl 0 rfl) ?_
          refine lv_iconst (v := nI 5) hx hb dX2_helpful_33 (by decide) ?_
          refine lv_icmp_ge (tgt := 66) hx hb dX2_helpful_34 (by decide) (fun c_34 => ?_) (fun c_34 => ?_)
          · have c_34 : 5 ≤ k := (nI_leI (a := 5) (b := k) (by omega) (by omega)).mp c_34
            refine lv_iconst (v := (-1)) hx hb dX2_helpful_66 (by decide) ?_
            exact hret _ _ _ _ _ (by rw [hz0, hz1]; show _ = _; rw [hcl_lt, (hlp_n hE (by omega) hkf).1]; rfl) (by rw [hz0, hz1]; exact (by have h5 : k = 5 := (by omega); rw [h5] at hP; rw [hcl_lt, (hlp_n hE (by omega) hkf).2]; exact hP)) hS dX2_helpful_67
          · have c_34 : ¬ (5 ≤ k) := fun q9 => c_34 ((nI_leI (a := 5) (b := k) (by omega) (by omega)).mpr q9)
            refine lv_aload_n hx hb dX2_helpful_37 rfl (lv_at hl 1 rfl) ?_
            refine lv_iload_n hx hb dX2_helpful_38 rfl (lv_at hl 2 rfl) ?_
            refine lv_iload_n hx hb dX2_helpful_39 rfl (lv_at hl 0 rfl) ?_
            refine k_X2_l (M := mrow (mrow M 0 (upd (M 0) 0 (nI 0))) 3 (asdF (anyR (M 2) lt k) (M 2) (M 3)))  (by omega) (by omega) SF hK (rk.le (Nat.le_of_ble_eq_true rfl)) hl.1 (Nat.le_of_ble_eq_true rfl) hP dX2_helpful_40 ?_
            refine u_top (y := lr (M 2) lt k) rfl ?_
            refine lv_iconst (v := (-1)) hx hb dX2_helpful_43 (by decide) ?_
            refine lv_icmp_eq (tgt := 60) hx hb dX2_helpful_44 (by decide) (fun c_44 => ?_) (fun c_44 => ?_)
            · refine lv_iinc (v := nI (k + 1)) (lv' := [(2, .int (nI (k + 1))), (0, .ref (a 0)), (1, .int (nI lt))]) hx hb dX2_helpful_60 hl (k := 0) rfl (nI_add _ 1) (by decide) rfl (fun ls hl => ?_)
              refine lv_goto (tgt := 32) hx hb dX2_helpful_63 (by decide) ?_
              exact ih32 (k + 1) (by omega) (all_s hkf (by first | exact hlpP_f1 c_44 | exact hlpP_f2 hE2)) (by omega) _ _ (by rw [anyR_f c_44]; exact hP) hS ls (lv_sub hl [0, 1, 2] rfl)
            · refine lv_aload_n hx hb dX2_helpful_47 rfl (lv_at hl 1 rfl) ?_
              refine lv_iload_n hx hb dX2_helpful_48 rfl (lv_at hl 2 rfl) ?_
              refine lv_iload_n hx hb dX2_helpful_49 rfl (lv_at hl 0 rfl) ?_
              refine lv_iconst (v := (-1)) hx hb dX2_helpful_50 (by decide) ?_
              refine k_X2_decidedBy (M := mrow (mrow M 0 (upd (M 0) 0 (nI 0))) 3 (asdF (anyR (M 2) lt k) (M 2) (M 3)))  hJ (show lt < ln (M 2) from (by omega)) (by omega) (Or.inl rfl) hS1 hT SF hK (rk.le (Nat.le_of_ble_eq_true rfl)) hl.1 (Nat.le_of_ble_eq_true rfl) hP hS dX2_helpful_51 (fun H locs hP hS => ?_)
              refine u_top (y := oI (dcd (upd (M 2) (33 + 10 * lt + k) (-1)) (M 1) lt)) rfl ?_
              have hP : mP dC dI dA a (mrow (mrow M 0 (upd (M 0) 0 (nI 0))) 3 (va_cpy (M 2) (asdF (anyR (M 2) lt k) (M 2) (M 3)) 0 2730 273)) H := hP
              rcases hE2 : dcd (upd (M 2) (33 + 10 * lt + k) (-1)) (M 1) lt with _ | t8
              · refine u_top (y := (-1)) rfl ?_
                refine lv_iconst (v := (-1)) hx hb dX2_helpful_54 (by decide) ?_
                refine lv_icmp_eq (tgt := 60) hx hb dX2_helpful_55 (by decide) (fun c_55 => ?_) (fun c_55 => absurd (by decide) c_55)
                refine lv_iinc (v := nI (k + 1)) (lv' := [(2, .int (nI (k + 1))), (0, .ref (a 0)), (1, .int (nI lt))]) hx hb dX2_helpful_60 hl (k := 0) rfl (nI_add _ 1) (by decide) rfl (fun ls hl => ?_)
                refine lv_goto (tgt := 32) hx hb dX2_helpful_63 (by decide) ?_
                exact ih32 (k + 1) (by omega) (all_s hkf (by first | exact hlpP_f1 c_44 | exact hlpP_f2 hE2)) (by omega) _ _ (by rw [anyR_t c_44, ← asdF_go]; exact hP) hS ls (lv_sub hl [0, 1, 2] rfl)
              · have ht8 := dcd_lt hE2
                refine u_top (y := nI t8) rfl ?_
                refine lv_iconst (v := (-1)) hx hb dX2_helpful_54 (by decide) ?_
                refine lv_icmp_eq (tgt := 60) hx hb dX2_helpful_55 (by decide) (fun c_55 => absurd c_55 (nI_m1 (by omega))) (fun c_55 => ?_)
                refine lv_iload_n hx hb dX2_helpful_58 rfl (lv_at hl 0 rfl) ?_
                exact hret _ _ _ _ _ (by rw [hz0, hz1]; show _ = _; rw [hcl_lt, (hlp_f hE (by omega) hkf (hlpP_t c_44 hE2)).1]; rfl) (by rw [hz0, hz1]; exact (by rw [hcl_lt, (hlp_f hE (by omega) hkf (hlpP_t c_44 hE2)).2, ← asdF_go]; exact hP)) hS dX2_helpful_59
      exact lp32 6 0 (by omega) (fun j h => absurd h (Nat.not_lt_zero j)) (by omega) _ _ (by rw [anyR_0, asdF_0]; exact hP) hS ls (lv_sub hl [0, 1, 2] rfl)
    · have ht9 := dcd_lt hE
      refine u_top (y := nI t9) rfl ?_
      refine lv_iconst (v := (-1)) hx hb dX2_helpful_13 (by decide) ?_
      refine lv_icmp_eq (tgt := 30) hx hb dX2_helpful_14 (by decide) (fun c_14 => absurd c_14 (nI_m1 (by omega))) (fun c_14 => ?_)
      refine lv_aload_n hx hb dX2_helpful_17 rfl (lv_at hl 0 rfl) ?_
      refine va_get (D := (dC, dI)) (ci := 2) (v := .int (nI 0)) (C := RX2) (T := TX2) (N := 22) hx hb hts in_X2 hown hK hP 0 rfl rfl 0 (by decide) (hts _ q1951) (fun _ h9 => h9) rfl dX2_helpful_18 ?_
      refine lv_if_ne (tgt := 28) hx hb dX2_helpful_21 (by decide) (fun c_21 => absurd (by decide) c_21) (fun c_21 => ?_)
      refine lv_iconst (v := (-1)) hx hb dX2_helpful_24 (by decide) ?_
      refine lv_goto (tgt := 29) hx hb dX2_helpful_25 (by decide) ?_
      exact hret _ _ _ _ _ (by rw [hz0, hz1]; show _ = _; rw [hcl_lt, (hlp_s hE).1]; rfl) (by rw [hz0, hz1]; exact (by rw [hcl_lt, (hlp_s hE).2]; exact hP)) hS dX2_helpful_29
  · refine u_top (y := nI 1) (by rw [decide_eq_false hq0]; rfl) ?_
    refine lv_if_ne (tgt := 17) hx hb dX2_helpful_5 (by decide) (fun c_5 => ?_) (fun c_5 => absurd c_5 (by decide))
    have hth := thC_le2 (a := lo (M 0 1)) (b := inZ x.toInt 0 ((ln (M 2) : Int) - 1))
    refine lv_aload_n hx hb dX2_helpful_17 rfl (lv_at hl 0 rfl) ?_
    refine va_get (D := (dC, dI)) (ci := 2) (v := .int (nI (thC [(lo (M 0 1), 1), (inZ x.toInt 0 ((ln (M 2) : Int) - 1), 2)]))) (C := RX2) (T := TX2) (N := 22) hx hb hts in_X2 hown hK hP 0 rfl rfl 0 (by decide) (hts _ q1951) (fun _ h9 => h9) rfl dX2_helpful_18 ?_
    refine lv_if_ne (tgt := 28) hx hb dX2_helpful_21 (by decide) (fun c_21 => ?_) (fun c_21 => ?_)
    · have c_21 : ¬ (thC [(lo (M 0 1), 1), (inZ x.toInt 0 ((ln (M 2) : Int) - 1), 2)] = 0) := fun q9 => c_21 ((nI_eq (a := thC [(lo (M 0 1), 1), (inZ x.toInt 0 ((ln (M 2) : Int) - 1), 2)]) (b := 0) (by omega) (by omega)).mpr q9)
      refine lv_iconst (v := nI 0) hx hb dX2_helpful_28 (by decide) ?_
      exact hret _ _ _ _ _ (by rw [show thC [(lo (M 0 1), 1), (inZ x.toInt 0 ((ln (M 2) : Int) - 1), 2)] = thC [(lo (M 0 1), 1), (inZ x.toInt 0 ((ln (M 2) : Int) - 1), 2)] from thC_pre (L1 := [(lo (M 0 1), 1), (inZ x.toInt 0 ((ln (M 2) : Int) - 1), 2)]) (L2 := []) hq0, if_neg hq0]) (by rw [show thC [(lo (M 0 1), 1), (inZ x.toInt 0 ((ln (M 2) : Int) - 1), 2)] = thC [(lo (M 0 1), 1), (inZ x.toInt 0 ((ln (M 2) : Int) - 1), 2)] from thC_pre (L1 := [(lo (M 0 1), 1), (inZ x.toInt 0 ((ln (M 2) : Int) - 1), 2)]) (L2 := []) hq0, if_neg hq0]; exact hP) hS dX2_helpful_29
    · have c_21 : thC [(lo (M 0 1), 1), (inZ x.toInt 0 ((ln (M 2) : Int) - 1), 2)] = 0 := (nI_eq (a := thC [(lo (M 0 1), 1), (inZ x.toInt 0 ((ln (M 2) : Int) - 1), 2)]) (b := 0) (by omega) (by omega)).mp c_21
      exact absurd c_21 hq0

set_option maxHeartbeats 4000000 in
theorem c_X2_meanDistance (l : Launch) (dC : Nat → ClassId) (dI : Nat → Nat → Nat) (dA : Nat → ClassId) (a : Nat → Nat) (M : Nat → Nat → Int32) (hJ : mJ a)  (hS1 : SWf (M 2)) (hT : TWf (M 1)) : Met l yX2_meanDistance (ws_ yX2_meanDistance cX2_meanDistance 5 (some .double)) (rmD 11 0 0) (uPc [.ref (a 0)] (mP dC dI dA a M) dC dI dA) (uMd (mA a) (if thC [(lo (M 0 1), 1)] = 0 then mdV (M 2) (M 1) else FP.dconst0) (mP dC dI dA a (mrow M 0 (upd (M 0) 0 (nI (thC [(lo (M 0 1), 1)])))))) 0 0 (mA a) := by
  refine u_metMd (own := RX2) (by decide) rfl (Nat.le_of_ble_eq_true rfl) fun p e R s m args below meth c Q SF rk hP hK hret ls hl => ?_
  have hx := SF.1
  have hb := SF.2.1
  have hml := SF.2.2.1
  have hown := SF.2.2.2.1
  have hts := SF.2.2.2.2
  have hS : uS (mA a) s.heap s.heap [] := uS.rf
  have hl : lv_has ls 5 [(0, .ref (a 0))] := hl
  have hL := hS1.2.1
  have hn9 := hT.2.1
  refine lv_aload_n hx hb dX2_meanDistance_0 rfl (lv_at hl 0 rfl) ?_
  refine k_X2_notLoaded  hJ  SF hK (rk.le (Nat.le_of_ble_eq_true rfl)) hl.1 (Nat.le_of_ble_eq_true rfl) hP hS dX2_meanDistance_1 (fun H locs hP hS => ?_)
  have hP : mP dC dI dA a (mrow M 0 (upd (M 0) 0 (nI (thC [(lo (M 0 1), 1)])))) H := hP
  by_cases hq0 : thC [(lo (M 0 1), 1)] = 0
  · have hz0 := thC_1 hq0
    refine u_top (y := nI 0) (by rw [hq0]; rfl) ?_
    rw [hq0] at hP
    have hP : mP dC dI dA a (mrow M 0 (upd (M 0) 0 (nI 0))) H := hP
    refine lv_if_eq (tgt := 9) hx hb dX2_meanDistance_4 (by decide) (fun c_4 => ?_) (fun c_4 => absurd (by decide) c_4)
    refine lv_iconst (v := nI 0) hx hb dX2_meanDistance_9 (by decide) ?_
    refine lv_istore_n (lv' := [(1, .int (nI 0)), (0, .ref (a 0))]) hx hb dX2_meanDistance_10 rfl hl (by decide) rfl (fun ls hl => ?_)
    refine lv_iconst (v := nI 0) hx hb dX2_meanDistance_11 (by decide) ?_
    refine lv_istore_n (lv' := [(2, .int (nI 0)), (1, .int (nI 0)), (0, .ref (a 0))]) hx hb dX2_meanDistance_12 rfl hl (by decide) rfl (fun ls hl => ?_)
    refine lv_iconst (v := nI 0) hx hb dX2_meanDistance_13 (by decide) ?_
    refine lv_istore_n (lv' := [(3, .int (nI 0)), (2, .int (nI 0)), (1, .int (nI 0)), (0, .ref (a 0))]) hx hb dX2_meanDistance_14 rfl hl (by decide) rfl (fun ls hl => ?_)
    have lp15 : ∀ (k0 : Nat) (k : Nat), k ≤ ln (M 2) → ln (M 2) < k + k0 → ∀ (H : Heap) (locs : List Loc), mP dC dI dA a (mrow M 0 (upd (M 0) 0 (nI 0))) H → uS (mA a) s.heap H locs → ∀ ls : Array Slot, lv_has ls 5 [(3, .int (nI k)), (2, .int (nI (mdN (M 2) (M 1) k))), (1, .int (nI (mdS (M 2) (M 1) k))), (0, .ref (a 0))] → W p l e R s m args below meth c H locs 0 0 Q (F0 m 15 ls []) := by
      intro k0
      induction k0 with
      | zero =>
        intro k hk1 hk2; omega
      | succ k0 ih =>
        intro k hk1 hk2 H locs hP hS ls hl
        have ih15 := ih
        have hm9 := md_le (S := M 2) (Hd := M 1) k
        refine lv_iload_n hx hb dX2_meanDistance_15 rfl (lv_at hl 0 rfl) ?_
        refine lv_aload_n hx hb dX2_meanDistance_16 rfl (lv_at hl 3 rfl) ?_
        refine k_X2_letters (M := mrow M 0 (upd (M 0) 0 (nI 0)))   SF hK (rk.le (Nat.le_of_ble_eq_true rfl)) hl.1 (Nat.le_of_ble_eq_true rfl) hP dX2_meanDistance_17 ?_
        refine u_top (y := M 2 2) rfl ?_
        refine u_top (y := nI (ln (M 2))) hS1.1 ?_
        refine lv_icmp_ge (tgt := 73) hx hb dX2_meanDistance_20 (by decide) (fun c_20 => ?_) (fun c_20 => ?_)
        · have c_20 : ln (M 2) ≤ k := (nI_leI (a := ln (M 2)) (b := k) (by omega) (by omega)).mp c_20
          refine lv_iload_n hx hb dX2_meanDistance_73 rfl (lv_at hl 1 rfl) ?_
          refine lv_if_ne (tgt := 81) hx hb dX2_meanDistance_74 (by decide) (fun c_74 => ?_) (fun c_74 => ?_)
          · have c_74 : ¬ (mdN (M 2) (M 1) k = 0) := fun q9 => c_74 ((nI_eq (a := mdN (M 2) (M 1) k) (b := 0) (by omega) (by omega)).mpr q9)
            refine lv_iload_n hx hb dX2_meanDistance_81 rfl (lv_at hl 2 rfl) ?_
            refine lv_i2d hx hb dX2_meanDistance_82 ?_
            refine lv_iload_n hx hb dX2_meanDistance_83 rfl (lv_at hl 1 rfl) ?_
            refine lv_i2d hx hb dX2_meanDistance_84 ?_
            refine lv_ddiv hx hb dX2_meanDistance_85 (fin64 _ (by omega) (by omega) _ (by omega)) ?_
            exact hret _ _ _ _ _ (by rw [hz0]; show _ = _; rw [mdV, show ln (M 2) = k by omega]; exact (if_neg c_74).symm) (by rw [hz0]; exact hP) hS dX2_meanDistance_86
          · have c_74 : mdN (M 2) (M 1) k = 0 := (nI_eq (a := mdN (M 2) (M 1) k) (b := 0) (by omega) (by omega)).mp c_74
            refine lv_dconst0 hx hb dX2_meanDistance_77 ?_
            refine lv_goto (tgt := 86) hx hb dX2_meanDistance_78 (by decide) ?_
            exact hret _ _ _ _ _ (by rw [hz0]; show _ = _; rw [mdV, show ln (M 2) = k by omega]; exact (if_pos c_74).symm) (by rw [hz0]; exact hP) hS dX2_meanDistance_86
        · have c_20 : ¬ (ln (M 2) ≤ k) := fun q9 => c_20 ((nI_leI (a := ln (M 2)) (b := k) (by omega) (by omega)).mpr q9)
          refine lv_aload_n hx hb dX2_meanDistance_23 rfl (lv_at hl 3 rfl) ?_
          refine lv_iload_n hx hb dX2_meanDistance_24 rfl (lv_at hl 0 rfl) ?_
          refine k_X2_decidedFor (M := mrow M 0 (upd (M 0) 0 (nI 0)))  (show k < ln (M 2) from (by omega)) hS1 hT SF hK (rk.le (Nat.le_of_ble_eq_true rfl)) hl.1 (Nat.le_of_ble_eq_true rfl) hP dX2_meanDistance_25 ?_
          refine u_top (y := oI (dcd (M 2) (M 1) k)) rfl ?_
          rcases hE : dcd (M 2) (M 1) k with _ | t9
          · refine u_top (y := (-1)) rfl ?_
            refine lv_istore (lv' := [(4, .int (-1)), (3, .int (nI k)), (2, .int (nI (mdN (M 2) (M 1) k))), (1, .int (nI (mdS (M 2) (M 1) k))), (0, .ref (a 0))]) hx hb dX2_meanDistance_28 hl (by decide) rfl (fun ls hl => ?_)
            refine lv_iload_n hx hb dX2_meanDistance_30 rfl (lv_at hl 3 rfl) ?_
            refine lv_iload hx hb dX2_meanDistance_31 (lv_at hl 0 rfl) ?_
            refine lv_iconst (v := (-1)) hx hb dX2_meanDistance_33 (by decide) ?_
            refine lv_icmp_ne (tgt := 41) hx hb dX2_meanDistance_34 (by decide) (fun c_34 => absurd (by decide) c_34) (fun c_34 => ?_)
            refine lv_iconst (v := nI 0) hx hb dX2_meanDistance_37 (by decide) ?_
            refine lv_goto (tgt := 48) hx hb dX2_meanDistance_38 (by decide) ?_
            refine lv_iadd hx hb dX2_meanDistance_48 ?_
            refine u_top (nI_add _ _) ?_
            refine u_top (y := nI (mdS (M 2) (M 1) (k + 1))) (by show _ = nI (mdS (M 2) (M 1) k + mdF (M 2) (M 1) k); rw [mdF, hE]; try rfl) ?_
            refine lv_istore_n (lv' := [(1, .int (nI (mdS (M 2) (M 1) (k + 1)))), (4, .int (-1)), (3, .int (nI k)), (2, .int (nI (mdN (M 2) (M 1) k))), (0, .ref (a 0))]) hx hb dX2_meanDistance_49 rfl hl (by decide) rfl (fun ls hl => ?_)
            refine lv_iload_n hx hb dX2_meanDistance_50 rfl (lv_at hl 3 rfl) ?_
            refine lv_iload hx hb dX2_meanDistance_51 (lv_at hl 1 rfl) ?_
            refine lv_iconst (v := (-1)) hx hb dX2_meanDistance_53 (by decide) ?_
            refine lv_icmp_eq (tgt := 61) hx hb dX2_meanDistance_54 (by decide) (fun c_54 => ?_) (fun c_54 => absurd (by decide) c_54)
            refine lv_iconst (v := nI 0) hx hb dX2_meanDistance_61 (by decide) ?_
            refine u_top (y := nI false.toNat) rfl ?_
            refine k_X2_flag   SF hK (rk.le (Nat.le_of_ble_eq_true rfl)) hl.1 (Nat.le_of_ble_eq_true rfl) dX2_meanDistance_62 ?_
            refine lv_iadd hx hb dX2_meanDistance_65 ?_
            refine u_top (nI_add _ _) ?_
            refine u_top (y := nI (mdN (M 2) (M 1) (k + 1))) (by show _ = nI (mdN (M 2) (M 1) k + (dcd (M 2) (M 1) k).isSome.toNat); rw [hE]; rfl) ?_
            refine lv_istore_n (lv' := [(2, .int (nI (mdN (M 2) (M 1) (k + 1)))), (1, .int (nI (mdS (M 2) (M 1) (k + 1)))), (4, .int (-1)), (3, .int (nI k)), (0, .ref (a 0))]) hx hb dX2_meanDistance_66 rfl hl (by decide) rfl (fun ls hl => ?_)
            refine lv_iinc (v := nI (k + 1)) (lv' := [(3, .int (nI (k + 1))), (2, .int (nI (mdN (M 2) (M 1) (k + 1)))), (1, .int (nI (mdS (M 2) (M 1) (k + 1)))), (4, .int (-1)), (0, .ref (a 0))]) hx hb dX2_meanDistance_67 hl (k := 3) rfl (nI_add _ 1) (by decide) rfl (fun ls hl => ?_)
            refine lv_goto (tgt := 15) hx hb dX2_meanDistance_70 (by decide) ?_
            exact ih15 (k + 1) (by omega) (by omega) _ _ hP hS ls (lv_sub hl [0, 1, 2, 4] rfl)
          · have ht9 := dcd_lt hE
            refine u_top (y := nI t9) rfl ?_
            refine lv_istore (lv' := [(4, .int (nI t9)), (3, .int (nI k)), (2, .int (nI (mdN (M 2) (M 1) k))), (1, .int (nI (mdS (M 2) (M 1) k))), (0, .ref (a 0))]) hx hb dX2_meanDistance_28 hl (by decide) rfl (fun ls hl => ?_)
            refine lv_iload_n hx hb dX2_meanDistance_30 rfl (lv_at hl 3 rfl) ?_
            refine lv_iload hx hb dX2_meanDistance_31 (lv_at hl 0 rfl) ?_
            refine lv_iconst (v := (-1)) hx hb dX2_meanDistance_33 (by decide) ?_
            refine lv_icmp_ne (tgt := 41) hx hb dX2_meanDistance_34 (by decide) (fun c_34 => ?_) (fun c_34 => absurd c_34 (nI_m1 (by omega)))
            refine lv_aload_n hx hb dX2_meanDistance_41 rfl (lv_at hl 4 rfl) ?_
            refine lv_iload_n hx hb dX2_meanDistance_42 rfl (lv_at hl 1 rfl) ?_
            refine lv_iload hx hb dX2_meanDistance_43 (lv_at hl 0 rfl) ?_
            refine k_X2_farTown (M := mrow M 0 (upd (M 0) 0 (nI 0)))  (show k < ln (M 2) from (by omega)) ht9 hS1 hT SF hK (rk.le (Nat.le_of_ble_eq_true rfl)) hl.1 (Nat.le_of_ble_eq_true rfl) hP dX2_meanDistance_45 ?_
            refine u_top (y := nI (farT (M 2) (M 1) k t9)) rfl ?_
            refine lv_iadd hx hb dX2_meanDistance_48 ?_
            refine u_top (nI_add _ _) ?_
            refine u_top (y := nI (mdS (M 2) (M 1) (k + 1))) (by show _ = nI (mdS (M 2) (M 1) k + mdF (M 2) (M 1) k); rw [mdF, hE]; try rfl) ?_
            refine lv_istore_n (lv' := [(1, .int (nI (mdS (M 2) (M 1) (k + 1)))), (4, .int (nI t9)), (3, .int (nI k)), (2, .int (nI (mdN (M 2) (M 1) k))), (0, .ref (a 0))]) hx hb dX2_meanDistance_49 rfl hl (by decide) rfl (fun ls hl => ?_)
            refine lv_iload_n hx hb dX2_meanDistance_50 rfl (lv_at hl 3 rfl) ?_
            refine lv_iload hx hb dX2_meanDistance_51 (lv_at hl 1 rfl) ?_
            refine lv_iconst (v := (-1)) hx hb dX2_meanDistance_53 (by decide) ?_
            refine lv_icmp_eq (tgt := 61) hx hb dX2_meanDistance_54 (by decide) (fun c_54 => absurd c_54 (nI_m1 (by omega))) (fun c_54 => ?_)
            refine lv_iconst (v := nI 1) hx hb dX2_meanDistance_57 (by decide) ?_
            refine u_top (y := nI true.toNat) rfl ?_
            refine lv_goto (tgt := 62) hx hb dX2_meanDistance_58 (by decide) ?_
            refine k_X2_flag   SF hK (rk.le (Nat.le_of_ble_eq_true rfl)) hl.1 (Nat.le_of_ble_eq_true rfl) dX2_meanDistance_62 ?_
            refine lv_iadd hx hb dX2_meanDistance_65 ?_
            refine u_top (nI_add _ _) ?_
            refine u_top (y := nI (mdN (M 2) (M 1) (k + 1))) (by show _ = nI (mdN (M 2) (M 1) k + (dcd (M 2) (M 1) k).isSome.toNat); rw [hE]; rfl) ?_
            refine lv_istore_n (lv' := [(2, .int (nI (mdN (M 2) (M 1) (k + 1)))), (1, .int (nI (mdS (M 2) (M 1) (k + 1)))), (4, .int (nI t9)), (3, .int (nI k)), (0, .ref (a 0))]) hx hb dX2_meanDistance_66 rfl hl (by decide) rfl (fun ls hl => ?_)
            refine lv_iinc (v := nI (k + 1)) (lv' := [(3, .int (nI (k + 1))), (2, .int (nI (mdN (M 2) (M 1) (k + 1)))), (1, .int (nI (mdS (M 2) (M 1) (k + 1)))), (4, .int (nI t9)), (0, .ref (a 0))]) hx hb dX2_meanDistance_67 hl (k := 3) rfl (nI_add _ 1) (by decide) rfl (fun ls hl => ?_)
            refine lv_goto (tgt := 15) hx hb dX2_meanDistance_70 (by decide) ?_
            exact ih15 (k + 1) (by omega) (by omega) _ _ hP hS ls (lv_sub hl [0, 1, 2, 4] rfl)
    exact lp15 (ln (M 2) + 1) 0 (by omega) (by omega) _ _ hP hS ls (lv_sub hl [0, 1, 2, 3] rfl)
  · refine u_top (y := nI 1) (by rw [decide_eq_false hq0]; rfl) ?_
    refine lv_if_eq (tgt := 9) hx hb dX2_meanDistance_4 (by decide) (fun c_4 => absurd c_4 (by decide)) (fun c_4 => ?_)
    refine lv_dconst0 hx hb dX2_meanDistance_7 ?_
    exact hret _ _ _ _ _ (by rw [show thC [(lo (M 0 1), 1)] = thC [(lo (M 0 1), 1)] from thC_pre (L1 := [(lo (M 0 1), 1)]) (L2 := []) hq0, if_neg hq0]) (by rw [show thC [(lo (M 0 1), 1)] = thC [(lo (M 0 1), 1)] from thC_pre (L1 := [(lo (M 0 1), 1)]) (L2 := []) hq0]; exact hP) hS dX2_meanDistance_8

set_option maxHeartbeats 4000000 in
theorem c_X2_keepsAll (l : Launch) (dC : Nat → ClassId) (dI : Nat → Nat → Nat) (dA : Nat → ClassId) (a : Nat → Nat) (M : Nat → Nat → Int32) (hJ : mJ a) (ch : Nat) (hc : M 0 5 = nI ch) (hc8 : ch ≤ 8) : Met l yX2_keepsAll (ws_ yX2_keepsAll cX2_keepsAll 2 none) (rmD 1 0 0) (uPc [.ref (a 0)] (mP dC dI dA a M) dC dI dA) (uMv (mA a) (mP dC dI dA a (mrow (mrow M 0 (upd (M 0) 5 (nI (kpN ch)))) 3 (kpS (M 2) (M 3) ch)))) 0 0 (mA a) := by
  refine u_metMv (own := RX2) (by decide) rfl (Nat.le_of_ble_eq_true rfl) fun p e R s m args below meth c Q SF rk hP hK hret ls hl => ?_
  have hx := SF.1
  have hb := SF.2.1
  have hml := SF.2.2.1
  have hown := SF.2.2.2.1
  have hts := SF.2.2.2.2
  have hS : uS (mA a) s.heap s.heap [] := uS.rf
  have hl : lv_has ls 2 [(0, .ref (a 0))] := hl
  refine lv_aload_n hx hb dX2_keepsAll_0 rfl (lv_at hl 0 rfl) ?_
  refine va_get (D := (dC, dI)) (ci := 2) (v := .int (M 0 5)) (C := RX2) (T := TX2) (N := 22) hx hb hts in_X2 hown hK hP 0 rfl rfl 5 (by decide) (hts _ q1956) (fun _ h9 => h9) rfl dX2_keepsAll_1 ?_
  refine u_top (y := nI ch) hc ?_
  refine lv_bipush (v := nI 8) hx hb dX2_keepsAll_4 (by decide) ?_
  refine lv_icmp_ne (tgt := 50) hx hb dX2_keepsAll_6 (by decide) (fun c_6 => ?_) (fun c_6 => ?_)
  · have c_6 : ¬ (ch = 8) := fun q9 => c_6 ((nI_eq (a := ch) (b := 8) (by omega) (by omega)).mpr q9)
    refine lv_aload_n hx hb dX2_keepsAll_50 rfl (lv_at hl 0 rfl) ?_
    refine va_get (D := (dC, dI)) (ci := 2) (v := .ref (a 2)) (C := RX2) (T := TX2) (N := 22) hx hb hts in_X2 hown hK hP 0 rfl rfl 3 (by decide) (hts _ q1954) (fun _ h9 => h9) rfl dX2_keepsAll_51 ?_
    refine lv_iconst (v := nI 0) hx hb dX2_keepsAll_54 (by decide) ?_
    refine lv_aload_n hx hb dX2_keepsAll_55 rfl (lv_at hl 0 rfl) ?_
    refine va_get (D := (dC, dI)) (ci := 2) (v := .ref (a 3)) (C := RX2) (T := TX2) (N := 22) hx hb hts in_X2 hown hK hP 0 rfl rfl 4 (by decide) (hts _ q1955) (fun _ h9 => h9) rfl dX2_keepsAll_56 ?_
    refine lv_sipush (v := nI 273) hx hb dX2_keepsAll_59 (by decide) ?_
    refine lv_iconst (v := nI 0) hx hb dX2_keepsAll_62 (by decide) ?_
    refine lv_aload_n hx hb dX2_keepsAll_63 rfl (lv_at hl 0 rfl) ?_
    refine va_get (D := (dC, dI)) (ci := 2) (v := .int (M 0 5)) (C := RX2) (T := TX2) (N := 22) hx hb hts in_X2 hown hK hP 0 rfl rfl 5 (by decide) (hts _ q1956) (fun _ h9 => h9) rfl dX2_keepsAll_64 ?_
    refine u_top (y := nI ch) hc ?_
    refine lv_iadd hx hb dX2_keepsAll_67 ?_
    refine u_top (nI_add _ _) ?_
    refine lv_imul hx hb dX2_keepsAll_68 ?_
    refine u_top (pk_mul _ _) ?_
    refine k_X2_copiesA  hJ (by omega) (by omega) SF hK (rk.le (Nat.le_of_ble_eq_true rfl)) hl.1 (Nat.le_of_ble_eq_true rfl) hP hS dX2_keepsAll_69 (fun H locs hP hS => ?_)
    have hP : mP dC dI dA a (mrow M 3 (va_cpy (M 2) (M 3) 0 (273 * (0 + ch)) 273)) H := hP
    refine lv_aload_n hx hb dX2_keepsAll_72 rfl (lv_at hl 0 rfl) ?_
    refine lv_dup hx hb dX2_keepsAll_73 rfl ?_
    refine va_get (D := (dC, dI)) (ci := 2) (v := .int (M 0 5)) (C := RX2) (T := TX2) (N := 22) hx hb hts in_X2 hown hK hP 0 rfl rfl 5 (by decide) (hts _ q1956) (fun _ h9 => h9) rfl dX2_keepsAll_74 ?_
    refine u_top (y := nI ch) hc ?_
    refine lv_iconst (v := nI 1) hx hb dX2_keepsAll_77 (by decide) ?_
    refine lv_iadd hx hb dX2_keepsAll_78 ?_
    refine u_top (nI_add _ _) ?_
    refine m_pf_changes SF hK hJ hP hS dX2_keepsAll_79 (fun H locs hP hS => ?_)
    have hP : mP dC dI dA a (mrow (mrow M 0 (upd (M 0) 5 (nI (ch + 1)))) 3 (va_cpy (M 2) (M 3) 0 (273 * (0 + ch)) 273)) H := hP
    exact hret _ _ _ _ (by rw [kpN, kpS, if_neg (by omega), if_neg (by omega)]; exact hP) hS dX2_keepsAll_82
  · have c_6 : ch = 8 := (nI_eq (a := ch) (b := 8) (by omega) (by omega)).mp c_6
    refine lv_iconst (v := nI 0) hx hb dX2_keepsAll_9 (by decide) ?_
    refine lv_istore_n (lv' := [(1, .int (nI 0)), (0, .ref (a 0))]) hx hb dX2_keepsAll_10 rfl hl (by decide) rfl (fun ls hl => ?_)
    have lp11 : ∀ (k0 : Nat) (k : Nat), k ≤ 1911 → 1911 < k + k0 → ∀ (H : Heap) (locs : List Loc), mP dC dI dA a (mrow M 3 (shK (M 3) k)) H → uS (mA a) s.heap H locs → ∀ ls : Array Slot, lv_has ls 2 [(1, .int (nI k)), (0, .ref (a 0))] → W p l e R s m args below meth c H locs 0 0 Q (F0 m 11 ls []) := by
      intro k0
      induction k0 with
      | zero =>
        intro k hk1 hk2; omega
      | succ k0 ih =>
        intro k hk1 hk2 H locs hP hS ls hl
        have ih11 := ih
        refine lv_iload_n hx hb dX2_keepsAll_11 rfl (lv_at hl 0 rfl) ?_
        refine lv_sipush (v := nI 1911) hx hb dX2_keepsAll_12 (by decide) ?_
        refine lv_icmp_ge (tgt := 40) hx hb dX2_keepsAll_15 (by decide) (fun c_15 => ?_) (fun c_15 => ?_)
        · have c_15 : 1911 ≤ k := (nI_leI (a := 1911) (b := k) (by omega) (by omega)).mp c_15
          refine lv_aload_n hx hb dX2_keepsAll_40 rfl (lv_at hl 1 rfl) ?_
          refine lv_dup hx hb dX2_keepsAll_41 rfl ?_
          refine va_get (D := (dC, dI)) (ci := 2) (v := .int (M 0 5)) (C := RX2) (T := TX2) (N := 22) hx hb hts in_X2 hown hK hP 0 rfl rfl 5 (by decide) (hts _ q1956) (fun _ h9 => h9) rfl dX2_keepsAll_42 ?_
          refine u_top (y := nI ch) hc ?_
          refine lv_iconst (v := nI 1) hx hb dX2_keepsAll_45 (by decide) ?_
          refine lv_isub hx hb dX2_keepsAll_46 ?_
          refine u_top (pk_sub (by omega)) ?_
          refine m_pf_changes SF hK hJ hP hS dX2_keepsAll_47 (fun H locs hP hS => ?_)
          have hP : mP dC dI dA a (mrow (mrow M 0 (upd (M 0) 5 (nI (ch - 1)))) 3 (shK (M 3) k)) H := hP
          refine lv_aload_n hx hb dX2_keepsAll_50 rfl (lv_at hl 1 rfl) ?_
          refine va_get (D := (dC, dI)) (ci := 2) (v := .ref (a 2)) (C := RX2) (T := TX2) (N := 22) hx hb hts in_X2 hown hK hP 0 rfl rfl 3 (by decide) (hts _ q1954) (fun _ h9 => h9) rfl dX2_keepsAll_51 ?_
          refine lv_iconst (v := nI 0) hx hb dX2_keepsAll_54 (by decide) ?_
          refine lv_aload_n hx hb dX2_keepsAll_55 rfl (lv_at hl 1 rfl) ?_
          refine va_get (D := (dC, dI)) (ci := 2) (v := .ref (a 3)) (C := RX2) (T := TX2) (N := 22) hx hb hts in_X2 hown hK hP 0 rfl rfl 4 (by decide) (hts _ q1955) (fun _ h9 => h9) rfl dX2_keepsAll_56 ?_
          refine lv_sipush (v := nI 273) hx hb dX2_keepsAll_59 (by decide) ?_
          refine lv_iconst (v := nI 0) hx hb dX2_keepsAll_62 (by decide) ?_
          refine lv_aload_n hx hb dX2_keepsAll_63 rfl (lv_at hl 1 rfl) ?_
          refine va_get (D := (dC, dI)) (ci := 2) (v := .int (nI (ch - 1))) (C := RX2) (T := TX2) (N := 22) hx hb hts in_X2 hown hK hP 0 rfl rfl 5 (by decide) (hts _ q1956) (fun _ h9 => h9) rfl dX2_keepsAll_64 ?_
          refine lv_iadd hx hb dX2_keepsAll_67 ?_
          refine u_top (nI_add _ _) ?_
          refine lv_imul hx hb dX2_keepsAll_68 ?_
          refine u_top (pk_mul _ _) ?_
          refine k_X2_copiesA (M := mrow (mrow M 0 (upd (M 0) 5 (nI (ch - 1)))) 3 (shK (M 3) k))  hJ (by omega) (by omega) SF hK (rk.le (Nat.le_of_ble_eq_true rfl)) hl.1 (Nat.le_of_ble_eq_true rfl) hP hS dX2_keepsAll_69 (fun H locs hP hS => ?_)
          have hP : mP dC dI dA a (mrow (mrow M 0 (upd (M 0) 5 (nI (ch - 1)))) 3 (va_cpy (M 2) (shK (M 3) k) 0 (273 * (0 + (ch - 1))) 273)) H := hP
          refine lv_aload_n hx hb dX2_keepsAll_72 rfl (lv_at hl 1 rfl) ?_
          refine lv_dup hx hb dX2_keepsAll_73 rfl ?_
          refine va_get (D := (dC, dI)) (ci := 2) (v := .int (nI (ch - 1))) (C := RX2) (T := TX2) (N := 22) hx hb hts in_X2 hown hK hP 0 rfl rfl 5 (by decide) (hts _ q1956) (fun _ h9 => h9) rfl dX2_keepsAll_74 ?_
          refine lv_iconst (v := nI 1) hx hb dX2_keepsAll_77 (by decide) ?_
          refine lv_iadd hx hb dX2_keepsAll_78 ?_
          refine u_top (nI_add _ _) ?_
          refine m_pf_changes SF hK hJ hP hS dX2_keepsAll_79 (fun H locs hP hS => ?_)
          have hP : mP dC dI dA a (mrow (mrow M 0 (upd (M 0) 5 (nI (ch - 1 + 1)))) 3 (va_cpy (M 2) (shK (M 3) k) 0 (273 * (0 + (ch - 1))) 273)) H := hP
          exact hret _ _ _ _ (by have h8 : ch = 8 := (by omega); subst h8; have hk : k = 1911 := (by omega); rw [hk] at hP; exact hP) hS dX2_keepsAll_82
        · have c_15 : ¬ (1911 ≤ k) := fun q9 => c_15 ((nI_leI (a := 1911) (b := k) (by omega) (by omega)).mpr q9)
          refine lv_aload_n hx hb dX2_keepsAll_18 rfl (lv_at hl 1 rfl) ?_
          refine va_get (D := (dC, dI)) (ci := 2) (v := .ref (a 3)) (C := RX2) (T := TX2) (N := 22) hx hb hts in_X2 hown hK hP 0 rfl rfl 4 (by decide) (hts _ q1955) (fun _ h9 => h9) rfl dX2_keepsAll_19 ?_
          refine lv_iload_n hx hb dX2_keepsAll_22 rfl (lv_at hl 0 rfl) ?_
          refine lv_aload_n hx hb dX2_keepsAll_23 rfl (lv_at hl 1 rfl) ?_
          refine va_get (D := (dC, dI)) (ci := 2) (v := .ref (a 3)) (C := RX2) (T := TX2) (N := 22) hx hb hts in_X2 hown hK hP 0 rfl rfl 4 (by decide) (hts _ q1955) (fun _ h9 => h9) rfl dX2_keepsAll_24 ?_
          refine lv_iload_n hx hb dX2_keepsAll_27 rfl (lv_at hl 0 rfl) ?_
          refine lv_sipush (v := nI 273) hx hb dX2_keepsAll_28 (by decide) ?_
          refine lv_iadd hx hb dX2_keepsAll_31 ?_
          refine u_top (nI_add _ _) ?_
          refine u_iald hx hb hK hP 3 0 rfl rfl (i := k + 273) (by omega) (by decide) dX2_keepsAll_32 ?_
          refine u_top (y := (shK (M 3) k) (k + 273)) rfl ?_
          refine m_as3 SF hK hJ hP hS (i := k) (by omega) dX2_keepsAll_33 (fun H locs hP hS => ?_)
          have hP : mP dC dI dA a (mrow M 3 (upd (shK (M 3) k) k ((shK (M 3) k) (k + 273)))) H := hP
          refine lv_iinc (v := nI (k + 1)) (lv' := [(1, .int (nI (k + 1))), (0, .ref (a 0))]) hx hb dX2_keepsAll_34 hl (k := 0) rfl (nI_add _ 1) (by decide) rfl (fun ls hl => ?_)
          refine lv_goto (tgt := 11) hx hb dX2_keepsAll_37 (by decide) ?_
          exact ih11 (k + 1) (by omega) (by omega) _ _ (by rw [← shK_s]; exact hP) hS ls (lv_sub hl [0, 1] rfl)
    exact lp11 (1911 + 1) 0 (by omega) (by omega) _ _ (by rw [shK_0]; exact hP) hS ls (lv_sub hl [0, 1] rfl)
theorem k_X2_keepsAll (hJ : mJ a) {ch : Nat} (hc : M 0 5 = nI ch) (hc8 : ch ≤ 8) (SF : CallFix p m c cc nL s args lw_all RX2) (hK : KK dC dI dA s) (rk : rmOK 2 R) (hsz : ls.size = nL) (hcat : (rest.map fun v => v.category).sum ≤ 8) (hP : mP dC dI dA a M H) (hS : uS (mA a) H0 H locs) (hdg : decode cc pc = .ok (.invokevirtual 375, 3)) (k : ∀ (H1 : Heap) (locs1 : List Loc), mP dC dI dA a (mrow (mrow M 0 (upd (M 0) 5 (nI (kpN ch)))) 3 (kpS (M 2) (M 3) ch)) H1 → uS (mA a) H0 H1 locs1 → W p l e R s m args below meth c H1 locs1 0 0 Q (F0 m (pc + 3) ls (rest))) : W p l e R s m args below meth c H locs 0 0 Q (F0 m pc ls (.ref (a 0) :: rest)) :=
  u_runMv (u_rV (C := RX2) (Ψ := (mP dC dI dA a M)) (As := []) SF hK rk (c_X2_keepsAll l dC dI dA a M hJ ch hc hc8) (lw_V q2507 q2509 qs110 q117 q2510) (n := 0) (by decide +kernel) rfl (by decide) (va_recv hK hP (ci := 2) (q0 := 0) rfl rfl) hP hsz hcat ⟨Nat.zero_le _, Nat.zero_le _⟩ rfl hdg) hS (fun _ h => h) (fun H1 locs1 h1 h2 _ => k H1 locs1 h1 h2)
end TW
