set_option maxRecDepth 100000
section TW
variable {p : Program} {l : Launch} {e : Env} {R : Room} {s : State} {m : MethodId} {args : Array Value} {below : List Frame} {meth : Method} {c : Code} {H : Heap} {locs : List Loc} {Q : State → Prop}
variable {cc : ByteArray} {pc nL : Nat} {ls : Array Slot} {rest : List Value} {dC : Nat → ClassId} {dI : Nat → Nat → Nat} {dA : Nat → ClassId} {a : Nat → Nat} {M : Nat → Nat → Int32} {H0 : Heap}

set_option maxHeartbeats 4000000 in
theorem c_X2_append (l : Launch) (dC : Nat → ClassId) (dI : Nat → Nat → Nat) (dA : Nat → ClassId) (a : Nat → Nat) (M : Nat → Nat → Int32) (hJ : mJ a) (x1 : Int32) (x2 : Int32) (x3 : Int32) (x4 : Int32) (x5 : Int32) (bf : Nat) (hbf : M 0 8 = nI bf) (hb6 : bf ≤ 600) : Met l yX2_append (ws_ yX2_append cX2_append 8 (some .int)) (rmD 0 0 0) (uPc [.ref (a 0), .int x1, .int x2, .int x3, .int x4, .int x5] (mP dC dI dA a M) dC dI dA) (uMi (mA a) (if bf + 20 ≤ 600 then nI (bf + 20) else (-1)) (mP dC dI dA a (if bf + 20 ≤ 600 then mrow (mrow M 0 (upd (upd (M 0) 0 (nI 0)) 8 (nI (bf + 20)))) 5 (apK (M 5) bf (apB x1 x2 x3 x4 x5) 20) else mrow M 0 (upd (M 0) 0 (nI 0))))) 0 0 (mA a) := by
  refine u_metMi (own := RX2) (by decide) rfl (Nat.le_of_ble_eq_true rfl) fun p e R s m args below meth c Q SF rk hP hK hret ls hl => ?_
  have hx := SF.1
  have hb := SF.2.1
  have hml := SF.2.2.1
  have hown := SF.2.2.2.1
  have hts := SF.2.2.2.2
  have hS : uS (mA a) s.heap s.heap [] := uS.rf
  have hl : lv_has ls 8 [(0, .ref (a 0)), (1, .int x1), (2, .int x2), (3, .int x3), (4, .int x4), (5, .int x5)] := hl
  refine lv_aload_n hx hb dX2_append_0 rfl (lv_at hl 0 rfl) ?_
  refine lv_iconst (v := nI 0) hx hb dX2_append_1 (by decide) ?_
  refine m_pf_thrown SF hK hJ hP hS dX2_append_2 (fun H locs hP hS => ?_)
  have hP : mP dC dI dA a (mrow M 0 (upd (M 0) 0 (nI 0))) H := hP
  refine lv_aload_n hx hb dX2_append_5 rfl (lv_at hl 0 rfl) ?_
  refine va_get (D := (dC, dI)) (ci := 2) (v := .int (M 0 8)) (C := RX2) (T := TX2) (N := 22) hx hb hts in_X2 hown hK hP 0 rfl rfl 8 (by decide) (hts _ q1959) (fun _ h9 => h9) rfl dX2_append_6 ?_
  refine u_top (y := nI bf) hbf ?_
  refine lv_bipush (v := nI 20) hx hb dX2_append_9 (by decide) ?_
  refine lv_iadd hx hb dX2_append_11 ?_
  refine u_top (nI_add _ _) ?_
  refine lv_sipush (v := nI 600) hx hb dX2_append_12 (by decide) ?_
  refine lv_icmp_le (tgt := 20) hx hb dX2_append_15 (by decide) (fun c_15 => ?_) (fun c_15 => ?_)
  · have c_15 : bf + 20 ≤ 600 := (nI_leI (a := bf + 20) (b := 600) (by omega) (by omega)).mp c_15
    refine lv_iconst (v := nI 0) hx hb dX2_append_20 (by decide) ?_
    refine lv_istore (lv' := [(6, .int (nI 0)), (0, .ref (a 0)), (1, .int x1), (2, .int x2), (3, .int x3), (4, .int x4), (5, .int x5)]) hx hb dX2_append_21 hl (by decide) rfl (fun ls hl => ?_)
    have lp23 : ∀ (k0 : Nat) (k : Nat), k ≤ 20 → 20 < k + k0 → ∀ (H : Heap) (locs : List Loc), mP dC dI dA a (mrow (mrow M 0 (upd (M 0) 0 (nI 0))) 5 (apK (M 5) bf (apB x1 x2 x3 x4 x5) k)) H → uS (mA a) s.heap H locs → ∀ ls : Array Slot, lv_has ls 8 [(6, .int (nI k)), (0, .ref (a 0)), (1, .int x1), (2, .int x2), (3, .int x3), (4, .int x4), (5, .int x5)] → W p l e R s m args below meth c H locs 0 0 Q (F0 m 23 ls []) := by
      intro k0
      induction k0 with
      | zero =>
        intro k hk1 hk2; omega
      | succ k0 ih =>
        intro k hk1 hk2 H locs hP hS ls hl
        have ih23 := ih
        refine lv_iload hx hb dX2_append_23 (lv_at hl 0 rfl) ?_
        refine lv_bipush (v := nI 20) hx hb dX2_append_25 (by decide) ?_
        refine lv_icmp_ge (tgt := 113) hx hb dX2_append_27 (by decide) (fun c_27 => ?_) (fun c_27 => ?_)
        · have c_27 : 20 ≤ k := (nI_leI (a := 20) (b := k) (by omega) (by omega)).mp c_27
          refine lv_aload_n hx hb dX2_append_113 rfl (lv_at hl 1 rfl) ?_
          refine lv_dup hx hb dX2_append_114 rfl ?_
          refine va_get (D := (dC, dI)) (ci := 2) (v := .int (M 0 8)) (C := RX2) (T := TX2) (N := 22) hx hb hts in_X2 hown hK hP 0 rfl rfl 8 (by decide) (hts _ q1959) (fun _ h9 => h9) rfl dX2_append_115 ?_
          refine u_top (y := nI bf) hbf ?_
          refine lv_bipush (v := nI 20) hx hb dX2_append_118 (by decide) ?_
          refine lv_iadd hx hb dX2_append_120 ?_
          refine u_top (nI_add _ _) ?_
          refine m_pf_buffered SF hK hJ hP hS dX2_append_121 (fun H locs hP hS => ?_)
          have hP : mP dC dI dA a (mrow (mrow M 0 (upd (upd (M 0) 0 (nI 0)) 8 (nI (bf + 20)))) 5 (apK (M 5) bf (apB x1 x2 x3 x4 x5) k)) H := hP
          refine lv_aload_n hx hb dX2_append_124 rfl (lv_at hl 1 rfl) ?_
          refine va_get (D := (dC, dI)) (ci := 2) (v := .int (nI (bf + 20))) (C := RX2) (T := TX2) (N := 22) hx hb hts in_X2 hown hK hP 0 rfl rfl 8 (by decide) (hts _ q1959) (fun _ h9 => h9) rfl dX2_append_125 ?_
          exact hret _ _ _ _ _ (by rw [if_pos (by omega)]) (by rw [if_pos (by omega)]; have h20 : k = 20 := (by omega); rw [h20] at hP; exact hP) hS dX2_append_128
        · have c_27 : ¬ (20 ≤ k) := fun q9 => c_27 ((nI_leI (a := 20) (b := k) (by omega) (by omega)).mpr q9)
          refine lv_iload hx hb dX2_append_30 (lv_at hl 0 rfl) ?_
          refine lv_iconst (v := nI 4) hx hb dX2_append_32 (by decide) ?_
          have jn76 : ∀ v9 : Int32, v9 = apX x1 x2 x3 x4 x5 k → ∀ (H : Heap) (locs : List Loc), mP dC dI dA a (mrow (mrow M 0 (upd (M 0) 0 (nI 0))) 5 (apK (M 5) bf (apB x1 x2 x3 x4 x5) k)) H → uS (mA a) s.heap H locs → ∀ ls : Array Slot, lv_has ls 8 [(6, .int (nI k)), (0, .ref (a 0)), (1, .int x1), (2, .int x2), (3, .int x3), (4, .int x4), (5, .int x5)] → W p l e R s m args below meth c H locs 0 0 Q (F0 m 76 ls [.int v9]) := by
            intro v9 hv9 H locs hP hS ls hl
            subst hv9
            refine lv_istore (lv' := [(7, .int (apX x1 x2 x3 x4 x5 k)), (6, .int (nI k)), (0, .ref (a 0)), (1, .int x1), (2, .int x2), (3, .int x3), (4, .int x4), (5, .int x5)]) hx hb dX2_append_76 hl (by decide) rfl (fun ls hl => ?_)
            refine lv_aload_n hx hb dX2_append_78 rfl (lv_at hl 2 rfl) ?_
            refine va_get (D := (dC, dI)) (ci := 2) (v := .ref (a 5)) (C := RX2) (T := TX2) (N := 22) hx hb hts in_X2 hown hK hP 0 rfl rfl 7 (by decide) (hts _ q1958) (fun _ h9 => h9) rfl dX2_append_79 ?_
            refine lv_aload_n hx hb dX2_append_82 rfl (lv_at hl 2 rfl) ?_
            refine va_get (D := (dC, dI)) (ci := 2) (v := .int (M 0 8)) (C := RX2) (T := TX2) (N := 22) hx hb hts in_X2 hown hK hP 0 rfl rfl 8 (by decide) (hts _ q1959) (fun _ h9 => h9) rfl dX2_append_83 ?_
            refine u_top (y := nI bf) hbf ?_
            refine lv_iload hx hb dX2_append_86 (lv_at hl 1 rfl) ?_
            refine lv_iadd hx hb dX2_append_88 ?_
            refine u_top (nI_add _ _) ?_
            refine lv_iload hx hb dX2_append_89 (lv_at hl 0 rfl) ?_
            refine lv_bipush (v := nI 24) hx hb dX2_append_91 (by decide) ?_
            refine lv_bipush (v := nI 8) hx hb dX2_append_93 (by decide) ?_
            refine lv_iload hx hb dX2_append_95 (lv_at hl 1 rfl) ?_
            refine lv_iconst (v := nI 4) hx hb dX2_append_97 (by decide) ?_
            refine lv_irem hx hb dX2_append_98 (by decide) ?_
            refine u_top (pk_rem (by omega) (by omega) (by omega)) ?_
            refine lv_imul hx hb dX2_append_99 ?_
            refine u_top (pk_mul _ _) ?_
            refine lv_isub hx hb dX2_append_100 ?_
            refine u_top (pk_sub (by omega)) ?_
            refine lv_ishr hx hb dX2_append_101 ?_
            refine lv_sipush (v := nI 255) hx hb dX2_append_102 (by decide) ?_
            refine lv_iand hx hb dX2_append_105 ?_
            refine m_as5 SF hK hJ hP hS (i := bf + k) (by omega) dX2_append_106 (fun H locs hP hS => ?_)
            have hP : mP dC dI dA a (mrow (mrow M 0 (upd (M 0) 0 (nI 0))) 5 (upd (apK (M 5) bf (apB x1 x2 x3 x4 x5) k) (bf + k) (((apX x1 x2 x3 x4 x5 k) >>> ((nI (24 - (8 * (k % 4)))) &&& 31)) &&& (nI 255)))) H := hP
            refine lv_iinc (v := nI (k + 1)) (lv' := [(6, .int (nI (k + 1))), (7, .int (apX x1 x2 x3 x4 x5 k)), (0, .ref (a 0)), (1, .int x1), (2, .int x2), (3, .int x3), (4, .int x4), (5, .int x5)]) hx hb dX2_append_107 hl (k := 1) rfl (nI_add _ 1) (by decide) rfl (fun ls hl => ?_)
            refine lv_goto (tgt := 23) hx hb dX2_append_110 (by decide) ?_
            exact ih23 (k + 1) (by omega) (by omega) _ _ hP hS ls (lv_sub hl [0, 2, 3, 4, 5, 6, 7] rfl)
          refine lv_icmp_ge (tgt := 40) hx hb dX2_append_33 (by decide) (fun c_33 => ?_) (fun c_33 => ?_)
          · have c_33 : 4 ≤ k := (nI_leI (a := 4) (b := k) (by omega) (by omega)).mp c_33
            refine lv_iload hx hb dX2_append_40 (lv_at hl 0 rfl) ?_
            refine lv_bipush (v := nI 8) hx hb dX2_append_42 (by decide) ?_
            refine lv_icmp_ge (tgt := 51) hx hb dX2_append_44 (by decide) (fun c_44 => ?_) (fun c_44 => ?_)
            · have c_44 : 8 ≤ k := (nI_leI (a := 8) (b := k) (by omega) (by omega)).mp c_44
              refine lv_iload hx hb dX2_append_51 (lv_at hl 0 rfl) ?_
              refine lv_bipush (v := nI 12) hx hb dX2_append_53 (by decide) ?_
              refine lv_icmp_ge (tgt := 62) hx hb dX2_append_55 (by decide) (fun c_55 => ?_) (fun c_55 => ?_)
              · have c_55 : 12 ≤ k := (nI_leI (a := 12) (b := k) (by omega) (by omega)).mp c_55
                refine lv_iload hx hb dX2_append_62 (lv_at hl 0 rfl) ?_
                refine lv_bipush (v := nI 16) hx hb dX2_append_64 (by decide) ?_
                refine lv_icmp_ge (tgt := 74) hx hb dX2_append_66 (by decide) (fun c_66 => ?_) (fun c_66 => ?_)
                · have c_66 : 16 ≤ k := (nI_leI (a := 16) (b := k) (by omega) (by omega)).mp c_66
                  refine lv_iload hx hb dX2_append_74 (lv_at hl 6 rfl) ?_
                  exact jn76 _ (apX_5 (by omega)) _ _ hP hS ls (lv_sub hl [0, 1, 2, 3, 4, 5, 6] rfl)
                · have c_66 : ¬ (16 ≤ k) := fun q9 => c_66 ((nI_leI (a := 16) (b := k) (by omega) (by omega)).mpr q9)
                  refine lv_iload hx hb dX2_append_69 (lv_at hl 5 rfl) ?_
                  refine lv_goto (tgt := 76) hx hb dX2_append_71 (by decide) ?_
                  exact jn76 _ (apX_4 (by omega) (by omega)) _ _ hP hS ls (lv_sub hl [0, 1, 2, 3, 4, 5, 6] rfl)
              · have c_55 : ¬ (12 ≤ k) := fun q9 => c_55 ((nI_leI (a := 12) (b := k) (by omega) (by omega)).mpr q9)
                refine lv_iload_n hx hb dX2_append_58 rfl (lv_at hl 4 rfl) ?_
                refine lv_goto (tgt := 76) hx hb dX2_append_59 (by decide) ?_
                exact jn76 _ (apX_3 (by omega) (by omega)) _ _ hP hS ls (lv_sub hl [0, 1, 2, 3, 4, 5, 6] rfl)
            · have c_44 : ¬ (8 ≤ k) := fun q9 => c_44 ((nI_leI (a := 8) (b := k) (by omega) (by omega)).mpr q9)
              refine lv_iload_n hx hb dX2_append_47 rfl (lv_at hl 3 rfl) ?_
              refine lv_goto (tgt := 76) hx hb dX2_append_48 (by decide) ?_
              exact jn76 _ (apX_2 (by omega) (by omega)) _ _ hP hS ls (lv_sub hl [0, 1, 2, 3, 4, 5, 6] rfl)
          · have c_33 : ¬ (4 ≤ k) := fun q9 => c_33 ((nI_leI (a := 4) (b := k) (by omega) (by omega)).mpr q9)
            refine lv_iload_n hx hb dX2_append_36 rfl (lv_at hl 2 rfl) ?_
            refine lv_goto (tgt := 76) hx hb dX2_append_37 (by decide) ?_
            exact jn76 _ (apX_1 (by omega)) _ _ hP hS ls (lv_sub hl [0, 1, 2, 3, 4, 5, 6] rfl)
    exact lp23 (20 + 1) 0 (by omega) (by omega) _ _ hP hS ls (lv_sub hl [0, 1, 2, 3, 4, 5, 6] rfl)
  · have c_15 : ¬ (bf + 20 ≤ 600) := fun q9 => c_15 ((nI_leI (a := bf + 20) (b := 600) (by omega) (by omega)).mpr q9)
    refine lv_iconst (v := (-1)) hx hb dX2_append_18 (by decide) ?_
    exact hret _ _ _ _ _ (by rw [if_neg (by omega)]) (by rw [if_neg (by omega)]; exact hP) hS dX2_append_19
end TW
