set_option maxRecDepth 100000
section TW
variable {p : Program} {l : Launch} {e : Env} {R : Room} {s : State} {m : MethodId} {args : Array Value} {below : List Frame} {meth : Method} {c : Code} {H : Heap} {locs : List Loc} {Q : State → Prop}
variable {cc : ByteArray} {pc nL : Nat} {ls : Array Slot} {rest : List Value} {dC : Nat → ClassId} {dI : Nat → Nat → Nat} {dA : Nat → ClassId} {a : Nat → Nat} {M : Nat → Nat → Int32} {H0 : Heap}

set_option maxHeartbeats 4000000 in
theorem c_X2_isWord (l : Launch) (dC : Nat → ClassId) (dI : Nat → Nat → Nat) (dA : Nat → ClassId) (a : Nat → Nat) (M : Nat → Nat → Int32) (q : Nat) (v : Nat) (n : Nat) (g : Nat → Nat) (hW : PW M) (hn : n < 100) (hg : ∀ j, j < n → g j < 256) : Met l yX2_isWord (ws_ yX2_isWord cX2_isWord 3 (some .boolean)) (rmD 4 0 0) (uPx [.ref (a 0), .ref q] (fun U H => mP dC dI dA a M H ∧ (fun U H => SV q v n (fun j => nI (g j)) U H ∧ CS U H) U H) dC dI dA) (uQi (nI (wrdB M n g).toNat)) 0 0 noF := by
  refine x_metz (own := RX2) (by decide) rfl (Nat.le_of_ble_eq_true rfl) fun p e R s m args below meth c Q SF rk hP hK hret ls hl => ?_
  have hE := hP.2
  have hP := hP.1
  have hx := SF.1
  have hb := SF.2.1
  have hml := SF.2.2.1
  have hown := SF.2.2.2.1
  have hts := SF.2.2.2.2
  have hl : lv_has ls 3 [(0, .ref (a 0)), (1, .ref q)] := hl
  have hbl := hW.1
  have hb6 := hW.2.1
  have hnb := hW.2.2.2.1
  have hfx := hW.2.2.2.2.1
  have hfn := hW.2.2.2.2.2.1
  have h12 := hW.2.2.1
  refine lv_aload_n hx hb dX2_isWord_0 rfl (lv_at hl 0 rfl) ?_
  refine va_get (D := (dC, dI)) (ci := 2) (v := .int (M 0 16)) (C := RX2) (T := TX2) (N := 22) hx hb hts in_X2 hown hK hP 0 rfl rfl 16 (by decide) (hts _ q1967) (fun _ h9 => h9) rfl dX2_isWord_1 ?_
  refine lv_if_ne (tgt := 31) hx hb dX2_isWord_4 (by decide) (fun c_4 => ?_) (fun c_4 => ?_)
  · refine lv_iconst (v := nI 0) hx hb dX2_isWord_31 (by decide) ?_
    exact hret _ _ _ (u_ff (by first | (simp [wrdB, c_4]; done) | (simp [wrdB, c_12]; done) | (rw [wrdB, decide_eq_false c_28]; simp))) dX2_isWord_32
  · refine lv_aload_n hx hb dX2_isWord_7 rfl (lv_at hl 0 rfl) ?_
    refine va_get (D := (dC, dI)) (ci := 2) (v := .int (M 0 14)) (C := RX2) (T := TX2) (N := 22) hx hb hts in_X2 hown hK hP 0 rfl rfl 14 (by decide) (hts _ q1965) (fun _ h9 => h9) rfl dX2_isWord_8 ?_
    refine lv_iconst (v := nI 1) hx hb dX2_isWord_11 (by decide) ?_
    refine lv_icmp_ne (tgt := 31) hx hb dX2_isWord_12 (by decide) (fun c_12 => ?_) (fun c_12 => ?_)
    · refine lv_iconst (v := nI 0) hx hb dX2_isWord_31 (by decide) ?_
      exact hret _ _ _ (u_ff (by first | (simp [wrdB, c_4]; done) | (simp [wrdB, c_12]; done) | (rw [wrdB, decide_eq_false c_28]; simp))) dX2_isWord_32
    · refine lv_aload_n hx hb dX2_isWord_15 rfl (lv_at hl 0 rfl) ?_
      refine va_get (D := (dC, dI)) (ci := 2) (v := .int (M 0 12)) (C := RX2) (T := TX2) (N := 22) hx hb hts in_X2 hown hK hP 0 rfl rfl 12 (by decide) (hts _ q1963) (fun _ h9 => h9) rfl dX2_isWord_16 ?_
      refine u_top (y := nI (nx M)) h12 ?_
      refine lv_aload_n hx hb dX2_isWord_19 rfl (lv_at hl 0 rfl) ?_
      refine va_get (D := (dC, dI)) (ci := 2) (v := .int (M 0 13)) (C := RX2) (T := TX2) (N := 22) hx hb hts in_X2 hown hK hP 0 rfl rfl 13 (by decide) (hts _ q1964) (fun _ h9 => h9) rfl dX2_isWord_20 ?_
      refine u_top (y := nI (fr M)) hfx ?_
      refine lv_isub hx hb dX2_isWord_23 ?_
      refine u_top (pk_sub (by omega)) ?_
      refine lv_aload_n hx hb dX2_isWord_24 rfl (lv_at hl 1 rfl) ?_
      refine u_run (x_rV (C := RJ9) (As := []) SF hK (d := 1) (rk.le (Nat.le_of_ble_eq_true rfl)) (c_J9_length l dC dI dA q v n g ) (lw_V q2082 q676 q677 q123 q678) (n := 0) (by decide +kernel) rfl (by decide) (hE.1.recv) (SV.ok.and CS.ok) (hE) hl.1 (Nat.le_of_ble_eq_true rfl) ⟨Nat.zero_le _, Nat.zero_le _⟩ rfl dX2_isWord_25) ?_
      refine lv_icmp_eq (tgt := 33) hx hb dX2_isWord_28 (by decide) (fun c_28 => ?_) (fun c_28 => ?_)
      · have c_28 : (nx M) - (fr M) = n := (nI_eq (a := (nx M) - (fr M)) (b := n) (by omega) (by omega)).mp c_28
        refine lv_iconst (v := nI 0) hx hb dX2_isWord_33 (by decide) ?_
        refine lv_istore_n (lv' := [(2, .int (nI 0)), (0, .ref (a 0)), (1, .ref q)]) hx hb dX2_isWord_34 rfl hl (by decide) rfl (fun ls hl => ?_)
        have lp35 : ∀ (k0 : Nat) (k : Nat), k ≤ n → alN (fun i => decide (sn M (fr M + i) = nI (g i))) k = true → n < k + k0 → ∀ ls : Array Slot, lv_has ls 3 [(2, .int (nI k)), (0, .ref (a 0)), (1, .ref q)] → W p l e R s m args below meth c s.heap [] 0 0 Q (F0 m 35 ls []) := by
          intro k0
          induction k0 with
          | zero =>
            intro k hk1 hka hk2; omega
          | succ k0 ih =>
            intro k hk1 hka hk2 ls hl
            have ih35 := ih
            refine lv_iload_n hx hb dX2_isWord_35 rfl (lv_at hl 0 rfl) ?_
            refine lv_aload_n hx hb dX2_isWord_36 rfl (lv_at hl 2 rfl) ?_
            refine u_run (x_rV (C := RJ9) (As := []) SF hK (d := 1) (rk.le (Nat.le_of_ble_eq_true rfl)) (c_J9_length l dC dI dA q v n g ) (lw_V q2082 q676 q677 q123 q678) (n := 0) (by decide +kernel) rfl (by decide) (hE.1.recv) (SV.ok.and CS.ok) (hE) hl.1 (Nat.le_of_ble_eq_true rfl) ⟨Nat.zero_le _, Nat.zero_le _⟩ rfl dX2_isWord_37) ?_
            refine lv_icmp_ge (tgt := 69) hx hb dX2_isWord_40 (by decide) (fun c_40 => ?_) (fun c_40 => ?_)
            · have c_40 : n ≤ k := (nI_leI (a := n) (b := k) (by omega) (by omega)).mp c_40
              refine lv_iconst (v := nI 1) hx hb dX2_isWord_69 (by decide) ?_
              exact hret _ _ _ (u_tt (by rw [wrdB, decide_eq_true c_4, decide_eq_true c_12, decide_eq_true c_28, show n = k by omega, hka]; rfl)) dX2_isWord_70
            · have c_40 : ¬ (n ≤ k) := fun q9 => c_40 ((nI_leI (a := n) (b := k) (by omega) (by omega)).mpr q9)
              refine lv_aload_n hx hb dX2_isWord_43 rfl (lv_at hl 1 rfl) ?_
              refine lv_aload_n hx hb dX2_isWord_44 rfl (lv_at hl 1 rfl) ?_
              refine va_get (D := (dC, dI)) (ci := 2) (v := .int (M 0 13)) (C := RX2) (T := TX2) (N := 22) hx hb hts in_X2 hown hK hP 0 rfl rfl 13 (by decide) (hts _ q1964) (fun _ h9 => h9) rfl dX2_isWord_45 ?_
              refine u_top (y := nI (fr M)) hfx ?_
              refine lv_iload_n hx hb dX2_isWord_48 rfl (lv_at hl 0 rfl) ?_
              refine lv_iadd hx hb dX2_isWord_49 ?_
              refine u_top (nI_add _ _) ?_
              refine k_X2_seen  hbl hb6 (by omega) SF hK (rk.le (Nat.le_of_ble_eq_true rfl)) hl.1 (Nat.le_of_ble_eq_true rfl) hP dX2_isWord_50 ?_
              refine lv_aload_n hx hb dX2_isWord_53 rfl (lv_at hl 2 rfl) ?_
              refine lv_iload_n hx hb dX2_isWord_54 rfl (lv_at hl 0 rfl) ?_
              refine u_run (x_rV (C := RJ9) (As := [.int (nI k)]) SF hK (d := 3) (rk.le (Nat.le_of_ble_eq_true rfl)) (c_J9_charAt l dC dI dA q v n g k (by omega) (by omega) hg) (lw_V q2083 q1775 q1776 q123 q1777) (n := 1) (by decide +kernel) rfl (by decide) (hE.1.recv) (SV.ok.and CS.ok) (hE) hl.1 (Nat.le_of_ble_eq_true rfl) ⟨Nat.zero_le _, Nat.zero_le _⟩ rfl dX2_isWord_55) ?_
              refine lv_icmp_eq (tgt := 63) hx hb dX2_isWord_58 (by decide) (fun c_58 => ?_) (fun c_58 => ?_)
              · refine lv_iinc (v := nI (k + 1)) (lv' := [(2, .int (nI (k + 1))), (0, .ref (a 0)), (1, .ref q)]) hx hb dX2_isWord_63 hl (k := 0) rfl (nI_add _ 1) (by decide) rfl (fun ls hl => ?_)
                refine lv_goto (tgt := 35) hx hb dX2_isWord_66 (by decide) ?_
                exact ih35 (k + 1) (by omega) (alN_t hka (decide_eq_true c_58)) (by omega) ls (lv_sub hl [0, 1, 2] rfl)
              · refine lv_iconst (v := nI 0) hx hb dX2_isWord_61 (by decide) ?_
                exact hret _ _ _ (u_ff (by rw [wrdB, alN_f (decide_eq_false c_58) (show k < n by omega)]; simp)) dX2_isWord_62
        exact lp35 (n + 1) 0 (by omega) rfl (by omega) ls (lv_sub hl [0, 1, 2] rfl)
      · have c_28 : ¬ ((nx M) - (fr M) = n) := fun q9 => c_28 ((nI_eq (a := (nx M) - (fr M)) (b := n) (by omega) (by omega)).mpr q9)
        refine lv_iconst (v := nI 0) hx hb dX2_isWord_31 (by decide) ?_
        exact hret _ _ _ (u_ff (by first | (simp [wrdB, c_4]; done) | (simp [wrdB, c_12]; done) | (rw [wrdB, decide_eq_false c_28]; simp))) dX2_isWord_32
theorem k_X2_isWord {q : Nat} {v : Nat} {n : Nat} {g : Nat → Nat} (hW : PW M) (hn : n < 100) (hg : ∀ j, j < n → g j < 256) (SF : CallFix p m c cc nL s args lw_all RX2) (hK : KK dC dI dA s) (rk : rmOK 5 R) (hsz : ls.size = nL) (hcat : (rest.map fun v => v.category).sum ≤ 8) (hP : mP dC dI dA a M H) (hE : (fun U H => SV q v n (fun j => nI (g j)) U H ∧ CS U H) s H) (hdg : decode cc pc = .ok (.invokevirtual 220, 3)) (k : W p l e R s m args below meth c H locs 0 0 Q (F0 m (pc + 3) ls (.int (nI (wrdB M n g).toNat) :: rest))) : W p l e R s m args below meth c H locs 0 0 Q (F0 m pc ls (.ref q :: .ref (a 0) :: rest)) :=
  u_run (x_rV (C := RX2) (As := [.ref q]) SF hK rk (c_X2_isWord l dC dI dA a M q v n g hW hn hg) (lw_V q2078 q2080 qs52 q117 q2081) (n := 1) (by decide +kernel) rfl (by decide) (va_recv hK hP (ci := 2) (q0 := 0) rfl rfl) (XOK.hp.and (SV.ok.and CS.ok)) ⟨hP, hE⟩ hsz hcat ⟨Nat.zero_le _, Nat.zero_le _⟩ rfl hdg) k
end TW
