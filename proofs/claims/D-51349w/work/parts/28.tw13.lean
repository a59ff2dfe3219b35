set_option maxRecDepth 100000
section TW
variable {p : Program} {l : Launch} {e : Env} {R : Room} {s : State} {m : MethodId} {args : Array Value} {below : List Frame} {meth : Method} {c : Code} {H : Heap} {locs : List Loc} {Q : State → Prop}
variable {cc : ByteArray} {pc nL : Nat} {ls : Array Slot} {rest : List Value} {dC : Nat → ClassId} {dI : Nat → Nat → Nat} {dA : Nat → ClassId} {a : Nat → Nat} {M : Nat → Nat → Int32} {H0 : Heap}

set_option maxHeartbeats 4000000 in
theorem c_X2_seen (l : Launch) (dC : Nat → ClassId) (dI : Nat → Nat → Nat) (dA : Nat → ClassId) (a : Nat → Nat) (M : Nat → Nat → Int32) (i : Nat) (hbl : M 0 11 = nI (bl M)) (hb6 : bl M ≤ 600) (hi : i < 2 ^ 31) : Met l yX2_seen (ws_ yX2_seen cX2_seen 2 (some .int)) (rmD 0 0 0) (uPc [.ref (a 0), .int (nI i)] (mP dC dI dA a M) dC dI dA) (uQi (sn M i)) 0 0 noF := by
  refine u_meti (own := RX2) (by decide) rfl (Nat.le_of_ble_eq_true rfl) fun p e R s m args below meth c Q SF rk hP hK hret ls hl => ?_
  have hx := SF.1
  have hb := SF.2.1
  have hml := SF.2.2.1
  have hown := SF.2.2.2.1
  have hts := SF.2.2.2.2
  have hl : lv_has ls 2 [(0, .ref (a 0)), (1, .int (nI i))] := hl
  refine lv_iload_n hx hb dX2_seen_0 rfl (lv_at hl 1 rfl) ?_
  refine lv_aload_n hx hb dX2_seen_1 rfl (lv_at hl 0 rfl) ?_
  refine va_get (D := (dC, dI)) (ci := 2) (v := .int (M 0 11)) (C := RX2) (T := TX2) (N := 22) hx hb hts in_X2 hown hK hP 0 rfl rfl 11 (by decide) (hts _ q1962) (fun _ h9 => h9) rfl dX2_seen_2 ?_
  refine u_top (y := nI (bl M)) hbl ?_
  refine lv_icmp_ge (tgt := 17) hx hb dX2_seen_5 (by decide) (fun c_5 => ?_) (fun c_5 => ?_)
  · have c_5 : bl M ≤ i := (nI_leI (a := bl M) (b := i) (by omega) (by omega)).mp c_5
    refine lv_iconst (v := (-1)) hx hb dX2_seen_17 (by decide) ?_
    exact hret _ _ _ (by rw [sn, if_neg (by omega)]) dX2_seen_18
  · have c_5 : ¬ (bl M ≤ i) := fun q9 => c_5 ((nI_leI (a := bl M) (b := i) (by omega) (by omega)).mpr q9)
    refine lv_aload_n hx hb dX2_seen_8 rfl (lv_at hl 0 rfl) ?_
    refine va_get (D := (dC, dI)) (ci := 2) (v := .ref (a 5)) (C := RX2) (T := TX2) (N := 22) hx hb hts in_X2 hown hK hP 0 rfl rfl 7 (by decide) (hts _ q1958) (fun _ h9 => h9) rfl dX2_seen_9 ?_
    refine lv_iload_n hx hb dX2_seen_12 rfl (lv_at hl 1 rfl) ?_
    refine u_iald hx hb hK hP 5 0 rfl rfl (i := i) (by omega) (by decide) dX2_seen_13 ?_
    refine lv_goto (tgt := 18) hx hb dX2_seen_14 (by decide) ?_
    exact hret _ _ _ (by rw [sn, if_pos (by omega)]) dX2_seen_18
theorem k_X2_seen {i : Nat} (hbl : M 0 11 = nI (bl M)) (hb6 : bl M ≤ 600) (hi : i < 2 ^ 31) (SF : CallFix p m c cc nL s args lw_all RX2) (hK : KK dC dI dA s) (rk : rmOK 1 R) (hsz : ls.size = nL) (hcat : (rest.map fun v => v.category).sum ≤ 8) (hP : mP dC dI dA a M H) (hdg : decode cc pc = .ok (.invokevirtual 156, 3)) (k : W p l e R s m args below meth c H locs 0 0 Q (F0 m (pc + 3) ls (.int (sn M i) :: rest))) : W p l e R s m args below meth c H locs 0 0 Q (F0 m pc ls (.int (nI i) :: .ref (a 0) :: rest)) :=
  u_run (u_rV (C := RX2) (Ψ := (mP dC dI dA a M)) (As := [.int (nI i)]) SF hK rk (c_X2_seen l dC dI dA a M i hbl hb6 hi) (lw_V q2060 q2062 qs50 q117 q2063) (n := 1) (by decide +kernel) rfl (by decide) (va_recv hK hP (ci := 2) (q0 := 0) rfl rfl) hP hsz hcat ⟨Nat.zero_le _, Nat.zero_le _⟩ rfl hdg) k

set_option maxHeartbeats 4000000 in
theorem c_X2_isSmall (l : Launch) (dC : Nat → ClassId) (dI : Nat → Nat → Nat) (dA : Nat → ClassId) (x : Int32)  : Met l yX2_isSmall (ws_ yX2_isSmall cX2_isSmall 1 (some .boolean)) (rmD 0 0 0) (uPc [.int x] (fun _ => True) dC dI dA) (uQi (nI (smI x).toNat)) 0 0 noF := by
  refine u_metz (own := RX2) (by decide) rfl (Nat.le_of_ble_eq_true rfl) fun p e R s m args below meth c Q SF rk hP hK hret ls hl => ?_
  have hx := SF.1
  have hb := SF.2.1
  have hml := SF.2.2.1
  have hown := SF.2.2.2.1
  have hts := SF.2.2.2.2
  have hl : lv_has ls 1 [(0, .int x)] := hl
  refine lv_iload_n hx hb dX2_isSmall_0 rfl (lv_at hl 0 rfl) ?_
  refine lv_bipush (v := nI 97) hx hb dX2_isSmall_1 (by decide) ?_
  refine lv_icmp_lt (tgt := 16) hx hb dX2_isSmall_3 (by decide) (fun c_3 => ?_) (fun c_3 => ?_)
  · refine lv_iconst (v := nI 0) hx hb dX2_isSmall_16 (by decide) ?_
    exact hret _ _ _ (u_ff (by first | (simp [smI, c_3]; done) | (simp [smI, c_9]; done))) dX2_isSmall_17
  · refine lv_iload_n hx hb dX2_isSmall_6 rfl (lv_at hl 0 rfl) ?_
    refine lv_bipush (v := nI 122) hx hb dX2_isSmall_7 (by decide) ?_
    refine lv_icmp_gt (tgt := 16) hx hb dX2_isSmall_9 (by decide) (fun c_9 => ?_) (fun c_9 => ?_)
    · refine lv_iconst (v := nI 0) hx hb dX2_isSmall_16 (by decide) ?_
      exact hret _ _ _ (u_ff (by first | (simp [smI, c_3]; done) | (simp [smI, c_9]; done))) dX2_isSmall_17
    · refine lv_iconst (v := nI 1) hx hb dX2_isSmall_12 (by decide) ?_
      refine lv_goto (tgt := 17) hx hb dX2_isSmall_13 (by decide) ?_
      exact hret _ _ _ (u_tt (by simp [smI, c_3, c_9])) dX2_isSmall_17
theorem k_X2_isSmall {x : Int32}  (SF : CallFix p m c cc nL s args lw_all RX2) (hK : KK dC dI dA s) (rk : rmOK 1 R) (hsz : ls.size = nL) (hcat : (rest.map fun v => v.category).sum ≤ 8) (hdg : decode cc pc = .ok (.invokestatic 165, 3)) (k : W p l e R s m args below meth c H locs 0 0 Q (F0 m (pc + 3) ls (.int (nI (smI x).toNat) :: rest))) : W p l e R s m args below meth c H locs 0 0 Q (F0 m pc ls (.int x :: rest)) :=
  u_run (u_rS (Ψ := (fun _ => True)) (As := [.int x]) SF hK rk (c_X2_isSmall l dC dI dA x ) (lw_S q2064 q2065 q117 q2066) (n := 1) (by decide +kernel) rfl (by decide) trivial hsz hcat ⟨Nat.zero_le _, Nat.zero_le _⟩ rfl hdg) k

set_option maxHeartbeats 4000000 in
theorem c_X2_isDigit (l : Launch) (dC : Nat → ClassId) (dI : Nat → Nat → Nat) (dA : Nat → ClassId) (x : Int32)  : Met l yX2_isDigit (ws_ yX2_isDigit cX2_isDigit 1 (some .boolean)) (rmD 0 0 0) (uPc [.int x] (fun _ => True) dC dI dA) (uQi (nI (dgI x).toNat)) 0 0 noF := by
  refine u_metz (own := RX2) (by decide) rfl (Nat.le_of_ble_eq_true rfl) fun p e R s m args below meth c Q SF rk hP hK hret ls hl => ?_
  have hx := SF.1
  have hb := SF.2.1
  have hml := SF.2.2.1
  have hown := SF.2.2.2.1
  have hts := SF.2.2.2.2
  have hl : lv_has ls 1 [(0, .int x)] := hl
  refine lv_iload_n hx hb dX2_isDigit_0 rfl (lv_at hl 0 rfl) ?_
  refine lv_bipush (v := nI 48) hx hb dX2_isDigit_1 (by decide) ?_
  refine lv_icmp_lt (tgt := 16) hx hb dX2_isDigit_3 (by decide) (fun c_3 => ?_) (fun c_3 => ?_)
  · refine lv_iconst (v := nI 0) hx hb dX2_isDigit_16 (by decide) ?_
    exact hret _ _ _ (u_ff (by first | (simp [dgI, c_3]; done) | (simp [dgI, c_9]; done))) dX2_isDigit_17
  · refine lv_iload_n hx hb dX2_isDigit_6 rfl (lv_at hl 0 rfl) ?_
    refine lv_bipush (v := nI 57) hx hb dX2_isDigit_7 (by decide) ?_
    refine lv_icmp_gt (tgt := 16) hx hb dX2_isDigit_9 (by decide) (fun c_9 => ?_) (fun c_9 => ?_)
    · refine lv_iconst (v := nI 0) hx hb dX2_isDigit_16 (by decide) ?_
      exact hret _ _ _ (u_ff (by first | (simp [dgI, c_3]; done) | (simp [dgI, c_9]; done))) dX2_isDigit_17
    · refine lv_iconst (v := nI 1) hx hb dX2_isDigit_12 (by decide) ?_
      refine lv_goto (tgt := 17) hx hb dX2_isDigit_13 (by decide) ?_
      exact hret _ _ _ (u_tt (by simp [dgI, c_3, c_9])) dX2_isDigit_17
theorem k_X2_isDigit {x : Int32}  (SF : CallFix p m c cc nL s args lw_all RX2) (hK : KK dC dI dA s) (rk : rmOK 1 R) (hsz : ls.size = nL) (hcat : (rest.map fun v => v.category).sum ≤ 8) (hdg : decode cc pc = .ok (.invokestatic 149, 3)) (k : W p l e R s m args below meth c H locs 0 0 Q (F0 m (pc + 3) ls (.int (nI (dgI x).toNat) :: rest))) : W p l e R s m args below meth c H locs 0 0 Q (F0 m pc ls (.int x :: rest)) :=
  u_run (u_rS (Ψ := (fun _ => True)) (As := [.int x]) SF hK rk (c_X2_isDigit l dC dI dA x ) (lw_S q2070 q2071 q117 q2072) (n := 1) (by decide +kernel) rfl (by decide) trivial hsz hcat ⟨Nat.zero_le _, Nat.zero_le _⟩ rfl hdg) k

set_option maxHeartbeats 4000000 in
theorem c_X2_isSign (l : Launch) (dC : Nat → ClassId) (dI : Nat → Nat → Nat) (dA : Nat → ClassId) (x : Int32)  : Met l yX2_isSign (ws_ yX2_isSign cX2_isSign 1 (some .boolean)) (rmD 1 0 0) (uPc [.int x] (fun _ => True) dC dI dA) (uQi (nI (sgI x).toNat)) 0 0 noF := by
  refine u_metz (own := RX2) (by decide) rfl (Nat.le_of_ble_eq_true rfl) fun p e R s m args below meth c Q SF rk hP hK hret ls hl => ?_
  have hx := SF.1
  have hb := SF.2.1
  have hml := SF.2.2.1
  have hown := SF.2.2.2.1
  have hts := SF.2.2.2.2
  have hl : lv_has ls 1 [(0, .int x)] := hl
  refine lv_iload_n hx hb dX2_isSign_0 rfl (lv_at hl 0 rfl) ?_
  refine k_X2_isDigit   SF hK (rk.le (Nat.le_of_ble_eq_true rfl)) hl.1 (Nat.le_of_ble_eq_true rfl) dX2_isSign_1 ?_
  refine lv_if_ne (tgt := 13) hx hb dX2_isSign_4 (by decide) (fun c_4 => ?_) (fun c_4 => ?_)
  · have c_4 : ¬ ((dgI x) = false) := fun q9 => c_4 (u_zb.mpr q9)
    refine lv_iconst (v := nI 1) hx hb dX2_isSign_13 (by decide) ?_
    refine lv_goto (tgt := 18) hx hb dX2_isSign_14 (by decide) ?_
    exact hret _ _ _ (u_tt (by first | (simp [sgI, c_10]; done) | (rw [sgI, show dgI x = true by simpa using c_4]; rfl))) dX2_isSign_18
  · have c_4 : (dgI x) = false := u_zb.mp c_4
    refine lv_iload_n hx hb dX2_isSign_7 rfl (lv_at hl 0 rfl) ?_
    refine lv_bipush (v := nI 63) hx hb dX2_isSign_8 (by decide) ?_
    refine lv_icmp_ne (tgt := 17) hx hb dX2_isSign_10 (by decide) (fun c_10 => ?_) (fun c_10 => ?_)
    · refine lv_iconst (v := nI 0) hx hb dX2_isSign_17 (by decide) ?_
      exact hret _ _ _ (u_ff (by simp [sgI, c_4, c_10])) dX2_isSign_18
    · refine lv_iconst (v := nI 1) hx hb dX2_isSign_13 (by decide) ?_
      refine lv_goto (tgt := 18) hx hb dX2_isSign_14 (by decide) ?_
      exact hret _ _ _ (u_tt (by first | (simp [sgI, c_10]; done) | (rw [sgI, show dgI x = true by simpa using c_4]; rfl))) dX2_isSign_18
theorem k_X2_isSign {x : Int32}  (SF : CallFix p m c cc nL s args lw_all RX2) (hK : KK dC dI dA s) (rk : rmOK 2 R) (hsz : ls.size = nL) (hcat : (rest.map fun v => v.category).sum ≤ 8) (hdg : decode cc pc = .ok (.invokestatic 168, 3)) (k : W p l e R s m args below meth c H locs 0 0 Q (F0 m (pc + 3) ls (.int (nI (sgI x).toNat) :: rest))) : W p l e R s m args below meth c H locs 0 0 Q (F0 m pc ls (.int x :: rest)) :=
  u_run (u_rS (Ψ := (fun _ => True)) (As := [.int x]) SF hK rk (c_X2_isSign l dC dI dA x ) (lw_S q2067 q2068 q117 q2069) (n := 1) (by decide +kernel) rfl (by decide) trivial hsz hcat ⟨Nat.zero_le _, Nat.zero_le _⟩ rfl hdg) k

set_option maxHeartbeats 4000000 in
theorem c_X2_token (l : Launch) (dC : Nat → ClassId) (dI : Nat → Nat → Nat) (dA : Nat → ClassId) (a : Nat → Nat) (M : Nat → Nat → Int32) (hJ : mJ a)  (hW : PW0 M) : Met l yX2_token (ws_ yX2_token cX2_token 3 none) (rmD 2 0 0) (uPc [.ref (a 0)] (mP dC dI dA a M) dC dI dA) (uMv (mA a) (mP dC dI dA a (tokM M))) 0 0 (mA a) := by
  refine u_metMv (own := RX2) (by decide) rfl (Nat.le_of_ble_eq_true rfl) fun p e R s m args below meth c Q SF rk hP hK hret ls hl => ?_
  have hx := SF.1
  have hb := SF.2.1
  have hml := SF.2.2.1
  have hown := SF.2.2.2.1
  have hts := SF.2.2.2.2
  have hS : uS (mA a) s.heap s.heap [] := uS.rf
  have hl : lv_has ls 3 [(0, .ref (a 0))] := hl
  have hbl := hW.1
  have hb6 := hW.2.1
  have h12 := hW.2.2.1
  have hn := hW.2.2.2
  have lp0 : ∀ (k0 : Nat) (i : Nat), nx M ≤ i → i ≤ bl M → bl M < i + k0 → runE (fun i => decide (sn M i = nI 32)) k0 i = spE M → ∀ (H : Heap) (locs : List Loc), mP dC dI dA a (mrow M 0 (upd (M 0) 12 (nI i))) H → uS (mA a) s.heap H locs → ∀ ls : Array Slot, lv_has ls 3 [(0, .ref (a 0))] → W p l e R s m args below meth c H locs 0 0 Q (F0 m 0 ls []) := by
    intro k0
    induction k0 with
    | zero =>
      intro i hi0 hi1 hi2 hiE; omega
    | succ k0 ih =>
      intro i hi0 hi1 hi2 hiE H locs hP hS ls hl
      have ih0 := ih
      refine lv_aload_n hx hb dX2_token_0 rfl (lv_at hl 0 rfl) ?_
      refine lv_aload_n hx hb dX2_token_1 rfl (lv_at hl 0 rfl) ?_
      refine va_get (D := (dC, dI)) (ci := 2) (v := .int (nI i)) (C := RX2) (T := TX2) (N := 22) hx hb hts in_X2 hown hK hP 0 rfl rfl 12 (by decide) (hts _ q1963) (fun _ h9 => h9) rfl dX2_token_2 ?_
      refine k_X2_seen (M := mrow M 0 (upd (M 0) 12 (nI i)))  hbl hb6 (by omega) SF hK (rk.le (Nat.le_of_ble_eq_true rfl)) hl.1 (Nat.le_of_ble_eq_true rfl) hP dX2_token_5 ?_
      refine u_top (y := sn (mrow M 0 (upd (M 0) 12 (nI i))) i) rfl ?_
      refine u_top (y := sn M i) rfl ?_
      refine lv_bipush (v := nI 32) hx hb dX2_token_8 (by decide) ?_
      refine lv_icmp_ne (tgt := 26) hx hb dX2_token_10 (by decide) (fun c_10 => ?_) (fun c_10 => ?_)
      · have e9 : i = spE M := by rw [← hiE, runE_f (decide_eq_false c_10)]
        subst e9
        have hP : mP dC dI dA a (mrow M 0 (upd (M 0) 12 (nI (spE M)))) H := hP
        refine lv_aload_n hx hb dX2_token_26 rfl (lv_at hl 0 rfl) ?_
        refine lv_aload_n hx hb dX2_token_27 rfl (lv_at hl 0 rfl) ?_
        refine va_get (D := (dC, dI)) (ci := 2) (v := .int (nI (spE M))) (C := RX2) (T := TX2) (N := 22) hx hb hts in_X2 hown hK hP 0 rfl rfl 12 (by decide) (hts _ q1963) (fun _ h9 => h9) rfl dX2_token_28 ?_
        refine m_pf_from SF hK hJ hP hS dX2_token_31 (fun H locs hP hS => ?_)
        have hP : mP dC dI dA a (mrow M 0 (upd (upd (M 0) 12 (nI (spE M))) 13 (nI (spE M)))) H := hP
        refine lv_aload_n hx hb dX2_token_34 rfl (lv_at hl 0 rfl) ?_
        refine lv_aload_n hx hb dX2_token_35 rfl (lv_at hl 0 rfl) ?_
        refine va_get (D := (dC, dI)) (ci := 2) (v := .int (nI (spE M))) (C := RX2) (T := TX2) (N := 22) hx hb hts in_X2 hown hK hP 0 rfl rfl 12 (by decide) (hts _ q1963) (fun _ h9 => h9) rfl dX2_token_36 ?_
        refine k_X2_seen (M := mrow M 0 (upd (upd (M 0) 12 (nI (spE M))) 13 (nI (spE M))))  hbl hb6 (by omega) SF hK (rk.le (Nat.le_of_ble_eq_true rfl)) hl.1 (Nat.le_of_ble_eq_true rfl) hP dX2_token_39 ?_
        refine u_top (y := sn (mrow M 0 (upd (upd (M 0) 12 (nI (spE M))) 13 (nI (spE M)))) (spE M)) rfl ?_
        refine u_top (y := sn M (spE M)) rfl ?_
        refine lv_istore_n (lv' := [(1, .int (sn M (spE M))), (0, .ref (a 0))]) hx hb dX2_token_42 rfl hl (by decide) rfl (fun ls hl => ?_)
        refine lv_iload_n hx hb dX2_token_43 rfl (lv_at hl 0 rfl) ?_
        refine lv_iconst (v := (-1)) hx hb dX2_token_44 (by decide) ?_
        refine lv_icmp_ne (tgt := 56) hx hb dX2_token_45 (by decide) (fun c_45 => ?_) (fun c_45 => ?_)
        · refine lv_iload_n hx hb dX2_token_56 rfl (lv_at hl 0 rfl) ?_
          refine k_X2_isSmall   SF hK (rk.le (Nat.le_of_ble_eq_true rfl)) hl.1 (Nat.le_of_ble_eq_true rfl) dX2_token_57 ?_
          refine lv_if_eq (tgt := 116) hx hb dX2_token_60 (by decide) (fun c_60 => ?_) (fun c_60 => ?_)
          · have c_60 : (smI (sn M (spE M))) = false := u_zb.mp c_60
            refine lv_iload_n hx hb dX2_token_116 rfl (lv_at hl 0 rfl) ?_
            refine k_X2_isSign   SF hK (rk.le (Nat.le_of_ble_eq_true rfl)) hl.1 (Nat.le_of_ble_eq_true rfl) dX2_token_117 ?_
            refine lv_if_eq (tgt := 271) hx hb dX2_token_120 (by decide) (fun c_120 => ?_) (fun c_120 => ?_)
            · have c_120 : (sgI (sn M (spE M))) = false := u_zb.mp c_120
              refine lv_aload_n hx hb dX2_token_271 rfl (lv_at hl 1 rfl) ?_
              refine lv_iload_n hx hb dX2_token_272 rfl (lv_at hl 0 rfl) ?_
              refine lv_bipush (v := nI 59) hx hb dX2_token_273 (by decide) ?_
              refine lv_icmp_ne (tgt := 282) hx hb dX2_token_275 (by decide) (fun c_275 => ?_) (fun c_275 => ?_)
              · refine lv_iconst (v := nI 4) hx hb dX2_token_282 (by decide) ?_
                refine m_pf_sort SF hK hJ hP hS dX2_token_283 (fun H locs hP hS => ?_)
                have hP : mP dC dI dA a (mrow M 0 (upd (upd (upd (M 0) 12 (nI (spE M))) 13 (nI (spE M))) 14 (nI 4))) H := hP
                refine lv_aload_n hx hb dX2_token_286 rfl (lv_at hl 1 rfl) ?_
                refine lv_dup hx hb dX2_token_287 rfl ?_
                refine va_get (D := (dC, dI)) (ci := 2) (v := .int (nI (spE M))) (C := RX2) (T := TX2) (N := 22) hx hb hts in_X2 hown hK hP 0 rfl rfl 12 (by decide) (hts _ q1963) (fun _ h9 => h9) rfl dX2_token_288 ?_
                refine lv_iconst (v := nI 1) hx hb dX2_token_291 (by decide) ?_
                refine lv_iadd hx hb dX2_token_292 ?_
                refine u_top (nI_add _ _) ?_
                refine m_pf_next SF hK hJ hP hS dX2_token_293 (fun H locs hP hS => ?_)
                have hP : mP dC dI dA a (mrow M 0 (upd (upd (upd (M 0) 12 (nI ((spE M) + 1))) 13 (nI (spE M))) 14 (nI 4))) H := hP
                exact hret _ _ _ _ (by rw [tok_x c_45 c_60 c_120, if_neg c_275]; exact hP) hS dX2_token_296
              · refine lv_iconst (v := nI 3) hx hb dX2_token_278 (by decide) ?_
                refine lv_goto (tgt := 283) hx hb dX2_token_279 (by decide) ?_
                refine m_pf_sort SF hK hJ hP hS dX2_token_283 (fun H locs hP hS => ?_)
                have hP : mP dC dI dA a (mrow M 0 (upd (upd (upd (M 0) 12 (nI (spE M))) 13 (nI (spE M))) 14 (nI 3))) H := hP
                refine lv_aload_n hx hb dX2_token_286 rfl (lv_at hl 1 rfl) ?_
                refine lv_dup hx hb dX2_token_287 rfl ?_
                refine va_get (D := (dC, dI)) (ci := 2) (v := .int (nI (spE M))) (C := RX2) (T := TX2) (N := 22) hx hb hts in_X2 hown hK hP 0 rfl rfl 12 (by decide) (hts _ q1963) (fun _ h9 => h9) rfl dX2_token_288 ?_
                refine lv_iconst (v := nI 1) hx hb dX2_token_291 (by decide) ?_
                refine lv_iadd hx hb dX2_token_292 ?_
                refine u_top (nI_add _ _) ?_
                refine m_pf_next SF hK hJ hP hS dX2_token_293 (fun H locs hP hS => ?_)
                have hP : mP dC dI dA a (mrow M 0 (upd (upd (upd (M 0) 12 (nI ((spE M) + 1))) 13 (nI (spE M))) 14 (nI 3))) H := hP
                exact hret _ _ _ _ (by rw [tok_x c_45 c_60 c_120, if_pos c_275]; exact hP) hS dX2_token_296
            · have c_120 : ¬ ((sgI (sn M (spE M))) = false) := fun q9 => c_120 (u_zb.mpr q9)
              refine lv_aload_n hx hb dX2_token_123 rfl (lv_at hl 1 rfl) ?_
              refine lv_iconst (v := nI 0) hx hb dX2_token_124 (by decide) ?_
              refine m_pf_number SF hK hJ hP hS dX2_token_125 (fun H locs hP hS => ?_)
              have hP : mP dC dI dA a (mrow M 0 (upd (upd (upd (M 0) 12 (nI (spE M))) 13 (nI (spE M))) 15 (nI 0))) H := hP
              refine lv_iconst (v := nI 1) hx hb dX2_token_128 (by decide) ?_
              refine lv_istore_n (lv' := [(2, .int (nI 1)), (1, .int (sn M (spE M))), (0, .ref (a 0))]) hx hb dX2_token_129 rfl hl (by decide) rfl (fun ls hl => ?_)
              have lp130 : ∀ (k0 : Nat) (j : Nat) (d : Bool) (v : Int32), spE M ≤ j → j ≤ bl M → bl M < j + k0 → numE M (spE M) k0 j d v = nuE M → ∀ (H : Heap) (locs : List Loc), mP dC dI dA a (mrow M 0 (upd (upd (upd (M 0) 12 (nI j)) 13 (nI (spE M))) 15 v)) H → uS (mA a) s.heap H locs → ∀ ls : Array Slot, lv_has ls 3 [(2, .int (nI d.toNat)), (1, .int (sn M (spE M))), (0, .ref (a 0))] → W p l e R s m args below meth c H locs 0 0 Q (F0 m 130 ls []) := by
                intro k0
                induction k0 with
                | zero =>
                  intro j d v hj0 hj1 hj2 hjE; omega
                | succ k0 ih =>
                  intro j d v hj0 hj1 hj2 hjE H locs hP hS ls hl
                  have ih130 := ih
                  refine lv_aload_n hx hb dX2_token_130 rfl (lv_at hl 2 rfl) ?_
                  refine lv_aload_n hx hb dX2_token_131 rfl (lv_at hl 2 rfl) ?_
                  refine va_get (D := (dC, dI)) (ci := 2) (v := .int (nI j)) (C := RX2) (T := TX2) (N := 22) hx hb hts in_X2 hown hK hP 0 rfl rfl 12 (by decide) (hts _ q1963) (fun _ h9 => h9) rfl dX2_token_132 ?_
                  refine k_X2_seen (M := mrow M 0 (upd (upd (upd (M 0) 12 (nI j)) 13 (nI (spE M))) 15 v))  hbl hb6 (by omega) SF hK (rk.le (Nat.le_of_ble_eq_true rfl)) hl.1 (Nat.le_of_ble_eq_true rfl) hP dX2_token_135 ?_
                  refine u_top (y := sn (mrow M 0 (upd (upd (upd (M 0) 12 (nI j)) 13 (nI (spE M))) 15 v)) j) rfl ?_
                  refine u_top (y := sn M j) rfl ?_
                  refine k_X2_isSign   SF hK (rk.le (Nat.le_of_ble_eq_true rfl)) hl.1 (Nat.le_of_ble_eq_true rfl) dX2_token_138 ?_
                  refine lv_if_eq (tgt := 225) hx hb dX2_token_141 (by decide) (fun c_141 => ?_) (fun c_141 => ?_)
                  · have c_141 : (sgI (sn M j)) = false := u_zb.mp c_141
                    have e7 : (j, d, v) = nuE M := by rw [← hjE, numE, if_neg (by rw [c_141]; decide)]
                    have e1 : j = (nuE M).1 := by rw [← e7]
                    have e2 : d = (nuE M).2.1 := by rw [← e7]
                    have e3 : v = (nuE M).2.2 := by rw [← e7]
                    clear e7 hjE
                    subst e1 e2 e3
                    have hP : mP dC dI dA a (mrow M 0 (upd (upd (upd (M 0) 12 (nI (nuE M).1)) 13 (nI (spE M))) 15 ((nuE M).2.2))) H := hP
                    refine lv_aload_n hx hb dX2_token_225 rfl (lv_at hl 2 rfl) ?_
                    refine lv_aload_n hx hb dX2_token_226 rfl (lv_at hl 2 rfl) ?_
                    refine va_get (D := (dC, dI)) (ci := 2) (v := .int (nI (nuE M).1)) (C := RX2) (T := TX2) (N := 22) hx hb hts in_X2 hown hK hP 0 rfl rfl 12 (by decide) (hts _ q1963) (fun _ h9 => h9) rfl dX2_token_227 ?_
                    refine lv_aload_n hx hb dX2_token_230 rfl (lv_at hl 2 rfl) ?_
                    refine va_get (D := (dC, dI)) (ci := 2) (v := .int (nI (spE M))) (C := RX2) (T := TX2) (N := 22) hx hb hts in_X2 hown hK hP 0 rfl rfl 13 (by decide) (hts _ q1964) (fun _ h9 => h9) rfl dX2_token_231 ?_
                    refine lv_isub hx hb dX2_token_234 ?_
                    refine u_top (pk_sub (by omega)) ?_
                    refine lv_iconst (v := nI 5) hx hb dX2_token_235 (by decide) ?_
                    refine lv_icmp_ne (tgt := 243) hx hb dX2_token_236 (by decide) (fun c_236 => ?_) (fun c_236 => ?_)
                    · have c_236 : ¬ (((nuE M).1) - (spE M) = 5) := fun q9 => c_236 ((nI_eq (a := ((nuE M).1) - (spE M)) (b := 5) (by omega) (by omega)).mpr q9)
                      refine lv_iload_n hx hb dX2_token_243 rfl (lv_at hl 0 rfl) ?_
                      refine lv_if_eq (tgt := 264) hx hb dX2_token_244 (by decide) (fun c_244 => ?_) (fun c_244 => ?_)
                      · have c_244 : (nuE M).2.1 = false := u_zb.mp c_244
                        refine lv_iconst (v := nI 4) hx hb dX2_token_264 (by decide) ?_
                        refine m_pf_sort SF hK hJ hP hS dX2_token_265 (fun H locs hP hS => ?_)
                        have hP : mP dC dI dA a (mrow M 0 (upd (upd (upd (upd (M 0) 12 (nI (nuE M).1)) 13 (nI (spE M))) 14 (nI 4)) 15 ((nuE M).2.2))) H := hP
                        refine lv_goto (tgt := 296) hx hb dX2_token_268 (by decide) ?_
                        exact hret _ _ _ _ (by rw [tok_n c_45 c_60 (by simpa using c_120), nuS, if_neg c_236, if_neg (fun q9 => by have q1 := q9.1; have q2 := q9.2; first | omega | (rw [c_244] at q1; cases q1))]; exact hP) hS dX2_token_296
                      · have c_244 : ¬ ((nuE M).2.1 = false) := fun q9 => c_244 (u_zb.mpr q9)
                        refine lv_aload_n hx hb dX2_token_247 rfl (lv_at hl 2 rfl) ?_
                        refine va_get (D := (dC, dI)) (ci := 2) (v := .int (nI (nuE M).1)) (C := RX2) (T := TX2) (N := 22) hx hb hts in_X2 hown hK hP 0 rfl rfl 12 (by decide) (hts _ q1963) (fun _ h9 => h9) rfl dX2_token_248 ?_
                        refine lv_aload_n hx hb dX2_token_251 rfl (lv_at hl 2 rfl) ?_
                        refine va_get (D := (dC, dI)) (ci := 2) (v := .int (nI (spE M))) (C := RX2) (T := TX2) (N := 22) hx hb hts in_X2 hown hK hP 0 rfl rfl 13 (by decide) (hts _ q1964) (fun _ h9 => h9) rfl dX2_token_252 ?_
                        refine lv_isub hx hb dX2_token_255 ?_
                        refine u_top (pk_sub (by omega)) ?_
                        refine lv_iconst (v := nI 5) hx hb dX2_token_256 (by decide) ?_
                        refine lv_icmp_ge (tgt := 264) hx hb dX2_token_257 (by decide) (fun c_257 => ?_) (fun c_257 => ?_)
                        · have c_257 : 5 ≤ ((nuE M).1) - (spE M) := (nI_leI (a := 5) (b := ((nuE M).1) - (spE M)) (by omega) (by omega)).mp c_257
                          refine lv_iconst (v := nI 4) hx hb dX2_token_264 (by decide) ?_
                          refine m_pf_sort SF hK hJ hP hS dX2_token_265 (fun H locs hP hS => ?_)
                          have hP : mP dC dI dA a (mrow M 0 (upd (upd (upd (upd (M 0) 12 (nI (nuE M).1)) 13 (nI (spE M))) 14 (nI 4)) 15 ((nuE M).2.2))) H := hP
                          refine lv_goto (tgt := 296) hx hb dX2_token_268 (by decide) ?_
                          exact hret _ _ _ _ (by rw [tok_n c_45 c_60 (by simpa using c_120), nuS, if_neg c_236, if_neg (fun q9 => by have q1 := q9.1; have q2 := q9.2; first | omega | (rw [c_244] at q1; cases q1))]; exact hP) hS dX2_token_296
                        · have c_257 : ¬ (5 ≤ ((nuE M).1) - (spE M)) := fun q9 => c_257 ((nI_leI (a := 5) (b := ((nuE M).1) - (spE M)) (by omega) (by omega)).mpr q9)
                          refine lv_iconst (v := nI 2) hx hb dX2_token_260 (by decide) ?_
                          refine lv_goto (tgt := 265) hx hb dX2_token_261 (by decide) ?_
                          refine m_pf_sort SF hK hJ hP hS dX2_token_265 (fun H locs hP hS => ?_)
                          have hP : mP dC dI dA a (mrow M 0 (upd (upd (upd (upd (M 0) 12 (nI (nuE M).1)) 13 (nI (spE M))) 14 (nI 2)) 15 ((nuE M).2.2))) H := hP
                          refine lv_goto (tgt := 296) hx hb dX2_token_268 (by decide) ?_
                          exact hret _ _ _ _ (by rw [tok_n c_45 c_60 (by simpa using c_120), nuS, if_neg c_236, if_pos ⟨by simpa using c_244, by omega⟩]; exact hP) hS dX2_token_296
                    · have c_236 : ((nuE M).1) - (spE M) = 5 := (nI_eq (a := ((nuE M).1) - (spE M)) (b := 5) (by omega) (by omega)).mp c_236
                      refine lv_iconst (v := nI 5) hx hb dX2_token_239 (by decide) ?_
                      refine lv_goto (tgt := 265) hx hb dX2_token_240 (by decide) ?_
                      refine m_pf_sort SF hK hJ hP hS dX2_token_265 (fun H locs hP hS => ?_)
                      have hP : mP dC dI dA a (mrow M 0 (upd (upd (upd (upd (M 0) 12 (nI (nuE M).1)) 13 (nI (spE M))) 14 (nI 5)) 15 ((nuE M).2.2))) H := hP
                      refine lv_goto (tgt := 296) hx hb dX2_token_268 (by decide) ?_
                      exact hret _ _ _ _ (by rw [tok_n c_45 c_60 (by simpa using c_120), nuS, if_pos c_236]; exact hP) hS dX2_token_296
                  · have c_141 : ¬ ((sgI (sn M j)) = false) := fun q9 => c_141 (u_zb.mpr q9)
                    refine lv_iload_n hx hb dX2_token_144 rfl (lv_at hl 0 rfl) ?_
                    refine lv_if_eq (tgt := 166) hx hb dX2_token_145 (by decide) (fun c_145 => ?_) (fun c_145 => ?_)
                    · have c_145 : d = false := u_zb.mp c_145
                      refine lv_iconst (v := nI 0) hx hb dX2_token_166 (by decide) ?_
                      refine lv_istore_n (lv' := [(2, .int (nI 0)), (1, .int (sn M (spE M))), (0, .ref (a 0))]) hx hb dX2_token_167 rfl hl (by decide) rfl (fun ls hl => ?_)
                      refine lv_aload_n hx hb dX2_token_168 rfl (lv_at hl 2 rfl) ?_
                      refine lv_iload_n hx hb dX2_token_169 rfl (lv_at hl 0 rfl) ?_
                      refine lv_if_eq (tgt := 208) hx hb dX2_token_170 (by decide) (fun c_170 => ?_) (fun c_170 => absurd (by decide) c_170)
                      refine lv_iconst (v := nI 0) hx hb dX2_token_208 (by decide) ?_
                      refine m_pf_number SF hK hJ hP hS dX2_token_209 (fun H locs hP hS => ?_)
                      have hP : mP dC dI dA a (mrow M 0 (upd (upd (upd (M 0) 12 (nI j)) 13 (nI (spE M))) 15 (nI 0))) H := hP
                      refine lv_aload_n hx hb dX2_token_212 rfl (lv_at hl 2 rfl) ?_
                      refine lv_dup hx hb dX2_token_213 rfl ?_
                      refine va_get (D := (dC, dI)) (ci := 2) (v := .int (nI j)) (C := RX2) (T := TX2) (N := 22) hx hb hts in_X2 hown hK hP 0 rfl rfl 12 (by decide) (hts _ q1963) (fun _ h9 => h9) rfl dX2_token_214 ?_
                      refine lv_iconst (v := nI 1) hx hb dX2_token_217 (by decide) ?_
                      refine lv_iadd hx hb dX2_token_218 ?_
                      refine u_top (nI_add _ _) ?_
                      refine m_pf_next SF hK hJ hP hS dX2_token_219 (fun H locs hP hS => ?_)
                      have hP : mP dC dI dA a (mrow M 0 (upd (upd (upd (M 0) 12 (nI (j + 1))) 13 (nI (spE M))) 15 (nI 0))) H := hP
                      refine lv_goto (tgt := 130) hx hb dX2_token_222 (by decide) ?_
                      exact ih130 (j + 1) false (nI 0) (by omega) (sn_sg (by simpa using c_141)) (by omega) (by rw [← hjE, numE, if_pos (by simpa using c_141), if_neg (by first | (simp [c_145]; done) | (simp [c_159]; done))]) _ _ hP hS ls (lv_sub hl [0, 1, 2] rfl)
                    · have c_145 : ¬ (d = false) := fun q9 => c_145 (u_zb.mpr q9)
                      refine lv_aload_n hx hb dX2_token_148 rfl (lv_at hl 2 rfl) ?_
                      refine lv_aload_n hx hb dX2_token_149 rfl (lv_at hl 2 rfl) ?_
                      refine va_get (D := (dC, dI)) (ci := 2) (v := .int (nI j)) (C := RX2) (T := TX2) (N := 22) hx hb hts in_X2 hown hK hP 0 rfl rfl 12 (by decide) (hts _ q1963) (fun _ h9 => h9) rfl dX2_token_150 ?_
                      refine k_X2_seen (M := mrow M 0 (upd (upd (upd (M 0) 12 (nI j)) 13 (nI (spE M))) 15 v))  hbl hb6 (by omega) SF hK (rk.le (Nat.le_of_ble_eq_true rfl)) hl.1 (Nat.le_of_ble_eq_true rfl) hP dX2_token_153 ?_
                      refine u_top (y := sn (mrow M 0 (upd (upd (upd (M 0) 12 (nI j)) 13 (nI (spE M))) 15 v)) j) rfl ?_
                      refine u_top (y := sn M j) rfl ?_
                      refine k_X2_isDigit   SF hK (rk.le (Nat.le_of_ble_eq_true rfl)) hl.1 (Nat.le_of_ble_eq_true rfl) dX2_token_156 ?_
                      refine lv_if_eq (tgt := 166) hx hb dX2_token_159 (by decide) (fun c_159 => ?_) (fun c_159 => ?_)
                      · have c_159 : (dgI (sn M j)) = false := u_zb.mp c_159
                        refine lv_iconst (v := nI 0) hx hb dX2_token_166 (by decide) ?_
                        refine lv_istore_n (lv' := [(2, .int (nI 0)), (1, .int (sn M (spE M))), (0, .ref (a 0))]) hx hb dX2_token_167 rfl hl (by decide) rfl (fun ls hl => ?_)
                        refine lv_aload_n hx hb dX2_token_168 rfl (lv_at hl 2 rfl) ?_
                        refine lv_iload_n hx hb dX2_token_169 rfl (lv_at hl 0 rfl) ?_
                        refine lv_if_eq (tgt := 208) hx hb dX2_token_170 (by decide) (fun c_170 => ?_) (fun c_170 => absurd (by decide) c_170)
                        refine lv_iconst (v := nI 0) hx hb dX2_token_208 (by decide) ?_
                        refine m_pf_number SF hK hJ hP hS dX2_token_209 (fun H locs hP hS => ?_)
                        have hP : mP dC dI dA a (mrow M 0 (upd (upd (upd (M 0) 12 (nI j)) 13 (nI (spE M))) 15 (nI 0))) H := hP
                        refine lv_aload_n hx hb dX2_token_212 rfl (lv_at hl 2 rfl) ?_
                        refine lv_dup hx hb dX2_token_213 rfl ?_
                        refine va_get (D := (dC, dI)) (ci := 2) (v := .int (nI j)) (C := RX2) (T := TX2) (N := 22) hx hb hts in_X2 hown hK hP 0 rfl rfl 12 (by decide) (hts _ q1963) (fun _ h9 => h9) rfl dX2_token_214 ?_
                        refine lv_iconst (v := nI 1) hx hb dX2_token_217 (by decide) ?_
                        refine lv_iadd hx hb dX2_token_218 ?_
                        refine u_top (nI_add _ _) ?_
                        refine m_pf_next SF hK hJ hP hS dX2_token_219 (fun H locs hP hS => ?_)
                        have hP : mP dC dI dA a (mrow M 0 (upd (upd (upd (M 0) 12 (nI (j + 1))) 13 (nI (spE M))) 15 (nI 0))) H := hP
                        refine lv_goto (tgt := 130) hx hb dX2_token_222 (by decide) ?_
                        exact ih130 (j + 1) false (nI 0) (by omega) (sn_sg (by simpa using c_141)) (by omega) (by rw [← hjE, numE, if_pos (by simpa using c_141), if_neg (by first | (simp [c_145]; done) | (simp [c_159]; done))]) _ _ hP hS ls (lv_sub hl [0, 1, 2] rfl)
                      · have c_159 : ¬ ((dgI (sn M j)) = false) := fun q9 => c_159 (u_zb.mpr q9)
                        refine lv_iconst (v := nI 1) hx hb dX2_token_162 (by decide) ?_
                        refine lv_goto (tgt := 167) hx hb dX2_token_163 (by decide) ?_
                        refine lv_istore_n (lv' := [(2, .int (nI 1)), (1, .int (sn M (spE M))), (0, .ref (a 0))]) hx hb dX2_token_167 rfl hl (by decide) rfl (fun ls hl => ?_)
                        refine lv_aload_n hx hb dX2_token_168 rfl (lv_at hl 2 rfl) ?_
                        refine lv_iload_n hx hb dX2_token_169 rfl (lv_at hl 0 rfl) ?_
                        refine lv_if_eq (tgt := 208) hx hb dX2_token_170 (by decide) (fun c_170 => absurd c_170 (by decide)) (fun c_170 => ?_)
                        refine lv_aload_n hx hb dX2_token_173 rfl (lv_at hl 2 rfl) ?_
                        refine va_get (D := (dC, dI)) (ci := 2) (v := .int (nI j)) (C := RX2) (T := TX2) (N := 22) hx hb hts in_X2 hown hK hP 0 rfl rfl 12 (by decide) (hts _ q1963) (fun _ h9 => h9) rfl dX2_token_174 ?_
                        refine lv_aload_n hx hb dX2_token_177 rfl (lv_at hl 2 rfl) ?_
                        refine va_get (D := (dC, dI)) (ci := 2) (v := .int (nI (spE M))) (C := RX2) (T := TX2) (N := 22) hx hb hts in_X2 hown hK hP 0 rfl rfl 13 (by decide) (hts _ q1964) (fun _ h9 => h9) rfl dX2_token_178 ?_
                        refine lv_isub hx hb dX2_token_181 ?_
                        refine u_top (pk_sub (by omega)) ?_
                        refine lv_iconst (v := nI 4) hx hb dX2_token_182 (by decide) ?_
                        refine lv_icmp_ge (tgt := 208) hx hb dX2_token_183 (by decide) (fun c_183 => ?_) (fun c_183 => ?_)
                        · have c_183 : 4 ≤ j - (spE M) := (nI_leI (a := 4) (b := j - (spE M)) (by omega) (by omega)).mp c_183
                          refine lv_iconst (v := nI 0) hx hb dX2_token_208 (by decide) ?_
                          refine m_pf_number SF hK hJ hP hS dX2_token_209 (fun H locs hP hS => ?_)
                          have hP : mP dC dI dA a (mrow M 0 (upd (upd (upd (M 0) 12 (nI j)) 13 (nI (spE M))) 15 (nI 0))) H := hP
                          refine lv_aload_n hx hb dX2_token_212 rfl (lv_at hl 2 rfl) ?_
                          refine lv_dup hx hb dX2_token_213 rfl ?_
                          refine va_get (D := (dC, dI)) (ci := 2) (v := .int (nI j)) (C := RX2) (T := TX2) (N := 22) hx hb hts in_X2 hown hK hP 0 rfl rfl 12 (by decide) (hts _ q1963) (fun _ h9 => h9) rfl dX2_token_214 ?_
                          refine lv_iconst (v := nI 1) hx hb dX2_token_217 (by decide) ?_
                          refine lv_iadd hx hb dX2_token_218 ?_
                          refine u_top (nI_add _ _) ?_
                          refine m_pf_next SF hK hJ hP hS dX2_token_219 (fun H locs hP hS => ?_)
                          have hP : mP dC dI dA a (mrow M 0 (upd (upd (upd (M 0) 12 (nI (j + 1))) 13 (nI (spE M))) 15 (nI 0))) H := hP
                          refine lv_goto (tgt := 130) hx hb dX2_token_222 (by decide) ?_
                          exact ih130 (j + 1) true (nI 0) (by omega) (sn_sg (by simpa using c_141)) (by omega) (by rw [← hjE, numE, if_pos (by simpa using c_141), if_pos (by rw [Bool.and_eq_true]; exact ⟨by simpa using c_145, by simpa using c_159⟩), if_neg (by omega)]) _ _ hP hS ls (lv_sub hl [0, 1, 2] rfl)
                        · have c_183 : ¬ (4 ≤ j - (spE M)) := fun q9 => c_183 ((nI_leI (a := 4) (b := j - (spE M)) (by omega) (by omega)).mpr q9)
                          refine lv_bipush (v := nI 10) hx hb dX2_token_186 (by decide) ?_
                          refine lv_aload_n hx hb dX2_token_188 rfl (lv_at hl 2 rfl) ?_
                          refine va_get (D := (dC, dI)) (ci := 2) (v := .int v) (C := RX2) (T := TX2) (N := 22) hx hb hts in_X2 hown hK hP 0 rfl rfl 15 (by decide) (hts _ q1966) (fun _ h9 => h9) rfl dX2_token_189 ?_
                          refine lv_imul hx hb dX2_token_192 ?_
                          refine lv_aload_n hx hb dX2_token_193 rfl (lv_at hl 2 rfl) ?_
                          refine lv_aload_n hx hb dX2_token_194 rfl (lv_at hl 2 rfl) ?_
                          refine va_get (D := (dC, dI)) (ci := 2) (v := .int (nI j)) (C := RX2) (T := TX2) (N := 22) hx hb hts in_X2 hown hK hP 0 rfl rfl 12 (by decide) (hts _ q1963) (fun _ h9 => h9) rfl dX2_token_195 ?_
                          refine k_X2_seen (M := mrow M 0 (upd (upd (upd (M 0) 12 (nI j)) 13 (nI (spE M))) 15 v))  hbl hb6 (by omega) SF hK (rk.le (Nat.le_of_ble_eq_true rfl)) hl.1 (Nat.le_of_ble_eq_true rfl) hP dX2_token_198 ?_
                          refine u_top (y := sn (mrow M 0 (upd (upd (upd (M 0) 12 (nI j)) 13 (nI (spE M))) 15 v)) j) rfl ?_
                          refine u_top (y := sn M j) rfl ?_
                          refine lv_iadd hx hb dX2_token_201 ?_
                          refine lv_bipush (v := nI 48) hx hb dX2_token_202 (by decide) ?_
                          refine lv_isub hx hb dX2_token_204 ?_
                          refine lv_goto (tgt := 209) hx hb dX2_token_205 (by decide) ?_
                          refine m_pf_number SF hK hJ hP hS dX2_token_209 (fun H locs hP hS => ?_)
                          have hP : mP dC dI dA a (mrow M 0 (upd (upd (upd (M 0) 12 (nI j)) 13 (nI (spE M))) 15 ((((nI 10) * v) + (sn M j)) - (nI 48)))) H := hP
                          refine lv_aload_n hx hb dX2_token_212 rfl (lv_at hl 2 rfl) ?_
                          refine lv_dup hx hb dX2_token_213 rfl ?_
                          refine va_get (D := (dC, dI)) (ci := 2) (v := .int (nI j)) (C := RX2) (T := TX2) (N := 22) hx hb hts in_X2 hown hK hP 0 rfl rfl 12 (by decide) (hts _ q1963) (fun _ h9 => h9) rfl dX2_token_214 ?_
                          refine lv_iconst (v := nI 1) hx hb dX2_token_217 (by decide) ?_
                          refine lv_iadd hx hb dX2_token_218 ?_
                          refine u_top (nI_add _ _) ?_
                          refine m_pf_next SF hK hJ hP hS dX2_token_219 (fun H locs hP hS => ?_)
                          have hP : mP dC dI dA a (mrow M 0 (upd (upd (upd (M 0) 12 (nI (j + 1))) 13 (nI (spE M))) 15 ((((nI 10) * v) + (sn M j)) - (nI 48)))) H := hP
                          refine lv_goto (tgt := 130) hx hb dX2_token_222 (by decide) ?_
                          exact ih130 (j + 1) true (nI 10 * v + sn M j - nI 48) (by omega) (sn_sg (by simpa using c_141)) (by omega) (by rw [← hjE, numE, if_pos (by simpa using c_141), if_pos (by rw [Bool.and_eq_true]; exact ⟨by simpa using c_145, by simpa using c_159⟩), if_pos (by omega)]) _ _ hP hS ls (lv_sub hl [0, 1, 2] rfl)
              exact lp130 (bl M + 1) (spE M) true (nI 0) (Nat.le_refl _) hi1 (by omega) rfl _ _ hP hS ls (lv_sub hl [0, 1, 2] rfl)
          · have c_60 : ¬ ((smI (sn M (spE M))) = false) := fun q9 => c_60 (u_zb.mpr q9)
            have lp63 : ∀ (k0 : Nat) (j : Nat), spE M ≤ j → j ≤ bl M → bl M < j + k0 → runE (fun j => smI (sn M j)) k0 j = smE M → ∀ (H : Heap) (locs : List Loc), mP dC dI dA a (mrow M 0 (upd (upd (M 0) 12 (nI j)) 13 (nI (spE M)))) H → uS (mA a) s.heap H locs → ∀ ls : Array Slot, lv_has ls 3 [(1, .int (sn M (spE M))), (0, .ref (a 0))] → W p l e R s m args below meth c H locs 0 0 Q (F0 m 63 ls []) := by
              intro k0
              induction k0 with
              | zero =>
                intro j hj0 hj1 hj2 hjE; omega
              | succ k0 ih =>
                intro j hj0 hj1 hj2 hjE H locs hP hS ls hl
                have ih63 := ih
                refine lv_aload_n hx hb dX2_token_63 rfl (lv_at hl 1 rfl) ?_
                refine lv_aload_n hx hb dX2_token_64 rfl (lv_at hl 1 rfl) ?_
                refine va_get (D := (dC, dI)) (ci := 2) (v := .int (nI j)) (C := RX2) (T := TX2) (N := 22) hx hb hts in_X2 hown hK hP 0 rfl rfl 12 (by decide) (hts _ q1963) (fun _ h9 => h9) rfl dX2_token_65 ?_
                refine k_X2_seen (M := mrow M 0 (upd (upd (M 0) 12 (nI j)) 13 (nI (spE M))))  hbl hb6 (by omega) SF hK (rk.le (Nat.le_of_ble_eq_true rfl)) hl.1 (Nat.le_of_ble_eq_true rfl) hP dX2_token_68 ?_
                refine u_top (y := sn (mrow M 0 (upd (upd (M 0) 12 (nI j)) 13 (nI (spE M)))) j) rfl ?_
                refine u_top (y := sn M j) rfl ?_
                refine k_X2_isSmall   SF hK (rk.le (Nat.le_of_ble_eq_true rfl)) hl.1 (Nat.le_of_ble_eq_true rfl) dX2_token_71 ?_
                refine lv_if_eq (tgt := 90) hx hb dX2_token_74 (by decide) (fun c_74 => ?_) (fun c_74 => ?_)
                · have c_74 : (smI (sn M j)) = false := u_zb.mp c_74
                  have e8 : j = smE M := by rw [← hjE, runE_f (by simpa using c_74)]
                  subst e8
                  have hP : mP dC dI dA a (mrow M 0 (upd (upd (M 0) 12 (nI (smE M))) 13 (nI (spE M)))) H := hP
                  refine lv_aload_n hx hb dX2_token_90 rfl (lv_at hl 1 rfl) ?_
                  refine lv_aload_n hx hb dX2_token_91 rfl (lv_at hl 1 rfl) ?_
                  refine va_get (D := (dC, dI)) (ci := 2) (v := .int (nI (smE M))) (C := RX2) (T := TX2) (N := 22) hx hb hts in_X2 hown hK hP 0 rfl rfl 12 (by decide) (hts _ q1963) (fun _ h9 => h9) rfl dX2_token_92 ?_
                  refine lv_aload_n hx hb dX2_token_95 rfl (lv_at hl 1 rfl) ?_
                  refine va_get (D := (dC, dI)) (ci := 2) (v := .int (nI (spE M))) (C := RX2) (T := TX2) (N := 22) hx hb hts in_X2 hown hK hP 0 rfl rfl 13 (by decide) (hts _ q1964) (fun _ h9 => h9) rfl dX2_token_96 ?_
                  refine lv_isub hx hb dX2_token_99 ?_
                  refine u_top (pk_sub (by omega)) ?_
                  refine lv_bipush (v := nI 6) hx hb dX2_token_100 (by decide) ?_
                  refine lv_icmp_le (tgt := 109) hx hb dX2_token_102 (by decide) (fun c_102 => ?_) (fun c_102 => ?_)
                  · have c_102 : (smE M) - (spE M) ≤ 6 := (nI_leI (a := (smE M) - (spE M)) (b := 6) (by omega) (by omega)).mp c_102
                    refine lv_iconst (v := nI 1) hx hb dX2_token_109 (by decide) ?_
                    refine m_pf_sort SF hK hJ hP hS dX2_token_110 (fun H locs hP hS => ?_)
                    have hP : mP dC dI dA a (mrow M 0 (upd (upd (upd (M 0) 12 (nI (smE M))) 13 (nI (spE M))) 14 (nI 1))) H := hP
                    refine lv_goto (tgt := 296) hx hb dX2_token_113 (by decide) ?_
                    exact hret _ _ _ _ (by rw [tok_w c_45 (by simpa using c_60), if_neg (by omega)]; exact hP) hS dX2_token_296
                  · have c_102 : ¬ ((smE M) - (spE M) ≤ 6) := fun q9 => c_102 ((nI_leI (a := (smE M) - (spE M)) (b := 6) (by omega) (by omega)).mpr q9)
                    refine lv_iconst (v := nI 4) hx hb dX2_token_105 (by decide) ?_
                    refine lv_goto (tgt := 110) hx hb dX2_token_106 (by decide) ?_
                    refine m_pf_sort SF hK hJ hP hS dX2_token_110 (fun H locs hP hS => ?_)
                    have hP : mP dC dI dA a (mrow M 0 (upd (upd (upd (M 0) 12 (nI (smE M))) 13 (nI (spE M))) 14 (nI 4))) H := hP
                    refine lv_goto (tgt := 296) hx hb dX2_token_113 (by decide) ?_
                    exact hret _ _ _ _ (by rw [tok_w c_45 (by simpa using c_60), if_pos (by omega)]; exact hP) hS dX2_token_296
                · have c_74 : ¬ ((smI (sn M j)) = false) := fun q9 => c_74 (u_zb.mpr q9)
                  refine lv_aload_n hx hb dX2_token_77 rfl (lv_at hl 1 rfl) ?_
                  refine lv_dup hx hb dX2_token_78 rfl ?_
                  refine va_get (D := (dC, dI)) (ci := 2) (v := .int (nI j)) (C := RX2) (T := TX2) (N := 22) hx hb hts in_X2 hown hK hP 0 rfl rfl 12 (by decide) (hts _ q1963) (fun _ h9 => h9) rfl dX2_token_79 ?_
                  refine lv_iconst (v := nI 1) hx hb dX2_token_82 (by decide) ?_
                  refine lv_iadd hx hb dX2_token_83 ?_
                  refine u_top (nI_add _ _) ?_
                  refine m_pf_next SF hK hJ hP hS dX2_token_84 (fun H locs hP hS => ?_)
                  have hP : mP dC dI dA a (mrow M 0 (upd (upd (M 0) 12 (nI (j + 1))) 13 (nI (spE M)))) H := hP
                  refine lv_goto (tgt := 63) hx hb dX2_token_87 (by decide) ?_
                  exact ih63 (j + 1) (by omega) (sn_sm (by simpa using c_74)) (by omega) (by rw [← hjE, runE_t (by simpa using c_74)]) _ _ hP hS ls (lv_sub hl [0, 1] rfl)
            exact lp63 (bl M + 1) (spE M) (Nat.le_refl _) hi1 (by omega) rfl _ _ hP hS ls (lv_sub hl [0, 1] rfl)
        · refine lv_aload_n hx hb dX2_token_48 rfl (lv_at hl 1 rfl) ?_
          refine lv_iconst (v := nI 0) hx hb dX2_token_49 (by decide) ?_
          refine m_pf_sort SF hK hJ hP hS dX2_token_50 (fun H locs hP hS => ?_)
          have hP : mP dC dI dA a (mrow M 0 (upd (upd (upd (M 0) 12 (nI (spE M))) 13 (nI (spE M))) 14 (nI 0))) H := hP
          refine lv_goto (tgt := 296) hx hb dX2_token_53 (by decide) ?_
          exact hret _ _ _ _ (by rw [tok_e c_45]; exact hP) hS dX2_token_296
      · refine lv_aload_n hx hb dX2_token_13 rfl (lv_at hl 0 rfl) ?_
        refine lv_dup hx hb dX2_token_14 rfl ?_
        refine va_get (D := (dC, dI)) (ci := 2) (v := .int (nI i)) (C := RX2) (T := TX2) (N := 22) hx hb hts in_X2 hown hK hP 0 rfl rfl 12 (by decide) (hts _ q1963) (fun _ h9 => h9) rfl dX2_token_15 ?_
        refine lv_iconst (v := nI 1) hx hb dX2_token_18 (by decide) ?_
        refine lv_iadd hx hb dX2_token_19 ?_
        refine u_top (nI_add _ _) ?_
        refine m_pf_next SF hK hJ hP hS dX2_token_20 (fun H locs hP hS => ?_)
        have hP : mP dC dI dA a (mrow M 0 (upd (M 0) 12 (nI (i + 1)))) H := hP
        refine lv_goto (tgt := 0) hx hb dX2_token_23 (by decide) ?_
        exact ih0 (i + 1) (by omega) (sn_32 c_10) (by omega) (by rw [← hiE, runE_t (decide_eq_true c_10)]) _ _ hP hS ls (lv_sub hl [0] rfl)
  exact lp0 (bl M + 1) (nx M) (Nat.le_refl _) hn (by omega) rfl _ _ (m_same h12 hP) hS ls (lv_sub hl [0] rfl)
theorem k_X2_token (hJ : mJ a)  (hW : PW0 M) (SF : CallFix p m c cc nL s args lw_all RX2) (hK : KK dC dI dA s) (rk : rmOK 3 R) (hsz : ls.size = nL) (hcat : (rest.map fun v => v.category).sum ≤ 8) (hP : mP dC dI dA a M H) (hS : uS (mA a) H0 H locs) (hdg : decode cc pc = .ok (.invokevirtual 184, 3)) (k : ∀ (H1 : Heap) (locs1 : List Loc), mP dC dI dA a (tokM M) H1 → uS (mA a) H0 H1 locs1 → W p l e R s m args below meth c H1 locs1 0 0 Q (F0 m (pc + 3) ls (rest))) : W p l e R s m args below meth c H locs 0 0 Q (F0 m pc ls (.ref (a 0) :: rest)) :=
  u_runMv (u_rV (C := RX2) (Ψ := (mP dC dI dA a M)) (As := []) SF hK rk (c_X2_token l dC dI dA a M hJ  hW) (lw_V q2056 q2058 qs49 q117 q2059) (n := 0) (by decide +kernel) rfl (by decide) (va_recv hK hP (ci := 2) (q0 := 0) rfl rfl) hP hsz hcat ⟨Nat.zero_le _, Nat.zero_le _⟩ rfl hdg) hS (fun _ h => h) (fun H1 locs1 h1 h2 _ => k H1 locs1 h1 h2)

set_option maxHeartbeats 4000000 in
theorem c_X2_fails (l : Launch) (dC : Nat → ClassId) (dI : Nat → Nat → Nat) (dA : Nat → ClassId) (a : Nat → Nat) (M : Nat → Nat → Int32) (hJ : mJ a) (c9 : Int32)  : Met l yX2_fails (ws_ yX2_fails cX2_fails 2 none) (rmD 0 0 0) (uPc [.ref (a 0), .int c9] (mP dC dI dA a M) dC dI dA) (uMv (mA a) (mP dC dI dA a (failM M c9))) 0 0 (mA a) := by
  refine u_metMv (own := RX2) (by decide) rfl (Nat.le_of_ble_eq_true rfl) fun p e R s m args below meth c Q SF rk hP hK hret ls hl => ?_
  have hx := SF.1
  have hb := SF.2.1
  have hml := SF.2.2.1
  have hown := SF.2.2.2.1
  have hts := SF.2.2.2.2
  have hS : uS (mA a) s.heap s.heap [] := uS.rf
  have hl : lv_has ls 2 [(0, .ref (a 0)), (1, .int c9)] := hl
  refine lv_aload_n hx hb dX2_fails_0 rfl (lv_at hl 0 rfl) ?_
  refine va_get (D := (dC, dI)) (ci := 2) (v := .int (M 0 16)) (C := RX2) (T := TX2) (N := 22) hx hb hts in_X2 hown hK hP 0 rfl rfl 16 (by decide) (hts _ q1967) (fun _ h9 => h9) rfl dX2_fails_1 ?_
  refine lv_if_ne (tgt := 20) hx hb dX2_fails_4 (by decide) (fun c_4 => ?_) (fun c_4 => ?_)
  · exact hret _ _ _ _ (by rw [failM, if_neg c_4]; exact hP) hS dX2_fails_20
  · refine lv_aload_n hx hb dX2_fails_7 rfl (lv_at hl 0 rfl) ?_
    refine lv_iload_n hx hb dX2_fails_8 rfl (lv_at hl 1 rfl) ?_
    refine m_pf_bad SF hK hJ hP hS dX2_fails_9 (fun H locs hP hS => ?_)
    have hP : mP dC dI dA a (mrow M 0 (upd (M 0) 16 c9)) H := hP
    refine lv_aload_n hx hb dX2_fails_12 rfl (lv_at hl 0 rfl) ?_
    refine lv_aload_n hx hb dX2_fails_13 rfl (lv_at hl 0 rfl) ?_
    refine va_get (D := (dC, dI)) (ci := 2) (v := .int (M 0 13)) (C := RX2) (T := TX2) (N := 22) hx hb hts in_X2 hown hK hP 0 rfl rfl 13 (by decide) (hts _ q1964) (fun _ h9 => h9) rfl dX2_fails_14 ?_
    refine m_pf_badAt SF hK hJ hP hS dX2_fails_17 (fun H locs hP hS => ?_)
    have hP : mP dC dI dA a (mrow M 0 (upd (upd (M 0) 16 c9) 17 (M 0 13))) H := hP
    exact hret _ _ _ _ (by rw [failM, if_pos c_4]; exact hP) hS dX2_fails_20
theorem k_X2_fails (hJ : mJ a) {c9 : Int32}  (SF : CallFix p m c cc nL s args lw_all RX2) (hK : KK dC dI dA s) (rk : rmOK 1 R) (hsz : ls.size = nL) (hcat : (rest.map fun v => v.category).sum ≤ 8) (hP : mP dC dI dA a M H) (hS : uS (mA a) H0 H locs) (hdg : decode cc pc = .ok (.invokevirtual 180, 3)) (k : ∀ (H1 : Heap) (locs1 : List Loc), mP dC dI dA a (failM M c9) H1 → uS (mA a) H0 H1 locs1 → W p l e R s m args below meth c H1 locs1 0 0 Q (F0 m (pc + 3) ls (rest))) : W p l e R s m args below meth c H locs 0 0 Q (F0 m pc ls (.int c9 :: .ref (a 0) :: rest)) :=
  u_runMv (u_rV (C := RX2) (Ψ := (mP dC dI dA a M)) (As := [.int c9]) SF hK rk (c_X2_fails l dC dI dA a M hJ c9 ) (lw_V q2088 q2090 qs54 q117 q2091) (n := 1) (by decide +kernel) rfl (by decide) (va_recv hK hP (ci := 2) (q0 := 0) rfl rfl) hP hsz hcat ⟨Nat.zero_le _, Nat.zero_le _⟩ rfl hdg) hS (fun _ h => h) (fun H1 locs1 h1 h2 _ => k H1 locs1 h1 h2)

set_option maxHeartbeats 4000000 in
theorem c_X2_failsIf (l : Launch) (dC : Nat → ClassId) (dI : Nat → Nat → Nat) (dA : Nat → ClassId) (a : Nat → Nat) (M : Nat → Nat → Int32) (hJ : mJ a) (b : Bool) (c9 : Int32)  : Met l yX2_failsIf (ws_ yX2_failsIf cX2_failsIf 3 none) (rmD 1 0 0) (uPc [.ref (a 0), .int (nI b.toNat), .int c9] (mP dC dI dA a M) dC dI dA) (uMv (mA a) (mP dC dI dA a (fiM M b c9))) 0 0 (mA a) := by
  refine u_metMv (own := RX2) (by decide) rfl (Nat.le_of_ble_eq_true rfl) fun p e R s m args below meth c Q SF rk hP hK hret ls hl => ?_
  have hx := SF.1
  have hb := SF.2.1
  have hml := SF.2.2.1
  have hown := SF.2.2.2.1
  have hts := SF.2.2.2.2
  have hS : uS (mA a) s.heap s.heap [] := uS.rf
  have hl : lv_has ls 3 [(0, .ref (a 0)), (1, .int (nI b.toNat)), (2, .int c9)] := hl
  refine lv_iload_n hx hb dX2_failsIf_0 rfl (lv_at hl 1 rfl) ?_
  refine lv_if_eq (tgt := 9) hx hb dX2_failsIf_1 (by decide) (fun c_1 => ?_) (fun c_1 => ?_)
  · have c_1 : b = false := u_zb.mp c_1
    exact hret _ _ _ _ (by rw [fiM, if_neg (by rw [c_1]; decide)]; exact hP) hS dX2_failsIf_9
  · have c_1 : ¬ (b = false) := fun q9 => c_1 (u_zb.mpr q9)
    refine lv_aload_n hx hb dX2_failsIf_4 rfl (lv_at hl 0 rfl) ?_
    refine lv_iload_n hx hb dX2_failsIf_5 rfl (lv_at hl 2 rfl) ?_
    refine k_X2_fails  hJ  SF hK (rk.le (Nat.le_of_ble_eq_true rfl)) hl.1 (Nat.le_of_ble_eq_true rfl) hP hS dX2_failsIf_6 (fun H locs hP hS => ?_)
    have hP : mP dC dI dA a (failM M c9) H := hP
    exact hret _ _ _ _ (by rw [fiM, if_pos (by simpa using c_1)]; exact hP) hS dX2_failsIf_9
theorem k_X2_failsIf (hJ : mJ a) {b : Bool} {c9 : Int32}  (SF : CallFix p m c cc nL s args lw_all RX2) (hK : KK dC dI dA s) (rk : rmOK 2 R) (hsz : ls.size = nL) (hcat : (rest.map fun v => v.category).sum ≤ 8) (hP : mP dC dI dA a M H) (hS : uS (mA a) H0 H locs) (hdg : decode cc pc = .ok (.invokevirtual 208, 3)) (k : ∀ (H1 : Heap) (locs1 : List Loc), mP dC dI dA a (fiM M b c9) H1 → uS (mA a) H0 H1 locs1 → W p l e R s m args below meth c H1 locs1 0 0 Q (F0 m (pc + 3) ls (rest))) : W p l e R s m args below meth c H locs 0 0 Q (F0 m pc ls (.int c9 :: .int (nI b.toNat) :: .ref (a 0) :: rest)) :=
  u_runMv (u_rV (C := RX2) (Ψ := (mP dC dI dA a M)) (As := [.int (nI b.toNat), .int c9]) SF hK rk (c_X2_failsIf l dC dI dA a M hJ b c9 ) (lw_V q2084 q2086 qs53 q117 q2087) (n := 2) (by decide +kernel) rfl (by decide) (va_recv hK hP (ci := 2) (q0 := 0) rfl rfl) hP hsz hcat ⟨Nat.zero_le _, Nat.zero_le _⟩ rfl hdg) hS (fun _ h => h) (fun H1 locs1 h1 h2 _ => k H1 locs1 h1 h2)

set_option maxHeartbeats 4000000 in
theorem c_X2_goesOn (l : Launch) (dC : Nat → ClassId) (dI : Nat → Nat → Nat) (dA : Nat → ClassId) (a : Nat → Nat) (M : Nat → Nat → Int32) (hJ : mJ a)  (hW : PW0 M) : Met l yX2_goesOn (ws_ yX2_goesOn cX2_goesOn 1 none) (rmD 3 0 0) (uPc [.ref (a 0)] (mP dC dI dA a M) dC dI dA) (uMv (mA a) (mP dC dI dA a (goM M))) 0 0 (mA a) := by
  refine u_metMv (own := RX2) (by decide) rfl (Nat.le_of_ble_eq_true rfl) fun p e R s m args below meth c Q SF rk hP hK hret ls hl => ?_
  have hx := SF.1
  have hb := SF.2.1
  have hml := SF.2.2.1
  have hown := SF.2.2.2.1
  have hts := SF.2.2.2.2
  have hS : uS (mA a) s.heap s.heap [] := uS.rf
  have hl : lv_has ls 1 [(0, .ref (a 0))] := hl
  refine lv_aload_n hx hb dX2_goesOn_0 rfl (lv_at hl 0 rfl) ?_
  refine va_get (D := (dC, dI)) (ci := 2) (v := .int (M 0 16)) (C := RX2) (T := TX2) (N := 22) hx hb hts in_X2 hown hK hP 0 rfl rfl 16 (by decide) (hts _ q1967) (fun _ h9 => h9) rfl dX2_goesOn_1 ?_
  refine lv_if_ne (tgt := 11) hx hb dX2_goesOn_4 (by decide) (fun c_4 => ?_) (fun c_4 => ?_)
  · exact hret _ _ _ _ (by rw [goM, if_neg c_4]; exact hP) hS dX2_goesOn_11
  · refine lv_aload_n hx hb dX2_goesOn_7 rfl (lv_at hl 0 rfl) ?_
    refine k_X2_token  hJ (by omega) SF hK (rk.le (Nat.le_of_ble_eq_true rfl)) hl.1 (Nat.le_of_ble_eq_true rfl) hP hS dX2_goesOn_8 (fun H locs hP hS => ?_)
    have hP : mP dC dI dA a (tokM M) H := hP
    exact hret _ _ _ _ (by rw [goM, if_pos c_4]; exact hP) hS dX2_goesOn_11
theorem k_X2_goesOn (hJ : mJ a)  (hW : PW0 M) (SF : CallFix p m c cc nL s args lw_all RX2) (hK : KK dC dI dA s) (rk : rmOK 4 R) (hsz : ls.size = nL) (hcat : (rest.map fun v => v.category).sum ≤ 8) (hP : mP dC dI dA a M H) (hS : uS (mA a) H0 H locs) (hdg : decode cc pc = .ok (.invokevirtual 202, 3)) (k : ∀ (H1 : Heap) (locs1 : List Loc), mP dC dI dA a (goM M) H1 → uS (mA a) H0 H1 locs1 → W p l e R s m args below meth c H1 locs1 0 0 Q (F0 m (pc + 3) ls (rest))) : W p l e R s m args below meth c H locs 0 0 Q (F0 m pc ls (.ref (a 0) :: rest)) :=
  u_runMv (u_rV (C := RX2) (Ψ := (mP dC dI dA a M)) (As := []) SF hK rk (c_X2_goesOn l dC dI dA a M hJ  hW) (lw_V q2092 q2094 qs55 q117 q2095) (n := 0) (by decide +kernel) rfl (by decide) (va_recv hK hP (ci := 2) (q0 := 0) rfl rfl) hP hsz hcat ⟨Nat.zero_le _, Nat.zero_le _⟩ rfl hdg) hS (fun _ h => h) (fun H1 locs1 h1 h2 _ => k H1 locs1 h1 h2)

set_option maxHeartbeats 4000000 in
theorem c_X2_looks (l : Launch) (dC : Nat → ClassId) (dI : Nat → Nat → Nat) (dA : Nat → ClassId) (a : Nat → Nat) (M : Nat → Nat → Int32) (hJ : mJ a) (lo : Int32) (hi : Int32)  : Met l yX2_looks (ws_ yX2_looks cX2_looks 3 (some .int)) (rmD 1 0 0) (uPc [.ref (a 0), .int lo, .int hi] (mP dC dI dA a M) dC dI dA) (uMi (mA a) (lookV M lo hi) (mP dC dI dA a (lookM M lo.toInt hi.toInt))) 0 0 (mA a) := by
  refine u_metMi (own := RX2) (by decide) rfl (Nat.le_of_ble_eq_true rfl) fun p e R s m args below meth c Q SF rk hP hK hret ls hl => ?_
  have hx := SF.1
  have hb := SF.2.1
  have hml := SF.2.2.1
  have hown := SF.2.2.2.1
  have hts := SF.2.2.2.2
  have hS : uS (mA a) s.heap s.heap [] := uS.rf
  have hl : lv_has ls 3 [(0, .ref (a 0)), (1, .int lo), (2, .int hi)] := hl
  refine lv_aload_n hx hb dX2_looks_0 rfl (lv_at hl 0 rfl) ?_
  refine va_get (D := (dC, dI)) (ci := 2) (v := .int (M 0 14)) (C := RX2) (T := TX2) (N := 22) hx hb hts in_X2 hown hK hP 0 rfl rfl 14 (by decide) (hts _ q1965) (fun _ h9 => h9) rfl dX2_looks_1 ?_
  refine lv_iconst (v := nI 2) hx hb dX2_looks_4 (by decide) ?_
  refine lv_icmp_eq (tgt := 16) hx hb dX2_looks_5 (by decide) (fun c_5 => ?_) (fun c_5 => ?_)
  · refine lv_aload_n hx hb dX2_looks_16 rfl (lv_at hl 0 rfl) ?_
    refine va_get (D := (dC, dI)) (ci := 2) (v := .int (M 0 15)) (C := RX2) (T := TX2) (N := 22) hx hb hts in_X2 hown hK hP 0 rfl rfl 15 (by decide) (hts _ q1966) (fun _ h9 => h9) rfl dX2_looks_17 ?_
    refine lv_i2l hx hb dX2_looks_20 rfl ?_
    refine lv_iload_n hx hb dX2_looks_21 rfl (lv_at hl 1 rfl) ?_
    refine lv_i2l hx hb dX2_looks_22 rfl ?_
    refine lv_iload_n hx hb dX2_looks_23 rfl (lv_at hl 2 rfl) ?_
    refine lv_i2l hx hb dX2_looks_24 rfl ?_
    refine k_X2_in (X := (M 0 15).toInt) (L := lo.toInt) (U := hi.toInt) (i2l_toInt _) (i2l_toInt _) (i2l_toInt _) SF hK (rk.le (Nat.le_of_ble_eq_true rfl)) hl.1 (Nat.le_of_ble_eq_true rfl) dX2_looks_25 ?_
    refine lv_if_ne (tgt := 36) hx hb dX2_looks_28 (by decide) (fun c_28 => ?_) (fun c_28 => ?_)
    · have c_28 : ¬ ((inZ ((M 0 15).toInt) lo.toInt hi.toInt) = false) := fun q9 => c_28 (u_zb.mpr q9)
      refine lv_aload_n hx hb dX2_looks_36 rfl (lv_at hl 0 rfl) ?_
      refine va_get (D := (dC, dI)) (ci := 2) (v := .int (M 0 16)) (C := RX2) (T := TX2) (N := 22) hx hb hts in_X2 hown hK hP 0 rfl rfl 16 (by decide) (hts _ q1967) (fun _ h9 => h9) rfl dX2_looks_37 ?_
      refine lv_if_eq (tgt := 47) hx hb dX2_looks_40 (by decide) (fun c_40 => ?_) (fun c_40 => ?_)
      · refine lv_aload_n hx hb dX2_looks_47 rfl (lv_at hl 0 rfl) ?_
        refine va_get (D := (dC, dI)) (ci := 2) (v := .int (M 0 15)) (C := RX2) (T := TX2) (N := 22) hx hb hts in_X2 hown hK hP 0 rfl rfl 15 (by decide) (hts _ q1966) (fun _ h9 => h9) rfl dX2_looks_48 ?_
        exact hret _ _ _ _ _ (by rw [lookV, show lookM M lo.toInt hi.toInt = M from by rw [lookM, if_neg (fun q => q c_5), if_pos (by simpa using c_28)]]; exact (if_pos c_40).symm) (by rw [show lookM M lo.toInt hi.toInt = M from by rw [lookM, if_neg (fun q => q c_5), if_pos (by simpa using c_28)]]; exact hP) hS dX2_looks_51
      · refine lv_iload_n hx hb dX2_looks_43 rfl (lv_at hl 1 rfl) ?_
        refine lv_goto (tgt := 51) hx hb dX2_looks_44 (by decide) ?_
        exact hret _ _ _ _ _ (by rw [lookV, show lookM M lo.toInt hi.toInt = M from by rw [lookM, if_neg (fun q => q c_5), if_pos (by simpa using c_28)]]; exact (if_neg c_40).symm) (by rw [show lookM M lo.toInt hi.toInt = M from by rw [lookM, if_neg (fun q => q c_5), if_pos (by simpa using c_28)]]; exact hP) hS dX2_looks_51
    · have c_28 : (inZ ((M 0 15).toInt) lo.toInt hi.toInt) = false := u_zb.mp c_28
      refine lv_aload_n hx hb dX2_looks_31 rfl (lv_at hl 0 rfl) ?_
      refine lv_iconst (v := nI 2) hx hb dX2_looks_32 (by decide) ?_
      refine k_X2_fails  hJ  SF hK (rk.le (Nat.le_of_ble_eq_true rfl)) hl.1 (Nat.le_of_ble_eq_true rfl) hP hS dX2_looks_33 (fun H locs hP hS => ?_)
      have hP : mP dC dI dA a (failM M (nI 2)) H := hP
      refine lv_aload_n hx hb dX2_looks_36 rfl (lv_at hl 0 rfl) ?_
      refine va_get (D := (dC, dI)) (ci := 2) (v := .int ((failM M (nI 2)) 0 16)) (C := RX2) (T := TX2) (N := 22) hx hb hts in_X2 hown hK hP 0 rfl rfl 16 (by decide) (hts _ q1967) (fun _ h9 => h9) rfl dX2_looks_37 ?_
      refine lv_if_eq (tgt := 47) hx hb dX2_looks_40 (by decide) (fun c_40 => ?_) (fun c_40 => ?_)
      · refine lv_aload_n hx hb dX2_looks_47 rfl (lv_at hl 0 rfl) ?_
        refine va_get (D := (dC, dI)) (ci := 2) (v := .int ((failM M (nI 2)) 0 15)) (C := RX2) (T := TX2) (N := 22) hx hb hts in_X2 hown hK hP 0 rfl rfl 15 (by decide) (hts _ q1966) (fun _ h9 => h9) rfl dX2_looks_48 ?_
        exact hret _ _ _ _ _ (by rw [lookV, show lookM M lo.toInt hi.toInt = failM M (nI 2) from by rw [lookM, if_neg (fun q => q c_5), if_neg (by rw [c_28]; decide)]]; exact (if_pos c_40).symm) (by rw [show lookM M lo.toInt hi.toInt = failM M (nI 2) from by rw [lookM, if_neg (fun q => q c_5), if_neg (by rw [c_28]; decide)]]; exact hP) hS dX2_looks_51
      · refine lv_iload_n hx hb dX2_looks_43 rfl (lv_at hl 1 rfl) ?_
        refine lv_goto (tgt := 51) hx hb dX2_looks_44 (by decide) ?_
        exact hret _ _ _ _ _ (by rw [lookV, show lookM M lo.toInt hi.toInt = failM M (nI 2) from by rw [lookM, if_neg (fun q => q c_5), if_neg (by rw [c_28]; decide)]]; exact (if_neg c_40).symm) (by rw [show lookM M lo.toInt hi.toInt = failM M (nI 2) from by rw [lookM, if_neg (fun q => q c_5), if_neg (by rw [c_28]; decide)]]; exact hP) hS dX2_looks_51
  · refine lv_aload_n hx hb dX2_looks_8 rfl (lv_at hl 0 rfl) ?_
    refine lv_iconst (v := nI 1) hx hb dX2_looks_9 (by decide) ?_
    refine k_X2_fails  hJ  SF hK (rk.le (Nat.le_of_ble_eq_true rfl)) hl.1 (Nat.le_of_ble_eq_true rfl) hP hS dX2_looks_10 (fun H locs hP hS => ?_)
    have hP : mP dC dI dA a (failM M (nI 1)) H := hP
    refine lv_goto (tgt := 36) hx hb dX2_looks_13 (by decide) ?_
    refine lv_aload_n hx hb dX2_looks_36 rfl (lv_at hl 0 rfl) ?_
    refine va_get (D := (dC, dI)) (ci := 2) (v := .int ((failM M (nI 1)) 0 16)) (C := RX2) (T := TX2) (N := 22) hx hb hts in_X2 hown hK hP 0 rfl rfl 16 (by decide) (hts _ q1967) (fun _ h9 => h9) rfl dX2_looks_37 ?_
    refine lv_if_eq (tgt := 47) hx hb dX2_looks_40 (by decide) (fun c_40 => ?_) (fun c_40 => ?_)
    · refine lv_aload_n hx hb dX2_looks_47 rfl (lv_at hl 0 rfl) ?_
      refine va_get (D := (dC, dI)) (ci := 2) (v := .int ((failM M (nI 1)) 0 15)) (C := RX2) (T := TX2) (N := 22) hx hb hts in_X2 hown hK hP 0 rfl rfl 15 (by decide) (hts _ q1966) (fun _ h9 => h9) rfl dX2_looks_48 ?_
      exact hret _ _ _ _ _ (by rw [lookV, show lookM M lo.toInt hi.toInt = failM M (nI 1) from by rw [lookM, if_pos c_5]]; exact (if_pos c_40).symm) (by rw [show lookM M lo.toInt hi.toInt = failM M (nI 1) from by rw [lookM, if_pos c_5]]; exact hP) hS dX2_looks_51
    · refine lv_iload_n hx hb dX2_looks_43 rfl (lv_at hl 1 rfl) ?_
      refine lv_goto (tgt := 51) hx hb dX2_looks_44 (by decide) ?_
      exact hret _ _ _ _ _ (by rw [lookV, show lookM M lo.toInt hi.toInt = failM M (nI 1) from by rw [lookM, if_pos c_5]]; exact (if_neg c_40).symm) (by rw [show lookM M lo.toInt hi.toInt = failM M (nI 1) from by rw [lookM, if_pos c_5]]; exact hP) hS dX2_looks_51
theorem k_X2_looks (hJ : mJ a) {lo : Int32} {hi : Int32}  (SF : CallFix p m c cc nL s args lw_all RX2) (hK : KK dC dI dA s) (rk : rmOK 2 R) (hsz : ls.size = nL) (hcat : (rest.map fun v => v.category).sum ≤ 8) (hP : mP dC dI dA a M H) (hS : uS (mA a) H0 H locs) (hdg : decode cc pc = .ok (.invokevirtual 199, 3)) (k : ∀ (H1 : Heap) (locs1 : List Loc), mP dC dI dA a (lookM M lo.toInt hi.toInt) H1 → uS (mA a) H0 H1 locs1 → W p l e R s m args below meth c H1 locs1 0 0 Q (F0 m (pc + 3) ls (.int (lookV M lo hi) :: rest))) : W p l e R s m args below meth c H locs 0 0 Q (F0 m pc ls (.int hi :: .int lo :: .ref (a 0) :: rest)) :=
  u_runM (u_rV (C := RX2) (Ψ := (mP dC dI dA a M)) (As := [.int lo, .int hi]) SF hK rk (c_X2_looks l dC dI dA a M hJ lo hi ) (lw_V q2100 q2102 qs57 q117 q2103) (n := 2) (by decide +kernel) rfl (by decide) (va_recv hK hP (ci := 2) (q0 := 0) rfl rfl) hP hsz hcat ⟨Nat.zero_le _, Nat.zero_le _⟩ rfl hdg) hS (fun _ h => h) (fun H1 locs1 h1 h2 _ => k H1 locs1 h1 h2)

set_option maxHeartbeats 4000000 in
theorem c_X2_takes (l : Launch) (dC : Nat → ClassId) (dI : Nat → Nat → Nat) (dA : Nat → ClassId) (a : Nat → Nat) (M : Nat → Nat → Int32) (hJ : mJ a) (lo : Int32) (hi : Int32) (hW : PW M) : Met l yX2_takes (ws_ yX2_takes cX2_takes 4 (some .int)) (rmD 4 0 0) (uPc [.ref (a 0), .int lo, .int hi] (mP dC dI dA a M) dC dI dA) (uMi (mA a) (lookV M lo hi) (mP dC dI dA a (takM M lo hi))) 0 0 (mA a) := by
  refine u_metMi (own := RX2) (by decide) rfl (Nat.le_of_ble_eq_true rfl) fun p e R s m args below meth c Q SF rk hP hK hret ls hl => ?_
  have hx := SF.1
  have hb := SF.2.1
  have hml := SF.2.2.1
  have hown := SF.2.2.2.1
  have hts := SF.2.2.2.2
  have hS : uS (mA a) s.heap s.heap [] := uS.rf
  have hl : lv_has ls 4 [(0, .ref (a 0)), (1, .int lo), (2, .int hi)] := hl
  refine lv_aload_n hx hb dX2_takes_0 rfl (lv_at hl 0 rfl) ?_
  refine lv_iload_n hx hb dX2_takes_1 rfl (lv_at hl 1 rfl) ?_
  refine lv_iload_n hx hb dX2_takes_2 rfl (lv_at hl 2 rfl) ?_
  refine k_X2_looks  hJ  SF hK (rk.le (Nat.le_of_ble_eq_true rfl)) hl.1 (Nat.le_of_ble_eq_true rfl) hP hS dX2_takes_3 (fun H locs hP hS => ?_)
  have hP : mP dC dI dA a (lookM M lo.toInt hi.toInt) H := hP
  refine lv_istore_n (lv' := [(3, .int (lookV M lo hi)), (0, .ref (a 0)), (1, .int lo), (2, .int hi)]) hx hb dX2_takes_6 rfl hl (by decide) rfl (fun ls hl => ?_)
  refine lv_aload_n hx hb dX2_takes_7 rfl (lv_at hl 1 rfl) ?_
  refine k_X2_goesOn (M := lookM M lo.toInt hi.toInt)  hJ (look_wf hW).1.p0 SF hK (rk.le (Nat.le_of_ble_eq_true rfl)) hl.1 (Nat.le_of_ble_eq_true rfl) hP hS dX2_takes_8 (fun H locs hP hS => ?_)
  have hP : mP dC dI dA a (goM (lookM M lo.toInt hi.toInt)) H := hP
  refine lv_iload_n hx hb dX2_takes_11 rfl (lv_at hl 0 rfl) ?_
  exact hret _ _ _ _ _ rfl hP hS dX2_takes_12
theorem k_X2_takes (hJ : mJ a) {lo : Int32} {hi : Int32} (hW : PW M) (SF : CallFix p m c cc nL s args lw_all RX2) (hK : KK dC dI dA s) (rk : rmOK 5 R) (hsz : ls.size = nL) (hcat : (rest.map fun v => v.category).sum ≤ 8) (hP : mP dC dI dA a M H) (hS : uS (mA a) H0 H locs) (hdg : decode cc pc = .ok (.invokevirtual 212, 3)) (k : ∀ (H1 : Heap) (locs1 : List Loc), mP dC dI dA a (takM M lo hi) H1 → uS (mA a) H0 H1 locs1 → W p l e R s m args below meth c H1 locs1 0 0 Q (F0 m (pc + 3) ls (.int (lookV M lo hi) :: rest))) : W p l e R s m args below meth c H locs 0 0 Q (F0 m pc ls (.int hi :: .int lo :: .ref (a 0) :: rest)) :=
  u_runM (u_rV (C := RX2) (Ψ := (mP dC dI dA a M)) (As := [.int lo, .int hi]) SF hK rk (c_X2_takes l dC dI dA a M hJ lo hi hW) (lw_V q2096 q2098 qs56 q117 q2099) (n := 2) (by decide +kernel) rfl (by decide) (va_recv hK hP (ci := 2) (q0 := 0) rfl rfl) hP hsz hcat ⟨Nat.zero_le _, Nat.zero_le _⟩ rfl hdg) hS (fun _ h => h) (fun H1 locs1 h1 h2 _ => k H1 locs1 h1 h2)
end TW
