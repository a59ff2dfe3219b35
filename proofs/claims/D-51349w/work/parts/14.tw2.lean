set_option maxRecDepth 100000
section TW
variable {p : Program} {l : Launch} {e : Env} {R : Room} {s : State} {m : MethodId} {args : Array Value} {below : List Frame} {meth : Method} {c : Code} {H : Heap} {locs : List Loc} {Q : State → Prop}
variable {cc : ByteArray} {pc nL : Nat} {ls : Array Slot} {rest : List Value} {dC : Nat → ClassId} {dI : Nat → Nat → Nat} {dA : Nat → ClassId} {a : Nat → Nat} {M : Nat → Nat → Int32} {H0 : Heap}

set_option maxHeartbeats 4000000 in
theorem c_X2_farTown (l : Launch) (dC : Nat → ClassId) (dI : Nat → Nat → Nat) (dA : Nat → ClassId) (a : Nat → Nat) (M : Nat → Nat → Int32) (lt : Nat) (t : Nat) (hlt : lt < ln (M 2)) (ht : t < tn (M 1)) (hS1 : SWf (M 2)) (hT : TWf (M 1)) : Met l yX2_farTown (ws_ yX2_farTown cX2_farTown 3 (some .int)) (rmD 4 0 0) (uPc [.ref (a 0), .int (nI lt), .int (nI t)] (mP dC dI dA a M) dC dI dA) (uQi (nI (farT (M 2) (M 1) lt t))) 0 0 noF := by
  refine u_meti (own := RX2) (by decide) rfl (Nat.le_of_ble_eq_true rfl) fun p e R s m args below meth c Q SF rk hP hK hret ls hl => ?_
  have hx := SF.1
  have hb := SF.2.1
  have hml := SF.2.2.1
  have hown := SF.2.2.2.1
  have hts := SF.2.2.2.2
  have hl : lv_has ls 3 [(0, .ref (a 0)), (1, .int (nI lt)), (2, .int (nI t))] := hl
  have hL := hS1.2.1
  have hn9 := hT.2.1
  refine lv_aload_n hx hb dX2_farTown_0 rfl (lv_at hl 0 rfl) ?_
  refine lv_iload_n hx hb dX2_farTown_1 rfl (lv_at hl 1 rfl) ?_
  refine lv_aload_n hx hb dX2_farTown_2 rfl (lv_at hl 0 rfl) ?_
  refine lv_iload_n hx hb dX2_farTown_3 rfl (lv_at hl 2 rfl) ?_
  refine k_X2_codeAt  ht hT SF hK (rk.le (Nat.le_of_ble_eq_true rfl)) hl.1 (Nat.le_of_ble_eq_true rfl) hP dX2_farTown_4 ?_
  refine k_X2_far  (by omega) (cd_lt (hT.2.2 t ht).2.1) (hS1.2.2.2.2 lt hlt).1 SF hK (rk.le (Nat.le_of_ble_eq_true rfl)) hl.1 (Nat.le_of_ble_eq_true rfl) hP dX2_farTown_7 ?_
  exact hret _ _ _ rfl dX2_farTown_10
theorem k_X2_farTown {lt : Nat} {t : Nat} (hlt : lt < ln (M 2)) (ht : t < tn (M 1)) (hS1 : SWf (M 2)) (hT : TWf (M 1)) (SF : CallFix p m c cc nL s args lw_all RX2) (hK : KK dC dI dA s) (rk : rmOK 5 R) (hsz : ls.size = nL) (hcat : (rest.map fun v => v.category).sum ≤ 8) (hP : mP dC dI dA a M H) (hdg : decode cc pc = .ok (.invokevirtual 94, 3)) (k : W p l e R s m args below meth c H locs 0 0 Q (F0 m (pc + 3) ls (.int (nI (farT (M 2) (M 1) lt t)) :: rest))) : W p l e R s m args below meth c H locs 0 0 Q (F0 m pc ls (.int (nI t) :: .int (nI lt) :: .ref (a 0) :: rest)) :=
  u_run (u_rV (C := RX2) (Ψ := (mP dC dI dA a M)) (As := [.int (nI lt), .int (nI t)]) SF hK rk (c_X2_farTown l dC dI dA a M lt t hlt ht hS1 hT) (lw_V q2184 q2186 qs76 q117 q2187) (n := 2) (by decide +kernel) rfl (by decide) (va_recv hK hP (ci := 2) (q0 := 0) rfl rfl) hP hsz hcat ⟨Nat.zero_le _, Nat.zero_le _⟩ rfl hdg) k

set_option maxHeartbeats 4000000 in
theorem c_X2_unread (l : Launch) (dC : Nat → ClassId) (dI : Nat → Nat → Nat) (dA : Nat → ClassId) (a : Nat → Nat) (M : Nat → Nat → Int32) (lt : Nat) (hlt : lt < 24) : Met l yX2_unread (ws_ yX2_unread cX2_unread 4 (some .int)) (rmD 1 0 0) (uPc [.ref (a 0), .int (nI lt)] (mP dC dI dA a M) dC dI dA) (uQi (nI (unr (M 2) lt))) 0 0 noF := by
  refine u_meti (own := RX2) (by decide) rfl (Nat.le_of_ble_eq_true rfl) fun p e R s m args below meth c Q SF rk hP hK hret ls hl => ?_
  have hx := SF.1
  have hb := SF.2.1
  have hml := SF.2.2.1
  have hown := SF.2.2.2.1
  have hts := SF.2.2.2.2
  have hl : lv_has ls 4 [(0, .ref (a 0)), (1, .int (nI lt))] := hl
  refine lv_iconst (v := nI 0) hx hb dX2_unread_0 (by decide) ?_
  refine lv_istore_n (lv' := [(2, .int (nI 0)), (0, .ref (a 0)), (1, .int (nI lt))]) hx hb dX2_unread_1 rfl hl (by decide) rfl (fun ls hl => ?_)
  refine lv_iconst (v := nI 0) hx hb dX2_unread_2 (by decide) ?_
  refine lv_istore_n (lv' := [(3, .int (nI 0)), (2, .int (nI 0)), (0, .ref (a 0)), (1, .int (nI lt))]) hx hb dX2_unread_3 rfl hl (by decide) rfl (fun ls hl => ?_)
  have lp4 : ∀ (k0 : Nat) (k : Nat), k ≤ 5 → 5 < k + k0 → ∀ ls : Array Slot, lv_has ls 4 [(3, .int (nI k)), (2, .int (nI (cntN (fun p => decide (lr (M 2) lt p = -1)) k))), (0, .ref (a 0)), (1, .int (nI lt))] → W p l e R s m args below meth c s.heap [] 0 0 Q (F0 m 4 ls []) := by
    intro k0
    induction k0 with
    | zero =>
      intro k hk1 hk2; omega
    | succ k0 ih =>
      intro k hk1 hk2 ls hl
      have ih4 := ih
      refine lv_iload_n hx hb dX2_unread_4 rfl (lv_at hl 0 rfl) ?_
      refine lv_iconst (v := nI 5) hx hb dX2_unread_5 (by decide) ?_
      refine lv_icmp_ge (tgt := 36) hx hb dX2_unread_6 (by decide) (fun c_6 => ?_) (fun c_6 => ?_)
      · have c_6 : 5 ≤ k := (nI_leI (a := 5) (b := k) (by omega) (by omega)).mp c_6
        refine lv_iload_n hx hb dX2_unread_36 rfl (lv_at hl 1 rfl) ?_
        exact hret _ _ _ (by rw [show k = 5 by omega]; rfl) dX2_unread_37
      · have c_6 : ¬ (5 ≤ k) := fun q9 => c_6 ((nI_leI (a := 5) (b := k) (by omega) (by omega)).mpr q9)
        refine lv_iload_n hx hb dX2_unread_9 rfl (lv_at hl 1 rfl) ?_
        refine lv_aload_n hx hb dX2_unread_10 rfl (lv_at hl 2 rfl) ?_
        refine lv_iload_n hx hb dX2_unread_11 rfl (lv_at hl 3 rfl) ?_
        refine lv_iload_n hx hb dX2_unread_12 rfl (lv_at hl 0 rfl) ?_
        refine k_X2_l  (by omega) (by omega) SF hK (rk.le (Nat.le_of_ble_eq_true rfl)) hl.1 (Nat.le_of_ble_eq_true rfl) hP dX2_unread_13 ?_
        refine lv_iconst (v := (-1)) hx hb dX2_unread_16 (by decide) ?_
        have jn25 : ∀ v9 : Int32, v9 = nI ((decide (lr (M 2) lt k = (-1))).toNat) → ∀ ls : Array Slot, lv_has ls 4 [(3, .int (nI k)), (2, .int (nI (cntN (fun p => decide (lr (M 2) lt p = -1)) k))), (0, .ref (a 0)), (1, .int (nI lt))] → W p l e R s m args below meth c s.heap [] 0 0 Q (F0 m 25 ls [.int v9, .int (nI (cntN (fun p => decide (lr (M 2) lt p = -1)) k))]) := by
          intro v9 hv9 ls hl
          subst hv9
          refine k_X2_flag   SF hK (rk.le (Nat.le_of_ble_eq_true rfl)) hl.1 (Nat.le_of_ble_eq_true rfl) dX2_unread_25 ?_
          refine lv_iadd hx hb dX2_unread_28 ?_
          refine u_top (nI_add _ _) ?_
          refine lv_istore_n (lv' := [(2, .int (nI (cntN (fun p => decide (lr (M 2) lt p = -1)) k + ((decide (lr (M 2) lt k = (-1))).toNat)))), (3, .int (nI k)), (0, .ref (a 0)), (1, .int (nI lt))]) hx hb dX2_unread_29 rfl hl (by decide) rfl (fun ls hl => ?_)
          refine lv_iinc (v := nI (k + 1)) (lv' := [(3, .int (nI (k + 1))), (2, .int (nI (cntN (fun p => decide (lr (M 2) lt p = -1)) k + ((decide (lr (M 2) lt k = (-1))).toNat)))), (0, .ref (a 0)), (1, .int (nI lt))]) hx hb dX2_unread_30 hl (k := 1) rfl (nI_add _ 1) (by decide) rfl (fun ls hl => ?_)
          refine lv_goto (tgt := 4) hx hb dX2_unread_33 (by decide) ?_
          exact ih4 (k + 1) (by omega) (by omega) ls (lv_sub hl [0, 1, 2, 3] rfl)
        refine lv_icmp_ne (tgt := 24) hx hb dX2_unread_17 (by decide) (fun c_17 => ?_) (fun c_17 => ?_)
        · refine lv_iconst (v := nI 0) hx hb dX2_unread_24 (by decide) ?_
          exact jn25 _ (u_d0 c_17) ls (lv_sub hl [0, 1, 2, 3] rfl)
        · refine lv_iconst (v := nI 1) hx hb dX2_unread_20 (by decide) ?_
          refine lv_goto (tgt := 25) hx hb dX2_unread_21 (by decide) ?_
          exact jn25 _ (u_d1 c_17) ls (lv_sub hl [0, 1, 2, 3] rfl)
  exact lp4 (5 + 1) 0 (by omega) (by omega) ls (lv_sub hl [0, 1, 2, 3] rfl)
theorem k_X2_unread {lt : Nat} (hlt : lt < 24) (SF : CallFix p m c cc nL s args lw_all RX2) (hK : KK dC dI dA s) (rk : rmOK 2 R) (hsz : ls.size = nL) (hcat : (rest.map fun v => v.category).sum ≤ 8) (hP : mP dC dI dA a M H) (hdg : decode cc pc = .ok (.invokevirtual 103, 3)) (k : W p l e R s m args below meth c H locs 0 0 Q (F0 m (pc + 3) ls (.int (nI (unr (M 2) lt)) :: rest))) : W p l e R s m args below meth c H locs 0 0 Q (F0 m pc ls (.int (nI lt) :: .ref (a 0) :: rest)) :=
  u_run (u_rV (C := RX2) (Ψ := (mP dC dI dA a M)) (As := [.int (nI lt)]) SF hK rk (c_X2_unread l dC dI dA a M lt hlt) (lw_V q2169 q2171 qs73 q117 q2172) (n := 1) (by decide +kernel) rfl (by decide) (va_recv hK hP (ci := 2) (q0 := 0) rfl rfl) hP hsz hcat ⟨Nat.zero_le _, Nat.zero_le _⟩ rfl hdg) k

set_option maxHeartbeats 4000000 in
theorem c_X2_leastFar (l : Launch) (dC : Nat → ClassId) (dI : Nat → Nat → Nat) (dA : Nat → ClassId) (a : Nat → Nat) (M : Nat → Nat → Int32) (lt : Nat) (hlt : lt < ln (M 2)) (hS1 : SWf (M 2)) (hT : TWf (M 1)) : Met l yX2_leastFar (ws_ yX2_leastFar cX2_leastFar 4 (some .int)) (rmD 5 0 0) (uPc [.ref (a 0), .int (nI lt)] (mP dC dI dA a M) dC dI dA) (uQi (nI (lst (M 2) (M 1) lt))) 0 0 noF := by
  refine u_meti (own := RX2) (by decide) rfl (Nat.le_of_ble_eq_true rfl) fun p e R s m args below meth c Q SF rk hP hK hret ls hl => ?_
  have hx := SF.1
  have hb := SF.2.1
  have hml := SF.2.2.1
  have hown := SF.2.2.2.1
  have hts := SF.2.2.2.2
  have hl : lv_has ls 4 [(0, .ref (a 0)), (1, .int (nI lt))] := hl
  have hL := hS1.2.1
  have hn9 := hT.2.1
  refine lv_bipush (v := nI 10) hx hb dX2_leastFar_0 (by decide) ?_
  refine lv_istore_n (lv' := [(2, .int (nI 10)), (0, .ref (a 0)), (1, .int (nI lt))]) hx hb dX2_leastFar_2 rfl hl (by decide) rfl (fun ls hl => ?_)
  refine lv_iconst (v := nI 0) hx hb dX2_leastFar_3 (by decide) ?_
  refine lv_istore_n (lv' := [(3, .int (nI 0)), (2, .int (nI 10)), (0, .ref (a 0)), (1, .int (nI lt))]) hx hb dX2_leastFar_4 rfl hl (by decide) rfl (fun ls hl => ?_)
  have lp5 : ∀ (k0 : Nat) (t : Nat), t ≤ tn (M 1) → tn (M 1) < t + k0 → ∀ ls : Array Slot, lv_has ls 4 [(3, .int (nI t)), (2, .int (nI (minN (farT (M 2) (M 1) lt) 10 t))), (0, .ref (a 0)), (1, .int (nI lt))] → W p l e R s m args below meth c s.heap [] 0 0 Q (F0 m 5 ls []) := by
    intro k0
    induction k0 with
    | zero =>
      intro t ht1 ht2; omega
    | succ k0 ih =>
      intro t ht1 ht2 ls hl
      have ih5 := ih
      have hm9 := minN_le (farT (M 2) (M 1) lt) 10 t
      have hf9 := farT_le (M 2) (M 1) lt t
      refine lv_iload_n hx hb dX2_leastFar_5 rfl (lv_at hl 0 rfl) ?_
      refine lv_aload_n hx hb dX2_leastFar_6 rfl (lv_at hl 2 rfl) ?_
      refine k_X2_towns   SF hK (rk.le (Nat.le_of_ble_eq_true rfl)) hl.1 (Nat.le_of_ble_eq_true rfl) hP dX2_leastFar_7 ?_
      refine u_top (y := nI (tn (M 1))) hT.1 ?_
      refine lv_icmp_ge (tgt := 30) hx hb dX2_leastFar_10 (by decide) (fun c_10 => ?_) (fun c_10 => ?_)
      · have c_10 : tn (M 1) ≤ t := (nI_leI (a := tn (M 1)) (b := t) (by omega) (by omega)).mp c_10
        refine lv_iload_n hx hb dX2_leastFar_30 rfl (lv_at hl 1 rfl) ?_
        exact hret _ _ _ (by rw [show t = tn (M 1) by omega]; rfl) dX2_leastFar_31
      · have c_10 : ¬ (tn (M 1) ≤ t) := fun q9 => c_10 ((nI_leI (a := tn (M 1)) (b := t) (by omega) (by omega)).mpr q9)
        refine lv_iload_n hx hb dX2_leastFar_13 rfl (lv_at hl 1 rfl) ?_
        refine lv_aload_n hx hb dX2_leastFar_14 rfl (lv_at hl 2 rfl) ?_
        refine lv_iload_n hx hb dX2_leastFar_15 rfl (lv_at hl 3 rfl) ?_
        refine lv_iload_n hx hb dX2_leastFar_16 rfl (lv_at hl 0 rfl) ?_
        refine k_X2_farTown  hlt (by omega) hS1 hT SF hK (rk.le (Nat.le_of_ble_eq_true rfl)) hl.1 (Nat.le_of_ble_eq_true rfl) hP dX2_leastFar_17 ?_
        refine va_mmin hx hb (hml.trans hl.1.symm) hown (hts _ q2208) (hts _ q522) (hts _ q131) (hts _ q523) (Nat.le_trans (Nat.le_of_ble_eq_true rfl) rk.1) (Nat.le_trans (Nat.le_of_ble_eq_true rfl) rk.2) (Nat.zero_le _) (Nat.zero_le _) dX2_leastFar_20 ?_
        refine u_top (nI_min (by omega) (by omega)) ?_
        refine lv_istore_n (lv' := [(2, .int (nI (min (minN (farT (M 2) (M 1) lt) 10 t) (farT (M 2) (M 1) lt t)))), (3, .int (nI t)), (0, .ref (a 0)), (1, .int (nI lt))]) hx hb dX2_leastFar_23 rfl hl (by decide) rfl (fun ls hl => ?_)
        refine lv_iinc (v := nI (t + 1)) (lv' := [(3, .int (nI (t + 1))), (2, .int (nI (min (minN (farT (M 2) (M 1) lt) 10 t) (farT (M 2) (M 1) lt t)))), (0, .ref (a 0)), (1, .int (nI lt))]) hx hb dX2_leastFar_24 hl (k := 1) rfl (nI_add _ 1) (by decide) rfl (fun ls hl => ?_)
        refine lv_goto (tgt := 5) hx hb dX2_leastFar_27 (by decide) ?_
        exact ih5 (t + 1) (by omega) (by omega) ls (lv_sub hl [0, 1, 2, 3] rfl)
  exact lp5 (tn (M 1) + 1) 0 (by omega) (by omega) ls (lv_sub hl [0, 1, 2, 3] rfl)
theorem k_X2_leastFar {lt : Nat} (hlt : lt < ln (M 2)) (hS1 : SWf (M 2)) (hT : TWf (M 1)) (SF : CallFix p m c cc nL s args lw_all RX2) (hK : KK dC dI dA s) (rk : rmOK 6 R) (hsz : ls.size = nL) (hcat : (rest.map fun v => v.category).sum ≤ 8) (hP : mP dC dI dA a M H) (hdg : decode cc pc = .ok (.invokevirtual 97, 3)) (k : W p l e R s m args below meth c H locs 0 0 Q (F0 m (pc + 3) ls (.int (nI (lst (M 2) (M 1) lt)) :: rest))) : W p l e R s m args below meth c H locs 0 0 Q (F0 m pc ls (.int (nI lt) :: .ref (a 0) :: rest)) :=
  u_run (u_rV (C := RX2) (Ψ := (mP dC dI dA a M)) (As := [.int (nI lt)]) SF hK rk (c_X2_leastFar l dC dI dA a M lt hlt hS1 hT) (lw_V q2210 q2212 qs79 q117 q2213) (n := 1) (by decide +kernel) rfl (by decide) (va_recv hK hP (ci := 2) (q0 := 0) rfl rfl) hP hsz hcat ⟨Nat.zero_le _, Nat.zero_le _⟩ rfl hdg) k

set_option maxHeartbeats 4000000 in
theorem c_X2_nearTowns (l : Launch) (dC : Nat → ClassId) (dI : Nat → Nat → Nat) (dA : Nat → ClassId) (a : Nat → Nat) (M : Nat → Nat → Int32) (lt : Nat) (hlt : lt < ln (M 2)) (hS1 : SWf (M 2)) (hT : TWf (M 1)) : Met l yX2_nearTowns (ws_ yX2_nearTowns cX2_nearTowns 4 (some .int)) (rmD 5 0 0) (uPc [.ref (a 0), .int (nI lt)] (mP dC dI dA a M) dC dI dA) (uQi (nI (nrT (M 2) (M 1) lt))) 0 0 noF := by
  refine u_meti (own := RX2) (by decide) rfl (Nat.le_of_ble_eq_true rfl) fun p e R s m args below meth c Q SF rk hP hK hret ls hl => ?_
  have hx := SF.1
  have hb := SF.2.1
  have hml := SF.2.2.1
  have hown := SF.2.2.2.1
  have hts := SF.2.2.2.2
  have hl : lv_has ls 4 [(0, .ref (a 0)), (1, .int (nI lt))] := hl
  have hL := hS1.2.1
  have hn9 := hT.2.1
  refine lv_iconst (v := nI 0) hx hb dX2_nearTowns_0 (by decide) ?_
  refine lv_istore_n (lv' := [(2, .int (nI 0)), (0, .ref (a 0)), (1, .int (nI lt))]) hx hb dX2_nearTowns_1 rfl hl (by decide) rfl (fun ls hl => ?_)
  refine lv_iconst (v := nI 0) hx hb dX2_nearTowns_2 (by decide) ?_
  refine lv_istore_n (lv' := [(3, .int (nI 0)), (2, .int (nI 0)), (0, .ref (a 0)), (1, .int (nI lt))]) hx hb dX2_nearTowns_3 rfl hl (by decide) rfl (fun ls hl => ?_)
  have lp4 : ∀ (k0 : Nat) (t : Nat), t ≤ tn (M 1) → tn (M 1) < t + k0 → ∀ ls : Array Slot, lv_has ls 4 [(3, .int (nI t)), (2, .int (nI (cntN (fun t => decide (farT (M 2) (M 1) lt t ≤ lim (M 2))) t))), (0, .ref (a 0)), (1, .int (nI lt))] → W p l e R s m args below meth c s.heap [] 0 0 Q (F0 m 4 ls []) := by
    intro k0
    induction k0 with
    | zero =>
      intro t ht1 ht2; omega
    | succ k0 ih =>
      intro t ht1 ht2 ls hl
      have ih4 := ih
      have hf9 := farT_le (M 2) (M 1) lt t
      have hlim := hS1.2.2.2.1
      refine lv_iload_n hx hb dX2_nearTowns_4 rfl (lv_at hl 0 rfl) ?_
      refine lv_aload_n hx hb dX2_nearTowns_5 rfl (lv_at hl 2 rfl) ?_
      refine k_X2_towns   SF hK (rk.le (Nat.le_of_ble_eq_true rfl)) hl.1 (Nat.le_of_ble_eq_true rfl) hP dX2_nearTowns_6 ?_
      refine u_top (y := nI (tn (M 1))) hT.1 ?_
      refine lv_icmp_ge (tgt := 44) hx hb dX2_nearTowns_9 (by decide) (fun c_9 => ?_) (fun c_9 => ?_)
      · have c_9 : tn (M 1) ≤ t := (nI_leI (a := tn (M 1)) (b := t) (by omega) (by omega)).mp c_9
        refine lv_iload_n hx hb dX2_nearTowns_44 rfl (lv_at hl 1 rfl) ?_
        exact hret _ _ _ (by rw [show t = tn (M 1) by omega]; rfl) dX2_nearTowns_45
      · have c_9 : ¬ (tn (M 1) ≤ t) := fun q9 => c_9 ((nI_leI (a := tn (M 1)) (b := t) (by omega) (by omega)).mpr q9)
        refine lv_iload_n hx hb dX2_nearTowns_12 rfl (lv_at hl 1 rfl) ?_
        refine lv_aload_n hx hb dX2_nearTowns_13 rfl (lv_at hl 2 rfl) ?_
        refine lv_iload_n hx hb dX2_nearTowns_14 rfl (lv_at hl 3 rfl) ?_
        refine lv_iload_n hx hb dX2_nearTowns_15 rfl (lv_at hl 0 rfl) ?_
        refine k_X2_farTown  hlt (by omega) hS1 hT SF hK (rk.le (Nat.le_of_ble_eq_true rfl)) hl.1 (Nat.le_of_ble_eq_true rfl) hP dX2_nearTowns_16 ?_
        refine lv_aload_n hx hb dX2_nearTowns_19 rfl (lv_at hl 2 rfl) ?_
        refine va_get (D := (dC, dI)) (ci := 2) (v := .ref (a 2)) (C := RX2) (T := TX2) (N := 22) hx hb hts in_X2 hown hK hP 0 rfl rfl 3 (by decide) (hts _ q1954) (fun _ h9 => h9) rfl dX2_nearTowns_20 ?_
        refine lv_iconst (v := nI 0) hx hb dX2_nearTowns_23 (by decide) ?_
        refine u_iald hx hb hK hP 2 0 rfl rfl (i := 0) (by omega) (by decide) dX2_nearTowns_24 ?_
        refine u_top (y := nI (lim (M 2))) hS1.2.2.1 ?_
        have jn33 : ∀ v9 : Int32, v9 = nI ((decide (farT (M 2) (M 1) lt t ≤ lim (M 2))).toNat) → ∀ ls : Array Slot, lv_has ls 4 [(3, .int (nI t)), (2, .int (nI (cntN (fun t => decide (farT (M 2) (M 1) lt t ≤ lim (M 2))) t))), (0, .ref (a 0)), (1, .int (nI lt))] → W p l e R s m args below meth c s.heap [] 0 0 Q (F0 m 33 ls [.int v9, .int (nI (cntN (fun t => decide (farT (M 2) (M 1) lt t ≤ lim (M 2))) t))]) := by
          intro v9 hv9 ls hl
          subst hv9
          refine k_X2_flag   SF hK (rk.le (Nat.le_of_ble_eq_true rfl)) hl.1 (Nat.le_of_ble_eq_true rfl) dX2_nearTowns_33 ?_
          refine lv_iadd hx hb dX2_nearTowns_36 ?_
          refine u_top (nI_add _ _) ?_
          refine lv_istore_n (lv' := [(2, .int (nI (cntN (fun t => decide (farT (M 2) (M 1) lt t ≤ lim (M 2))) t + ((decide (farT (M 2) (M 1) lt t ≤ lim (M 2))).toNat)))), (3, .int (nI t)), (0, .ref (a 0)), (1, .int (nI lt))]) hx hb dX2_nearTowns_37 rfl hl (by decide) rfl (fun ls hl => ?_)
          refine lv_iinc (v := nI (t + 1)) (lv' := [(3, .int (nI (t + 1))), (2, .int (nI (cntN (fun t => decide (farT (M 2) (M 1) lt t ≤ lim (M 2))) t + ((decide (farT (M 2) (M 1) lt t ≤ lim (M 2))).toNat)))), (0, .ref (a 0)), (1, .int (nI lt))]) hx hb dX2_nearTowns_38 hl (k := 1) rfl (nI_add _ 1) (by decide) rfl (fun ls hl => ?_)
          refine lv_goto (tgt := 4) hx hb dX2_nearTowns_41 (by decide) ?_
          exact ih4 (t + 1) (by omega) (by omega) ls (lv_sub hl [0, 1, 2, 3] rfl)
        refine lv_icmp_gt (tgt := 32) hx hb dX2_nearTowns_25 (by decide) (fun c_25 => ?_) (fun c_25 => ?_)
        · have c_25 : lim (M 2) < farT (M 2) (M 1) lt t := (nI_ltI (a := lim (M 2)) (b := farT (M 2) (M 1) lt t) (by omega) (by omega)).mp c_25
          refine lv_iconst (v := nI 0) hx hb dX2_nearTowns_32 (by decide) ?_
          exact jn33 _ (u_d0 (by omega)) ls (lv_sub hl [0, 1, 2, 3] rfl)
        · have c_25 : ¬ (lim (M 2) < farT (M 2) (M 1) lt t) := fun q9 => c_25 ((nI_ltI (a := lim (M 2)) (b := farT (M 2) (M 1) lt t) (by omega) (by omega)).mpr q9)
          refine lv_iconst (v := nI 1) hx hb dX2_nearTowns_28 (by decide) ?_
          refine lv_goto (tgt := 33) hx hb dX2_nearTowns_29 (by decide) ?_
          exact jn33 _ (u_d1 (by omega)) ls (lv_sub hl [0, 1, 2, 3] rfl)
  exact lp4 (tn (M 1) + 1) 0 (by omega) (by omega) ls (lv_sub hl [0, 1, 2, 3] rfl)
theorem k_X2_nearTowns {lt : Nat} (hlt : lt < ln (M 2)) (hS1 : SWf (M 2)) (hT : TWf (M 1)) (SF : CallFix p m c cc nL s args lw_all RX2) (hK : KK dC dI dA s) (rk : rmOK 6 R) (hsz : ls.size = nL) (hcat : (rest.map fun v => v.category).sum ≤ 8) (hP : mP dC dI dA a M H) (hdg : decode cc pc = .ok (.invokevirtual 124, 3)) (k : W p l e R s m args below meth c H locs 0 0 Q (F0 m (pc + 3) ls (.int (nI (nrT (M 2) (M 1) lt)) :: rest))) : W p l e R s m args below meth c H locs 0 0 Q (F0 m pc ls (.int (nI lt) :: .ref (a 0) :: rest)) :=
  u_run (u_rV (C := RX2) (Ψ := (mP dC dI dA a M)) (As := [.int (nI lt)]) SF hK rk (c_X2_nearTowns l dC dI dA a M lt hlt hS1 hT) (lw_V q2224 q2226 qs81 q117 q2227) (n := 1) (by decide +kernel) rfl (by decide) (va_recv hK hP (ci := 2) (q0 := 0) rfl rfl) hP hsz hcat ⟨Nat.zero_le _, Nat.zero_le _⟩ rfl hdg) k

set_option maxHeartbeats 4000000 in
theorem c_X2_isBest (l : Launch) (dC : Nat → ClassId) (dI : Nat → Nat → Nat) (dA : Nat → ClassId) (a : Nat → Nat) (M : Nat → Nat → Int32) (lt : Nat) (t : Nat) (hlt : lt < ln (M 2)) (ht : t < tn (M 1)) (hS1 : SWf (M 2)) (hT : TWf (M 1)) : Met l yX2_isBest (ws_ yX2_isBest cX2_isBest 4 (some .boolean)) (rmD 6 0 0) (uPc [.ref (a 0), .int (nI lt), .int (nI t)] (mP dC dI dA a M) dC dI dA) (uQi (nI (isB (M 2) (M 1) lt t).toNat)) 0 0 noF := by
  refine u_metz (own := RX2) (by decide) rfl (Nat.le_of_ble_eq_true rfl) fun p e R s m args below meth c Q SF rk hP hK hret ls hl => ?_
  have hx := SF.1
  have hb := SF.2.1
  have hml := SF.2.2.1
  have hown := SF.2.2.2.1
  have hts := SF.2.2.2.2
  have hl : lv_has ls 4 [(0, .ref (a 0)), (1, .int (nI lt)), (2, .int (nI t))] := hl
  have hL := hS1.2.1
  have hn9 := hT.2.1
  have hf9 := farT_le (M 2) (M 1) lt t
  have hlim := hS1.2.2.2.1
  have hm9 : lst (M 2) (M 1) lt ≤ 10 := minN_le _ _ _
  refine lv_aload_n hx hb dX2_isBest_0 rfl (lv_at hl 0 rfl) ?_
  refine lv_iload_n hx hb dX2_isBest_1 rfl (lv_at hl 1 rfl) ?_
  refine lv_iload_n hx hb dX2_isBest_2 rfl (lv_at hl 2 rfl) ?_
  refine k_X2_farTown  hlt ht hS1 hT SF hK (rk.le (Nat.le_of_ble_eq_true rfl)) hl.1 (Nat.le_of_ble_eq_true rfl) hP dX2_isBest_3 ?_
  refine lv_istore_n (lv' := [(3, .int (nI (farT (M 2) (M 1) lt t))), (0, .ref (a 0)), (1, .int (nI lt)), (2, .int (nI t))]) hx hb dX2_isBest_6 rfl hl (by decide) rfl (fun ls hl => ?_)
  refine lv_iload_n hx hb dX2_isBest_7 rfl (lv_at hl 0 rfl) ?_
  refine lv_aload_n hx hb dX2_isBest_8 rfl (lv_at hl 1 rfl) ?_
  refine va_get (D := (dC, dI)) (ci := 2) (v := .ref (a 2)) (C := RX2) (T := TX2) (N := 22) hx hb hts in_X2 hown hK hP 0 rfl rfl 3 (by decide) (hts _ q1954) (fun _ h9 => h9) rfl dX2_isBest_9 ?_
  refine lv_iconst (v := nI 0) hx hb dX2_isBest_12 (by decide) ?_
  refine u_iald hx hb hK hP 2 0 rfl rfl (i := 0) (by omega) (by decide) dX2_isBest_13 ?_
  refine u_top (y := nI (lim (M 2))) hS1.2.2.1 ?_
  refine lv_icmp_gt (tgt := 30) hx hb dX2_isBest_14 (by decide) (fun c_14 => ?_) (fun c_14 => ?_)
  · have c_14 : lim (M 2) < farT (M 2) (M 1) lt t := (nI_ltI (a := lim (M 2)) (b := farT (M 2) (M 1) lt t) (by omega) (by omega)).mp c_14
    refine lv_iconst (v := nI 0) hx hb dX2_isBest_30 (by decide) ?_
    exact hret _ _ _ (u_ff (by rw [isB_iff]; omega)) dX2_isBest_31
  · have c_14 : ¬ (lim (M 2) < farT (M 2) (M 1) lt t) := fun q9 => c_14 ((nI_ltI (a := lim (M 2)) (b := farT (M 2) (M 1) lt t) (by omega) (by omega)).mpr q9)
    refine lv_iload_n hx hb dX2_isBest_17 rfl (lv_at hl 0 rfl) ?_
    refine lv_aload_n hx hb dX2_isBest_18 rfl (lv_at hl 1 rfl) ?_
    refine lv_iload_n hx hb dX2_isBest_19 rfl (lv_at hl 2 rfl) ?_
    refine k_X2_leastFar  hlt hS1 hT SF hK (rk.le (Nat.le_of_ble_eq_true rfl)) hl.1 (Nat.le_of_ble_eq_true rfl) hP dX2_isBest_20 ?_
    refine lv_icmp_ne (tgt := 30) hx hb dX2_isBest_23 (by decide) (fun c_23 => ?_) (fun c_23 => ?_)
    · have c_23 : ¬ (farT (M 2) (M 1) lt t = lst (M 2) (M 1) lt) := fun q9 => c_23 ((nI_eq (a := farT (M 2) (M 1) lt t) (b := lst (M 2) (M 1) lt) (by omega) (by omega)).mpr q9)
      refine lv_iconst (v := nI 0) hx hb dX2_isBest_30 (by decide) ?_
      exact hret _ _ _ (u_ff (by rw [isB_iff]; omega)) dX2_isBest_31
    · have c_23 : farT (M 2) (M 1) lt t = lst (M 2) (M 1) lt := (nI_eq (a := farT (M 2) (M 1) lt t) (b := lst (M 2) (M 1) lt) (by omega) (by omega)).mp c_23
      refine lv_iconst (v := nI 1) hx hb dX2_isBest_26 (by decide) ?_
      refine lv_goto (tgt := 31) hx hb dX2_isBest_27 (by decide) ?_
      exact hret _ _ _ (u_tt (by rw [isB_iff]; omega)) dX2_isBest_31
theorem k_X2_isBest {lt : Nat} {t : Nat} (hlt : lt < ln (M 2)) (ht : t < tn (M 1)) (hS1 : SWf (M 2)) (hT : TWf (M 1)) (SF : CallFix p m c cc nL s args lw_all RX2) (hK : KK dC dI dA s) (rk : rmOK 7 R) (hsz : ls.size = nL) (hcat : (rest.map fun v => v.category).sum ≤ 8) (hP : mP dC dI dA a M H) (hdg : decode cc pc = .ok (.invokevirtual 100, 3)) (k : W p l e R s m args below meth c H locs 0 0 Q (F0 m (pc + 3) ls (.int (nI (isB (M 2) (M 1) lt t).toNat) :: rest))) : W p l e R s m args below meth c H locs 0 0 Q (F0 m pc ls (.int (nI t) :: .int (nI lt) :: .ref (a 0) :: rest)) :=
  u_run (u_rV (C := RX2) (Ψ := (mP dC dI dA a M)) (As := [.int (nI lt), .int (nI t)]) SF hK rk (c_X2_isBest l dC dI dA a M lt t hlt ht hS1 hT) (lw_V q2180 q2182 qs75 q117 q2183) (n := 2) (by decide +kernel) rfl (by decide) (va_recv hK hP (ci := 2) (q0 := 0) rfl rfl) hP hsz hcat ⟨Nat.zero_le _, Nat.zero_le _⟩ rfl hdg) k

set_option maxHeartbeats 4000000 in
theorem c_X2_bestTowns (l : Launch) (dC : Nat → ClassId) (dI : Nat → Nat → Nat) (dA : Nat → ClassId) (a : Nat → Nat) (M : Nat → Nat → Int32) (lt : Nat) (hlt : lt < ln (M 2)) (hS1 : SWf (M 2)) (hT : TWf (M 1)) : Met l yX2_bestTowns (ws_ yX2_bestTowns cX2_bestTowns 4 (some .int)) (rmD 7 0 0) (uPc [.ref (a 0), .int (nI lt)] (mP dC dI dA a M) dC dI dA) (uQi (nI (bst (M 2) (M 1) lt))) 0 0 noF := by
  refine u_meti (own := RX2) (by decide) rfl (Nat.le_of_ble_eq_true rfl) fun p e R s m args below meth c Q SF rk hP hK hret ls hl => ?_
  have hx := SF.1
  have hb := SF.2.1
  have hml := SF.2.2.1
  have hown := SF.2.2.2.1
  have hts := SF.2.2.2.2
  have hl : lv_has ls 4 [(0, .ref (a 0)), (1, .int (nI lt))] := hl
  have hL := hS1.2.1
  have hn9 := hT.2.1
  refine lv_iconst (v := nI 0) hx hb dX2_bestTowns_0 (by decide) ?_
  refine lv_istore_n (lv' := [(2, .int (nI 0)), (0, .ref (a 0)), (1, .int (nI lt))]) hx hb dX2_bestTowns_1 rfl hl (by decide) rfl (fun ls hl => ?_)
  refine lv_iconst (v := nI 0) hx hb dX2_bestTowns_2 (by decide) ?_
  refine lv_istore_n (lv' := [(3, .int (nI 0)), (2, .int (nI 0)), (0, .ref (a 0)), (1, .int (nI lt))]) hx hb dX2_bestTowns_3 rfl hl (by decide) rfl (fun ls hl => ?_)
  have lp4 : ∀ (k0 : Nat) (t : Nat), t ≤ tn (M 1) → tn (M 1) < t + k0 → ∀ ls : Array Slot, lv_has ls 4 [(3, .int (nI t)), (2, .int (nI (cntN (isB (M 2) (M 1) lt) t))), (0, .ref (a 0)), (1, .int (nI lt))] → W p l e R s m args below meth c s.heap [] 0 0 Q (F0 m 4 ls []) := by
    intro k0
    induction k0 with
    | zero =>
      intro t ht1 ht2; omega
    | succ k0 ih =>
      intro t ht1 ht2 ls hl
      have ih4 := ih
      refine lv_iload_n hx hb dX2_bestTowns_4 rfl (lv_at hl 0 rfl) ?_
      refine lv_aload_n hx hb dX2_bestTowns_5 rfl (lv_at hl 2 rfl) ?_
      refine k_X2_towns   SF hK (rk.le (Nat.le_of_ble_eq_true rfl)) hl.1 (Nat.le_of_ble_eq_true rfl) hP dX2_bestTowns_6 ?_
      refine u_top (y := nI (tn (M 1))) hT.1 ?_
      refine lv_icmp_ge (tgt := 30) hx hb dX2_bestTowns_9 (by decide) (fun c_9 => ?_) (fun c_9 => ?_)
      · have c_9 : tn (M 1) ≤ t := (nI_leI (a := tn (M 1)) (b := t) (by omega) (by omega)).mp c_9
        refine lv_iload_n hx hb dX2_bestTowns_30 rfl (lv_at hl 1 rfl) ?_
        exact hret _ _ _ (by rw [show t = tn (M 1) by omega]; rfl) dX2_bestTowns_31
      · have c_9 : ¬ (tn (M 1) ≤ t) := fun q9 => c_9 ((nI_leI (a := tn (M 1)) (b := t) (by omega) (by omega)).mpr q9)
        refine lv_iload_n hx hb dX2_bestTowns_12 rfl (lv_at hl 1 rfl) ?_
        refine lv_aload_n hx hb dX2_bestTowns_13 rfl (lv_at hl 2 rfl) ?_
        refine lv_iload_n hx hb dX2_bestTowns_14 rfl (lv_at hl 3 rfl) ?_
        refine lv_iload_n hx hb dX2_bestTowns_15 rfl (lv_at hl 0 rfl) ?_
        refine k_X2_isBest  hlt (by omega) hS1 hT SF hK (rk.le (Nat.le_of_ble_eq_true rfl)) hl.1 (Nat.le_of_ble_eq_true rfl) hP dX2_bestTowns_16 ?_
        refine k_X2_flag   SF hK (rk.le (Nat.le_of_ble_eq_true rfl)) hl.1 (Nat.le_of_ble_eq_true rfl) dX2_bestTowns_19 ?_
        refine lv_iadd hx hb dX2_bestTowns_22 ?_
        refine u_top (nI_add _ _) ?_
        refine lv_istore_n (lv' := [(2, .int (nI (cntN (isB (M 2) (M 1) lt) t + ((isB (M 2) (M 1) lt t).toNat)))), (3, .int (nI t)), (0, .ref (a 0)), (1, .int (nI lt))]) hx hb dX2_bestTowns_23 rfl hl (by decide) rfl (fun ls hl => ?_)
        refine lv_iinc (v := nI (t + 1)) (lv' := [(3, .int (nI (t + 1))), (2, .int (nI (cntN (isB (M 2) (M 1) lt) t + ((isB (M 2) (M 1) lt t).toNat)))), (0, .ref (a 0)), (1, .int (nI lt))]) hx hb dX2_bestTowns_24 hl (k := 1) rfl (nI_add _ 1) (by decide) rfl (fun ls hl => ?_)
        refine lv_goto (tgt := 4) hx hb dX2_bestTowns_27 (by decide) ?_
        exact ih4 (t + 1) (by omega) (by omega) ls (lv_sub hl [0, 1, 2, 3] rfl)
  exact lp4 (tn (M 1) + 1) 0 (by omega) (by omega) ls (lv_sub hl [0, 1, 2, 3] rfl)
theorem k_X2_bestTowns {lt : Nat} (hlt : lt < ln (M 2)) (hS1 : SWf (M 2)) (hT : TWf (M 1)) (SF : CallFix p m c cc nL s args lw_all RX2) (hK : KK dC dI dA s) (rk : rmOK 8 R) (hsz : ls.size = nL) (hcat : (rest.map fun v => v.category).sum ≤ 8) (hP : mP dC dI dA a M H) (hdg : decode cc pc = .ok (.invokevirtual 106, 3)) (k : W p l e R s m args below meth c H locs 0 0 Q (F0 m (pc + 3) ls (.int (nI (bst (M 2) (M 1) lt)) :: rest))) : W p l e R s m args below meth c H locs 0 0 Q (F0 m pc ls (.int (nI lt) :: .ref (a 0) :: rest)) :=
  u_run (u_rV (C := RX2) (Ψ := (mP dC dI dA a M)) (As := [.int (nI lt)]) SF hK rk (c_X2_bestTowns l dC dI dA a M lt hlt hS1 hT) (lw_V q2176 q2178 qs74 q117 q2179) (n := 1) (by decide +kernel) rfl (by decide) (va_recv hK hP (ci := 2) (q0 := 0) rfl rfl) hP hsz hcat ⟨Nat.zero_le _, Nat.zero_le _⟩ rfl hdg) k

set_option maxHeartbeats 4000000 in
theorem c_X2_bySelf (l : Launch) (dC : Nat → ClassId) (dI : Nat → Nat → Nat) (dA : Nat → ClassId) (a : Nat → Nat) (M : Nat → Nat → Int32) (lt : Nat) (hlt : lt < ln (M 2)) (hS1 : SWf (M 2)) (hT : TWf (M 1)) : Met l yX2_bySelf (ws_ yX2_bySelf cX2_bySelf 3 (some .int)) (rmD 8 0 0) (uPc [.ref (a 0), .int (nI lt)] (mP dC dI dA a M) dC dI dA) (uQi (oI (byS (M 2) (M 1) lt))) 0 0 noF := by
  refine u_meti (own := RX2) (by decide) rfl (Nat.le_of_ble_eq_true rfl) fun p e R s m args below meth c Q SF rk hP hK hret ls hl => ?_
  have hx := SF.1
  have hb := SF.2.1
  have hml := SF.2.2.1
  have hown := SF.2.2.2.1
  have hts := SF.2.2.2.2
  have hl : lv_has ls 3 [(0, .ref (a 0)), (1, .int (nI lt))] := hl
  have hL := hS1.2.1
  have hn9 := hT.2.1
  have hu9 : unr (M 2) lt ≤ 5 := cntN_le _ _
  have hb9 : bst (M 2) (M 1) lt ≤ tn (M 1) := cntN_le _ _
  refine lv_aload_n hx hb dX2_bySelf_0 rfl (lv_at hl 0 rfl) ?_
  refine lv_iload_n hx hb dX2_bySelf_1 rfl (lv_at hl 1 rfl) ?_
  refine k_X2_unread  (by omega) SF hK (rk.le (Nat.le_of_ble_eq_true rfl)) hl.1 (Nat.le_of_ble_eq_true rfl) hP dX2_bySelf_2 ?_
  refine lv_iconst (v := nI 3) hx hb dX2_bySelf_5 (by decide) ?_
  refine lv_icmp_gt (tgt := 18) hx hb dX2_bySelf_6 (by decide) (fun c_6 => ?_) (fun c_6 => ?_)
  · have c_6 : 3 < unr (M 2) lt := (nI_ltI (a := 3) (b := unr (M 2) lt) (by omega) (by omega)).mp c_6
    refine lv_iconst (v := (-1)) hx hb dX2_bySelf_18 (by decide) ?_
    exact hret _ _ _ (by rw [byS, if_pos (by omega)]; rfl) dX2_bySelf_19
  · have c_6 : ¬ (3 < unr (M 2) lt) := fun q9 => c_6 ((nI_ltI (a := 3) (b := unr (M 2) lt) (by omega) (by omega)).mpr q9)
    refine lv_aload_n hx hb dX2_bySelf_9 rfl (lv_at hl 0 rfl) ?_
    refine lv_iload_n hx hb dX2_bySelf_10 rfl (lv_at hl 1 rfl) ?_
    refine k_X2_bestTowns  hlt hS1 hT SF hK (rk.le (Nat.le_of_ble_eq_true rfl)) hl.1 (Nat.le_of_ble_eq_true rfl) hP dX2_bySelf_11 ?_
    refine lv_iconst (v := nI 1) hx hb dX2_bySelf_14 (by decide) ?_
    refine lv_icmp_eq (tgt := 20) hx hb dX2_bySelf_15 (by decide) (fun c_15 => ?_) (fun c_15 => ?_)
    · have c_15 : bst (M 2) (M 1) lt = 1 := (nI_eq (a := bst (M 2) (M 1) lt) (b := 1) (by omega) (by omega)).mp c_15
      refine lv_iconst (v := nI 0) hx hb dX2_bySelf_20 (by decide) ?_
      refine lv_istore_n (lv' := [(2, .int (nI 0)), (0, .ref (a 0)), (1, .int (nI lt))]) hx hb dX2_bySelf_21 rfl hl (by decide) rfl (fun ls hl => ?_)
      have lp22 : ∀ (k0 : Nat) (t : Nat), t < tn (M 1) → (∀ j, j < t → isB (M 2) (M 1) lt j = false) → tn (M 1) < t + k0 → ∀ ls : Array Slot, lv_has ls 3 [(2, .int (nI t)), (0, .ref (a 0)), (1, .int (nI lt))] → W p l e R s m args below meth c s.heap [] 0 0 Q (F0 m 22 ls []) := by
        intro k0
        induction k0 with
        | zero =>
          intro t ht1 htf ht2; omega
        | succ k0 ih =>
          intro t ht1 htf ht2 ls hl
          have ih22 := ih
          have hcnt : cntN (isB (M 2) (M 1) lt) (tn (M 1)) = 1 := c_15
          refine lv_aload_n hx hb dX2_bySelf_22 rfl (lv_at hl 1 rfl) ?_
          refine lv_iload_n hx hb dX2_bySelf_23 rfl (lv_at hl 2 rfl) ?_
          refine lv_iload_n hx hb dX2_bySelf_24 rfl (lv_at hl 0 rfl) ?_
          refine k_X2_isBest  hlt ht1 hS1 hT SF hK (rk.le (Nat.le_of_ble_eq_true rfl)) hl.1 (Nat.le_of_ble_eq_true rfl) hP dX2_bySelf_25 ?_
          refine lv_if_ne (tgt := 37) hx hb dX2_bySelf_28 (by decide) (fun c_28 => ?_) (fun c_28 => ?_)
          · have c_28 : ¬ ((isB (M 2) (M 1) lt t) = false) := fun q9 => c_28 (u_zb.mpr q9)
            refine lv_iload_n hx hb dX2_bySelf_37 rfl (lv_at hl 0 rfl) ?_
            exact hret _ _ _ (by rw [byS, if_neg (by omega), fndN_some ht1 (by cases h9 : isB (M 2) (M 1) lt t <;> simp_all) htf]; rfl) dX2_bySelf_38
          · have c_28 : (isB (M 2) (M 1) lt t) = false := u_zb.mp c_28
            refine lv_iinc (v := nI (t + 1)) (lv' := [(2, .int (nI (t + 1))), (0, .ref (a 0)), (1, .int (nI lt))]) hx hb dX2_bySelf_31 hl (k := 0) rfl (nI_add _ 1) (by decide) rfl (fun ls hl => ?_)
            refine lv_goto (tgt := 22) hx hb dX2_bySelf_34 (by decide) ?_
            exact ih22 (t + 1) (byS_next hcnt htf c_28 ht1) (fun j h => (Nat.lt_succ_iff_lt_or_eq.mp h).elim (htf j) (fun e => e ▸ c_28)) (by omega) ls (lv_sub hl [0, 1, 2] rfl)
      exact lp22 (tn (M 1) + 1) 0 (by omega) (fun j h => absurd h (Nat.not_lt_zero j)) (by omega) ls (lv_sub hl [0, 1, 2] rfl)
    · have c_15 : ¬ (bst (M 2) (M 1) lt = 1) := fun q9 => c_15 ((nI_eq (a := bst (M 2) (M 1) lt) (b := 1) (by omega) (by omega)).mpr q9)
      refine lv_iconst (v := (-1)) hx hb dX2_bySelf_18 (by decide) ?_
      exact hret _ _ _ (by rw [byS, if_pos (by omega)]; rfl) dX2_bySelf_19
theorem k_X2_bySelf {lt : Nat} (hlt : lt < ln (M 2)) (hS1 : SWf (M 2)) (hT : TWf (M 1)) (SF : CallFix p m c cc nL s args lw_all RX2) (hK : KK dC dI dA s) (rk : rmOK 9 R) (hsz : ls.size = nL) (hcat : (rest.map fun v => v.category).sum ≤ 8) (hP : mP dC dI dA a M H) (hdg : decode cc pc = .ok (.invokevirtual 112, 3)) (k : W p l e R s m args below meth c H locs 0 0 Q (F0 m (pc + 3) ls (.int (oI (byS (M 2) (M 1) lt)) :: rest))) : W p l e R s m args below meth c H locs 0 0 Q (F0 m pc ls (.int (nI lt) :: .ref (a 0) :: rest)) :=
  u_run (u_rV (C := RX2) (Ψ := (mP dC dI dA a M)) (As := [.int (nI lt)]) SF hK rk (c_X2_bySelf l dC dI dA a M lt hlt hS1 hT) (lw_V q2165 q2167 qs72 q117 q2168) (n := 1) (by decide +kernel) rfl (by decide) (va_recv hK hP (ci := 2) (q0 := 0) rfl rfl) hP hsz hcat ⟨Nat.zero_le _, Nat.zero_le _⟩ rfl hdg) k

set_option maxHeartbeats 4000000 in
theorem c_X2_byBundle (l : Launch) (dC : Nat → ClassId) (dI : Nat → Nat → Nat) (dA : Nat → ClassId) (a : Nat → Nat) (M : Nat → Nat → Int32) (lt : Nat) (hlt : lt < ln (M 2)) (hS1 : SWf (M 2)) (hT : TWf (M 1)) : Met l yX2_byBundle (ws_ yX2_byBundle cX2_byBundle 6 (some .int)) (rmD 9 0 0) (uPc [.ref (a 0), .int (nI lt)] (mP dC dI dA a M) dC dI dA) (uQi (oI (byB (M 2) (M 1) lt))) 0 0 noF := by
  refine u_meti (own := RX2) (by decide) rfl (Nat.le_of_ble_eq_true rfl) fun p e R s m args below meth c Q SF rk hP hK hret ls hl => ?_
  have hx := SF.1
  have hb := SF.2.1
  have hml := SF.2.2.1
  have hown := SF.2.2.2.1
  have hts := SF.2.2.2.2
  have hl : lv_has ls 6 [(0, .ref (a 0)), (1, .int (nI lt))] := hl
  have hL := hS1.2.1
  have hn9 := hT.2.1
  have hu9 : unr (M 2) lt ≤ 5 := cntN_le _ _
  have hbn := (hS1.2.2.2.2 lt hlt).2.2
  refine lv_aload_n hx hb dX2_byBundle_0 rfl (lv_at hl 0 rfl) ?_
  refine lv_iload_n hx hb dX2_byBundle_1 rfl (lv_at hl 1 rfl) ?_
  refine lv_iconst (v := nI 5) hx hb dX2_byBundle_2 (by decide) ?_
  refine k_X2_l  (by omega) (by omega) SF hK (rk.le (Nat.le_of_ble_eq_true rfl)) hl.1 (Nat.le_of_ble_eq_true rfl) hP dX2_byBundle_3 ?_
  refine lv_istore_n (lv' := [(2, .int (lr (M 2) lt 5)), (0, .ref (a 0)), (1, .int (nI lt))]) hx hb dX2_byBundle_6 rfl hl (by decide) rfl (fun ls hl => ?_)
  refine lv_aload_n hx hb dX2_byBundle_7 rfl (lv_at hl 1 rfl) ?_
  refine lv_iload_n hx hb dX2_byBundle_8 rfl (lv_at hl 2 rfl) ?_
  refine k_X2_unread  (by omega) SF hK (rk.le (Nat.le_of_ble_eq_true rfl)) hl.1 (Nat.le_of_ble_eq_true rfl) hP dX2_byBundle_9 ?_
  refine lv_iconst (v := nI 3) hx hb dX2_byBundle_12 (by decide) ?_
  refine lv_icmp_gt (tgt := 28) hx hb dX2_byBundle_13 (by decide) (fun c_13 => ?_) (fun c_13 => ?_)
  · have c_13 : 3 < unr (M 2) lt := (nI_ltI (a := 3) (b := unr (M 2) lt) (by omega) (by omega)).mp c_13
    refine lv_iconst (v := (-1)) hx hb dX2_byBundle_28 (by decide) ?_
    exact hret _ _ _ (by rw [byB, if_pos (by first | exact Or.inl c_13 | exact Or.inr c_25)]; rfl) dX2_byBundle_29
  · have c_13 : ¬ (3 < unr (M 2) lt) := fun q9 => c_13 ((nI_ltI (a := 3) (b := unr (M 2) lt) (by omega) (by omega)).mpr q9)
    refine lv_aload_n hx hb dX2_byBundle_16 rfl (lv_at hl 1 rfl) ?_
    refine va_get (D := (dC, dI)) (ci := 2) (v := .ref (a 2)) (C := RX2) (T := TX2) (N := 22) hx hb hts in_X2 hown hK hP 0 rfl rfl 3 (by decide) (hts _ q1954) (fun _ h9 => h9) rfl dX2_byBundle_17 ?_
    refine lv_iconst (v := nI 3) hx hb dX2_byBundle_20 (by decide) ?_
    refine lv_iload_n hx hb dX2_byBundle_21 rfl (lv_at hl 0 rfl) ?_
    refine u_top (y := nI (bun (M 2) lt)) ((hS1.2.2.2.2 lt hlt).2.1) ?_
    refine lv_iadd hx hb dX2_byBundle_22 ?_
    refine u_top (nI_add _ _) ?_
    refine u_iald hx hb hK hP 2 0 rfl rfl (i := 3 + (bun (M 2) lt)) (by omega) (by decide) dX2_byBundle_23 ?_
    refine lv_iconst (v := (-1)) hx hb dX2_byBundle_24 (by decide) ?_
    refine lv_icmp_ne (tgt := 30) hx hb dX2_byBundle_25 (by decide) (fun c_25 => ?_) (fun c_25 => ?_)
    · have hnb : ¬ (3 < unr (M 2) lt ∨ M 2 (3 + bun (M 2) lt) = -1) := fun q => q.elim c_13 c_25
      refine lv_iconst (v := nI 0) hx hb dX2_byBundle_30 (by decide) ?_
      refine lv_istore_n (lv' := [(3, .int (nI 0)), (2, .int (lr (M 2) lt 5)), (0, .ref (a 0)), (1, .int (nI lt))]) hx hb dX2_byBundle_31 rfl hl (by decide) rfl (fun ls hl => ?_)
      refine lv_iconst (v := nI 0) hx hb dX2_byBundle_32 (by decide) ?_
      refine lv_istore (lv' := [(4, .int (nI 0)), (3, .int (nI 0)), (2, .int (lr (M 2) lt 5)), (0, .ref (a 0)), (1, .int (nI lt))]) hx hb dX2_byBundle_33 hl (by decide) rfl (fun ls hl => ?_)
      have lp35 : ∀ (k0 : Nat) (o x : Nat), o ≤ ln (M 2) → oth (M 2) (M 1) lt o = some x → x ≤ 45 * o → ln (M 2) < o + k0 → ∀ ls : Array Slot, lv_has ls 6 [(4, .int (nI o)), (3, .int (nI x)), (2, .int (lr (M 2) lt 5)), (0, .ref (a 0)), (1, .int (nI lt))] → W p l e R s m args below meth c s.heap [] 0 0 Q (F0 m 35 ls []) := by
        intro k0
        induction k0 with
        | zero =>
          intro o x ho1 hx9 hxb ho2; omega
        | succ k0 ih =>
          intro o x ho1 hx9 hxb ho2 ls hl
          have ih35 := ih
          refine lv_iload hx hb dX2_byBundle_35 (lv_at hl 0 rfl) ?_
          refine lv_aload_n hx hb dX2_byBundle_37 rfl (lv_at hl 3 rfl) ?_
          refine k_X2_letters   SF hK (rk.le (Nat.le_of_ble_eq_true rfl)) hl.1 (Nat.le_of_ble_eq_true rfl) hP dX2_byBundle_38 ?_
          refine u_top (y := nI (ln (M 2))) hS1.1 ?_
          refine lv_icmp_ge (tgt := 98) hx hb dX2_byBundle_41 (by decide) (fun c_41 => ?_) (fun c_41 => ?_)
          · have c_41 : ln (M 2) ≤ o := (nI_leI (a := ln (M 2)) (b := o) (by omega) (by omega)).mp c_41
            have ho : oth (M 2) (M 1) lt (ln (M 2)) = some x := by rw [show ln (M 2) = o by omega]; exact hx9
            refine lv_iconst (v := (-1)) hx hb dX2_byBundle_98 (by decide) ?_
            refine lv_istore (lv' := [(4, .int (-1)), (3, .int (nI x)), (2, .int (lr (M 2) lt 5)), (0, .ref (a 0)), (1, .int (nI lt))]) hx hb dX2_byBundle_99 hl (by decide) rfl (fun ls hl => ?_)
            refine lv_iconst (v := nI 0) hx hb dX2_byBundle_101 (by decide) ?_
            refine lv_istore (lv' := [(5, .int (nI 0)), (4, .int (-1)), (3, .int (nI x)), (2, .int (lr (M 2) lt 5)), (0, .ref (a 0)), (1, .int (nI lt))]) hx hb dX2_byBundle_102 hl (by decide) rfl (fun ls hl => ?_)
            have lp104 : ∀ (k0 : Nat) (t : Nat) (f : Option Nat), t ≤ tn (M 1) → uqI (bbP (M 2) (M 1) lt x) t f → tn (M 1) < t + k0 → ∀ ls : Array Slot, lv_has ls 6 [(5, .int (nI t)), (4, .int (oI f)), (3, .int (nI x)), (2, .int (lr (M 2) lt 5)), (0, .ref (a 0)), (1, .int (nI lt))] → W p l e R s m args below meth c s.heap [] 0 0 Q (F0 m 104 ls []) := by
              intro k0
              induction k0 with
              | zero =>
                intro t f ht1 huq ht2; omega
              | succ k0 ih =>
                intro t f ht1 huq ht2 ls hl
                have ih104 := ih
                refine lv_iload hx hb dX2_byBundle_104 (lv_at hl 0 rfl) ?_
                refine lv_aload_n hx hb dX2_byBundle_106 rfl (lv_at hl 4 rfl) ?_
                refine k_X2_towns   SF hK (rk.le (Nat.le_of_ble_eq_true rfl)) hl.1 (Nat.le_of_ble_eq_true rfl) hP dX2_byBundle_107 ?_
                refine u_top (y := nI (tn (M 1))) hT.1 ?_
                refine lv_icmp_ge (tgt := 166) hx hb dX2_byBundle_110 (by decide) (fun c_110 => ?_) (fun c_110 => ?_)
                · have c_110 : tn (M 1) ≤ t := (nI_leI (a := tn (M 1)) (b := t) (by omega) (by omega)).mp c_110
                  refine lv_iload hx hb dX2_byBundle_166 (lv_at hl 1 rfl) ?_
                  exact hret _ _ _ (by rw [byB_go hnb ho, uqI_end (show uqI _ (tn (M 1)) f by rw [show tn (M 1) = t by omega]; exact huq)]) dX2_byBundle_168
                · have c_110 : ¬ (tn (M 1) ≤ t) := fun q9 => c_110 ((nI_leI (a := tn (M 1)) (b := t) (by omega) (by omega)).mpr q9)
                  refine lv_aload_n hx hb dX2_byBundle_113 rfl (lv_at hl 4 rfl) ?_
                  refine lv_iload_n hx hb dX2_byBundle_114 rfl (lv_at hl 5 rfl) ?_
                  refine lv_iload hx hb dX2_byBundle_115 (lv_at hl 0 rfl) ?_
                  refine k_X2_isBest  hlt (by omega) hS1 hT SF hK (rk.le (Nat.le_of_ble_eq_true rfl)) hl.1 (Nat.le_of_ble_eq_true rfl) hP dX2_byBundle_117 ?_
                  refine lv_if_eq (tgt := 160) hx hb dX2_byBundle_120 (by decide) (fun c_120 => ?_) (fun c_120 => ?_)
                  · have c_120 : (isB (M 2) (M 1) lt t) = false := u_zb.mp c_120
                    refine lv_iinc (v := nI (t + 1)) (lv' := [(5, .int (nI (t + 1))), (4, .int (oI f)), (3, .int (nI x)), (2, .int (lr (M 2) lt 5)), (0, .ref (a 0)), (1, .int (nI lt))]) hx hb dX2_byBundle_160 hl (k := 0) rfl (nI_add _ 1) (by decide) rfl (fun ls hl => ?_)
                    refine lv_goto (tgt := 104) hx hb dX2_byBundle_163 (by decide) ?_
                    exact ih104 (t + 1) _ (by omega) (uqI_skip huq (by rw [bbP, Bool.and_eq_false_iff]; first | exact Or.inl c_120 | exact Or.inr (decide_eq_false c_145))) (by omega) ls (lv_sub hl [0, 1, 2, 3, 4, 5] rfl)
                  · have c_120 : ¬ ((isB (M 2) (M 1) lt t) = false) := fun q9 => c_120 (u_zb.mpr q9)
                    have hd9 := dsm_le (cd (num (M 1) t))
                    refine lv_iload_n hx hb dX2_byBundle_123 rfl (lv_at hl 2 rfl) ?_
                    refine lv_aload_n hx hb dX2_byBundle_124 rfl (lv_at hl 4 rfl) ?_
                    refine lv_iload hx hb dX2_byBundle_125 (lv_at hl 0 rfl) ?_
                    refine k_X2_codeAt  (by omega) hT SF hK (rk.le (Nat.le_of_ble_eq_true rfl)) hl.1 (Nat.le_of_ble_eq_true rfl) hP dX2_byBundle_127 ?_
                    refine k_X2_digitsOf  (cd_lt (hT.2.2 t (by omega)).2.1) SF hK (rk.le (Nat.le_of_ble_eq_true rfl)) hl.1 (Nat.le_of_ble_eq_true rfl) dX2_byBundle_130 ?_
                    refine lv_iadd hx hb dX2_byBundle_133 ?_
                    refine u_top (nI_add _ _) ?_
                    refine lv_bipush (v := nI 10) hx hb dX2_byBundle_134 (by decide) ?_
                    refine lv_irem hx hb dX2_byBundle_136 (by decide) ?_
                    refine u_top (pk_rem (by omega) (by omega) (by omega)) ?_
                    refine lv_aload_n hx hb dX2_byBundle_137 rfl (lv_at hl 4 rfl) ?_
                    refine va_get (D := (dC, dI)) (ci := 2) (v := .ref (a 2)) (C := RX2) (T := TX2) (N := 22) hx hb hts in_X2 hown hK hP 0 rfl rfl 3 (by decide) (hts _ q1954) (fun _ h9 => h9) rfl dX2_byBundle_138 ?_
                    refine lv_iconst (v := nI 3) hx hb dX2_byBundle_141 (by decide) ?_
                    refine lv_iload_n hx hb dX2_byBundle_142 rfl (lv_at hl 3 rfl) ?_
                    refine u_top (y := nI (bun (M 2) lt)) ((hS1.2.2.2.2 lt hlt).2.1) ?_
                    refine lv_iadd hx hb dX2_byBundle_143 ?_
                    refine u_top (nI_add _ _) ?_
                    refine u_iald hx hb hK hP 2 0 rfl rfl (i := 3 + (bun (M 2) lt)) (by omega) (by decide) dX2_byBundle_144 ?_
                    refine lv_icmp_ne (tgt := 160) hx hb dX2_byBundle_145 (by decide) (fun c_145 => ?_) (fun c_145 => ?_)
                    · refine lv_iinc (v := nI (t + 1)) (lv' := [(5, .int (nI (t + 1))), (4, .int (oI f)), (3, .int (nI x)), (2, .int (lr (M 2) lt 5)), (0, .ref (a 0)), (1, .int (nI lt))]) hx hb dX2_byBundle_160 hl (k := 0) rfl (nI_add _ 1) (by decide) rfl (fun ls hl => ?_)
                      refine lv_goto (tgt := 104) hx hb dX2_byBundle_163 (by decide) ?_
                      exact ih104 (t + 1) _ (by omega) (uqI_skip huq (by rw [bbP, Bool.and_eq_false_iff]; first | exact Or.inl c_120 | exact Or.inr (decide_eq_false c_145))) (by omega) ls (lv_sub hl [0, 1, 2, 3, 4, 5] rfl)
                    · have hpt : bbP (M 2) (M 1) lt x t = true := by rw [bbP, Bool.and_eq_true, decide_eq_true_eq]; exact ⟨by simpa using c_120, c_145⟩
                      refine lv_iload hx hb dX2_byBundle_148 (lv_at hl 1 rfl) ?_
                      rcases f with _ | u
                      · refine u_top (y := (-1)) rfl ?_
                        refine lv_iconst (v := (-1)) hx hb dX2_byBundle_150 (by decide) ?_
                        refine lv_icmp_eq (tgt := 156) hx hb dX2_byBundle_151 (by decide) (fun c_151 => ?_) (fun c_151 => absurd (by decide) c_151)
                        refine lv_iload hx hb dX2_byBundle_156 (lv_at hl 0 rfl) ?_
                        refine lv_istore (lv' := [(4, .int (nI t)), (5, .int (nI t)), (3, .int (nI x)), (2, .int (lr (M 2) lt 5)), (0, .ref (a 0)), (1, .int (nI lt))]) hx hb dX2_byBundle_158 hl (by decide) rfl (fun ls hl => ?_)
                        refine lv_iinc (v := nI (t + 1)) (lv' := [(5, .int (nI (t + 1))), (4, .int (nI t)), (3, .int (nI x)), (2, .int (lr (M 2) lt 5)), (0, .ref (a 0)), (1, .int (nI lt))]) hx hb dX2_byBundle_160 hl (k := 1) rfl (nI_add _ 1) (by decide) rfl (fun ls hl => ?_)
                        refine lv_goto (tgt := 104) hx hb dX2_byBundle_163 (by decide) ?_
                        exact ih104 (t + 1) _ (by omega) (uqI_hit huq hpt) (by omega) ls (lv_sub hl [0, 1, 2, 3, 4, 5] rfl)
                      · have hu := uqI_lt huq
                        refine u_top (y := nI u) rfl ?_
                        refine lv_iconst (v := (-1)) hx hb dX2_byBundle_150 (by decide) ?_
                        refine lv_icmp_eq (tgt := 156) hx hb dX2_byBundle_151 (by decide) (fun c_151 => absurd c_151 (nI_m1 (by omega))) (fun c_151 => ?_)
                        refine lv_iconst (v := (-1)) hx hb dX2_byBundle_154 (by decide) ?_
                        exact hret _ _ _ (by rw [byB_go hnb ho, uqI_two huq hpt (by omega)]; rfl) dX2_byBundle_155
            exact lp104 (tn (M 1) + 1) 0 none (by omega) uqI_0 (by omega) ls (lv_sub hl [0, 1, 2, 3, 4, 5] rfl)
          · have c_41 : ¬ (ln (M 2) ≤ o) := fun q9 => c_41 ((nI_leI (a := ln (M 2)) (b := o) (by omega) (by omega)).mpr q9)
            refine lv_iload hx hb dX2_byBundle_44 (lv_at hl 0 rfl) ?_
            refine lv_iload_n hx hb dX2_byBundle_46 rfl (lv_at hl 4 rfl) ?_
            refine lv_icmp_eq (tgt := 92) hx hb dX2_byBundle_47 (by decide) (fun c_47 => ?_) (fun c_47 => ?_)
            · have c_47 : o = lt := (nI_eq (a := o) (b := lt) (by omega) (by omega)).mp c_47
              refine lv_iinc (v := nI (o + 1)) (lv' := [(4, .int (nI (o + 1))), (3, .int (nI x)), (2, .int (lr (M 2) lt 5)), (0, .ref (a 0)), (1, .int (nI lt))]) hx hb dX2_byBundle_92 hl (k := 0) rfl (nI_add _ 1) (by decide) rfl (fun ls hl => ?_)
              refine lv_goto (tgt := 35) hx hb dX2_byBundle_95 (by decide) ?_
              exact ih35 (o + 1) x (by omega) (oth_skip hx9 (by first | exact Or.inl c_47 | exact Or.inr c_58)) (by omega) (by omega) ls (lv_sub hl [0, 1, 2, 3, 4] rfl)
            · have c_47 : ¬ (o = lt) := fun q9 => c_47 ((nI_eq (a := o) (b := lt) (by omega) (by omega)).mpr q9)
              refine lv_aload_n hx hb dX2_byBundle_50 rfl (lv_at hl 3 rfl) ?_
              refine lv_iload hx hb dX2_byBundle_51 (lv_at hl 0 rfl) ?_
              refine lv_iconst (v := nI 5) hx hb dX2_byBundle_53 (by decide) ?_
              refine k_X2_l  (by omega) (by omega) SF hK (rk.le (Nat.le_of_ble_eq_true rfl)) hl.1 (Nat.le_of_ble_eq_true rfl) hP dX2_byBundle_54 ?_
              refine lv_iload_n hx hb dX2_byBundle_57 rfl (lv_at hl 2 rfl) ?_
              refine lv_icmp_eq (tgt := 64) hx hb dX2_byBundle_58 (by decide) (fun c_58 => ?_) (fun c_58 => ?_)
              · refine lv_aload_n hx hb dX2_byBundle_64 rfl (lv_at hl 3 rfl) ?_
                refine lv_iload hx hb dX2_byBundle_65 (lv_at hl 0 rfl) ?_
                refine k_X2_bySelf  (by omega) hS1 hT SF hK (rk.le (Nat.le_of_ble_eq_true rfl)) hl.1 (Nat.le_of_ble_eq_true rfl) hP dX2_byBundle_67 ?_
                rcases hE : byS (M 2) (M 1) o with _ | t9
                · refine u_top (y := (-1)) rfl ?_
                  refine lv_istore (lv' := [(5, .int (-1)), (4, .int (nI o)), (3, .int (nI x)), (2, .int (lr (M 2) lt 5)), (0, .ref (a 0)), (1, .int (nI lt))]) hx hb dX2_byBundle_70 hl (by decide) rfl (fun ls hl => ?_)
                  refine lv_iload hx hb dX2_byBundle_72 (lv_at hl 0 rfl) ?_
                  refine lv_iconst (v := (-1)) hx hb dX2_byBundle_74 (by decide) ?_
                  refine lv_icmp_ne (tgt := 80) hx hb dX2_byBundle_75 (by decide) (fun c_75 => absurd (by decide) c_75) (fun c_75 => ?_)
                  refine lv_iconst (v := (-1)) hx hb dX2_byBundle_78 (by decide) ?_
                  exact hret _ _ _ (by rw [byB_no hnb (oth_none (oth_stop hx9 c_47 c_58 hE) _ (by omega))]; rfl) dX2_byBundle_79
                · have ht9 := byS_lt hE
                  refine u_top (y := nI t9) rfl ?_
                  refine lv_istore (lv' := [(5, .int (nI t9)), (4, .int (nI o)), (3, .int (nI x)), (2, .int (lr (M 2) lt 5)), (0, .ref (a 0)), (1, .int (nI lt))]) hx hb dX2_byBundle_70 hl (by decide) rfl (fun ls hl => ?_)
                  refine lv_iload hx hb dX2_byBundle_72 (lv_at hl 0 rfl) ?_
                  refine lv_iconst (v := (-1)) hx hb dX2_byBundle_74 (by decide) ?_
                  refine lv_icmp_ne (tgt := 80) hx hb dX2_byBundle_75 (by decide) (fun c_75 => ?_) (fun c_75 => absurd c_75 (nI_m1 (by omega)))
                  have hd9 := dsm_le (cd (num (M 1) t9))
                  refine lv_iload_n hx hb dX2_byBundle_80 rfl (lv_at hl 2 rfl) ?_
                  refine lv_aload_n hx hb dX2_byBundle_81 rfl (lv_at hl 4 rfl) ?_
                  refine lv_iload hx hb dX2_byBundle_82 (lv_at hl 0 rfl) ?_
                  refine k_X2_codeAt  ht9 hT SF hK (rk.le (Nat.le_of_ble_eq_true rfl)) hl.1 (Nat.le_of_ble_eq_true rfl) hP dX2_byBundle_84 ?_
                  refine k_X2_digitsOf  (cd_lt (hT.2.2 _ ht9).2.1) SF hK (rk.le (Nat.le_of_ble_eq_true rfl)) hl.1 (Nat.le_of_ble_eq_true rfl) dX2_byBundle_87 ?_
                  refine lv_iadd hx hb dX2_byBundle_90 ?_
                  refine u_top (nI_add _ _) ?_
                  refine lv_istore_n (lv' := [(3, .int (nI (x + (dsm (cd (num (M 1) t9)))))), (5, .int (nI t9)), (4, .int (nI o)), (2, .int (lr (M 2) lt 5)), (0, .ref (a 0)), (1, .int (nI lt))]) hx hb dX2_byBundle_91 rfl hl (by decide) rfl (fun ls hl => ?_)
                  refine lv_iinc (v := nI (o + 1)) (lv' := [(4, .int (nI (o + 1))), (3, .int (nI (x + (dsm (cd (num (M 1) t9)))))), (5, .int (nI t9)), (2, .int (lr (M 2) lt 5)), (0, .ref (a 0)), (1, .int (nI lt))]) hx hb dX2_byBundle_92 hl (k := 2) rfl (nI_add _ 1) (by decide) rfl (fun ls hl => ?_)
                  refine lv_goto (tgt := 35) hx hb dX2_byBundle_95 (by decide) ?_
                  exact ih35 (o + 1) _ (by omega) (oth_add hx9 c_47 c_58 hE) (by omega) (by omega) ls (lv_sub hl [0, 1, 3, 4, 5] rfl)
              · refine lv_goto (tgt := 92) hx hb dX2_byBundle_61 (by decide) ?_
                refine lv_iinc (v := nI (o + 1)) (lv' := [(4, .int (nI (o + 1))), (3, .int (nI x)), (2, .int (lr (M 2) lt 5)), (0, .ref (a 0)), (1, .int (nI lt))]) hx hb dX2_byBundle_92 hl (k := 0) rfl (nI_add _ 1) (by decide) rfl (fun ls hl => ?_)
                refine lv_goto (tgt := 35) hx hb dX2_byBundle_95 (by decide) ?_
                exact ih35 (o + 1) x (by omega) (oth_skip hx9 (by first | exact Or.inl c_47 | exact Or.inr c_58)) (by omega) (by omega) ls (lv_sub hl [0, 1, 2, 3, 4] rfl)
      exact lp35 (ln (M 2) + 1) 0 0 (by omega) rfl (by omega) (by omega) ls (lv_sub hl [0, 1, 2, 3, 4] rfl)
    · refine lv_iconst (v := (-1)) hx hb dX2_byBundle_28 (by decide) ?_
      exact hret _ _ _ (by rw [byB, if_pos (by first | exact Or.inl c_13 | exact Or.inr c_25)]; rfl) dX2_byBundle_29
theorem k_X2_byBundle {lt : Nat} (hlt : lt < ln (M 2)) (hS1 : SWf (M 2)) (hT : TWf (M 1)) (SF : CallFix p m c cc nL s args lw_all RX2) (hK : KK dC dI dA s) (rk : rmOK 10 R) (hsz : ls.size = nL) (hcat : (rest.map fun v => v.category).sum ≤ 8) (hP : mP dC dI dA a M H) (hdg : decode cc pc = .ok (.invokevirtual 118, 3)) (k : W p l e R s m args below meth c H locs 0 0 Q (F0 m (pc + 3) ls (.int (oI (byB (M 2) (M 1) lt)) :: rest))) : W p l e R s m args below meth c H locs 0 0 Q (F0 m pc ls (.int (nI lt) :: .ref (a 0) :: rest)) :=
  u_run (u_rV (C := RX2) (Ψ := (mP dC dI dA a M)) (As := [.int (nI lt)]) SF hK rk (c_X2_byBundle l dC dI dA a M lt hlt hS1 hT) (lw_V q2214 q2216 qs80 q117 q2217) (n := 1) (by decide +kernel) rfl (by decide) (va_recv hK hP (ci := 2) (q0 := 0) rfl rfl) hP hsz hcat ⟨Nat.zero_le _, Nat.zero_le _⟩ rfl hdg) k

set_option maxHeartbeats 4000000 in
theorem c_X2_decidedFor (l : Launch) (dC : Nat → ClassId) (dI : Nat → Nat → Nat) (dA : Nat → ClassId) (a : Nat → Nat) (M : Nat → Nat → Int32) (lt : Nat) (hlt : lt < ln (M 2)) (hS1 : SWf (M 2)) (hT : TWf (M 1)) : Met l yX2_decidedFor (ws_ yX2_decidedFor cX2_decidedFor 3 (some .int)) (rmD 10 0 0) (uPc [.ref (a 0), .int (nI lt)] (mP dC dI dA a M) dC dI dA) (uQi (oI (dcd (M 2) (M 1) lt))) 0 0 noF := by
  refine u_meti (own := RX2) (by decide) rfl (Nat.le_of_ble_eq_true rfl) fun p e R s m args below meth c Q SF rk hP hK hret ls hl => ?_
  have hx := SF.1
  have hb := SF.2.1
  have hml := SF.2.2.1
  have hown := SF.2.2.2.1
  have hts := SF.2.2.2.2
  have hl : lv_has ls 3 [(0, .ref (a 0)), (1, .int (nI lt))] := hl
  have hL := hS1.2.1
  have hn9 := hT.2.1
  refine lv_aload_n hx hb dX2_decidedFor_0 rfl (lv_at hl 0 rfl) ?_
  refine lv_iload_n hx hb dX2_decidedFor_1 rfl (lv_at hl 1 rfl) ?_
  refine k_X2_bySelf  hlt hS1 hT SF hK (rk.le (Nat.le_of_ble_eq_true rfl)) hl.1 (Nat.le_of_ble_eq_true rfl) hP dX2_decidedFor_2 ?_
  rcases hE : byS (M 2) (M 1) lt with _ | t9
  · refine u_top (y := (-1)) rfl ?_
    refine lv_istore_n (lv' := [(2, .int (-1)), (0, .ref (a 0)), (1, .int (nI lt))]) hx hb dX2_decidedFor_5 rfl hl (by decide) rfl (fun ls hl => ?_)
    refine lv_iload_n hx hb dX2_decidedFor_6 rfl (lv_at hl 0 rfl) ?_
    refine lv_iconst (v := (-1)) hx hb dX2_decidedFor_7 (by decide) ?_
    refine lv_icmp_eq (tgt := 15) hx hb dX2_decidedFor_8 (by decide) (fun c_8 => ?_) (fun c_8 => absurd (by decide) c_8)
    refine lv_aload_n hx hb dX2_decidedFor_15 rfl (lv_at hl 1 rfl) ?_
    refine lv_iload_n hx hb dX2_decidedFor_16 rfl (lv_at hl 2 rfl) ?_
    refine k_X2_byBundle  hlt hS1 hT SF hK (rk.le (Nat.le_of_ble_eq_true rfl)) hl.1 (Nat.le_of_ble_eq_true rfl) hP dX2_decidedFor_17 ?_
    exact hret _ _ _ (by rw [dcd, hE]; try rfl) dX2_decidedFor_20
  · have ht9 := byS_lt hE
    refine u_top (y := nI t9) rfl ?_
    refine lv_istore_n (lv' := [(2, .int (nI t9)), (0, .ref (a 0)), (1, .int (nI lt))]) hx hb dX2_decidedFor_5 rfl hl (by decide) rfl (fun ls hl => ?_)
    refine lv_iload_n hx hb dX2_decidedFor_6 rfl (lv_at hl 0 rfl) ?_
    refine lv_iconst (v := (-1)) hx hb dX2_decidedFor_7 (by decide) ?_
    refine lv_icmp_eq (tgt := 15) hx hb dX2_decidedFor_8 (by decide) (fun c_8 => absurd c_8 (nI_m1 (by omega))) (fun c_8 => ?_)
    refine lv_iload_n hx hb dX2_decidedFor_11 rfl (lv_at hl 0 rfl) ?_
    refine lv_goto (tgt := 20) hx hb dX2_decidedFor_12 (by decide) ?_
    exact hret _ _ _ (by rw [dcd, hE]; try rfl) dX2_decidedFor_20
theorem k_X2_decidedFor {lt : Nat} (hlt : lt < ln (M 2)) (hS1 : SWf (M 2)) (hT : TWf (M 1)) (SF : CallFix p m c cc nL s args lw_all RX2) (hK : KK dC dI dA s) (rk : rmOK 11 R) (hsz : ls.size = nL) (hcat : (rest.map fun v => v.category).sum ≤ 8) (hP : mP dC dI dA a M H) (hdg : decode cc pc = .ok (.invokevirtual 121, 3)) (k : W p l e R s m args below meth c H locs 0 0 Q (F0 m (pc + 3) ls (.int (oI (dcd (M 2) (M 1) lt)) :: rest))) : W p l e R s m args below meth c H locs 0 0 Q (F0 m pc ls (.int (nI lt) :: .ref (a 0) :: rest)) :=
  u_run (u_rV (C := RX2) (Ψ := (mP dC dI dA a M)) (As := [.int (nI lt)]) SF hK rk (c_X2_decidedFor l dC dI dA a M lt hlt hS1 hT) (lw_V q2161 q2163 qs71 q117 q2164) (n := 1) (by decide +kernel) rfl (by decide) (va_recv hK hP (ci := 2) (q0 := 0) rfl rfl) hP hsz hcat ⟨Nat.zero_le _, Nat.zero_le _⟩ rfl hdg) k

set_option maxHeartbeats 4000000 in
theorem c_X2_whyOf (l : Launch) (dC : Nat → ClassId) (dI : Nat → Nat → Nat) (dA : Nat → ClassId) (a : Nat → Nat) (M : Nat → Nat → Int32) (lt : Nat) (hlt : lt < ln (M 2)) (hS1 : SWf (M 2)) (hT : TWf (M 1)) : Met l yX2_whyOf (ws_ yX2_whyOf cX2_whyOf 2 (some .int)) (rmD 11 0 0) (uPc [.ref (a 0), .int (nI lt)] (mP dC dI dA a M) dC dI dA) (uQi (nI (why (M 2) (M 1) lt))) 0 0 noF := by
  refine u_meti (own := RX2) (by decide) rfl (Nat.le_of_ble_eq_true rfl) fun p e R s m args below meth c Q SF rk hP hK hret ls hl => ?_
  have hx := SF.1
  have hb := SF.2.1
  have hml := SF.2.2.1
  have hown := SF.2.2.2.1
  have hts := SF.2.2.2.2
  have hl : lv_has ls 2 [(0, .ref (a 0)), (1, .int (nI lt))] := hl
  have hL := hS1.2.1
  have hn9 := hT.2.1
  have hu9 : unr (M 2) lt ≤ 5 := cntN_le _ _
  have hr9 : nrT (M 2) (M 1) lt ≤ tn (M 1) := cntN_le _ _
  refine lv_aload_n hx hb dX2_whyOf_0 rfl (lv_at hl 0 rfl) ?_
  refine lv_iload_n hx hb dX2_whyOf_1 rfl (lv_at hl 1 rfl) ?_
  refine k_X2_decidedFor  hlt hS1 hT SF hK (rk.le (Nat.le_of_ble_eq_true rfl)) hl.1 (Nat.le_of_ble_eq_true rfl) hP dX2_whyOf_2 ?_
  rcases hE : dcd (M 2) (M 1) lt with _ | t9
  · refine u_top (y := (-1)) rfl ?_
    refine lv_iconst (v := (-1)) hx hb dX2_whyOf_5 (by decide) ?_
    refine lv_icmp_eq (tgt := 11) hx hb dX2_whyOf_6 (by decide) (fun c_6 => ?_) (fun c_6 => absurd (by decide) c_6)
    refine lv_aload_n hx hb dX2_whyOf_11 rfl (lv_at hl 0 rfl) ?_
    refine lv_iload_n hx hb dX2_whyOf_12 rfl (lv_at hl 1 rfl) ?_
    refine k_X2_unread  (by omega) SF hK (rk.le (Nat.le_of_ble_eq_true rfl)) hl.1 (Nat.le_of_ble_eq_true rfl) hP dX2_whyOf_13 ?_
    refine lv_iconst (v := nI 3) hx hb dX2_whyOf_16 (by decide) ?_
    refine lv_icmp_le (tgt := 24) hx hb dX2_whyOf_17 (by decide) (fun c_17 => ?_) (fun c_17 => ?_)
    · have c_17 : unr (M 2) lt ≤ 3 := (nI_leI (a := unr (M 2) lt) (b := 3) (by omega) (by omega)).mp c_17
      refine lv_aload_n hx hb dX2_whyOf_24 rfl (lv_at hl 0 rfl) ?_
      refine lv_iload_n hx hb dX2_whyOf_25 rfl (lv_at hl 1 rfl) ?_
      refine k_X2_nearTowns  hlt hS1 hT SF hK (rk.le (Nat.le_of_ble_eq_true rfl)) hl.1 (Nat.le_of_ble_eq_true rfl) hP dX2_whyOf_26 ?_
      refine lv_if_ne (tgt := 36) hx hb dX2_whyOf_29 (by decide) (fun c_29 => ?_) (fun c_29 => ?_)
      · have c_29 : ¬ (nrT (M 2) (M 1) lt = 0) := fun q9 => c_29 ((nI_eq (a := nrT (M 2) (M 1) lt) (b := 0) (by omega) (by omega)).mpr q9)
        refine lv_iconst (v := nI 3) hx hb dX2_whyOf_36 (by decide) ?_
        exact hret _ _ _ (by rw [why_none hE, if_neg (by omega), if_neg (by omega)]) dX2_whyOf_37
      · have c_29 : nrT (M 2) (M 1) lt = 0 := (nI_eq (a := nrT (M 2) (M 1) lt) (b := 0) (by omega) (by omega)).mp c_29
        refine lv_iconst (v := nI 2) hx hb dX2_whyOf_32 (by decide) ?_
        refine lv_goto (tgt := 37) hx hb dX2_whyOf_33 (by decide) ?_
        exact hret _ _ _ (by rw [why_none hE, if_neg (by omega), if_pos (by omega)]) dX2_whyOf_37
    · have c_17 : ¬ (unr (M 2) lt ≤ 3) := fun q9 => c_17 ((nI_leI (a := unr (M 2) lt) (b := 3) (by omega) (by omega)).mpr q9)
      refine lv_iconst (v := nI 1) hx hb dX2_whyOf_20 (by decide) ?_
      refine lv_goto (tgt := 37) hx hb dX2_whyOf_21 (by decide) ?_
      exact hret _ _ _ (by rw [why_none hE, if_pos (by omega)]) dX2_whyOf_37
  · have ht9 := dcd_lt hE
    refine u_top (y := nI t9) rfl ?_
    refine lv_iconst (v := (-1)) hx hb dX2_whyOf_5 (by decide) ?_
    refine lv_icmp_eq (tgt := 11) hx hb dX2_whyOf_6 (by decide) (fun c_6 => absurd c_6 (nI_m1 (by omega))) (fun c_6 => ?_)
    refine lv_iconst (v := nI 0) hx hb dX2_whyOf_9 (by decide) ?_
    exact hret _ _ _ (by rw [why_some hE]) dX2_whyOf_10
theorem k_X2_whyOf {lt : Nat} (hlt : lt < ln (M 2)) (hS1 : SWf (M 2)) (hT : TWf (M 1)) (SF : CallFix p m c cc nL s args lw_all RX2) (hK : KK dC dI dA s) (rk : rmOK 12 R) (hsz : ls.size = nL) (hcat : (rest.map fun v => v.category).sum ≤ 8) (hP : mP dC dI dA a M H) (hdg : decode cc pc = .ok (.invokevirtual 127, 3)) (k : W p l e R s m args below meth c H locs 0 0 Q (F0 m (pc + 3) ls (.int (nI (why (M 2) (M 1) lt)) :: rest))) : W p l e R s m args below meth c H locs 0 0 Q (F0 m pc ls (.int (nI lt) :: .ref (a 0) :: rest)) :=
  u_run (u_rV (C := RX2) (Ψ := (mP dC dI dA a M)) (As := [.int (nI lt)]) SF hK rk (c_X2_whyOf l dC dI dA a M lt hlt hS1 hT) (lw_V q2157 q2159 qs70 q117 q2160) (n := 1) (by decide +kernel) rfl (by decide) (va_recv hK hP (ci := 2) (q0 := 0) rfl rfl) hP hsz hcat ⟨Nat.zero_le _, Nat.zero_le _⟩ rfl hdg) k

set_option maxHeartbeats 4000000 in
theorem c_X2_causeNow (l : Launch) (dC : Nat → ClassId) (dI : Nat → Nat → Nat) (dA : Nat → ClassId) (a : Nat → Nat) (M : Nat → Nat → Int32) (lt : Nat) (hlt : lt < ln (M 2)) (hS1 : SWf (M 2)) (hT : TWf (M 1)) : Met l yX2_causeNow (ws_ yX2_causeNow cX2_causeNow 3 (some .int)) (rmD 12 0 0) (uPc [.ref (a 0), .int (nI lt)] (mP dC dI dA a M) dC dI dA) (uQi (nI (cau (M 2) (M 1) lt))) 0 0 noF := by
  refine u_meti (own := RX2) (by decide) rfl (Nat.le_of_ble_eq_true rfl) fun p e R s m args below meth c Q SF rk hP hK hret ls hl => ?_
  have hx := SF.1
  have hb := SF.2.1
  have hml := SF.2.2.1
  have hown := SF.2.2.2.1
  have hts := SF.2.2.2.2
  have hl : lv_has ls 3 [(0, .ref (a 0)), (1, .int (nI lt))] := hl
  have hL := hS1.2.1
  have hn9 := hT.2.1
  have hw9 := why_le (M 2) (M 1) lt
  refine lv_aload_n hx hb dX2_causeNow_0 rfl (lv_at hl 0 rfl) ?_
  refine lv_iload_n hx hb dX2_causeNow_1 rfl (lv_at hl 1 rfl) ?_
  refine k_X2_whyOf  hlt hS1 hT SF hK (rk.le (Nat.le_of_ble_eq_true rfl)) hl.1 (Nat.le_of_ble_eq_true rfl) hP dX2_causeNow_2 ?_
  refine lv_istore_n (lv' := [(2, .int (nI (why (M 2) (M 1) lt))), (0, .ref (a 0)), (1, .int (nI lt))]) hx hb dX2_causeNow_5 rfl hl (by decide) rfl (fun ls hl => ?_)
  refine lv_iload_n hx hb dX2_causeNow_6 rfl (lv_at hl 0 rfl) ?_
  refine lv_if_eq (tgt := 12) hx hb dX2_causeNow_7 (by decide) (fun c_7 => ?_) (fun c_7 => ?_)
  · have c_7 : why (M 2) (M 1) lt = 0 := (nI_eq (a := why (M 2) (M 1) lt) (b := 0) (by omega) (by omega)).mp c_7
    refine lv_aload_n hx hb dX2_causeNow_12 rfl (lv_at hl 1 rfl) ?_
    refine va_get (D := (dC, dI)) (ci := 2) (v := .ref (a 2)) (C := RX2) (T := TX2) (N := 22) hx hb hts in_X2 hown hK hP 0 rfl rfl 3 (by decide) (hts _ q1954) (fun _ h9 => h9) rfl dX2_causeNow_13 ?_
    refine lv_bipush (v := nI 9) hx hb dX2_causeNow_16 (by decide) ?_
    refine lv_aload_n hx hb dX2_causeNow_18 rfl (lv_at hl 1 rfl) ?_
    refine va_get (D := (dC, dI)) (ci := 2) (v := .ref (a 1)) (C := RX2) (T := TX2) (N := 22) hx hb hts in_X2 hown hK hP 0 rfl rfl 2 (by decide) (hts _ q1953) (fun _ h9 => h9) rfl dX2_causeNow_19 ?_
    refine lv_bipush (v := nI 14) hx hb dX2_causeNow_22 (by decide) ?_
    refine lv_aload_n hx hb dX2_causeNow_24 rfl (lv_at hl 1 rfl) ?_
    refine lv_iload_n hx hb dX2_causeNow_25 rfl (lv_at hl 2 rfl) ?_
    refine k_X2_decidedFor  hlt hS1 hT SF hK (rk.le (Nat.le_of_ble_eq_true rfl)) hl.1 (Nat.le_of_ble_eq_true rfl) hP dX2_causeNow_26 ?_
    rcases hE : dcd (M 2) (M 1) lt with _ | t9
    · exact absurd c_7 (why_ne hE)
    · have ht9 := dcd_lt hE
      have hr9 := (hT.2.2 t9 ht9).2.2.2
      refine u_top (y := nI t9) rfl ?_
      refine lv_iadd hx hb dX2_causeNow_29 ?_
      refine u_top (nI_add _ _) ?_
      refine u_iald hx hb hK hP 1 0 rfl rfl (i := 14 + t9) (by omega) (by decide) dX2_causeNow_30 ?_
      refine u_top (y := nI (rou (M 1) t9)) ((hT.2.2 t9 ht9).2.2.1) ?_
      refine lv_iadd hx hb dX2_causeNow_31 ?_
      refine u_top (nI_add _ _) ?_
      refine u_iald hx hb hK hP 2 0 rfl rfl (i := 9 + (rou (M 1) t9)) (by omega) (by decide) dX2_causeNow_32 ?_
      refine lv_if_ne (tgt := 40) hx hb dX2_causeNow_33 (by decide) (fun c_33 => ?_) (fun c_33 => ?_)
      · refine lv_iconst (v := nI 0) hx hb dX2_causeNow_40 (by decide) ?_
        exact hret _ _ _ (by rw [cau_some hE, if_neg c_33]) dX2_causeNow_41
      · refine lv_iconst (v := nI 4) hx hb dX2_causeNow_36 (by decide) ?_
        refine lv_goto (tgt := 41) hx hb dX2_causeNow_37 (by decide) ?_
        exact hret _ _ _ (by rw [cau_some hE, if_pos c_33]) dX2_causeNow_41
  · have c_7 : ¬ (why (M 2) (M 1) lt = 0) := fun q9 => c_7 ((nI_eq (a := why (M 2) (M 1) lt) (b := 0) (by omega) (by omega)).mpr q9)
    refine lv_iload_n hx hb dX2_causeNow_10 rfl (lv_at hl 0 rfl) ?_
    exact hret _ _ _ (by rw [cau_why c_7]) dX2_causeNow_11
theorem k_X2_causeNow {lt : Nat} (hlt : lt < ln (M 2)) (hS1 : SWf (M 2)) (hT : TWf (M 1)) (SF : CallFix p m c cc nL s args lw_all RX2) (hK : KK dC dI dA s) (rk : rmOK 13 R) (hsz : ls.size = nL) (hcat : (rest.map fun v => v.category).sum ≤ 8) (hP : mP dC dI dA a M H) (hdg : decode cc pc = .ok (.invokevirtual 130, 3)) (k : W p l e R s m args below meth c H locs 0 0 Q (F0 m (pc + 3) ls (.int (nI (cau (M 2) (M 1) lt)) :: rest))) : W p l e R s m args below meth c H locs 0 0 Q (F0 m pc ls (.int (nI lt) :: .ref (a 0) :: rest)) :=
  u_run (u_rV (C := RX2) (Ψ := (mP dC dI dA a M)) (As := [.int (nI lt)]) SF hK rk (c_X2_causeNow l dC dI dA a M lt hlt hS1 hT) (lw_V q2153 q2155 qs69 q117 q2156) (n := 1) (by decide +kernel) rfl (by decide) (va_recv hK hP (ci := 2) (q0 := 0) rfl rfl) hP hsz hcat ⟨Nat.zero_le _, Nat.zero_le _⟩ rfl hdg) k

set_option maxHeartbeats 4000000 in
theorem c_X2_statesOf (l : Launch) (dC : Nat → ClassId) (dI : Nat → Nat → Nat) (dA : Nat → ClassId) (a : Nat → Nat) (M : Nat → Nat → Int32) (x : Int32) (hS1 : SWf (M 2)) : Met l yX2_statesOf (ws_ yX2_statesOf cX2_statesOf 4 (some .int)) (rmD 1 0 0) (uPc [.ref (a 0), .int x] (mP dC dI dA a M) dC dI dA) (uQi (nI (sts (M 2) x))) 0 0 noF := by
  refine u_meti (own := RX2) (by decide) rfl (Nat.le_of_ble_eq_true rfl) fun p e R s m args below meth c Q SF rk hP hK hret ls hl => ?_
  have hx := SF.1
  have hb := SF.2.1
  have hml := SF.2.2.1
  have hown := SF.2.2.2.1
  have hts := SF.2.2.2.2
  have hl : lv_has ls 4 [(0, .ref (a 0)), (1, .int x)] := hl
  have hL := hS1.2.1
  refine lv_iconst (v := nI 0) hx hb dX2_statesOf_0 (by decide) ?_
  refine lv_istore_n (lv' := [(2, .int (nI 0)), (0, .ref (a 0)), (1, .int x)]) hx hb dX2_statesOf_1 rfl hl (by decide) rfl (fun ls hl => ?_)
  refine lv_iconst (v := nI 0) hx hb dX2_statesOf_2 (by decide) ?_
  refine lv_istore_n (lv' := [(3, .int (nI 0)), (2, .int (nI 0)), (0, .ref (a 0)), (1, .int x)]) hx hb dX2_statesOf_3 rfl hl (by decide) rfl (fun ls hl => ?_)
  have lp4 : ∀ (k0 : Nat) (k : Nat), k ≤ ln (M 2) → ln (M 2) < k + k0 → ∀ ls : Array Slot, lv_has ls 4 [(3, .int (nI k)), (2, .int (nI (cntN (fun o => decide (lr (M 2) o 6 = x)) k))), (0, .ref (a 0)), (1, .int x)] → W p l e R s m args below meth c s.heap [] 0 0 Q (F0 m 4 ls []) := by
    intro k0
    induction k0 with
    | zero =>
      intro k hk1 hk2; omega
    | succ k0 ih =>
      intro k hk1 hk2 ls hl
      have ih4 := ih
      refine lv_iload_n hx hb dX2_statesOf_4 rfl (lv_at hl 0 rfl) ?_
      refine lv_aload_n hx hb dX2_statesOf_5 rfl (lv_at hl 2 rfl) ?_
      refine k_X2_letters   SF hK (rk.le (Nat.le_of_ble_eq_true rfl)) hl.1 (Nat.le_of_ble_eq_true rfl) hP dX2_statesOf_6 ?_
      refine u_top (y := nI (ln (M 2))) hS1.1 ?_
      refine lv_icmp_ge (tgt := 40) hx hb dX2_statesOf_9 (by decide) (fun c_9 => ?_) (fun c_9 => ?_)
      · have c_9 : ln (M 2) ≤ k := (nI_leI (a := ln (M 2)) (b := k) (by omega) (by omega)).mp c_9
        refine lv_iload_n hx hb dX2_statesOf_40 rfl (lv_at hl 1 rfl) ?_
        exact hret _ _ _ (by rw [show k = ln (M 2) by omega]; rfl) dX2_statesOf_41
      · have c_9 : ¬ (ln (M 2) ≤ k) := fun q9 => c_9 ((nI_leI (a := ln (M 2)) (b := k) (by omega) (by omega)).mpr q9)
        refine lv_iload_n hx hb dX2_statesOf_12 rfl (lv_at hl 1 rfl) ?_
        refine lv_aload_n hx hb dX2_statesOf_13 rfl (lv_at hl 2 rfl) ?_
        refine lv_iload_n hx hb dX2_statesOf_14 rfl (lv_at hl 0 rfl) ?_
        refine lv_bipush (v := nI 6) hx hb dX2_statesOf_15 (by decide) ?_
        refine k_X2_l  (by omega) (by omega) SF hK (rk.le (Nat.le_of_ble_eq_true rfl)) hl.1 (Nat.le_of_ble_eq_true rfl) hP dX2_statesOf_17 ?_
        refine lv_iload_n hx hb dX2_statesOf_20 rfl (lv_at hl 3 rfl) ?_
        have jn29 : ∀ v9 : Int32, v9 = nI ((decide (lr (M 2) k 6 = x)).toNat) → ∀ ls : Array Slot, lv_has ls 4 [(3, .int (nI k)), (2, .int (nI (cntN (fun o => decide (lr (M 2) o 6 = x)) k))), (0, .ref (a 0)), (1, .int x)] → W p l e R s m args below meth c s.heap [] 0 0 Q (F0 m 29 ls [.int v9, .int (nI (cntN (fun o => decide (lr (M 2) o 6 = x)) k))]) := by
          intro v9 hv9 ls hl
          subst hv9
          refine k_X2_flag   SF hK (rk.le (Nat.le_of_ble_eq_true rfl)) hl.1 (Nat.le_of_ble_eq_true rfl) dX2_statesOf_29 ?_
          refine lv_iadd hx hb dX2_statesOf_32 ?_
          refine u_top (nI_add _ _) ?_
          refine lv_istore_n (lv' := [(2, .int (nI (cntN (fun o => decide (lr (M 2) o 6 = x)) k + ((decide (lr (M 2) k 6 = x)).toNat)))), (3, .int (nI k)), (0, .ref (a 0)), (1, .int x)]) hx hb dX2_statesOf_33 rfl hl (by decide) rfl (fun ls hl => ?_)
          refine lv_iinc (v := nI (k + 1)) (lv' := [(3, .int (nI (k + 1))), (2, .int (nI (cntN (fun o => decide (lr (M 2) o 6 = x)) k + ((decide (lr (M 2) k 6 = x)).toNat)))), (0, .ref (a 0)), (1, .int x)]) hx hb dX2_statesOf_34 hl (k := 1) rfl (nI_add _ 1) (by decide) rfl (fun ls hl => ?_)
          refine lv_goto (tgt := 4) hx hb dX2_statesOf_37 (by decide) ?_
          exact ih4 (k + 1) (by omega) (by omega) ls (lv_sub hl [0, 1, 2, 3] rfl)
        refine lv_icmp_ne (tgt := 28) hx hb dX2_statesOf_21 (by decide) (fun c_21 => ?_) (fun c_21 => ?_)
        · refine lv_iconst (v := nI 0) hx hb dX2_statesOf_28 (by decide) ?_
          exact jn29 _ (u_d0 c_21) ls (lv_sub hl [0, 1, 2, 3] rfl)
        · refine lv_iconst (v := nI 1) hx hb dX2_statesOf_24 (by decide) ?_
          refine lv_goto (tgt := 29) hx hb dX2_statesOf_25 (by decide) ?_
          exact jn29 _ (u_d1 c_21) ls (lv_sub hl [0, 1, 2, 3] rfl)
  exact lp4 (ln (M 2) + 1) 0 (by omega) (by omega) ls (lv_sub hl [0, 1, 2, 3] rfl)
theorem k_X2_statesOf {x : Int32} (hS1 : SWf (M 2)) (SF : CallFix p m c cc nL s args lw_all RX2) (hK : KK dC dI dA s) (rk : rmOK 2 R) (hsz : ls.size = nL) (hcat : (rest.map fun v => v.category).sum ≤ 8) (hP : mP dC dI dA a M H) (hdg : decode cc pc = .ok (.invokevirtual 266, 3)) (k : W p l e R s m args below meth c H locs 0 0 Q (F0 m (pc + 3) ls (.int (nI (sts (M 2) x)) :: rest))) : W p l e R s m args below meth c H locs 0 0 Q (F0 m pc ls (.int x :: .ref (a 0) :: rest)) :=
  u_run (u_rV (C := RX2) (Ψ := (mP dC dI dA a M)) (As := [.int x]) SF hK rk (c_X2_statesOf l dC dI dA a M x hS1) (lw_V q2241 q2243 qs84 q117 q2244) (n := 1) (by decide +kernel) rfl (by decide) (va_recv hK hP (ci := 2) (q0 := 0) rfl rfl) hP hsz hcat ⟨Nat.zero_le _, Nat.zero_le _⟩ rfl hdg) k
end TW
