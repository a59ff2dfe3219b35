set_option maxRecDepth 100000
section TW
variable {p : Program} {l : Launch} {e : Env} {R : Room} {s : State} {m : MethodId} {args : Array Value} {below : List Frame} {meth : Method} {c : Code} {H : Heap} {locs : List Loc} {Q : State → Prop}
variable {cc : ByteArray} {pc nL : Nat} {ls : Array Slot} {rest : List Value} {dC : Nat → ClassId} {dI : Nat → Nat → Nat} {dA : Nat → ClassId} {a : Nat → Nat} {M : Nat → Nat → Int32} {H0 : Heap}

set_option maxHeartbeats 4000000 in
theorem c_X2_flag (l : Launch) (dC : Nat → ClassId) (dI : Nat → Nat → Nat) (dA : Nat → ClassId) (b : Bool)  : Met l yX2_flag (ws_ yX2_flag cX2_flag 1 (some .int)) (rmD 0 0 0) (uPc [.int (nI b.toNat)] (fun _ => True) dC dI dA) (uQi (nI (b.toNat))) 0 0 noF := by
  refine u_meti (own := RX2) (by decide) rfl (Nat.le_of_ble_eq_true rfl) fun p e R s m args below meth c Q SF rk hP hK hret ls hl => ?_
  have hx := SF.1
  have hb := SF.2.1
  have hml := SF.2.2.1
  have hown := SF.2.2.2.1
  have hts := SF.2.2.2.2
  have hl : lv_has ls 1 [(0, .int (nI b.toNat))] := hl
  have hb9 : b.toNat ≤ 1 := by cases b <;> decide
  refine lv_iload_n hx hb dX2_flag_0 rfl (lv_at hl 0 rfl) ?_
  refine lv_if_eq (tgt := 8) hx hb dX2_flag_1 (by decide) (fun c_1 => ?_) (fun c_1 => ?_)
  · have c_1 : b = false := u_zb.mp c_1
    refine lv_iconst (v := nI 0) hx hb dX2_flag_8 (by decide) ?_
    exact hret _ _ _ (by cases b <;> simp_all) dX2_flag_9
  · have c_1 : ¬ (b = false) := fun q9 => c_1 (u_zb.mpr q9)
    refine lv_iconst (v := nI 1) hx hb dX2_flag_4 (by decide) ?_
    refine lv_goto (tgt := 9) hx hb dX2_flag_5 (by decide) ?_
    exact hret _ _ _ (by cases b <;> simp_all) dX2_flag_9
theorem k_X2_flag {b : Bool}  (SF : CallFix p m c cc nL s args lw_all RX2) (hK : KK dC dI dA s) (rk : rmOK 1 R) (hsz : ls.size = nL) (hcat : (rest.map fun v => v.category).sum ≤ 8) (hdg : decode cc pc = .ok (.invokestatic 86, 3)) (k : W p l e R s m args below meth c H locs 0 0 Q (F0 m (pc + 3) ls (.int (nI (b.toNat)) :: rest))) : W p l e R s m args below meth c H locs 0 0 Q (F0 m pc ls (.int (nI b.toNat) :: rest)) :=
  u_run (u_rS (Ψ := (fun _ => True)) (As := [.int (nI b.toNat)]) SF hK rk (c_X2_flag l dC dI dA b ) (lw_S q2173 q2174 q117 q2175) (n := 1) (by decide +kernel) rfl (by decide) trivial hsz hcat ⟨Nat.zero_le _, Nat.zero_le _⟩ rfl hdg) k

set_option maxHeartbeats 4000000 in
theorem c_X2_towns (l : Launch) (dC : Nat → ClassId) (dI : Nat → Nat → Nat) (dA : Nat → ClassId) (a : Nat → Nat) (M : Nat → Nat → Int32)   : Met l yX2_towns (ws_ yX2_towns cX2_towns 1 (some .int)) (rmD 0 0 0) (uPc [.ref (a 0)] (mP dC dI dA a M) dC dI dA) (uQi (M 1 1)) 0 0 noF := by
  refine u_meti (own := RX2) (by decide) rfl (Nat.le_of_ble_eq_true rfl) fun p e R s m args below meth c Q SF rk hP hK hret ls hl => ?_
  have hx := SF.1
  have hb := SF.2.1
  have hml := SF.2.2.1
  have hown := SF.2.2.2.1
  have hts := SF.2.2.2.2
  have hl : lv_has ls 1 [(0, .ref (a 0))] := hl
  refine lv_aload_n hx hb dX2_towns_0 rfl (lv_at hl 0 rfl) ?_
  refine va_get (D := (dC, dI)) (ci := 2) (v := .ref (a 1)) (C := RX2) (T := TX2) (N := 22) hx hb hts in_X2 hown hK hP 0 rfl rfl 2 (by decide) (hts _ q1953) (fun _ h9 => h9) rfl dX2_towns_1 ?_
  refine lv_iconst (v := nI 1) hx hb dX2_towns_4 (by decide) ?_
  refine u_iald hx hb hK hP 1 0 rfl rfl (i := 1) (by omega) (by decide) dX2_towns_5 ?_
  exact hret _ _ _ rfl dX2_towns_6
theorem k_X2_towns   (SF : CallFix p m c cc nL s args lw_all RX2) (hK : KK dC dI dA s) (rk : rmOK 1 R) (hsz : ls.size = nL) (hcat : (rest.map fun v => v.category).sum ≤ 8) (hP : mP dC dI dA a M H) (hdg : decode cc pc = .ok (.invokevirtual 90, 3)) (k : W p l e R s m args below meth c H locs 0 0 Q (F0 m (pc + 3) ls (.int (M 1 1) :: rest))) : W p l e R s m args below meth c H locs 0 0 Q (F0 m pc ls (.ref (a 0) :: rest)) :=
  u_run (u_rV (C := RX2) (Ψ := (mP dC dI dA a M)) (As := []) SF hK rk (c_X2_towns l dC dI dA a M  ) (lw_V q2113 q2115 qs60 q117 q2116) (n := 0) (by decide +kernel) rfl (by decide) (va_recv hK hP (ci := 2) (q0 := 0) rfl rfl) hP hsz hcat ⟨Nat.zero_le _, Nat.zero_le _⟩ rfl hdg) k

set_option maxHeartbeats 4000000 in
theorem c_X2_letters (l : Launch) (dC : Nat → ClassId) (dI : Nat → Nat → Nat) (dA : Nat → ClassId) (a : Nat → Nat) (M : Nat → Nat → Int32)   : Met l yX2_letters (ws_ yX2_letters cX2_letters 1 (some .int)) (rmD 0 0 0) (uPc [.ref (a 0)] (mP dC dI dA a M) dC dI dA) (uQi (M 2 2)) 0 0 noF := by
  refine u_meti (own := RX2) (by decide) rfl (Nat.le_of_ble_eq_true rfl) fun p e R s m args below meth c Q SF rk hP hK hret ls hl => ?_
  have hx := SF.1
  have hb := SF.2.1
  have hml := SF.2.2.1
  have hown := SF.2.2.2.1
  have hts := SF.2.2.2.2
  have hl : lv_has ls 1 [(0, .ref (a 0))] := hl
  refine lv_aload_n hx hb dX2_letters_0 rfl (lv_at hl 0 rfl) ?_
  refine va_get (D := (dC, dI)) (ci := 2) (v := .ref (a 2)) (C := RX2) (T := TX2) (N := 22) hx hb hts in_X2 hown hK hP 0 rfl rfl 3 (by decide) (hts _ q1954) (fun _ h9 => h9) rfl dX2_letters_1 ?_
  refine lv_iconst (v := nI 2) hx hb dX2_letters_4 (by decide) ?_
  refine u_iald hx hb hK hP 2 0 rfl rfl (i := 2) (by omega) (by decide) dX2_letters_5 ?_
  exact hret _ _ _ rfl dX2_letters_6
theorem k_X2_letters   (SF : CallFix p m c cc nL s args lw_all RX2) (hK : KK dC dI dA s) (rk : rmOK 1 R) (hsz : ls.size = nL) (hcat : (rest.map fun v => v.category).sum ≤ 8) (hP : mP dC dI dA a M H) (hdg : decode cc pc = .ok (.invokevirtual 109, 3)) (k : W p l e R s m args below meth c H locs 0 0 Q (F0 m (pc + 3) ls (.int (M 2 2) :: rest))) : W p l e R s m args below meth c H locs 0 0 Q (F0 m pc ls (.ref (a 0) :: rest)) :=
  u_run (u_rV (C := RX2) (Ψ := (mP dC dI dA a M)) (As := []) SF hK rk (c_X2_letters l dC dI dA a M  ) (lw_V q2122 q2124 qs62 q117 q2125) (n := 0) (by decide +kernel) rfl (by decide) (va_recv hK hP (ci := 2) (q0 := 0) rfl rfl) hP hsz hcat ⟨Nat.zero_le _, Nat.zero_le _⟩ rfl hdg) k

set_option maxHeartbeats 4000000 in
theorem c_X2_l (l : Launch) (dC : Nat → ClassId) (dI : Nat → Nat → Nat) (dA : Nat → ClassId) (a : Nat → Nat) (M : Nat → Nat → Int32) (lt : Nat) (w : Nat) (h1 : lt < 24) (h2 : w < 10) : Met l yX2_l (ws_ yX2_l cX2_l 3 (some .int)) (rmD 0 0 0) (uPc [.ref (a 0), .int (nI lt), .int (nI w)] (mP dC dI dA a M) dC dI dA) (uQi (lr (M 2) lt w)) 0 0 noF := by
  refine u_meti (own := RX2) (by decide) rfl (Nat.le_of_ble_eq_true rfl) fun p e R s m args below meth c Q SF rk hP hK hret ls hl => ?_
  have hx := SF.1
  have hb := SF.2.1
  have hml := SF.2.2.1
  have hown := SF.2.2.2.1
  have hts := SF.2.2.2.2
  have hl : lv_has ls 3 [(0, .ref (a 0)), (1, .int (nI lt)), (2, .int (nI w))] := hl
  refine lv_aload_n hx hb dX2_l_0 rfl (lv_at hl 0 rfl) ?_
  refine va_get (D := (dC, dI)) (ci := 2) (v := .ref (a 2)) (C := RX2) (T := TX2) (N := 22) hx hb hts in_X2 hown hK hP 0 rfl rfl 3 (by decide) (hts _ q1954) (fun _ h9 => h9) rfl dX2_l_1 ?_
  refine lv_bipush (v := nI 33) hx hb dX2_l_4 (by decide) ?_
  refine lv_bipush (v := nI 10) hx hb dX2_l_6 (by decide) ?_
  refine lv_iload_n hx hb dX2_l_8 rfl (lv_at hl 1 rfl) ?_
  refine lv_imul hx hb dX2_l_9 ?_
  refine u_top (pk_mul _ _) ?_
  refine lv_iadd hx hb dX2_l_10 ?_
  refine u_top (nI_add _ _) ?_
  refine lv_iload_n hx hb dX2_l_11 rfl (lv_at hl 2 rfl) ?_
  refine lv_iadd hx hb dX2_l_12 ?_
  refine u_top (nI_add _ _) ?_
  refine u_iald hx hb hK hP 2 0 rfl rfl (i := 33 + (10 * lt) + w) (by omega) (by decide) dX2_l_13 ?_
  exact hret _ _ _ rfl dX2_l_14
theorem k_X2_l {lt : Nat} {w : Nat} (h1 : lt < 24) (h2 : w < 10) (SF : CallFix p m c cc nL s args lw_all RX2) (hK : KK dC dI dA s) (rk : rmOK 1 R) (hsz : ls.size = nL) (hcat : (rest.map fun v => v.category).sum ≤ 8) (hP : mP dC dI dA a M H) (hdg : decode cc pc = .ok (.invokevirtual 74, 3)) (k : W p l e R s m args below meth c H locs 0 0 Q (F0 m (pc + 3) ls (.int (lr (M 2) lt w) :: rest))) : W p l e R s m args below meth c H locs 0 0 Q (F0 m pc ls (.int (nI w) :: .int (nI lt) :: .ref (a 0) :: rest)) :=
  u_run (u_rV (C := RX2) (Ψ := (mP dC dI dA a M)) (As := [.int (nI lt), .int (nI w)]) SF hK rk (c_X2_l l dC dI dA a M lt w h1 h2) (lw_V q2145 q2147 qs67 q117 q2148) (n := 2) (by decide +kernel) rfl (by decide) (va_recv hK hP (ci := 2) (q0 := 0) rfl rfl) hP hsz hcat ⟨Nat.zero_le _, Nat.zero_le _⟩ rfl hdg) k

set_option maxHeartbeats 4000000 in
theorem c_X2_checkOf (l : Launch) (dC : Nat → ClassId) (dI : Nat → Nat → Nat) (dA : Nat → ClassId) (x : Nat) (h1 : x < 10000) : Met l yX2_checkOf (ws_ yX2_checkOf cX2_checkOf 2 (some .int)) (rmD 0 0 0) (uPc [.int (nI x)] (fun _ => True) dC dI dA) (uQi (nI (chk x))) 0 0 noF := by
  refine u_meti (own := RX2) (by decide) rfl (Nat.le_of_ble_eq_true rfl) fun p e R s m args below meth c Q SF rk hP hK hret ls hl => ?_
  have hx := SF.1
  have hb := SF.2.1
  have hml := SF.2.2.1
  have hown := SF.2.2.2.1
  have hts := SF.2.2.2.2
  have hl : lv_has ls 2 [(0, .int (nI x))] := hl
  refine lv_iconst (v := nI 3) hx hb dX2_checkOf_0 (by decide) ?_
  refine lv_iload_n hx hb dX2_checkOf_1 rfl (lv_at hl 0 rfl) ?_
  refine lv_sipush (v := nI 1000) hx hb dX2_checkOf_2 (by decide) ?_
  refine lv_idiv hx hb dX2_checkOf_5 (by decide) ?_
  refine u_top (pk_div (by omega) (by omega) (by omega)) ?_
  refine lv_imul hx hb dX2_checkOf_6 ?_
  refine u_top (pk_mul _ _) ?_
  refine lv_iload_n hx hb dX2_checkOf_7 rfl (lv_at hl 0 rfl) ?_
  refine lv_bipush (v := nI 100) hx hb dX2_checkOf_8 (by decide) ?_
  refine lv_idiv hx hb dX2_checkOf_10 (by decide) ?_
  refine u_top (pk_div (by omega) (by omega) (by omega)) ?_
  refine lv_bipush (v := nI 10) hx hb dX2_checkOf_11 (by decide) ?_
  refine lv_irem hx hb dX2_checkOf_13 (by decide) ?_
  refine u_top (pk_rem (by omega) (by omega) (by omega)) ?_
  refine lv_iadd hx hb dX2_checkOf_14 ?_
  refine u_top (nI_add _ _) ?_
  refine lv_iconst (v := nI 3) hx hb dX2_checkOf_15 (by decide) ?_
  refine lv_iload_n hx hb dX2_checkOf_16 rfl (lv_at hl 0 rfl) ?_
  refine lv_bipush (v := nI 10) hx hb dX2_checkOf_17 (by decide) ?_
  refine lv_idiv hx hb dX2_checkOf_19 (by decide) ?_
  refine u_top (pk_div (by omega) (by omega) (by omega)) ?_
  refine lv_bipush (v := nI 10) hx hb dX2_checkOf_20 (by decide) ?_
  refine lv_irem hx hb dX2_checkOf_22 (by decide) ?_
  refine u_top (pk_rem (by omega) (by omega) (by omega)) ?_
  refine lv_imul hx hb dX2_checkOf_23 ?_
  refine u_top (pk_mul _ _) ?_
  refine lv_iadd hx hb dX2_checkOf_24 ?_
  refine u_top (nI_add _ _) ?_
  refine lv_iload_n hx hb dX2_checkOf_25 rfl (lv_at hl 0 rfl) ?_
  refine lv_bipush (v := nI 10) hx hb dX2_checkOf_26 (by decide) ?_
  refine lv_irem hx hb dX2_checkOf_28 (by decide) ?_
  refine u_top (pk_rem (by omega) (by omega) (by omega)) ?_
  refine lv_iadd hx hb dX2_checkOf_29 ?_
  refine u_top (nI_add _ _) ?_
  refine lv_istore_n (lv' := [(1, .int (nI (3 * (x / 1000) + ((x / 100) % 10) + (3 * ((x / 10) % 10)) + (x % 10)))), (0, .int (nI x))]) hx hb dX2_checkOf_30 rfl hl (by decide) rfl (fun ls hl => ?_)
  refine lv_bipush (v := nI 10) hx hb dX2_checkOf_31 (by decide) ?_
  refine lv_iload_n hx hb dX2_checkOf_33 rfl (lv_at hl 0 rfl) ?_
  refine lv_bipush (v := nI 10) hx hb dX2_checkOf_34 (by decide) ?_
  refine lv_irem hx hb dX2_checkOf_36 (by decide) ?_
  refine u_top (pk_rem (by omega) (by omega) (by omega)) ?_
  refine lv_isub hx hb dX2_checkOf_37 ?_
  refine u_top (pk_sub (by omega)) ?_
  refine lv_bipush (v := nI 10) hx hb dX2_checkOf_38 (by decide) ?_
  refine lv_irem hx hb dX2_checkOf_40 (by decide) ?_
  refine u_top (pk_rem (by omega) (by omega) (by omega)) ?_
  exact hret _ _ _ rfl dX2_checkOf_41
theorem k_X2_checkOf {x : Nat} (h1 : x < 10000) (SF : CallFix p m c cc nL s args lw_all RX2) (hK : KK dC dI dA s) (rk : rmOK 1 R) (hsz : ls.size = nL) (hcat : (rest.map fun v => v.category).sum ≤ 8) (hdg : decode cc pc = .ok (.invokestatic 51, 3)) (k : W p l e R s m args below meth c H locs 0 0 Q (F0 m (pc + 3) ls (.int (nI (chk x)) :: rest))) : W p l e R s m args below meth c H locs 0 0 Q (F0 m pc ls (.int (nI x) :: rest)) :=
  u_run (u_rS (Ψ := (fun _ => True)) (As := [.int (nI x)]) SF hK rk (c_X2_checkOf l dC dI dA x h1) (lw_S q2195 q2196 q117 q2197) (n := 1) (by decide +kernel) rfl (by decide) trivial hsz hcat ⟨Nat.zero_le _, Nat.zero_le _⟩ rfl hdg) k

set_option maxHeartbeats 4000000 in
theorem c_X2_codeOf (l : Launch) (dC : Nat → ClassId) (dI : Nat → Nat → Nat) (dA : Nat → ClassId) (x : Nat) (h1 : x < 10000) : Met l yX2_codeOf (ws_ yX2_codeOf cX2_codeOf 1 (some .int)) (rmD 1 0 0) (uPc [.int (nI x)] (fun _ => True) dC dI dA) (uQi (nI (cd x))) 0 0 noF := by
  refine u_meti (own := RX2) (by decide) rfl (Nat.le_of_ble_eq_true rfl) fun p e R s m args below meth c Q SF rk hP hK hret ls hl => ?_
  have hx := SF.1
  have hb := SF.2.1
  have hml := SF.2.2.1
  have hown := SF.2.2.2.1
  have hts := SF.2.2.2.2
  have hl : lv_has ls 1 [(0, .int (nI x))] := hl
  refine lv_bipush (v := nI 10) hx hb dX2_codeOf_0 (by decide) ?_
  refine lv_iload_n hx hb dX2_codeOf_2 rfl (lv_at hl 0 rfl) ?_
  refine lv_imul hx hb dX2_codeOf_3 ?_
  refine u_top (pk_mul _ _) ?_
  refine lv_iload_n hx hb dX2_codeOf_4 rfl (lv_at hl 0 rfl) ?_
  refine k_X2_checkOf  (by omega) SF hK (rk.le (Nat.le_of_ble_eq_true rfl)) hl.1 (Nat.le_of_ble_eq_true rfl) dX2_codeOf_5 ?_
  refine lv_iadd hx hb dX2_codeOf_8 ?_
  refine u_top (nI_add _ _) ?_
  exact hret _ _ _ rfl dX2_codeOf_9
theorem k_X2_codeOf {x : Nat} (h1 : x < 10000) (SF : CallFix p m c cc nL s args lw_all RX2) (hK : KK dC dI dA s) (rk : rmOK 2 R) (hsz : ls.size = nL) (hcat : (rest.map fun v => v.category).sum ≤ 8) (hdg : decode cc pc = .ok (.invokestatic 55, 3)) (k : W p l e R s m args below meth c H locs 0 0 Q (F0 m (pc + 3) ls (.int (nI (cd x)) :: rest))) : W p l e R s m args below meth c H locs 0 0 Q (F0 m pc ls (.int (nI x) :: rest)) :=
  u_run (u_rS (Ψ := (fun _ => True)) (As := [.int (nI x)]) SF hK rk (c_X2_codeOf l dC dI dA x h1) (lw_S q2192 q2193 q117 q2194) (n := 1) (by decide +kernel) rfl (by decide) trivial hsz hcat ⟨Nat.zero_le _, Nat.zero_le _⟩ rfl hdg) k

set_option maxHeartbeats 4000000 in
theorem c_X2_digitOf (l : Launch) (dC : Nat → ClassId) (dI : Nat → Nat → Nat) (dA : Nat → ClassId) (x : Nat) (q : Nat) (h1 : x < 100000) (h2 : q < 5) : Met l yX2_digitOf (ws_ yX2_digitOf cX2_digitOf 4 (some .int)) (rmD 0 0 0) (uPc [.int (nI x), .int (nI q)] (fun _ => True) dC dI dA) (uQi (nI (dg x q))) 0 0 noF := by
  refine u_meti (own := RX2) (by decide) rfl (Nat.le_of_ble_eq_true rfl) fun p e R s m args below meth c Q SF rk hP hK hret ls hl => ?_
  have hx := SF.1
  have hb := SF.2.1
  have hml := SF.2.2.1
  have hown := SF.2.2.2.1
  have hts := SF.2.2.2.2
  have hl : lv_has ls 4 [(0, .int (nI x)), (1, .int (nI q))] := hl
  refine lv_iload_n hx hb dX2_digitOf_0 rfl (lv_at hl 0 rfl) ?_
  refine u_top (y := nI (x / 10 ^ 0)) (by simp) ?_
  refine lv_istore_n (lv' := [(2, .int (nI (x / 10 ^ 0))), (0, .int (nI x)), (1, .int (nI q))]) hx hb dX2_digitOf_1 rfl hl (by decide) rfl (fun ls hl => ?_)
  refine lv_iload_n hx hb dX2_digitOf_2 rfl (lv_at hl 2 rfl) ?_
  refine lv_istore_n (lv' := [(3, .int (nI q)), (2, .int (nI (x / 10 ^ 0))), (0, .int (nI x)), (1, .int (nI q))]) hx hb dX2_digitOf_3 rfl hl (by decide) rfl (fun ls hl => ?_)
  have lp4 : ∀ (k0 : Nat) (j : Nat), j ≤ 4 - q → 4 - q < j + k0 → ∀ ls : Array Slot, lv_has ls 4 [(3, .int (nI (q + j))), (2, .int (nI (x / 10 ^ j))), (0, .int (nI x)), (1, .int (nI q))] → W p l e R s m args below meth c s.heap [] 0 0 Q (F0 m 4 ls []) := by
    intro k0
    induction k0 with
    | zero =>
      intro j hj1 hj2; omega
    | succ k0 ih =>
      intro j hj1 hj2 ls hl
      have ih4 := ih
      have hdv : x / 10 ^ j ≤ x := Nat.div_le_self _ _
      skip
      refine lv_iload_n hx hb dX2_digitOf_4 rfl (lv_at hl 0 rfl) ?_
      refine lv_iconst (v := nI 4) hx hb dX2_digitOf_5 (by decide) ?_
      refine lv_icmp_ge (tgt := 20) hx hb dX2_digitOf_6 (by decide) (fun c_6 => ?_) (fun c_6 => ?_)
      · have c_6 : 4 ≤ q + j := (nI_leI (a := 4) (b := q + j) (by omega) (by omega)).mp c_6
        refine lv_iload_n hx hb dX2_digitOf_20 rfl (lv_at hl 1 rfl) ?_
        refine lv_bipush (v := nI 10) hx hb dX2_digitOf_21 (by decide) ?_
        refine lv_irem hx hb dX2_digitOf_23 (by decide) ?_
        refine u_top (pk_rem (by omega) (by omega) (by omega)) ?_
        exact hret _ _ _ (by rw [show j = 4 - q by omega]; rfl) dX2_digitOf_24
      · have c_6 : ¬ (4 ≤ q + j) := fun q9 => c_6 ((nI_leI (a := 4) (b := q + j) (by omega) (by omega)).mpr q9)
        refine lv_iload_n hx hb dX2_digitOf_9 rfl (lv_at hl 1 rfl) ?_
        refine lv_bipush (v := nI 10) hx hb dX2_digitOf_10 (by decide) ?_
        refine lv_idiv hx hb dX2_digitOf_12 (by decide) ?_
        refine u_top (pk_div (by omega) (by omega) (by omega)) ?_
        refine u_top (y := nI (x / 10 ^ (j + 1))) (by rw [Nat.div_div_eq_div_mul, ← Nat.pow_succ]) ?_
        refine lv_istore_n (lv' := [(2, .int (nI (x / 10 ^ (j + 1)))), (3, .int (nI (q + j))), (0, .int (nI x)), (1, .int (nI q))]) hx hb dX2_digitOf_13 rfl hl (by decide) rfl (fun ls hl => ?_)
        refine lv_iinc (v := nI (q + (j + 1))) (lv' := [(3, .int (nI (q + (j + 1)))), (2, .int (nI (x / 10 ^ (j + 1)))), (0, .int (nI x)), (1, .int (nI q))]) hx hb dX2_digitOf_14 hl (k := 1) rfl (by rw [← Nat.add_assoc]; exact nI_add _ 1) (by decide) rfl (fun ls hl => ?_)
        refine lv_goto (tgt := 4) hx hb dX2_digitOf_17 (by decide) ?_
        exact ih4 (j + 1) (by omega) (by omega) ls (lv_sub hl [0, 1, 2, 3] rfl)
  exact lp4 (4 - q + 1) 0 (by omega) (by omega) ls (lv_sub hl [0, 1, 2, 3] rfl)
theorem k_X2_digitOf {x : Nat} {q : Nat} (h1 : x < 100000) (h2 : q < 5) (SF : CallFix p m c cc nL s args lw_all RX2) (hK : KK dC dI dA s) (rk : rmOK 1 R) (hsz : ls.size = nL) (hcat : (rest.map fun v => v.category).sum ≤ 8) (hdg : decode cc pc = .ok (.invokestatic 58, 3)) (k : W p l e R s m args below meth c H locs 0 0 Q (F0 m (pc + 3) ls (.int (nI (dg x q)) :: rest))) : W p l e R s m args below meth c H locs 0 0 Q (F0 m pc ls (.int (nI q) :: .int (nI x) :: rest)) :=
  u_run (u_rS (Ψ := (fun _ => True)) (As := [.int (nI x), .int (nI q)]) SF hK rk (c_X2_digitOf l dC dI dA x q h1 h2) (lw_S q2221 q2222 q117 q2223) (n := 2) (by decide +kernel) rfl (by decide) trivial hsz hcat ⟨Nat.zero_le _, Nat.zero_le _⟩ rfl hdg) k

set_option maxHeartbeats 4000000 in
theorem c_X2_codeAt (l : Launch) (dC : Nat → ClassId) (dI : Nat → Nat → Nat) (dA : Nat → ClassId) (a : Nat → Nat) (M : Nat → Nat → Int32) (t : Nat) (ht : t < tn (M 1)) (hT : TWf (M 1)) : Met l yX2_codeAt (ws_ yX2_codeAt cX2_codeAt 2 (some .int)) (rmD 2 0 0) (uPc [.ref (a 0), .int (nI t)] (mP dC dI dA a M) dC dI dA) (uQi (nI (cd (num (M 1) t)))) 0 0 noF := by
  refine u_meti (own := RX2) (by decide) rfl (Nat.le_of_ble_eq_true rfl) fun p e R s m args below meth c Q SF rk hP hK hret ls hl => ?_
  have hx := SF.1
  have hb := SF.2.1
  have hml := SF.2.2.1
  have hown := SF.2.2.2.1
  have hts := SF.2.2.2.2
  have hl : lv_has ls 2 [(0, .ref (a 0)), (1, .int (nI t))] := hl
  have hq := hT.2.2 t ht
  have hq1 := hT.2.1
  refine lv_aload_n hx hb dX2_codeAt_0 rfl (lv_at hl 0 rfl) ?_
  refine va_get (D := (dC, dI)) (ci := 2) (v := .ref (a 1)) (C := RX2) (T := TX2) (N := 22) hx hb hts in_X2 hown hK hP 0 rfl rfl 2 (by decide) (hts _ q1953) (fun _ h9 => h9) rfl dX2_codeAt_1 ?_
  refine lv_iconst (v := nI 2) hx hb dX2_codeAt_4 (by decide) ?_
  refine lv_iload_n hx hb dX2_codeAt_5 rfl (lv_at hl 1 rfl) ?_
  refine lv_iadd hx hb dX2_codeAt_6 ?_
  refine u_top (nI_add _ _) ?_
  refine u_iald hx hb hK hP 1 0 rfl rfl (i := 2 + t) (by omega) (by decide) dX2_codeAt_7 ?_
  refine u_top (y := nI (num (M 1) t)) hq.1 ?_
  refine k_X2_codeOf  hq.2.1 SF hK (rk.le (Nat.le_of_ble_eq_true rfl)) hl.1 (Nat.le_of_ble_eq_true rfl) dX2_codeAt_8 ?_
  exact hret _ _ _ rfl dX2_codeAt_11
theorem k_X2_codeAt {t : Nat} (ht : t < tn (M 1)) (hT : TWf (M 1)) (SF : CallFix p m c cc nL s args lw_all RX2) (hK : KK dC dI dA s) (rk : rmOK 3 R) (hsz : ls.size = nL) (hcat : (rest.map fun v => v.category).sum ≤ 8) (hP : mP dC dI dA a M H) (hdg : decode cc pc = .ok (.invokevirtual 80, 3)) (k : W p l e R s m args below meth c H locs 0 0 Q (F0 m (pc + 3) ls (.int (nI (cd (num (M 1) t))) :: rest))) : W p l e R s m args below meth c H locs 0 0 Q (F0 m pc ls (.int (nI t) :: .ref (a 0) :: rest)) :=
  u_run (u_rV (C := RX2) (Ψ := (mP dC dI dA a M)) (As := [.int (nI t)]) SF hK rk (c_X2_codeAt l dC dI dA a M t ht hT) (lw_V q2188 q2190 qs77 q117 q2191) (n := 1) (by decide +kernel) rfl (by decide) (va_recv hK hP (ci := 2) (q0 := 0) rfl rfl) hP hsz hcat ⟨Nat.zero_le _, Nat.zero_le _⟩ rfl hdg) k

set_option maxHeartbeats 4000000 in
theorem c_X2_digitsOf (l : Launch) (dC : Nat → ClassId) (dI : Nat → Nat → Nat) (dA : Nat → ClassId) (x : Nat) (h1 : x < 100000) : Met l yX2_digitsOf (ws_ yX2_digitsOf cX2_digitsOf 3 (some .int)) (rmD 1 0 0) (uPc [.int (nI x)] (fun _ => True) dC dI dA) (uQi (nI (dsm x))) 0 0 noF := by
  refine u_meti (own := RX2) (by decide) rfl (Nat.le_of_ble_eq_true rfl) fun p e R s m args below meth c Q SF rk hP hK hret ls hl => ?_
  have hx := SF.1
  have hb := SF.2.1
  have hml := SF.2.2.1
  have hown := SF.2.2.2.1
  have hts := SF.2.2.2.2
  have hl : lv_has ls 3 [(0, .int (nI x))] := hl
  refine lv_iconst (v := nI 0) hx hb dX2_digitsOf_0 (by decide) ?_
  refine lv_istore_n (lv' := [(1, .int (nI 0)), (0, .int (nI x))]) hx hb dX2_digitsOf_1 rfl hl (by decide) rfl (fun ls hl => ?_)
  refine lv_iconst (v := nI 0) hx hb dX2_digitsOf_2 (by decide) ?_
  refine lv_istore_n (lv' := [(2, .int (nI 0)), (1, .int (nI 0)), (0, .int (nI x))]) hx hb dX2_digitsOf_3 rfl hl (by decide) rfl (fun ls hl => ?_)
  have lp4 : ∀ (k0 : Nat) (k : Nat), k ≤ 5 → 5 < k + k0 → ∀ ls : Array Slot, lv_has ls 3 [(2, .int (nI k)), (1, .int (nI (sumN (dg x) k))), (0, .int (nI x))] → W p l e R s m args below meth c s.heap [] 0 0 Q (F0 m 4 ls []) := by
    intro k0
    induction k0 with
    | zero =>
      intro k hk1 hk2; omega
    | succ k0 ih =>
      intro k hk1 hk2 ls hl
      have ih4 := ih
      refine lv_iload_n hx hb dX2_digitsOf_4 rfl (lv_at hl 0 rfl) ?_
      refine lv_iconst (v := nI 5) hx hb dX2_digitsOf_5 (by decide) ?_
      refine lv_icmp_ge (tgt := 23) hx hb dX2_digitsOf_6 (by decide) (fun c_6 => ?_) (fun c_6 => ?_)
      · have c_6 : 5 ≤ k := (nI_leI (a := 5) (b := k) (by omega) (by omega)).mp c_6
        refine lv_iload_n hx hb dX2_digitsOf_23 rfl (lv_at hl 1 rfl) ?_
        exact hret _ _ _ (by rw [show k = 5 by omega]; rfl) dX2_digitsOf_24
      · have c_6 : ¬ (5 ≤ k) := fun q9 => c_6 ((nI_leI (a := 5) (b := k) (by omega) (by omega)).mpr q9)
        refine lv_iload_n hx hb dX2_digitsOf_9 rfl (lv_at hl 1 rfl) ?_
        refine lv_iload_n hx hb dX2_digitsOf_10 rfl (lv_at hl 2 rfl) ?_
        refine lv_iload_n hx hb dX2_digitsOf_11 rfl (lv_at hl 0 rfl) ?_
        refine k_X2_digitOf  (by omega) (by omega) SF hK (rk.le (Nat.le_of_ble_eq_true rfl)) hl.1 (Nat.le_of_ble_eq_true rfl) dX2_digitsOf_12 ?_
        refine lv_iadd hx hb dX2_digitsOf_15 ?_
        refine u_top (nI_add _ _) ?_
        refine lv_istore_n (lv' := [(1, .int (nI (sumN (dg x) k + (dg x k)))), (2, .int (nI k)), (0, .int (nI x))]) hx hb dX2_digitsOf_16 rfl hl (by decide) rfl (fun ls hl => ?_)
        refine lv_iinc (v := nI (k + 1)) (lv' := [(2, .int (nI (k + 1))), (1, .int (nI (sumN (dg x) k + (dg x k)))), (0, .int (nI x))]) hx hb dX2_digitsOf_17 hl (k := 1) rfl (nI_add _ 1) (by decide) rfl (fun ls hl => ?_)
        refine lv_goto (tgt := 4) hx hb dX2_digitsOf_20 (by decide) ?_
        exact ih4 (k + 1) (by omega) (by omega) ls (lv_sub hl [0, 1, 2] rfl)
  exact lp4 (5 + 1) 0 (by omega) (by omega) ls (lv_sub hl [0, 1, 2] rfl)
theorem k_X2_digitsOf {x : Nat} (h1 : x < 100000) (SF : CallFix p m c cc nL s args lw_all RX2) (hK : KK dC dI dA s) (rk : rmOK 2 R) (hsz : ls.size = nL) (hcat : (rest.map fun v => v.category).sum ≤ 8) (hdg : decode cc pc = .ok (.invokestatic 115, 3)) (k : W p l e R s m args below meth c H locs 0 0 Q (F0 m (pc + 3) ls (.int (nI (dsm x)) :: rest))) : W p l e R s m args below meth c H locs 0 0 Q (F0 m pc ls (.int (nI x) :: rest)) :=
  u_run (u_rS (Ψ := (fun _ => True)) (As := [.int (nI x)]) SF hK rk (c_X2_digitsOf l dC dI dA x h1) (lw_S q2218 q2219 q117 q2220) (n := 1) (by decide +kernel) rfl (by decide) trivial hsz hcat ⟨Nat.zero_le _, Nat.zero_le _⟩ rfl hdg) k

set_option maxHeartbeats 4000000 in
theorem c_X2_areAlike (l : Launch) (dC : Nat → ClassId) (dI : Nat → Nat → Nat) (dA : Nat → ClassId) (b1 : Nat) (b2 : Nat) (h1 : b1 < 10) (h2 : b2 < 10) : Met l yX2_areAlike (ws_ yX2_areAlike cX2_areAlike 4 (some .boolean)) (rmD 1 0 0) (uPc [.int (nI b1), .int (nI b2)] (fun _ => True) dC dI dA) (uQi (nI (alk b1 b2).toNat)) 0 0 noF := by
  refine u_metz (own := RX2) (by decide) rfl (Nat.le_of_ble_eq_true rfl) fun p e R s m args below meth c Q SF rk hP hK hret ls hl => ?_
  have hx := SF.1
  have hb := SF.2.1
  have hml := SF.2.2.1
  have hown := SF.2.2.2.1
  have hts := SF.2.2.2.2
  have hl : lv_has ls 4 [(0, .int (nI b1)), (1, .int (nI b2))] := hl
  refine lv_iload_n hx hb dX2_areAlike_0 rfl (lv_at hl 0 rfl) ?_
  refine lv_iload_n hx hb dX2_areAlike_1 rfl (lv_at hl 1 rfl) ?_
  refine va_mmin hx hb (hml.trans hl.1.symm) hown (hts _ q2208) (hts _ q522) (hts _ q131) (hts _ q523) (Nat.le_trans (Nat.le_of_ble_eq_true rfl) rk.1) (Nat.le_trans (Nat.le_of_ble_eq_true rfl) rk.2) (Nat.zero_le _) (Nat.zero_le _) dX2_areAlike_2 ?_
  refine u_top (nI_min (by omega) (by omega)) ?_
  obtain ⟨lo, hlo⟩ : ∃ z, z = min b1 b2 := ⟨_, rfl⟩
  refine u_top (y := nI lo) (by rw [hlo]) ?_
  refine lv_istore_n (lv' := [(2, .int (nI lo)), (0, .int (nI b1)), (1, .int (nI b2))]) hx hb dX2_areAlike_5 rfl hl (by decide) rfl (fun ls hl => ?_)
  refine lv_iload_n hx hb dX2_areAlike_6 rfl (lv_at hl 1 rfl) ?_
  refine lv_iload_n hx hb dX2_areAlike_7 rfl (lv_at hl 2 rfl) ?_
  refine va_mmax hx hb (hml.trans hl.1.symm) hown (hts _ q2209) (hts _ q504) (hts _ q131) (hts _ q505) (Nat.le_trans (Nat.le_of_ble_eq_true rfl) rk.1) (Nat.le_trans (Nat.le_of_ble_eq_true rfl) rk.2) (Nat.zero_le _) (Nat.zero_le _) dX2_areAlike_8 ?_
  refine u_top (nI_max (by omega) (by omega)) ?_
  obtain ⟨hi, hhi⟩ : ∃ z, z = max b1 b2 := ⟨_, rfl⟩
  refine u_top (y := nI hi) (by rw [hhi]) ?_
  refine lv_istore_n (lv' := [(3, .int (nI hi)), (2, .int (nI lo)), (0, .int (nI b1)), (1, .int (nI b2))]) hx hb dX2_areAlike_11 rfl hl (by decide) rfl (fun ls hl => ?_)
  refine lv_iload_n hx hb dX2_areAlike_12 rfl (lv_at hl 1 rfl) ?_
  refine lv_if_ne (tgt := 22) hx hb dX2_areAlike_13 (by decide) (fun c_13 => ?_) (fun c_13 => ?_)
  · have c_13 : ¬ (lo = 0) := fun q9 => c_13 ((nI_eq (a := lo) (b := 0) (by omega) (by omega)).mpr q9)
    refine lv_iload_n hx hb dX2_areAlike_22 rfl (lv_at hl 1 rfl) ?_
    refine lv_iconst (v := nI 1) hx hb dX2_areAlike_23 (by decide) ?_
    refine lv_icmp_ne (tgt := 33) hx hb dX2_areAlike_24 (by decide) (fun c_24 => ?_) (fun c_24 => ?_)
    · have c_24 : ¬ (lo = 1) := fun q9 => c_24 ((nI_eq (a := lo) (b := 1) (by omega) (by omega)).mpr q9)
      refine lv_iload_n hx hb dX2_areAlike_33 rfl (lv_at hl 1 rfl) ?_
      refine lv_iconst (v := nI 3) hx hb dX2_areAlike_34 (by decide) ?_
      refine lv_icmp_ne (tgt := 44) hx hb dX2_areAlike_35 (by decide) (fun c_35 => ?_) (fun c_35 => ?_)
      · have c_35 : ¬ (lo = 3) := fun q9 => c_35 ((nI_eq (a := lo) (b := 3) (by omega) (by omega)).mpr q9)
        refine lv_iload_n hx hb dX2_areAlike_44 rfl (lv_at hl 1 rfl) ?_
        refine lv_iconst (v := nI 4) hx hb dX2_areAlike_45 (by decide) ?_
        refine lv_icmp_ne (tgt := 55) hx hb dX2_areAlike_46 (by decide) (fun c_46 => ?_) (fun c_46 => ?_)
        · have c_46 : ¬ (lo = 4) := fun q9 => c_46 ((nI_eq (a := lo) (b := 4) (by omega) (by omega)).mpr q9)
          refine lv_iload_n hx hb dX2_areAlike_55 rfl (lv_at hl 1 rfl) ?_
          refine lv_iconst (v := nI 5) hx hb dX2_areAlike_56 (by decide) ?_
          refine lv_icmp_ne (tgt := 70) hx hb dX2_areAlike_57 (by decide) (fun c_57 => ?_) (fun c_57 => ?_)
          · have c_57 : ¬ (lo = 5) := fun q9 => c_57 ((nI_eq (a := lo) (b := 5) (by omega) (by omega)).mpr q9)
            refine lv_iconst (v := nI 0) hx hb dX2_areAlike_70 (by decide) ?_
            exact hret _ _ _ (u_ff (by rw [alk_iff hlo hhi]; omega)) dX2_areAlike_71
          · have c_57 : lo = 5 := (nI_eq (a := lo) (b := 5) (by omega) (by omega)).mp c_57
            refine lv_iload_n hx hb dX2_areAlike_60 rfl (lv_at hl 0 rfl) ?_
            refine lv_bipush (v := nI 6) hx hb dX2_areAlike_61 (by decide) ?_
            refine lv_icmp_ne (tgt := 70) hx hb dX2_areAlike_63 (by decide) (fun c_63 => ?_) (fun c_63 => ?_)
            · have c_63 : ¬ (hi = 6) := fun q9 => c_63 ((nI_eq (a := hi) (b := 6) (by omega) (by omega)).mpr q9)
              refine lv_iconst (v := nI 0) hx hb dX2_areAlike_70 (by decide) ?_
              exact hret _ _ _ (u_ff (by rw [alk_iff hlo hhi]; omega)) dX2_areAlike_71
            · have c_63 : hi = 6 := (nI_eq (a := hi) (b := 6) (by omega) (by omega)).mp c_63
              refine lv_iconst (v := nI 1) hx hb dX2_areAlike_66 (by decide) ?_
              refine lv_goto (tgt := 71) hx hb dX2_areAlike_67 (by decide) ?_
              exact hret _ _ _ (u_tt (by rw [alk_iff hlo hhi]; omega)) dX2_areAlike_71
        · have c_46 : lo = 4 := (nI_eq (a := lo) (b := 4) (by omega) (by omega)).mp c_46
          refine lv_iload_n hx hb dX2_areAlike_49 rfl (lv_at hl 0 rfl) ?_
          refine lv_bipush (v := nI 9) hx hb dX2_areAlike_50 (by decide) ?_
          refine lv_icmp_eq (tgt := 66) hx hb dX2_areAlike_52 (by decide) (fun c_52 => ?_) (fun c_52 => ?_)
          · have c_52 : hi = 9 := (nI_eq (a := hi) (b := 9) (by omega) (by omega)).mp c_52
            refine lv_iconst (v := nI 1) hx hb dX2_areAlike_66 (by decide) ?_
            refine lv_goto (tgt := 71) hx hb dX2_areAlike_67 (by decide) ?_
            exact hret _ _ _ (u_tt (by rw [alk_iff hlo hhi]; omega)) dX2_areAlike_71
          · have c_52 : ¬ (hi = 9) := fun q9 => c_52 ((nI_eq (a := hi) (b := 9) (by omega) (by omega)).mpr q9)
            refine lv_iload_n hx hb dX2_areAlike_55 rfl (lv_at hl 1 rfl) ?_
            refine lv_iconst (v := nI 5) hx hb dX2_areAlike_56 (by decide) ?_
            refine lv_icmp_ne (tgt := 70) hx hb dX2_areAlike_57 (by decide) (fun c_57 => ?_) (fun c_57 => ?_)
            · have c_57 : ¬ (lo = 5) := fun q9 => c_57 ((nI_eq (a := lo) (b := 5) (by omega) (by omega)).mpr q9)
              refine lv_iconst (v := nI 0) hx hb dX2_areAlike_70 (by decide) ?_
              exact hret _ _ _ (u_ff (by rw [alk_iff hlo hhi]; omega)) dX2_areAlike_71
            · have c_57 : lo = 5 := (nI_eq (a := lo) (b := 5) (by omega) (by omega)).mp c_57
              refine lv_iload_n hx hb dX2_areAlike_60 rfl (lv_at hl 0 rfl) ?_
              refine lv_bipush (v := nI 6) hx hb dX2_areAlike_61 (by decide) ?_
              refine lv_icmp_ne (tgt := 70) hx hb dX2_areAlike_63 (by decide) (fun c_63 => ?_) (fun c_63 => ?_)
              · have c_63 : ¬ (hi = 6) := fun q9 => c_63 ((nI_eq (a := hi) (b := 6) (by omega) (by omega)).mpr q9)
                refine lv_iconst (v := nI 0) hx hb dX2_areAlike_70 (by decide) ?_
                exact hret _ _ _ (u_ff (by rw [alk_iff hlo hhi]; omega)) dX2_areAlike_71
              · have c_63 : hi = 6 := (nI_eq (a := hi) (b := 6) (by omega) (by omega)).mp c_63
                refine lv_iconst (v := nI 1) hx hb dX2_areAlike_66 (by decide) ?_
                refine lv_goto (tgt := 71) hx hb dX2_areAlike_67 (by decide) ?_
                exact hret _ _ _ (u_tt (by rw [alk_iff hlo hhi]; omega)) dX2_areAlike_71
      · have c_35 : lo = 3 := (nI_eq (a := lo) (b := 3) (by omega) (by omega)).mp c_35
        refine lv_iload_n hx hb dX2_areAlike_38 rfl (lv_at hl 0 rfl) ?_
        refine lv_bipush (v := nI 8) hx hb dX2_areAlike_39 (by decide) ?_
        refine lv_icmp_eq (tgt := 66) hx hb dX2_areAlike_41 (by decide) (fun c_41 => ?_) (fun c_41 => ?_)
        · have c_41 : hi = 8 := (nI_eq (a := hi) (b := 8) (by omega) (by omega)).mp c_41
          refine lv_iconst (v := nI 1) hx hb dX2_areAlike_66 (by decide) ?_
          refine lv_goto (tgt := 71) hx hb dX2_areAlike_67 (by decide) ?_
          exact hret _ _ _ (u_tt (by rw [alk_iff hlo hhi]; omega)) dX2_areAlike_71
        · have c_41 : ¬ (hi = 8) := fun q9 => c_41 ((nI_eq (a := hi) (b := 8) (by omega) (by omega)).mpr q9)
          refine lv_iload_n hx hb dX2_areAlike_44 rfl (lv_at hl 1 rfl) ?_
          refine lv_iconst (v := nI 4) hx hb dX2_areAlike_45 (by decide) ?_
          refine lv_icmp_ne (tgt := 55) hx hb dX2_areAlike_46 (by decide) (fun c_46 => ?_) (fun c_46 => ?_)
          · have c_46 : ¬ (lo = 4) := fun q9 => c_46 ((nI_eq (a := lo) (b := 4) (by omega) (by omega)).mpr q9)
            refine lv_iload_n hx hb dX2_areAlike_55 rfl (lv_at hl 1 rfl) ?_
            refine lv_iconst (v := nI 5) hx hb dX2_areAlike_56 (by decide) ?_
            refine lv_icmp_ne (tgt := 70) hx hb dX2_areAlike_57 (by decide) (fun c_57 => ?_) (fun c_57 => ?_)
            · have c_57 : ¬ (lo = 5) := fun q9 => c_57 ((nI_eq (a := lo) (b := 5) (by omega) (by omega)).mpr q9)
              refine lv_iconst (v := nI 0) hx hb dX2_areAlike_70 (by decide) ?_
              exact hret _ _ _ (u_ff (by rw [alk_iff hlo hhi]; omega)) dX2_areAlike_71
            · have c_57 : lo = 5 := (nI_eq (a := lo) (b := 5) (by omega) (by omega)).mp c_57
              refine lv_iload_n hx hb dX2_areAlike_60 rfl (lv_at hl 0 rfl) ?_
              refine lv_bipush (v := nI 6) hx hb dX2_areAlike_61 (by decide) ?_
              refine lv_icmp_ne (tgt := 70) hx hb dX2_areAlike_63 (by decide) (fun c_63 => ?_) (fun c_63 => ?_)
              · have c_63 : ¬ (hi = 6) := fun q9 => c_63 ((nI_eq (a := hi) (b := 6) (by omega) (by omega)).mpr q9)
                refine lv_iconst (v := nI 0) hx hb dX2_areAlike_70 (by decide) ?_
                exact hret _ _ _ (u_ff (by rw [alk_iff hlo hhi]; omega)) dX2_areAlike_71
              · have c_63 : hi = 6 := (nI_eq (a := hi) (b := 6) (by omega) (by omega)).mp c_63
                refine lv_iconst (v := nI 1) hx hb dX2_areAlike_66 (by decide) ?_
                refine lv_goto (tgt := 71) hx hb dX2_areAlike_67 (by decide) ?_
                exact hret _ _ _ (u_tt (by rw [alk_iff hlo hhi]; omega)) dX2_areAlike_71
          · have c_46 : lo = 4 := (nI_eq (a := lo) (b := 4) (by omega) (by omega)).mp c_46
            refine lv_iload_n hx hb dX2_areAlike_49 rfl (lv_at hl 0 rfl) ?_
            refine lv_bipush (v := nI 9) hx hb dX2_areAlike_50 (by decide) ?_
            refine lv_icmp_eq (tgt := 66) hx hb dX2_areAlike_52 (by decide) (fun c_52 => ?_) (fun c_52 => ?_)
            · have c_52 : hi = 9 := (nI_eq (a := hi) (b := 9) (by omega) (by omega)).mp c_52
              refine lv_iconst (v := nI 1) hx hb dX2_areAlike_66 (by decide) ?_
              refine lv_goto (tgt := 71) hx hb dX2_areAlike_67 (by decide) ?_
              exact hret _ _ _ (u_tt (by rw [alk_iff hlo hhi]; omega)) dX2_areAlike_71
            · have c_52 : ¬ (hi = 9) := fun q9 => c_52 ((nI_eq (a := hi) (b := 9) (by omega) (by omega)).mpr q9)
              refine lv_iload_n hx hb dX2_areAlike_55 rfl (lv_at hl 1 rfl) ?_
              refine lv_iconst (v := nI 5) hx hb dX2_areAlike_56 (by decide) ?_
              refine lv_icmp_ne (tgt := 70) hx hb dX2_areAlike_57 (by decide) (fun c_57 => ?_) (fun c_57 => ?_)
              · have c_57 : ¬ (lo = 5) := fun q9 => c_57 ((nI_eq (a := lo) (b := 5) (by omega) (by omega)).mpr q9)
                refine lv_iconst (v := nI 0) hx hb dX2_areAlike_70 (by decide) ?_
                exact hret _ _ _ (u_ff (by rw [alk_iff hlo hhi]; omega)) dX2_areAlike_71
              · have c_57 : lo = 5 := (nI_eq (a := lo) (b := 5) (by omega) (by omega)).mp c_57
                refine lv_iload_n hx hb dX2_areAlike_60 rfl (lv_at hl 0 rfl) ?_
                refine lv_bipush (v := nI 6) hx hb dX2_areAlike_61 (by decide) ?_
                refine lv_icmp_ne (tgt := 70) hx hb dX2_areAlike_63 (by decide) (fun c_63 => ?_) (fun c_63 => ?_)
                · have c_63 : ¬ (hi = 6) := fun q9 => c_63 ((nI_eq (a := hi) (b := 6) (by omega) (by omega)).mpr q9)
                  refine lv_iconst (v := nI 0) hx hb dX2_areAlike_70 (by decide) ?_
                  exact hret _ _ _ (u_ff (by rw [alk_iff hlo hhi]; omega)) dX2_areAlike_71
                · have c_63 : hi = 6 := (nI_eq (a := hi) (b := 6) (by omega) (by omega)).mp c_63
                  refine lv_iconst (v := nI 1) hx hb dX2_areAlike_66 (by decide) ?_
                  refine lv_goto (tgt := 71) hx hb dX2_areAlike_67 (by decide) ?_
                  exact hret _ _ _ (u_tt (by rw [alk_iff hlo hhi]; omega)) dX2_areAlike_71
    · have c_24 : lo = 1 := (nI_eq (a := lo) (b := 1) (by omega) (by omega)).mp c_24
      refine lv_iload_n hx hb dX2_areAlike_27 rfl (lv_at hl 0 rfl) ?_
      refine lv_bipush (v := nI 7) hx hb dX2_areAlike_28 (by decide) ?_
      refine lv_icmp_eq (tgt := 66) hx hb dX2_areAlike_30 (by decide) (fun c_30 => ?_) (fun c_30 => ?_)
      · have c_30 : hi = 7 := (nI_eq (a := hi) (b := 7) (by omega) (by omega)).mp c_30
        refine lv_iconst (v := nI 1) hx hb dX2_areAlike_66 (by decide) ?_
        refine lv_goto (tgt := 71) hx hb dX2_areAlike_67 (by decide) ?_
        exact hret _ _ _ (u_tt (by rw [alk_iff hlo hhi]; omega)) dX2_areAlike_71
      · have c_30 : ¬ (hi = 7) := fun q9 => c_30 ((nI_eq (a := hi) (b := 7) (by omega) (by omega)).mpr q9)
        refine lv_iload_n hx hb dX2_areAlike_33 rfl (lv_at hl 1 rfl) ?_
        refine lv_iconst (v := nI 3) hx hb dX2_areAlike_34 (by decide) ?_
        refine lv_icmp_ne (tgt := 44) hx hb dX2_areAlike_35 (by decide) (fun c_35 => ?_) (fun c_35 => ?_)
        · have c_35 : ¬ (lo = 3) := fun q9 => c_35 ((nI_eq (a := lo) (b := 3) (by omega) (by omega)).mpr q9)
          refine lv_iload_n hx hb dX2_areAlike_44 rfl (lv_at hl 1 rfl) ?_
          refine lv_iconst (v := nI 4) hx hb dX2_areAlike_45 (by decide) ?_
          refine lv_icmp_ne (tgt := 55) hx hb dX2_areAlike_46 (by decide) (fun c_46 => ?_) (fun c_46 => ?_)
          · have c_46 : ¬ (lo = 4) := fun q9 => c_46 ((nI_eq (a := lo) (b := 4) (by omega) (by omega)).mpr q9)
            refine lv_iload_n hx hb dX2_areAlike_55 rfl (lv_at hl 1 rfl) ?_
            refine lv_iconst (v := nI 5) hx hb dX2_areAlike_56 (by decide) ?_
            refine lv_icmp_ne (tgt := 70) hx hb dX2_areAlike_57 (by decide) (fun c_57 => ?_) (fun c_57 => ?_)
            · have c_57 : ¬ (lo = 5) := fun q9 => c_57 ((nI_eq (a := lo) (b := 5) (by omega) (by omega)).mpr q9)
              refine lv_iconst (v := nI 0) hx hb dX2_areAlike_70 (by decide) ?_
              exact hret _ _ _ (u_ff (by rw [alk_iff hlo hhi]; omega)) dX2_areAlike_71
            · have c_57 : lo = 5 := (nI_eq (a := lo) (b := 5) (by omega) (by omega)).mp c_57
              refine lv_iload_n hx hb dX2_areAlike_60 rfl (lv_at hl 0 rfl) ?_
              refine lv_bipush (v := nI 6) hx hb dX2_areAlike_61 (by decide) ?_
              refine lv_icmp_ne (tgt := 70) hx hb dX2_areAlike_63 (by decide) (fun c_63 => ?_) (fun c_63 => ?_)
              · have c_63 : ¬ (hi = 6) := fun q9 => c_63 ((nI_eq (a := hi) (b := 6) (by omega) (by omega)).mpr q9)
                refine lv_iconst (v := nI 0) hx hb dX2_areAlike_70 (by decide) ?_
                exact hret _ _ _ (u_ff (by rw [alk_iff hlo hhi]; omega)) dX2_areAlike_71
              · have c_63 : hi = 6 := (nI_eq (a := hi) (b := 6) (by omega) (by omega)).mp c_63
                refine lv_iconst (v := nI 1) hx hb dX2_areAlike_66 (by decide) ?_
                refine lv_goto (tgt := 71) hx hb dX2_areAlike_67 (by decide) ?_
                exact hret _ _ _ (u_tt (by rw [alk_iff hlo hhi]; omega)) dX2_areAlike_71
          · have c_46 : lo = 4 := (nI_eq (a := lo) (b := 4) (by omega) (by omega)).mp c_46
            refine lv_iload_n hx hb dX2_areAlike_49 rfl (lv_at hl 0 rfl) ?_
            refine lv_bipush (v := nI 9) hx hb dX2_areAlike_50 (by decide) ?_
            refine lv_icmp_eq (tgt := 66) hx hb dX2_areAlike_52 (by decide) (fun c_52 => ?_) (fun c_52 => ?_)
            · have c_52 : hi = 9 := (nI_eq (a := hi) (b := 9) (by omega) (by omega)).mp c_52
              refine lv_iconst (v := nI 1) hx hb dX2_areAlike_66 (by decide) ?_
              refine lv_goto (tgt := 71) hx hb dX2_areAlike_67 (by decide) ?_
              exact hret _ _ _ (u_tt (by rw [alk_iff hlo hhi]; omega)) dX2_areAlike_71
            · have c_52 : ¬ (hi = 9) := fun q9 => c_52 ((nI_eq (a := hi) (b := 9) (by omega) (by omega)).mpr q9)
              refine lv_iload_n hx hb dX2_areAlike_55 rfl (lv_at hl 1 rfl) ?_
              refine lv_iconst (v := nI 5) hx hb dX2_areAlike_56 (by decide) ?_
              refine lv_icmp_ne (tgt := 70) hx hb dX2_areAlike_57 (by decide) (fun c_57 => ?_) (fun c_57 => ?_)
              · have c_57 : ¬ (lo = 5) := fun q9 => c_57 ((nI_eq (a := lo) (b := 5) (by omega) (by omega)).mpr q9)
                refine lv_iconst (v := nI 0) hx hb dX2_areAlike_70 (by decide) ?_
                exact hret _ _ _ (u_ff (by rw [alk_iff hlo hhi]; omega)) dX2_areAlike_71
              · have c_57 : lo = 5 := (nI_eq (a := lo) (b := 5) (by omega) (by omega)).mp c_57
                refine lv_iload_n hx hb dX2_areAlike_60 rfl (lv_at hl 0 rfl) ?_
                refine lv_bipush (v := nI 6) hx hb dX2_areAlike_61 (by decide) ?_
                refine lv_icmp_ne (tgt := 70) hx hb dX2_areAlike_63 (by decide) (fun c_63 => ?_) (fun c_63 => ?_)
                · have c_63 : ¬ (hi = 6) := fun q9 => c_63 ((nI_eq (a := hi) (b := 6) (by omega) (by omega)).mpr q9)
                  refine lv_iconst (v := nI 0) hx hb dX2_areAlike_70 (by decide) ?_
                  exact hret _ _ _ (u_ff (by rw [alk_iff hlo hhi]; omega)) dX2_areAlike_71
                · have c_63 : hi = 6 := (nI_eq (a := hi) (b := 6) (by omega) (by omega)).mp c_63
                  refine lv_iconst (v := nI 1) hx hb dX2_areAlike_66 (by decide) ?_
                  refine lv_goto (tgt := 71) hx hb dX2_areAlike_67 (by decide) ?_
                  exact hret _ _ _ (u_tt (by rw [alk_iff hlo hhi]; omega)) dX2_areAlike_71
        · have c_35 : lo = 3 := (nI_eq (a := lo) (b := 3) (by omega) (by omega)).mp c_35
          refine lv_iload_n hx hb dX2_areAlike_38 rfl (lv_at hl 0 rfl) ?_
          refine lv_bipush (v := nI 8) hx hb dX2_areAlike_39 (by decide) ?_
          refine lv_icmp_eq (tgt := 66) hx hb dX2_areAlike_41 (by decide) (fun c_41 => ?_) (fun c_41 => ?_)
          · have c_41 : hi = 8 := (nI_eq (a := hi) (b := 8) (by omega) (by omega)).mp c_41
            refine lv_iconst (v := nI 1) hx hb dX2_areAlike_66 (by decide) ?_
            refine lv_goto (tgt := 71) hx hb dX2_areAlike_67 (by decide) ?_
            exact hret _ _ _ (u_tt (by rw [alk_iff hlo hhi]; omega)) dX2_areAlike_71
          · have c_41 : ¬ (hi = 8) := fun q9 => c_41 ((nI_eq (a := hi) (b := 8) (by omega) (by omega)).mpr q9)
            refine lv_iload_n hx hb dX2_areAlike_44 rfl (lv_at hl 1 rfl) ?_
            refine lv_iconst (v := nI 4) hx hb dX2_areAlike_45 (by decide) ?_
            refine lv_icmp_ne (tgt := 55) hx hb dX2_areAlike_46 (by decide) (fun c_46 => ?_) (fun c_46 => ?_)
            · have c_46 : ¬ (lo = 4) := fun q9 => c_46 ((nI_eq (a := lo) (b := 4) (by omega) (by omega)).mpr q9)
              refine lv_iload_n hx hb dX2_areAlike_55 rfl (lv_at hl 1 rfl) ?_
              refine lv_iconst (v := nI 5) hx hb dX2_areAlike_56 (by decide) ?_
              refine lv_icmp_ne (tgt := 70) hx hb dX2_areAlike_57 (by decide) (fun c_57 => ?_) (fun c_57 => ?_)
              · have c_57 : ¬ (lo = 5) := fun q9 => c_57 ((nI_eq (a := lo) (b := 5) (by omega) (by omega)).mpr q9)
                refine lv_iconst (v := nI 0) hx hb dX2_areAlike_70 (by decide) ?_
                exact hret _ _ _ (u_ff (by rw [alk_iff hlo hhi]; omega)) dX2_areAlike_71
              · have c_57 : lo = 5 := (nI_eq (a := lo) (b := 5) (by omega) (by omega)).mp c_57
                refine lv_iload_n hx hb dX2_areAlike_60 rfl (lv_at hl 0 rfl) ?_
                refine lv_bipush (v := nI 6) hx hb dX2_areAlike_61 (by decide) ?_
                refine lv_icmp_ne (tgt := 70) hx hb dX2_areAlike_63 (by decide) (fun c_63 => ?_) (fun c_63 => ?_)
                · have c_63 : ¬ (hi = 6) := fun q9 => c_63 ((nI_eq (a := hi) (b := 6) (by omega) (by omega)).mpr q9)
                  refine lv_iconst (v := nI 0) hx hb dX2_areAlike_70 (by decide) ?_
                  exact hret _ _ _ (u_ff (by rw [alk_iff hlo hhi]; omega)) dX2_areAlike_71
                · have c_63 : hi = 6 := (nI_eq (a := hi) (b := 6) (by omega) (by omega)).mp c_63
                  refine lv_iconst (v := nI 1) hx hb dX2_areAlike_66 (by decide) ?_
                  refine lv_goto (tgt := 71) hx hb dX2_areAlike_67 (by decide) ?_
                  exact hret _ _ _ (u_tt (by rw [alk_iff hlo hhi]; omega)) dX2_areAlike_71
            · have c_46 : lo = 4 := (nI_eq (a := lo) (b := 4) (by omega) (by omega)).mp c_46
              refine lv_iload_n hx hb dX2_areAlike_49 rfl (lv_at hl 0 rfl) ?_
              refine lv_bipush (v := nI 9) hx hb dX2_areAlike_50 (by decide) ?_
              refine lv_icmp_eq (tgt := 66) hx hb dX2_areAlike_52 (by decide) (fun c_52 => ?_) (fun c_52 => ?_)
              · have c_52 : hi = 9 := (nI_eq (a := hi) (b := 9) (by omega) (by omega)).mp c_52
                refine lv_iconst (v := nI 1) hx hb dX2_areAlike_66 (by decide) ?_
                refine lv_goto (tgt := 71) hx hb dX2_areAlike_67 (by decide) ?_
                exact hret _ _ _ (u_tt (by rw [alk_iff hlo hhi]; omega)) dX2_areAlike_71
              · have c_52 : ¬ (hi = 9) := fun q9 => c_52 ((nI_eq (a := hi) (b := 9) (by omega) (by omega)).mpr q9)
                refine lv_iload_n hx hb dX2_areAlike_55 rfl (lv_at hl 1 rfl) ?_
                refine lv_iconst (v := nI 5) hx hb dX2_areAlike_56 (by decide) ?_
                refine lv_icmp_ne (tgt := 70) hx hb dX2_areAlike_57 (by decide) (fun c_57 => ?_) (fun c_57 => ?_)
                · have c_57 : ¬ (lo = 5) := fun q9 => c_57 ((nI_eq (a := lo) (b := 5) (by omega) (by omega)).mpr q9)
                  refine lv_iconst (v := nI 0) hx hb dX2_areAlike_70 (by decide) ?_
                  exact hret _ _ _ (u_ff (by rw [alk_iff hlo hhi]; omega)) dX2_areAlike_71
                · have c_57 : lo = 5 := (nI_eq (a := lo) (b := 5) (by omega) (by omega)).mp c_57
                  refine lv_iload_n hx hb dX2_areAlike_60 rfl (lv_at hl 0 rfl) ?_
                  refine lv_bipush (v := nI 6) hx hb dX2_areAlike_61 (by decide) ?_
                  refine lv_icmp_ne (tgt := 70) hx hb dX2_areAlike_63 (by decide) (fun c_63 => ?_) (fun c_63 => ?_)
                  · have c_63 : ¬ (hi = 6) := fun q9 => c_63 ((nI_eq (a := hi) (b := 6) (by omega) (by omega)).mpr q9)
                    refine lv_iconst (v := nI 0) hx hb dX2_areAlike_70 (by decide) ?_
                    exact hret _ _ _ (u_ff (by rw [alk_iff hlo hhi]; omega)) dX2_areAlike_71
                  · have c_63 : hi = 6 := (nI_eq (a := hi) (b := 6) (by omega) (by omega)).mp c_63
                    refine lv_iconst (v := nI 1) hx hb dX2_areAlike_66 (by decide) ?_
                    refine lv_goto (tgt := 71) hx hb dX2_areAlike_67 (by decide) ?_
                    exact hret _ _ _ (u_tt (by rw [alk_iff hlo hhi]; omega)) dX2_areAlike_71
  · have c_13 : lo = 0 := (nI_eq (a := lo) (b := 0) (by omega) (by omega)).mp c_13
    refine lv_iload_n hx hb dX2_areAlike_16 rfl (lv_at hl 0 rfl) ?_
    refine lv_bipush (v := nI 6) hx hb dX2_areAlike_17 (by decide) ?_
    refine lv_icmp_eq (tgt := 66) hx hb dX2_areAlike_19 (by decide) (fun c_19 => ?_) (fun c_19 => ?_)
    · have c_19 : hi = 6 := (nI_eq (a := hi) (b := 6) (by omega) (by omega)).mp c_19
      refine lv_iconst (v := nI 1) hx hb dX2_areAlike_66 (by decide) ?_
      refine lv_goto (tgt := 71) hx hb dX2_areAlike_67 (by decide) ?_
      exact hret _ _ _ (u_tt (by rw [alk_iff hlo hhi]; omega)) dX2_areAlike_71
    · have c_19 : ¬ (hi = 6) := fun q9 => c_19 ((nI_eq (a := hi) (b := 6) (by omega) (by omega)).mpr q9)
      refine lv_iload_n hx hb dX2_areAlike_22 rfl (lv_at hl 1 rfl) ?_
      refine lv_iconst (v := nI 1) hx hb dX2_areAlike_23 (by decide) ?_
      refine lv_icmp_ne (tgt := 33) hx hb dX2_areAlike_24 (by decide) (fun c_24 => ?_) (fun c_24 => ?_)
      · have c_24 : ¬ (lo = 1) := fun q9 => c_24 ((nI_eq (a := lo) (b := 1) (by omega) (by omega)).mpr q9)
        refine lv_iload_n hx hb dX2_areAlike_33 rfl (lv_at hl 1 rfl) ?_
        refine lv_iconst (v := nI 3) hx hb dX2_areAlike_34 (by decide) ?_
        refine lv_icmp_ne (tgt := 44) hx hb dX2_areAlike_35 (by decide) (fun c_35 => ?_) (fun c_35 => ?_)
        · have c_35 : ¬ (lo = 3) := fun q9 => c_35 ((nI_eq (a := lo) (b := 3) (by omega) (by omega)).mpr q9)
          refine lv_iload_n hx hb dX2_areAlike_44 rfl (lv_at hl 1 rfl) ?_
          refine lv_iconst (v := nI 4) hx hb dX2_areAlike_45 (by decide) ?_
          refine lv_icmp_ne (tgt := 55) hx hb dX2_areAlike_46 (by decide) (fun c_46 => ?_) (fun c_46 => ?_)
          · have c_46 : ¬ (lo = 4) := fun q9 => c_46 ((nI_eq (a := lo) (b := 4) (by omega) (by omega)).mpr q9)
            refine lv_iload_n hx hb dX2_areAlike_55 rfl (lv_at hl 1 rfl) ?_
            refine lv_iconst (v := nI 5) hx hb dX2_areAlike_56 (by decide) ?_
            refine lv_icmp_ne (tgt := 70) hx hb dX2_areAlike_57 (by decide) (fun c_57 => ?_) (fun c_57 => ?_)
            · have c_57 : ¬ (lo = 5) := fun q9 => c_57 ((nI_eq (a := lo) (b := 5) (by omega) (by omega)).mpr q9)
              refine lv_iconst (v := nI 0) hx hb dX2_areAlike_70 (by decide) ?_
              exact hret _ _ _ (u_ff (by rw [alk_iff hlo hhi]; omega)) dX2_areAlike_71
            · have c_57 : lo = 5 := (nI_eq (a := lo) (b := 5) (by omega) (by omega)).mp c_57
              refine lv_iload_n hx hb dX2_areAlike_60 rfl (lv_at hl 0 rfl) ?_
              refine lv_bipush (v := nI 6) hx hb dX2_areAlike_61 (by decide) ?_
              refine lv_icmp_ne (tgt := 70) hx hb dX2_areAlike_63 (by decide) (fun c_63 => ?_) (fun c_63 => ?_)
              · have c_63 : ¬ (hi = 6) := fun q9 => c_63 ((nI_eq (a := hi) (b := 6) (by omega) (by omega)).mpr q9)
                refine lv_iconst (v := nI 0) hx hb dX2_areAlike_70 (by decide) ?_
                exact hret _ _ _ (u_ff (by rw [alk_iff hlo hhi]; omega)) dX2_areAlike_71
              · have c_63 : hi = 6 := (nI_eq (a := hi) (b := 6) (by omega) (by omega)).mp c_63
                refine lv_iconst (v := nI 1) hx hb dX2_areAlike_66 (by decide) ?_
                refine lv_goto (tgt := 71) hx hb dX2_areAlike_67 (by decide) ?_
                exact hret _ _ _ (u_tt (by rw [alk_iff hlo hhi]; omega)) dX2_areAlike_71
          · have c_46 : lo = 4 := (nI_eq (a := lo) (b := 4) (by omega) (by omega)).mp c_46
            refine lv_iload_n hx hb dX2_areAlike_49 rfl (lv_at hl 0 rfl) ?_
            refine lv_bipush (v := nI 9) hx hb dX2_areAlike_50 (by decide) ?_
            refine lv_icmp_eq (tgt := 66) hx hb dX2_areAlike_52 (by decide) (fun c_52 => ?_) (fun c_52 => ?_)
            · have c_52 : hi = 9 := (nI_eq (a := hi) (b := 9) (by omega) (by omega)).mp c_52
              refine lv_iconst (v := nI 1) hx hb dX2_areAlike_66 (by decide) ?_
              refine lv_goto (tgt := 71) hx hb dX2_areAlike_67 (by decide) ?_
              exact hret _ _ _ (u_tt (by rw [alk_iff hlo hhi]; omega)) dX2_areAlike_71
            · have c_52 : ¬ (hi = 9) := fun q9 => c_52 ((nI_eq (a := hi) (b := 9) (by omega) (by omega)).mpr q9)
              refine lv_iload_n hx hb dX2_areAlike_55 rfl (lv_at hl 1 rfl) ?_
              refine lv_iconst (v := nI 5) hx hb dX2_areAlike_56 (by decide) ?_
              refine lv_icmp_ne (tgt := 70) hx hb dX2_areAlike_57 (by decide) (fun c_57 => ?_) (fun c_57 => ?_)
              · have c_57 : ¬ (lo = 5) := fun q9 => c_57 ((nI_eq (a := lo) (b := 5) (by omega) (by omega)).mpr q9)
                refine lv_iconst (v := nI 0) hx hb dX2_areAlike_70 (by decide) ?_
                exact hret _ _ _ (u_ff (by rw [alk_iff hlo hhi]; omega)) dX2_areAlike_71
              · have c_57 : lo = 5 := (nI_eq (a := lo) (b := 5) (by omega) (by omega)).mp c_57
                refine lv_iload_n hx hb dX2_areAlike_60 rfl (lv_at hl 0 rfl) ?_
                refine lv_bipush (v := nI 6) hx hb dX2_areAlike_61 (by decide) ?_
                refine lv_icmp_ne (tgt := 70) hx hb dX2_areAlike_63 (by decide) (fun c_63 => ?_) (fun c_63 => ?_)
                · have c_63 : ¬ (hi = 6) := fun q9 => c_63 ((nI_eq (a := hi) (b := 6) (by omega) (by omega)).mpr q9)
                  refine lv_iconst (v := nI 0) hx hb dX2_areAlike_70 (by decide) ?_
                  exact hret _ _ _ (u_ff (by rw [alk_iff hlo hhi]; omega)) dX2_areAlike_71
                · have c_63 : hi = 6 := (nI_eq (a := hi) (b := 6) (by omega) (by omega)).mp c_63
                  refine lv_iconst (v := nI 1) hx hb dX2_areAlike_66 (by decide) ?_
                  refine lv_goto (tgt := 71) hx hb dX2_areAlike_67 (by decide) ?_
                  exact hret _ _ _ (u_tt (by rw [alk_iff hlo hhi]; omega)) dX2_areAlike_71
        · have c_35 : lo = 3 := (nI_eq (a := lo) (b := 3) (by omega) (by omega)).mp c_35
          refine lv_iload_n hx hb dX2_areAlike_38 rfl (lv_at hl 0 rfl) ?_
          refine lv_bipush (v := nI 8) hx hb dX2_areAlike_39 (by decide) ?_
          refine lv_icmp_eq (tgt := 66) hx hb dX2_areAlike_41 (by decide) (fun c_41 => ?_) (fun c_41 => ?_)
          · have c_41 : hi = 8 := (nI_eq (a := hi) (b := 8) (by omega) (by omega)).mp c_41
            refine lv_iconst (v := nI 1) hx hb dX2_areAlike_66 (by decide) ?_
            refine lv_goto (tgt := 71) hx hb dX2_areAlike_67 (by decide) ?_
            exact hret _ _ _ (u_tt (by rw [alk_iff hlo hhi]; omega)) dX2_areAlike_71
          · have c_41 : ¬ (hi = 8) := fun q9 => c_41 ((nI_eq (a := hi) (b := 8) (by omega) (by omega)).mpr q9)
            refine lv_iload_n hx hb dX2_areAlike_44 rfl (lv_at hl 1 rfl) ?_
            refine lv_iconst (v := nI 4) hx hb dX2_areAlike_45 (by decide) ?_
            refine lv_icmp_ne (tgt := 55) hx hb dX2_areAlike_46 (by decide) (fun c_46 => ?_) (fun c_46 => ?_)
            · have c_46 : ¬ (lo = 4) := fun q9 => c_46 ((nI_eq (a := lo) (b := 4) (by omega) (by omega)).mpr q9)
              refine lv_iload_n hx hb dX2_areAlike_55 rfl (lv_at hl 1 rfl) ?_
              refine lv_iconst (v := nI 5) hx hb dX2_areAlike_56 (by decide) ?_
              refine lv_icmp_ne (tgt := 70) hx hb dX2_areAlike_57 (by decide) (fun c_57 => ?_) (fun c_57 => ?_)
              · have c_57 : ¬ (lo = 5) := fun q9 => c_57 ((nI_eq (a := lo) (b := 5) (by omega) (by omega)).mpr q9)
                refine lv_iconst (v := nI 0) hx hb dX2_areAlike_70 (by decide) ?_
                exact hret _ _ _ (u_ff (by rw [alk_iff hlo hhi]; omega)) dX2_areAlike_71
              · have c_57 : lo = 5 := (nI_eq (a := lo) (b := 5) (by omega) (by omega)).mp c_57
                refine lv_iload_n hx hb dX2_areAlike_60 rfl (lv_at hl 0 rfl) ?_
                refine lv_bipush (v := nI 6) hx hb dX2_areAlike_61 (by decide) ?_
                refine lv_icmp_ne (tgt := 70) hx hb dX2_areAlike_63 (by decide) (fun c_63 => ?_) (fun c_63 => ?_)
                · have c_63 : ¬ (hi = 6) := fun q9 => c_63 ((nI_eq (a := hi) (b := 6) (by omega) (by omega)).mpr q9)
                  refine lv_iconst (v := nI 0) hx hb dX2_areAlike_70 (by decide) ?_
                  exact hret _ _ _ (u_ff (by rw [alk_iff hlo hhi]; omega)) dX2_areAlike_71
                · have c_63 : hi = 6 := (nI_eq (a := hi) (b := 6) (by omega) (by omega)).mp c_63
                  refine lv_iconst (v := nI 1) hx hb dX2_areAlike_66 (by decide) ?_
                  refine lv_goto (tgt := 71) hx hb dX2_areAlike_67 (by decide) ?_
                  exact hret _ _ _ (u_tt (by rw [alk_iff hlo hhi]; omega)) dX2_areAlike_71
            · have c_46 : lo = 4 := (nI_eq (a := lo) (b := 4) (by omega) (by omega)).mp c_46
              refine lv_iload_n hx hb dX2_areAlike_49 rfl (lv_at hl 0 rfl) ?_
              refine lv_bipush (v := nI 9) hx hb dX2_areAlike_50 (by decide) ?_
              refine lv_icmp_eq (tgt := 66) hx hb dX2_areAlike_52 (by decide) (fun c_52 => ?_) (fun c_52 => ?_)
              · have c_52 : hi = 9 := (nI_eq (a := hi) (b := 9) (by omega) (by omega)).mp c_52
                refine lv_iconst (v := nI 1) hx hb dX2_areAlike_66 (by decide) ?_
                refine lv_goto (tgt := 71) hx hb dX2_areAlike_67 (by decide) ?_
                exact hret _ _ _ (u_tt (by rw [alk_iff hlo hhi]; omega)) dX2_areAlike_71
              · have c_52 : ¬ (hi = 9) := fun q9 => c_52 ((nI_eq (a := hi) (b := 9) (by omega) (by omega)).mpr q9)
                refine lv_iload_n hx hb dX2_areAlike_55 rfl (lv_at hl 1 rfl) ?_
                refine lv_iconst (v := nI 5) hx hb dX2_areAlike_56 (by decide) ?_
                refine lv_icmp_ne (tgt := 70) hx hb dX2_areAlike_57 (by decide) (fun c_57 => ?_) (fun c_57 => ?_)
                · have c_57 : ¬ (lo = 5) := fun q9 => c_57 ((nI_eq (a := lo) (b := 5) (by omega) (by omega)).mpr q9)
                  refine lv_iconst (v := nI 0) hx hb dX2_areAlike_70 (by decide) ?_
                  exact hret _ _ _ (u_ff (by rw [alk_iff hlo hhi]; omega)) dX2_areAlike_71
                · have c_57 : lo = 5 := (nI_eq (a := lo) (b := 5) (by omega) (by omega)).mp c_57
                  refine lv_iload_n hx hb dX2_areAlike_60 rfl (lv_at hl 0 rfl) ?_
                  refine lv_bipush (v := nI 6) hx hb dX2_areAlike_61 (by decide) ?_
                  refine lv_icmp_ne (tgt := 70) hx hb dX2_areAlike_63 (by decide) (fun c_63 => ?_) (fun c_63 => ?_)
                  · have c_63 : ¬ (hi = 6) := fun q9 => c_63 ((nI_eq (a := hi) (b := 6) (by omega) (by omega)).mpr q9)
                    refine lv_iconst (v := nI 0) hx hb dX2_areAlike_70 (by decide) ?_
                    exact hret _ _ _ (u_ff (by rw [alk_iff hlo hhi]; omega)) dX2_areAlike_71
                  · have c_63 : hi = 6 := (nI_eq (a := hi) (b := 6) (by omega) (by omega)).mp c_63
                    refine lv_iconst (v := nI 1) hx hb dX2_areAlike_66 (by decide) ?_
                    refine lv_goto (tgt := 71) hx hb dX2_areAlike_67 (by decide) ?_
                    exact hret _ _ _ (u_tt (by rw [alk_iff hlo hhi]; omega)) dX2_areAlike_71
      · have c_24 : lo = 1 := (nI_eq (a := lo) (b := 1) (by omega) (by omega)).mp c_24
        refine lv_iload_n hx hb dX2_areAlike_27 rfl (lv_at hl 0 rfl) ?_
        refine lv_bipush (v := nI 7) hx hb dX2_areAlike_28 (by decide) ?_
        refine lv_icmp_eq (tgt := 66) hx hb dX2_areAlike_30 (by decide) (fun c_30 => ?_) (fun c_30 => ?_)
        · have c_30 : hi = 7 := (nI_eq (a := hi) (b := 7) (by omega) (by omega)).mp c_30
          refine lv_iconst (v := nI 1) hx hb dX2_areAlike_66 (by decide) ?_
          refine lv_goto (tgt := 71) hx hb dX2_areAlike_67 (by decide) ?_
          exact hret _ _ _ (u_tt (by rw [alk_iff hlo hhi]; omega)) dX2_areAlike_71
        · have c_30 : ¬ (hi = 7) := fun q9 => c_30 ((nI_eq (a := hi) (b := 7) (by omega) (by omega)).mpr q9)
          refine lv_iload_n hx hb dX2_areAlike_33 rfl (lv_at hl 1 rfl) ?_
          refine lv_iconst (v := nI 3) hx hb dX2_areAlike_34 (by decide) ?_
          refine lv_icmp_ne (tgt := 44) hx hb dX2_areAlike_35 (by decide) (fun c_35 => ?_) (fun c_35 => ?_)
          · have c_35 : ¬ (lo = 3) := fun q9 => c_35 ((nI_eq (a := lo) (b := 3) (by omega) (by omega)).mpr q9)
            refine lv_iload_n hx hb dX2_areAlike_44 rfl (lv_at hl 1 rfl) ?_
            refine lv_iconst (v := nI 4) hx hb dX2_areAlike_45 (by decide) ?_
            refine lv_icmp_ne (tgt := 55) hx hb dX2_areAlike_46 (by decide) (fun c_46 => ?_) (fun c_46 => ?_)
            · have c_46 : ¬ (lo = 4) := fun q9 => c_46 ((nI_eq (a := lo) (b := 4) (by omega) (by omega)).mpr q9)
              refine lv_iload_n hx hb dX2_areAlike_55 rfl (lv_at hl 1 rfl) ?_
              refine lv_iconst (v := nI 5) hx hb dX2_areAlike_56 (by decide) ?_
              refine lv_icmp_ne (tgt := 70) hx hb dX2_areAlike_57 (by decide) (fun c_57 => ?_) (fun c_57 => ?_)
              · have c_57 : ¬ (lo = 5) := fun q9 => c_57 ((nI_eq (a := lo) (b := 5) (by omega) (by omega)).mpr q9)
                refine lv_iconst (v := nI 0) hx hb dX2_areAlike_70 (by decide) ?_
                exact hret _ _ _ (u_ff (by rw [alk_iff hlo hhi]; omega)) dX2_areAlike_71
              · have c_57 : lo = 5 := (nI_eq (a := lo) (b := 5) (by omega) (by omega)).mp c_57
                refine lv_iload_n hx hb dX2_areAlike_60 rfl (lv_at hl 0 rfl) ?_
                refine lv_bipush (v := nI 6) hx hb dX2_areAlike_61 (by decide) ?_
                refine lv_icmp_ne (tgt := 70) hx hb dX2_areAlike_63 (by decide) (fun c_63 => ?_) (fun c_63 => ?_)
                · have c_63 : ¬ (hi = 6) := fun q9 => c_63 ((nI_eq (a := hi) (b := 6) (by omega) (by omega)).mpr q9)
                  refine lv_iconst (v := nI 0) hx hb dX2_areAlike_70 (by decide) ?_
                  exact hret _ _ _ (u_ff (by rw [alk_iff hlo hhi]; omega)) dX2_areAlike_71
                · have c_63 : hi = 6 := (nI_eq (a := hi) (b := 6) (by omega) (by omega)).mp c_63
                  refine lv_iconst (v := nI 1) hx hb dX2_areAlike_66 (by decide) ?_
                  refine lv_goto (tgt := 71) hx hb dX2_areAlike_67 (by decide) ?_
                  exact hret _ _ _ (u_tt (by rw [alk_iff hlo hhi]; omega)) dX2_areAlike_71
            · have c_46 : lo = 4 := (nI_eq (a := lo) (b := 4) (by omega) (by omega)).mp c_46
              refine lv_iload_n hx hb dX2_areAlike_49 rfl (lv_at hl 0 rfl) ?_
              refine lv_bipush (v := nI 9) hx hb dX2_areAlike_50 (by decide) ?_
              refine lv_icmp_eq (tgt := 66) hx hb dX2_areAlike_52 (by decide) (fun c_52 => ?_) (fun c_52 => ?_)
              · have c_52 : hi = 9 := (nI_eq (a := hi) (b := 9) (by omega) (by omega)).mp c_52
                refine lv_iconst (v := nI 1) hx hb dX2_areAlike_66 (by decide) ?_
                refine lv_goto (tgt := 71) hx hb dX2_areAlike_67 (by decide) ?_
                exact hret _ _ _ (u_tt (by rw [alk_iff hlo hhi]; omega)) dX2_areAlike_71
              · have c_52 : ¬ (hi = 9) := fun q9 => c_52 ((nI_eq (a := hi) (b := 9) (by omega) (by omega)).mpr q9)
                refine lv_iload_n hx hb dX2_areAlike_55 rfl (lv_at hl 1 rfl) ?_
                refine lv_iconst (v := nI 5) hx hb dX2_areAlike_56 (by decide) ?_
                refine lv_icmp_ne (tgt := 70) hx hb dX2_areAlike_57 (by decide) (fun c_57 => ?_) (fun c_57 => ?_)
                · have c_57 : ¬ (lo = 5) := fun q9 => c_57 ((nI_eq (a := lo) (b := 5) (by omega) (by omega)).mpr q9)
                  refine lv_iconst (v := nI 0) hx hb dX2_areAlike_70 (by decide) ?_
                  exact hret _ _ _ (u_ff (by rw [alk_iff hlo hhi]; omega)) dX2_areAlike_71
                · have c_57 : lo = 5 := (nI_eq (a := lo) (b := 5) (by omega) (by omega)).mp c_57
                  refine lv_iload_n hx hb dX2_areAlike_60 rfl (lv_at hl 0 rfl) ?_
                  refine lv_bipush (v := nI 6) hx hb dX2_areAlike_61 (by decide) ?_
                  refine lv_icmp_ne (tgt := 70) hx hb dX2_areAlike_63 (by decide) (fun c_63 => ?_) (fun c_63 => ?_)
                  · have c_63 : ¬ (hi = 6) := fun q9 => c_63 ((nI_eq (a := hi) (b := 6) (by omega) (by omega)).mpr q9)
                    refine lv_iconst (v := nI 0) hx hb dX2_areAlike_70 (by decide) ?_
                    exact hret _ _ _ (u_ff (by rw [alk_iff hlo hhi]; omega)) dX2_areAlike_71
                  · have c_63 : hi = 6 := (nI_eq (a := hi) (b := 6) (by omega) (by omega)).mp c_63
                    refine lv_iconst (v := nI 1) hx hb dX2_areAlike_66 (by decide) ?_
                    refine lv_goto (tgt := 71) hx hb dX2_areAlike_67 (by decide) ?_
                    exact hret _ _ _ (u_tt (by rw [alk_iff hlo hhi]; omega)) dX2_areAlike_71
          · have c_35 : lo = 3 := (nI_eq (a := lo) (b := 3) (by omega) (by omega)).mp c_35
            refine lv_iload_n hx hb dX2_areAlike_38 rfl (lv_at hl 0 rfl) ?_
            refine lv_bipush (v := nI 8) hx hb dX2_areAlike_39 (by decide) ?_
            refine lv_icmp_eq (tgt := 66) hx hb dX2_areAlike_41 (by decide) (fun c_41 => ?_) (fun c_41 => ?_)
            · have c_41 : hi = 8 := (nI_eq (a := hi) (b := 8) (by omega) (by omega)).mp c_41
              refine lv_iconst (v := nI 1) hx hb dX2_areAlike_66 (by decide) ?_
              refine lv_goto (tgt := 71) hx hb dX2_areAlike_67 (by decide) ?_
              exact hret _ _ _ (u_tt (by rw [alk_iff hlo hhi]; omega)) dX2_areAlike_71
            · have c_41 : ¬ (hi = 8) := fun q9 => c_41 ((nI_eq (a := hi) (b := 8) (by omega) (by omega)).mpr q9)
              refine lv_iload_n hx hb dX2_areAlike_44 rfl (lv_at hl 1 rfl) ?_
              refine lv_iconst (v := nI 4) hx hb dX2_areAlike_45 (by decide) ?_
              refine lv_icmp_ne (tgt := 55) hx hb dX2_areAlike_46 (by decide) (fun c_46 => ?_) (fun c_46 => ?_)
              · have c_46 : ¬ (lo = 4) := fun q9 => c_46 ((nI_eq (a := lo) (b := 4) (by omega) (by omega)).mpr q9)
                refine lv_iload_n hx hb dX2_areAlike_55 rfl (lv_at hl 1 rfl) ?_
                refine lv_iconst (v := nI 5) hx hb dX2_areAlike_56 (by decide) ?_
                refine lv_icmp_ne (tgt := 70) hx hb dX2_areAlike_57 (by decide) (fun c_57 => ?_) (fun c_57 => ?_)
                · have c_57 : ¬ (lo = 5) := fun q9 => c_57 ((nI_eq (a := lo) (b := 5) (by omega) (by omega)).mpr q9)
                  refine lv_iconst (v := nI 0) hx hb dX2_areAlike_70 (by decide) ?_
                  exact hret _ _ _ (u_ff (by rw [alk_iff hlo hhi]; omega)) dX2_areAlike_71
                · have c_57 : lo = 5 := (nI_eq (a := lo) (b := 5) (by omega) (by omega)).mp c_57
                  refine lv_iload_n hx hb dX2_areAlike_60 rfl (lv_at hl 0 rfl) ?_
                  refine lv_bipush (v := nI 6) hx hb dX2_areAlike_61 (by decide) ?_
                  refine lv_icmp_ne (tgt := 70) hx hb dX2_areAlike_63 (by decide) (fun c_63 => ?_) (fun c_63 => ?_)
                  · have c_63 : ¬ (hi = 6) := fun q9 => c_63 ((nI_eq (a := hi) (b := 6) (by omega) (by omega)).mpr q9)
                    refine lv_iconst (v := nI 0) hx hb dX2_areAlike_70 (by decide) ?_
                    exact hret _ _ _ (u_ff (by rw [alk_iff hlo hhi]; omega)) dX2_areAlike_71
                  · have c_63 : hi = 6 := (nI_eq (a := hi) (b := 6) (by omega) (by omega)).mp c_63
                    refine lv_iconst (v := nI 1) hx hb dX2_areAlike_66 (by decide) ?_
                    refine lv_goto (tgt := 71) hx hb dX2_areAlike_67 (by decide) ?_
                    exact hret _ _ _ (u_tt (by rw [alk_iff hlo hhi]; omega)) dX2_areAlike_71
              · have c_46 : lo = 4 := (nI_eq (a := lo) (b := 4) (by omega) (by omega)).mp c_46
                refine lv_iload_n hx hb dX2_areAlike_49 rfl (lv_at hl 0 rfl) ?_
                refine lv_bipush (v := nI 9) hx hb dX2_areAlike_50 (by decide) ?_
                refine lv_icmp_eq (tgt := 66) hx hb dX2_areAlike_52 (by decide) (fun c_52 => ?_) (fun c_52 => ?_)
                · have c_52 : hi = 9 := (nI_eq (a := hi) (b := 9) (by omega) (by omega)).mp c_52
                  refine lv_iconst (v := nI 1) hx hb dX2_areAlike_66 (by decide) ?_
                  refine lv_goto (tgt := 71) hx hb dX2_areAlike_67 (by decide) ?_
                  exact hret _ _ _ (u_tt (by rw [alk_iff hlo hhi]; omega)) dX2_areAlike_71
                · have c_52 : ¬ (hi = 9) := fun q9 => c_52 ((nI_eq (a := hi) (b := 9) (by omega) (by omega)).mpr q9)
                  refine lv_iload_n hx hb dX2_areAlike_55 rfl (lv_at hl 1 rfl) ?_
                  refine lv_iconst (v := nI 5) hx hb dX2_areAlike_56 (by decide) ?_
                  refine lv_icmp_ne (tgt := 70) hx hb dX2_areAlike_57 (by decide) (fun c_57 => ?_) (fun c_57 => ?_)
                  · have c_57 : ¬ (lo = 5) := fun q9 => c_57 ((nI_eq (a := lo) (b := 5) (by omega) (by omega)).mpr q9)
                    refine lv_iconst (v := nI 0) hx hb dX2_areAlike_70 (by decide) ?_
                    exact hret _ _ _ (u_ff (by rw [alk_iff hlo hhi]; omega)) dX2_areAlike_71
                  · have c_57 : lo = 5 := (nI_eq (a := lo) (b := 5) (by omega) (by omega)).mp c_57
                    refine lv_iload_n hx hb dX2_areAlike_60 rfl (lv_at hl 0 rfl) ?_
                    refine lv_bipush (v := nI 6) hx hb dX2_areAlike_61 (by decide) ?_
                    refine lv_icmp_ne (tgt := 70) hx hb dX2_areAlike_63 (by decide) (fun c_63 => ?_) (fun c_63 => ?_)
                    · have c_63 : ¬ (hi = 6) := fun q9 => c_63 ((nI_eq (a := hi) (b := 6) (by omega) (by omega)).mpr q9)
                      refine lv_iconst (v := nI 0) hx hb dX2_areAlike_70 (by decide) ?_
                      exact hret _ _ _ (u_ff (by rw [alk_iff hlo hhi]; omega)) dX2_areAlike_71
                    · have c_63 : hi = 6 := (nI_eq (a := hi) (b := 6) (by omega) (by omega)).mp c_63
                      refine lv_iconst (v := nI 1) hx hb dX2_areAlike_66 (by decide) ?_
                      refine lv_goto (tgt := 71) hx hb dX2_areAlike_67 (by decide) ?_
                      exact hret _ _ _ (u_tt (by rw [alk_iff hlo hhi]; omega)) dX2_areAlike_71
theorem k_X2_areAlike {b1 : Nat} {b2 : Nat} (h1 : b1 < 10) (h2 : b2 < 10) (SF : CallFix p m c cc nL s args lw_all RX2) (hK : KK dC dI dA s) (rk : rmOK 2 R) (hsz : ls.size = nL) (hcat : (rest.map fun v => v.category).sum ≤ 8) (hdg : decode cc pc = .ok (.invokestatic 70, 3)) (k : W p l e R s m args below meth c H locs 0 0 Q (F0 m (pc + 3) ls (.int (nI (alk b1 b2).toNat) :: rest))) : W p l e R s m args below meth c H locs 0 0 Q (F0 m pc ls (.int (nI b2) :: .int (nI b1) :: rest)) :=
  u_run (u_rS (Ψ := (fun _ => True)) (As := [.int (nI b1), .int (nI b2)]) SF hK rk (c_X2_areAlike l dC dI dA b1 b2 h1 h2) (lw_S q2205 q2206 q117 q2207) (n := 2) (by decide +kernel) rfl (by decide) trivial hsz hcat ⟨Nat.zero_le _, Nat.zero_le _⟩ rfl hdg) k

set_option maxHeartbeats 4000000 in
theorem c_X2_costOf (l : Launch) (dC : Nat → ClassId) (dI : Nat → Nat → Nat) (dA : Nat → ClassId) (r : Int32) (dd : Nat) (hr : rdOK r) (h2 : dd < 10) : Met l yX2_costOf (ws_ yX2_costOf cX2_costOf 2 (some .int)) (rmD 2 0 0) (uPc [.int r, .int (nI dd)] (fun _ => True) dC dI dA) (uQi (nI (cst r dd))) 0 0 noF := by
  refine u_meti (own := RX2) (by decide) rfl (Nat.le_of_ble_eq_true rfl) fun p e R s m args below meth c Q SF rk hP hK hret ls hl => ?_
  have hx := SF.1
  have hb := SF.2.1
  have hml := SF.2.2.1
  have hown := SF.2.2.2.1
  have hts := SF.2.2.2.2
  have hl : lv_has ls 2 [(0, .int r), (1, .int (nI dd))] := hl
  rcases hr with rfl | ⟨k, hk, rfl⟩
  · refine lv_iload_n hx hb dX2_costOf_0 rfl (lv_at hl 0 rfl) ?_
    refine lv_iload_n hx hb dX2_costOf_1 rfl (lv_at hl 1 rfl) ?_
    refine lv_icmp_ne (tgt := 9) hx hb dX2_costOf_2 (by decide) (fun c_2 => ?_) (fun c_2 => absurd c_2 (nI_m1' (by omega)))
    refine lv_iload_n hx hb dX2_costOf_9 rfl (lv_at hl 0 rfl) ?_
    refine lv_iconst (v := (-1)) hx hb dX2_costOf_10 (by decide) ?_
    refine lv_icmp_eq (tgt := 22) hx hb dX2_costOf_11 (by decide) (fun c_11 => ?_) (fun c_11 => absurd (by decide) c_11)
    refine lv_iconst (v := nI 1) hx hb dX2_costOf_22 (by decide) ?_
    refine lv_goto (tgt := 27) hx hb dX2_costOf_23 (by decide) ?_
    exact hret _ _ _ (by simp_all [cst]) dX2_costOf_27
  · have hkc : (nI k).toNatClampNeg = k := nI_clamp (by omega)
    refine lv_iload_n hx hb dX2_costOf_0 rfl (lv_at hl 0 rfl) ?_
    refine lv_iload_n hx hb dX2_costOf_1 rfl (lv_at hl 1 rfl) ?_
    refine lv_icmp_ne (tgt := 9) hx hb dX2_costOf_2 (by decide) (fun c_2 => ?_) (fun c_2 => ?_)
    · have c_2 : ¬ (k = dd) := fun q9 => c_2 ((nI_eq (a := k) (b := dd) (by omega) (by omega)).mpr q9)
      refine lv_iload_n hx hb dX2_costOf_9 rfl (lv_at hl 0 rfl) ?_
      refine lv_iconst (v := (-1)) hx hb dX2_costOf_10 (by decide) ?_
      refine lv_icmp_eq (tgt := 22) hx hb dX2_costOf_11 (by decide) (fun c_11 => absurd c_11 (nI_m1 (by omega))) (fun c_11 => ?_)
      refine lv_iload_n hx hb dX2_costOf_14 rfl (lv_at hl 0 rfl) ?_
      refine lv_iload_n hx hb dX2_costOf_15 rfl (lv_at hl 1 rfl) ?_
      refine k_X2_areAlike  hk h2 SF hK (rk.le (Nat.le_of_ble_eq_true rfl)) hl.1 (Nat.le_of_ble_eq_true rfl) dX2_costOf_16 ?_
      refine lv_if_eq (tgt := 26) hx hb dX2_costOf_19 (by decide) (fun c_19 => ?_) (fun c_19 => ?_)
      · have c_19 : (alk k dd) = false := u_zb.mp c_19
        refine lv_iconst (v := nI 2) hx hb dX2_costOf_26 (by decide) ?_
        exact hret _ _ _ (by simp_all [cst]) dX2_costOf_27
      · have c_19 : ¬ ((alk k dd) = false) := fun q9 => c_19 (u_zb.mpr q9)
        refine lv_iconst (v := nI 1) hx hb dX2_costOf_22 (by decide) ?_
        refine lv_goto (tgt := 27) hx hb dX2_costOf_23 (by decide) ?_
        exact hret _ _ _ (by simp_all [cst]) dX2_costOf_27
    · have c_2 : k = dd := (nI_eq (a := k) (b := dd) (by omega) (by omega)).mp c_2
      refine lv_iconst (v := nI 0) hx hb dX2_costOf_5 (by decide) ?_
      refine lv_goto (tgt := 27) hx hb dX2_costOf_6 (by decide) ?_
      exact hret _ _ _ (by simp_all [cst]) dX2_costOf_27
theorem k_X2_costOf {r : Int32} {dd : Nat} (hr : rdOK r) (h2 : dd < 10) (SF : CallFix p m c cc nL s args lw_all RX2) (hK : KK dC dI dA s) (rk : rmOK 3 R) (hsz : ls.size = nL) (hcat : (rest.map fun v => v.category).sum ≤ 8) (hdg : decode cc pc = .ok (.invokestatic 77, 3)) (k : W p l e R s m args below meth c H locs 0 0 Q (F0 m (pc + 3) ls (.int (nI (cst r dd)) :: rest))) : W p l e R s m args below meth c H locs 0 0 Q (F0 m pc ls (.int (nI dd) :: .int r :: rest)) :=
  u_run (u_rS (Ψ := (fun _ => True)) (As := [.int r, .int (nI dd)]) SF hK rk (c_X2_costOf l dC dI dA r dd hr h2) (lw_S q2202 q2203 q117 q2204) (n := 2) (by decide +kernel) rfl (by decide) trivial hsz hcat ⟨Nat.zero_le _, Nat.zero_le _⟩ rfl hdg) k

set_option maxHeartbeats 4000000 in
theorem c_X2_far (l : Launch) (dC : Nat → ClassId) (dI : Nat → Nat → Nat) (dA : Nat → ClassId) (a : Nat → Nat) (M : Nat → Nat → Int32) (lt : Nat) (x : Nat) (h1 : lt < 24) (h2 : x < 100000) (hr : ∀ p, p < 5 → rdOK (lr (M 2) lt p)) : Met l yX2_far (ws_ yX2_far cX2_far 6 (some .int)) (rmD 3 0 0) (uPc [.ref (a 0), .int (nI lt), .int (nI x)] (mP dC dI dA a M) dC dI dA) (uQi (nI (far (lr (M 2) lt) x))) 0 0 noF := by
  refine u_meti (own := RX2) (by decide) rfl (Nat.le_of_ble_eq_true rfl) fun p e R s m args below meth c Q SF rk hP hK hret ls hl => ?_
  have hx := SF.1
  have hb := SF.2.1
  have hml := SF.2.2.1
  have hown := SF.2.2.2.1
  have hts := SF.2.2.2.2
  have hl : lv_has ls 6 [(0, .ref (a 0)), (1, .int (nI lt)), (2, .int (nI x))] := hl
  refine lv_iconst (v := nI 0) hx hb dX2_far_0 (by decide) ?_
  refine lv_istore_n (lv' := [(3, .int (nI 0)), (0, .ref (a 0)), (1, .int (nI lt)), (2, .int (nI x))]) hx hb dX2_far_1 rfl hl (by decide) rfl (fun ls hl => ?_)
  refine lv_iload_n hx hb dX2_far_2 rfl (lv_at hl 3 rfl) ?_
  refine lv_istore (lv' := [(4, .int (nI x)), (3, .int (nI 0)), (0, .ref (a 0)), (1, .int (nI lt)), (2, .int (nI x))]) hx hb dX2_far_3 hl (by decide) rfl (fun ls hl => ?_)
  refine lv_iconst (v := nI 4) hx hb dX2_far_5 (by decide) ?_
  refine lv_istore (lv' := [(5, .int (nI 4)), (4, .int (nI x)), (3, .int (nI 0)), (0, .ref (a 0)), (1, .int (nI lt)), (2, .int (nI x))]) hx hb dX2_far_6 hl (by decide) rfl (fun ls hl => ?_)
  refine lv_iload hx hb dX2_far_8 (lv_at hl 0 rfl) ?_
  refine lv_if_lt (tgt := 44) hx hb dX2_far_10 (by decide) (fun c_10 => absurd c_10 (by decide)) (fun c_10 => ?_)
  refine lv_iload_n hx hb dX2_far_13 rfl (lv_at hl 2 rfl) ?_
  refine lv_aload_n hx hb dX2_far_14 rfl (lv_at hl 3 rfl) ?_
  refine lv_iload_n hx hb dX2_far_15 rfl (lv_at hl 4 rfl) ?_
  refine lv_iload hx hb dX2_far_16 (lv_at hl 0 rfl) ?_
  refine k_X2_l  (by omega) (by omega) SF hK (rk.le (Nat.le_of_ble_eq_true rfl)) hl.1 (Nat.le_of_ble_eq_true rfl) hP dX2_far_18 ?_
  refine lv_iload hx hb dX2_far_21 (lv_at hl 1 rfl) ?_
  refine lv_bipush (v := nI 10) hx hb dX2_far_23 (by decide) ?_
  refine lv_irem hx hb dX2_far_25 (by decide) ?_
  refine u_top (pk_rem (by omega) (by omega) (by omega)) ?_
  refine k_X2_costOf  (hr 4 (by decide)) (by omega) SF hK (rk.le (Nat.le_of_ble_eq_true rfl)) hl.1 (Nat.le_of_ble_eq_true rfl) dX2_far_26 ?_
  refine lv_iadd hx hb dX2_far_29 ?_
  refine u_top (nI_add _ _) ?_
  refine lv_istore_n (lv' := [(3, .int (nI (0 + (cst (lr (M 2) lt 4) (x % 10))))), (5, .int (nI 4)), (4, .int (nI x)), (0, .ref (a 0)), (1, .int (nI lt)), (2, .int (nI x))]) hx hb dX2_far_30 rfl hl (by decide) rfl (fun ls hl => ?_)
  refine lv_iload hx hb dX2_far_31 (lv_at hl 2 rfl) ?_
  refine lv_bipush (v := nI 10) hx hb dX2_far_33 (by decide) ?_
  refine lv_idiv hx hb dX2_far_35 (by decide) ?_
  refine u_top (pk_div (by omega) (by omega) (by omega)) ?_
  refine lv_istore (lv' := [(4, .int (nI (x / 10))), (3, .int (nI (0 + (cst (lr (M 2) lt 4) (x % 10))))), (5, .int (nI 4)), (0, .ref (a 0)), (1, .int (nI lt)), (2, .int (nI x))]) hx hb dX2_far_36 hl (by decide) rfl (fun ls hl => ?_)
  refine lv_iinc (v := nI 3) (lv' := [(5, .int (nI 3)), (4, .int (nI (x / 10))), (3, .int (nI (0 + (cst (lr (M 2) lt 4) (x % 10))))), (0, .ref (a 0)), (1, .int (nI lt)), (2, .int (nI x))]) hx hb dX2_far_38 hl (k := 2) rfl (by decide) (by decide) rfl (fun ls hl => ?_)
  refine lv_goto (tgt := 8) hx hb dX2_far_41 (by decide) ?_
  refine lv_iload hx hb dX2_far_8 (lv_at hl 0 rfl) ?_
  refine lv_if_lt (tgt := 44) hx hb dX2_far_10 (by decide) (fun c_10 => absurd c_10 (by decide)) (fun c_10 => ?_)
  refine lv_iload_n hx hb dX2_far_13 rfl (lv_at hl 2 rfl) ?_
  refine lv_aload_n hx hb dX2_far_14 rfl (lv_at hl 3 rfl) ?_
  refine lv_iload_n hx hb dX2_far_15 rfl (lv_at hl 4 rfl) ?_
  refine lv_iload hx hb dX2_far_16 (lv_at hl 0 rfl) ?_
  refine k_X2_l  (by omega) (by omega) SF hK (rk.le (Nat.le_of_ble_eq_true rfl)) hl.1 (Nat.le_of_ble_eq_true rfl) hP dX2_far_18 ?_
  refine lv_iload hx hb dX2_far_21 (lv_at hl 1 rfl) ?_
  refine lv_bipush (v := nI 10) hx hb dX2_far_23 (by decide) ?_
  refine lv_irem hx hb dX2_far_25 (by decide) ?_
  refine u_top (pk_rem (by omega) (by omega) (by omega)) ?_
  refine k_X2_costOf  (hr 3 (by decide)) (by omega) SF hK (rk.le (Nat.le_of_ble_eq_true rfl)) hl.1 (Nat.le_of_ble_eq_true rfl) dX2_far_26 ?_
  refine lv_iadd hx hb dX2_far_29 ?_
  refine u_top (nI_add _ _) ?_
  refine lv_istore_n (lv' := [(3, .int (nI (0 + (cst (lr (M 2) lt 4) (x % 10)) + (cst (lr (M 2) lt 3) ((x / 10) % 10))))), (5, .int (nI 3)), (4, .int (nI (x / 10))), (0, .ref (a 0)), (1, .int (nI lt)), (2, .int (nI x))]) hx hb dX2_far_30 rfl hl (by decide) rfl (fun ls hl => ?_)
  refine lv_iload hx hb dX2_far_31 (lv_at hl 2 rfl) ?_
  refine lv_bipush (v := nI 10) hx hb dX2_far_33 (by decide) ?_
  refine lv_idiv hx hb dX2_far_35 (by decide) ?_
  refine u_top (pk_div (by omega) (by omega) (by omega)) ?_
  refine lv_istore (lv' := [(4, .int (nI ((x / 10) / 10))), (3, .int (nI (0 + (cst (lr (M 2) lt 4) (x % 10)) + (cst (lr (M 2) lt 3) ((x / 10) % 10))))), (5, .int (nI 3)), (0, .ref (a 0)), (1, .int (nI lt)), (2, .int (nI x))]) hx hb dX2_far_36 hl (by decide) rfl (fun ls hl => ?_)
  refine lv_iinc (v := nI 2) (lv' := [(5, .int (nI 2)), (4, .int (nI ((x / 10) / 10))), (3, .int (nI (0 + (cst (lr (M 2) lt 4) (x % 10)) + (cst (lr (M 2) lt 3) ((x / 10) % 10))))), (0, .ref (a 0)), (1, .int (nI lt)), (2, .int (nI x))]) hx hb dX2_far_38 hl (k := 2) rfl (by decide) (by decide) rfl (fun ls hl => ?_)
  refine lv_goto (tgt := 8) hx hb dX2_far_41 (by decide) ?_
  refine lv_iload hx hb dX2_far_8 (lv_at hl 0 rfl) ?_
  refine lv_if_lt (tgt := 44) hx hb dX2_far_10 (by decide) (fun c_10 => absurd c_10 (by decide)) (fun c_10 => ?_)
  refine lv_iload_n hx hb dX2_far_13 rfl (lv_at hl 2 rfl) ?_
  refine lv_aload_n hx hb dX2_far_14 rfl (lv_at hl 3 rfl) ?_
  refine lv_iload_n hx hb dX2_far_15 rfl (lv_at hl 4 rfl) ?_
  refine lv_iload hx hb dX2_far_16 (lv_at hl 0 rfl) ?_
  refine k_X2_l  (by omega) (by omega) SF hK (rk.le (Nat.le_of_ble_eq_true rfl)) hl.1 (Nat.le_of_ble_eq_true rfl) hP dX2_far_18 ?_
  refine lv_iload hx hb dX2_far_21 (lv_at hl 1 rfl) ?_
  refine lv_bipush (v := nI 10) hx hb dX2_far_23 (by decide) ?_
  refine lv_irem hx hb dX2_far_25 (by decide) ?_
  refine u_top (pk_rem (by omega) (by omega) (by omega)) ?_
  refine k_X2_costOf  (hr 2 (by decide)) (by omega) SF hK (rk.le (Nat.le_of_ble_eq_true rfl)) hl.1 (Nat.le_of_ble_eq_true rfl) dX2_far_26 ?_
  refine lv_iadd hx hb dX2_far_29 ?_
  refine u_top (nI_add _ _) ?_
  refine lv_istore_n (lv' := [(3, .int (nI (0 + (cst (lr (M 2) lt 4) (x % 10)) + (cst (lr (M 2) lt 3) ((x / 10) % 10)) + (cst (lr (M 2) lt 2) (((x / 10) / 10) % 10))))), (5, .int (nI 2)), (4, .int (nI ((x / 10) / 10))), (0, .ref (a 0)), (1, .int (nI lt)), (2, .int (nI x))]) hx hb dX2_far_30 rfl hl (by decide) rfl (fun ls hl => ?_)
  refine lv_iload hx hb dX2_far_31 (lv_at hl 2 rfl) ?_
  refine lv_bipush (v := nI 10) hx hb dX2_far_33 (by decide) ?_
  refine lv_idiv hx hb dX2_far_35 (by decide) ?_
  refine u_top (pk_div (by omega) (by omega) (by omega)) ?_
  refine lv_istore (lv' := [(4, .int (nI (((x / 10) / 10) / 10))), (3, .int (nI (0 + (cst (lr (M 2) lt 4) (x % 10)) + (cst (lr (M 2) lt 3) ((x / 10) % 10)) + (cst (lr (M 2) lt 2) (((x / 10) / 10) % 10))))), (5, .int (nI 2)), (0, .ref (a 0)), (1, .int (nI lt)), (2, .int (nI x))]) hx hb dX2_far_36 hl (by decide) rfl (fun ls hl => ?_)
  refine lv_iinc (v := nI 1) (lv' := [(5, .int (nI 1)), (4, .int (nI (((x / 10) / 10) / 10))), (3, .int (nI (0 + (cst (lr (M 2) lt 4) (x % 10)) + (cst (lr (M 2) lt 3) ((x / 10) % 10)) + (cst (lr (M 2) lt 2) (((x / 10) / 10) % 10))))), (0, .ref (a 0)), (1, .int (nI lt)), (2, .int (nI x))]) hx hb dX2_far_38 hl (k := 2) rfl (by decide) (by decide) rfl (fun ls hl => ?_)
  refine lv_goto (tgt := 8) hx hb dX2_far_41 (by decide) ?_
  refine lv_iload hx hb dX2_far_8 (lv_at hl 0 rfl) ?_
  refine lv_if_lt (tgt := 44) hx hb dX2_far_10 (by decide) (fun c_10 => absurd c_10 (by decide)) (fun c_10 => ?_)
  refine lv_iload_n hx hb dX2_far_13 rfl (lv_at hl 2 rfl) ?_
  refine lv_aload_n hx hb dX2_far_14 rfl (lv_at hl 3 rfl) ?_
  refine lv_iload_n hx hb dX2_far_15 rfl (lv_at hl 4 rfl) ?_
  refine lv_iload hx hb dX2_far_16 (lv_at hl 0 rfl) ?_
  refine k_X2_l  (by omega) (by omega) SF hK (rk.le (Nat.le_of_ble_eq_true rfl)) hl.1 (Nat.le_of_ble_eq_true rfl) hP dX2_far_18 ?_
  refine lv_iload hx hb dX2_far_21 (lv_at hl 1 rfl) ?_
  refine lv_bipush (v := nI 10) hx hb dX2_far_23 (by decide) ?_
  refine lv_irem hx hb dX2_far_25 (by decide) ?_
  refine u_top (pk_rem (by omega) (by omega) (by omega)) ?_
  refine k_X2_costOf  (hr 1 (by decide)) (by omega) SF hK (rk.le (Nat.le_of_ble_eq_true rfl)) hl.1 (Nat.le_of_ble_eq_true rfl) dX2_far_26 ?_
  refine lv_iadd hx hb dX2_far_29 ?_
  refine u_top (nI_add _ _) ?_
  refine lv_istore_n (lv' := [(3, .int (nI (0 + (cst (lr (M 2) lt 4) (x % 10)) + (cst (lr (M 2) lt 3) ((x / 10) % 10)) + (cst (lr (M 2) lt 2) (((x / 10) / 10) % 10)) + (cst (lr (M 2) lt 1) ((((x / 10) / 10) / 10) % 10))))), (5, .int (nI 1)), (4, .int (nI (((x / 10) / 10) / 10))), (0, .ref (a 0)), (1, .int (nI lt)), (2, .int (nI x))]) hx hb dX2_far_30 rfl hl (by decide) rfl (fun ls hl => ?_)
  refine lv_iload hx hb dX2_far_31 (lv_at hl 2 rfl) ?_
  refine lv_bipush (v := nI 10) hx hb dX2_far_33 (by decide) ?_
  refine lv_idiv hx hb dX2_far_35 (by decide) ?_
  refine u_top (pk_div (by omega) (by omega) (by omega)) ?_
  refine lv_istore (lv' := [(4, .int (nI ((((x / 10) / 10) / 10) / 10))), (3, .int (nI (0 + (cst (lr (M 2) lt 4) (x % 10)) + (cst (lr (M 2) lt 3) ((x / 10) % 10)) + (cst (lr (M 2) lt 2) (((x / 10) / 10) % 10)) + (cst (lr (M 2) lt 1) ((((x / 10) / 10) / 10) % 10))))), (5, .int (nI 1)), (0, .ref (a 0)), (1, .int (nI lt)), (2, .int (nI x))]) hx hb dX2_far_36 hl (by decide) rfl (fun ls hl => ?_)
  refine lv_iinc (v := nI 0) (lv' := [(5, .int (nI 0)), (4, .int (nI ((((x / 10) / 10) / 10) / 10))), (3, .int (nI (0 + (cst (lr (M 2) lt 4) (x % 10)) + (cst (lr (M 2) lt 3) ((x / 10) % 10)) + (cst (lr (M 2) lt 2) (((x / 10) / 10) % 10)) + (cst (lr (M 2) lt 1) ((((x / 10) / 10) / 10) % 10))))), (0, .ref (a 0)), (1, .int (nI lt)), (2, .int (nI x))]) hx hb dX2_far_38 hl (k := 2) rfl (by decide) (by decide) rfl (fun ls hl => ?_)
  refine lv_goto (tgt := 8) hx hb dX2_far_41 (by decide) ?_
  refine lv_iload hx hb dX2_far_8 (lv_at hl 0 rfl) ?_
  refine lv_if_lt (tgt := 44) hx hb dX2_far_10 (by decide) (fun c_10 => absurd c_10 (by decide)) (fun c_10 => ?_)
  refine lv_iload_n hx hb dX2_far_13 rfl (lv_at hl 2 rfl) ?_
  refine lv_aload_n hx hb dX2_far_14 rfl (lv_at hl 3 rfl) ?_
  refine lv_iload_n hx hb dX2_far_15 rfl (lv_at hl 4 rfl) ?_
  refine lv_iload hx hb dX2_far_16 (lv_at hl 0 rfl) ?_
  refine k_X2_l  (by omega) (by omega) SF hK (rk.le (Nat.le_of_ble_eq_true rfl)) hl.1 (Nat.le_of_ble_eq_true rfl) hP dX2_far_18 ?_
  refine lv_iload hx hb dX2_far_21 (lv_at hl 1 rfl) ?_
  refine lv_bipush (v := nI 10) hx hb dX2_far_23 (by decide) ?_
  refine lv_irem hx hb dX2_far_25 (by decide) ?_
  refine u_top (pk_rem (by omega) (by omega) (by omega)) ?_
  refine k_X2_costOf  (hr 0 (by decide)) (by omega) SF hK (rk.le (Nat.le_of_ble_eq_true rfl)) hl.1 (Nat.le_of_ble_eq_true rfl) dX2_far_26 ?_
  refine lv_iadd hx hb dX2_far_29 ?_
  refine u_top (nI_add _ _) ?_
  refine lv_istore_n (lv' := [(3, .int (nI (0 + (cst (lr (M 2) lt 4) (x % 10)) + (cst (lr (M 2) lt 3) ((x / 10) % 10)) + (cst (lr (M 2) lt 2) (((x / 10) / 10) % 10)) + (cst (lr (M 2) lt 1) ((((x / 10) / 10) / 10) % 10)) + (cst (lr (M 2) lt 0) (((((x / 10) / 10) / 10) / 10) % 10))))), (5, .int (nI 0)), (4, .int (nI ((((x / 10) / 10) / 10) / 10))), (0, .ref (a 0)), (1, .int (nI lt)), (2, .int (nI x))]) hx hb dX2_far_30 rfl hl (by decide) rfl (fun ls hl => ?_)
  refine lv_iload hx hb dX2_far_31 (lv_at hl 2 rfl) ?_
  refine lv_bipush (v := nI 10) hx hb dX2_far_33 (by decide) ?_
  refine lv_idiv hx hb dX2_far_35 (by decide) ?_
  refine u_top (pk_div (by omega) (by omega) (by omega)) ?_
  refine lv_istore (lv' := [(4, .int (nI (((((x / 10) / 10) / 10) / 10) / 10))), (3, .int (nI (0 + (cst (lr (M 2) lt 4) (x % 10)) + (cst (lr (M 2) lt 3) ((x / 10) % 10)) + (cst (lr (M 2) lt 2) (((x / 10) / 10) % 10)) + (cst (lr (M 2) lt 1) ((((x / 10) / 10) / 10) % 10)) + (cst (lr (M 2) lt 0) (((((x / 10) / 10) / 10) / 10) % 10))))), (5, .int (nI 0)), (0, .ref (a 0)), (1, .int (nI lt)), (2, .int (nI x))]) hx hb dX2_far_36 hl (by decide) rfl (fun ls hl => ?_)
  refine lv_iinc (v := (-1)) (lv' := [(5, .int (-1)), (4, .int (nI (((((x / 10) / 10) / 10) / 10) / 10))), (3, .int (nI (0 + (cst (lr (M 2) lt 4) (x % 10)) + (cst (lr (M 2) lt 3) ((x / 10) % 10)) + (cst (lr (M 2) lt 2) (((x / 10) / 10) % 10)) + (cst (lr (M 2) lt 1) ((((x / 10) / 10) / 10) % 10)) + (cst (lr (M 2) lt 0) (((((x / 10) / 10) / 10) / 10) % 10))))), (0, .ref (a 0)), (1, .int (nI lt)), (2, .int (nI x))]) hx hb dX2_far_38 hl (k := 2) rfl (by decide) (by decide) rfl (fun ls hl => ?_)
  refine lv_goto (tgt := 8) hx hb dX2_far_41 (by decide) ?_
  refine lv_iload hx hb dX2_far_8 (lv_at hl 0 rfl) ?_
  refine lv_if_lt (tgt := 44) hx hb dX2_far_10 (by decide) (fun c_10 => ?_) (fun c_10 => absurd (by decide) c_10)
  refine lv_iload_n hx hb dX2_far_44 rfl (lv_at hl 2 rfl) ?_
  exact hret _ _ _ (by rw [far_eq]) dX2_far_45
theorem k_X2_far {lt : Nat} {x : Nat} (h1 : lt < 24) (h2 : x < 100000) (hr : ∀ p, p < 5 → rdOK (lr (M 2) lt p)) (SF : CallFix p m c cc nL s args lw_all RX2) (hK : KK dC dI dA s) (rk : rmOK 4 R) (hsz : ls.size = nL) (hcat : (rest.map fun v => v.category).sum ≤ 8) (hP : mP dC dI dA a M H) (hdg : decode cc pc = .ok (.invokevirtual 83, 3)) (k : W p l e R s m args below meth c H locs 0 0 Q (F0 m (pc + 3) ls (.int (nI (far (lr (M 2) lt) x)) :: rest))) : W p l e R s m args below meth c H locs 0 0 Q (F0 m pc ls (.int (nI x) :: .int (nI lt) :: .ref (a 0) :: rest)) :=
  u_run (u_rV (C := RX2) (Ψ := (mP dC dI dA a M)) (As := [.int (nI lt), .int (nI x)]) SF hK rk (c_X2_far l dC dI dA a M lt x h1 h2 hr) (lw_V q2198 q2200 qs78 q117 q2201) (n := 2) (by decide +kernel) rfl (by decide) (va_recv hK hP (ci := 2) (q0 := 0) rfl rfl) hP hsz hcat ⟨Nat.zero_le _, Nat.zero_le _⟩ rfl hdg) k
end TW
