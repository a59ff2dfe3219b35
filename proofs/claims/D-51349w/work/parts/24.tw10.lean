set_option maxRecDepth 100000
section TW
variable {p : Program} {l : Launch} {e : Env} {R : Room} {s : State} {m : MethodId} {args : Array Value} {below : List Frame} {meth : Method} {c : Code} {H : Heap} {locs : List Loc} {Q : State → Prop}
variable {cc : ByteArray} {pc nL : Nat} {ls : Array Slot} {rest : List Value} {dC : Nat → ClassId} {dI : Nat → Nat → Nat} {dA : Nat → ClassId} {a : Nat → Nat} {M : Nat → Nat → Int32} {H0 : Heap}

set_option maxHeartbeats 4000000 in
theorem c_X2_buffered (l : Launch) (dC : Nat → ClassId) (dI : Nat → Nat → Nat) (dA : Nat → ClassId) (a : Nat → Nat) (M : Nat → Nat → Int32) (hJ : mJ a)   : Met l yX2_buffered (ws_ yX2_buffered cX2_buffered 1 (some .int)) (rmD 0 0 0) (uPc [.ref (a 0)] (mP dC dI dA a M) dC dI dA) (uMi (mA a) (M 0 8) (mP dC dI dA a (mrow M 0 (upd (M 0) 0 (nI 0))))) 0 0 (mA a) := by
  refine u_metMi (own := RX2) (by decide) rfl (Nat.le_of_ble_eq_true rfl) fun p e R s m args below meth c Q SF rk hP hK hret ls hl => ?_
  have hx := SF.1
  have hb := SF.2.1
  have hml := SF.2.2.1
  have hown := SF.2.2.2.1
  have hts := SF.2.2.2.2
  have hS : uS (mA a) s.heap s.heap [] := uS.rf
  have hl : lv_has ls 1 [(0, .ref (a 0))] := hl
  refine lv_aload_n hx hb dX2_buffered_0 rfl (lv_at hl 0 rfl) ?_
  refine lv_iconst (v := nI 0) hx hb dX2_buffered_1 (by decide) ?_
  refine m_pf_thrown SF hK hJ hP hS dX2_buffered_2 (fun H locs hP hS => ?_)
  have hP : mP dC dI dA a (mrow M 0 (upd (M 0) 0 (nI 0))) H := hP
  refine lv_aload_n hx hb dX2_buffered_5 rfl (lv_at hl 0 rfl) ?_
  refine va_get (D := (dC, dI)) (ci := 2) (v := .int (M 0 8)) (C := RX2) (T := TX2) (N := 22) hx hb hts in_X2 hown hK hP 0 rfl rfl 8 (by decide) (hts _ q1959) (fun _ h9 => h9) rfl dX2_buffered_6 ?_
  exact hret _ _ _ _ _ rfl hP hS dX2_buffered_9

set_option maxHeartbeats 4000000 in
theorem c_X2_parseError (l : Launch) (dC : Nat → ClassId) (dI : Nat → Nat → Nat) (dA : Nat → ClassId) (a : Nat → Nat) (M : Nat → Nat → Int32) (hJ : mJ a)   : Met l yX2_parseError (ws_ yX2_parseError cX2_parseError 1 (some .int)) (rmD 0 0 0) (uPc [.ref (a 0)] (mP dC dI dA a M) dC dI dA) (uMi (mA a) (M 0 9) (mP dC dI dA a (mrow M 0 (upd (M 0) 0 (nI 0))))) 0 0 (mA a) := by
  refine u_metMi (own := RX2) (by decide) rfl (Nat.le_of_ble_eq_true rfl) fun p e R s m args below meth c Q SF rk hP hK hret ls hl => ?_
  have hx := SF.1
  have hb := SF.2.1
  have hml := SF.2.2.1
  have hown := SF.2.2.2.1
  have hts := SF.2.2.2.2
  have hS : uS (mA a) s.heap s.heap [] := uS.rf
  have hl : lv_has ls 1 [(0, .ref (a 0))] := hl
  refine lv_aload_n hx hb dX2_parseError_0 rfl (lv_at hl 0 rfl) ?_
  refine lv_iconst (v := nI 0) hx hb dX2_parseError_1 (by decide) ?_
  refine m_pf_thrown SF hK hJ hP hS dX2_parseError_2 (fun H locs hP hS => ?_)
  have hP : mP dC dI dA a (mrow M 0 (upd (M 0) 0 (nI 0))) H := hP
  refine lv_aload_n hx hb dX2_parseError_5 rfl (lv_at hl 0 rfl) ?_
  refine va_get (D := (dC, dI)) (ci := 2) (v := .int (M 0 9)) (C := RX2) (T := TX2) (N := 22) hx hb hts in_X2 hown hK hP 0 rfl rfl 9 (by decide) (hts _ q1960) (fun _ h9 => h9) rfl dX2_parseError_6 ?_
  exact hret _ _ _ _ _ rfl hP hS dX2_parseError_9

set_option maxHeartbeats 4000000 in
theorem c_X2_errorPosition (l : Launch) (dC : Nat → ClassId) (dI : Nat → Nat → Nat) (dA : Nat → ClassId) (a : Nat → Nat) (M : Nat → Nat → Int32) (hJ : mJ a)   : Met l yX2_errorPosition (ws_ yX2_errorPosition cX2_errorPosition 1 (some .int)) (rmD 0 0 0) (uPc [.ref (a 0)] (mP dC dI dA a M) dC dI dA) (uMi (mA a) (M 0 10) (mP dC dI dA a (mrow M 0 (upd (M 0) 0 (nI 0))))) 0 0 (mA a) := by
  refine u_metMi (own := RX2) (by decide) rfl (Nat.le_of_ble_eq_true rfl) fun p e R s m args below meth c Q SF rk hP hK hret ls hl => ?_
  have hx := SF.1
  have hb := SF.2.1
  have hml := SF.2.2.1
  have hown := SF.2.2.2.1
  have hts := SF.2.2.2.2
  have hS : uS (mA a) s.heap s.heap [] := uS.rf
  have hl : lv_has ls 1 [(0, .ref (a 0))] := hl
  refine lv_aload_n hx hb dX2_errorPosition_0 rfl (lv_at hl 0 rfl) ?_
  refine lv_iconst (v := nI 0) hx hb dX2_errorPosition_1 (by decide) ?_
  refine m_pf_thrown SF hK hJ hP hS dX2_errorPosition_2 (fun H locs hP hS => ?_)
  have hP : mP dC dI dA a (mrow M 0 (upd (M 0) 0 (nI 0))) H := hP
  refine lv_aload_n hx hb dX2_errorPosition_5 rfl (lv_at hl 0 rfl) ?_
  refine va_get (D := (dC, dI)) (ci := 2) (v := .int (M 0 10)) (C := RX2) (T := TX2) (N := 22) hx hb hts in_X2 hown hK hP 0 rfl rfl 10 (by decide) (hts _ q1961) (fun _ h9 => h9) rfl dX2_errorPosition_6 ?_
  exact hret _ _ _ _ _ rfl hP hS dX2_errorPosition_9

set_option maxHeartbeats 4000000 in
theorem c_X2_undoable (l : Launch) (dC : Nat → ClassId) (dI : Nat → Nat → Nat) (dA : Nat → ClassId) (a : Nat → Nat) (M : Nat → Nat → Int32) (hJ : mJ a)   : Met l yX2_undoable (ws_ yX2_undoable cX2_undoable 1 (some .int)) (rmD 0 0 0) (uPc [.ref (a 0)] (mP dC dI dA a M) dC dI dA) (uMi (mA a) (M 0 5) (mP dC dI dA a (mrow M 0 (upd (M 0) 0 (nI 0))))) 0 0 (mA a) := by
  refine u_metMi (own := RX2) (by decide) rfl (Nat.le_of_ble_eq_true rfl) fun p e R s m args below meth c Q SF rk hP hK hret ls hl => ?_
  have hx := SF.1
  have hb := SF.2.1
  have hml := SF.2.2.1
  have hown := SF.2.2.2.1
  have hts := SF.2.2.2.2
  have hS : uS (mA a) s.heap s.heap [] := uS.rf
  have hl : lv_has ls 1 [(0, .ref (a 0))] := hl
  refine lv_aload_n hx hb dX2_undoable_0 rfl (lv_at hl 0 rfl) ?_
  refine lv_iconst (v := nI 0) hx hb dX2_undoable_1 (by decide) ?_
  refine m_pf_thrown SF hK hJ hP hS dX2_undoable_2 (fun H locs hP hS => ?_)
  have hP : mP dC dI dA a (mrow M 0 (upd (M 0) 0 (nI 0))) H := hP
  refine lv_aload_n hx hb dX2_undoable_5 rfl (lv_at hl 0 rfl) ?_
  refine va_get (D := (dC, dI)) (ci := 2) (v := .int (M 0 5)) (C := RX2) (T := TX2) (N := 22) hx hb hts in_X2 hown hK hP 0 rfl rfl 5 (by decide) (hts _ q1956) (fun _ h9 => h9) rfl dX2_undoable_6 ?_
  exact hret _ _ _ _ _ rfl hP hS dX2_undoable_9

set_option maxHeartbeats 4000000 in
theorem c_X2_says (l : Launch) (dC : Nat → ClassId) (dI : Nat → Nat → Nat) (dA : Nat → ClassId) (a : Nat → Nat) (M : Nat → Nat → Int32) (hJ : mJ a) (c9 : Nat) (n : Nat) (hn : M 0 21 = nI n) (hn4 : n < 400) : Met l yX2_says (ws_ yX2_says cX2_says 2 none) (rmD 0 0 0) (uPc [.ref (a 0), .int (nI c9)] (mP dC dI dA a M) dC dI dA) (uMv (mA a) (mP dC dI dA a (mrow (mrow M 0 (upd (M 0) 21 (nI (n + 1)))) 7 (putL (M 7) n [c9])))) 0 0 (mA a) := by
  refine u_metMv (own := RX2) (by decide) rfl (Nat.le_of_ble_eq_true rfl) fun p e R s m args below meth c Q SF rk hP hK hret ls hl => ?_
  have hx := SF.1
  have hb := SF.2.1
  have hml := SF.2.2.1
  have hown := SF.2.2.2.1
  have hts := SF.2.2.2.2
  have hS : uS (mA a) s.heap s.heap [] := uS.rf
  have hl : lv_has ls 2 [(0, .ref (a 0)), (1, .int (nI c9))] := hl
  refine lv_aload_n hx hb dX2_says_0 rfl (lv_at hl 0 rfl) ?_
  refine va_get (D := (dC, dI)) (ci := 2) (v := .ref (a 7)) (C := RX2) (T := TX2) (N := 22) hx hb hts in_X2 hown hK hP 0 rfl rfl 20 (by decide) (hts _ q1971) (fun _ h9 => h9) rfl dX2_says_1 ?_
  refine lv_aload_n hx hb dX2_says_4 rfl (lv_at hl 0 rfl) ?_
  refine va_get (D := (dC, dI)) (ci := 2) (v := .int (M 0 21)) (C := RX2) (T := TX2) (N := 22) hx hb hts in_X2 hown hK hP 0 rfl rfl 21 (by decide) (hts _ q1972) (fun _ h9 => h9) rfl dX2_says_5 ?_
  refine u_top (y := nI n) hn ?_
  refine lv_iload_n hx hb dX2_says_8 rfl (lv_at hl 1 rfl) ?_
  refine m_as7 SF hK hJ hP hS (i := n) (by omega) dX2_says_9 (fun H locs hP hS => ?_)
  have hP : mP dC dI dA a (mrow M 7 (upd (M 7) n (nI c9))) H := hP
  refine lv_aload_n hx hb dX2_says_10 rfl (lv_at hl 0 rfl) ?_
  refine lv_dup hx hb dX2_says_11 rfl ?_
  refine va_get (D := (dC, dI)) (ci := 2) (v := .int (M 0 21)) (C := RX2) (T := TX2) (N := 22) hx hb hts in_X2 hown hK hP 0 rfl rfl 21 (by decide) (hts _ q1972) (fun _ h9 => h9) rfl dX2_says_12 ?_
  refine u_top (y := nI n) hn ?_
  refine lv_iconst (v := nI 1) hx hb dX2_says_15 (by decide) ?_
  refine lv_iadd hx hb dX2_says_16 ?_
  refine u_top (nI_add _ _) ?_
  refine m_pf_textLong SF hK hJ hP hS dX2_says_17 (fun H locs hP hS => ?_)
  have hP : mP dC dI dA a (mrow (mrow M 0 (upd (M 0) 21 (nI (n + 1)))) 7 (upd (M 7) n (nI c9))) H := hP
  exact hret _ _ _ _ (by rw [← putL_one]; exact hP) hS dX2_says_20
theorem k_X2_says (hJ : mJ a) {c9 : Nat} {n : Nat} (hn : M 0 21 = nI n) (hn4 : n < 400) (SF : CallFix p m c cc nL s args lw_all RX2) (hK : KK dC dI dA s) (rk : rmOK 1 R) (hsz : ls.size = nL) (hcat : (rest.map fun v => v.category).sum ≤ 8) (hP : mP dC dI dA a M H) (hS : uS (mA a) H0 H locs) (hdg : decode cc pc = .ok (.invokevirtual 363, 3)) (k : ∀ (H1 : Heap) (locs1 : List Loc), mP dC dI dA a (mrow (mrow M 0 (upd (M 0) 21 (nI (n + 1)))) 7 (putL (M 7) n [c9])) H1 → uS (mA a) H0 H1 locs1 → W p l e R s m args below meth c H1 locs1 0 0 Q (F0 m (pc + 3) ls (rest))) : W p l e R s m args below meth c H locs 0 0 Q (F0 m pc ls (.int (nI c9) :: .ref (a 0) :: rest)) :=
  u_runMv (u_rV (C := RX2) (Ψ := (mP dC dI dA a M)) (As := [.int (nI c9)]) SF hK rk (c_X2_says l dC dI dA a M hJ c9 n hn hn4) (lw_V q2475 q2477 qs106 q117 q2478) (n := 1) (by decide +kernel) rfl (by decide) (va_recv hK hP (ci := 2) (q0 := 0) rfl rfl) hP hsz hcat ⟨Nat.zero_le _, Nat.zero_le _⟩ rfl hdg) hS (fun _ h => h) (fun H1 locs1 h1 h2 _ => k H1 locs1 h1 h2)

set_option maxHeartbeats 4000000 in
theorem c_X2_saysNumber (l : Launch) (dC : Nat → ClassId) (dI : Nat → Nat → Nat) (dA : Nat → ClassId) (a : Nat → Nat) (M : Nat → Nat → Int32) (hJ : mJ a) (v : Nat) (n : Nat) (hn : M 0 21 = nI n) (hn4 : n + 2 ≤ 400) (hv : v < 100) : Met l yX2_saysNumber (ws_ yX2_saysNumber cX2_saysNumber 2 none) (rmD 1 0 0) (uPc [.ref (a 0), .int (nI v)] (mP dC dI dA a M) dC dI dA) (uMv (mA a) (mP dC dI dA a (mrow (mrow M 0 (upd (M 0) 21 (nI (n + (sgN v).length)))) 7 (putL (M 7) n (sgN v))))) 0 0 (mA a) := by
  refine u_metMv (own := RX2) (by decide) rfl (Nat.le_of_ble_eq_true rfl) fun p e R s m args below meth c Q SF rk hP hK hret ls hl => ?_
  have hx := SF.1
  have hb := SF.2.1
  have hml := SF.2.2.1
  have hown := SF.2.2.2.1
  have hts := SF.2.2.2.2
  have hS : uS (mA a) s.heap s.heap [] := uS.rf
  have hl : lv_has ls 2 [(0, .ref (a 0)), (1, .int (nI v))] := hl
  refine lv_iload_n hx hb dX2_saysNumber_0 rfl (lv_at hl 1 rfl) ?_
  refine lv_bipush (v := nI 9) hx hb dX2_saysNumber_1 (by decide) ?_
  refine lv_icmp_le (tgt := 17) hx hb dX2_saysNumber_3 (by decide) (fun c_3 => ?_) (fun c_3 => ?_)
  · have c_3 : v ≤ 9 := (nI_leI (a := v) (b := 9) (by omega) (by omega)).mp c_3
    refine lv_aload_n hx hb dX2_saysNumber_17 rfl (lv_at hl 0 rfl) ?_
    refine lv_bipush (v := nI 48) hx hb dX2_saysNumber_18 (by decide) ?_
    refine lv_iload_n hx hb dX2_saysNumber_20 rfl (lv_at hl 1 rfl) ?_
    refine lv_bipush (v := nI 10) hx hb dX2_saysNumber_21 (by decide) ?_
    refine lv_irem hx hb dX2_saysNumber_23 (by decide) ?_
    refine u_top (pk_rem (by omega) (by omega) (by omega)) ?_
    refine lv_iadd hx hb dX2_saysNumber_24 ?_
    refine u_top (nI_add _ _) ?_
    refine k_X2_says (n := n) hJ hn (by omega) SF hK (rk.le (Nat.le_of_ble_eq_true rfl)) hl.1 (Nat.le_of_ble_eq_true rfl) hP hS dX2_saysNumber_25 (fun H locs hP hS => ?_)
    have hP : mP dC dI dA a (mrow (mrow M 0 (upd (M 0) 21 (nI (n + 1)))) 7 (putL (M 7) n [(48 + (v % 10))])) H := hP
    exact hret _ _ _ _ (by rw [sgN, if_neg (by omega)]; exact hP) hS dX2_saysNumber_28
  · have c_3 : ¬ (v ≤ 9) := fun q9 => c_3 ((nI_leI (a := v) (b := 9) (by omega) (by omega)).mpr q9)
    refine lv_aload_n hx hb dX2_saysNumber_6 rfl (lv_at hl 0 rfl) ?_
    refine lv_bipush (v := nI 48) hx hb dX2_saysNumber_7 (by decide) ?_
    refine lv_iload_n hx hb dX2_saysNumber_9 rfl (lv_at hl 1 rfl) ?_
    refine lv_bipush (v := nI 10) hx hb dX2_saysNumber_10 (by decide) ?_
    refine lv_idiv hx hb dX2_saysNumber_12 (by decide) ?_
    refine u_top (pk_div (by omega) (by omega) (by omega)) ?_
    refine lv_iadd hx hb dX2_saysNumber_13 ?_
    refine u_top (nI_add _ _) ?_
    refine k_X2_says (n := n) hJ hn (by omega) SF hK (rk.le (Nat.le_of_ble_eq_true rfl)) hl.1 (Nat.le_of_ble_eq_true rfl) hP hS dX2_saysNumber_14 (fun H locs hP hS => ?_)
    have hP : mP dC dI dA a (mrow (mrow M 0 (upd (M 0) 21 (nI (n + 1)))) 7 (putL (M 7) n [(48 + (v / 10))])) H := hP
    refine lv_aload_n hx hb dX2_saysNumber_17 rfl (lv_at hl 0 rfl) ?_
    refine lv_bipush (v := nI 48) hx hb dX2_saysNumber_18 (by decide) ?_
    refine lv_iload_n hx hb dX2_saysNumber_20 rfl (lv_at hl 1 rfl) ?_
    refine lv_bipush (v := nI 10) hx hb dX2_saysNumber_21 (by decide) ?_
    refine lv_irem hx hb dX2_saysNumber_23 (by decide) ?_
    refine u_top (pk_rem (by omega) (by omega) (by omega)) ?_
    refine lv_iadd hx hb dX2_saysNumber_24 ?_
    refine u_top (nI_add _ _) ?_
    refine k_X2_says (M := mrow (mrow M 0 (upd (M 0) 21 (nI (n + 1)))) 7 (putL (M 7) n [(48 + (v / 10))])) (n := n + 1) hJ rfl (by omega) SF hK (rk.le (Nat.le_of_ble_eq_true rfl)) hl.1 (Nat.le_of_ble_eq_true rfl) hP hS dX2_saysNumber_25 (fun H locs hP hS => ?_)
    have hP : mP dC dI dA a (mrow (mrow M 0 (upd (M 0) 21 (nI ((n + 1) + 1)))) 7 (putL (putL (M 7) n [(48 + (v / 10))]) (n + 1) [(48 + (v % 10))])) H := hP
    exact hret _ _ _ _ (by rw [sgN, if_pos (by omega)]; rw [show putL (putL (M 7) n [48 + v / 10]) (n + 1) [48 + v % 10] = putL (M 7) n [48 + v / 10, 48 + v % 10] from putL_app] at hP; exact hP) hS dX2_saysNumber_28
theorem k_X2_saysNumber (hJ : mJ a) {v : Nat} {n : Nat} (hn : M 0 21 = nI n) (hn4 : n + 2 ≤ 400) (hv : v < 100) (SF : CallFix p m c cc nL s args lw_all RX2) (hK : KK dC dI dA s) (rk : rmOK 2 R) (hsz : ls.size = nL) (hcat : (rest.map fun v => v.category).sum ≤ 8) (hP : mP dC dI dA a M H) (hS : uS (mA a) H0 H locs) (hdg : decode cc pc = .ok (.invokevirtual 369, 3)) (k : ∀ (H1 : Heap) (locs1 : List Loc), mP dC dI dA a (mrow (mrow M 0 (upd (M 0) 21 (nI (n + (sgN v).length)))) 7 (putL (M 7) n (sgN v))) H1 → uS (mA a) H0 H1 locs1 → W p l e R s m args below meth c H1 locs1 0 0 Q (F0 m (pc + 3) ls (rest))) : W p l e R s m args below meth c H locs 0 0 Q (F0 m pc ls (.int (nI v) :: .ref (a 0) :: rest)) :=
  u_runMv (u_rV (C := RX2) (Ψ := (mP dC dI dA a M)) (As := [.int (nI v)]) SF hK rk (c_X2_saysNumber l dC dI dA a M hJ v n hn hn4 hv) (lw_V q2487 q2489 qs108 q117 q2490) (n := 1) (by decide +kernel) rfl (by decide) (va_recv hK hP (ci := 2) (q0 := 0) rfl rfl) hP hsz hcat ⟨Nat.zero_le _, Nat.zero_le _⟩ rfl hdg) hS (fun _ h => h) (fun H1 locs1 h1 h2 _ => k H1 locs1 h1 h2)

set_option maxHeartbeats 4000000 in
theorem c_X2_saysCode (l : Launch) (dC : Nat → ClassId) (dI : Nat → Nat → Nat) (dA : Nat → ClassId) (a : Nat → Nat) (M : Nat → Nat → Int32) (hJ : mJ a) (t : Nat) (n : Nat) (hn : M 0 21 = nI n) (hn4 : n + 5 ≤ 400) (ht : t < tn (M 1)) (hT : TWf (M 1)) : Met l yX2_saysCode (ws_ yX2_saysCode cX2_saysCode 3 none) (rmD 3 0 0) (uPc [.ref (a 0), .int (nI t)] (mP dC dI dA a M) dC dI dA) (uMv (mA a) (mP dC dI dA a (mrow (mrow M 0 (upd (M 0) 21 (nI (n + 5)))) 7 (putL (M 7) n (sgC (cd (num (M 1) t)) 5))))) 0 0 (mA a) := by
  refine u_metMv (own := RX2) (by decide) rfl (Nat.le_of_ble_eq_true rfl) fun p e R s m args below meth c Q SF rk hP hK hret ls hl => ?_
  have hx := SF.1
  have hb := SF.2.1
  have hml := SF.2.2.1
  have hown := SF.2.2.2.1
  have hts := SF.2.2.2.2
  have hS : uS (mA a) s.heap s.heap [] := uS.rf
  have hl : lv_has ls 3 [(0, .ref (a 0)), (1, .int (nI t))] := hl
  refine lv_iconst (v := nI 0) hx hb dX2_saysCode_0 (by decide) ?_
  refine lv_istore_n (lv' := [(2, .int (nI 0)), (0, .ref (a 0)), (1, .int (nI t))]) hx hb dX2_saysCode_1 rfl hl (by decide) rfl (fun ls hl => ?_)
  have lp2 : ∀ (k0 : Nat) (k : Nat), k ≤ 5 → 5 < k + k0 → ∀ (H : Heap) (locs : List Loc), mP dC dI dA a (mrow (mrow M 0 (upd (M 0) 21 (nI (n + k)))) 7 (putL (M 7) n (sgC (cd (num (M 1) t)) k))) H → uS (mA a) s.heap H locs → ∀ ls : Array Slot, lv_has ls 3 [(2, .int (nI k)), (0, .ref (a 0)), (1, .int (nI t))] → W p l e R s m args below meth c H locs 0 0 Q (F0 m 2 ls []) := by
    intro k0
    induction k0 with
    | zero =>
      intro k hk1 hk2; omega
    | succ k0 ih =>
      intro k hk1 hk2 H locs hP hS ls hl
      have ih2 := ih
      refine lv_iload_n hx hb dX2_saysCode_2 rfl (lv_at hl 0 rfl) ?_
      refine lv_iconst (v := nI 5) hx hb dX2_saysCode_3 (by decide) ?_
      refine lv_icmp_ge (tgt := 29) hx hb dX2_saysCode_4 (by decide) (fun c_4 => ?_) (fun c_4 => ?_)
      · have c_4 : 5 ≤ k := (nI_leI (a := 5) (b := k) (by omega) (by omega)).mp c_4
        exact hret _ _ _ _ (by have h5 : k = 5 := (by omega); rw [h5] at hP; exact hP) hS dX2_saysCode_29
      · have c_4 : ¬ (5 ≤ k) := fun q9 => c_4 ((nI_leI (a := 5) (b := k) (by omega) (by omega)).mpr q9)
        refine lv_aload_n hx hb dX2_saysCode_7 rfl (lv_at hl 1 rfl) ?_
        refine lv_bipush (v := nI 48) hx hb dX2_saysCode_8 (by decide) ?_
        refine lv_aload_n hx hb dX2_saysCode_10 rfl (lv_at hl 1 rfl) ?_
        refine lv_iload_n hx hb dX2_saysCode_11 rfl (lv_at hl 2 rfl) ?_
        refine k_X2_codeAt (M := mrow (mrow M 0 (upd (M 0) 21 (nI (n + k)))) 7 (putL (M 7) n (sgC (cd (num (M 1) t)) k)))  ht hT SF hK (rk.le (Nat.le_of_ble_eq_true rfl)) hl.1 (Nat.le_of_ble_eq_true rfl) hP dX2_saysCode_12 ?_
        refine u_top (y := nI (cd (num (M 1) t))) rfl ?_
        refine lv_iload_n hx hb dX2_saysCode_15 rfl (lv_at hl 0 rfl) ?_
        refine k_X2_digitOf  (cd_lt (hT.2.2 t ht).2.1) (by omega) SF hK (rk.le (Nat.le_of_ble_eq_true rfl)) hl.1 (Nat.le_of_ble_eq_true rfl) dX2_saysCode_16 ?_
        refine lv_iadd hx hb dX2_saysCode_19 ?_
        refine u_top (nI_add _ _) ?_
        refine k_X2_says (M := mrow (mrow M 0 (upd (M 0) 21 (nI (n + k)))) 7 (putL (M 7) n (sgC (cd (num (M 1) t)) k))) (n := n + k) hJ rfl (by omega) SF hK (rk.le (Nat.le_of_ble_eq_true rfl)) hl.1 (Nat.le_of_ble_eq_true rfl) hP hS dX2_saysCode_20 (fun H locs hP hS => ?_)
        have hP : mP dC dI dA a (mrow (mrow M 0 (upd (M 0) 21 (nI ((n + k) + 1)))) 7 (putL (putL (M 7) n (sgC (cd (num (M 1) t)) k)) (n + k) [(48 + (dg (cd (num (M 1) t)) k))])) H := hP
        refine lv_iinc (v := nI (k + 1)) (lv' := [(2, .int (nI (k + 1))), (0, .ref (a 0)), (1, .int (nI t))]) hx hb dX2_saysCode_23 hl (k := 0) rfl (nI_add _ 1) (by decide) rfl (fun ls hl => ?_)
        refine lv_goto (tgt := 2) hx hb dX2_saysCode_26 (by decide) ?_
        exact ih2 (k + 1) (by omega) (by omega) _ _ (by rw [sgC, ← putL_app, sgC_len]; exact hP) hS ls (lv_sub hl [0, 1, 2] rfl)
  exact lp2 (5 + 1) 0 (by omega) (by omega) _ _ (by rw [sgC, putL_nil, Nat.add_zero, ← hn]; exact (m_self0 hP)) hS ls (lv_sub hl [0, 1, 2] rfl)
theorem k_X2_saysCode (hJ : mJ a) {t : Nat} {n : Nat} (hn : M 0 21 = nI n) (hn4 : n + 5 ≤ 400) (ht : t < tn (M 1)) (hT : TWf (M 1)) (SF : CallFix p m c cc nL s args lw_all RX2) (hK : KK dC dI dA s) (rk : rmOK 4 R) (hsz : ls.size = nL) (hcat : (rest.map fun v => v.category).sum ≤ 8) (hP : mP dC dI dA a M H) (hS : uS (mA a) H0 H locs) (hdg : decode cc pc = .ok (.invokevirtual 366, 3)) (k : ∀ (H1 : Heap) (locs1 : List Loc), mP dC dI dA a (mrow (mrow M 0 (upd (M 0) 21 (nI (n + 5)))) 7 (putL (M 7) n (sgC (cd (num (M 1) t)) 5))) H1 → uS (mA a) H0 H1 locs1 → W p l e R s m args below meth c H1 locs1 0 0 Q (F0 m (pc + 3) ls (rest))) : W p l e R s m args below meth c H locs 0 0 Q (F0 m pc ls (.int (nI t) :: .ref (a 0) :: rest)) :=
  u_runMv (u_rV (C := RX2) (Ψ := (mP dC dI dA a M)) (As := [.int (nI t)]) SF hK rk (c_X2_saysCode l dC dI dA a M hJ t n hn hn4 ht hT) (lw_V q2479 q2481 qs107 q117 q2482) (n := 1) (by decide +kernel) rfl (by decide) (va_recv hK hP (ci := 2) (q0 := 0) rfl rfl) hP hsz hcat ⟨Nat.zero_le _, Nat.zero_le _⟩ rfl hdg) hS (fun _ h => h) (fun H1 locs1 h1 h2 _ => k H1 locs1 h1 h2)

set_option maxHeartbeats 4000000 in
theorem c_X2_writeLetter (l : Launch) (dC : Nat → ClassId) (dI : Nat → Nat → Nat) (dA : Nat → ClassId) (a : Nat → Nat) (M : Nat → Nat → Int32) (hJ : mJ a) (x : Int32) (hS1 : SWf (M 2)) (hT : TWf (M 1)) : Met l yX2_writeLetter (ws_ yX2_writeLetter cX2_writeLetter 3 (some .int)) (rmD 11 0 0) (uPc [.ref (a 0), .int x] (mP dC dI dA a M) dC dI dA) (uMi (mA a) (if thC [(lo (M 0 1), 1), (inZ x.toInt 0 ((ln (M 2) : Int) - 1), 2)] = 0 then nI (wLet (M 2) (M 1) x.toNatClampNeg).length else nI 0) (mP dC dI dA a (if thC [(lo (M 0 1), 1), (inZ x.toInt 0 ((ln (M 2) : Int) - 1), 2)] = 0 then mrow (mrow M 0 (upd (upd (M 0) 0 (nI 0)) 21 (nI (wLet (M 2) (M 1) x.toNatClampNeg).length))) 7 (putL (M 7) 0 (wLet (M 2) (M 1) x.toNatClampNeg)) else mrow M 0 (upd (M 0) 0 (nI (thC [(lo (M 0 1), 1), (inZ x.toInt 0 ((ln (M 2) : Int) - 1), 2)])))))) 0 0 (mA a) := by
  refine u_metMi (own := RX2) (by decide) rfl (Nat.le_of_ble_eq_true rfl) fun p e R s m args below meth c Q SF rk hP hK hret ls hl => ?_
  have hx := SF.1
  have hb := SF.2.1
  have hml := SF.2.2.1
  have hown := SF.2.2.2.1
  have hts := SF.2.2.2.2
  have hS : uS (mA a) s.heap s.heap [] := uS.rf
  have hl : lv_has ls 3 [(0, .ref (a 0)), (1, .int x)] := hl
  have hL := hS1.2.1
  have hn9 := hT.2.1
  refine lv_aload_n hx hb dX2_writeLetter_0 rfl (lv_at hl 0 rfl) ?_
  refine lv_iload_n hx hb dX2_writeLetter_1 rfl (lv_at hl 1 rfl) ?_
  refine k_X2_noLetter  hJ hS1 SF hK (rk.le (Nat.le_of_ble_eq_true rfl)) hl.1 (Nat.le_of_ble_eq_true rfl) hP hS dX2_writeLetter_2 (fun H locs hP hS => ?_)
  have hP : mP dC dI dA a (mrow M 0 (upd (M 0) 0 (nI (thC [(lo (M 0 1), 1), (inZ x.toInt 0 ((ln (M 2) : Int) - 1), 2)])))) H := hP
  by_cases hq0 : thC [(lo (M 0 1), 1), (inZ x.toInt 0 ((ln (M 2) : Int) - 1), 2)] = 0
  · obtain ⟨hz0, hz1⟩ := thC_2 hq0
    refine u_top (y := nI 0) (by rw [hq0]; rfl) ?_
    rw [hq0] at hP
    have hP : mP dC dI dA a (mrow M 0 (upd (M 0) 0 (nI 0))) H := hP
    obtain ⟨lt, hlt_lt, hsm_lt, rfl⟩ := inZ_n hz1
    have hcl_lt : (nI lt).toNatClampNeg = lt := nI_clamp (by omega)
    have hP : mP dC dI dA a (mrow M 0 (upd (M 0) 0 (nI 0))) H := by assumption
    refine lv_if_eq (tgt := 10) hx hb dX2_writeLetter_5 (by decide) (fun c_5 => ?_) (fun c_5 => absurd (by decide) c_5)
    refine lv_aload_n hx hb dX2_writeLetter_10 rfl (lv_at hl 0 rfl) ?_
    refine lv_iconst (v := nI 0) hx hb dX2_writeLetter_11 (by decide) ?_
    refine m_pf_textLong SF hK hJ hP hS dX2_writeLetter_12 (fun H locs hP hS => ?_)
    have hP : mP dC dI dA a (mrow M 0 (upd (upd (M 0) 0 (nI 0)) 21 (nI 0))) H := hP
    have hP : mP dC dI dA a (mrow (mrow M 0 (upd (upd (M 0) 0 (nI 0)) 21 (nI ((([] : List Nat)).length)))) 7 (putL (M 7) 0 ([] : List Nat))) H := m_says0 hP
    refine lv_iconst (v := nI 0) hx hb dX2_writeLetter_15 (by decide) ?_
    refine lv_istore_n (lv' := [(2, .int (nI 0)), (0, .ref (a 0)), (1, .int (nI lt))]) hx hb dX2_writeLetter_16 rfl hl (by decide) rfl (fun ls hl => ?_)
    have lp17 : ∀ (k0 : Nat) (k : Nat), k ≤ 5 → 5 < k + k0 → ∀ (H : Heap) (locs : List Loc), mP dC dI dA a (mrow (mrow M 0 (upd (upd (M 0) 0 (nI 0)) 21 (nI ((rdL (M 2) lt k).length)))) 7 (putL (M 7) 0 (rdL (M 2) lt k))) H → uS (mA a) s.heap H locs → ∀ ls : Array Slot, lv_has ls 3 [(2, .int (nI k)), (0, .ref (a 0)), (1, .int (nI lt))] → W p l e R s m args below meth c H locs 0 0 Q (F0 m 17 ls []) := by
      intro k0
      induction k0 with
      | zero =>
        intro k hk1 hk2; omega
      | succ k0 ih =>
        intro k hk1 hk2 H locs hP hS ls hl
        have ih17 := ih
        refine lv_iload_n hx hb dX2_writeLetter_17 rfl (lv_at hl 0 rfl) ?_
        refine lv_iconst (v := nI 5) hx hb dX2_writeLetter_18 (by decide) ?_
        refine lv_icmp_ge (tgt := 56) hx hb dX2_writeLetter_19 (by decide) (fun c_19 => ?_) (fun c_19 => ?_)
        · have c_19 : 5 ≤ k := (nI_leI (a := 5) (b := k) (by omega) (by omega)).mp c_19
          refine lv_aload_n hx hb dX2_writeLetter_56 rfl (lv_at hl 1 rfl) ?_
          refine lv_bipush (v := nI 62) hx hb dX2_writeLetter_57 (by decide) ?_
          refine k_X2_says (M := mrow (mrow M 0 (upd (upd (M 0) 0 (nI 0)) 21 (nI ((rdL (M 2) lt k).length)))) 7 (putL (M 7) 0 (rdL (M 2) lt k))) (n := (rdL (M 2) lt k).length) hJ rfl (by first | omega | (simp only [List.length_append, List.length_singleton, List.length_nil, rdL_len, sgC_len]; omega)) SF hK (rk.le (Nat.le_of_ble_eq_true rfl)) hl.1 (Nat.le_of_ble_eq_true rfl) hP hS dX2_writeLetter_59 (fun H locs hP hS => ?_)
          have hP : mP dC dI dA a (mrow (mrow M 0 (upd (upd (M 0) 0 (nI 0)) 21 (nI (((rdL (M 2) lt k).length) + 1)))) 7 (putL (putL (M 7) 0 (rdL (M 2) lt k)) ((rdL (M 2) lt k).length) [62])) H := hP
          have hP : mP dC dI dA a (mrow (mrow M 0 (upd (upd (M 0) 0 (nI 0)) 21 (nI ((rdL (M 2) lt k ++ [62]).length)))) 7 (putL (M 7) 0 (rdL (M 2) lt k ++ [62]))) H := m_says (L := rdL (M 2) lt k) (Lc := [62]) hP
          refine lv_aload_n hx hb dX2_writeLetter_62 rfl (lv_at hl 1 rfl) ?_
          refine lv_iload_n hx hb dX2_writeLetter_63 rfl (lv_at hl 2 rfl) ?_
          refine k_X2_decidedFor (M := mrow (mrow M 0 (upd (upd (M 0) 0 (nI 0)) 21 (nI ((rdL (M 2) lt k ++ [62]).length)))) 7 (putL (M 7) 0 (rdL (M 2) lt k ++ [62])))  (show lt < ln (M 2) from (by omega)) hS1 hT SF hK (rk.le (Nat.le_of_ble_eq_true rfl)) hl.1 (Nat.le_of_ble_eq_true rfl) hP dX2_writeLetter_64 ?_
          refine u_top (y := oI (dcd (M 2) (M 1) lt)) rfl ?_
          rcases hE : dcd (M 2) (M 1) lt with _ | t9
          · refine u_top (y := (-1)) rfl ?_
            refine lv_istore_n (lv' := [(2, .int (-1)), (0, .ref (a 0)), (1, .int (nI lt))]) hx hb dX2_writeLetter_67 rfl hl (by decide) rfl (fun ls hl => ?_)
            refine lv_iload_n hx hb dX2_writeLetter_68 rfl (lv_at hl 0 rfl) ?_
            refine lv_iconst (v := (-1)) hx hb dX2_writeLetter_69 (by decide) ?_
            refine lv_icmp_ne (tgt := 82) hx hb dX2_writeLetter_70 (by decide) (fun c_70 => absurd (by decide) c_70) (fun c_70 => ?_)
            refine lv_aload_n hx hb dX2_writeLetter_73 rfl (lv_at hl 1 rfl) ?_
            refine lv_bipush (v := nI 45) hx hb dX2_writeLetter_74 (by decide) ?_
            refine k_X2_says (M := mrow (mrow M 0 (upd (upd (M 0) 0 (nI 0)) 21 (nI ((rdL (M 2) lt k ++ [62]).length)))) 7 (putL (M 7) 0 (rdL (M 2) lt k ++ [62]))) (n := (rdL (M 2) lt k ++ [62]).length) hJ rfl (by first | omega | (simp only [List.length_append, List.length_singleton, List.length_nil, rdL_len, sgC_len]; omega)) SF hK (rk.le (Nat.le_of_ble_eq_true rfl)) hl.1 (Nat.le_of_ble_eq_true rfl) hP hS dX2_writeLetter_76 (fun H locs hP hS => ?_)
            have hP : mP dC dI dA a (mrow (mrow M 0 (upd (upd (M 0) 0 (nI 0)) 21 (nI (((rdL (M 2) lt k ++ [62]).length) + 1)))) 7 (putL (putL (M 7) 0 (rdL (M 2) lt k ++ [62])) ((rdL (M 2) lt k ++ [62]).length) [45])) H := hP
            have hP : mP dC dI dA a (mrow (mrow M 0 (upd (upd (M 0) 0 (nI 0)) 21 (nI ((rdL (M 2) lt k ++ [62] ++ [45]).length)))) 7 (putL (M 7) 0 (rdL (M 2) lt k ++ [62] ++ [45]))) H := m_says (L := rdL (M 2) lt k ++ [62]) (Lc := [45]) hP
            refine lv_goto (tgt := 87) hx hb dX2_writeLetter_79 (by decide) ?_
            refine lv_aload_n hx hb dX2_writeLetter_87 rfl (lv_at hl 1 rfl) ?_
            refine va_get (D := (dC, dI)) (ci := 2) (v := .int (nI ((rdL (M 2) lt k ++ [62] ++ [45]).length))) (C := RX2) (T := TX2) (N := 22) hx hb hts in_X2 hown hK hP 0 rfl rfl 21 (by decide) (hts _ q1972) (fun _ h9 => h9) rfl dX2_writeLetter_88 ?_
            exact hret _ _ _ _ _ (by rw [hz0, hz1]; show _ = _; have h5 : k = 5 := (by omega); rw [hcl_lt, wLet, hE, h5]; rfl) (by rw [hz0, hz1]; exact (by have h5 : k = 5 := (by omega); rw [h5] at hP; rw [hcl_lt, wLet, hE]; exact hP)) hS dX2_writeLetter_91
          · have ht9 := dcd_lt hE
            refine u_top (y := nI t9) rfl ?_
            refine lv_istore_n (lv' := [(2, .int (nI t9)), (0, .ref (a 0)), (1, .int (nI lt))]) hx hb dX2_writeLetter_67 rfl hl (by decide) rfl (fun ls hl => ?_)
            refine lv_iload_n hx hb dX2_writeLetter_68 rfl (lv_at hl 0 rfl) ?_
            refine lv_iconst (v := (-1)) hx hb dX2_writeLetter_69 (by decide) ?_
            refine lv_icmp_ne (tgt := 82) hx hb dX2_writeLetter_70 (by decide) (fun c_70 => ?_) (fun c_70 => absurd c_70 (nI_m1 (by omega)))
            refine lv_aload_n hx hb dX2_writeLetter_82 rfl (lv_at hl 1 rfl) ?_
            refine lv_iload_n hx hb dX2_writeLetter_83 rfl (lv_at hl 0 rfl) ?_
            refine k_X2_saysCode (M := mrow (mrow M 0 (upd (upd (M 0) 0 (nI 0)) 21 (nI ((rdL (M 2) lt k ++ [62]).length)))) 7 (putL (M 7) 0 (rdL (M 2) lt k ++ [62]))) (n := (rdL (M 2) lt k ++ [62]).length) hJ rfl (by first | omega | (simp only [List.length_append, List.length_singleton, List.length_nil, rdL_len, sgC_len]; omega)) ht9 hT SF hK (rk.le (Nat.le_of_ble_eq_true rfl)) hl.1 (Nat.le_of_ble_eq_true rfl) hP hS dX2_writeLetter_84 (fun H locs hP hS => ?_)
            have hP : mP dC dI dA a (mrow (mrow M 0 (upd (upd (M 0) 0 (nI 0)) 21 (nI (((rdL (M 2) lt k ++ [62]).length) + 5)))) 7 (putL (putL (M 7) 0 (rdL (M 2) lt k ++ [62])) ((rdL (M 2) lt k ++ [62]).length) (sgC (cd (num (M 1) t9)) 5))) H := hP
            have hP : mP dC dI dA a (mrow (mrow M 0 (upd (upd (M 0) 0 (nI 0)) 21 (nI ((rdL (M 2) lt k ++ [62] ++ sgC (cd (num (M 1) t9)) 5).length)))) 7 (putL (M 7) 0 (rdL (M 2) lt k ++ [62] ++ sgC (cd (num (M 1) t9)) 5))) H := m_says (L := rdL (M 2) lt k ++ [62]) (Lc := sgC (cd (num (M 1) t9)) 5) hP
            refine lv_aload_n hx hb dX2_writeLetter_87 rfl (lv_at hl 1 rfl) ?_
            refine va_get (D := (dC, dI)) (ci := 2) (v := .int (nI ((rdL (M 2) lt k ++ [62] ++ sgC (cd (num (M 1) t9)) 5).length))) (C := RX2) (T := TX2) (N := 22) hx hb hts in_X2 hown hK hP 0 rfl rfl 21 (by decide) (hts _ q1972) (fun _ h9 => h9) rfl dX2_writeLetter_88 ?_
            exact hret _ _ _ _ _ (by rw [hz0, hz1]; show _ = _; have h5 : k = 5 := (by omega); rw [hcl_lt, wLet, hE, h5]; rfl) (by rw [hz0, hz1]; exact (by have h5 : k = 5 := (by omega); rw [h5] at hP; rw [hcl_lt, wLet, hE]; exact hP)) hS dX2_writeLetter_91
        · have c_19 : ¬ (5 ≤ k) := fun q9 => c_19 ((nI_leI (a := 5) (b := k) (by omega) (by omega)).mpr q9)
          have hrd := (hS1.2.2.2.2 lt (by omega)).1 k (by omega)
          refine lv_aload_n hx hb dX2_writeLetter_22 rfl (lv_at hl 1 rfl) ?_
          refine lv_aload_n hx hb dX2_writeLetter_23 rfl (lv_at hl 1 rfl) ?_
          refine lv_iload_n hx hb dX2_writeLetter_24 rfl (lv_at hl 2 rfl) ?_
          refine lv_iload_n hx hb dX2_writeLetter_25 rfl (lv_at hl 0 rfl) ?_
          refine k_X2_l (M := mrow (mrow M 0 (upd (upd (M 0) 0 (nI 0)) 21 (nI ((rdL (M 2) lt k).length)))) 7 (putL (M 7) 0 (rdL (M 2) lt k)))  (by omega) (by omega) SF hK (rk.le (Nat.le_of_ble_eq_true rfl)) hl.1 (Nat.le_of_ble_eq_true rfl) hP dX2_writeLetter_26 ?_
          refine u_top (y := lr (M 2) lt k) rfl ?_
          refine lv_iconst (v := (-1)) hx hb dX2_writeLetter_29 (by decide) ?_
          refine lv_icmp_ne (tgt := 38) hx hb dX2_writeLetter_30 (by decide) (fun c_30 => ?_) (fun c_30 => ?_)
          · refine lv_bipush (v := nI 48) hx hb dX2_writeLetter_38 (by decide) ?_
            refine lv_aload_n hx hb dX2_writeLetter_40 rfl (lv_at hl 1 rfl) ?_
            refine lv_iload_n hx hb dX2_writeLetter_41 rfl (lv_at hl 2 rfl) ?_
            refine lv_iload_n hx hb dX2_writeLetter_42 rfl (lv_at hl 0 rfl) ?_
            refine k_X2_l (M := mrow (mrow M 0 (upd (upd (M 0) 0 (nI 0)) 21 (nI ((rdL (M 2) lt k).length)))) 7 (putL (M 7) 0 (rdL (M 2) lt k)))  (by omega) (by omega) SF hK (rk.le (Nat.le_of_ble_eq_true rfl)) hl.1 (Nat.le_of_ble_eq_true rfl) hP dX2_writeLetter_43 ?_
            refine u_top (y := lr (M 2) lt k) rfl ?_
            refine lv_iadd hx hb dX2_writeLetter_46 ?_
            refine u_top (y := nI (rdC (lr (M 2) lt k))) (rdC_n hrd c_30) ?_
            refine k_X2_says (M := mrow (mrow M 0 (upd (upd (M 0) 0 (nI 0)) 21 (nI ((rdL (M 2) lt k).length)))) 7 (putL (M 7) 0 (rdL (M 2) lt k))) (n := (rdL (M 2) lt k).length) hJ rfl (by first | omega | (simp only [List.length_append, List.length_singleton, List.length_nil, rdL_len, sgC_len]; omega)) SF hK (rk.le (Nat.le_of_ble_eq_true rfl)) hl.1 (Nat.le_of_ble_eq_true rfl) hP hS dX2_writeLetter_47 (fun H locs hP hS => ?_)
            have hP : mP dC dI dA a (mrow (mrow M 0 (upd (upd (M 0) 0 (nI 0)) 21 (nI (((rdL (M 2) lt k).length) + 1)))) 7 (putL (putL (M 7) 0 (rdL (M 2) lt k)) ((rdL (M 2) lt k).length) [(rdC (lr (M 2) lt k))])) H := hP
            have hP : mP dC dI dA a (mrow (mrow M 0 (upd (upd (M 0) 0 (nI 0)) 21 (nI ((rdL (M 2) lt k ++ [(rdC (lr (M 2) lt k))]).length)))) 7 (putL (M 7) 0 (rdL (M 2) lt k ++ [(rdC (lr (M 2) lt k))]))) H := m_says (L := rdL (M 2) lt k) (Lc := [(rdC (lr (M 2) lt k))]) hP
            refine lv_iinc (v := nI (k + 1)) (lv' := [(2, .int (nI (k + 1))), (0, .ref (a 0)), (1, .int (nI lt))]) hx hb dX2_writeLetter_50 hl (k := 0) rfl (nI_add _ 1) (by decide) rfl (fun ls hl => ?_)
            refine lv_goto (tgt := 17) hx hb dX2_writeLetter_53 (by decide) ?_
            exact ih17 (k + 1) (by omega) (by omega) _ _ hP hS ls (lv_sub hl [0, 1, 2] rfl)
          · refine lv_bipush (v := nI 63) hx hb dX2_writeLetter_33 (by decide) ?_
            refine u_top (y := nI (rdC (lr (M 2) lt k))) (by rw [rdC, if_pos c_30]) ?_
            refine lv_goto (tgt := 47) hx hb dX2_writeLetter_35 (by decide) ?_
            refine k_X2_says (M := mrow (mrow M 0 (upd (upd (M 0) 0 (nI 0)) 21 (nI ((rdL (M 2) lt k).length)))) 7 (putL (M 7) 0 (rdL (M 2) lt k))) (n := (rdL (M 2) lt k).length) hJ rfl (by first | omega | (simp only [List.length_append, List.length_singleton, List.length_nil, rdL_len, sgC_len]; omega)) SF hK (rk.le (Nat.le_of_ble_eq_true rfl)) hl.1 (Nat.le_of_ble_eq_true rfl) hP hS dX2_writeLetter_47 (fun H locs hP hS => ?_)
            have hP : mP dC dI dA a (mrow (mrow M 0 (upd (upd (M 0) 0 (nI 0)) 21 (nI (((rdL (M 2) lt k).length) + 1)))) 7 (putL (putL (M 7) 0 (rdL (M 2) lt k)) ((rdL (M 2) lt k).length) [(rdC (lr (M 2) lt k))])) H := hP
            have hP : mP dC dI dA a (mrow (mrow M 0 (upd (upd (M 0) 0 (nI 0)) 21 (nI ((rdL (M 2) lt k ++ [(rdC (lr (M 2) lt k))]).length)))) 7 (putL (M 7) 0 (rdL (M 2) lt k ++ [(rdC (lr (M 2) lt k))]))) H := m_says (L := rdL (M 2) lt k) (Lc := [(rdC (lr (M 2) lt k))]) hP
            refine lv_iinc (v := nI (k + 1)) (lv' := [(2, .int (nI (k + 1))), (0, .ref (a 0)), (1, .int (nI lt))]) hx hb dX2_writeLetter_50 hl (k := 0) rfl (nI_add _ 1) (by decide) rfl (fun ls hl => ?_)
            refine lv_goto (tgt := 17) hx hb dX2_writeLetter_53 (by decide) ?_
            exact ih17 (k + 1) (by omega) (by omega) _ _ hP hS ls (lv_sub hl [0, 1, 2] rfl)
    exact lp17 (5 + 1) 0 (by omega) (by omega) _ _ hP hS ls (lv_sub hl [0, 1, 2] rfl)
  · refine u_top (y := nI 1) (by rw [decide_eq_false hq0]; rfl) ?_
    refine lv_if_eq (tgt := 10) hx hb dX2_writeLetter_5 (by decide) (fun c_5 => absurd c_5 (by decide)) (fun c_5 => ?_)
    refine lv_iconst (v := nI 0) hx hb dX2_writeLetter_8 (by decide) ?_
    exact hret _ _ _ _ _ (by rw [show thC [(lo (M 0 1), 1), (inZ x.toInt 0 ((ln (M 2) : Int) - 1), 2)] = thC [(lo (M 0 1), 1), (inZ x.toInt 0 ((ln (M 2) : Int) - 1), 2)] from thC_pre (L1 := [(lo (M 0 1), 1), (inZ x.toInt 0 ((ln (M 2) : Int) - 1), 2)]) (L2 := []) hq0, if_neg hq0]) (by rw [show thC [(lo (M 0 1), 1), (inZ x.toInt 0 ((ln (M 2) : Int) - 1), 2)] = thC [(lo (M 0 1), 1), (inZ x.toInt 0 ((ln (M 2) : Int) - 1), 2)] from thC_pre (L1 := [(lo (M 0 1), 1), (inZ x.toInt 0 ((ln (M 2) : Int) - 1), 2)]) (L2 := []) hq0, if_neg hq0]; exact hP) hS dX2_writeLetter_9

set_option maxHeartbeats 4000000 in
theorem c_X2_writeNear (l : Launch) (dC : Nat → ClassId) (dI : Nat → Nat → Nat) (dA : Nat → ClassId) (a : Nat → Nat) (M : Nat → Nat → Int32) (hJ : mJ a) (x : Int32) (hS1 : SWf (M 2)) (hT : TWf (M 1)) : Met l yX2_writeNear (ws_ yX2_writeNear cX2_writeNear 4 (some .int)) (rmD 6 0 0) (uPc [.ref (a 0), .int x] (mP dC dI dA a M) dC dI dA) (uMi (mA a) (if thC [(lo (M 0 1), 1), (inZ x.toInt 0 ((ln (M 2) : Int) - 1), 2)] = 0 then nI (wNr (M 2) (M 1) x.toNatClampNeg).length else nI 0) (mP dC dI dA a (if thC [(lo (M 0 1), 1), (inZ x.toInt 0 ((ln (M 2) : Int) - 1), 2)] = 0 then mrow (mrow M 0 (upd (upd (M 0) 0 (nI 0)) 21 (nI (wNr (M 2) (M 1) x.toNatClampNeg).length))) 7 (putL (M 7) 0 (wNr (M 2) (M 1) x.toNatClampNeg)) else mrow M 0 (upd (M 0) 0 (nI (thC [(lo (M 0 1), 1), (inZ x.toInt 0 ((ln (M 2) : Int) - 1), 2)])))))) 0 0 (mA a) := by
  refine u_metMi (own := RX2) (by decide) rfl (Nat.le_of_ble_eq_true rfl) fun p e R s m args below meth c Q SF rk hP hK hret ls hl => ?_
  have hx := SF.1
  have hb := SF.2.1
  have hml := SF.2.2.1
  have hown := SF.2.2.2.1
  have hts := SF.2.2.2.2
  have hS : uS (mA a) s.heap s.heap [] := uS.rf
  have hl : lv_has ls 4 [(0, .ref (a 0)), (1, .int x)] := hl
  have hL := hS1.2.1
  have hn9 := hT.2.1
  refine lv_aload_n hx hb dX2_writeNear_0 rfl (lv_at hl 0 rfl) ?_
  refine lv_iload_n hx hb dX2_writeNear_1 rfl (lv_at hl 1 rfl) ?_
  refine k_X2_noLetter  hJ hS1 SF hK (rk.le (Nat.le_of_ble_eq_true rfl)) hl.1 (Nat.le_of_ble_eq_true rfl) hP hS dX2_writeNear_2 (fun H locs hP hS => ?_)
  have hP : mP dC dI dA a (mrow M 0 (upd (M 0) 0 (nI (thC [(lo (M 0 1), 1), (inZ x.toInt 0 ((ln (M 2) : Int) - 1), 2)])))) H := hP
  by_cases hq0 : thC [(lo (M 0 1), 1), (inZ x.toInt 0 ((ln (M 2) : Int) - 1), 2)] = 0
  · obtain ⟨hz0, hz1⟩ := thC_2 hq0
    refine u_top (y := nI 0) (by rw [hq0]; rfl) ?_
    rw [hq0] at hP
    have hP : mP dC dI dA a (mrow M 0 (upd (M 0) 0 (nI 0))) H := hP
    obtain ⟨lt, hlt_lt, hsm_lt, rfl⟩ := inZ_n hz1
    have hcl_lt : (nI lt).toNatClampNeg = lt := nI_clamp (by omega)
    have hP : mP dC dI dA a (mrow M 0 (upd (M 0) 0 (nI 0))) H := by assumption
    refine lv_if_eq (tgt := 10) hx hb dX2_writeNear_5 (by decide) (fun c_5 => ?_) (fun c_5 => absurd (by decide) c_5)
    refine lv_aload_n hx hb dX2_writeNear_10 rfl (lv_at hl 0 rfl) ?_
    refine lv_iconst (v := nI 0) hx hb dX2_writeNear_11 (by decide) ?_
    refine m_pf_textLong SF hK hJ hP hS dX2_writeNear_12 (fun H locs hP hS => ?_)
    have hP : mP dC dI dA a (mrow M 0 (upd (upd (M 0) 0 (nI 0)) 21 (nI 0))) H := hP
    have hP : mP dC dI dA a (mrow (mrow M 0 (upd (upd (M 0) 0 (nI 0)) 21 (nI ((([] : List Nat)).length)))) 7 (putL (M 7) 0 ([] : List Nat))) H := m_says0 hP
    refine lv_iconst (v := nI 0) hx hb dX2_writeNear_15 (by decide) ?_
    refine lv_istore_n (lv' := [(2, .int (nI 0)), (0, .ref (a 0)), (1, .int (nI lt))]) hx hb dX2_writeNear_16 rfl hl (by decide) rfl (fun ls hl => ?_)
    have lp17 : ∀ (k0 : Nat) (k : Nat), k ≤ nrT (M 2) (M 1) lt → nrT (M 2) (M 1) lt < k + k0 → ∀ (H : Heap) (locs : List Loc), mP dC dI dA a (mrow (mrow M 0 (upd (upd (M 0) 0 (nI 0)) 21 (nI ((wNrK (M 2) (M 1) lt k).length)))) 7 (putL (M 7) 0 (wNrK (M 2) (M 1) lt k))) H → uS (mA a) s.heap H locs → ∀ ls : Array Slot, lv_has ls 4 [(2, .int (nI k)), (0, .ref (a 0)), (1, .int (nI lt))] → W p l e R s m args below meth c H locs 0 0 Q (F0 m 17 ls []) := by
      intro k0
      induction k0 with
      | zero =>
        intro k hk1 hk2; omega
      | succ k0 ih =>
        intro k hk1 hk2 H locs hP hS ls hl
        have ih17 := ih
        have hwl := wNrK_len (M 2) (M 1) lt k
        have hnr : nrT (M 2) (M 1) lt ≤ tn (M 1) := cntN_le _ _
        refine lv_iload_n hx hb dX2_writeNear_17 rfl (lv_at hl 0 rfl) ?_
        refine lv_aload_n hx hb dX2_writeNear_18 rfl (lv_at hl 1 rfl) ?_
        refine lv_iload_n hx hb dX2_writeNear_19 rfl (lv_at hl 2 rfl) ?_
        refine k_X2_nearTowns (M := mrow (mrow M 0 (upd (upd (M 0) 0 (nI 0)) 21 (nI ((wNrK (M 2) (M 1) lt k).length)))) 7 (putL (M 7) 0 (wNrK (M 2) (M 1) lt k)))  (show lt < ln (M 2) from (by omega)) hS1 hT SF hK (rk.le (Nat.le_of_ble_eq_true rfl)) hl.1 (Nat.le_of_ble_eq_true rfl) hP dX2_writeNear_20 ?_
        refine u_top (y := nI (nrT (M 2) (M 1) lt)) rfl ?_
        refine lv_icmp_ge (tgt := 70) hx hb dX2_writeNear_23 (by decide) (fun c_23 => ?_) (fun c_23 => ?_)
        · have c_23 : nrT (M 2) (M 1) lt ≤ k := (nI_leI (a := nrT (M 2) (M 1) lt) (b := k) (by omega) (by omega)).mp c_23
          refine lv_aload_n hx hb dX2_writeNear_70 rfl (lv_at hl 1 rfl) ?_
          refine va_get (D := (dC, dI)) (ci := 2) (v := .int (nI ((wNrK (M 2) (M 1) lt k).length))) (C := RX2) (T := TX2) (N := 22) hx hb hts in_X2 hown hK hP 0 rfl rfl 21 (by decide) (hts _ q1972) (fun _ h9 => h9) rfl dX2_writeNear_71 ?_
          refine lv_if_ne (tgt := 83) hx hb dX2_writeNear_74 (by decide) (fun c_74 => ?_) (fun c_74 => ?_)
          · have c_74 : ¬ ((wNrK (M 2) (M 1) lt k).length = 0) := fun q9 => c_74 ((nI_eq (a := (wNrK (M 2) (M 1) lt k).length) (b := 0) (by omega) (by omega)).mpr q9)
            refine lv_aload_n hx hb dX2_writeNear_83 rfl (lv_at hl 1 rfl) ?_
            refine va_get (D := (dC, dI)) (ci := 2) (v := .int (nI ((wNrK (M 2) (M 1) lt k).length))) (C := RX2) (T := TX2) (N := 22) hx hb hts in_X2 hown hK hP 0 rfl rfl 21 (by decide) (hts _ q1972) (fun _ h9 => h9) rfl dX2_writeNear_84 ?_
            exact hret _ _ _ _ _ (by rw [hz0, hz1]; show _ = _; rw [hcl_lt, wNr]; exact (congrArg (fun z => nI (List.length z)) (wNr_1 hn9 hk1 (by omega) (by omega))).symm) (by rw [hz0, hz1]; exact (by rw [hcl_lt, wNr]; rw [← wNr_1 hn9 hk1 (by omega) (by omega)] at hP; exact hP)) hS dX2_writeNear_87
          · have c_74 : (wNrK (M 2) (M 1) lt k).length = 0 := (nI_eq (a := (wNrK (M 2) (M 1) lt k).length) (b := 0) (by omega) (by omega)).mp c_74
            refine lv_aload_n hx hb dX2_writeNear_77 rfl (lv_at hl 1 rfl) ?_
            refine lv_bipush (v := nI 45) hx hb dX2_writeNear_78 (by decide) ?_
            refine k_X2_says (M := mrow (mrow M 0 (upd (upd (M 0) 0 (nI 0)) 21 (nI ((wNrK (M 2) (M 1) lt k).length)))) 7 (putL (M 7) 0 (wNrK (M 2) (M 1) lt k))) (n := (wNrK (M 2) (M 1) lt k).length) hJ rfl (by first | omega | (simp only [List.length_append, List.length_singleton, List.length_nil, rdL_len, sgC_len]; omega)) SF hK (rk.le (Nat.le_of_ble_eq_true rfl)) hl.1 (Nat.le_of_ble_eq_true rfl) hP hS dX2_writeNear_80 (fun H locs hP hS => ?_)
            have hP : mP dC dI dA a (mrow (mrow M 0 (upd (upd (M 0) 0 (nI 0)) 21 (nI (((wNrK (M 2) (M 1) lt k).length) + 1)))) 7 (putL (putL (M 7) 0 (wNrK (M 2) (M 1) lt k)) ((wNrK (M 2) (M 1) lt k).length) [45])) H := hP
            have hP : mP dC dI dA a (mrow (mrow M 0 (upd (upd (M 0) 0 (nI 0)) 21 (nI ((wNrK (M 2) (M 1) lt k ++ [45]).length)))) 7 (putL (M 7) 0 (wNrK (M 2) (M 1) lt k ++ [45]))) H := m_says (L := wNrK (M 2) (M 1) lt k) (Lc := [45]) hP
            refine lv_aload_n hx hb dX2_writeNear_83 rfl (lv_at hl 1 rfl) ?_
            refine va_get (D := (dC, dI)) (ci := 2) (v := .int (nI ((wNrK (M 2) (M 1) lt k ++ [45]).length))) (C := RX2) (T := TX2) (N := 22) hx hb hts in_X2 hown hK hP 0 rfl rfl 21 (by decide) (hts _ q1972) (fun _ h9 => h9) rfl dX2_writeNear_84 ?_
            exact hret _ _ _ _ _ (by rw [hz0, hz1]; show _ = _; rw [hcl_lt, wNr]; exact (congrArg (fun z => nI (List.length z)) (wNr_0 hn9 hk1 (by omega) (by omega))).symm) (by rw [hz0, hz1]; exact (by rw [hcl_lt, wNr]; rw [← wNr_0 hn9 hk1 (by omega) (by omega)] at hP; exact hP)) hS dX2_writeNear_87
        · have c_23 : ¬ (nrT (M 2) (M 1) lt ≤ k) := fun q9 => c_23 ((nI_leI (a := nrT (M 2) (M 1) lt) (b := k) (by omega) (by omega)).mpr q9)
          refine lv_iload_n hx hb dX2_writeNear_26 rfl (lv_at hl 0 rfl) ?_
          refine lv_if_le (tgt := 36) hx hb dX2_writeNear_27 (by decide) (fun c_27 => ?_) (fun c_27 => ?_)
          · have c_27 : k ≤ 0 := (nI_leI (a := k) (b := 0) (by omega) (by omega)).mp c_27
            refine lv_aload_n hx hb dX2_writeNear_36 rfl (lv_at hl 1 rfl) ?_
            refine lv_iload_n hx hb dX2_writeNear_37 rfl (lv_at hl 2 rfl) ?_
            refine lv_iload_n hx hb dX2_writeNear_38 rfl (lv_at hl 0 rfl) ?_
            refine k_X2_nearAt (M := mrow (mrow M 0 (upd (upd (M 0) 0 (nI 0)) 21 (nI ((wNrK (M 2) (M 1) lt k).length)))) 7 (putL (M 7) 0 (wNrK (M 2) (M 1) lt k)))  (show lt < ln (M 2) from (by omega)) hS1 hT SF hK (rk.le (Nat.le_of_ble_eq_true rfl)) hl.1 (Nat.le_of_ble_eq_true rfl) hP dX2_writeNear_39 ?_
            refine u_top (y := oI (nrA (M 2) (M 1) lt (nI k))) rfl ?_
            rcases hE : nrA (M 2) (M 1) lt (nI k) with _ | t9
            · obtain ⟨t9, h9⟩ := nrA_ex hn9 (show k < nrT (M 2) (M 1) lt by omega)
              rw [hE] at h9
              cases h9
            · have ht9 := nrA_lt hE
              have hf9 := farT_le (M 2) (M 1) lt t9
              refine u_top (y := nI t9) rfl ?_
              refine lv_istore_n (lv' := [(3, .int (nI t9)), (2, .int (nI k)), (0, .ref (a 0)), (1, .int (nI lt))]) hx hb dX2_writeNear_42 rfl hl (by decide) rfl (fun ls hl => ?_)
              refine lv_aload_n hx hb dX2_writeNear_43 rfl (lv_at hl 2 rfl) ?_
              refine lv_iload_n hx hb dX2_writeNear_44 rfl (lv_at hl 0 rfl) ?_
              refine k_X2_saysCode (M := mrow (mrow M 0 (upd (upd (M 0) 0 (nI 0)) 21 (nI ((wNrK (M 2) (M 1) lt k).length)))) 7 (putL (M 7) 0 (wNrK (M 2) (M 1) lt k))) (n := (wNrK (M 2) (M 1) lt k).length) hJ rfl (by first | omega | (simp only [List.length_append, List.length_singleton, List.length_nil, rdL_len, sgC_len]; omega)) ht9 hT SF hK (rk.le (Nat.le_of_ble_eq_true rfl)) hl.1 (Nat.le_of_ble_eq_true rfl) hP hS dX2_writeNear_45 (fun H locs hP hS => ?_)
              have hP : mP dC dI dA a (mrow (mrow M 0 (upd (upd (M 0) 0 (nI 0)) 21 (nI (((wNrK (M 2) (M 1) lt k).length) + 5)))) 7 (putL (putL (M 7) 0 (wNrK (M 2) (M 1) lt k)) ((wNrK (M 2) (M 1) lt k).length) (sgC (cd (num (M 1) t9)) 5))) H := hP
              have hP : mP dC dI dA a (mrow (mrow M 0 (upd (upd (M 0) 0 (nI 0)) 21 (nI ((wNrK (M 2) (M 1) lt k ++ sgC (cd (num (M 1) t9)) 5).length)))) 7 (putL (M 7) 0 (wNrK (M 2) (M 1) lt k ++ sgC (cd (num (M 1) t9)) 5))) H := m_says (L := wNrK (M 2) (M 1) lt k) (Lc := sgC (cd (num (M 1) t9)) 5) hP
              refine lv_aload_n hx hb dX2_writeNear_48 rfl (lv_at hl 2 rfl) ?_
              refine lv_bipush (v := nI 58) hx hb dX2_writeNear_49 (by decide) ?_
              refine k_X2_says (M := mrow (mrow M 0 (upd (upd (M 0) 0 (nI 0)) 21 (nI ((wNrK (M 2) (M 1) lt k ++ sgC (cd (num (M 1) t9)) 5).length)))) 7 (putL (M 7) 0 (wNrK (M 2) (M 1) lt k ++ sgC (cd (num (M 1) t9)) 5))) (n := (wNrK (M 2) (M 1) lt k ++ sgC (cd (num (M 1) t9)) 5).length) hJ rfl (by first | omega | (simp only [List.length_append, List.length_singleton, List.length_nil, rdL_len, sgC_len]; omega)) SF hK (rk.le (Nat.le_of_ble_eq_true rfl)) hl.1 (Nat.le_of_ble_eq_true rfl) hP hS dX2_writeNear_51 (fun H locs hP hS => ?_)
              have hP : mP dC dI dA a (mrow (mrow M 0 (upd (upd (M 0) 0 (nI 0)) 21 (nI (((wNrK (M 2) (M 1) lt k ++ sgC (cd (num (M 1) t9)) 5).length) + 1)))) 7 (putL (putL (M 7) 0 (wNrK (M 2) (M 1) lt k ++ sgC (cd (num (M 1) t9)) 5)) ((wNrK (M 2) (M 1) lt k ++ sgC (cd (num (M 1) t9)) 5).length) [58])) H := hP
              have hP : mP dC dI dA a (mrow (mrow M 0 (upd (upd (M 0) 0 (nI 0)) 21 (nI ((wNrK (M 2) (M 1) lt k ++ sgC (cd (num (M 1) t9)) 5 ++ [58]).length)))) 7 (putL (M 7) 0 (wNrK (M 2) (M 1) lt k ++ sgC (cd (num (M 1) t9)) 5 ++ [58]))) H := m_says (L := wNrK (M 2) (M 1) lt k ++ sgC (cd (num (M 1) t9)) 5) (Lc := [58]) hP
              refine lv_aload_n hx hb dX2_writeNear_54 rfl (lv_at hl 2 rfl) ?_
              refine lv_aload_n hx hb dX2_writeNear_55 rfl (lv_at hl 2 rfl) ?_
              refine lv_iload_n hx hb dX2_writeNear_56 rfl (lv_at hl 3 rfl) ?_
              refine lv_iload_n hx hb dX2_writeNear_57 rfl (lv_at hl 0 rfl) ?_
              refine k_X2_farTown (M := mrow (mrow M 0 (upd (upd (M 0) 0 (nI 0)) 21 (nI ((wNrK (M 2) (M 1) lt k ++ sgC (cd (num (M 1) t9)) 5 ++ [58]).length)))) 7 (putL (M 7) 0 (wNrK (M 2) (M 1) lt k ++ sgC (cd (num (M 1) t9)) 5 ++ [58])))  (show lt < ln (M 2) from (by omega)) ht9 hS1 hT SF hK (rk.le (Nat.le_of_ble_eq_true rfl)) hl.1 (Nat.le_of_ble_eq_true rfl) hP dX2_writeNear_58 ?_
              refine u_top (y := nI (farT (M 2) (M 1) lt t9)) rfl ?_
              refine k_X2_saysNumber (M := mrow (mrow M 0 (upd (upd (M 0) 0 (nI 0)) 21 (nI ((wNrK (M 2) (M 1) lt k ++ sgC (cd (num (M 1) t9)) 5 ++ [58]).length)))) 7 (putL (M 7) 0 (wNrK (M 2) (M 1) lt k ++ sgC (cd (num (M 1) t9)) 5 ++ [58]))) (n := (wNrK (M 2) (M 1) lt k ++ sgC (cd (num (M 1) t9)) 5 ++ [58]).length) hJ rfl (by first | omega | (simp only [List.length_append, List.length_singleton, List.length_nil, rdL_len, sgC_len]; omega)) (by have := farT_le (M 2) (M 1) lt t9; omega) SF hK (rk.le (Nat.le_of_ble_eq_true rfl)) hl.1 (Nat.le_of_ble_eq_true rfl) hP hS dX2_writeNear_61 (fun H locs hP hS => ?_)
              have hP : mP dC dI dA a (mrow (mrow M 0 (upd (upd (M 0) 0 (nI 0)) 21 (nI (((wNrK (M 2) (M 1) lt k ++ sgC (cd (num (M 1) t9)) 5 ++ [58]).length) + (sgN (farT (M 2) (M 1) lt t9)).length)))) 7 (putL (putL (M 7) 0 (wNrK (M 2) (M 1) lt k ++ sgC (cd (num (M 1) t9)) 5 ++ [58])) ((wNrK (M 2) (M 1) lt k ++ sgC (cd (num (M 1) t9)) 5 ++ [58]).length) (sgN (farT (M 2) (M 1) lt t9)))) H := hP
              have hP : mP dC dI dA a (mrow (mrow M 0 (upd (upd (M 0) 0 (nI 0)) 21 (nI ((wNrK (M 2) (M 1) lt k ++ sgC (cd (num (M 1) t9)) 5 ++ [58] ++ sgN (farT (M 2) (M 1) lt t9)).length)))) 7 (putL (M 7) 0 (wNrK (M 2) (M 1) lt k ++ sgC (cd (num (M 1) t9)) 5 ++ [58] ++ sgN (farT (M 2) (M 1) lt t9)))) H := m_says (L := wNrK (M 2) (M 1) lt k ++ sgC (cd (num (M 1) t9)) 5 ++ [58]) (Lc := sgN (farT (M 2) (M 1) lt t9)) hP
              refine lv_iinc (v := nI (k + 1)) (lv' := [(2, .int (nI (k + 1))), (3, .int (nI t9)), (0, .ref (a 0)), (1, .int (nI lt))]) hx hb dX2_writeNear_64 hl (k := 1) rfl (nI_add _ 1) (by decide) rfl (fun ls hl => ?_)
              refine lv_goto (tgt := 17) hx hb dX2_writeNear_67 (by decide) ?_
              exact ih17 (k + 1) (by omega) (by omega) _ _ (by rw [wNrK_s hE]; simpa [show ¬ 0 < k by omega] using hP) hS ls (lv_sub hl [0, 2, 3] rfl)
          · have c_27 : ¬ (k ≤ 0) := fun q9 => c_27 ((nI_leI (a := k) (b := 0) (by omega) (by omega)).mpr q9)
            refine lv_aload_n hx hb dX2_writeNear_30 rfl (lv_at hl 1 rfl) ?_
            refine lv_bipush (v := nI 32) hx hb dX2_writeNear_31 (by decide) ?_
            refine k_X2_says (M := mrow (mrow M 0 (upd (upd (M 0) 0 (nI 0)) 21 (nI ((wNrK (M 2) (M 1) lt k).length)))) 7 (putL (M 7) 0 (wNrK (M 2) (M 1) lt k))) (n := (wNrK (M 2) (M 1) lt k).length) hJ rfl (by first | omega | (simp only [List.length_append, List.length_singleton, List.length_nil, rdL_len, sgC_len]; omega)) SF hK (rk.le (Nat.le_of_ble_eq_true rfl)) hl.1 (Nat.le_of_ble_eq_true rfl) hP hS dX2_writeNear_33 (fun H locs hP hS => ?_)
            have hP : mP dC dI dA a (mrow (mrow M 0 (upd (upd (M 0) 0 (nI 0)) 21 (nI (((wNrK (M 2) (M 1) lt k).length) + 1)))) 7 (putL (putL (M 7) 0 (wNrK (M 2) (M 1) lt k)) ((wNrK (M 2) (M 1) lt k).length) [32])) H := hP
            have hP : mP dC dI dA a (mrow (mrow M 0 (upd (upd (M 0) 0 (nI 0)) 21 (nI ((wNrK (M 2) (M 1) lt k ++ [32]).length)))) 7 (putL (M 7) 0 (wNrK (M 2) (M 1) lt k ++ [32]))) H := m_says (L := wNrK (M 2) (M 1) lt k) (Lc := [32]) hP
            refine lv_aload_n hx hb dX2_writeNear_36 rfl (lv_at hl 1 rfl) ?_
            refine lv_iload_n hx hb dX2_writeNear_37 rfl (lv_at hl 2 rfl) ?_
            refine lv_iload_n hx hb dX2_writeNear_38 rfl (lv_at hl 0 rfl) ?_
            refine k_X2_nearAt (M := mrow (mrow M 0 (upd (upd (M 0) 0 (nI 0)) 21 (nI ((wNrK (M 2) (M 1) lt k ++ [32]).length)))) 7 (putL (M 7) 0 (wNrK (M 2) (M 1) lt k ++ [32])))  (show lt < ln (M 2) from (by omega)) hS1 hT SF hK (rk.le (Nat.le_of_ble_eq_true rfl)) hl.1 (Nat.le_of_ble_eq_true rfl) hP dX2_writeNear_39 ?_
            refine u_top (y := oI (nrA (M 2) (M 1) lt (nI k))) rfl ?_
            rcases hE : nrA (M 2) (M 1) lt (nI k) with _ | t9
            · obtain ⟨t9, h9⟩ := nrA_ex hn9 (show k < nrT (M 2) (M 1) lt by omega)
              rw [hE] at h9
              cases h9
            · have ht9 := nrA_lt hE
              have hf9 := farT_le (M 2) (M 1) lt t9
              refine u_top (y := nI t9) rfl ?_
              refine lv_istore_n (lv' := [(3, .int (nI t9)), (2, .int (nI k)), (0, .ref (a 0)), (1, .int (nI lt))]) hx hb dX2_writeNear_42 rfl hl (by decide) rfl (fun ls hl => ?_)
              refine lv_aload_n hx hb dX2_writeNear_43 rfl (lv_at hl 2 rfl) ?_
              refine lv_iload_n hx hb dX2_writeNear_44 rfl (lv_at hl 0 rfl) ?_
              refine k_X2_saysCode (M := mrow (mrow M 0 (upd (upd (M 0) 0 (nI 0)) 21 (nI ((wNrK (M 2) (M 1) lt k ++ [32]).length)))) 7 (putL (M 7) 0 (wNrK (M 2) (M 1) lt k ++ [32]))) (n := (wNrK (M 2) (M 1) lt k ++ [32]).length) hJ rfl (by first | omega | (simp only [List.length_append, List.length_singleton, List.length_nil, rdL_len, sgC_len]; omega)) ht9 hT SF hK (rk.le (Nat.le_of_ble_eq_true rfl)) hl.1 (Nat.le_of_ble_eq_true rfl) hP hS dX2_writeNear_45 (fun H locs hP hS => ?_)
              have hP : mP dC dI dA a (mrow (mrow M 0 (upd (upd (M 0) 0 (nI 0)) 21 (nI (((wNrK (M 2) (M 1) lt k ++ [32]).length) + 5)))) 7 (putL (putL (M 7) 0 (wNrK (M 2) (M 1) lt k ++ [32])) ((wNrK (M 2) (M 1) lt k ++ [32]).length) (sgC (cd (num (M 1) t9)) 5))) H := hP
              have hP : mP dC dI dA a (mrow (mrow M 0 (upd (upd (M 0) 0 (nI 0)) 21 (nI ((wNrK (M 2) (M 1) lt k ++ [32] ++ sgC (cd (num (M 1) t9)) 5).length)))) 7 (putL (M 7) 0 (wNrK (M 2) (M 1) lt k ++ [32] ++ sgC (cd (num (M 1) t9)) 5))) H := m_says (L := wNrK (M 2) (M 1) lt k ++ [32]) (Lc := sgC (cd (num (M 1) t9)) 5) hP
              refine lv_aload_n hx hb dX2_writeNear_48 rfl (lv_at hl 2 rfl) ?_
              refine lv_bipush (v := nI 58) hx hb dX2_writeNear_49 (by decide) ?_
              refine k_X2_says (M := mrow (mrow M 0 (upd (upd (M 0) 0 (nI 0)) 21 (nI ((wNrK (M 2) (M 1) lt k ++ [32] ++ sgC (cd (num (M 1) t9)) 5).length)))) 7 (putL (M 7) 0 (wNrK (M 2) (M 1) lt k ++ [32] ++ sgC (cd (num (M 1) t9)) 5))) (n := (wNrK (M 2) (M 1) lt k ++ [32] ++ sgC (cd (num (M 1) t9)) 5).length) hJ rfl (by first | omega | (simp only [List.length_append, List.length_singleton, List.length_nil, rdL_len, sgC_len]; omega)) SF hK (rk.le (Nat.le_of_ble_eq_true rfl)) hl.1 (Nat.le_of_ble_eq_true rfl) hP hS dX2_writeNear_51 (fun H locs hP hS => ?_)
              have hP : mP dC dI dA a (mrow (mrow M 0 (upd (upd (M 0) 0 (nI 0)) 21 (nI (((wNrK (M 2) (M 1) lt k ++ [32] ++ sgC (cd (num (M 1) t9)) 5).length) + 1)))) 7 (putL (putL (M 7) 0 (wNrK (M 2) (M 1) lt k ++ [32] ++ sgC (cd (num (M 1) t9)) 5)) ((wNrK (M 2) (M 1) lt k ++ [32] ++ sgC (cd (num (M 1) t9)) 5).length) [58])) H := hP
              have hP : mP dC dI dA a (mrow (mrow M 0 (upd (upd (M 0) 0 (nI 0)) 21 (nI ((wNrK (M 2) (M 1) lt k ++ [32] ++ sgC (cd (num (M 1) t9)) 5 ++ [58]).length)))) 7 (putL (M 7) 0 (wNrK (M 2) (M 1) lt k ++ [32] ++ sgC (cd (num (M 1) t9)) 5 ++ [58]))) H := m_says (L := wNrK (M 2) (M 1) lt k ++ [32] ++ sgC (cd (num (M 1) t9)) 5) (Lc := [58]) hP
              refine lv_aload_n hx hb dX2_writeNear_54 rfl (lv_at hl 2 rfl) ?_
              refine lv_aload_n hx hb dX2_writeNear_55 rfl (lv_at hl 2 rfl) ?_
              refine lv_iload_n hx hb dX2_writeNear_56 rfl (lv_at hl 3 rfl) ?_
              refine lv_iload_n hx hb dX2_writeNear_57 rfl (lv_at hl 0 rfl) ?_
              refine k_X2_farTown (M := mrow (mrow M 0 (upd (upd (M 0) 0 (nI 0)) 21 (nI ((wNrK (M 2) (M 1) lt k ++ [32] ++ sgC (cd (num (M 1) t9)) 5 ++ [58]).length)))) 7 (putL (M 7) 0 (wNrK (M 2) (M 1) lt k ++ [32] ++ sgC (cd (num (M 1) t9)) 5 ++ [58])))  (show lt < ln (M 2) from (by omega)) ht9 hS1 hT SF hK (rk.le (Nat.le_of_ble_eq_true rfl)) hl.1 (Nat.le_of_ble_eq_true rfl) hP dX2_writeNear_58 ?_
              refine u_top (y := nI (farT (M 2) (M 1) lt t9)) rfl ?_
              refine k_X2_saysNumber (M := mrow (mrow M 0 (upd (upd (M 0) 0 (nI 0)) 21 (nI ((wNrK (M 2) (M 1) lt k ++ [32] ++ sgC (cd (num (M 1) t9)) 5 ++ [58]).length)))) 7 (putL (M 7) 0 (wNrK (M 2) (M 1) lt k ++ [32] ++ sgC (cd (num (M 1) t9)) 5 ++ [58]))) (n := (wNrK (M 2) (M 1) lt k ++ [32] ++ sgC (cd (num (M 1) t9)) 5 ++ [58]).length) hJ rfl (by first | omega | (simp only [List.length_append, List.length_singleton, List.length_nil, rdL_len, sgC_len]; omega)) (by have := farT_le (M 2) (M 1) lt t9; omega) SF hK (rk.le (Nat.le_of_ble_eq_true rfl)) hl.1 (Nat.le_of_ble_eq_true rfl) hP hS dX2_writeNear_61 (fun H locs hP hS => ?_)
              have hP : mP dC dI dA a (mrow (mrow M 0 (upd (upd (M 0) 0 (nI 0)) 21 (nI (((wNrK (M 2) (M 1) lt k ++ [32] ++ sgC (cd (num (M 1) t9)) 5 ++ [58]).length) + (sgN (farT (M 2) (M 1) lt t9)).length)))) 7 (putL (putL (M 7) 0 (wNrK (M 2) (M 1) lt k ++ [32] ++ sgC (cd (num (M 1) t9)) 5 ++ [58])) ((wNrK (M 2) (M 1) lt k ++ [32] ++ sgC (cd (num (M 1) t9)) 5 ++ [58]).length) (sgN (farT (M 2) (M 1) lt t9)))) H := hP
              have hP : mP dC dI dA a (mrow (mrow M 0 (upd (upd (M 0) 0 (nI 0)) 21 (nI ((wNrK (M 2) (M 1) lt k ++ [32] ++ sgC (cd (num (M 1) t9)) 5 ++ [58] ++ sgN (farT (M 2) (M 1) lt t9)).length)))) 7 (putL (M 7) 0 (wNrK (M 2) (M 1) lt k ++ [32] ++ sgC (cd (num (M 1) t9)) 5 ++ [58] ++ sgN (farT (M 2) (M 1) lt t9)))) H := m_says (L := wNrK (M 2) (M 1) lt k ++ [32] ++ sgC (cd (num (M 1) t9)) 5 ++ [58]) (Lc := sgN (farT (M 2) (M 1) lt t9)) hP
              refine lv_iinc (v := nI (k + 1)) (lv' := [(2, .int (nI (k + 1))), (3, .int (nI t9)), (0, .ref (a 0)), (1, .int (nI lt))]) hx hb dX2_writeNear_64 hl (k := 1) rfl (nI_add _ 1) (by decide) rfl (fun ls hl => ?_)
              refine lv_goto (tgt := 17) hx hb dX2_writeNear_67 (by decide) ?_
              exact ih17 (k + 1) (by omega) (by omega) _ _ (by rw [wNrK_s hE]; simpa [show 0 < k by omega] using hP) hS ls (lv_sub hl [0, 2, 3] rfl)
    exact lp17 (nrT (M 2) (M 1) lt + 1) 0 (by omega) (by omega) _ _ hP hS ls (lv_sub hl [0, 1, 2] rfl)
  · refine u_top (y := nI 1) (by rw [decide_eq_false hq0]; rfl) ?_
    refine lv_if_eq (tgt := 10) hx hb dX2_writeNear_5 (by decide) (fun c_5 => absurd c_5 (by decide)) (fun c_5 => ?_)
    refine lv_iconst (v := nI 0) hx hb dX2_writeNear_8 (by decide) ?_
    exact hret _ _ _ _ _ (by rw [show thC [(lo (M 0 1), 1), (inZ x.toInt 0 ((ln (M 2) : Int) - 1), 2)] = thC [(lo (M 0 1), 1), (inZ x.toInt 0 ((ln (M 2) : Int) - 1), 2)] from thC_pre (L1 := [(lo (M 0 1), 1), (inZ x.toInt 0 ((ln (M 2) : Int) - 1), 2)]) (L2 := []) hq0, if_neg hq0]) (by rw [show thC [(lo (M 0 1), 1), (inZ x.toInt 0 ((ln (M 2) : Int) - 1), 2)] = thC [(lo (M 0 1), 1), (inZ x.toInt 0 ((ln (M 2) : Int) - 1), 2)] from thC_pre (L1 := [(lo (M 0 1), 1), (inZ x.toInt 0 ((ln (M 2) : Int) - 1), 2)]) (L2 := []) hq0, if_neg hq0]; exact hP) hS dX2_writeNear_9
end TW
