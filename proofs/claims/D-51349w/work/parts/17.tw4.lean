set_option maxRecDepth 100000
section TW
variable {p : Program} {l : Launch} {e : Env} {R : Room} {s : State} {m : MethodId} {args : Array Value} {below : List Frame} {meth : Method} {c : Code} {H : Heap} {locs : List Loc} {Q : State → Prop}
variable {cc : ByteArray} {pc nL : Nat} {ls : Array Slot} {rest : List Value} {dC : Nat → ClassId} {dI : Nat → Nat → Nat} {dA : Nat → ClassId} {a : Nat → Nat} {M : Nat → Nat → Int32} {H0 : Heap}

set_option maxHeartbeats 4000000 in
theorem c_X2_laysAside (l : Launch) (dC : Nat → ClassId) (dI : Nat → Nat → Nat) (dA : Nat → ClassId) (a : Nat → Nat) (M : Nat → Nat → Int32) (hJ : mJ a)   : Met l yX2_laysAside (ws_ yX2_laysAside cX2_laysAside 1 none) (rmD 1 0 0) (uPc [.ref (a 0)] (mP dC dI dA a M) dC dI dA) (uMv (mA a) (mP dC dI dA a (mrow M 3 (va_cpy (M 2) (M 3) 0 2730 273)))) 0 0 (mA a) := by
  refine u_metMv (own := RX2) (by decide) rfl (Nat.le_of_ble_eq_true rfl) fun p e R s m args below meth c Q SF rk hP hK hret ls hl => ?_
  have hx := SF.1
  have hb := SF.2.1
  have hml := SF.2.2.1
  have hown := SF.2.2.2.1
  have hts := SF.2.2.2.2
  have hS : uS (mA a) s.heap s.heap [] := uS.rf
  have hl : lv_has ls 1 [(0, .ref (a 0))] := hl
  refine lv_aload_n hx hb dX2_laysAside_0 rfl (lv_at hl 0 rfl) ?_
  refine va_get (D := (dC, dI)) (ci := 2) (v := .ref (a 2)) (C := RX2) (T := TX2) (N := 22) hx hb hts in_X2 hown hK hP 0 rfl rfl 3 (by decide) (hts _ q1954) (fun _ h9 => h9) rfl dX2_laysAside_1 ?_
  refine lv_iconst (v := nI 0) hx hb dX2_laysAside_4 (by decide) ?_
  refine lv_aload_n hx hb dX2_laysAside_5 rfl (lv_at hl 0 rfl) ?_
  refine va_get (D := (dC, dI)) (ci := 2) (v := .ref (a 3)) (C := RX2) (T := TX2) (N := 22) hx hb hts in_X2 hown hK hP 0 rfl rfl 4 (by decide) (hts _ q1955) (fun _ h9 => h9) rfl dX2_laysAside_6 ?_
  refine lv_sipush (v := nI 2730) hx hb dX2_laysAside_9 (by decide) ?_
  refine k_X2_copiesA  hJ (by omega) (by omega) SF hK (rk.le (Nat.le_of_ble_eq_true rfl)) hl.1 (Nat.le_of_ble_eq_true rfl) hP hS dX2_laysAside_12 (fun H locs hP hS => ?_)
  have hP : mP dC dI dA a (mrow M 3 (va_cpy (M 2) (M 3) 0 2730 273)) H := hP
  exact hret _ _ _ _ hP hS dX2_laysAside_15
theorem k_X2_laysAside (hJ : mJ a)   (SF : CallFix p m c cc nL s args lw_all RX2) (hK : KK dC dI dA s) (rk : rmOK 2 R) (hsz : ls.size = nL) (hcat : (rest.map fun v => v.category).sum ≤ 8) (hP : mP dC dI dA a M H) (hS : uS (mA a) H0 H locs) (hdg : decode cc pc = .ok (.invokevirtual 248, 3)) (k : ∀ (H1 : Heap) (locs1 : List Loc), mP dC dI dA a (mrow M 3 (va_cpy (M 2) (M 3) 0 2730 273)) H1 → uS (mA a) H0 H1 locs1 → W p l e R s m args below meth c H1 locs1 0 0 Q (F0 m (pc + 3) ls (rest))) : W p l e R s m args below meth c H locs 0 0 Q (F0 m pc ls (.ref (a 0) :: rest)) :=
  u_runMv (u_rV (C := RX2) (Ψ := (mP dC dI dA a M)) (As := []) SF hK rk (c_X2_laysAside l dC dI dA a M hJ  ) (lw_V q2049 q2051 qs48 q117 q2052) (n := 0) (by decide +kernel) rfl (by decide) (va_recv hK hP (ci := 2) (q0 := 0) rfl rfl) hP hsz hcat ⟨Nat.zero_le _, Nat.zero_le _⟩ rfl hdg) hS (fun _ h => h) (fun H1 locs1 h1 h2 _ => k H1 locs1 h1 h2)

set_option maxHeartbeats 4000000 in
theorem c_X2_back (l : Launch) (dC : Nat → ClassId) (dI : Nat → Nat → Nat) (dA : Nat → ClassId) (a : Nat → Nat) (M : Nat → Nat → Int32) (hJ : mJ a) (x : Int32)  : Met l yX2_back (ws_ yX2_back cX2_back 2 (some .int)) (rmD 1 0 0) (uPc [.ref (a 0), .int x] (mP dC dI dA a M) dC dI dA) (uMi (mA a) (x) (mP dC dI dA a (mrow M 2 (va_cpy (M 3) (M 2) 2730 0 273)))) 0 0 (mA a) := by
  refine u_metMi (own := RX2) (by decide) rfl (Nat.le_of_ble_eq_true rfl) fun p e R s m args below meth c Q SF rk hP hK hret ls hl => ?_
  have hx := SF.1
  have hb := SF.2.1
  have hml := SF.2.2.1
  have hown := SF.2.2.2.1
  have hts := SF.2.2.2.2
  have hS : uS (mA a) s.heap s.heap [] := uS.rf
  have hl : lv_has ls 2 [(0, .ref (a 0)), (1, .int x)] := hl
  refine lv_aload_n hx hb dX2_back_0 rfl (lv_at hl 0 rfl) ?_
  refine va_get (D := (dC, dI)) (ci := 2) (v := .ref (a 3)) (C := RX2) (T := TX2) (N := 22) hx hb hts in_X2 hown hK hP 0 rfl rfl 4 (by decide) (hts _ q1955) (fun _ h9 => h9) rfl dX2_back_1 ?_
  refine lv_sipush (v := nI 2730) hx hb dX2_back_4 (by decide) ?_
  refine lv_aload_n hx hb dX2_back_7 rfl (lv_at hl 0 rfl) ?_
  refine va_get (D := (dC, dI)) (ci := 2) (v := .ref (a 2)) (C := RX2) (T := TX2) (N := 22) hx hb hts in_X2 hown hK hP 0 rfl rfl 3 (by decide) (hts _ q1954) (fun _ h9 => h9) rfl dX2_back_8 ?_
  refine lv_iconst (v := nI 0) hx hb dX2_back_11 (by decide) ?_
  refine k_X2_copiesB  hJ (by omega) (by omega) SF hK (rk.le (Nat.le_of_ble_eq_true rfl)) hl.1 (Nat.le_of_ble_eq_true rfl) hP hS dX2_back_12 (fun H locs hP hS => ?_)
  have hP : mP dC dI dA a (mrow M 2 (va_cpy (M 3) (M 2) 2730 0 273)) H := hP
  refine lv_iload_n hx hb dX2_back_15 rfl (lv_at hl 1 rfl) ?_
  exact hret _ _ _ _ _ rfl hP hS dX2_back_16
theorem k_X2_back (hJ : mJ a) {x : Int32}  (SF : CallFix p m c cc nL s args lw_all RX2) (hK : KK dC dI dA s) (rk : rmOK 2 R) (hsz : ls.size = nL) (hcat : (rest.map fun v => v.category).sum ≤ 8) (hP : mP dC dI dA a M H) (hS : uS (mA a) H0 H locs) (hdg : decode cc pc = .ok (.invokevirtual 254, 3)) (k : ∀ (H1 : Heap) (locs1 : List Loc), mP dC dI dA a (mrow M 2 (va_cpy (M 3) (M 2) 2730 0 273)) H1 → uS (mA a) H0 H1 locs1 → W p l e R s m args below meth c H1 locs1 0 0 Q (F0 m (pc + 3) ls (.int (x) :: rest))) : W p l e R s m args below meth c H locs 0 0 Q (F0 m pc ls (.int x :: .ref (a 0) :: rest)) :=
  u_runM (u_rV (C := RX2) (Ψ := (mP dC dI dA a M)) (As := [.int x]) SF hK rk (c_X2_back l dC dI dA a M hJ x ) (lw_V q2228 q2230 qs82 q117 q2231) (n := 1) (by decide +kernel) rfl (by decide) (va_recv hK hP (ci := 2) (q0 := 0) rfl rfl) hP hsz hcat ⟨Nat.zero_le _, Nat.zero_le _⟩ rfl hdg) hS (fun _ h => h) (fun H1 locs1 h1 h2 _ => k H1 locs1 h1 h2)

set_option maxHeartbeats 4000000 in
theorem c_X2_sorts (l : Launch) (dC : Nat → ClassId) (dI : Nat → Nat → Nat) (dA : Nat → ClassId) (a : Nat → Nat) (M : Nat → Nat → Int32) (hJ : mJ a) (lt : Nat) (hlt : lt < ln (M 2)) (hS1 : SWf (M 2)) (hT : TWf (M 1)) : Met l yX2_sorts (ws_ yX2_sorts cX2_sorts 5 (some .int)) (rmD 13 0 0) (uPc [.ref (a 0), .int (nI lt)] (mP dC dI dA a M) dC dI dA) (uMi (mA a) (oI (srtR (M 2) (M 1) lt)) (mP dC dI dA a (mrow M 2 (srtS (M 2) (M 1) lt)))) 0 0 (mA a) := by
  refine u_metMi (own := RX2) (by decide) rfl (Nat.le_of_ble_eq_true rfl) fun p e R s m args below meth c Q SF rk hP hK hret ls hl => ?_
  have hx := SF.1
  have hb := SF.2.1
  have hml := SF.2.2.1
  have hown := SF.2.2.2.1
  have hts := SF.2.2.2.2
  have hS : uS (mA a) s.heap s.heap [] := uS.rf
  have hl : lv_has ls 5 [(0, .ref (a 0)), (1, .int (nI lt))] := hl
  have hL := hS1.2.1
  have hn9 := hT.2.1
  have hc9 := cau_le (M 2) (M 1) lt
  refine lv_aload_n hx hb dX2_sorts_0 rfl (lv_at hl 0 rfl) ?_
  refine lv_iload_n hx hb dX2_sorts_1 rfl (lv_at hl 1 rfl) ?_
  refine k_X2_causeNow  hlt hS1 hT SF hK (rk.le (Nat.le_of_ble_eq_true rfl)) hl.1 (Nat.le_of_ble_eq_true rfl) hP dX2_sorts_2 ?_
  refine lv_istore_n (lv' := [(2, .int (nI (cau (M 2) (M 1) lt))), (0, .ref (a 0)), (1, .int (nI lt))]) hx hb dX2_sorts_5 rfl hl (by decide) rfl (fun ls hl => ?_)
  refine lv_iload_n hx hb dX2_sorts_6 rfl (lv_at hl 0 rfl) ?_
  refine lv_if_eq (tgt := 28) hx hb dX2_sorts_7 (by decide) (fun c_7 => ?_) (fun c_7 => ?_)
  · have c_7 : cau (M 2) (M 1) lt = 0 := (nI_eq (a := cau (M 2) (M 1) lt) (b := 0) (by omega) (by omega)).mp c_7
    refine lv_aload_n hx hb dX2_sorts_28 rfl (lv_at hl 1 rfl) ?_
    refine lv_iload_n hx hb dX2_sorts_29 rfl (lv_at hl 2 rfl) ?_
    refine k_X2_decidedFor  hlt hS1 hT SF hK (rk.le (Nat.le_of_ble_eq_true rfl)) hl.1 (Nat.le_of_ble_eq_true rfl) hP dX2_sorts_30 ?_
    rcases hE : dcd (M 2) (M 1) lt with _ | t9
    · obtain ⟨t9, h9⟩ := cau_0 c_7
      rw [hE] at h9
      cases h9
    · have ht9 := dcd_lt hE
      have hr9 := (hT.2.2 t9 ht9).2.2.2
      refine u_top (y := nI t9) rfl ?_
      refine lv_istore_n (lv' := [(3, .int (nI t9)), (2, .int (nI (cau (M 2) (M 1) lt))), (0, .ref (a 0)), (1, .int (nI lt))]) hx hb dX2_sorts_33 rfl hl (by decide) rfl (fun ls hl => ?_)
      refine lv_aload_n hx hb dX2_sorts_34 rfl (lv_at hl 2 rfl) ?_
      refine va_get (D := (dC, dI)) (ci := 2) (v := .ref (a 1)) (C := RX2) (T := TX2) (N := 22) hx hb hts in_X2 hown hK hP 0 rfl rfl 2 (by decide) (hts _ q1953) (fun _ h9 => h9) rfl dX2_sorts_35 ?_
      refine lv_bipush (v := nI 14) hx hb dX2_sorts_38 (by decide) ?_
      refine lv_iload_n hx hb dX2_sorts_40 rfl (lv_at hl 0 rfl) ?_
      refine lv_iadd hx hb dX2_sorts_41 ?_
      refine u_top (nI_add _ _) ?_
      refine u_iald hx hb hK hP 1 0 rfl rfl (i := 14 + t9) (by omega) (by decide) dX2_sorts_42 ?_
      refine u_top (y := nI (rou (M 1) t9)) ((hT.2.2 t9 ht9).2.2.1) ?_
      refine lv_istore (lv' := [(4, .int (nI (rou (M 1) t9))), (3, .int (nI t9)), (2, .int (nI (cau (M 2) (M 1) lt))), (0, .ref (a 0)), (1, .int (nI lt))]) hx hb dX2_sorts_43 hl (by decide) rfl (fun ls hl => ?_)
      refine lv_aload_n hx hb dX2_sorts_45 rfl (lv_at hl 3 rfl) ?_
      refine lv_iload_n hx hb dX2_sorts_46 rfl (lv_at hl 4 rfl) ?_
      refine lv_bipush (v := nI 6) hx hb dX2_sorts_47 (by decide) ?_
      refine lv_iconst (v := nI 1) hx hb dX2_sorts_49 (by decide) ?_
      refine k_X2_lays  hJ (by omega) (by omega) SF hK (rk.le (Nat.le_of_ble_eq_true rfl)) hl.1 (Nat.le_of_ble_eq_true rfl) hP hS dX2_sorts_50 (fun H locs hP hS => ?_)
      have hP : mP dC dI dA a (mrow M 2 (upd (M 2) (33 + 10 * lt + 6) (nI 1))) H := hP
      refine lv_aload_n hx hb dX2_sorts_53 rfl (lv_at hl 3 rfl) ?_
      refine lv_iload_n hx hb dX2_sorts_54 rfl (lv_at hl 4 rfl) ?_
      refine lv_bipush (v := nI 9) hx hb dX2_sorts_55 (by decide) ?_
      refine lv_iload_n hx hb dX2_sorts_57 rfl (lv_at hl 1 rfl) ?_
      refine k_X2_lays (M := mrow M 2 (upd (M 2) (33 + 10 * lt + 6) (nI 1)))  hJ (by omega) (by omega) SF hK (rk.le (Nat.le_of_ble_eq_true rfl)) hl.1 (Nat.le_of_ble_eq_true rfl) hP hS dX2_sorts_58 (fun H locs hP hS => ?_)
      have hP : mP dC dI dA a (mrow M 2 (upd (upd (M 2) (33 + 10 * lt + 6) (nI 1)) (33 + 10 * lt + 9) (nI t9))) H := hP
      refine lv_aload_n hx hb dX2_sorts_61 rfl (lv_at hl 3 rfl) ?_
      refine va_get (D := (dC, dI)) (ci := 2) (v := .ref (a 2)) (C := RX2) (T := TX2) (N := 22) hx hb hts in_X2 hown hK hP 0 rfl rfl 3 (by decide) (hts _ q1954) (fun _ h9 => h9) rfl dX2_sorts_62 ?_
      refine lv_bipush (v := nI 27) hx hb dX2_sorts_65 (by decide) ?_
      refine lv_iload hx hb dX2_sorts_67 (lv_at hl 0 rfl) ?_
      refine lv_iadd hx hb dX2_sorts_69 ?_
      refine u_top (nI_add _ _) ?_
      refine lv_dup2_11 hx hb dX2_sorts_70 rfl rfl ?_
      refine u_iald hx hb hK hP 2 0 rfl rfl (i := 27 + (rou (M 1) t9)) (by omega) (by decide) dX2_sorts_71 ?_
      refine u_top (y := (upd (upd (M 2) (33 + 10 * lt + 6) (nI 1)) (33 + 10 * lt + 9) (nI t9)) (27 + (rou (M 1) t9))) rfl ?_
      refine lv_iconst (v := nI 1) hx hb dX2_sorts_72 (by decide) ?_
      refine lv_iadd hx hb dX2_sorts_73 ?_
      refine m_as2 SF hK hJ hP hS (i := 27 + (rou (M 1) t9)) (by omega) dX2_sorts_74 (fun H locs hP hS => ?_)
      have hP : mP dC dI dA a (mrow M 2 (upd (upd (upd (M 2) (33 + 10 * lt + 6) (nI 1)) (33 + 10 * lt + 9) (nI t9)) (27 + (rou (M 1) t9)) (((upd (upd (M 2) (33 + 10 * lt + 6) (nI 1)) (33 + 10 * lt + 9) (nI t9)) (27 + (rou (M 1) t9))) + (nI 1)))) H := hP
      refine lv_aload_n hx hb dX2_sorts_75 rfl (lv_at hl 3 rfl) ?_
      refine va_get (D := (dC, dI)) (ci := 2) (v := .ref (a 2)) (C := RX2) (T := TX2) (N := 22) hx hb hts in_X2 hown hK hP 0 rfl rfl 3 (by decide) (hts _ q1954) (fun _ h9 => h9) rfl dX2_sorts_76 ?_
      refine lv_bipush (v := nI 15) hx hb dX2_sorts_79 (by decide) ?_
      refine lv_iload hx hb dX2_sorts_81 (lv_at hl 0 rfl) ?_
      refine lv_iadd hx hb dX2_sorts_83 ?_
      refine u_top (nI_add _ _) ?_
      refine lv_dup2_11 hx hb dX2_sorts_84 rfl rfl ?_
      refine u_iald hx hb hK hP 2 0 rfl rfl (i := 15 + (rou (M 1) t9)) (by omega) (by decide) dX2_sorts_85 ?_
      refine u_top (y := (upd (upd (upd (M 2) (33 + 10 * lt + 6) (nI 1)) (33 + 10 * lt + 9) (nI t9)) (27 + (rou (M 1) t9)) (((upd (upd (M 2) (33 + 10 * lt + 6) (nI 1)) (33 + 10 * lt + 9) (nI t9)) (27 + (rou (M 1) t9))) + (nI 1))) (15 + (rou (M 1) t9))) rfl ?_
      refine lv_iconst (v := nI 1) hx hb dX2_sorts_86 (by decide) ?_
      refine lv_iadd hx hb dX2_sorts_87 ?_
      refine m_as2 SF hK hJ hP hS (i := 15 + (rou (M 1) t9)) (by omega) dX2_sorts_88 (fun H locs hP hS => ?_)
      have hP : mP dC dI dA a (mrow M 2 (upd (upd (upd (upd (M 2) (33 + 10 * lt + 6) (nI 1)) (33 + 10 * lt + 9) (nI t9)) (27 + (rou (M 1) t9)) (((upd (upd (M 2) (33 + 10 * lt + 6) (nI 1)) (33 + 10 * lt + 9) (nI t9)) (27 + (rou (M 1) t9))) + (nI 1))) (15 + (rou (M 1) t9)) (((upd (upd (upd (M 2) (33 + 10 * lt + 6) (nI 1)) (33 + 10 * lt + 9) (nI t9)) (27 + (rou (M 1) t9)) (((upd (upd (M 2) (33 + 10 * lt + 6) (nI 1)) (33 + 10 * lt + 9) (nI t9)) (27 + (rou (M 1) t9))) + (nI 1))) (15 + (rou (M 1) t9))) + (nI 1)))) H := hP
      refine lv_aload_n hx hb dX2_sorts_89 rfl (lv_at hl 3 rfl) ?_
      refine va_get (D := (dC, dI)) (ci := 2) (v := .ref (a 2)) (C := RX2) (T := TX2) (N := 22) hx hb hts in_X2 hown hK hP 0 rfl rfl 3 (by decide) (hts _ q1954) (fun _ h9 => h9) rfl dX2_sorts_90 ?_
      refine lv_bipush (v := nI 15) hx hb dX2_sorts_93 (by decide) ?_
      refine lv_iload hx hb dX2_sorts_95 (lv_at hl 0 rfl) ?_
      refine lv_iadd hx hb dX2_sorts_97 ?_
      refine u_top (nI_add _ _) ?_
      refine u_iald hx hb hK hP 2 0 rfl rfl (i := 15 + (rou (M 1) t9)) (by omega) (by decide) dX2_sorts_98 ?_
      refine u_top (y := (upd (upd (upd (upd (M 2) (33 + 10 * lt + 6) (nI 1)) (33 + 10 * lt + 9) (nI t9)) (27 + (rou (M 1) t9)) (((upd (upd (M 2) (33 + 10 * lt + 6) (nI 1)) (33 + 10 * lt + 9) (nI t9)) (27 + (rou (M 1) t9))) + (nI 1))) (15 + (rou (M 1) t9)) (((upd (upd (upd (M 2) (33 + 10 * lt + 6) (nI 1)) (33 + 10 * lt + 9) (nI t9)) (27 + (rou (M 1) t9)) (((upd (upd (M 2) (33 + 10 * lt + 6) (nI 1)) (33 + 10 * lt + 9) (nI t9)) (27 + (rou (M 1) t9))) + (nI 1))) (15 + (rou (M 1) t9))) + (nI 1))) (15 + (rou (M 1) t9))) rfl ?_
      refine lv_aload_n hx hb dX2_sorts_99 rfl (lv_at hl 3 rfl) ?_
      refine va_get (D := (dC, dI)) (ci := 2) (v := .ref (a 1)) (C := RX2) (T := TX2) (N := 22) hx hb hts in_X2 hown hK hP 0 rfl rfl 2 (by decide) (hts _ q1953) (fun _ h9 => h9) rfl dX2_sorts_100 ?_
      refine lv_iconst (v := nI 0) hx hb dX2_sorts_103 (by decide) ?_
      refine u_iald hx hb hK hP 1 0 rfl rfl (i := 0) (by omega) (by decide) dX2_sorts_104 ?_
      refine u_top (y := M 1 0) rfl ?_
      refine lv_icmp_ne (tgt := 133) hx hb dX2_sorts_105 (by decide) (fun c_105 => ?_) (fun c_105 => ?_)
      · refine lv_iload_n hx hb dX2_sorts_133 rfl (lv_at hl 1 rfl) ?_
        exact hret _ _ _ _ _ (by rw [srtR, if_pos c_7, hE]; rfl) (by rw [srtS_ok c_7 hE, bagS, if_neg (show ¬ bagF _ _ _ = _ from c_105)]; exact hP) hS dX2_sorts_134
      · refine lv_aload_n hx hb dX2_sorts_108 rfl (lv_at hl 3 rfl) ?_
        refine va_get (D := (dC, dI)) (ci := 2) (v := .ref (a 2)) (C := RX2) (T := TX2) (N := 22) hx hb hts in_X2 hown hK hP 0 rfl rfl 3 (by decide) (hts _ q1954) (fun _ h9 => h9) rfl dX2_sorts_109 ?_
        refine lv_bipush (v := nI 15) hx hb dX2_sorts_112 (by decide) ?_
        refine lv_iload hx hb dX2_sorts_114 (lv_at hl 0 rfl) ?_
        refine lv_iadd hx hb dX2_sorts_116 ?_
        refine u_top (nI_add _ _) ?_
        refine lv_iconst (v := nI 0) hx hb dX2_sorts_117 (by decide) ?_
        refine m_as2 SF hK hJ hP hS (i := 15 + (rou (M 1) t9)) (by omega) dX2_sorts_118 (fun H locs hP hS => ?_)
        have hP : mP dC dI dA a (mrow M 2 (upd (upd (upd (upd (upd (M 2) (33 + 10 * lt + 6) (nI 1)) (33 + 10 * lt + 9) (nI t9)) (27 + (rou (M 1) t9)) (((upd (upd (M 2) (33 + 10 * lt + 6) (nI 1)) (33 + 10 * lt + 9) (nI t9)) (27 + (rou (M 1) t9))) + (nI 1))) (15 + (rou (M 1) t9)) (((upd (upd (upd (M 2) (33 + 10 * lt + 6) (nI 1)) (33 + 10 * lt + 9) (nI t9)) (27 + (rou (M 1) t9)) (((upd (upd (M 2) (33 + 10 * lt + 6) (nI 1)) (33 + 10 * lt + 9) (nI t9)) (27 + (rou (M 1) t9))) + (nI 1))) (15 + (rou (M 1) t9))) + (nI 1))) (15 + (rou (M 1) t9)) (nI 0))) H := hP
        refine lv_aload_n hx hb dX2_sorts_119 rfl (lv_at hl 3 rfl) ?_
        refine va_get (D := (dC, dI)) (ci := 2) (v := .ref (a 2)) (C := RX2) (T := TX2) (N := 22) hx hb hts in_X2 hown hK hP 0 rfl rfl 3 (by decide) (hts _ q1954) (fun _ h9 => h9) rfl dX2_sorts_120 ?_
        refine lv_bipush (v := nI 21) hx hb dX2_sorts_123 (by decide) ?_
        refine lv_iload hx hb dX2_sorts_125 (lv_at hl 0 rfl) ?_
        refine lv_iadd hx hb dX2_sorts_127 ?_
        refine u_top (nI_add _ _) ?_
        refine lv_dup2_11 hx hb dX2_sorts_128 rfl rfl ?_
        refine u_iald hx hb hK hP 2 0 rfl rfl (i := 21 + (rou (M 1) t9)) (by omega) (by decide) dX2_sorts_129 ?_
        refine u_top (y := (upd (upd (upd (upd (upd (M 2) (33 + 10 * lt + 6) (nI 1)) (33 + 10 * lt + 9) (nI t9)) (27 + (rou (M 1) t9)) (((upd (upd (M 2) (33 + 10 * lt + 6) (nI 1)) (33 + 10 * lt + 9) (nI t9)) (27 + (rou (M 1) t9))) + (nI 1))) (15 + (rou (M 1) t9)) (((upd (upd (upd (M 2) (33 + 10 * lt + 6) (nI 1)) (33 + 10 * lt + 9) (nI t9)) (27 + (rou (M 1) t9)) (((upd (upd (M 2) (33 + 10 * lt + 6) (nI 1)) (33 + 10 * lt + 9) (nI t9)) (27 + (rou (M 1) t9))) + (nI 1))) (15 + (rou (M 1) t9))) + (nI 1))) (15 + (rou (M 1) t9)) (nI 0)) (21 + (rou (M 1) t9))) rfl ?_
        refine lv_iconst (v := nI 1) hx hb dX2_sorts_130 (by decide) ?_
        refine lv_iadd hx hb dX2_sorts_131 ?_
        refine m_as2 SF hK hJ hP hS (i := 21 + (rou (M 1) t9)) (by omega) dX2_sorts_132 (fun H locs hP hS => ?_)
        have hP : mP dC dI dA a (mrow M 2 (upd (upd (upd (upd (upd (upd (M 2) (33 + 10 * lt + 6) (nI 1)) (33 + 10 * lt + 9) (nI t9)) (27 + (rou (M 1) t9)) (((upd (upd (M 2) (33 + 10 * lt + 6) (nI 1)) (33 + 10 * lt + 9) (nI t9)) (27 + (rou (M 1) t9))) + (nI 1))) (15 + (rou (M 1) t9)) (((upd (upd (upd (M 2) (33 + 10 * lt + 6) (nI 1)) (33 + 10 * lt + 9) (nI t9)) (27 + (rou (M 1) t9)) (((upd (upd (M 2) (33 + 10 * lt + 6) (nI 1)) (33 + 10 * lt + 9) (nI t9)) (27 + (rou (M 1) t9))) + (nI 1))) (15 + (rou (M 1) t9))) + (nI 1))) (15 + (rou (M 1) t9)) (nI 0)) (21 + (rou (M 1) t9)) (((upd (upd (upd (upd (upd (M 2) (33 + 10 * lt + 6) (nI 1)) (33 + 10 * lt + 9) (nI t9)) (27 + (rou (M 1) t9)) (((upd (upd (M 2) (33 + 10 * lt + 6) (nI 1)) (33 + 10 * lt + 9) (nI t9)) (27 + (rou (M 1) t9))) + (nI 1))) (15 + (rou (M 1) t9)) (((upd (upd (upd (M 2) (33 + 10 * lt + 6) (nI 1)) (33 + 10 * lt + 9) (nI t9)) (27 + (rou (M 1) t9)) (((upd (upd (M 2) (33 + 10 * lt + 6) (nI 1)) (33 + 10 * lt + 9) (nI t9)) (27 + (rou (M 1) t9))) + (nI 1))) (15 + (rou (M 1) t9))) + (nI 1))) (15 + (rou (M 1) t9)) (nI 0)) (21 + (rou (M 1) t9))) + (nI 1)))) H := hP
        refine lv_iload_n hx hb dX2_sorts_133 rfl (lv_at hl 1 rfl) ?_
        exact hret _ _ _ _ _ (by rw [srtR, if_pos c_7, hE]; rfl) (by rw [srtS_ok c_7 hE, bagS, if_pos (show bagF _ _ _ = _ from c_105)]; exact hP) hS dX2_sorts_134
  · have c_7 : ¬ (cau (M 2) (M 1) lt = 0) := fun q9 => c_7 ((nI_eq (a := cau (M 2) (M 1) lt) (b := 0) (by omega) (by omega)).mpr q9)
    refine lv_aload_n hx hb dX2_sorts_10 rfl (lv_at hl 1 rfl) ?_
    refine lv_iload_n hx hb dX2_sorts_11 rfl (lv_at hl 2 rfl) ?_
    refine lv_bipush (v := nI 6) hx hb dX2_sorts_12 (by decide) ?_
    refine lv_iconst (v := nI 2) hx hb dX2_sorts_14 (by decide) ?_
    refine k_X2_lays  hJ (by omega) (by omega) SF hK (rk.le (Nat.le_of_ble_eq_true rfl)) hl.1 (Nat.le_of_ble_eq_true rfl) hP hS dX2_sorts_15 (fun H locs hP hS => ?_)
    have hP : mP dC dI dA a (mrow M 2 (upd (M 2) (33 + 10 * lt + 6) (nI 2))) H := hP
    refine lv_aload_n hx hb dX2_sorts_18 rfl (lv_at hl 1 rfl) ?_
    refine lv_iload_n hx hb dX2_sorts_19 rfl (lv_at hl 2 rfl) ?_
    refine lv_bipush (v := nI 8) hx hb dX2_sorts_20 (by decide) ?_
    refine lv_iload_n hx hb dX2_sorts_22 rfl (lv_at hl 0 rfl) ?_
    refine k_X2_lays (M := mrow M 2 (upd (M 2) (33 + 10 * lt + 6) (nI 2)))  hJ (by omega) (by omega) SF hK (rk.le (Nat.le_of_ble_eq_true rfl)) hl.1 (Nat.le_of_ble_eq_true rfl) hP hS dX2_sorts_23 (fun H locs hP hS => ?_)
    have hP : mP dC dI dA a (mrow M 2 (upd (upd (M 2) (33 + 10 * lt + 6) (nI 2)) (33 + 10 * lt + 8) (nI (cau (M 2) (M 1) lt)))) H := hP
    refine lv_iconst (v := (-1)) hx hb dX2_sorts_26 (by decide) ?_
    exact hret _ _ _ _ _ (by rw [srtR, if_neg c_7]; rfl) (by rw [srtS_no c_7]; exact hP) hS dX2_sorts_27
theorem k_X2_sorts (hJ : mJ a) {lt : Nat} (hlt : lt < ln (M 2)) (hS1 : SWf (M 2)) (hT : TWf (M 1)) (SF : CallFix p m c cc nL s args lw_all RX2) (hK : KK dC dI dA s) (rk : rmOK 14 R) (hsz : ls.size = nL) (hcat : (rest.map fun v => v.category).sum ≤ 8) (hP : mP dC dI dA a M H) (hS : uS (mA a) H0 H locs) (hdg : decode cc pc = .ok (.invokevirtual 137, 3)) (k : ∀ (H1 : Heap) (locs1 : List Loc), mP dC dI dA a (mrow M 2 (srtS (M 2) (M 1) lt)) H1 → uS (mA a) H0 H1 locs1 → W p l e R s m args below meth c H1 locs1 0 0 Q (F0 m (pc + 3) ls (.int (oI (srtR (M 2) (M 1) lt)) :: rest))) : W p l e R s m args below meth c H locs 0 0 Q (F0 m pc ls (.int (nI lt) :: .ref (a 0) :: rest)) :=
  u_runM (u_rV (C := RX2) (Ψ := (mP dC dI dA a M)) (As := [.int (nI lt)]) SF hK rk (c_X2_sorts l dC dI dA a M hJ lt hlt hS1 hT) (lw_V q2149 q2151 qs68 q117 q2152) (n := 1) (by decide +kernel) rfl (by decide) (va_recv hK hP (ci := 2) (q0 := 0) rfl rfl) hP hsz hcat ⟨Nat.zero_le _, Nat.zero_le _⟩ rfl hdg) hS (fun _ h => h) (fun H1 locs1 h1 h2 _ => k H1 locs1 h1 h2)

set_option maxHeartbeats 4000000 in
theorem c_X2_sortsAll (l : Launch) (dC : Nat → ClassId) (dI : Nat → Nat → Nat) (dA : Nat → ClassId) (a : Nat → Nat) (M : Nat → Nat → Int32) (hJ : mJ a)  (hS1 : SWf (M 2)) (hT : TWf (M 1)) : Met l yX2_sortsAll (ws_ yX2_sortsAll cX2_sortsAll 3 (some .int)) (rmD 14 0 0) (uPc [.ref (a 0)] (mP dC dI dA a M) dC dI dA) (uMi (mA a) (nI (sAn (M 2) (M 1))) (mP dC dI dA a (mrow M 2 (sAl (M 2) (M 1))))) 0 0 (mA a) := by
  refine u_metMi (own := RX2) (by decide) rfl (Nat.le_of_ble_eq_true rfl) fun p e R s m args below meth c Q SF rk hP hK hret ls hl => ?_
  have hx := SF.1
  have hb := SF.2.1
  have hml := SF.2.2.1
  have hown := SF.2.2.2.1
  have hts := SF.2.2.2.2
  have hS : uS (mA a) s.heap s.heap [] := uS.rf
  have hl : lv_has ls 3 [(0, .ref (a 0))] := hl
  have hL := hS1.2.1
  have hn9 := hT.2.1
  refine lv_iconst (v := nI 0) hx hb dX2_sortsAll_0 (by decide) ?_
  refine lv_istore_n (lv' := [(1, .int (nI 0)), (0, .ref (a 0))]) hx hb dX2_sortsAll_1 rfl hl (by decide) rfl (fun ls hl => ?_)
  refine lv_iconst (v := nI 0) hx hb dX2_sortsAll_2 (by decide) ?_
  refine lv_istore_n (lv' := [(2, .int (nI 0)), (1, .int (nI 0)), (0, .ref (a 0))]) hx hb dX2_sortsAll_3 rfl hl (by decide) rfl (fun ls hl => ?_)
  have lp4 : ∀ (k0 : Nat) (k : Nat), k ≤ ln (M 2) → ln (M 2) < k + k0 → ∀ (H : Heap) (locs : List Loc), mP dC dI dA a (mrow M 2 ((sAll (M 2) (M 1) k).1)) H → uS (mA a) s.heap H locs → ∀ ls : Array Slot, lv_has ls 3 [(2, .int (nI k)), (1, .int (nI ((sAll (M 2) (M 1) k).2))), (0, .ref (a 0))] → W p l e R s m args below meth c H locs 0 0 Q (F0 m 4 ls []) := by
    intro k0
    induction k0 with
    | zero =>
      intro k hk1 hk2; omega
    | succ k0 ih =>
      intro k hk1 hk2 H locs hP hS ls hl
      have ih4 := ih
      refine lv_iload_n hx hb dX2_sortsAll_4 rfl (lv_at hl 0 rfl) ?_
      refine lv_aload_n hx hb dX2_sortsAll_5 rfl (lv_at hl 2 rfl) ?_
      refine k_X2_letters (M := mrow M 2 ((sAll (M 2) (M 1) k).1))   SF hK (rk.le (Nat.le_of_ble_eq_true rfl)) hl.1 (Nat.le_of_ble_eq_true rfl) hP dX2_sortsAll_6 ?_
      refine u_top (y := ((sAll (M 2) (M 1) k).1) 2) rfl ?_
      refine u_top (y := nI (ln (M 2))) ((sAll_2 hT k).trans hS1.1) ?_
      refine lv_icmp_ge (tgt := 48) hx hb dX2_sortsAll_9 (by decide) (fun c_9 => ?_) (fun c_9 => ?_)
      · have c_9 : ln (M 2) ≤ k := (nI_leI (a := ln (M 2)) (b := k) (by omega) (by omega)).mp c_9
        refine lv_iload_n hx hb dX2_sortsAll_48 rfl (lv_at hl 1 rfl) ?_
        exact hret _ _ _ _ _ (by rw [show k = ln (M 2) by omega]; rfl) (by rw [sAl, show ln (M 2) = k by omega]; exact hP) hS dX2_sortsAll_49
      · have c_9 : ¬ (ln (M 2) ≤ k) := fun q9 => c_9 ((nI_leI (a := ln (M 2)) (b := k) (by omega) (by omega)).mpr q9)
        refine lv_aload_n hx hb dX2_sortsAll_12 rfl (lv_at hl 2 rfl) ?_
        refine lv_iload_n hx hb dX2_sortsAll_13 rfl (lv_at hl 0 rfl) ?_
        refine lv_bipush (v := nI 6) hx hb dX2_sortsAll_14 (by decide) ?_
        refine k_X2_l (M := mrow M 2 ((sAll (M 2) (M 1) k).1))  (by omega) (by omega) SF hK (rk.le (Nat.le_of_ble_eq_true rfl)) hl.1 (Nat.le_of_ble_eq_true rfl) hP dX2_sortsAll_16 ?_
        refine u_top (y := lr ((sAll (M 2) (M 1) k).1) k 6) rfl ?_
        refine lv_if_ne (tgt := 42) hx hb dX2_sortsAll_19 (by decide) (fun c_19 => ?_) (fun c_19 => ?_)
        · have e9 : (sAll (M 2) (M 1) k).2 = (sAll (M 2) (M 1) (k + 1)).2 := by rw [sAll_stay c_19]
          rw [e9] at hl
          refine lv_iinc (v := nI (k + 1)) (lv' := [(2, .int (nI (k + 1))), (1, .int (nI ((sAll (M 2) (M 1) (k + 1)).2))), (0, .ref (a 0))]) hx hb dX2_sortsAll_42 hl (k := 0) rfl (nI_add _ 1) (by decide) rfl (fun ls hl => ?_)
          refine lv_goto (tgt := 4) hx hb dX2_sortsAll_45 (by decide) ?_
          exact ih4 (k + 1) (by omega) (by omega) _ _ (by rw [sAll_stay c_19]; exact hP) hS ls (lv_sub hl [0, 1, 2] rfl)
        · refine lv_iload_n hx hb dX2_sortsAll_22 rfl (lv_at hl 1 rfl) ?_
          refine lv_aload_n hx hb dX2_sortsAll_23 rfl (lv_at hl 2 rfl) ?_
          refine lv_iload_n hx hb dX2_sortsAll_24 rfl (lv_at hl 0 rfl) ?_
          refine k_X2_sorts (M := mrow M 2 ((sAll (M 2) (M 1) k).1))  hJ (show k < ln ((sAll (M 2) (M 1) k).1) from (by show k < ln (sAll (M 2) (M 1) k).1; rw [sAll_ln hT]; omega)) (sAll_wf hT hS1 k) hT SF hK (rk.le (Nat.le_of_ble_eq_true rfl)) hl.1 (Nat.le_of_ble_eq_true rfl) hP hS dX2_sortsAll_25 (fun H locs hP hS => ?_)
          refine u_top (y := oI (srtR ((sAll (M 2) (M 1) k).1) (M 1) k)) rfl ?_
          have hP : mP dC dI dA a (mrow M 2 (srtS ((sAll (M 2) (M 1) k).1) (M 1) k)) H := hP
          refine lv_iconst (v := (-1)) hx hb dX2_sortsAll_28 (by decide) ?_
          have jn37 : ∀ v9 : Int32, v9 = nI ((srtR (sAll (M 2) (M 1) k).1 (M 1) k).isSome.toNat) → ∀ (H : Heap) (locs : List Loc), mP dC dI dA a (mrow M 2 (srtS ((sAll (M 2) (M 1) k).1) (M 1) k)) H → uS (mA a) s.heap H locs → ∀ ls : Array Slot, lv_has ls 3 [(2, .int (nI k)), (1, .int (nI ((sAll (M 2) (M 1) k).2))), (0, .ref (a 0))] → W p l e R s m args below meth c H locs 0 0 Q (F0 m 37 ls [.int v9, .int (nI ((sAll (M 2) (M 1) k).2))]) := by
            intro v9 hv9 H locs hP hS ls hl
            subst hv9
            refine k_X2_flag   SF hK (rk.le (Nat.le_of_ble_eq_true rfl)) hl.1 (Nat.le_of_ble_eq_true rfl) dX2_sortsAll_37 ?_
            refine lv_iadd hx hb dX2_sortsAll_40 ?_
            refine u_top (nI_add _ _) ?_
            refine u_top (y := nI ((sAll (M 2) (M 1) (k + 1)).2)) (by rw [sAll_go c_19]) ?_
            refine lv_istore_n (lv' := [(1, .int (nI ((sAll (M 2) (M 1) (k + 1)).2))), (2, .int (nI k)), (0, .ref (a 0))]) hx hb dX2_sortsAll_41 rfl hl (by decide) rfl (fun ls hl => ?_)
            refine lv_iinc (v := nI (k + 1)) (lv' := [(2, .int (nI (k + 1))), (1, .int (nI ((sAll (M 2) (M 1) (k + 1)).2))), (0, .ref (a 0))]) hx hb dX2_sortsAll_42 hl (k := 1) rfl (nI_add _ 1) (by decide) rfl (fun ls hl => ?_)
            refine lv_goto (tgt := 4) hx hb dX2_sortsAll_45 (by decide) ?_
            exact ih4 (k + 1) (by omega) (by omega) _ _ (by rw [sAll_go c_19]; exact hP) hS ls (lv_sub hl [0, 1, 2] rfl)
          refine lv_icmp_eq (tgt := 36) hx hb dX2_sortsAll_29 (by decide) (fun c_29 => ?_) (fun c_29 => ?_)
          · refine lv_iconst (v := nI 0) hx hb dX2_sortsAll_36 (by decide) ?_
            exact jn37 _ (u_ff (oI_no (fun t9 h9 => srtR_lt h9) (by omega) c_29)) _ _ hP hS ls (lv_sub hl [0, 1, 2] rfl)
          · refine lv_iconst (v := nI 1) hx hb dX2_sortsAll_32 (by decide) ?_
            refine lv_goto (tgt := 37) hx hb dX2_sortsAll_33 (by decide) ?_
            exact jn37 _ (u_tt (oI_is c_29)) _ _ hP hS ls (lv_sub hl [0, 1, 2] rfl)
  exact lp4 (ln (M 2) + 1) 0 (by omega) (by omega) _ _ hP hS ls (lv_sub hl [0, 1, 2] rfl)
theorem k_X2_sortsAll (hJ : mJ a)  (hS1 : SWf (M 2)) (hT : TWf (M 1)) (SF : CallFix p m c cc nL s args lw_all RX2) (hK : KK dC dI dA s) (rk : rmOK 15 R) (hsz : ls.size = nL) (hcat : (rest.map fun v => v.category).sum ≤ 8) (hP : mP dC dI dA a M H) (hS : uS (mA a) H0 H locs) (hdg : decode cc pc = .ok (.invokevirtual 240, 3)) (k : ∀ (H1 : Heap) (locs1 : List Loc), mP dC dI dA a (mrow M 2 (sAl (M 2) (M 1))) H1 → uS (mA a) H0 H1 locs1 → W p l e R s m args below meth c H1 locs1 0 0 Q (F0 m (pc + 3) ls (.int (nI (sAn (M 2) (M 1))) :: rest))) : W p l e R s m args below meth c H locs 0 0 Q (F0 m pc ls (.ref (a 0) :: rest)) :=
  u_runM (u_rV (C := RX2) (Ψ := (mP dC dI dA a M)) (As := []) SF hK rk (c_X2_sortsAll l dC dI dA a M hJ  hS1 hT) (lw_V q2141 q2143 qs66 q117 q2144) (n := 0) (by decide +kernel) rfl (by decide) (va_recv hK hP (ci := 2) (q0 := 0) rfl rfl) hP hsz hcat ⟨Nat.zero_le _, Nat.zero_le _⟩ rfl hdg) hS (fun _ h => h) (fun H1 locs1 h1 h2 _ => k H1 locs1 h1 h2)

set_option maxHeartbeats 4000000 in
theorem c_X2_newLetter (l : Launch) (dC : Nat → ClassId) (dI : Nat → Nat → Nat) (dA : Nat → ClassId) (a : Nat → Nat) (M : Nat → Nat → Int32) (hJ : mJ a) (x : Int32) (hn2 : M 2 2 = nI (ln (M 2))) (h1 : ln (M 2) < 24) : Met l yX2_newLetter (ws_ yX2_newLetter cX2_newLetter 3 none) (rmD 1 0 0) (uPc [.ref (a 0), .int x] (mP dC dI dA a M) dC dI dA) (uMv (mA a) (mP dC dI dA a (mrow M 2 (nwS (M 2) (ln (M 2)) x)))) 0 0 (mA a) := by
  refine u_metMv (own := RX2) (by decide) rfl (Nat.le_of_ble_eq_true rfl) fun p e R s m args below meth c Q SF rk hP hK hret ls hl => ?_
  have hx := SF.1
  have hb := SF.2.1
  have hml := SF.2.2.1
  have hown := SF.2.2.2.1
  have hts := SF.2.2.2.2
  have hS : uS (mA a) s.heap s.heap [] := uS.rf
  have hl : lv_has ls 3 [(0, .ref (a 0)), (1, .int x)] := hl
  refine lv_aload_n hx hb dX2_newLetter_0 rfl (lv_at hl 0 rfl) ?_
  refine k_X2_letters   SF hK (rk.le (Nat.le_of_ble_eq_true rfl)) hl.1 (Nat.le_of_ble_eq_true rfl) hP dX2_newLetter_1 ?_
  refine u_top (y := nI (ln (M 2))) hn2 ?_
  refine lv_istore_n (lv' := [(2, .int (nI (ln (M 2)))), (0, .ref (a 0)), (1, .int x)]) hx hb dX2_newLetter_4 rfl hl (by decide) rfl (fun ls hl => ?_)
  refine lv_aload_n hx hb dX2_newLetter_5 rfl (lv_at hl 1 rfl) ?_
  refine lv_iload_n hx hb dX2_newLetter_6 rfl (lv_at hl 0 rfl) ?_
  refine lv_iconst (v := nI 5) hx hb dX2_newLetter_7 (by decide) ?_
  refine lv_iload_n hx hb dX2_newLetter_8 rfl (lv_at hl 2 rfl) ?_
  refine k_X2_lays  hJ (by omega) (by omega) SF hK (rk.le (Nat.le_of_ble_eq_true rfl)) hl.1 (Nat.le_of_ble_eq_true rfl) hP hS dX2_newLetter_9 (fun H locs hP hS => ?_)
  have hP : mP dC dI dA a (mrow M 2 (upd (M 2) (33 + 10 * (ln (M 2)) + 5) x)) H := hP
  refine lv_aload_n hx hb dX2_newLetter_12 rfl (lv_at hl 1 rfl) ?_
  refine lv_iload_n hx hb dX2_newLetter_13 rfl (lv_at hl 0 rfl) ?_
  refine lv_bipush (v := nI 6) hx hb dX2_newLetter_14 (by decide) ?_
  refine lv_iconst (v := nI 0) hx hb dX2_newLetter_16 (by decide) ?_
  refine k_X2_lays (M := mrow M 2 (upd (M 2) (33 + 10 * (ln (M 2)) + 5) x))  hJ (by omega) (by omega) SF hK (rk.le (Nat.le_of_ble_eq_true rfl)) hl.1 (Nat.le_of_ble_eq_true rfl) hP hS dX2_newLetter_17 (fun H locs hP hS => ?_)
  have hP : mP dC dI dA a (mrow M 2 (upd (upd (M 2) (33 + 10 * (ln (M 2)) + 5) x) (33 + 10 * (ln (M 2)) + 6) (nI 0))) H := hP
  refine lv_aload_n hx hb dX2_newLetter_20 rfl (lv_at hl 1 rfl) ?_
  refine lv_iload_n hx hb dX2_newLetter_21 rfl (lv_at hl 0 rfl) ?_
  refine lv_bipush (v := nI 7) hx hb dX2_newLetter_22 (by decide) ?_
  refine lv_iconst (v := nI 0) hx hb dX2_newLetter_24 (by decide) ?_
  refine k_X2_lays (M := mrow M 2 (upd (upd (M 2) (33 + 10 * (ln (M 2)) + 5) x) (33 + 10 * (ln (M 2)) + 6) (nI 0)))  hJ (by omega) (by omega) SF hK (rk.le (Nat.le_of_ble_eq_true rfl)) hl.1 (Nat.le_of_ble_eq_true rfl) hP hS dX2_newLetter_25 (fun H locs hP hS => ?_)
  have hP : mP dC dI dA a (mrow M 2 (upd (upd (upd (M 2) (33 + 10 * (ln (M 2)) + 5) x) (33 + 10 * (ln (M 2)) + 6) (nI 0)) (33 + 10 * (ln (M 2)) + 7) (nI 0))) H := hP
  refine lv_aload_n hx hb dX2_newLetter_28 rfl (lv_at hl 1 rfl) ?_
  refine lv_iload_n hx hb dX2_newLetter_29 rfl (lv_at hl 0 rfl) ?_
  refine lv_bipush (v := nI 8) hx hb dX2_newLetter_30 (by decide) ?_
  refine lv_iconst (v := nI 0) hx hb dX2_newLetter_32 (by decide) ?_
  refine k_X2_lays (M := mrow M 2 (upd (upd (upd (M 2) (33 + 10 * (ln (M 2)) + 5) x) (33 + 10 * (ln (M 2)) + 6) (nI 0)) (33 + 10 * (ln (M 2)) + 7) (nI 0)))  hJ (by omega) (by omega) SF hK (rk.le (Nat.le_of_ble_eq_true rfl)) hl.1 (Nat.le_of_ble_eq_true rfl) hP hS dX2_newLetter_33 (fun H locs hP hS => ?_)
  have hP : mP dC dI dA a (mrow M 2 (upd (upd (upd (upd (M 2) (33 + 10 * (ln (M 2)) + 5) x) (33 + 10 * (ln (M 2)) + 6) (nI 0)) (33 + 10 * (ln (M 2)) + 7) (nI 0)) (33 + 10 * (ln (M 2)) + 8) (nI 0))) H := hP
  refine lv_aload_n hx hb dX2_newLetter_36 rfl (lv_at hl 1 rfl) ?_
  refine lv_iload_n hx hb dX2_newLetter_37 rfl (lv_at hl 0 rfl) ?_
  refine lv_bipush (v := nI 9) hx hb dX2_newLetter_38 (by decide) ?_
  refine lv_iconst (v := (-1)) hx hb dX2_newLetter_40 (by decide) ?_
  refine k_X2_lays (M := mrow M 2 (upd (upd (upd (upd (M 2) (33 + 10 * (ln (M 2)) + 5) x) (33 + 10 * (ln (M 2)) + 6) (nI 0)) (33 + 10 * (ln (M 2)) + 7) (nI 0)) (33 + 10 * (ln (M 2)) + 8) (nI 0)))  hJ (by omega) (by omega) SF hK (rk.le (Nat.le_of_ble_eq_true rfl)) hl.1 (Nat.le_of_ble_eq_true rfl) hP hS dX2_newLetter_41 (fun H locs hP hS => ?_)
  have hP : mP dC dI dA a (mrow M 2 (upd (upd (upd (upd (upd (M 2) (33 + 10 * (ln (M 2)) + 5) x) (33 + 10 * (ln (M 2)) + 6) (nI 0)) (33 + 10 * (ln (M 2)) + 7) (nI 0)) (33 + 10 * (ln (M 2)) + 8) (nI 0)) (33 + 10 * (ln (M 2)) + 9) (-1))) H := hP
  refine lv_aload_n hx hb dX2_newLetter_44 rfl (lv_at hl 1 rfl) ?_
  refine va_get (D := (dC, dI)) (ci := 2) (v := .ref (a 2)) (C := RX2) (T := TX2) (N := 22) hx hb hts in_X2 hown hK hP 0 rfl rfl 3 (by decide) (hts _ q1954) (fun _ h9 => h9) rfl dX2_newLetter_45 ?_
  refine lv_iconst (v := nI 2) hx hb dX2_newLetter_48 (by decide) ?_
  refine lv_dup2_11 hx hb dX2_newLetter_49 rfl rfl ?_
  refine u_iald hx hb hK hP 2 0 rfl rfl (i := 2) (by omega) (by decide) dX2_newLetter_50 ?_
  refine u_top (y := (upd (upd (upd (upd (upd (M 2) (33 + 10 * (ln (M 2)) + 5) x) (33 + 10 * (ln (M 2)) + 6) (nI 0)) (33 + 10 * (ln (M 2)) + 7) (nI 0)) (33 + 10 * (ln (M 2)) + 8) (nI 0)) (33 + 10 * (ln (M 2)) + 9) (-1)) 2) rfl ?_
  refine u_top (y := nI (ln (M 2))) (by repeat rw [upd_ne (by omega)]; exact hn2) ?_
  refine lv_iconst (v := nI 1) hx hb dX2_newLetter_51 (by decide) ?_
  refine lv_iadd hx hb dX2_newLetter_52 ?_
  refine u_top (nI_add _ _) ?_
  refine m_as2 SF hK hJ hP hS (i := 2) (by omega) dX2_newLetter_53 (fun H locs hP hS => ?_)
  have hP : mP dC dI dA a (mrow M 2 (upd (upd (upd (upd (upd (upd (M 2) (33 + 10 * (ln (M 2)) + 5) x) (33 + 10 * (ln (M 2)) + 6) (nI 0)) (33 + 10 * (ln (M 2)) + 7) (nI 0)) (33 + 10 * (ln (M 2)) + 8) (nI 0)) (33 + 10 * (ln (M 2)) + 9) (-1)) 2 (nI (ln (M 2) + 1)))) H := hP
  exact hret _ _ _ _ hP hS dX2_newLetter_54
theorem k_X2_newLetter (hJ : mJ a) {x : Int32} (hn2 : M 2 2 = nI (ln (M 2))) (h1 : ln (M 2) < 24) (SF : CallFix p m c cc nL s args lw_all RX2) (hK : KK dC dI dA s) (rk : rmOK 2 R) (hsz : ls.size = nL) (hcat : (rest.map fun v => v.category).sum ≤ 8) (hP : mP dC dI dA a M H) (hS : uS (mA a) H0 H locs) (hdg : decode cc pc = .ok (.invokevirtual 215, 3)) (k : ∀ (H1 : Heap) (locs1 : List Loc), mP dC dI dA a (mrow M 2 (nwS (M 2) (ln (M 2)) x)) H1 → uS (mA a) H0 H1 locs1 → W p l e R s m args below meth c H1 locs1 0 0 Q (F0 m (pc + 3) ls (rest))) : W p l e R s m args below meth c H locs 0 0 Q (F0 m pc ls (.int x :: .ref (a 0) :: rest)) :=
  u_runMv (u_rV (C := RX2) (Ψ := (mP dC dI dA a M)) (As := [.int x]) SF hK rk (c_X2_newLetter l dC dI dA a M hJ x hn2 h1) (lw_V q2130 q2132 qs64 q117 q2133) (n := 1) (by decide +kernel) rfl (by decide) (va_recv hK hP (ci := 2) (q0 := 0) rfl rfl) hP hsz hcat ⟨Nat.zero_le _, Nat.zero_le _⟩ rfl hdg) hS (fun _ h => h) (fun H1 locs1 h1 h2 _ => k H1 locs1 h1 h2)

set_option maxHeartbeats 4000000 in
theorem c_X2_sumOf (l : Launch) (dC : Nat → ClassId) (dI : Nat → Nat → Nat) (dA : Nat → ClassId) (a : Nat → Nat) (M : Nat → Nat → Int32) (at1 : Nat) (h1 : at1 + 6 ≤ 273) : Met l yX2_sumOf (ws_ yX2_sumOf cX2_sumOf 4 (some .int)) (rmD 0 0 0) (uPc [.ref (a 0), .int (nI at1)] (mP dC dI dA a M) dC dI dA) (uQi (sum6 (M 2) at1 6)) 0 0 noF := by
  refine u_meti (own := RX2) (by decide) rfl (Nat.le_of_ble_eq_true rfl) fun p e R s m args below meth c Q SF rk hP hK hret ls hl => ?_
  have hx := SF.1
  have hb := SF.2.1
  have hml := SF.2.2.1
  have hown := SF.2.2.2.1
  have hts := SF.2.2.2.2
  have hl : lv_has ls 4 [(0, .ref (a 0)), (1, .int (nI at1))] := hl
  refine lv_iconst (v := nI 0) hx hb dX2_sumOf_0 (by decide) ?_
  refine lv_istore_n (lv' := [(2, .int (nI 0)), (0, .ref (a 0)), (1, .int (nI at1))]) hx hb dX2_sumOf_1 rfl hl (by decide) rfl (fun ls hl => ?_)
  refine lv_iconst (v := nI 0) hx hb dX2_sumOf_2 (by decide) ?_
  refine lv_istore_n (lv' := [(3, .int (nI 0)), (2, .int (nI 0)), (0, .ref (a 0)), (1, .int (nI at1))]) hx hb dX2_sumOf_3 rfl hl (by decide) rfl (fun ls hl => ?_)
  have lp4 : ∀ (k0 : Nat) (k : Nat), k ≤ 6 → 6 < k + k0 → ∀ ls : Array Slot, lv_has ls 4 [(3, .int (nI k)), (2, .int (sum6 (M 2) at1 k)), (0, .ref (a 0)), (1, .int (nI at1))] → W p l e R s m args below meth c s.heap [] 0 0 Q (F0 m 4 ls []) := by
    intro k0
    induction k0 with
    | zero =>
      intro k hk1 hk2; omega
    | succ k0 ih =>
      intro k hk1 hk2 ls hl
      have ih4 := ih
      refine lv_iload_n hx hb dX2_sumOf_4 rfl (lv_at hl 0 rfl) ?_
      refine lv_bipush (v := nI 6) hx hb dX2_sumOf_5 (by decide) ?_
      refine lv_icmp_ge (tgt := 27) hx hb dX2_sumOf_7 (by decide) (fun c_7 => ?_) (fun c_7 => ?_)
      · have c_7 : 6 ≤ k := (nI_leI (a := 6) (b := k) (by omega) (by omega)).mp c_7
        refine lv_iload_n hx hb dX2_sumOf_27 rfl (lv_at hl 1 rfl) ?_
        exact hret _ _ _ (by rw [show k = 6 by omega]) dX2_sumOf_28
      · have c_7 : ¬ (6 ≤ k) := fun q9 => c_7 ((nI_leI (a := 6) (b := k) (by omega) (by omega)).mpr q9)
        refine lv_iload_n hx hb dX2_sumOf_10 rfl (lv_at hl 1 rfl) ?_
        refine lv_aload_n hx hb dX2_sumOf_11 rfl (lv_at hl 2 rfl) ?_
        refine va_get (D := (dC, dI)) (ci := 2) (v := .ref (a 2)) (C := RX2) (T := TX2) (N := 22) hx hb hts in_X2 hown hK hP 0 rfl rfl 3 (by decide) (hts _ q1954) (fun _ h9 => h9) rfl dX2_sumOf_12 ?_
        refine lv_iload_n hx hb dX2_sumOf_15 rfl (lv_at hl 3 rfl) ?_
        refine lv_iload_n hx hb dX2_sumOf_16 rfl (lv_at hl 0 rfl) ?_
        refine lv_iadd hx hb dX2_sumOf_17 ?_
        refine u_top (nI_add _ _) ?_
        refine u_iald hx hb hK hP 2 0 rfl rfl (i := at1 + k) (by omega) (by decide) dX2_sumOf_18 ?_
        refine lv_iadd hx hb dX2_sumOf_19 ?_
        refine lv_istore_n (lv' := [(2, .int ((sum6 (M 2) at1 k) + (M 2 (at1 + k)))), (3, .int (nI k)), (0, .ref (a 0)), (1, .int (nI at1))]) hx hb dX2_sumOf_20 rfl hl (by decide) rfl (fun ls hl => ?_)
        refine lv_iinc (v := nI (k + 1)) (lv' := [(3, .int (nI (k + 1))), (2, .int ((sum6 (M 2) at1 k) + (M 2 (at1 + k)))), (0, .ref (a 0)), (1, .int (nI at1))]) hx hb dX2_sumOf_21 hl (k := 1) rfl (nI_add _ 1) (by decide) rfl (fun ls hl => ?_)
        refine lv_goto (tgt := 4) hx hb dX2_sumOf_24 (by decide) ?_
        exact ih4 (k + 1) (by omega) (by omega) ls (lv_sub hl [0, 1, 2, 3] rfl)
  exact lp4 (6 + 1) 0 (by omega) (by omega) ls (lv_sub hl [0, 1, 2, 3] rfl)
theorem k_X2_sumOf {at1 : Nat} (h1 : at1 + 6 ≤ 273) (SF : CallFix p m c cc nL s args lw_all RX2) (hK : KK dC dI dA s) (rk : rmOK 1 R) (hsz : ls.size = nL) (hcat : (rest.map fun v => v.category).sum ≤ 8) (hP : mP dC dI dA a M H) (hdg : decode cc pc = .ok (.invokevirtual 272, 3)) (k : W p l e R s m args below meth c H locs 0 0 Q (F0 m (pc + 3) ls (.int (sum6 (M 2) at1 6) :: rest))) : W p l e R s m args below meth c H locs 0 0 Q (F0 m pc ls (.int (nI at1) :: .ref (a 0) :: rest)) :=
  u_run (u_rV (C := RX2) (Ψ := (mP dC dI dA a M)) (As := [.int (nI at1)]) SF hK rk (c_X2_sumOf l dC dI dA a M at1 h1) (lw_V q2249 q2251 qs86 q117 q2252) (n := 1) (by decide +kernel) rfl (by decide) (va_recv hK hP (ci := 2) (q0 := 0) rfl rfl) hP hsz hcat ⟨Nat.zero_le _, Nat.zero_le _⟩ rfl hdg) k

set_option maxHeartbeats 4000000 in
theorem c_X2_waitingFor (l : Launch) (dC : Nat → ClassId) (dI : Nat → Nat → Nat) (dA : Nat → ClassId) (a : Nat → Nat) (M : Nat → Nat → Int32) (x : Int32) (hS1 : SWf (M 2)) (hT : TWf (M 1)) : Met l yX2_waitingFor (ws_ yX2_waitingFor cX2_waitingFor 5 (some .int)) (rmD 11 0 0) (uPc [.ref (a 0), .int x] (mP dC dI dA a M) dC dI dA) (uQi (nI (wtF (M 2) (M 1) x))) 0 0 noF := by
  refine u_meti (own := RX2) (by decide) rfl (Nat.le_of_ble_eq_true rfl) fun p e R s m args below meth c Q SF rk hP hK hret ls hl => ?_
  have hx := SF.1
  have hb := SF.2.1
  have hml := SF.2.2.1
  have hown := SF.2.2.2.1
  have hts := SF.2.2.2.2
  have hl : lv_has ls 5 [(0, .ref (a 0)), (1, .int x)] := hl
  have hL := hS1.2.1
  have hn9 := hT.2.1
  refine lv_iconst (v := nI 0) hx hb dX2_waitingFor_0 (by decide) ?_
  refine lv_istore_n (lv' := [(2, .int (nI 0)), (0, .ref (a 0)), (1, .int x)]) hx hb dX2_waitingFor_1 rfl hl (by decide) rfl (fun ls hl => ?_)
  refine lv_iconst (v := nI 0) hx hb dX2_waitingFor_2 (by decide) ?_
  refine lv_istore_n (lv' := [(3, .int (nI 0)), (2, .int (nI 0)), (0, .ref (a 0)), (1, .int x)]) hx hb dX2_waitingFor_3 rfl hl (by decide) rfl (fun ls hl => ?_)
  have lp4 : ∀ (k0 : Nat) (k : Nat), k ≤ ln (M 2) → ln (M 2) < k + k0 → ∀ ls : Array Slot, lv_has ls 5 [(3, .int (nI k)), (2, .int (nI (cntN (wtP (M 2) (M 1) x) k))), (0, .ref (a 0)), (1, .int x)] → W p l e R s m args below meth c s.heap [] 0 0 Q (F0 m 4 ls []) := by
    intro k0
    induction k0 with
    | zero =>
      intro k hk1 hk2; omega
    | succ k0 ih =>
      intro k hk1 hk2 ls hl
      have ih4 := ih
      refine lv_iload_n hx hb dX2_waitingFor_4 rfl (lv_at hl 0 rfl) ?_
      refine lv_aload_n hx hb dX2_waitingFor_5 rfl (lv_at hl 2 rfl) ?_
      refine k_X2_letters   SF hK (rk.le (Nat.le_of_ble_eq_true rfl)) hl.1 (Nat.le_of_ble_eq_true rfl) hP dX2_waitingFor_6 ?_
      refine u_top (y := nI (ln (M 2))) hS1.1 ?_
      refine lv_icmp_ge (tgt := 67) hx hb dX2_waitingFor_9 (by decide) (fun c_9 => ?_) (fun c_9 => ?_)
      · have c_9 : ln (M 2) ≤ k := (nI_leI (a := ln (M 2)) (b := k) (by omega) (by omega)).mp c_9
        refine lv_iload_n hx hb dX2_waitingFor_67 rfl (lv_at hl 1 rfl) ?_
        exact hret _ _ _ (by rw [show k = ln (M 2) by omega]; rfl) dX2_waitingFor_68
      · have c_9 : ¬ (ln (M 2) ≤ k) := fun q9 => c_9 ((nI_leI (a := ln (M 2)) (b := k) (by omega) (by omega)).mpr q9)
        refine lv_aload_n hx hb dX2_waitingFor_12 rfl (lv_at hl 2 rfl) ?_
        refine lv_iload_n hx hb dX2_waitingFor_13 rfl (lv_at hl 0 rfl) ?_
        refine lv_bipush (v := nI 6) hx hb dX2_waitingFor_14 (by decide) ?_
        refine k_X2_l  (by omega) (by omega) SF hK (rk.le (Nat.le_of_ble_eq_true rfl)) hl.1 (Nat.le_of_ble_eq_true rfl) hP dX2_waitingFor_16 ?_
        refine lv_if_ne (tgt := 30) hx hb dX2_waitingFor_19 (by decide) (fun c_19 => ?_) (fun c_19 => ?_)
        · refine lv_iconst (v := (-1)) hx hb dX2_waitingFor_30 (by decide) ?_
          refine lv_istore (lv' := [(4, .int (-1)), (3, .int (nI k)), (2, .int (nI (cntN (wtP (M 2) (M 1) x) k))), (0, .ref (a 0)), (1, .int x)]) hx hb dX2_waitingFor_31 hl (by decide) rfl (fun ls hl => ?_)
          refine lv_iload_n hx hb dX2_waitingFor_33 rfl (lv_at hl 2 rfl) ?_
          refine lv_iload hx hb dX2_waitingFor_34 (lv_at hl 0 rfl) ?_
          refine lv_iconst (v := (-1)) hx hb dX2_waitingFor_36 (by decide) ?_
          refine lv_icmp_eq (tgt := 55) hx hb dX2_waitingFor_37 (by decide) (fun c_37 => ?_) (fun c_37 => absurd (by decide) c_37)
          refine lv_iconst (v := nI 0) hx hb dX2_waitingFor_55 (by decide) ?_
          refine u_top (y := nI ((wtP (M 2) (M 1) x k).toNat)) (u_ff (by first | (rw [wtP_wait c_19]; decide) | (rw [wtP_none c_19 hE]; decide) | (rw [wtP_some c_19 hE]; simp [c_42, c_48]))) ?_
          refine k_X2_flag   SF hK (rk.le (Nat.le_of_ble_eq_true rfl)) hl.1 (Nat.le_of_ble_eq_true rfl) dX2_waitingFor_56 ?_
          refine lv_iadd hx hb dX2_waitingFor_59 ?_
          refine u_top (nI_add _ _) ?_
          refine lv_istore_n (lv' := [(2, .int (nI (cntN (wtP (M 2) (M 1) x) k + ((wtP (M 2) (M 1) x k).toNat)))), (4, .int (-1)), (3, .int (nI k)), (0, .ref (a 0)), (1, .int x)]) hx hb dX2_waitingFor_60 rfl hl (by decide) rfl (fun ls hl => ?_)
          refine lv_iinc (v := nI (k + 1)) (lv' := [(3, .int (nI (k + 1))), (2, .int (nI (cntN (wtP (M 2) (M 1) x) k + ((wtP (M 2) (M 1) x k).toNat)))), (4, .int (-1)), (0, .ref (a 0)), (1, .int x)]) hx hb dX2_waitingFor_61 hl (k := 2) rfl (nI_add _ 1) (by decide) rfl (fun ls hl => ?_)
          refine lv_goto (tgt := 4) hx hb dX2_waitingFor_64 (by decide) ?_
          exact ih4 (k + 1) (by omega) (by omega) ls (lv_sub hl [0, 1, 3, 4] rfl)
        · refine lv_aload_n hx hb dX2_waitingFor_22 rfl (lv_at hl 2 rfl) ?_
          refine lv_iload_n hx hb dX2_waitingFor_23 rfl (lv_at hl 0 rfl) ?_
          refine k_X2_decidedFor  (by omega) hS1 hT SF hK (rk.le (Nat.le_of_ble_eq_true rfl)) hl.1 (Nat.le_of_ble_eq_true rfl) hP dX2_waitingFor_24 ?_
          rcases hE : dcd (M 2) (M 1) k with _ | t9
          · refine u_top (y := (-1)) rfl ?_
            refine lv_goto (tgt := 31) hx hb dX2_waitingFor_27 (by decide) ?_
            refine lv_istore (lv' := [(4, .int (-1)), (3, .int (nI k)), (2, .int (nI (cntN (wtP (M 2) (M 1) x) k))), (0, .ref (a 0)), (1, .int x)]) hx hb dX2_waitingFor_31 hl (by decide) rfl (fun ls hl => ?_)
            refine lv_iload_n hx hb dX2_waitingFor_33 rfl (lv_at hl 2 rfl) ?_
            refine lv_iload hx hb dX2_waitingFor_34 (lv_at hl 0 rfl) ?_
            refine lv_iconst (v := (-1)) hx hb dX2_waitingFor_36 (by decide) ?_
            refine lv_icmp_eq (tgt := 55) hx hb dX2_waitingFor_37 (by decide) (fun c_37 => ?_) (fun c_37 => absurd (by decide) c_37)
            refine lv_iconst (v := nI 0) hx hb dX2_waitingFor_55 (by decide) ?_
            refine u_top (y := nI ((wtP (M 2) (M 1) x k).toNat)) (u_ff (by first | (rw [wtP_wait c_19]; decide) | (rw [wtP_none c_19 hE]; decide) | (rw [wtP_some c_19 hE]; simp [c_42, c_48]))) ?_
            refine k_X2_flag   SF hK (rk.le (Nat.le_of_ble_eq_true rfl)) hl.1 (Nat.le_of_ble_eq_true rfl) dX2_waitingFor_56 ?_
            refine lv_iadd hx hb dX2_waitingFor_59 ?_
            refine u_top (nI_add _ _) ?_
            refine lv_istore_n (lv' := [(2, .int (nI (cntN (wtP (M 2) (M 1) x) k + ((wtP (M 2) (M 1) x k).toNat)))), (4, .int (-1)), (3, .int (nI k)), (0, .ref (a 0)), (1, .int x)]) hx hb dX2_waitingFor_60 rfl hl (by decide) rfl (fun ls hl => ?_)
            refine lv_iinc (v := nI (k + 1)) (lv' := [(3, .int (nI (k + 1))), (2, .int (nI (cntN (wtP (M 2) (M 1) x) k + ((wtP (M 2) (M 1) x k).toNat)))), (4, .int (-1)), (0, .ref (a 0)), (1, .int x)]) hx hb dX2_waitingFor_61 hl (k := 2) rfl (nI_add _ 1) (by decide) rfl (fun ls hl => ?_)
            refine lv_goto (tgt := 4) hx hb dX2_waitingFor_64 (by decide) ?_
            exact ih4 (k + 1) (by omega) (by omega) ls (lv_sub hl [0, 1, 3, 4] rfl)
          · have ht9 := dcd_lt hE
            refine u_top (y := nI t9) rfl ?_
            refine lv_goto (tgt := 31) hx hb dX2_waitingFor_27 (by decide) ?_
            refine lv_istore (lv' := [(4, .int (nI t9)), (3, .int (nI k)), (2, .int (nI (cntN (wtP (M 2) (M 1) x) k))), (0, .ref (a 0)), (1, .int x)]) hx hb dX2_waitingFor_31 hl (by decide) rfl (fun ls hl => ?_)
            refine lv_iload_n hx hb dX2_waitingFor_33 rfl (lv_at hl 2 rfl) ?_
            refine lv_iload hx hb dX2_waitingFor_34 (lv_at hl 0 rfl) ?_
            refine lv_iconst (v := (-1)) hx hb dX2_waitingFor_36 (by decide) ?_
            refine lv_icmp_eq (tgt := 55) hx hb dX2_waitingFor_37 (by decide) (fun c_37 => absurd c_37 (nI_m1 (by omega))) (fun c_37 => ?_)
            refine lv_iload_n hx hb dX2_waitingFor_40 rfl (lv_at hl 4 rfl) ?_
            refine lv_iconst (v := (-1)) hx hb dX2_waitingFor_41 (by decide) ?_
            refine lv_icmp_eq (tgt := 51) hx hb dX2_waitingFor_42 (by decide) (fun c_42 => ?_) (fun c_42 => ?_)
            · refine lv_iconst (v := nI 1) hx hb dX2_waitingFor_51 (by decide) ?_
              refine u_top (y := nI ((wtP (M 2) (M 1) x k).toNat)) (u_tt (by rw [wtP_some c_19 hE]; first | (simp [c_42]; done) | (simp [c_48]; done))) ?_
              refine lv_goto (tgt := 56) hx hb dX2_waitingFor_52 (by decide) ?_
              refine k_X2_flag   SF hK (rk.le (Nat.le_of_ble_eq_true rfl)) hl.1 (Nat.le_of_ble_eq_true rfl) dX2_waitingFor_56 ?_
              refine lv_iadd hx hb dX2_waitingFor_59 ?_
              refine u_top (nI_add _ _) ?_
              refine lv_istore_n (lv' := [(2, .int (nI (cntN (wtP (M 2) (M 1) x) k + ((wtP (M 2) (M 1) x k).toNat)))), (4, .int (nI t9)), (3, .int (nI k)), (0, .ref (a 0)), (1, .int x)]) hx hb dX2_waitingFor_60 rfl hl (by decide) rfl (fun ls hl => ?_)
              refine lv_iinc (v := nI (k + 1)) (lv' := [(3, .int (nI (k + 1))), (2, .int (nI (cntN (wtP (M 2) (M 1) x) k + ((wtP (M 2) (M 1) x k).toNat)))), (4, .int (nI t9)), (0, .ref (a 0)), (1, .int x)]) hx hb dX2_waitingFor_61 hl (k := 2) rfl (nI_add _ 1) (by decide) rfl (fun ls hl => ?_)
              refine lv_goto (tgt := 4) hx hb dX2_waitingFor_64 (by decide) ?_
              exact ih4 (k + 1) (by omega) (by omega) ls (lv_sub hl [0, 1, 3, 4] rfl)
            · refine lv_iload hx hb dX2_waitingFor_45 (lv_at hl 0 rfl) ?_
              refine lv_iload_n hx hb dX2_waitingFor_47 rfl (lv_at hl 4 rfl) ?_
              refine lv_icmp_ne (tgt := 55) hx hb dX2_waitingFor_48 (by decide) (fun c_48 => ?_) (fun c_48 => ?_)
              · refine lv_iconst (v := nI 0) hx hb dX2_waitingFor_55 (by decide) ?_
                refine u_top (y := nI ((wtP (M 2) (M 1) x k).toNat)) (u_ff (by first | (rw [wtP_wait c_19]; decide) | (rw [wtP_none c_19 hE]; decide) | (rw [wtP_some c_19 hE]; simp [c_42, c_48]))) ?_
                refine k_X2_flag   SF hK (rk.le (Nat.le_of_ble_eq_true rfl)) hl.1 (Nat.le_of_ble_eq_true rfl) dX2_waitingFor_56 ?_
                refine lv_iadd hx hb dX2_waitingFor_59 ?_
                refine u_top (nI_add _ _) ?_
                refine lv_istore_n (lv' := [(2, .int (nI (cntN (wtP (M 2) (M 1) x) k + ((wtP (M 2) (M 1) x k).toNat)))), (4, .int (nI t9)), (3, .int (nI k)), (0, .ref (a 0)), (1, .int x)]) hx hb dX2_waitingFor_60 rfl hl (by decide) rfl (fun ls hl => ?_)
                refine lv_iinc (v := nI (k + 1)) (lv' := [(3, .int (nI (k + 1))), (2, .int (nI (cntN (wtP (M 2) (M 1) x) k + ((wtP (M 2) (M 1) x k).toNat)))), (4, .int (nI t9)), (0, .ref (a 0)), (1, .int x)]) hx hb dX2_waitingFor_61 hl (k := 2) rfl (nI_add _ 1) (by decide) rfl (fun ls hl => ?_)
                refine lv_goto (tgt := 4) hx hb dX2_waitingFor_64 (by decide) ?_
                exact ih4 (k + 1) (by omega) (by omega) ls (lv_sub hl [0, 1, 3, 4] rfl)
              · refine lv_iconst (v := nI 1) hx hb dX2_waitingFor_51 (by decide) ?_
                refine u_top (y := nI ((wtP (M 2) (M 1) x k).toNat)) (u_tt (by rw [wtP_some c_19 hE]; first | (simp [c_42]; done) | (simp [c_48]; done))) ?_
                refine lv_goto (tgt := 56) hx hb dX2_waitingFor_52 (by decide) ?_
                refine k_X2_flag   SF hK (rk.le (Nat.le_of_ble_eq_true rfl)) hl.1 (Nat.le_of_ble_eq_true rfl) dX2_waitingFor_56 ?_
                refine lv_iadd hx hb dX2_waitingFor_59 ?_
                refine u_top (nI_add _ _) ?_
                refine lv_istore_n (lv' := [(2, .int (nI (cntN (wtP (M 2) (M 1) x) k + ((wtP (M 2) (M 1) x k).toNat)))), (4, .int (nI t9)), (3, .int (nI k)), (0, .ref (a 0)), (1, .int x)]) hx hb dX2_waitingFor_60 rfl hl (by decide) rfl (fun ls hl => ?_)
                refine lv_iinc (v := nI (k + 1)) (lv' := [(3, .int (nI (k + 1))), (2, .int (nI (cntN (wtP (M 2) (M 1) x) k + ((wtP (M 2) (M 1) x k).toNat)))), (4, .int (nI t9)), (0, .ref (a 0)), (1, .int x)]) hx hb dX2_waitingFor_61 hl (k := 2) rfl (nI_add _ 1) (by decide) rfl (fun ls hl => ?_)
                refine lv_goto (tgt := 4) hx hb dX2_waitingFor_64 (by decide) ?_
                exact ih4 (k + 1) (by omega) (by omega) ls (lv_sub hl [0, 1, 3, 4] rfl)
  exact lp4 (ln (M 2) + 1) 0 (by omega) (by omega) ls (lv_sub hl [0, 1, 2, 3] rfl)
theorem k_X2_waitingFor {x : Int32} (hS1 : SWf (M 2)) (hT : TWf (M 1)) (SF : CallFix p m c cc nL s args lw_all RX2) (hK : KK dC dI dA s) (rk : rmOK 12 R) (hsz : ls.size = nL) (hcat : (rest.map fun v => v.category).sum ≤ 8) (hP : mP dC dI dA a M H) (hdg : decode cc pc = .ok (.invokevirtual 269, 3)) (k : W p l e R s m args below meth c H locs 0 0 Q (F0 m (pc + 3) ls (.int (nI (wtF (M 2) (M 1) x)) :: rest))) : W p l e R s m args below meth c H locs 0 0 Q (F0 m pc ls (.int x :: .ref (a 0) :: rest)) :=
  u_run (u_rV (C := RX2) (Ψ := (mP dC dI dA a M)) (As := [.int x]) SF hK rk (c_X2_waitingFor l dC dI dA a M x hS1 hT) (lw_V q2245 q2247 qs85 q117 q2248) (n := 1) (by decide +kernel) rfl (by decide) (va_recv hK hP (ci := 2) (q0 := 0) rfl rfl) hP hsz hcat ⟨Nat.zero_le _, Nat.zero_le _⟩ rfl hdg) k

set_option maxHeartbeats 4000000 in
theorem c_X2_sortedFor (l : Launch) (dC : Nat → ClassId) (dI : Nat → Nat → Nat) (dA : Nat → ClassId) (a : Nat → Nat) (M : Nat → Nat → Int32) (x : Int32) (hS1 : SWf (M 2)) : Met l yX2_sortedFor (ws_ yX2_sortedFor cX2_sortedFor 4 (some .int)) (rmD 1 0 0) (uPc [.ref (a 0), .int x] (mP dC dI dA a M) dC dI dA) (uQi (nI (srF (M 2) x))) 0 0 noF := by
  refine u_meti (own := RX2) (by decide) rfl (Nat.le_of_ble_eq_true rfl) fun p e R s m args below meth c Q SF rk hP hK hret ls hl => ?_
  have hx := SF.1
  have hb := SF.2.1
  have hml := SF.2.2.1
  have hown := SF.2.2.2.1
  have hts := SF.2.2.2.2
  have hl : lv_has ls 4 [(0, .ref (a 0)), (1, .int x)] := hl
  have hL := hS1.2.1
  refine lv_iconst (v := nI 0) hx hb dX2_sortedFor_0 (by decide) ?_
  refine lv_istore_n (lv' := [(2, .int (nI 0)), (0, .ref (a 0)), (1, .int x)]) hx hb dX2_sortedFor_1 rfl hl (by decide) rfl (fun ls hl => ?_)
  refine lv_iconst (v := nI 0) hx hb dX2_sortedFor_2 (by decide) ?_
  refine lv_istore_n (lv' := [(3, .int (nI 0)), (2, .int (nI 0)), (0, .ref (a 0)), (1, .int x)]) hx hb dX2_sortedFor_3 rfl hl (by decide) rfl (fun ls hl => ?_)
  have lp4 : ∀ (k0 : Nat) (k : Nat), k ≤ ln (M 2) → ln (M 2) < k + k0 → ∀ ls : Array Slot, lv_has ls 4 [(3, .int (nI k)), (2, .int (nI (cntN (fun o => decide (lr (M 2) o 6 = nI 1) && decide (lr (M 2) o 9 = x)) k))), (0, .ref (a 0)), (1, .int x)] → W p l e R s m args below meth c s.heap [] 0 0 Q (F0 m 4 ls []) := by
    intro k0
    induction k0 with
    | zero =>
      intro k hk1 hk2; omega
    | succ k0 ih =>
      intro k hk1 hk2 ls hl
      have ih4 := ih
      refine lv_iload_n hx hb dX2_sortedFor_4 rfl (lv_at hl 0 rfl) ?_
      refine lv_aload_n hx hb dX2_sortedFor_5 rfl (lv_at hl 2 rfl) ?_
      refine k_X2_letters   SF hK (rk.le (Nat.le_of_ble_eq_true rfl)) hl.1 (Nat.le_of_ble_eq_true rfl) hP dX2_sortedFor_6 ?_
      refine u_top (y := nI (ln (M 2))) hS1.1 ?_
      refine lv_icmp_ge (tgt := 51) hx hb dX2_sortedFor_9 (by decide) (fun c_9 => ?_) (fun c_9 => ?_)
      · have c_9 : ln (M 2) ≤ k := (nI_leI (a := ln (M 2)) (b := k) (by omega) (by omega)).mp c_9
        refine lv_iload_n hx hb dX2_sortedFor_51 rfl (lv_at hl 1 rfl) ?_
        exact hret _ _ _ (by rw [show k = ln (M 2) by omega]; rfl) dX2_sortedFor_52
      · have c_9 : ¬ (ln (M 2) ≤ k) := fun q9 => c_9 ((nI_leI (a := ln (M 2)) (b := k) (by omega) (by omega)).mpr q9)
        refine lv_iload_n hx hb dX2_sortedFor_12 rfl (lv_at hl 1 rfl) ?_
        refine lv_aload_n hx hb dX2_sortedFor_13 rfl (lv_at hl 2 rfl) ?_
        refine lv_iload_n hx hb dX2_sortedFor_14 rfl (lv_at hl 0 rfl) ?_
        refine lv_bipush (v := nI 6) hx hb dX2_sortedFor_15 (by decide) ?_
        refine k_X2_l  (by omega) (by omega) SF hK (rk.le (Nat.le_of_ble_eq_true rfl)) hl.1 (Nat.le_of_ble_eq_true rfl) hP dX2_sortedFor_17 ?_
        refine lv_iconst (v := nI 1) hx hb dX2_sortedFor_20 (by decide) ?_
        refine lv_icmp_ne (tgt := 39) hx hb dX2_sortedFor_21 (by decide) (fun c_21 => ?_) (fun c_21 => ?_)
        · refine lv_iconst (v := nI 0) hx hb dX2_sortedFor_39 (by decide) ?_
          refine u_top (y := nI ((decide (lr (M 2) k 6 = nI 1) && decide (lr (M 2) k 9 = x)).toNat)) (u_ff (by first | (simp [c_21]; done) | (simp [c_32]; done))) ?_
          refine k_X2_flag   SF hK (rk.le (Nat.le_of_ble_eq_true rfl)) hl.1 (Nat.le_of_ble_eq_true rfl) dX2_sortedFor_40 ?_
          refine lv_iadd hx hb dX2_sortedFor_43 ?_
          refine u_top (nI_add _ _) ?_
          refine lv_istore_n (lv' := [(2, .int (nI (cntN (fun o => decide (lr (M 2) o 6 = nI 1) && decide (lr (M 2) o 9 = x)) k + ((decide (lr (M 2) k 6 = nI 1) && decide (lr (M 2) k 9 = x)).toNat)))), (3, .int (nI k)), (0, .ref (a 0)), (1, .int x)]) hx hb dX2_sortedFor_44 rfl hl (by decide) rfl (fun ls hl => ?_)
          refine lv_iinc (v := nI (k + 1)) (lv' := [(3, .int (nI (k + 1))), (2, .int (nI (cntN (fun o => decide (lr (M 2) o 6 = nI 1) && decide (lr (M 2) o 9 = x)) k + ((decide (lr (M 2) k 6 = nI 1) && decide (lr (M 2) k 9 = x)).toNat)))), (0, .ref (a 0)), (1, .int x)]) hx hb dX2_sortedFor_45 hl (k := 1) rfl (nI_add _ 1) (by decide) rfl (fun ls hl => ?_)
          refine lv_goto (tgt := 4) hx hb dX2_sortedFor_48 (by decide) ?_
          exact ih4 (k + 1) (by omega) (by omega) ls (lv_sub hl [0, 1, 2, 3] rfl)
        · refine lv_aload_n hx hb dX2_sortedFor_24 rfl (lv_at hl 2 rfl) ?_
          refine lv_iload_n hx hb dX2_sortedFor_25 rfl (lv_at hl 0 rfl) ?_
          refine lv_bipush (v := nI 9) hx hb dX2_sortedFor_26 (by decide) ?_
          refine k_X2_l  (by omega) (by omega) SF hK (rk.le (Nat.le_of_ble_eq_true rfl)) hl.1 (Nat.le_of_ble_eq_true rfl) hP dX2_sortedFor_28 ?_
          refine lv_iload_n hx hb dX2_sortedFor_31 rfl (lv_at hl 3 rfl) ?_
          refine lv_icmp_ne (tgt := 39) hx hb dX2_sortedFor_32 (by decide) (fun c_32 => ?_) (fun c_32 => ?_)
          · refine lv_iconst (v := nI 0) hx hb dX2_sortedFor_39 (by decide) ?_
            refine u_top (y := nI ((decide (lr (M 2) k 6 = nI 1) && decide (lr (M 2) k 9 = x)).toNat)) (u_ff (by first | (simp [c_21]; done) | (simp [c_32]; done))) ?_
            refine k_X2_flag   SF hK (rk.le (Nat.le_of_ble_eq_true rfl)) hl.1 (Nat.le_of_ble_eq_true rfl) dX2_sortedFor_40 ?_
            refine lv_iadd hx hb dX2_sortedFor_43 ?_
            refine u_top (nI_add _ _) ?_
            refine lv_istore_n (lv' := [(2, .int (nI (cntN (fun o => decide (lr (M 2) o 6 = nI 1) && decide (lr (M 2) o 9 = x)) k + ((decide (lr (M 2) k 6 = nI 1) && decide (lr (M 2) k 9 = x)).toNat)))), (3, .int (nI k)), (0, .ref (a 0)), (1, .int x)]) hx hb dX2_sortedFor_44 rfl hl (by decide) rfl (fun ls hl => ?_)
            refine lv_iinc (v := nI (k + 1)) (lv' := [(3, .int (nI (k + 1))), (2, .int (nI (cntN (fun o => decide (lr (M 2) o 6 = nI 1) && decide (lr (M 2) o 9 = x)) k + ((decide (lr (M 2) k 6 = nI 1) && decide (lr (M 2) k 9 = x)).toNat)))), (0, .ref (a 0)), (1, .int x)]) hx hb dX2_sortedFor_45 hl (k := 1) rfl (nI_add _ 1) (by decide) rfl (fun ls hl => ?_)
            refine lv_goto (tgt := 4) hx hb dX2_sortedFor_48 (by decide) ?_
            exact ih4 (k + 1) (by omega) (by omega) ls (lv_sub hl [0, 1, 2, 3] rfl)
          · refine lv_iconst (v := nI 1) hx hb dX2_sortedFor_35 (by decide) ?_
            refine u_top (y := nI ((decide (lr (M 2) k 6 = nI 1) && decide (lr (M 2) k 9 = x)).toNat)) (u_tt (by simp [c_21, c_32])) ?_
            refine lv_goto (tgt := 40) hx hb dX2_sortedFor_36 (by decide) ?_
            refine k_X2_flag   SF hK (rk.le (Nat.le_of_ble_eq_true rfl)) hl.1 (Nat.le_of_ble_eq_true rfl) dX2_sortedFor_40 ?_
            refine lv_iadd hx hb dX2_sortedFor_43 ?_
            refine u_top (nI_add _ _) ?_
            refine lv_istore_n (lv' := [(2, .int (nI (cntN (fun o => decide (lr (M 2) o 6 = nI 1) && decide (lr (M 2) o 9 = x)) k + ((decide (lr (M 2) k 6 = nI 1) && decide (lr (M 2) k 9 = x)).toNat)))), (3, .int (nI k)), (0, .ref (a 0)), (1, .int x)]) hx hb dX2_sortedFor_44 rfl hl (by decide) rfl (fun ls hl => ?_)
            refine lv_iinc (v := nI (k + 1)) (lv' := [(3, .int (nI (k + 1))), (2, .int (nI (cntN (fun o => decide (lr (M 2) o 6 = nI 1) && decide (lr (M 2) o 9 = x)) k + ((decide (lr (M 2) k 6 = nI 1) && decide (lr (M 2) k 9 = x)).toNat)))), (0, .ref (a 0)), (1, .int x)]) hx hb dX2_sortedFor_45 hl (k := 1) rfl (nI_add _ 1) (by decide) rfl (fun ls hl => ?_)
            refine lv_goto (tgt := 4) hx hb dX2_sortedFor_48 (by decide) ?_
            exact ih4 (k + 1) (by omega) (by omega) ls (lv_sub hl [0, 1, 2, 3] rfl)
  exact lp4 (ln (M 2) + 1) 0 (by omega) (by omega) ls (lv_sub hl [0, 1, 2, 3] rfl)
theorem k_X2_sortedFor {x : Int32} (hS1 : SWf (M 2)) (SF : CallFix p m c cc nL s args lw_all RX2) (hK : KK dC dI dA s) (rk : rmOK 2 R) (hsz : ls.size = nL) (hcat : (rest.map fun v => v.category).sum ≤ 8) (hP : mP dC dI dA a M H) (hdg : decode cc pc = .ok (.invokevirtual 283, 3)) (k : W p l e R s m args below meth c H locs 0 0 Q (F0 m (pc + 3) ls (.int (nI (srF (M 2) x)) :: rest))) : W p l e R s m args below meth c H locs 0 0 Q (F0 m pc ls (.int x :: .ref (a 0) :: rest)) :=
  u_run (u_rV (C := RX2) (Ψ := (mP dC dI dA a M)) (As := [.int x]) SF hK rk (c_X2_sortedFor l dC dI dA a M x hS1) (lw_V q2266 q2268 qs89 q117 q2269) (n := 1) (by decide +kernel) rfl (by decide) (va_recv hK hP (ci := 2) (q0 := 0) rfl rfl) hP hsz hcat ⟨Nat.zero_le _, Nat.zero_le _⟩ rfl hdg) k

set_option maxHeartbeats 4000000 in
theorem c_X2_nearLetters (l : Launch) (dC : Nat → ClassId) (dI : Nat → Nat → Nat) (dA : Nat → ClassId) (a : Nat → Nat) (M : Nat → Nat → Int32) (t : Nat) (ht : t < tn (M 1)) (hS1 : SWf (M 2)) (hT : TWf (M 1)) : Met l yX2_nearLetters (ws_ yX2_nearLetters cX2_nearLetters 4 (some .int)) (rmD 5 0 0) (uPc [.ref (a 0), .int (nI t)] (mP dC dI dA a M) dC dI dA) (uQi (nI (nrL (M 2) (M 1) t))) 0 0 noF := by
  refine u_meti (own := RX2) (by decide) rfl (Nat.le_of_ble_eq_true rfl) fun p e R s m args below meth c Q SF rk hP hK hret ls hl => ?_
  have hx := SF.1
  have hb := SF.2.1
  have hml := SF.2.2.1
  have hown := SF.2.2.2.1
  have hts := SF.2.2.2.2
  have hl : lv_has ls 4 [(0, .ref (a 0)), (1, .int (nI t))] := hl
  have hL := hS1.2.1
  have hn9 := hT.2.1
  refine lv_iconst (v := nI 0) hx hb dX2_nearLetters_0 (by decide) ?_
  refine lv_istore_n (lv' := [(2, .int (nI 0)), (0, .ref (a 0)), (1, .int (nI t))]) hx hb dX2_nearLetters_1 rfl hl (by decide) rfl (fun ls hl => ?_)
  refine lv_iconst (v := nI 0) hx hb dX2_nearLetters_2 (by decide) ?_
  refine lv_istore_n (lv' := [(3, .int (nI 0)), (2, .int (nI 0)), (0, .ref (a 0)), (1, .int (nI t))]) hx hb dX2_nearLetters_3 rfl hl (by decide) rfl (fun ls hl => ?_)
  have lp4 : ∀ (k0 : Nat) (k : Nat), k ≤ ln (M 2) → ln (M 2) < k + k0 → ∀ ls : Array Slot, lv_has ls 4 [(3, .int (nI k)), (2, .int (nI (cntN (fun o => decide (lr (M 2) o 6 = 0) && decide (farT (M 2) (M 1) o t ≤ lim (M 2))) k))), (0, .ref (a 0)), (1, .int (nI t))] → W p l e R s m args below meth c s.heap [] 0 0 Q (F0 m 4 ls []) := by
    intro k0
    induction k0 with
    | zero =>
      intro k hk1 hk2; omega
    | succ k0 ih =>
      intro k hk1 hk2 ls hl
      have ih4 := ih
      have hf9 := farT_le (M 2) (M 1) k t
      have hlim := hS1.2.2.2.1
      refine lv_iload_n hx hb dX2_nearLetters_4 rfl (lv_at hl 0 rfl) ?_
      refine lv_aload_n hx hb dX2_nearLetters_5 rfl (lv_at hl 2 rfl) ?_
      refine k_X2_letters   SF hK (rk.le (Nat.le_of_ble_eq_true rfl)) hl.1 (Nat.le_of_ble_eq_true rfl) hP dX2_nearLetters_6 ?_
      refine u_top (y := nI (ln (M 2))) hS1.1 ?_
      refine lv_icmp_ge (tgt := 54) hx hb dX2_nearLetters_9 (by decide) (fun c_9 => ?_) (fun c_9 => ?_)
      · have c_9 : ln (M 2) ≤ k := (nI_leI (a := ln (M 2)) (b := k) (by omega) (by omega)).mp c_9
        refine lv_iload_n hx hb dX2_nearLetters_54 rfl (lv_at hl 1 rfl) ?_
        exact hret _ _ _ (by rw [show k = ln (M 2) by omega]; rfl) dX2_nearLetters_55
      · have c_9 : ¬ (ln (M 2) ≤ k) := fun q9 => c_9 ((nI_leI (a := ln (M 2)) (b := k) (by omega) (by omega)).mpr q9)
        refine lv_iload_n hx hb dX2_nearLetters_12 rfl (lv_at hl 1 rfl) ?_
        refine lv_aload_n hx hb dX2_nearLetters_13 rfl (lv_at hl 2 rfl) ?_
        refine lv_iload_n hx hb dX2_nearLetters_14 rfl (lv_at hl 0 rfl) ?_
        refine lv_bipush (v := nI 6) hx hb dX2_nearLetters_15 (by decide) ?_
        refine k_X2_l  (by omega) (by omega) SF hK (rk.le (Nat.le_of_ble_eq_true rfl)) hl.1 (Nat.le_of_ble_eq_true rfl) hP dX2_nearLetters_17 ?_
        refine lv_if_ne (tgt := 42) hx hb dX2_nearLetters_20 (by decide) (fun c_20 => ?_) (fun c_20 => ?_)
        · refine lv_iconst (v := nI 0) hx hb dX2_nearLetters_42 (by decide) ?_
          refine u_top (y := nI ((decide (lr (M 2) k 6 = 0) && decide (farT (M 2) (M 1) k t ≤ lim (M 2))).toNat)) (u_ff (by first | (simp [c_20]; done) | (simp [c_20]; omega))) ?_
          refine k_X2_flag   SF hK (rk.le (Nat.le_of_ble_eq_true rfl)) hl.1 (Nat.le_of_ble_eq_true rfl) dX2_nearLetters_43 ?_
          refine lv_iadd hx hb dX2_nearLetters_46 ?_
          refine u_top (nI_add _ _) ?_
          refine lv_istore_n (lv' := [(2, .int (nI (cntN (fun o => decide (lr (M 2) o 6 = 0) && decide (farT (M 2) (M 1) o t ≤ lim (M 2))) k + ((decide (lr (M 2) k 6 = 0) && decide (farT (M 2) (M 1) k t ≤ lim (M 2))).toNat)))), (3, .int (nI k)), (0, .ref (a 0)), (1, .int (nI t))]) hx hb dX2_nearLetters_47 rfl hl (by decide) rfl (fun ls hl => ?_)
          refine lv_iinc (v := nI (k + 1)) (lv' := [(3, .int (nI (k + 1))), (2, .int (nI (cntN (fun o => decide (lr (M 2) o 6 = 0) && decide (farT (M 2) (M 1) o t ≤ lim (M 2))) k + ((decide (lr (M 2) k 6 = 0) && decide (farT (M 2) (M 1) k t ≤ lim (M 2))).toNat)))), (0, .ref (a 0)), (1, .int (nI t))]) hx hb dX2_nearLetters_48 hl (k := 1) rfl (nI_add _ 1) (by decide) rfl (fun ls hl => ?_)
          refine lv_goto (tgt := 4) hx hb dX2_nearLetters_51 (by decide) ?_
          exact ih4 (k + 1) (by omega) (by omega) ls (lv_sub hl [0, 1, 2, 3] rfl)
        · refine lv_aload_n hx hb dX2_nearLetters_23 rfl (lv_at hl 2 rfl) ?_
          refine lv_iload_n hx hb dX2_nearLetters_24 rfl (lv_at hl 0 rfl) ?_
          refine lv_iload_n hx hb dX2_nearLetters_25 rfl (lv_at hl 3 rfl) ?_
          refine k_X2_farTown  (by omega) ht hS1 hT SF hK (rk.le (Nat.le_of_ble_eq_true rfl)) hl.1 (Nat.le_of_ble_eq_true rfl) hP dX2_nearLetters_26 ?_
          refine lv_aload_n hx hb dX2_nearLetters_29 rfl (lv_at hl 2 rfl) ?_
          refine va_get (D := (dC, dI)) (ci := 2) (v := .ref (a 2)) (C := RX2) (T := TX2) (N := 22) hx hb hts in_X2 hown hK hP 0 rfl rfl 3 (by decide) (hts _ q1954) (fun _ h9 => h9) rfl dX2_nearLetters_30 ?_
          refine lv_iconst (v := nI 0) hx hb dX2_nearLetters_33 (by decide) ?_
          refine u_iald hx hb hK hP 2 0 rfl rfl (i := 0) (by omega) (by decide) dX2_nearLetters_34 ?_
          refine u_top (y := nI (lim (M 2))) hS1.2.2.1 ?_
          refine lv_icmp_gt (tgt := 42) hx hb dX2_nearLetters_35 (by decide) (fun c_35 => ?_) (fun c_35 => ?_)
          · have c_35 : lim (M 2) < farT (M 2) (M 1) k t := (nI_ltI (a := lim (M 2)) (b := farT (M 2) (M 1) k t) (by omega) (by omega)).mp c_35
            refine lv_iconst (v := nI 0) hx hb dX2_nearLetters_42 (by decide) ?_
            refine u_top (y := nI ((decide (lr (M 2) k 6 = 0) && decide (farT (M 2) (M 1) k t ≤ lim (M 2))).toNat)) (u_ff (by first | (simp [c_20]; done) | (simp [c_20]; omega))) ?_
            refine k_X2_flag   SF hK (rk.le (Nat.le_of_ble_eq_true rfl)) hl.1 (Nat.le_of_ble_eq_true rfl) dX2_nearLetters_43 ?_
            refine lv_iadd hx hb dX2_nearLetters_46 ?_
            refine u_top (nI_add _ _) ?_
            refine lv_istore_n (lv' := [(2, .int (nI (cntN (fun o => decide (lr (M 2) o 6 = 0) && decide (farT (M 2) (M 1) o t ≤ lim (M 2))) k + ((decide (lr (M 2) k 6 = 0) && decide (farT (M 2) (M 1) k t ≤ lim (M 2))).toNat)))), (3, .int (nI k)), (0, .ref (a 0)), (1, .int (nI t))]) hx hb dX2_nearLetters_47 rfl hl (by decide) rfl (fun ls hl => ?_)
            refine lv_iinc (v := nI (k + 1)) (lv' := [(3, .int (nI (k + 1))), (2, .int (nI (cntN (fun o => decide (lr (M 2) o 6 = 0) && decide (farT (M 2) (M 1) o t ≤ lim (M 2))) k + ((decide (lr (M 2) k 6 = 0) && decide (farT (M 2) (M 1) k t ≤ lim (M 2))).toNat)))), (0, .ref (a 0)), (1, .int (nI t))]) hx hb dX2_nearLetters_48 hl (k := 1) rfl (nI_add _ 1) (by decide) rfl (fun ls hl => ?_)
            refine lv_goto (tgt := 4) hx hb dX2_nearLetters_51 (by decide) ?_
            exact ih4 (k + 1) (by omega) (by omega) ls (lv_sub hl [0, 1, 2, 3] rfl)
          · have c_35 : ¬ (lim (M 2) < farT (M 2) (M 1) k t) := fun q9 => c_35 ((nI_ltI (a := lim (M 2)) (b := farT (M 2) (M 1) k t) (by omega) (by omega)).mpr q9)
            refine lv_iconst (v := nI 1) hx hb dX2_nearLetters_38 (by decide) ?_
            refine u_top (y := nI ((decide (lr (M 2) k 6 = 0) && decide (farT (M 2) (M 1) k t ≤ lim (M 2))).toNat)) (u_tt (by simp [c_20]; omega)) ?_
            refine lv_goto (tgt := 43) hx hb dX2_nearLetters_39 (by decide) ?_
            refine k_X2_flag   SF hK (rk.le (Nat.le_of_ble_eq_true rfl)) hl.1 (Nat.le_of_ble_eq_true rfl) dX2_nearLetters_43 ?_
            refine lv_iadd hx hb dX2_nearLetters_46 ?_
            refine u_top (nI_add _ _) ?_
            refine lv_istore_n (lv' := [(2, .int (nI (cntN (fun o => decide (lr (M 2) o 6 = 0) && decide (farT (M 2) (M 1) o t ≤ lim (M 2))) k + ((decide (lr (M 2) k 6 = 0) && decide (farT (M 2) (M 1) k t ≤ lim (M 2))).toNat)))), (3, .int (nI k)), (0, .ref (a 0)), (1, .int (nI t))]) hx hb dX2_nearLetters_47 rfl hl (by decide) rfl (fun ls hl => ?_)
            refine lv_iinc (v := nI (k + 1)) (lv' := [(3, .int (nI (k + 1))), (2, .int (nI (cntN (fun o => decide (lr (M 2) o 6 = 0) && decide (farT (M 2) (M 1) o t ≤ lim (M 2))) k + ((decide (lr (M 2) k 6 = 0) && decide (farT (M 2) (M 1) k t ≤ lim (M 2))).toNat)))), (0, .ref (a 0)), (1, .int (nI t))]) hx hb dX2_nearLetters_48 hl (k := 1) rfl (nI_add _ 1) (by decide) rfl (fun ls hl => ?_)
            refine lv_goto (tgt := 4) hx hb dX2_nearLetters_51 (by decide) ?_
            exact ih4 (k + 1) (by omega) (by omega) ls (lv_sub hl [0, 1, 2, 3] rfl)
  exact lp4 (ln (M 2) + 1) 0 (by omega) (by omega) ls (lv_sub hl [0, 1, 2, 3] rfl)
theorem k_X2_nearLetters {t : Nat} (ht : t < tn (M 1)) (hS1 : SWf (M 2)) (hT : TWf (M 1)) (SF : CallFix p m c cc nL s args lw_all RX2) (hK : KK dC dI dA s) (rk : rmOK 6 R) (hsz : ls.size = nL) (hcat : (rest.map fun v => v.category).sum ≤ 8) (hP : mP dC dI dA a M H) (hdg : decode cc pc = .ok (.invokevirtual 286, 3)) (k : W p l e R s m args below meth c H locs 0 0 Q (F0 m (pc + 3) ls (.int (nI (nrL (M 2) (M 1) t)) :: rest))) : W p l e R s m args below meth c H locs 0 0 Q (F0 m pc ls (.int (nI t) :: .ref (a 0) :: rest)) :=
  u_run (u_rV (C := RX2) (Ψ := (mP dC dI dA a M)) (As := [.int (nI t)]) SF hK rk (c_X2_nearLetters l dC dI dA a M t ht hS1 hT) (lw_V q2270 q2272 qs90 q117 q2273) (n := 1) (by decide +kernel) rfl (by decide) (va_recv hK hP (ci := 2) (q0 := 0) rfl rfl) hP hsz hcat ⟨Nat.zero_le _, Nat.zero_le _⟩ rfl hdg) k

set_option maxHeartbeats 4000000 in
theorem c_X2_isTown (l : Launch) (dC : Nat → ClassId) (dI : Nat → Nat → Nat) (dA : Nat → ClassId) (a : Nat → Nat) (M : Nat → Nat → Int32) (x : Int32) (hT : TWf (M 1)) : Met l yX2_isTown (ws_ yX2_isTown cX2_isTown 2 (some .boolean)) (rmD 1 0 0) (uPc [.ref (a 0), .int x] (mP dC dI dA a M) dC dI dA) (uQi (nI (inZ x.toInt 0 ((tn (M 1) : Int) - 1)).toNat)) 0 0 noF := by
  refine u_metz (own := RX2) (by decide) rfl (Nat.le_of_ble_eq_true rfl) fun p e R s m args below meth c Q SF rk hP hK hret ls hl => ?_
  have hx := SF.1
  have hb := SF.2.1
  have hml := SF.2.2.1
  have hown := SF.2.2.2.1
  have hts := SF.2.2.2.2
  have hl : lv_has ls 2 [(0, .ref (a 0)), (1, .int x)] := hl
  have hn9 := hT.2.1
  refine lv_iload_n hx hb dX2_isTown_0 rfl (lv_at hl 1 rfl) ?_
  refine lv_i2l hx hb dX2_isTown_1 rfl ?_
  refine lv_lconst (v := 0) hx hb dX2_isTown_2 rfl ?_
  refine lv_aload_n hx hb dX2_isTown_3 rfl (lv_at hl 0 rfl) ?_
  refine k_X2_towns   SF hK (rk.le (Nat.le_of_ble_eq_true rfl)) hl.1 (Nat.le_of_ble_eq_true rfl) hP dX2_isTown_4 ?_
  refine u_top (y := nI (tn (M 1))) hT.1 ?_
  refine lv_iconst (v := nI 1) hx hb dX2_isTown_7 (by decide) ?_
  refine lv_isub hx hb dX2_isTown_8 ?_
  refine lv_i2l hx hb dX2_isTown_9 rfl ?_
  refine k_X2_in (X := x.toInt) (L := 0) (U := (tn (M 1) : Int) - 1) (i2l_toInt x) (by decide) (by rw [i2l_toInt, pk_sub_toInt (by omega) (by decide)]; try rfl) SF hK (rk.le (Nat.le_of_ble_eq_true rfl)) hl.1 (Nat.le_of_ble_eq_true rfl) dX2_isTown_10 ?_
  exact hret _ _ _ rfl dX2_isTown_13
theorem k_X2_isTown {x : Int32} (hT : TWf (M 1)) (SF : CallFix p m c cc nL s args lw_all RX2) (hK : KK dC dI dA s) (rk : rmOK 2 R) (hsz : ls.size = nL) (hcat : (rest.map fun v => v.category).sum ≤ 8) (hP : mP dC dI dA a M H) (hdg : decode cc pc = .ok (.invokevirtual 275, 3)) (k : W p l e R s m args below meth c H locs 0 0 Q (F0 m (pc + 3) ls (.int (nI (inZ x.toInt 0 ((tn (M 1) : Int) - 1)).toNat) :: rest))) : W p l e R s m args below meth c H locs 0 0 Q (F0 m pc ls (.int x :: .ref (a 0) :: rest)) :=
  u_run (u_rV (C := RX2) (Ψ := (mP dC dI dA a M)) (As := [.int x]) SF hK rk (c_X2_isTown l dC dI dA a M x hT) (lw_V q2261 q2263 qs88 q117 q2264) (n := 1) (by decide +kernel) rfl (by decide) (va_recv hK hP (ci := 2) (q0 := 0) rfl rfl) hP hsz hcat ⟨Nat.zero_le _, Nat.zero_le _⟩ rfl hdg) k

set_option maxHeartbeats 4000000 in
theorem c_X2_isPlace (l : Launch) (dC : Nat → ClassId) (dI : Nat → Nat → Nat) (dA : Nat → ClassId) (x : Int32)  : Met l yX2_isPlace (ws_ yX2_isPlace cX2_isPlace 1 (some .boolean)) (rmD 1 0 0) (uPc [.int x] (fun _ => True) dC dI dA) (uQi (nI (inZ x.toInt 0 4).toNat)) 0 0 noF := by
  refine u_metz (own := RX2) (by decide) rfl (Nat.le_of_ble_eq_true rfl) fun p e R s m args below meth c Q SF rk hP hK hret ls hl => ?_
  have hx := SF.1
  have hb := SF.2.1
  have hml := SF.2.2.1
  have hown := SF.2.2.2.1
  have hts := SF.2.2.2.2
  have hl : lv_has ls 1 [(0, .int x)] := hl
  refine lv_iload_n hx hb dX2_isPlace_0 rfl (lv_at hl 0 rfl) ?_
  refine lv_i2l hx hb dX2_isPlace_1 rfl ?_
  refine lv_lconst (v := 0) hx hb dX2_isPlace_2 rfl ?_
  refine lv_ldc2 (v := 4) hx hb hown (hts _ q2281) dX2_isPlace_3 ?_
  refine k_X2_in (X := x.toInt) (L := 0) (U := 4) (i2l_toInt x) (by decide) (by decide) SF hK (rk.le (Nat.le_of_ble_eq_true rfl)) hl.1 (Nat.le_of_ble_eq_true rfl) dX2_isPlace_6 ?_
  exact hret _ _ _ rfl dX2_isPlace_9
theorem k_X2_isPlace {x : Int32}  (SF : CallFix p m c cc nL s args lw_all RX2) (hK : KK dC dI dA s) (rk : rmOK 2 R) (hsz : ls.size = nL) (hcat : (rest.map fun v => v.category).sum ≤ 8) (hdg : decode cc pc = .ok (.invokestatic 291, 3)) (k : W p l e R s m args below meth c H locs 0 0 Q (F0 m (pc + 3) ls (.int (nI (inZ x.toInt 0 4).toNat) :: rest))) : W p l e R s m args below meth c H locs 0 0 Q (F0 m pc ls (.int x :: rest)) :=
  u_run (u_rS (Ψ := (fun _ => True)) (As := [.int x]) SF hK rk (c_X2_isPlace l dC dI dA x ) (lw_S q2278 q2279 q117 q2280) (n := 1) (by decide +kernel) rfl (by decide) trivial hsz hcat ⟨Nat.zero_le _, Nat.zero_le _⟩ rfl hdg) k

set_option maxHeartbeats 4000000 in
theorem c_X2_apartOf (l : Launch) (dC : Nat → ClassId) (dI : Nat → Nat → Nat) (dA : Nat → ClassId) (a : Nat → Nat) (M : Nat → Nat → Int32) (t : Nat) (u : Nat) (ht : t < tn (M 1)) (hu : u < tn (M 1)) (hT : TWf (M 1)) : Met l yX2_apartOf (ws_ yX2_apartOf cX2_apartOf 5 (some .int)) (rmD 3 0 0) (uPc [.ref (a 0), .int (nI t), .int (nI u)] (mP dC dI dA a M) dC dI dA) (uQi (nI (apr (M 1) t u))) 0 0 noF := by
  refine u_meti (own := RX2) (by decide) rfl (Nat.le_of_ble_eq_true rfl) fun p e R s m args below meth c Q SF rk hP hK hret ls hl => ?_
  have hx := SF.1
  have hb := SF.2.1
  have hml := SF.2.2.1
  have hown := SF.2.2.2.1
  have hts := SF.2.2.2.2
  have hl : lv_has ls 5 [(0, .ref (a 0)), (1, .int (nI t)), (2, .int (nI u))] := hl
  refine lv_iconst (v := nI 0) hx hb dX2_apartOf_0 (by decide) ?_
  refine lv_istore_n (lv' := [(3, .int (nI 0)), (0, .ref (a 0)), (1, .int (nI t)), (2, .int (nI u))]) hx hb dX2_apartOf_1 rfl hl (by decide) rfl (fun ls hl => ?_)
  refine lv_iconst (v := nI 0) hx hb dX2_apartOf_2 (by decide) ?_
  refine lv_istore (lv' := [(4, .int (nI 0)), (3, .int (nI 0)), (0, .ref (a 0)), (1, .int (nI t)), (2, .int (nI u))]) hx hb dX2_apartOf_3 hl (by decide) rfl (fun ls hl => ?_)
  have lp5 : ∀ (k0 : Nat) (k : Nat), k ≤ 5 → 5 < k + k0 → ∀ ls : Array Slot, lv_has ls 5 [(4, .int (nI k)), (3, .int (nI (sumN (fun p => cst (nI (dg (cd (num (M 1) t)) p)) (dg (cd (num (M 1) u)) p)) k))), (0, .ref (a 0)), (1, .int (nI t)), (2, .int (nI u))] → W p l e R s m args below meth c s.heap [] 0 0 Q (F0 m 5 ls []) := by
    intro k0
    induction k0 with
    | zero =>
      intro k hk1 hk2; omega
    | succ k0 ih =>
      intro k hk1 hk2 ls hl
      have ih5 := ih
      refine lv_iload hx hb dX2_apartOf_5 (lv_at hl 0 rfl) ?_
      refine lv_iconst (v := nI 5) hx hb dX2_apartOf_7 (by decide) ?_
      refine lv_icmp_ge (tgt := 43) hx hb dX2_apartOf_8 (by decide) (fun c_8 => ?_) (fun c_8 => ?_)
      · have c_8 : 5 ≤ k := (nI_leI (a := 5) (b := k) (by omega) (by omega)).mp c_8
        refine lv_iload_n hx hb dX2_apartOf_43 rfl (lv_at hl 1 rfl) ?_
        exact hret _ _ _ (by rw [show k = 5 by omega]; rfl) dX2_apartOf_44
      · have c_8 : ¬ (5 ≤ k) := fun q9 => c_8 ((nI_leI (a := 5) (b := k) (by omega) (by omega)).mpr q9)
        refine lv_iload_n hx hb dX2_apartOf_11 rfl (lv_at hl 1 rfl) ?_
        refine lv_aload_n hx hb dX2_apartOf_12 rfl (lv_at hl 2 rfl) ?_
        refine lv_iload_n hx hb dX2_apartOf_13 rfl (lv_at hl 3 rfl) ?_
        refine k_X2_codeAt  ht hT SF hK (rk.le (Nat.le_of_ble_eq_true rfl)) hl.1 (Nat.le_of_ble_eq_true rfl) hP dX2_apartOf_14 ?_
        refine lv_iload hx hb dX2_apartOf_17 (lv_at hl 0 rfl) ?_
        refine k_X2_digitOf  (cd_lt (hT.2.2 t ht).2.1) (by omega) SF hK (rk.le (Nat.le_of_ble_eq_true rfl)) hl.1 (Nat.le_of_ble_eq_true rfl) dX2_apartOf_19 ?_
        refine lv_aload_n hx hb dX2_apartOf_22 rfl (lv_at hl 2 rfl) ?_
        refine lv_iload_n hx hb dX2_apartOf_23 rfl (lv_at hl 4 rfl) ?_
        refine k_X2_codeAt  hu hT SF hK (rk.le (Nat.le_of_ble_eq_true rfl)) hl.1 (Nat.le_of_ble_eq_true rfl) hP dX2_apartOf_24 ?_
        refine lv_iload hx hb dX2_apartOf_27 (lv_at hl 0 rfl) ?_
        refine k_X2_digitOf  (cd_lt (hT.2.2 u hu).2.1) (by omega) SF hK (rk.le (Nat.le_of_ble_eq_true rfl)) hl.1 (Nat.le_of_ble_eq_true rfl) dX2_apartOf_29 ?_
        refine k_X2_costOf  (Or.inr ⟨_, dg_lt _ _, rfl⟩) (dg_lt _ _) SF hK (rk.le (Nat.le_of_ble_eq_true rfl)) hl.1 (Nat.le_of_ble_eq_true rfl) dX2_apartOf_32 ?_
        refine lv_iadd hx hb dX2_apartOf_35 ?_
        refine u_top (nI_add _ _) ?_
        refine lv_istore_n (lv' := [(3, .int (nI (sumN (fun p => cst (nI (dg (cd (num (M 1) t)) p)) (dg (cd (num (M 1) u)) p)) k + (cst (nI (dg (cd (num (M 1) t)) k)) (dg (cd (num (M 1) u)) k))))), (4, .int (nI k)), (0, .ref (a 0)), (1, .int (nI t)), (2, .int (nI u))]) hx hb dX2_apartOf_36 rfl hl (by decide) rfl (fun ls hl => ?_)
        refine lv_iinc (v := nI (k + 1)) (lv' := [(4, .int (nI (k + 1))), (3, .int (nI (sumN (fun p => cst (nI (dg (cd (num (M 1) t)) p)) (dg (cd (num (M 1) u)) p)) k + (cst (nI (dg (cd (num (M 1) t)) k)) (dg (cd (num (M 1) u)) k))))), (0, .ref (a 0)), (1, .int (nI t)), (2, .int (nI u))]) hx hb dX2_apartOf_37 hl (k := 1) rfl (nI_add _ 1) (by decide) rfl (fun ls hl => ?_)
        refine lv_goto (tgt := 5) hx hb dX2_apartOf_40 (by decide) ?_
        exact ih5 (k + 1) (by omega) (by omega) ls (lv_sub hl [0, 1, 2, 3, 4] rfl)
  exact lp5 (5 + 1) 0 (by omega) (by omega) ls (lv_sub hl [0, 1, 2, 3, 4] rfl)
theorem k_X2_apartOf {t : Nat} {u : Nat} (ht : t < tn (M 1)) (hu : u < tn (M 1)) (hT : TWf (M 1)) (SF : CallFix p m c cc nL s args lw_all RX2) (hK : KK dC dI dA s) (rk : rmOK 4 R) (hsz : ls.size = nL) (hcat : (rest.map fun v => v.category).sum ≤ 8) (hP : mP dC dI dA a M H) (hdg : decode cc pc = .ok (.invokevirtual 296, 3)) (k : W p l e R s m args below meth c H locs 0 0 Q (F0 m (pc + 3) ls (.int (nI (apr (M 1) t u)) :: rest))) : W p l e R s m args below meth c H locs 0 0 Q (F0 m pc ls (.int (nI u) :: .int (nI t) :: .ref (a 0) :: rest)) :=
  u_run (u_rV (C := RX2) (Ψ := (mP dC dI dA a M)) (As := [.int (nI t), .int (nI u)]) SF hK rk (c_X2_apartOf l dC dI dA a M t u ht hu hT) (lw_V q2291 q2293 qs91 q117 q2294) (n := 2) (by decide +kernel) rfl (by decide) (va_recv hK hP (ci := 2) (q0 := 0) rfl rfl) hP hsz hcat ⟨Nat.zero_le _, Nat.zero_le _⟩ rfl hdg) k

set_option maxHeartbeats 4000000 in
theorem c_X2_whyNotRead (l : Launch) (dC : Nat → ClassId) (dI : Nat → Nat → Nat) (dA : Nat → ClassId) (a : Nat → Nat) (M : Nat → Nat → Int32) (lt : Nat) (h1 : lt < 24) : Met l yX2_whyNotRead (ws_ yX2_whyNotRead cX2_whyNotRead 2 (some .int)) (rmD 1 0 0) (uPc [.ref (a 0), .int (nI lt)] (mP dC dI dA a M) dC dI dA) (uQi (nI (whR (M 2) lt))) 0 0 noF := by
  refine u_meti (own := RX2) (by decide) rfl (Nat.le_of_ble_eq_true rfl) fun p e R s m args below meth c Q SF rk hP hK hret ls hl => ?_
  have hx := SF.1
  have hb := SF.2.1
  have hml := SF.2.2.1
  have hown := SF.2.2.2.1
  have hts := SF.2.2.2.2
  have hl : lv_has ls 2 [(0, .ref (a 0)), (1, .int (nI lt))] := hl
  refine lv_aload_n hx hb dX2_whyNotRead_0 rfl (lv_at hl 0 rfl) ?_
  refine lv_iload_n hx hb dX2_whyNotRead_1 rfl (lv_at hl 1 rfl) ?_
  refine lv_bipush (v := nI 6) hx hb dX2_whyNotRead_2 (by decide) ?_
  refine k_X2_l  (by omega) (by omega) SF hK (rk.le (Nat.le_of_ble_eq_true rfl)) hl.1 (Nat.le_of_ble_eq_true rfl) hP dX2_whyNotRead_4 ?_
  refine lv_iconst (v := nI 2) hx hb dX2_whyNotRead_7 (by decide) ?_
  refine lv_icmp_eq (tgt := 15) hx hb dX2_whyNotRead_8 (by decide) (fun c_8 => ?_) (fun c_8 => ?_)
  · refine lv_aload_n hx hb dX2_whyNotRead_15 rfl (lv_at hl 0 rfl) ?_
    refine lv_iload_n hx hb dX2_whyNotRead_16 rfl (lv_at hl 1 rfl) ?_
    refine lv_bipush (v := nI 7) hx hb dX2_whyNotRead_17 (by decide) ?_
    refine k_X2_l  (by omega) (by omega) SF hK (rk.le (Nat.le_of_ble_eq_true rfl)) hl.1 (Nat.le_of_ble_eq_true rfl) hP dX2_whyNotRead_19 ?_
    refine lv_iconst (v := nI 3) hx hb dX2_whyNotRead_22 (by decide) ?_
    refine lv_icmp_ne (tgt := 30) hx hb dX2_whyNotRead_23 (by decide) (fun c_23 => ?_) (fun c_23 => ?_)
    · refine lv_iconst (v := nI 0) hx hb dX2_whyNotRead_30 (by decide) ?_
      exact hret _ _ _ (by rw [whR, if_neg (fun q => q c_8), if_neg c_23]) dX2_whyNotRead_31
    · refine lv_iconst (v := nI 2) hx hb dX2_whyNotRead_26 (by decide) ?_
      refine lv_goto (tgt := 31) hx hb dX2_whyNotRead_27 (by decide) ?_
      exact hret _ _ _ (by rw [whR, if_neg (fun q => q c_8), if_pos c_23]) dX2_whyNotRead_31
  · refine lv_iconst (v := nI 1) hx hb dX2_whyNotRead_11 (by decide) ?_
    refine lv_goto (tgt := 31) hx hb dX2_whyNotRead_12 (by decide) ?_
    exact hret _ _ _ (by rw [whR, if_pos c_8]) dX2_whyNotRead_31
theorem k_X2_whyNotRead {lt : Nat} (h1 : lt < 24) (SF : CallFix p m c cc nL s args lw_all RX2) (hK : KK dC dI dA s) (rk : rmOK 2 R) (hsz : ls.size = nL) (hcat : (rest.map fun v => v.category).sum ≤ 8) (hP : mP dC dI dA a M H) (hdg : decode cc pc = .ok (.invokevirtual 310, 3)) (k : W p l e R s m args below meth c H locs 0 0 Q (F0 m (pc + 3) ls (.int (nI (whR (M 2) lt)) :: rest))) : W p l e R s m args below meth c H locs 0 0 Q (F0 m pc ls (.int (nI lt) :: .ref (a 0) :: rest)) :=
  u_run (u_rV (C := RX2) (Ψ := (mP dC dI dA a M)) (As := [.int (nI lt)]) SF hK rk (c_X2_whyNotRead l dC dI dA a M lt h1) (lw_V q2356 q2358 qs95 q117 q2359) (n := 1) (by decide +kernel) rfl (by decide) (va_recv hK hP (ci := 2) (q0 := 0) rfl rfl) hP hsz hcat ⟨Nat.zero_le _, Nat.zero_le _⟩ rfl hdg) k

set_option maxHeartbeats 4000000 in
theorem c_X2_lettersOf (l : Launch) (dC : Nat → ClassId) (dI : Nat → Nat → Nat) (dA : Nat → ClassId) (a : Nat → Nat) (M : Nat → Nat → Int32) (x : Int32) (hS1 : SWf (M 2)) : Met l yX2_lettersOf (ws_ yX2_lettersOf cX2_lettersOf 4 (some .int)) (rmD 1 0 0) (uPc [.ref (a 0), .int x] (mP dC dI dA a M) dC dI dA) (uQi (nI (ltO (M 2) x))) 0 0 noF := by
  refine u_meti (own := RX2) (by decide) rfl (Nat.le_of_ble_eq_true rfl) fun p e R s m args below meth c Q SF rk hP hK hret ls hl => ?_
  have hx := SF.1
  have hb := SF.2.1
  have hml := SF.2.2.1
  have hown := SF.2.2.2.1
  have hts := SF.2.2.2.2
  have hl : lv_has ls 4 [(0, .ref (a 0)), (1, .int x)] := hl
  have hL := hS1.2.1
  refine lv_iconst (v := nI 0) hx hb dX2_lettersOf_0 (by decide) ?_
  refine lv_istore_n (lv' := [(2, .int (nI 0)), (0, .ref (a 0)), (1, .int x)]) hx hb dX2_lettersOf_1 rfl hl (by decide) rfl (fun ls hl => ?_)
  refine lv_iconst (v := nI 0) hx hb dX2_lettersOf_2 (by decide) ?_
  refine lv_istore_n (lv' := [(3, .int (nI 0)), (2, .int (nI 0)), (0, .ref (a 0)), (1, .int x)]) hx hb dX2_lettersOf_3 rfl hl (by decide) rfl (fun ls hl => ?_)
  have lp4 : ∀ (k0 : Nat) (k : Nat), k ≤ ln (M 2) → ln (M 2) < k + k0 → ∀ ls : Array Slot, lv_has ls 4 [(3, .int (nI k)), (2, .int (nI (cntN (fun o => decide (lr (M 2) o 5 = x)) k))), (0, .ref (a 0)), (1, .int x)] → W p l e R s m args below meth c s.heap [] 0 0 Q (F0 m 4 ls []) := by
    intro k0
    induction k0 with
    | zero =>
      intro k hk1 hk2; omega
    | succ k0 ih =>
      intro k hk1 hk2 ls hl
      have ih4 := ih
      refine lv_iload_n hx hb dX2_lettersOf_4 rfl (lv_at hl 0 rfl) ?_
      refine lv_aload_n hx hb dX2_lettersOf_5 rfl (lv_at hl 2 rfl) ?_
      refine k_X2_letters   SF hK (rk.le (Nat.le_of_ble_eq_true rfl)) hl.1 (Nat.le_of_ble_eq_true rfl) hP dX2_lettersOf_6 ?_
      refine u_top (y := nI (ln (M 2))) hS1.1 ?_
      refine lv_icmp_ge (tgt := 39) hx hb dX2_lettersOf_9 (by decide) (fun c_9 => ?_) (fun c_9 => ?_)
      · have c_9 : ln (M 2) ≤ k := (nI_leI (a := ln (M 2)) (b := k) (by omega) (by omega)).mp c_9
        refine lv_iload_n hx hb dX2_lettersOf_39 rfl (lv_at hl 1 rfl) ?_
        exact hret _ _ _ (by rw [show k = ln (M 2) by omega]; rfl) dX2_lettersOf_40
      · have c_9 : ¬ (ln (M 2) ≤ k) := fun q9 => c_9 ((nI_leI (a := ln (M 2)) (b := k) (by omega) (by omega)).mpr q9)
        refine lv_iload_n hx hb dX2_lettersOf_12 rfl (lv_at hl 1 rfl) ?_
        refine lv_aload_n hx hb dX2_lettersOf_13 rfl (lv_at hl 2 rfl) ?_
        refine lv_iload_n hx hb dX2_lettersOf_14 rfl (lv_at hl 0 rfl) ?_
        refine lv_iconst (v := nI 5) hx hb dX2_lettersOf_15 (by decide) ?_
        refine k_X2_l  (by omega) (by omega) SF hK (rk.le (Nat.le_of_ble_eq_true rfl)) hl.1 (Nat.le_of_ble_eq_true rfl) hP dX2_lettersOf_16 ?_
        refine lv_iload_n hx hb dX2_lettersOf_19 rfl (lv_at hl 3 rfl) ?_
        have jn28 : ∀ v9 : Int32, v9 = nI ((decide (lr (M 2) k 5 = x)).toNat) → ∀ ls : Array Slot, lv_has ls 4 [(3, .int (nI k)), (2, .int (nI (cntN (fun o => decide (lr (M 2) o 5 = x)) k))), (0, .ref (a 0)), (1, .int x)] → W p l e R s m args below meth c s.heap [] 0 0 Q (F0 m 28 ls [.int v9, .int (nI (cntN (fun o => decide (lr (M 2) o 5 = x)) k))]) := by
          intro v9 hv9 ls hl
          subst hv9
          refine k_X2_flag   SF hK (rk.le (Nat.le_of_ble_eq_true rfl)) hl.1 (Nat.le_of_ble_eq_true rfl) dX2_lettersOf_28 ?_
          refine lv_iadd hx hb dX2_lettersOf_31 ?_
          refine u_top (nI_add _ _) ?_
          refine lv_istore_n (lv' := [(2, .int (nI (cntN (fun o => decide (lr (M 2) o 5 = x)) k + ((decide (lr (M 2) k 5 = x)).toNat)))), (3, .int (nI k)), (0, .ref (a 0)), (1, .int x)]) hx hb dX2_lettersOf_32 rfl hl (by decide) rfl (fun ls hl => ?_)
          refine lv_iinc (v := nI (k + 1)) (lv' := [(3, .int (nI (k + 1))), (2, .int (nI (cntN (fun o => decide (lr (M 2) o 5 = x)) k + ((decide (lr (M 2) k 5 = x)).toNat)))), (0, .ref (a 0)), (1, .int x)]) hx hb dX2_lettersOf_33 hl (k := 1) rfl (nI_add _ 1) (by decide) rfl (fun ls hl => ?_)
          refine lv_goto (tgt := 4) hx hb dX2_lettersOf_36 (by decide) ?_
          exact ih4 (k + 1) (by omega) (by omega) ls (lv_sub hl [0, 1, 2, 3] rfl)
        refine lv_icmp_ne (tgt := 27) hx hb dX2_lettersOf_20 (by decide) (fun c_20 => ?_) (fun c_20 => ?_)
        · refine lv_iconst (v := nI 0) hx hb dX2_lettersOf_27 (by decide) ?_
          exact jn28 _ (u_d0 c_20) ls (lv_sub hl [0, 1, 2, 3] rfl)
        · refine lv_iconst (v := nI 1) hx hb dX2_lettersOf_23 (by decide) ?_
          refine lv_goto (tgt := 28) hx hb dX2_lettersOf_24 (by decide) ?_
          exact jn28 _ (u_d1 c_20) ls (lv_sub hl [0, 1, 2, 3] rfl)
  exact lp4 (ln (M 2) + 1) 0 (by omega) (by omega) ls (lv_sub hl [0, 1, 2, 3] rfl)
theorem k_X2_lettersOf {x : Int32} (hS1 : SWf (M 2)) (SF : CallFix p m c cc nL s args lw_all RX2) (hK : KK dC dI dA s) (rk : rmOK 2 R) (hsz : ls.size = nL) (hcat : (rest.map fun v => v.category).sum ≤ 8) (hP : mP dC dI dA a M H) (hdg : decode cc pc = .ok (.invokevirtual 325, 3)) (k : W p l e R s m args below meth c H locs 0 0 Q (F0 m (pc + 3) ls (.int (nI (ltO (M 2) x)) :: rest))) : W p l e R s m args below meth c H locs 0 0 Q (F0 m pc ls (.int x :: .ref (a 0) :: rest)) :=
  u_run (u_rV (C := RX2) (Ψ := (mP dC dI dA a M)) (As := [.int x]) SF hK rk (c_X2_lettersOf l dC dI dA a M x hS1) (lw_V q2387 q2389 qs98 q117 q2390) (n := 1) (by decide +kernel) rfl (by decide) (va_recv hK hP (ci := 2) (q0 := 0) rfl rfl) hP hsz hcat ⟨Nat.zero_le _, Nat.zero_le _⟩ rfl hdg) k

set_option maxHeartbeats 4000000 in
theorem c_X2_townsOn (l : Launch) (dC : Nat → ClassId) (dI : Nat → Nat → Nat) (dA : Nat → ClassId) (a : Nat → Nat) (M : Nat → Nat → Int32) (x : Int32) (hT : TWf (M 1)) : Met l yX2_townsOn (ws_ yX2_townsOn cX2_townsOn 4 (some .int)) (rmD 1 0 0) (uPc [.ref (a 0), .int x] (mP dC dI dA a M) dC dI dA) (uQi (nI (tnO (M 1) x))) 0 0 noF := by
  refine u_meti (own := RX2) (by decide) rfl (Nat.le_of_ble_eq_true rfl) fun p e R s m args below meth c Q SF rk hP hK hret ls hl => ?_
  have hx := SF.1
  have hb := SF.2.1
  have hml := SF.2.2.1
  have hown := SF.2.2.2.1
  have hts := SF.2.2.2.2
  have hl : lv_has ls 4 [(0, .ref (a 0)), (1, .int x)] := hl
  have hn9 := hT.2.1
  refine lv_iconst (v := nI 0) hx hb dX2_townsOn_0 (by decide) ?_
  refine lv_istore_n (lv' := [(2, .int (nI 0)), (0, .ref (a 0)), (1, .int x)]) hx hb dX2_townsOn_1 rfl hl (by decide) rfl (fun ls hl => ?_)
  refine lv_iconst (v := nI 0) hx hb dX2_townsOn_2 (by decide) ?_
  refine lv_istore_n (lv' := [(3, .int (nI 0)), (2, .int (nI 0)), (0, .ref (a 0)), (1, .int x)]) hx hb dX2_townsOn_3 rfl hl (by decide) rfl (fun ls hl => ?_)
  have lp4 : ∀ (k0 : Nat) (k : Nat), k ≤ tn (M 1) → tn (M 1) < k + k0 → ∀ ls : Array Slot, lv_has ls 4 [(3, .int (nI k)), (2, .int (nI (cntN (fun t => decide (M 1 (14 + t) = x)) k))), (0, .ref (a 0)), (1, .int x)] → W p l e R s m args below meth c s.heap [] 0 0 Q (F0 m 4 ls []) := by
    intro k0
    induction k0 with
    | zero =>
      intro k hk1 hk2; omega
    | succ k0 ih =>
      intro k hk1 hk2 ls hl
      have ih4 := ih
      refine lv_iload_n hx hb dX2_townsOn_4 rfl (lv_at hl 0 rfl) ?_
      refine lv_aload_n hx hb dX2_townsOn_5 rfl (lv_at hl 2 rfl) ?_
      refine k_X2_towns   SF hK (rk.le (Nat.le_of_ble_eq_true rfl)) hl.1 (Nat.le_of_ble_eq_true rfl) hP dX2_townsOn_6 ?_
      refine u_top (y := nI (tn (M 1))) hT.1 ?_
      refine lv_icmp_ge (tgt := 42) hx hb dX2_townsOn_9 (by decide) (fun c_9 => ?_) (fun c_9 => ?_)
      · have c_9 : tn (M 1) ≤ k := (nI_leI (a := tn (M 1)) (b := k) (by omega) (by omega)).mp c_9
        refine lv_iload_n hx hb dX2_townsOn_42 rfl (lv_at hl 1 rfl) ?_
        exact hret _ _ _ (by rw [show k = tn (M 1) by omega]; rfl) dX2_townsOn_43
      · have c_9 : ¬ (tn (M 1) ≤ k) := fun q9 => c_9 ((nI_leI (a := tn (M 1)) (b := k) (by omega) (by omega)).mpr q9)
        refine lv_iload_n hx hb dX2_townsOn_12 rfl (lv_at hl 1 rfl) ?_
        refine lv_aload_n hx hb dX2_townsOn_13 rfl (lv_at hl 2 rfl) ?_
        refine va_get (D := (dC, dI)) (ci := 2) (v := .ref (a 1)) (C := RX2) (T := TX2) (N := 22) hx hb hts in_X2 hown hK hP 0 rfl rfl 2 (by decide) (hts _ q1953) (fun _ h9 => h9) rfl dX2_townsOn_14 ?_
        refine lv_bipush (v := nI 14) hx hb dX2_townsOn_17 (by decide) ?_
        refine lv_iload_n hx hb dX2_townsOn_19 rfl (lv_at hl 0 rfl) ?_
        refine lv_iadd hx hb dX2_townsOn_20 ?_
        refine u_top (nI_add _ _) ?_
        refine u_iald hx hb hK hP 1 0 rfl rfl (i := 14 + k) (by omega) (by decide) dX2_townsOn_21 ?_
        refine lv_iload_n hx hb dX2_townsOn_22 rfl (lv_at hl 3 rfl) ?_
        have jn31 : ∀ v9 : Int32, v9 = nI ((decide (M 1 (14 + k) = x)).toNat) → ∀ ls : Array Slot, lv_has ls 4 [(3, .int (nI k)), (2, .int (nI (cntN (fun t => decide (M 1 (14 + t) = x)) k))), (0, .ref (a 0)), (1, .int x)] → W p l e R s m args below meth c s.heap [] 0 0 Q (F0 m 31 ls [.int v9, .int (nI (cntN (fun t => decide (M 1 (14 + t) = x)) k))]) := by
          intro v9 hv9 ls hl
          subst hv9
          refine k_X2_flag   SF hK (rk.le (Nat.le_of_ble_eq_true rfl)) hl.1 (Nat.le_of_ble_eq_true rfl) dX2_townsOn_31 ?_
          refine lv_iadd hx hb dX2_townsOn_34 ?_
          refine u_top (nI_add _ _) ?_
          refine lv_istore_n (lv' := [(2, .int (nI (cntN (fun t => decide (M 1 (14 + t) = x)) k + ((decide (M 1 (14 + k) = x)).toNat)))), (3, .int (nI k)), (0, .ref (a 0)), (1, .int x)]) hx hb dX2_townsOn_35 rfl hl (by decide) rfl (fun ls hl => ?_)
          refine lv_iinc (v := nI (k + 1)) (lv' := [(3, .int (nI (k + 1))), (2, .int (nI (cntN (fun t => decide (M 1 (14 + t) = x)) k + ((decide (M 1 (14 + k) = x)).toNat)))), (0, .ref (a 0)), (1, .int x)]) hx hb dX2_townsOn_36 hl (k := 1) rfl (nI_add _ 1) (by decide) rfl (fun ls hl => ?_)
          refine lv_goto (tgt := 4) hx hb dX2_townsOn_39 (by decide) ?_
          exact ih4 (k + 1) (by omega) (by omega) ls (lv_sub hl [0, 1, 2, 3] rfl)
        refine lv_icmp_ne (tgt := 30) hx hb dX2_townsOn_23 (by decide) (fun c_23 => ?_) (fun c_23 => ?_)
        · refine lv_iconst (v := nI 0) hx hb dX2_townsOn_30 (by decide) ?_
          exact jn31 _ (u_d0 c_23) ls (lv_sub hl [0, 1, 2, 3] rfl)
        · refine lv_iconst (v := nI 1) hx hb dX2_townsOn_26 (by decide) ?_
          refine lv_goto (tgt := 31) hx hb dX2_townsOn_27 (by decide) ?_
          exact jn31 _ (u_d1 c_23) ls (lv_sub hl [0, 1, 2, 3] rfl)
  exact lp4 (tn (M 1) + 1) 0 (by omega) (by omega) ls (lv_sub hl [0, 1, 2, 3] rfl)
theorem k_X2_townsOn {x : Int32} (hT : TWf (M 1)) (SF : CallFix p m c cc nL s args lw_all RX2) (hK : KK dC dI dA s) (rk : rmOK 2 R) (hsz : ls.size = nL) (hcat : (rest.map fun v => v.category).sum ≤ 8) (hP : mP dC dI dA a M H) (hdg : decode cc pc = .ok (.invokevirtual 335, 3)) (k : W p l e R s m args below meth c H locs 0 0 Q (F0 m (pc + 3) ls (.int (nI (tnO (M 1) x)) :: rest))) : W p l e R s m args below meth c H locs 0 0 Q (F0 m pc ls (.int x :: .ref (a 0) :: rest)) :=
  u_run (u_rV (C := RX2) (Ψ := (mP dC dI dA a M)) (As := [.int x]) SF hK rk (c_X2_townsOn l dC dI dA a M x hT) (lw_V q2403 q2405 qs101 q117 q2406) (n := 1) (by decide +kernel) rfl (by decide) (va_recv hK hP (ci := 2) (q0 := 0) rfl rfl) hP hsz hcat ⟨Nat.zero_le _, Nat.zero_le _⟩ rfl hdg) k

set_option maxHeartbeats 4000000 in
theorem c_X2_selves (l : Launch) (dC : Nat → ClassId) (dI : Nat → Nat → Nat) (dA : Nat → ClassId) (a : Nat → Nat) (M : Nat → Nat → Int32) (x : Int32) (z : Bool) (hS1 : SWf (M 2)) (hT : TWf (M 1)) : Met l yX2_selves (ws_ yX2_selves cX2_selves 6 (some .int)) (rmD 9 0 0) (uPc [.ref (a 0), .int x, .int (nI z.toNat)] (mP dC dI dA a M) dC dI dA) (uQi (nI (slv (M 2) (M 1) x z))) 0 0 noF := by
  refine u_meti (own := RX2) (by decide) rfl (Nat.le_of_ble_eq_true rfl) fun p e R s m args below meth c Q SF rk hP hK hret ls hl => ?_
  have hx := SF.1
  have hb := SF.2.1
  have hml := SF.2.2.1
  have hown := SF.2.2.2.1
  have hts := SF.2.2.2.2
  have hl : lv_has ls 6 [(0, .ref (a 0)), (1, .int x), (2, .int (nI z.toNat))] := hl
  have hL := hS1.2.1
  have hn9 := hT.2.1
  refine lv_iconst (v := nI 0) hx hb dX2_selves_0 (by decide) ?_
  refine lv_istore_n (lv' := [(3, .int (nI 0)), (0, .ref (a 0)), (1, .int x), (2, .int (nI z.toNat))]) hx hb dX2_selves_1 rfl hl (by decide) rfl (fun ls hl => ?_)
  refine lv_iconst (v := nI 0) hx hb dX2_selves_2 (by decide) ?_
  refine lv_istore (lv' := [(4, .int (nI 0)), (3, .int (nI 0)), (0, .ref (a 0)), (1, .int x), (2, .int (nI z.toNat))]) hx hb dX2_selves_3 hl (by decide) rfl (fun ls hl => ?_)
  have lp5 : ∀ (k0 : Nat) (k : Nat), k ≤ ln (M 2) → ln (M 2) < k + k0 → ∀ ls : Array Slot, lv_has ls 6 [(4, .int (nI k)), (3, .int (nI (sumN (slvF (M 2) (M 1) x z) k))), (0, .ref (a 0)), (1, .int x), (2, .int (nI z.toNat))] → W p l e R s m args below meth c s.heap [] 0 0 Q (F0 m 5 ls []) := by
    intro k0
    induction k0 with
    | zero =>
      intro k hk1 hk2; omega
    | succ k0 ih =>
      intro k hk1 hk2 ls hl
      have ih5 := ih
      refine lv_iload hx hb dX2_selves_5 (lv_at hl 0 rfl) ?_
      refine lv_aload_n hx hb dX2_selves_7 rfl (lv_at hl 2 rfl) ?_
      refine k_X2_letters   SF hK (rk.le (Nat.le_of_ble_eq_true rfl)) hl.1 (Nat.le_of_ble_eq_true rfl) hP dX2_selves_8 ?_
      refine u_top (y := nI (ln (M 2))) hS1.1 ?_
      refine lv_icmp_ge (tgt := 73) hx hb dX2_selves_11 (by decide) (fun c_11 => ?_) (fun c_11 => ?_)
      · have c_11 : ln (M 2) ≤ k := (nI_leI (a := ln (M 2)) (b := k) (by omega) (by omega)).mp c_11
        refine lv_iload_n hx hb dX2_selves_73 rfl (lv_at hl 1 rfl) ?_
        exact hret _ _ _ (by rw [show k = ln (M 2) by omega]; rfl) dX2_selves_74
      · have c_11 : ¬ (ln (M 2) ≤ k) := fun q9 => c_11 ((nI_leI (a := ln (M 2)) (b := k) (by omega) (by omega)).mpr q9)
        refine lv_aload_n hx hb dX2_selves_14 rfl (lv_at hl 2 rfl) ?_
        refine lv_iload hx hb dX2_selves_15 (lv_at hl 0 rfl) ?_
        refine lv_iconst (v := nI 5) hx hb dX2_selves_17 (by decide) ?_
        refine k_X2_l  (by omega) (by omega) SF hK (rk.le (Nat.le_of_ble_eq_true rfl)) hl.1 (Nat.le_of_ble_eq_true rfl) hP dX2_selves_18 ?_
        refine lv_iload_n hx hb dX2_selves_21 rfl (lv_at hl 3 rfl) ?_
        refine lv_icmp_ne (tgt := 34) hx hb dX2_selves_22 (by decide) (fun c_22 => ?_) (fun c_22 => ?_)
        · refine lv_iconst (v := (-1)) hx hb dX2_selves_34 (by decide) ?_
          refine lv_istore (lv' := [(5, .int (-1)), (4, .int (nI k)), (3, .int (nI (sumN (slvF (M 2) (M 1) x z) k))), (0, .ref (a 0)), (1, .int x), (2, .int (nI z.toNat))]) hx hb dX2_selves_35 hl (by decide) rfl (fun ls hl => ?_)
          refine lv_iload_n hx hb dX2_selves_37 rfl (lv_at hl 2 rfl) ?_
          refine lv_iload hx hb dX2_selves_38 (lv_at hl 0 rfl) ?_
          refine lv_iconst (v := (-1)) hx hb dX2_selves_40 (by decide) ?_
          refine lv_icmp_ne (tgt := 48) hx hb dX2_selves_41 (by decide) (fun c_41 => absurd (by decide) c_41) (fun c_41 => ?_)
          refine lv_iconst (v := nI 0) hx hb dX2_selves_44 (by decide) ?_
          refine u_top (y := nI (slvF (M 2) (M 1) x z k)) (by first | rw [slvF, if_neg c_22] | rw [slvF, if_pos c_22, hE]) ?_
          refine lv_goto (tgt := 65) hx hb dX2_selves_45 (by decide) ?_
          refine lv_iadd hx hb dX2_selves_65 ?_
          refine u_top (nI_add _ _) ?_
          refine lv_istore_n (lv' := [(3, .int (nI (sumN (slvF (M 2) (M 1) x z) k + (slvF (M 2) (M 1) x z k)))), (5, .int (-1)), (4, .int (nI k)), (0, .ref (a 0)), (1, .int x), (2, .int (nI z.toNat))]) hx hb dX2_selves_66 rfl hl (by decide) rfl (fun ls hl => ?_)
          refine lv_iinc (v := nI (k + 1)) (lv' := [(4, .int (nI (k + 1))), (3, .int (nI (sumN (slvF (M 2) (M 1) x z) k + (slvF (M 2) (M 1) x z k)))), (5, .int (-1)), (0, .ref (a 0)), (1, .int x), (2, .int (nI z.toNat))]) hx hb dX2_selves_67 hl (k := 2) rfl (nI_add _ 1) (by decide) rfl (fun ls hl => ?_)
          refine lv_goto (tgt := 5) hx hb dX2_selves_70 (by decide) ?_
          exact ih5 (k + 1) (by omega) (by omega) ls (lv_sub hl [0, 1, 3, 4, 5] rfl)
        · refine lv_aload_n hx hb dX2_selves_25 rfl (lv_at hl 2 rfl) ?_
          refine lv_iload hx hb dX2_selves_26 (lv_at hl 0 rfl) ?_
          refine k_X2_bySelf  (by omega) hS1 hT SF hK (rk.le (Nat.le_of_ble_eq_true rfl)) hl.1 (Nat.le_of_ble_eq_true rfl) hP dX2_selves_28 ?_
          rcases hE : byS (M 2) (M 1) k with _ | t9
          · refine u_top (y := (-1)) rfl ?_
            refine lv_goto (tgt := 35) hx hb dX2_selves_31 (by decide) ?_
            refine lv_istore (lv' := [(5, .int (-1)), (4, .int (nI k)), (3, .int (nI (sumN (slvF (M 2) (M 1) x z) k))), (0, .ref (a 0)), (1, .int x), (2, .int (nI z.toNat))]) hx hb dX2_selves_35 hl (by decide) rfl (fun ls hl => ?_)
            refine lv_iload_n hx hb dX2_selves_37 rfl (lv_at hl 2 rfl) ?_
            refine lv_iload hx hb dX2_selves_38 (lv_at hl 0 rfl) ?_
            refine lv_iconst (v := (-1)) hx hb dX2_selves_40 (by decide) ?_
            refine lv_icmp_ne (tgt := 48) hx hb dX2_selves_41 (by decide) (fun c_41 => absurd (by decide) c_41) (fun c_41 => ?_)
            refine lv_iconst (v := nI 0) hx hb dX2_selves_44 (by decide) ?_
            refine u_top (y := nI (slvF (M 2) (M 1) x z k)) (by first | rw [slvF, if_neg c_22] | rw [slvF, if_pos c_22, hE]) ?_
            refine lv_goto (tgt := 65) hx hb dX2_selves_45 (by decide) ?_
            refine lv_iadd hx hb dX2_selves_65 ?_
            refine u_top (nI_add _ _) ?_
            refine lv_istore_n (lv' := [(3, .int (nI (sumN (slvF (M 2) (M 1) x z) k + (slvF (M 2) (M 1) x z k)))), (5, .int (-1)), (4, .int (nI k)), (0, .ref (a 0)), (1, .int x), (2, .int (nI z.toNat))]) hx hb dX2_selves_66 rfl hl (by decide) rfl (fun ls hl => ?_)
            refine lv_iinc (v := nI (k + 1)) (lv' := [(4, .int (nI (k + 1))), (3, .int (nI (sumN (slvF (M 2) (M 1) x z) k + (slvF (M 2) (M 1) x z k)))), (5, .int (-1)), (0, .ref (a 0)), (1, .int x), (2, .int (nI z.toNat))]) hx hb dX2_selves_67 hl (k := 2) rfl (nI_add _ 1) (by decide) rfl (fun ls hl => ?_)
            refine lv_goto (tgt := 5) hx hb dX2_selves_70 (by decide) ?_
            exact ih5 (k + 1) (by omega) (by omega) ls (lv_sub hl [0, 1, 3, 4, 5] rfl)
          · have ht9 := byS_lt hE
            refine u_top (y := nI t9) rfl ?_
            refine lv_goto (tgt := 35) hx hb dX2_selves_31 (by decide) ?_
            refine lv_istore (lv' := [(5, .int (nI t9)), (4, .int (nI k)), (3, .int (nI (sumN (slvF (M 2) (M 1) x z) k))), (0, .ref (a 0)), (1, .int x), (2, .int (nI z.toNat))]) hx hb dX2_selves_35 hl (by decide) rfl (fun ls hl => ?_)
            refine lv_iload_n hx hb dX2_selves_37 rfl (lv_at hl 2 rfl) ?_
            refine lv_iload hx hb dX2_selves_38 (lv_at hl 0 rfl) ?_
            refine lv_iconst (v := (-1)) hx hb dX2_selves_40 (by decide) ?_
            refine lv_icmp_ne (tgt := 48) hx hb dX2_selves_41 (by decide) (fun c_41 => ?_) (fun c_41 => absurd c_41 (nI_m1 (by omega)))
            refine lv_iload_n hx hb dX2_selves_48 rfl (lv_at hl 5 rfl) ?_
            refine lv_if_eq (tgt := 64) hx hb dX2_selves_49 (by decide) (fun c_49 => ?_) (fun c_49 => ?_)
            · have c_49 : z = false := u_zb.mp c_49
              refine lv_iconst (v := nI 1) hx hb dX2_selves_64 (by decide) ?_
              refine u_top (y := nI (slvF (M 2) (M 1) x z k)) (by rw [slvF, if_pos c_22, hE]; exact congrArg nI (if_neg (by simp [c_49])).symm) ?_
              refine lv_iadd hx hb dX2_selves_65 ?_
              refine u_top (nI_add _ _) ?_
              refine lv_istore_n (lv' := [(3, .int (nI (sumN (slvF (M 2) (M 1) x z) k + (slvF (M 2) (M 1) x z k)))), (5, .int (nI t9)), (4, .int (nI k)), (0, .ref (a 0)), (1, .int x), (2, .int (nI z.toNat))]) hx hb dX2_selves_66 rfl hl (by decide) rfl (fun ls hl => ?_)
              refine lv_iinc (v := nI (k + 1)) (lv' := [(4, .int (nI (k + 1))), (3, .int (nI (sumN (slvF (M 2) (M 1) x z) k + (slvF (M 2) (M 1) x z k)))), (5, .int (nI t9)), (0, .ref (a 0)), (1, .int x), (2, .int (nI z.toNat))]) hx hb dX2_selves_67 hl (k := 2) rfl (nI_add _ 1) (by decide) rfl (fun ls hl => ?_)
              refine lv_goto (tgt := 5) hx hb dX2_selves_70 (by decide) ?_
              exact ih5 (k + 1) (by omega) (by omega) ls (lv_sub hl [0, 1, 3, 4, 5] rfl)
            · have c_49 : ¬ (z = false) := fun q9 => c_49 (u_zb.mpr q9)
              refine lv_aload_n hx hb dX2_selves_52 rfl (lv_at hl 3 rfl) ?_
              refine lv_iload hx hb dX2_selves_53 (lv_at hl 0 rfl) ?_
              refine k_X2_codeAt  ht9 hT SF hK (rk.le (Nat.le_of_ble_eq_true rfl)) hl.1 (Nat.le_of_ble_eq_true rfl) hP dX2_selves_55 ?_
              refine k_X2_digitsOf  (cd_lt (hT.2.2 _ ht9).2.1) SF hK (rk.le (Nat.le_of_ble_eq_true rfl)) hl.1 (Nat.le_of_ble_eq_true rfl) dX2_selves_58 ?_
              refine u_top (y := nI (slvF (M 2) (M 1) x z k)) (by rw [slvF, if_pos c_22, hE]; exact congrArg nI (if_pos (by simpa using c_49)).symm) ?_
              refine lv_goto (tgt := 65) hx hb dX2_selves_61 (by decide) ?_
              refine lv_iadd hx hb dX2_selves_65 ?_
              refine u_top (nI_add _ _) ?_
              refine lv_istore_n (lv' := [(3, .int (nI (sumN (slvF (M 2) (M 1) x z) k + (slvF (M 2) (M 1) x z k)))), (5, .int (nI t9)), (4, .int (nI k)), (0, .ref (a 0)), (1, .int x), (2, .int (nI z.toNat))]) hx hb dX2_selves_66 rfl hl (by decide) rfl (fun ls hl => ?_)
              refine lv_iinc (v := nI (k + 1)) (lv' := [(4, .int (nI (k + 1))), (3, .int (nI (sumN (slvF (M 2) (M 1) x z) k + (slvF (M 2) (M 1) x z k)))), (5, .int (nI t9)), (0, .ref (a 0)), (1, .int x), (2, .int (nI z.toNat))]) hx hb dX2_selves_67 hl (k := 2) rfl (nI_add _ 1) (by decide) rfl (fun ls hl => ?_)
              refine lv_goto (tgt := 5) hx hb dX2_selves_70 (by decide) ?_
              exact ih5 (k + 1) (by omega) (by omega) ls (lv_sub hl [0, 1, 3, 4, 5] rfl)
  exact lp5 (ln (M 2) + 1) 0 (by omega) (by omega) ls (lv_sub hl [0, 1, 2, 3, 4] rfl)
theorem k_X2_selves {x : Int32} {z : Bool} (hS1 : SWf (M 2)) (hT : TWf (M 1)) (SF : CallFix p m c cc nL s args lw_all RX2) (hK : KK dC dI dA s) (rk : rmOK 10 R) (hsz : ls.size = nL) (hcat : (rest.map fun v => v.category).sum ≤ 8) (hP : mP dC dI dA a M H) (hdg : decode cc pc = .ok (.invokevirtual 328, 3)) (k : W p l e R s m args below meth c H locs 0 0 Q (F0 m (pc + 3) ls (.int (nI (slv (M 2) (M 1) x z)) :: rest))) : W p l e R s m args below meth c H locs 0 0 Q (F0 m pc ls (.int (nI z.toNat) :: .int x :: .ref (a 0) :: rest)) :=
  u_run (u_rV (C := RX2) (Ψ := (mP dC dI dA a M)) (As := [.int x, .int (nI z.toNat)]) SF hK rk (c_X2_selves l dC dI dA a M x z hS1 hT) (lw_V q2391 q2393 qs99 q117 q2394) (n := 2) (by decide +kernel) rfl (by decide) (va_recv hK hP (ci := 2) (q0 := 0) rfl rfl) hP hsz hcat ⟨Nat.zero_le _, Nat.zero_le _⟩ rfl hdg) k

set_option maxHeartbeats 4000000 in
theorem c_X2_fix (l : Launch) (dC : Nat → ClassId) (dI : Nat → Nat → Nat) (dA : Nat → ClassId) (a : Nat → Nat) (M : Nat → Nat → Int32) (lt : Nat) (h1 : lt < 24) (hr : ∀ p, p < 5 → rdOK (lr (M 2) lt p)) : Met l yX2_fix (ws_ yX2_fix cX2_fix 6 (some .int)) (rmD 4 0 0) (uPc [.ref (a 0), .int (nI lt)] (mP dC dI dA a M) dC dI dA) (uQi (nI ((fxN (lr (M 2) lt) 10000).1))) 0 0 noF := by
  refine u_meti (own := RX2) (by decide) rfl (Nat.le_of_ble_eq_true rfl) fun p e R s m args below meth c Q SF rk hP hK hret ls hl => ?_
  have hx := SF.1
  have hb := SF.2.1
  have hml := SF.2.2.1
  have hown := SF.2.2.2.1
  have hts := SF.2.2.2.2
  have hl : lv_has ls 6 [(0, .ref (a 0)), (1, .int (nI lt))] := hl
  refine lv_iconst (v := nI 0) hx hb dX2_fix_0 (by decide) ?_
  refine lv_istore_n (lv' := [(2, .int (nI 0)), (0, .ref (a 0)), (1, .int (nI lt))]) hx hb dX2_fix_1 rfl hl (by decide) rfl (fun ls hl => ?_)
  refine lv_bipush (v := nI 11) hx hb dX2_fix_2 (by decide) ?_
  refine lv_istore_n (lv' := [(3, .int (nI 11)), (2, .int (nI 0)), (0, .ref (a 0)), (1, .int (nI lt))]) hx hb dX2_fix_4 rfl hl (by decide) rfl (fun ls hl => ?_)
  refine lv_iconst (v := nI 0) hx hb dX2_fix_5 (by decide) ?_
  refine lv_istore (lv' := [(4, .int (nI 0)), (3, .int (nI 11)), (2, .int (nI 0)), (0, .ref (a 0)), (1, .int (nI lt))]) hx hb dX2_fix_6 hl (by decide) rfl (fun ls hl => ?_)
  have lp8 : ∀ (k0 : Nat) (k : Nat), k ≤ 10000 → 10000 < k + k0 → ∀ ls : Array Slot, lv_has ls 6 [(4, .int (nI k)), (3, .int (nI ((fxN (lr (M 2) lt) k).2))), (2, .int (nI ((fxN (lr (M 2) lt) k).1))), (0, .ref (a 0)), (1, .int (nI lt))] → W p l e R s m args below meth c s.heap [] 0 0 Q (F0 m 8 ls []) := by
    intro k0
    induction k0 with
    | zero =>
      intro k hk1 hk2; omega
    | succ k0 ih =>
      intro k hk1 hk2 ls hl
      have ih8 := ih
      have hx9 := fxN_le (lr (M 2) lt) k
      have hf9 := far_le (lr (M 2) lt) (cd k)
      refine lv_iload hx hb dX2_fix_8 (lv_at hl 0 rfl) ?_
      refine lv_sipush (v := nI 10000) hx hb dX2_fix_10 (by decide) ?_
      refine lv_icmp_ge (tgt := 50) hx hb dX2_fix_13 (by decide) (fun c_13 => ?_) (fun c_13 => ?_)
      · have c_13 : 10000 ≤ k := (nI_leI (a := 10000) (b := k) (by omega) (by omega)).mp c_13
        refine lv_iload_n hx hb dX2_fix_50 rfl (lv_at hl 2 rfl) ?_
        exact hret _ _ _ (by first | rw [show 10000 = k by omega] | rw [fxN_stop (k := k) (by omega) 10000 (by omega)]) dX2_fix_51
      · have c_13 : ¬ (10000 ≤ k) := fun q9 => c_13 ((nI_leI (a := 10000) (b := k) (by omega) (by omega)).mpr q9)
        refine lv_iload_n hx hb dX2_fix_16 rfl (lv_at hl 1 rfl) ?_
        refine lv_if_le (tgt := 50) hx hb dX2_fix_17 (by decide) (fun c_17 => ?_) (fun c_17 => ?_)
        · have c_17 : (fxN (lr (M 2) lt) k).2 ≤ 0 := (nI_leI (a := (fxN (lr (M 2) lt) k).2) (b := 0) (by omega) (by omega)).mp c_17
          refine lv_iload_n hx hb dX2_fix_50 rfl (lv_at hl 2 rfl) ?_
          exact hret _ _ _ (by first | rw [show 10000 = k by omega] | rw [fxN_stop (k := k) (by omega) 10000 (by omega)]) dX2_fix_51
        · have c_17 : ¬ ((fxN (lr (M 2) lt) k).2 ≤ 0) := fun q9 => c_17 ((nI_leI (a := (fxN (lr (M 2) lt) k).2) (b := 0) (by omega) (by omega)).mpr q9)
          refine lv_aload_n hx hb dX2_fix_20 rfl (lv_at hl 3 rfl) ?_
          refine lv_iload_n hx hb dX2_fix_21 rfl (lv_at hl 4 rfl) ?_
          refine lv_iload hx hb dX2_fix_22 (lv_at hl 0 rfl) ?_
          refine k_X2_codeOf  (by omega) SF hK (rk.le (Nat.le_of_ble_eq_true rfl)) hl.1 (Nat.le_of_ble_eq_true rfl) dX2_fix_24 ?_
          refine k_X2_far  h1 (cd_lt (by omega)) hr SF hK (rk.le (Nat.le_of_ble_eq_true rfl)) hl.1 (Nat.le_of_ble_eq_true rfl) hP dX2_fix_27 ?_
          refine lv_istore (lv' := [(5, .int (nI (far (lr (M 2) lt) (cd k)))), (4, .int (nI k)), (3, .int (nI ((fxN (lr (M 2) lt) k).2))), (2, .int (nI ((fxN (lr (M 2) lt) k).1))), (0, .ref (a 0)), (1, .int (nI lt))]) hx hb dX2_fix_30 hl (by decide) rfl (fun ls hl => ?_)
          refine lv_iload hx hb dX2_fix_32 (lv_at hl 0 rfl) ?_
          refine lv_iload_n hx hb dX2_fix_34 rfl (lv_at hl 2 rfl) ?_
          refine lv_icmp_ge (tgt := 44) hx hb dX2_fix_35 (by decide) (fun c_35 => ?_) (fun c_35 => ?_)
          · have c_35 : (fxN (lr (M 2) lt) k).2 ≤ far (lr (M 2) lt) (cd k) := (nI_leI (a := (fxN (lr (M 2) lt) k).2) (b := far (lr (M 2) lt) (cd k)) (by omega) (by omega)).mp c_35
            have e9 : fxN (lr (M 2) lt) (k + 1) = fxN (lr (M 2) lt) k := by rw [fxN, if_neg (by omega), if_neg (by omega)]
            have hl : lv_has ls 6 [(0, .ref (a 0)), (1, .int (nI lt)), (2, .int (nI ((fxN (lr (M 2) lt) (k + 1)).1))), (3, .int (nI ((fxN (lr (M 2) lt) (k + 1)).2))), (4, .int (nI k))] := by rw [e9]; exact lv_sub hl [4, 5, 3, 2, 1] rfl
            refine lv_iinc (v := nI (k + 1)) (lv' := [(4, .int (nI (k + 1))), (0, .ref (a 0)), (1, .int (nI lt)), (2, .int (nI ((fxN (lr (M 2) lt) (k + 1)).1))), (3, .int (nI ((fxN (lr (M 2) lt) (k + 1)).2)))]) hx hb dX2_fix_44 hl (k := 4) rfl (nI_add _ 1) (by decide) rfl (fun ls hl => ?_)
            refine lv_goto (tgt := 8) hx hb dX2_fix_47 (by decide) ?_
            exact ih8 (k + 1) (by omega) (by omega) ls (lv_sub hl [0, 4, 3, 1, 2] rfl)
          · have c_35 : ¬ ((fxN (lr (M 2) lt) k).2 ≤ far (lr (M 2) lt) (cd k)) := fun q9 => c_35 ((nI_leI (a := (fxN (lr (M 2) lt) k).2) (b := far (lr (M 2) lt) (cd k)) (by omega) (by omega)).mpr q9)
            refine lv_iload hx hb dX2_fix_38 (lv_at hl 1 rfl) ?_
            refine lv_istore_n (lv' := [(2, .int (nI k)), (5, .int (nI (far (lr (M 2) lt) (cd k)))), (4, .int (nI k)), (3, .int (nI ((fxN (lr (M 2) lt) k).2))), (0, .ref (a 0)), (1, .int (nI lt))]) hx hb dX2_fix_40 rfl hl (by decide) rfl (fun ls hl => ?_)
            refine lv_iload hx hb dX2_fix_41 (lv_at hl 1 rfl) ?_
            refine lv_istore_n (lv' := [(3, .int (nI (far (lr (M 2) lt) (cd k)))), (2, .int (nI k)), (5, .int (nI (far (lr (M 2) lt) (cd k)))), (4, .int (nI k)), (0, .ref (a 0)), (1, .int (nI lt))]) hx hb dX2_fix_43 rfl hl (by decide) rfl (fun ls hl => ?_)
            have e9 : fxN (lr (M 2) lt) (k + 1) = (k, far (lr (M 2) lt) (cd k)) := by rw [fxN, if_neg (by omega), if_pos (by omega)]
            have hl : lv_has ls 6 [(0, .ref (a 0)), (1, .int (nI lt)), (2, .int (nI ((fxN (lr (M 2) lt) (k + 1)).1))), (3, .int (nI ((fxN (lr (M 2) lt) (k + 1)).2))), (4, .int (nI k))] := by rw [e9]; exact lv_sub hl [4, 5, 1, 0, 3] rfl
            refine lv_iinc (v := nI (k + 1)) (lv' := [(4, .int (nI (k + 1))), (0, .ref (a 0)), (1, .int (nI lt)), (2, .int (nI ((fxN (lr (M 2) lt) (k + 1)).1))), (3, .int (nI ((fxN (lr (M 2) lt) (k + 1)).2)))]) hx hb dX2_fix_44 hl (k := 4) rfl (nI_add _ 1) (by decide) rfl (fun ls hl => ?_)
            refine lv_goto (tgt := 8) hx hb dX2_fix_47 (by decide) ?_
            exact ih8 (k + 1) (by omega) (by omega) ls (lv_sub hl [0, 4, 3, 1, 2] rfl)
  exact lp8 10001 0 (by omega) (by omega) ls (lv_sub hl [0, 1, 2, 3, 4] rfl)
theorem k_X2_fix {lt : Nat} (h1 : lt < 24) (hr : ∀ p, p < 5 → rdOK (lr (M 2) lt p)) (SF : CallFix p m c cc nL s args lw_all RX2) (hK : KK dC dI dA s) (rk : rmOK 5 R) (hsz : ls.size = nL) (hcat : (rest.map fun v => v.category).sum ≤ 8) (hP : mP dC dI dA a M H) (hdg : decode cc pc = .ok (.invokevirtual 313, 3)) (k : W p l e R s m args below meth c H locs 0 0 Q (F0 m (pc + 3) ls (.int (nI ((fxN (lr (M 2) lt) 10000).1)) :: rest))) : W p l e R s m args below meth c H locs 0 0 Q (F0 m pc ls (.int (nI lt) :: .ref (a 0) :: rest)) :=
  u_run (u_rV (C := RX2) (Ψ := (mP dC dI dA a M)) (As := [.int (nI lt)]) SF hK rk (c_X2_fix l dC dI dA a M lt h1 hr) (lw_V q2364 q2366 qs96 q117 q2367) (n := 1) (by decide +kernel) rfl (by decide) (va_recv hK hP (ci := 2) (q0 := 0) rfl rfl) hP hsz hcat ⟨Nat.zero_le _, Nat.zero_le _⟩ rfl hdg) k
end TW
