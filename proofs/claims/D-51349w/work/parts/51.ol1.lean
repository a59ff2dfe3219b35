set_option maxRecDepth 100000
section OL1
variable {p : Program} {l : Launch} {e : Env} {R : Room} {s : State} {m : MethodId} {args : Array Value} {below : List Frame} {meth : Method} {c : Code} {H : Heap} {locs : List Loc} {Q : State → Prop}
variable {cc : ByteArray} {pc nL : Nat} {ls : Array Slot} {rest : List Value} {dC : Nat → ClassId} {dI : Nat → Nat → Nat} {dA : Nat → ClassId} {a : Nat → Nat} {M : Nat → Nat → Int32} {H0 : Heap}

set_option maxHeartbeats 4000000 in
theorem c_J2_checkIndex (l : Launch) (dC : Nat → ClassId) (dI : Nat → Nat → Nat) (dA : Nat → ClassId) (i : Nat) (n : Nat) (hi : i < n) (hn : n < 2 ^ 31) : Met l yJ2_checkIndex (ws_ yJ2_checkIndex cJ2_checkIndex 2 (some (.int))) (rmD 1 0 0) (uPx [.int (nI i), .int (nI n)] (fun _ _ => True) dC dI dA) (uQi (nI (i))) 0 0 noF := by
  refine x_meti (own := RJ2) (by decide) rfl (Nat.le_of_ble_eq_true rfl) fun p e R s m args below meth c Q SF rk hX hK hret ls hl => ?_
  have hx := SF.1
  have hb := SF.2.1
  have hml := SF.2.2.1
  have hown := SF.2.2.2.1
  have hts := SF.2.2.2.2
  have hl : lv_has ls 2 [(0, .int (nI i)), (1, .int (nI n))] := hl
  refine lv_iload_n hx hb dJ2_checkIndex_0 rfl (lv_at hl 0 rfl) ?_
  refine lv_iload_n hx hb dJ2_checkIndex_1 rfl (lv_at hl 1 rfl) ?_
  refine lv_null hx hb dJ2_checkIndex_2 ?_
  refine u_run (x_rS (As := [.int (nI i), .int (nI n), .null]) SF hK (d := 0) (rk.le (Nat.le_of_ble_eq_true rfl)) (c_J3_checkIndexN l dC dI dA i n (show i < n by omega) (show n < 2 ^ 31 by omega)) (lw_S q204 q205 q116 q206) (n := 3) (by decide +kernel) rfl (by decide) (XOK.hp) (trivial) hl.1 (Nat.le_of_ble_eq_true rfl) ⟨Nat.zero_le _, Nat.zero_le _⟩ rfl dJ2_checkIndex_3) ?_
  refine u_top (y := nI i) rfl ?_
  exact hret _ _ _ rfl dJ2_checkIndex_6

set_option maxHeartbeats 4000000 in
theorem c_J20_size (l : Launch) (dC : Nat → ClassId) (dI : Nat → Nat → Nat) (dA : Nat → ClassId) (x : Nat) (y : Nat) (n : Nat) (k : Int32) (cap : Nat) (f : Nat → Option Nat)  : Met l yJ20_size (ws_ yJ20_size cJ20_size 1 (some (.int))) (rmD 0 0 0) (uPx [.ref x] (fun _ H => alP dC dI dA x y n k cap f H) dC dI dA) (uQi (nI (n))) 0 0 noF := by
  refine x_meti (own := RJ20) (by decide) rfl (Nat.le_of_ble_eq_true rfl) fun p e R s m args below meth c Q SF rk hX hK hret ls hl => ?_
  have hx := SF.1
  have hb := SF.2.1
  have hml := SF.2.2.1
  have hown := SF.2.2.2.1
  have hts := SF.2.2.2.2
  have hL1 := hX.1
  have hL2 := hX.2
  have hl : lv_has ls 1 [(0, .ref x)] := hl
  refine lv_aload_n hx hb dJ20_size_0 rfl (lv_at hl 0 rfl) ?_
  refine va_get (D := (dC, dI)) (ci := 6) (v := .int (nI n)) (C := RJ20) (T := TJ20) (N := 3) hx hb hts in_J20 hown hK hL1 0 rfl rfl 2 (by decide) (hts _ q816) (fun _ h9 => h9) rfl dJ20_size_1 ?_
  exact hret _ _ _ rfl dJ20_size_4

set_option maxHeartbeats 4000000 in
theorem c_J20_isEmpty (l : Launch) (dC : Nat → ClassId) (dI : Nat → Nat → Nat) (dA : Nat → ClassId) (x : Nat) (y : Nat) (n : Nat) (k : Int32) (cap : Nat) (f : Nat → Option Nat) (hn : n < 2 ^ 31) : Met l yJ20_isEmpty (ws_ yJ20_isEmpty cJ20_isEmpty 1 (some (.boolean))) (rmD 0 0 0) (uPx [.ref x] (fun _ H => alP dC dI dA x y n k cap f H) dC dI dA) (uQi (nI (decide (n = 0)).toNat)) 0 0 noF := by
  refine x_metz (own := RJ20) (by decide) rfl (Nat.le_of_ble_eq_true rfl) fun p e R s m args below meth c Q SF rk hX hK hret ls hl => ?_
  have hx := SF.1
  have hb := SF.2.1
  have hml := SF.2.2.1
  have hown := SF.2.2.2.1
  have hts := SF.2.2.2.2
  have hL1 := hX.1
  have hL2 := hX.2
  have hl : lv_has ls 1 [(0, .ref x)] := hl
  refine lv_aload_n hx hb dJ20_isEmpty_0 rfl (lv_at hl 0 rfl) ?_
  refine va_get (D := (dC, dI)) (ci := 6) (v := .int (nI n)) (C := RJ20) (T := TJ20) (N := 3) hx hb hts in_J20 hown hK hL1 0 rfl rfl 2 (by decide) (hts _ q816) (fun _ h9 => h9) rfl dJ20_isEmpty_1 ?_
  refine lv_if_ne (tgt := 11) hx hb dJ20_isEmpty_4 (by decide) (fun c_4 => ?_) (fun c_4 => ?_)
  · have c_4 : ¬ (n = 0) := fun q9 => c_4 ((nI_eq (a := n) (b := 0) (by omega) (by omega)).mpr q9)
    refine lv_iconst (v := nI 0) hx hb dJ20_isEmpty_11 (by decide) ?_
    exact hret _ _ _ (u_d0 c_4) dJ20_isEmpty_12
  · have c_4 : n = 0 := (nI_eq (a := n) (b := 0) (by omega) (by omega)).mp c_4
    refine lv_iconst (v := nI 1) hx hb dJ20_isEmpty_7 (by decide) ?_
    refine lv_goto (tgt := 12) hx hb dJ20_isEmpty_8 (by decide) ?_
    exact hret _ _ _ (u_d1 c_4) dJ20_isEmpty_12

set_option maxHeartbeats 4000000 in
theorem c_J20_elementData (l : Launch) (dC : Nat → ClassId) (dI : Nat → Nat → Nat) (dA : Nat → ClassId) (x : Nat) (y : Nat) (n : Nat) (k : Int32) (cap : Nat) (f : Nat → Option Nat) (q9 : Nat) (i : Nat) (hi : i < n) (hnc : n ≤ cap) (hcap : cap < 2 ^ 31) (hq : f i = some q9) : Met l yJ20_elementData (ws_ yJ20_elementData cJ20_elementData 2 (some (.object "java/lang/Object"))) (rmD 0 0 0) (uPx [.ref x, .int (nI i)] (fun _ H => alP dC dI dA x y n k cap f H) dC dI dA) (uQa (.ref (q9))) 0 0 noF := by
  refine x_meta (own := RJ20) (by decide) rfl (Nat.le_of_ble_eq_true rfl) (Or.inl ⟨_, rfl⟩) (Or.inr ⟨_, rfl⟩) fun p e R s m args below meth c Q SF rk hX hK hret ls hl => ?_
  have hx := SF.1
  have hb := SF.2.1
  have hml := SF.2.2.1
  have hown := SF.2.2.2.1
  have hts := SF.2.2.2.2
  have hL1 := hX.1
  have hL2 := hX.2
  have hl : lv_has ls 2 [(0, .ref x), (1, .int (nI i))] := hl
  refine lv_aload_n hx hb dJ20_elementData_0 rfl (lv_at hl 0 rfl) ?_
  refine va_get (D := (dC, dI)) (ci := 6) (v := .ref y) (C := RJ20) (T := TJ20) (N := 3) hx hb hts in_J20 hown hK hL1 0 rfl rfl 1 (by decide) (hts _ q815) (fun _ h9 => h9) rfl dJ20_elementData_1 ?_
  refine lv_iload_n hx hb dJ20_elementData_4 rfl (lv_at hl 1 rfl) ?_
  refine g_aald hx hb hK hL2 (t0 := 5) rfl (i := i) (by omega) hcap hq dJ20_elementData_5 ?_
  exact hret _ _ _ rfl dJ20_elementData_6

set_option maxHeartbeats 4000000 in
theorem c_J20_get (l : Launch) (dC : Nat → ClassId) (dI : Nat → Nat → Nat) (dA : Nat → ClassId) (x : Nat) (y : Nat) (n : Nat) (k : Int32) (cap : Nat) (f : Nat → Option Nat) (q9 : Nat) (i : Nat) (hi : i < n) (hnc : n ≤ cap) (hcap : cap < 2 ^ 31) (hq : f i = some q9) : Met l yJ20_get (ws_ yJ20_get cJ20_get 2 (some (.object "java/lang/Object"))) (rmD 2 0 0) (uPx [.ref x, .int (nI i)] (fun _ H => alP dC dI dA x y n k cap f H) dC dI dA) (uQa (.ref (q9))) 0 0 noF := by
  refine x_meta (own := RJ20) (by decide) rfl (Nat.le_of_ble_eq_true rfl) (Or.inl ⟨_, rfl⟩) (Or.inr ⟨_, rfl⟩) fun p e R s m args below meth c Q SF rk hX hK hret ls hl => ?_
  have hx := SF.1
  have hb := SF.2.1
  have hml := SF.2.2.1
  have hown := SF.2.2.2.1
  have hts := SF.2.2.2.2
  have hL1 := hX.1
  have hL2 := hX.2
  have hl : lv_has ls 2 [(0, .ref x), (1, .int (nI i))] := hl
  refine lv_iload_n hx hb dJ20_get_0 rfl (lv_at hl 1 rfl) ?_
  refine lv_aload_n hx hb dJ20_get_1 rfl (lv_at hl 0 rfl) ?_
  refine va_get (D := (dC, dI)) (ci := 6) (v := .int (nI n)) (C := RJ20) (T := TJ20) (N := 3) hx hb hts in_J20 hown hK hL1 0 rfl rfl 2 (by decide) (hts _ q816) (fun _ h9 => h9) rfl dJ20_get_2 ?_
  refine u_run (x_rS (As := [.int (nI i), .int (nI n)]) SF hK (d := 1) (rk.le (Nat.le_of_ble_eq_true rfl)) (c_J2_checkIndex l dC dI dA i n (show i < n by omega) (show n < 2 ^ 31 by omega)) (lw_S q201 q202 q115 q203) (n := 2) (by decide +kernel) rfl (by decide) (XOK.hp) (trivial) hl.1 (Nat.le_of_ble_eq_true rfl) ⟨Nat.zero_le _, Nat.zero_le _⟩ rfl dJ20_get_5) ?_
  refine u_top (y := nI i) rfl ?_
  refine lv_pop hx hb dJ20_get_8 rfl ?_
  refine lv_aload_n hx hb dJ20_get_9 rfl (lv_at hl 0 rfl) ?_
  refine lv_iload_n hx hb dJ20_get_10 rfl (lv_at hl 1 rfl) ?_
  refine x_runa (x_rV (C := RJ20) (As := [.int (nI i)]) SF hK (d := 0) (rk.le (Nat.le_of_ble_eq_true rfl)) (c_J20_elementData l dC dI dA x y n k cap f q9 i hi hnc hcap hq) (lw_V q207 q208 q209 q141 q210) (n := 1) (by decide +kernel) rfl (by decide) (g_recv hK hL1 (ci := 6) rfl) (XOK.hp) (hX) hl.1 (Nat.le_of_ble_eq_true rfl) ⟨Nat.zero_le _, Nat.zero_le _⟩ rfl dJ20_get_11) ?_
  refine g_top (y := .ref q9) rfl ?_
  exact hret _ _ _ rfl dJ20_get_14

set_option maxHeartbeats 4000000 in
theorem c_X6_number (l : Launch) (dC : Nat → ClassId) (dI : Nat → Nat → Nat) (dA : Nat → ClassId) (b : Nat → Nat) (mc : Nat → Int32) (S : Nat → Int32) (Hd : Nat → Int32) (t : Nat) (ht : t < tn Hd) (hT : TWf Hd) : Met l yX6_number (ws_ yX6_number cX6_number 1 (some (.int))) (rmD 0 0 0) (uPx [.ref (b (10 + t))] (fun U H => famP dC dI b (offE b dA mc S Hd) H ∧ CE U) dC dI dA) (uQi (nI (num Hd t))) 0 0 noF := by
  refine x_meti (own := RX6) (by decide) rfl (Nat.le_of_ble_eq_true rfl) fun p e R s m args below meth c Q SF rk hX hK hret ls hl => ?_
  have hx := SF.1
  have hb := SF.2.1
  have hml := SF.2.2.1
  have hown := SF.2.2.2.1
  have hts := SF.2.2.2.2
  have hO := hX.1
  have hCE := hX.2
  have hl : lv_has ls 1 [(0, .ref (b (10 + t)))] := hl
  refine lv_aload_n hx hb dX6_number_0 rfl (lv_at hl 0 rfl) ?_
  refine va_get (D := (dC, dI)) (ci := 4) (v := .int (Hd (2 + t))) (C := RX6) (T := TX6) (N := 3) hx hb hts in_X6 hown hK (hO _ _ (offE_tw (show t < tn Hd from (by omega)) hT.2.1)) 0 rfl rfl 0 (by decide) (hts _ q992) (fun _ h9 => h9) rfl dX6_number_1 ?_
  refine u_top (y := nI (num Hd t)) ((hT.2.2 t (by omega)).1) ?_
  exact hret _ _ _ rfl dX6_number_4

set_option maxHeartbeats 4000000 in
theorem c_X6_route (l : Launch) (dC : Nat → ClassId) (dI : Nat → Nat → Nat) (dA : Nat → ClassId) (b : Nat → Nat) (mc : Nat → Int32) (S : Nat → Int32) (Hd : Nat → Int32) (t : Nat) (ht : t < tn Hd) (hT : TWf Hd) : Met l yX6_route (ws_ yX6_route cX6_route 1 (some (.int))) (rmD 0 0 0) (uPx [.ref (b (10 + t))] (fun U H => famP dC dI b (offE b dA mc S Hd) H ∧ CE U) dC dI dA) (uQi (nI (rou Hd t))) 0 0 noF := by
  refine x_meti (own := RX6) (by decide) rfl (Nat.le_of_ble_eq_true rfl) fun p e R s m args below meth c Q SF rk hX hK hret ls hl => ?_
  have hx := SF.1
  have hb := SF.2.1
  have hml := SF.2.2.1
  have hown := SF.2.2.2.1
  have hts := SF.2.2.2.2
  have hO := hX.1
  have hCE := hX.2
  have hl : lv_has ls 1 [(0, .ref (b (10 + t)))] := hl
  refine lv_aload_n hx hb dX6_route_0 rfl (lv_at hl 0 rfl) ?_
  refine va_get (D := (dC, dI)) (ci := 4) (v := .int (Hd (14 + t))) (C := RX6) (T := TX6) (N := 3) hx hb hts in_X6 hown hK (hO _ _ (offE_tw (show t < tn Hd from (by omega)) hT.2.1)) 0 rfl rfl 1 (by decide) (hts _ q993) (fun _ h9 => h9) rfl dX6_route_1 ?_
  refine u_top (y := nI (rou Hd t)) ((hT.2.2 t (by omega)).2.2.1) ?_
  exact hret _ _ _ rfl dX6_route_4

set_option maxHeartbeats 4000000 in
theorem c_X6_check (l : Launch) (dC : Nat → ClassId) (dI : Nat → Nat → Nat) (dA : Nat → ClassId) (b : Nat → Nat) (mc : Nat → Int32) (S : Nat → Int32) (Hd : Nat → Int32) (t : Nat) (ht : t < tn Hd) (hT : TWf Hd) : Met l yX6_check (ws_ yX6_check cX6_check 1 (some (.int))) (rmD 0 0 0) (uPx [.ref (b (10 + t))] (fun U H => famP dC dI b (offE b dA mc S Hd) H ∧ CE U) dC dI dA) (uQi (nI (chk (num Hd t)))) 0 0 noF := by
  refine x_meti (own := RX6) (by decide) rfl (Nat.le_of_ble_eq_true rfl) fun p e R s m args below meth c Q SF rk hX hK hret ls hl => ?_
  have hx := SF.1
  have hb := SF.2.1
  have hml := SF.2.2.1
  have hown := SF.2.2.2.1
  have hts := SF.2.2.2.2
  have hO := hX.1
  have hCE := hX.2
  have hl : lv_has ls 1 [(0, .ref (b (10 + t)))] := hl
  refine lv_aload_n hx hb dX6_check_0 rfl (lv_at hl 0 rfl) ?_
  refine va_get (D := (dC, dI)) (ci := 4) (v := .int (nI (chk (num Hd t)))) (C := RX6) (T := TX6) (N := 3) hx hb hts in_X6 hown hK (hO _ _ (offE_tw (show t < tn Hd from (by omega)) hT.2.1)) 0 rfl rfl 2 (by decide) (hts _ q994) (fun _ h9 => h9) rfl dX6_check_1 ?_
  exact hret _ _ _ rfl dX6_check_4

set_option maxHeartbeats 4000000 in
theorem c_X6_digit (l : Launch) (dC : Nat → ClassId) (dI : Nat → Nat → Nat) (dA : Nat → ClassId) (b : Nat → Nat) (mc : Nat → Int32) (S : Nat → Int32) (Hd : Nat → Int32) (t : Nat) (q : Nat) (hq : q < 5) (ht : t < tn Hd) (hT : TWf Hd) : Met l yX6_digit (ws_ yX6_digit cX6_digit 2 (some (.int))) (rmD 1 0 0) (uPx [.ref (b (10 + t)), .int (nI q)] (fun U H => famP dC dI b (offE b dA mc S Hd) H ∧ CE U) dC dI dA) (uQi (nI (dg (cd (num Hd t)) q))) 0 0 noF := by
  refine x_meti (own := RX6) (by decide) rfl (Nat.le_of_ble_eq_true rfl) fun p e R s m args below meth c Q SF rk hX hK hret ls hl => ?_
  have hx := SF.1
  have hb := SF.2.1
  have hml := SF.2.2.1
  have hown := SF.2.2.2.1
  have hts := SF.2.2.2.2
  have hO := hX.1
  have hCE := hX.2
  have hl : lv_has ls 2 [(0, .ref (b (10 + t))), (1, .int (nI q))] := hl
  have hnt := (hT.2.2 t ht).2.1
  refine lv_iload_n hx hb dX6_digit_0 rfl (lv_at hl 1 rfl) ?_
  refine lv_iconst (v := nI 4) hx hb dX6_digit_1 (by decide) ?_
  refine lv_icmp_ne (tgt := 12) hx hb dX6_digit_2 (by decide) (fun c_2 => ?_) (fun c_2 => ?_)
  · have c_2 : ¬ (q = 4) := fun q9 => c_2 ((nI_eq (a := q) (b := 4) (by omega) (by omega)).mpr q9)
    refine lv_aload_n hx hb dX6_digit_12 rfl (lv_at hl 0 rfl) ?_
    refine va_get (D := (dC, dI)) (ci := 4) (v := .int (Hd (2 + t))) (C := RX6) (T := TX6) (N := 3) hx hb hts in_X6 hown hK (hO _ _ (offE_tw (show t < tn Hd from (by omega)) hT.2.1)) 0 rfl rfl 0 (by decide) (hts _ q992) (fun _ h9 => h9) rfl dX6_digit_13 ?_
    refine u_top (y := nI (num Hd t)) ((hT.2.2 t (by omega)).1) ?_
    refine lv_iload_n hx hb dX6_digit_16 rfl (lv_at hl 1 rfl) ?_
    refine u_run (x_rSN (As := [.int (nI (num Hd t)), .int (nI q)]) (X := fun _ _ => True) SF hK (d := 0) (rk.le (Nat.le_of_ble_eq_true rfl)) (c_X1_digitOf l dC dI dA (num Hd t) q (show (num Hd t) < 100000 by omega) (show q < 4 by omega)) (hCE.2.1 6 (by decide)) q983 q112 q984 (n := 2) (by decide +kernel) rfl (by decide) (XOK.hp) (trivial) hl.1 (Nat.le_of_ble_eq_true rfl) ⟨Nat.zero_le _, Nat.zero_le _⟩ rfl dX6_digit_17) ?_
    refine u_top (y := nI (d4 (num Hd t) q)) rfl ?_
    exact hret _ _ _ (by rw [d4_dg (by omega)]) dX6_digit_20
  · have c_2 : q = 4 := (nI_eq (a := q) (b := 4) (by omega) (by omega)).mp c_2
    refine lv_aload_n hx hb dX6_digit_5 rfl (lv_at hl 0 rfl) ?_
    refine va_get (D := (dC, dI)) (ci := 4) (v := .int (nI (chk (num Hd t)))) (C := RX6) (T := TX6) (N := 3) hx hb hts in_X6 hown hK (hO _ _ (offE_tw (show t < tn Hd from (by omega)) hT.2.1)) 0 rfl rfl 2 (by decide) (hts _ q994) (fun _ h9 => h9) rfl dX6_digit_6 ?_
    refine lv_goto (tgt := 20) hx hb dX6_digit_9 (by decide) ?_
    exact hret _ _ _ (by rw [show q = 4 by omega, chk_dg]) dX6_digit_20

set_option maxHeartbeats 4000000 in
theorem c_X6_sum (l : Launch) (dC : Nat → ClassId) (dI : Nat → Nat → Nat) (dA : Nat → ClassId) (b : Nat → Nat) (mc : Nat → Int32) (S : Nat → Int32) (Hd : Nat → Int32) (t : Nat) (ht : t < tn Hd) (hT : TWf Hd) : Met l yX6_sum (ws_ yX6_sum cX6_sum 3 (some (.int))) (rmD 2 0 0) (uPx [.ref (b (10 + t))] (fun U H => famP dC dI b (offE b dA mc S Hd) H ∧ CE U) dC dI dA) (uQi (nI (dsm (cd (num Hd t))))) 0 0 noF := by
  refine x_meti (own := RX6) (by decide) rfl (Nat.le_of_ble_eq_true rfl) fun p e R s m args below meth c Q SF rk hX hK hret ls hl => ?_
  have hx := SF.1
  have hb := SF.2.1
  have hml := SF.2.2.1
  have hown := SF.2.2.2.1
  have hts := SF.2.2.2.2
  have hO := hX.1
  have hCE := hX.2
  have hl : lv_has ls 3 [(0, .ref (b (10 + t)))] := hl
  have hnt := (hT.2.2 t ht).2.1
  refine lv_iconst (v := nI 0) hx hb dX6_sum_0 (by decide) ?_
  refine lv_istore_n (lv' := [(1, .int (nI 0)), (0, .ref (b (10 + t)))]) hx hb dX6_sum_1 rfl hl (by decide) rfl (fun ls hl => ?_)
  refine lv_iconst (v := nI 0) hx hb dX6_sum_2 (by decide) ?_
  refine lv_istore_n (lv' := [(2, .int (nI 0)), (1, .int (nI 0)), (0, .ref (b (10 + t)))]) hx hb dX6_sum_3 rfl hl (by decide) rfl (fun ls hl => ?_)
  have lp4 : ∀ (k0 : Nat) (k : Nat), k ≤ 5 → 5 < k + k0 → ∀ ls : Array Slot, lv_has ls 3 [(2, .int (nI k)), (1, .int (nI (sumN (dg (cd (num Hd t))) k))), (0, .ref (b (10 + t)))] → W p l e R s m args below meth c s.heap [] 0 0 Q (F0 m 4 ls []) := by
    intro k0
    induction k0 with
    | zero =>
      intro k hk1 hk2; omega
    | succ k0 ih =>
      intro k hk1 hk2 ls hl
      have ih4 := ih
      refine lv_iload_n hx hb dX6_sum_4 rfl (lv_at hl 0 rfl) ?_
      refine lv_iconst (v := nI 5) hx hb dX6_sum_5 (by decide) ?_
      refine lv_icmp_ge (tgt := 23) hx hb dX6_sum_6 (by decide) (fun c_6 => ?_) (fun c_6 => ?_)
      · have c_6 : 5 ≤ k := (nI_leI (a := 5) (b := k) (by omega) (by omega)).mp c_6
        refine lv_iload_n hx hb dX6_sum_23 rfl (lv_at hl 1 rfl) ?_
        exact hret _ _ _ (by rw [show k = 5 by omega]; rfl) dX6_sum_24
      · have c_6 : ¬ (5 ≤ k) := fun q9 => c_6 ((nI_leI (a := 5) (b := k) (by omega) (by omega)).mpr q9)
        refine lv_iload_n hx hb dX6_sum_9 rfl (lv_at hl 1 rfl) ?_
        refine lv_aload_n hx hb dX6_sum_10 rfl (lv_at hl 2 rfl) ?_
        refine lv_iload_n hx hb dX6_sum_11 rfl (lv_at hl 0 rfl) ?_
        refine u_run (x_rV (C := RX6) (As := [.int (nI k)]) SF hK (d := 1) (rk.le (Nat.le_of_ble_eq_true rfl)) (c_X6_digit l dC dI dA b mc S Hd t k (show k < 5 by omega) (show t < tn Hd by omega) hT) (lw_V q1200 q1166 q1167 q143 q1168) (n := 1) (by decide +kernel) rfl (by decide) (g_recv hK (hO _ _ (offE_tw (show t < tn Hd from (by omega)) hT.2.1)) (ci := 4) rfl) (XOK.hp.and CE.ok) (⟨hO, hCE⟩) hl.1 (Nat.le_of_ble_eq_true rfl) ⟨Nat.zero_le _, Nat.zero_le _⟩ rfl dX6_sum_12) ?_
        refine u_top (y := nI (dg (cd (num Hd t)) k)) rfl ?_
        refine lv_iadd hx hb dX6_sum_15 ?_
        refine u_top (nI_add _ _) ?_
        refine lv_istore_n (lv' := [(1, .int (nI (sumN (dg (cd (num Hd t))) k + (dg (cd (num Hd t)) k)))), (2, .int (nI k)), (0, .ref (b (10 + t)))]) hx hb dX6_sum_16 rfl hl (by decide) rfl (fun ls hl => ?_)
        refine lv_iinc (v := nI (k + 1)) (lv' := [(2, .int (nI (k + 1))), (1, .int (nI (sumN (dg (cd (num Hd t))) k + (dg (cd (num Hd t)) k)))), (0, .ref (b (10 + t)))]) hx hb dX6_sum_17 hl (k := 1) rfl (nI_add _ 1) (by decide) rfl (fun ls hl => ?_)
        refine lv_goto (tgt := 4) hx hb dX6_sum_20 (by decide) ?_
        exact ih4 (k + 1) (by omega) (by omega) ls (lv_sub hl [0, 1, 2] rfl)
  exact lp4 (5 + 1) 0 (by omega) (by omega) ls (lv_sub hl [0, 1, 2] rfl)

set_option maxHeartbeats 4000000 in
theorem c_X1_cost (l : Launch) (dC : Nat → ClassId) (dI : Nat → Nat → Nat) (dA : Nat → ClassId) (r : Int32) (g : Nat) (hr : rdOK r) (hg : g < 10) : Met l yX1_cost (ws_ yX1_cost cX1_cost 2 (some (.int))) (rmD 2 0 0) (uPx [.int r, .int (nI g)] (fun _ _ => True) dC dI dA) (uQi (nI (cst r g))) 0 0 noF := by
  refine x_meti (own := RX1) (by decide) rfl (Nat.le_of_ble_eq_true rfl) fun p e R s m args below meth c Q SF rk hX hK hret ls hl => ?_
  have hx := SF.1
  have hb := SF.2.1
  have hml := SF.2.2.1
  have hown := SF.2.2.2.1
  have hts := SF.2.2.2.2
  have hl : lv_has ls 2 [(0, .int r), (1, .int (nI g))] := hl
  refine lv_iload_n hx hb dX1_cost_0 rfl (lv_at hl 0 rfl) ?_
  refine lv_iload_n hx hb dX1_cost_1 rfl (lv_at hl 1 rfl) ?_
  refine lv_icmp_ne (tgt := 7) hx hb dX1_cost_2 (by decide) (fun c_2 => ?_) (fun c_2 => ?_)
  · refine lv_iload_n hx hb dX1_cost_7 rfl (lv_at hl 0 rfl) ?_
    refine lv_iconst (v := (-1)) hx hb dX1_cost_8 (by decide) ?_
    refine lv_icmp_eq (tgt := 20) hx hb dX1_cost_9 (by decide) (fun c_9 => ?_) (fun c_9 => ?_)
    · refine lv_iconst (v := nI 1) hx hb dX1_cost_20 (by decide) ?_
      refine lv_goto (tgt := 25) hx hb dX1_cost_21 (by decide) ?_
      exact hret _ _ _ (by rw [cst, if_neg c_2, if_pos (Or.inl c_9)]) dX1_cost_25
    · obtain ⟨k, hk, rfl⟩ : ∃ k : Nat, k < 10 ∧ r = nI k := hr.resolve_left c_9
      refine lv_iload_n hx hb dX1_cost_12 rfl (lv_at hl 0 rfl) ?_
      refine lv_iload_n hx hb dX1_cost_13 rfl (lv_at hl 1 rfl) ?_
      refine u_run (x_rS (As := [.int (nI k), .int (nI g)]) (X := fun _ _ => True) SF hK (d := 1) (rk.le (Nat.le_of_ble_eq_true rfl)) (c_X1_areAlike l dC dI dA k g (show k < 10 by omega) (show g < 10 by omega)) (lw_S q1173 q1174 q112 q1175) (n := 2) (by decide +kernel) rfl (by decide) (XOK.hp) (trivial) hl.1 (Nat.le_of_ble_eq_true rfl) ⟨Nat.zero_le _, Nat.zero_le _⟩ rfl dX1_cost_14) ?_
      refine u_top (y := nI ((alk k g).toNat)) rfl ?_
      refine lv_if_eq (tgt := 24) hx hb dX1_cost_17 (by decide) (fun c_17 => ?_) (fun c_17 => ?_)
      · have c_17 : (alk k g) = false := u_zb.mp c_17
        refine lv_iconst (v := nI 2) hx hb dX1_cost_24 (by decide) ?_
        exact hret _ _ _ (by rw [cst, if_neg c_2, if_neg (fun q => q.elim c_9 (fun q => by rw [nI_clamp (by omega)] at q; simp_all))]) dX1_cost_25
      · have c_17 : ¬ ((alk k g) = false) := fun q9 => c_17 (u_zb.mpr q9)
        refine lv_iconst (v := nI 1) hx hb dX1_cost_20 (by decide) ?_
        refine lv_goto (tgt := 25) hx hb dX1_cost_21 (by decide) ?_
        exact hret _ _ _ (by rw [cst, if_neg c_2, if_pos (Or.inr (by rw [nI_clamp (by omega)]; simpa using c_17))]) dX1_cost_25
  · refine lv_iconst (v := nI 0) hx hb dX1_cost_5 (by decide) ?_
    exact hret _ _ _ (by rw [cst, if_pos c_2]) dX1_cost_6

set_option maxHeartbeats 4000000 in
theorem c_X7_unread (l : Launch) (dC : Nat → ClassId) (dI : Nat → Nat → Nat) (dA : Nat → ClassId) (b : Nat → Nat) (mc : Nat → Int32) (S : Nat → Int32) (Hd : Nat → Int32) (o : Nat) (hlt : o < ln S) (hS1 : SWf S) : Met l yX7_unread (ws_ yX7_unread cX7_unread 3 (some (.int))) (rmD 1 0 0) (uPx [.ref (b (22 + o))] (fun U H => famP dC dI b (offE b dA mc S Hd) H ∧ CE U) dC dI dA) (uQi (nI (unr S o))) 0 0 noF := by
  refine x_meti (own := RX7) (by decide) rfl (Nat.le_of_ble_eq_true rfl) fun p e R s m args below meth c Q SF rk hX hK hret ls hl => ?_
  have hx := SF.1
  have hb := SF.2.1
  have hml := SF.2.2.1
  have hown := SF.2.2.2.1
  have hts := SF.2.2.2.2
  have hO := hX.1
  have hCE := hX.2
  have hl : lv_has ls 3 [(0, .ref (b (22 + o)))] := hl
  have hL := hS1.2.1
  refine lv_iconst (v := nI 0) hx hb dX7_unread_0 (by decide) ?_
  refine lv_istore_n (lv' := [(1, .int (nI 0)), (0, .ref (b (22 + o)))]) hx hb dX7_unread_1 rfl hl (by decide) rfl (fun ls hl => ?_)
  refine lv_iconst (v := nI 0) hx hb dX7_unread_2 (by decide) ?_
  refine lv_istore_n (lv' := [(2, .int (nI 0)), (1, .int (nI 0)), (0, .ref (b (22 + o)))]) hx hb dX7_unread_3 rfl hl (by decide) rfl (fun ls hl => ?_)
  have lp4 : ∀ (k0 : Nat) (k : Nat), k ≤ 5 → 5 < k + k0 → ∀ ls : Array Slot, lv_has ls 3 [(2, .int (nI k)), (1, .int (nI (cntN (fun p => decide (lr S o p = -1)) k))), (0, .ref (b (22 + o)))] → W p l e R s m args below meth c s.heap [] 0 0 Q (F0 m 4 ls []) := by
    intro k0
    induction k0 with
    | zero =>
      intro k hk1 hk2; omega
    | succ k0 ih =>
      intro k hk1 hk2 ls hl
      have ih4 := ih
      refine lv_iload_n hx hb dX7_unread_4 rfl (lv_at hl 0 rfl) ?_
      refine lv_iconst (v := nI 5) hx hb dX7_unread_5 (by decide) ?_
      refine lv_icmp_ge (tgt := 36) hx hb dX7_unread_6 (by decide) (fun c_6 => ?_) (fun c_6 => ?_)
      · have c_6 : 5 ≤ k := (nI_leI (a := 5) (b := k) (by omega) (by omega)).mp c_6
        refine lv_iload_n hx hb dX7_unread_36 rfl (lv_at hl 1 rfl) ?_
        exact hret _ _ _ (by rw [show k = 5 by omega]; rfl) dX7_unread_37
      · have c_6 : ¬ (5 ≤ k) := fun q9 => c_6 ((nI_leI (a := 5) (b := k) (by omega) (by omega)).mpr q9)
        refine lv_iload_n hx hb dX7_unread_9 rfl (lv_at hl 1 rfl) ?_
        refine lv_aload_n hx hb dX7_unread_10 rfl (lv_at hl 2 rfl) ?_
        refine va_get (D := (dC, dI)) (ci := 3) (v := .ref (b (46 + o))) (C := RX7) (T := TX7) (N := 6) hx hb hts in_X7 hown hK (hO _ _ (offE_lt (show o < ln S from (by omega)) hS1.2.1)) 0 rfl rfl 0 (by decide) (hts _ q1069) (fun _ h9 => h9) rfl dX7_unread_11 ?_
        refine lv_iload_n hx hb dX7_unread_14 rfl (lv_at hl 0 rfl) ?_
        refine u_iald hx hb hK (hO _ _ (offE_rd (show o < ln S from (by omega)) hS1.2.1)) 0 0 rfl rfl (i := k) (by omega) (by decide) dX7_unread_15 ?_
        refine u_top (y := lr S o k) (by first | exact clip_at (by omega) | rfl) ?_
        refine lv_iconst (v := (-1)) hx hb dX7_unread_16 (by decide) ?_
        have jn25 : ∀ v9 : Int32, v9 = nI ((decide (lr S o k = (-1))).toNat) → ∀ ls : Array Slot, lv_has ls 3 [(2, .int (nI k)), (1, .int (nI (cntN (fun p => decide (lr S o p = -1)) k))), (0, .ref (b (22 + o)))] → W p l e R s m args below meth c s.heap [] 0 0 Q (F0 m 25 ls [.int v9, .int (nI (cntN (fun p => decide (lr S o p = -1)) k))]) := by
          intro v9 hv9 ls hl
          subst hv9
          refine u_run (x_rSN (As := [.int (nI ((decide (lr S o k = (-1))).toNat))]) (X := fun _ _ => True) SF hK (d := 0) (rk.le (Nat.le_of_ble_eq_true rfl)) (c_X1_one l dC dI dA (decide (lr S o k = (-1))) ) (hCE.2.1 7 (by decide)) q1147 q112 q1148 (n := 1) (by decide +kernel) rfl (by decide) (XOK.hp) (trivial) hl.1 (Nat.le_of_ble_eq_true rfl) ⟨Nat.zero_le _, Nat.zero_le _⟩ rfl dX7_unread_25) ?_
          refine u_top (y := nI ((decide (lr S o k = (-1))).toNat)) rfl ?_
          refine lv_iadd hx hb dX7_unread_28 ?_
          refine u_top (nI_add _ _) ?_
          refine lv_istore_n (lv' := [(1, .int (nI (cntN (fun p => decide (lr S o p = -1)) k + ((decide (lr S o k = (-1))).toNat)))), (2, .int (nI k)), (0, .ref (b (22 + o)))]) hx hb dX7_unread_29 rfl hl (by decide) rfl (fun ls hl => ?_)
          refine lv_iinc (v := nI (k + 1)) (lv' := [(2, .int (nI (k + 1))), (1, .int (nI (cntN (fun p => decide (lr S o p = -1)) k + ((decide (lr S o k = (-1))).toNat)))), (0, .ref (b (22 + o)))]) hx hb dX7_unread_30 hl (k := 1) rfl (nI_add _ 1) (by decide) rfl (fun ls hl => ?_)
          refine lv_goto (tgt := 4) hx hb dX7_unread_33 (by decide) ?_
          exact ih4 (k + 1) (by omega) (by omega) ls (lv_sub hl [0, 1, 2] rfl)
        refine lv_icmp_ne (tgt := 24) hx hb dX7_unread_17 (by decide) (fun c_17 => ?_) (fun c_17 => ?_)
        · refine lv_iconst (v := nI 0) hx hb dX7_unread_24 (by decide) ?_
          exact jn25 _ (u_d0 c_17) ls (lv_sub hl [0, 1, 2] rfl)
        · refine lv_iconst (v := nI 1) hx hb dX7_unread_20 (by decide) ?_
          refine lv_goto (tgt := 25) hx hb dX7_unread_21 (by decide) ?_
          exact jn25 _ (u_d1 c_17) ls (lv_sub hl [0, 1, 2] rfl)
  exact lp4 (5 + 1) 0 (by omega) (by omega) ls (lv_sub hl [0, 1, 2] rfl)

set_option maxHeartbeats 4000000 in
theorem c_X7_distance (l : Launch) (dC : Nat → ClassId) (dI : Nat → Nat → Nat) (dA : Nat → ClassId) (b : Nat → Nat) (mc : Nat → Int32) (S : Nat → Int32) (Hd : Nat → Int32) (o : Nat) (t : Nat) (hlt : o < ln S) (ht : t < tn Hd) (hS1 : SWf S) (hT : TWf Hd) : Met l yX7_distance (ws_ yX7_distance cX7_distance 4 (some (.int))) (rmD 3 0 0) (uPx [.ref (b (22 + o)), .ref (b (10 + t))] (fun U H => famP dC dI b (offE b dA mc S Hd) H ∧ CE U) dC dI dA) (uQi (nI (farT S Hd o t))) 0 0 noF := by
  refine x_meti (own := RX7) (by decide) rfl (Nat.le_of_ble_eq_true rfl) fun p e R s m args below meth c Q SF rk hX hK hret ls hl => ?_
  have hx := SF.1
  have hb := SF.2.1
  have hml := SF.2.2.1
  have hown := SF.2.2.2.1
  have hts := SF.2.2.2.2
  have hO := hX.1
  have hCE := hX.2
  have hl : lv_has ls 4 [(0, .ref (b (22 + o))), (1, .ref (b (10 + t)))] := hl
  have hL := hS1.2.1
  have hn9 := hT.2.1
  have hrd := (hS1.2.2.2.2 o hlt).1
  have hdl := dg_lt (cd (num Hd t))
  refine lv_iconst (v := nI 0) hx hb dX7_distance_0 (by decide) ?_
  refine lv_istore_n (lv' := [(2, .int (nI 0)), (0, .ref (b (22 + o))), (1, .ref (b (10 + t)))]) hx hb dX7_distance_1 rfl hl (by decide) rfl (fun ls hl => ?_)
  refine lv_iconst (v := nI 0) hx hb dX7_distance_2 (by decide) ?_
  refine lv_istore_n (lv' := [(3, .int (nI 0)), (2, .int (nI 0)), (0, .ref (b (22 + o))), (1, .ref (b (10 + t)))]) hx hb dX7_distance_3 rfl hl (by decide) rfl (fun ls hl => ?_)
  have lp4 : ∀ (k0 : Nat) (k : Nat), k ≤ 5 → 5 < k + k0 → ∀ ls : Array Slot, lv_has ls 4 [(3, .int (nI k)), (2, .int (nI (sumN (fun p => cst (lr S o p) (dg (cd (num Hd t)) p)) k))), (0, .ref (b (22 + o))), (1, .ref (b (10 + t)))] → W p l e R s m args below meth c s.heap [] 0 0 Q (F0 m 4 ls []) := by
    intro k0
    induction k0 with
    | zero =>
      intro k hk1 hk2; omega
    | succ k0 ih =>
      intro k hk1 hk2 ls hl
      have ih4 := ih
      refine lv_iload_n hx hb dX7_distance_4 rfl (lv_at hl 0 rfl) ?_
      refine lv_iconst (v := nI 5) hx hb dX7_distance_5 (by decide) ?_
      refine lv_icmp_ge (tgt := 32) hx hb dX7_distance_6 (by decide) (fun c_6 => ?_) (fun c_6 => ?_)
      · have c_6 : 5 ≤ k := (nI_leI (a := 5) (b := k) (by omega) (by omega)).mp c_6
        refine lv_iload_n hx hb dX7_distance_32 rfl (lv_at hl 1 rfl) ?_
        exact hret _ _ _ (by rw [show k = 5 by omega]; rfl) dX7_distance_33
      · have c_6 : ¬ (5 ≤ k) := fun q9 => c_6 ((nI_leI (a := 5) (b := k) (by omega) (by omega)).mpr q9)
        refine lv_iload_n hx hb dX7_distance_9 rfl (lv_at hl 1 rfl) ?_
        refine lv_aload_n hx hb dX7_distance_10 rfl (lv_at hl 2 rfl) ?_
        refine va_get (D := (dC, dI)) (ci := 3) (v := .ref (b (46 + o))) (C := RX7) (T := TX7) (N := 6) hx hb hts in_X7 hown hK (hO _ _ (offE_lt (show o < ln S from (by omega)) hS1.2.1)) 0 rfl rfl 0 (by decide) (hts _ q1069) (fun _ h9 => h9) rfl dX7_distance_11 ?_
        refine lv_iload_n hx hb dX7_distance_14 rfl (lv_at hl 0 rfl) ?_
        refine u_iald hx hb hK (hO _ _ (offE_rd (show o < ln S from (by omega)) hS1.2.1)) 0 0 rfl rfl (i := k) (by omega) (by decide) dX7_distance_15 ?_
        refine u_top (y := lr S o k) (by first | exact clip_at (by omega) | rfl) ?_
        refine lv_aload_n hx hb dX7_distance_16 rfl (lv_at hl 3 rfl) ?_
        refine lv_iload_n hx hb dX7_distance_17 rfl (lv_at hl 0 rfl) ?_
        refine u_run (x_rV (C := RX6) (As := [.int (nI k)]) SF hK (d := 1) (rk.le (Nat.le_of_ble_eq_true rfl)) (c_X6_digit l dC dI dA b mc S Hd t k (show k < 5 by omega) (show t < tn Hd by omega) hT) (lw_V q1165 q1166 q1167 q143 q1168) (n := 1) (by decide +kernel) rfl (by decide) (g_recv hK (hO _ _ (offE_tw (show t < tn Hd from (by omega)) hT.2.1)) (ci := 4) rfl) (XOK.hp.and CE.ok) (⟨hO, hCE⟩) hl.1 (Nat.le_of_ble_eq_true rfl) ⟨Nat.zero_le _, Nat.zero_le _⟩ rfl dX7_distance_18) ?_
        refine u_top (y := nI (dg (cd (num Hd t)) k)) rfl ?_
        refine u_run (x_rSN (As := [.int (lr S o k), .int (nI (dg (cd (num Hd t)) k))]) SF hK (d := 2) (rk.le (Nat.le_of_ble_eq_true rfl)) (c_X1_cost l dC dI dA (lr S o k) (dg (cd (num Hd t)) k) (hrd k (by omega)) (hdl k)) (hCE.2.1 8 (by decide)) q1171 q112 q1172 (n := 2) (by decide +kernel) rfl (by decide) (XOK.hp) (trivial) hl.1 (Nat.le_of_ble_eq_true rfl) ⟨Nat.zero_le _, Nat.zero_le _⟩ rfl dX7_distance_21) ?_
        refine u_top (y := nI (cst (lr S o k) (dg (cd (num Hd t)) k))) rfl ?_
        refine lv_iadd hx hb dX7_distance_24 ?_
        refine u_top (nI_add _ _) ?_
        refine lv_istore_n (lv' := [(2, .int (nI (sumN (fun p => cst (lr S o p) (dg (cd (num Hd t)) p)) k + (cst (lr S o k) (dg (cd (num Hd t)) k))))), (3, .int (nI k)), (0, .ref (b (22 + o))), (1, .ref (b (10 + t)))]) hx hb dX7_distance_25 rfl hl (by decide) rfl (fun ls hl => ?_)
        refine lv_iinc (v := nI (k + 1)) (lv' := [(3, .int (nI (k + 1))), (2, .int (nI (sumN (fun p => cst (lr S o p) (dg (cd (num Hd t)) p)) k + (cst (lr S o k) (dg (cd (num Hd t)) k))))), (0, .ref (b (22 + o))), (1, .ref (b (10 + t)))]) hx hb dX7_distance_26 hl (k := 1) rfl (nI_add _ 1) (by decide) rfl (fun ls hl => ?_)
        refine lv_goto (tgt := 4) hx hb dX7_distance_29 (by decide) ?_
        exact ih4 (k + 1) (by omega) (by omega) ls (lv_sub hl [0, 1, 2, 3] rfl)
  exact lp4 (5 + 1) 0 (by omega) (by omega) ls (lv_sub hl [0, 1, 2, 3] rfl)
end OL1
