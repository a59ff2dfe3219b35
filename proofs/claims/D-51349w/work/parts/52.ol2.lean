set_option maxRecDepth 100000
section OL2
variable {p : Program} {l : Launch} {e : Env} {R : Room} {s : State} {m : MethodId} {args : Array Value} {below : List Frame} {meth : Method} {c : Code} {H : Heap} {locs : List Loc} {Q : State → Prop}
variable {cc : ByteArray} {pc nL : Nat} {ls : Array Slot} {rest : List Value} {dC : Nat → ClassId} {dI : Nat → Nat → Nat} {dA : Nat → ClassId} {a : Nat → Nat} {M : Nat → Nat → Int32} {H0 : Heap}

/-- the class's least distance starts one higher -/
def lsc (S Hd : Nat → Int32) (o : Nat) : Nat := minN (farT S Hd o) 11 (tn Hd)
theorem minN_11 {f : Nat → Nat} (h : ∀ i, f i ≤ 10) : ∀ n, minN f 11 (n + 1) = minN f 10 (n + 1)
  | 0 => by have := h 0; simp only [minN]; omega
  | n + 1 => by rw [minN, minN_11 h n]; rfl
theorem lsc_eq {S Hd : Nat → Int32} {o : Nat} (h : 0 < tn Hd) : lsc S Hd o = lst S Hd o := by
  unfold lsc lst
  obtain ⟨n, hn⟩ : ∃ n, tn Hd = n + 1 := ⟨tn Hd - 1, by omega⟩
  rw [hn]
  exact minN_11 (fun i => farT_le S Hd o i) n
theorem lst_lim {S Hd : Nat → Int32} {o : Nat} (h : 0 < bst S Hd o) : lst S Hd o ≤ lim S := by
  rcases Nat.lt_or_ge (lim S) (lst S Hd o) with q | q
  · exfalso
    have : bst S Hd o = 0 := cntN_0.mpr (fun j _ => by
      cases hj : isB S Hd o j with
      | false => rfl
      | true => rw [isB_iff] at hj; omega)
    omega
  · exact q
theorem bst_tn {S Hd : Nat → Int32} {o : Nat} (h : 0 < bst S Hd o) : 0 < tn Hd := by
  have : bst S Hd o ≤ tn Hd := cntN_le _ _
  omega
theorem isB_f {S Hd : Nat → Int32} {o t : Nat} (h : ¬ farT S Hd o t = lst S Hd o) : isB S Hd o t = false := by
  cases hj : isB S Hd o t with
  | false => rfl
  | true => rw [isB_iff] at hj; exact absurd hj.2 h
theorem isB_t {S Hd : Nat → Int32} {o t : Nat} (hb : 0 < bst S Hd o) (h : farT S Hd o t = lst S Hd o) : isB S Hd o t = true := by
  rw [isB_iff]
  have := lst_lim hb
  omega
theorem oth_le {S Hd : Nat → Int32} {lt : Nat} : ∀ {o x : Nat}, oth S Hd lt o = some x → x ≤ 45 * o
  | 0, x, h => by cases h; omega
  | o + 1, x, h => by
    rw [oth] at h
    cases hE : oth S Hd lt o with
    | none => rw [hE] at h; cases h
    | some y =>
      have h1 := oth_le hE
      rw [hE] at h
      dsimp only at h
      split at h
      · cases h; omega
      · cases hB : byS S Hd o with
        | none => rw [hB] at h; cases h
        | some t =>
          rw [hB] at h
          cases h
          have := dsm_le (cd (num Hd t))
          omega
set_option maxHeartbeats 4000000 in
theorem c_X5_letter (l : Launch) (dC : Nat → ClassId) (dI : Nat → Nat → Nat) (dA : Nat → ClassId) (b : Nat → Nat) (mc : Nat → Int32) (S : Nat → Int32) (Hd : Nat → Int32) (o : Nat) (hlt : o < ln S) (hS1 : SWf S) : Met l yX5_letter (ws_ yX5_letter cX5_letter 2 (some (.object "BadCodes$Letter"))) (rmD 3 0 0) (uPx [.ref (b 0), .int (nI o)] (fun U H => famP dC dI b (offE b dA mc S Hd) H ∧ CE U) dC dI dA) (uQa (.ref (b (22 + o)))) 0 0 noF := by
  refine x_meta (own := RX5) (by decide) rfl (Nat.le_of_ble_eq_true rfl) (Or.inl ⟨_, rfl⟩) (Or.inr ⟨_, rfl⟩) fun p e R s m args below meth c Q SF rk hX hK hret ls hl => ?_
  have hx := SF.1
  have hb := SF.2.1
  have hml := SF.2.2.1
  have hown := SF.2.2.2.1
  have hts := SF.2.2.2.2
  have hO := hX.1
  have hCE := hX.2
  have hl : lv_has ls 2 [(0, .ref (b 0)), (1, .int (nI o))] := hl
  have hL := hS1.2.1
  refine lv_aload_n hx hb dX5_letter_0 rfl (lv_at hl 0 rfl) ?_
  refine va_get (D := (dC, dI)) (ci := 1) (v := .ref (b 3)) (C := RX5) (T := TX5) (N := 10) hx hb hts in_X5 hown hK (hO 0 _ rfl) 0 rfl rfl 1 (by decide) (hts _ q833) (fun _ h9 => h9) rfl dX5_letter_1 ?_
  refine lv_iload_n hx hb dX5_letter_4 rfl (lv_at hl 1 rfl) ?_
  refine x_run5a (x_rF (C := RJ20) (As := [.int (nI o)]) (hK.1 6 _ rfl).2 SF hK (d := 2) (rk.le (Nat.le_of_ble_eq_true rfl)) (c_J20_get l dC dI dA (b 3) (b 4) (ln S) (mc 1) 24 (fun o => if o < ln S then some (b (22 + o)) else none) (b (22 + o)) o (show o < (ln S) by omega) (show (ln S) ≤ 24 by omega) (show 24 < 2 ^ 31 by omega) (if_pos (by omega))) (lw_F q192 q196 q198 q141 q200) (hCE.2.2 6 (by decide)) (n := 1) (by decide +kernel) rfl (by decide) (g_recv hK (hO 3 _ rfl) (ci := 6) rfl) (XOK.hp) (⟨hO 3 _ rfl, hO 4 _ rfl⟩) hl.1 (Nat.le_of_ble_eq_true rfl) ⟨Nat.zero_le _, Nat.zero_le _⟩ rfl dX5_letter_5) ?_
  refine g_top (y := .ref (b (22 + o))) rfl ?_
  refine g_cast hx hb hown hK (hO _ _ (offE_lt (show o < ln S from (by omega)) hS1.2.1)) (ci := 3) rfl (hts _ q211) dX5_letter_10 ?_
  exact hret _ _ _ rfl dX5_letter_13

set_option maxHeartbeats 4000000 in
theorem c_X5_town (l : Launch) (dC : Nat → ClassId) (dI : Nat → Nat → Nat) (dA : Nat → ClassId) (b : Nat → Nat) (mc : Nat → Int32) (S : Nat → Int32) (Hd : Nat → Int32) (t : Nat) (ht : t < tn Hd) (hT : TWf Hd) : Met l yX5_town (ws_ yX5_town cX5_town 2 (some (.object "BadCodes$Town"))) (rmD 3 0 0) (uPx [.ref (b 0), .int (nI t)] (fun U H => famP dC dI b (offE b dA mc S Hd) H ∧ CE U) dC dI dA) (uQa (.ref (b (10 + t)))) 0 0 noF := by
  refine x_meta (own := RX5) (by decide) rfl (Nat.le_of_ble_eq_true rfl) (Or.inl ⟨_, rfl⟩) (Or.inr ⟨_, rfl⟩) fun p e R s m args below meth c Q SF rk hX hK hret ls hl => ?_
  have hx := SF.1
  have hb := SF.2.1
  have hml := SF.2.2.1
  have hown := SF.2.2.2.1
  have hts := SF.2.2.2.2
  have hO := hX.1
  have hCE := hX.2
  have hl : lv_has ls 2 [(0, .ref (b 0)), (1, .int (nI t))] := hl
  have hn9 := hT.2.1
  refine lv_aload_n hx hb dX5_town_0 rfl (lv_at hl 0 rfl) ?_
  refine va_get (D := (dC, dI)) (ci := 1) (v := .ref (b 1)) (C := RX5) (T := TX5) (N := 10) hx hb hts in_X5 hown hK (hO 0 _ rfl) 0 rfl rfl 0 (by decide) (hts _ q830) (fun _ h9 => h9) rfl dX5_town_1 ?_
  refine lv_iload_n hx hb dX5_town_4 rfl (lv_at hl 1 rfl) ?_
  refine x_run5a (x_rF (C := RJ20) (As := [.int (nI t)]) (hK.1 6 _ rfl).2 SF hK (d := 2) (rk.le (Nat.le_of_ble_eq_true rfl)) (c_J20_get l dC dI dA (b 1) (b 2) (tn Hd) (mc 0) 12 (fun t => if t < tn Hd then some (b (10 + t)) else none) (b (10 + t)) t (show t < (tn Hd) by omega) (show (tn Hd) ≤ 12 by omega) (show 12 < 2 ^ 31 by omega) (if_pos (by omega))) (lw_F q192 q196 q198 q141 q200) (hCE.2.2 6 (by decide)) (n := 1) (by decide +kernel) rfl (by decide) (g_recv hK (hO 1 _ rfl) (ci := 6) rfl) (XOK.hp) (⟨hO 1 _ rfl, hO 2 _ rfl⟩) hl.1 (Nat.le_of_ble_eq_true rfl) ⟨Nat.zero_le _, Nat.zero_le _⟩ rfl dX5_town_5) ?_
  refine g_top (y := .ref (b (10 + t))) rfl ?_
  refine g_cast hx hb hown hK (hO _ _ (offE_tw (show t < tn Hd from (by omega)) hT.2.1)) (ci := 4) rfl (hts _ q969) dX5_town_10 ?_
  exact hret _ _ _ rfl dX5_town_13

set_option maxHeartbeats 4000000 in
theorem c_X5_distance (l : Launch) (dC : Nat → ClassId) (dI : Nat → Nat → Nat) (dA : Nat → ClassId) (b : Nat → Nat) (mc : Nat → Int32) (S : Nat → Int32) (Hd : Nat → Int32) (o : Nat) (t : Nat) (hlt : o < ln S) (ht : t < tn Hd) (hS1 : SWf S) (hT : TWf Hd) : Met l yX5_distance (ws_ yX5_distance cX5_distance 3 (some (.int))) (rmD 4 0 0) (uPx [.ref (b 0), .int (nI o), .int (nI t)] (fun U H => famP dC dI b (offE b dA mc S Hd) H ∧ CE U) dC dI dA) (uQi (nI (farT S Hd o t))) 0 0 noF := by
  refine x_meti (own := RX5) (by decide) rfl (Nat.le_of_ble_eq_true rfl) fun p e R s m args below meth c Q SF rk hX hK hret ls hl => ?_
  have hx := SF.1
  have hb := SF.2.1
  have hml := SF.2.2.1
  have hown := SF.2.2.2.1
  have hts := SF.2.2.2.2
  have hO := hX.1
  have hCE := hX.2
  have hl : lv_has ls 3 [(0, .ref (b 0)), (1, .int (nI o)), (2, .int (nI t))] := hl
  have hL := hS1.2.1
  have hn9 := hT.2.1
  refine lv_aload_n hx hb dX5_distance_0 rfl (lv_at hl 0 rfl) ?_
  refine lv_iload_n hx hb dX5_distance_1 rfl (lv_at hl 1 rfl) ?_
  refine x_runa (x_rV (C := RX5) (As := [.int (nI o)]) SF hK (d := 3) (rk.le (Nat.le_of_ble_eq_true rfl)) (c_X5_letter l dC dI dA b mc S Hd o (show o < ln S by omega) hS1) (lw_V q1118 q188 q189 q139 q190) (n := 1) (by decide +kernel) rfl (by decide) (g_recv hK (hO 0 _ rfl) (ci := 1) rfl) (XOK.hp.and CE.ok) (⟨hO, hCE⟩) hl.1 (Nat.le_of_ble_eq_true rfl) ⟨Nat.zero_le _, Nat.zero_le _⟩ rfl dX5_distance_2) ?_
  refine g_top (y := .ref (b (22 + o))) rfl ?_
  refine lv_aload_n hx hb dX5_distance_5 rfl (lv_at hl 0 rfl) ?_
  refine lv_iload_n hx hb dX5_distance_6 rfl (lv_at hl 2 rfl) ?_
  refine x_runa (x_rV (C := RX5) (As := [.int (nI t)]) SF hK (d := 3) (rk.le (Nat.le_of_ble_eq_true rfl)) (c_X5_town l dC dI dA b mc S Hd t (show t < tn Hd by omega) hT) (lw_V q965 q966 q967 q139 q968) (n := 1) (by decide +kernel) rfl (by decide) (g_recv hK (hO 0 _ rfl) (ci := 1) rfl) (XOK.hp.and CE.ok) (⟨hO, hCE⟩) hl.1 (Nat.le_of_ble_eq_true rfl) ⟨Nat.zero_le _, Nat.zero_le _⟩ rfl dX5_distance_7) ?_
  refine g_top (y := .ref (b (10 + t))) rfl ?_
  refine u_run (x_rV (C := RX7) (As := [.ref (b (10 + t))]) SF hK (d := 3) (rk.le (Nat.le_of_ble_eq_true rfl)) (c_X7_distance l dC dI dA b mc S Hd o t (show o < ln S by omega) (show t < tn Hd by omega) hS1 hT) (lw_V q1161 q1162 q1163 q144 q1164) (n := 1) (by decide +kernel) rfl (by decide) (g_recv hK (hO _ _ (offE_lt (show o < ln S from (by omega)) hS1.2.1)) (ci := 3) rfl) (XOK.hp.and CE.ok) (⟨hO, hCE⟩) hl.1 (Nat.le_of_ble_eq_true rfl) ⟨Nat.zero_le _, Nat.zero_le _⟩ rfl dX5_distance_10) ?_
  refine u_top (y := nI (farT S Hd o t)) rfl ?_
  exact hret _ _ _ rfl dX5_distance_13

set_option maxHeartbeats 4000000 in
theorem c_X5_least (l : Launch) (dC : Nat → ClassId) (dI : Nat → Nat → Nat) (dA : Nat → ClassId) (b : Nat → Nat) (mc : Nat → Int32) (S : Nat → Int32) (Hd : Nat → Int32) (o : Nat) (hlt : o < ln S) (hS1 : SWf S) (hT : TWf Hd) : Met l yX5_least (ws_ yX5_least cX5_least 4 (some (.int))) (rmD 5 0 0) (uPx [.ref (b 0), .int (nI o)] (fun U H => famP dC dI b (offE b dA mc S Hd) H ∧ CE U) dC dI dA) (uQi (nI (lsc S Hd o))) 0 0 noF := by
  refine x_meti (own := RX5) (by decide) rfl (Nat.le_of_ble_eq_true rfl) fun p e R s m args below meth c Q SF rk hX hK hret ls hl => ?_
  have hx := SF.1
  have hb := SF.2.1
  have hml := SF.2.2.1
  have hown := SF.2.2.2.1
  have hts := SF.2.2.2.2
  have hO := hX.1
  have hCE := hX.2
  have hl : lv_has ls 4 [(0, .ref (b 0)), (1, .int (nI o))] := hl
  have hL := hS1.2.1
  have hn9 := hT.2.1
  refine lv_bipush (v := nI 11) hx hb dX5_least_0 (by decide) ?_
  refine lv_istore_n (lv' := [(2, .int (nI 11)), (0, .ref (b 0)), (1, .int (nI o))]) hx hb dX5_least_2 rfl hl (by decide) rfl (fun ls hl => ?_)
  refine lv_iconst (v := nI 0) hx hb dX5_least_3 (by decide) ?_
  refine lv_istore_n (lv' := [(3, .int (nI 0)), (2, .int (nI 11)), (0, .ref (b 0)), (1, .int (nI o))]) hx hb dX5_least_4 rfl hl (by decide) rfl (fun ls hl => ?_)
  have lp5 : ∀ (k0 : Nat) (t : Nat), t ≤ tn Hd → tn Hd < t + k0 → ∀ ls : Array Slot, lv_has ls 4 [(3, .int (nI t)), (2, .int (nI (minN (farT S Hd o) 11 t))), (0, .ref (b 0)), (1, .int (nI o))] → W p l e R s m args below meth c s.heap [] 0 0 Q (F0 m 5 ls []) := by
    intro k0
    induction k0 with
    | zero =>
      intro t ht1 ht2; omega
    | succ k0 ih =>
      intro t ht1 ht2 ls hl
      have ih5 := ih
      have hm9 := minN_le (farT S Hd o) 11 t
      have hf9 := farT_le S Hd o t
      refine lv_iload_n hx hb dX5_least_5 rfl (lv_at hl 0 rfl) ?_
      refine lv_aload_n hx hb dX5_least_6 rfl (lv_at hl 2 rfl) ?_
      refine va_get (D := (dC, dI)) (ci := 1) (v := .ref (b 1)) (C := RX5) (T := TX5) (N := 10) hx hb hts in_X5 hown hK (hO 0 _ rfl) 0 rfl rfl 0 (by decide) (hts _ q830) (fun _ h9 => h9) rfl dX5_least_7 ?_
      refine x_run5 (x_rF (C := RJ20) (As := []) (hK.1 6 _ rfl).2 SF hK (d := 0) (rk.le (Nat.le_of_ble_eq_true rfl)) (c_J20_size l dC dI dA (b 1) (b 2) (tn Hd) (mc 0) 12 (fun t => if t < tn Hd then some (b (10 + t)) else none) ) (lw_F q964 q954 q956 q141 q958) (hCE.2.2 7 (by decide)) (n := 0) (by decide +kernel) rfl (by decide) (g_recv hK (hO 1 _ rfl) (ci := 6) rfl) (XOK.hp) (⟨hO 1 _ rfl, hO 2 _ rfl⟩) hl.1 (Nat.le_of_ble_eq_true rfl) ⟨Nat.zero_le _, Nat.zero_le _⟩ rfl dX5_least_10) ?_
      refine u_top (y := nI (tn Hd)) rfl ?_
      refine lv_icmp_ge (tgt := 35) hx hb dX5_least_15 (by decide) (fun c_15 => ?_) (fun c_15 => ?_)
      · have c_15 : (tn Hd) ≤ t := (nI_leI (a := (tn Hd)) (b := t) (by omega) (by omega)).mp c_15
        refine lv_iload_n hx hb dX5_least_35 rfl (lv_at hl 1 rfl) ?_
        exact hret _ _ _ (by rw [lsc, show tn Hd = t by omega]) dX5_least_36
      · have c_15 : ¬ ((tn Hd) ≤ t) := fun q9 => c_15 ((nI_leI (a := (tn Hd)) (b := t) (by omega) (by omega)).mpr q9)
        refine lv_iload_n hx hb dX5_least_18 rfl (lv_at hl 1 rfl) ?_
        refine lv_aload_n hx hb dX5_least_19 rfl (lv_at hl 2 rfl) ?_
        refine lv_iload_n hx hb dX5_least_20 rfl (lv_at hl 3 rfl) ?_
        refine lv_iload_n hx hb dX5_least_21 rfl (lv_at hl 0 rfl) ?_
        refine u_run (x_rV (C := RX5) (As := [.int (nI o), .int (nI t)]) SF hK (d := 4) (rk.le (Nat.le_of_ble_eq_true rfl)) (c_X5_distance l dC dI dA b mc S Hd o t (show o < ln S by omega) (show t < tn Hd by omega) hS1 hT) (lw_V q1157 q1158 q1159 q139 q1160) (n := 2) (by decide +kernel) rfl (by decide) (g_recv hK (hO 0 _ rfl) (ci := 1) rfl) (XOK.hp.and CE.ok) (⟨hO, hCE⟩) hl.1 (Nat.le_of_ble_eq_true rfl) ⟨Nat.zero_le _, Nat.zero_le _⟩ rfl dX5_least_22) ?_
        refine u_top (y := nI (farT S Hd o t)) rfl ?_
        refine va_mmin hx hb (hml.trans hl.1.symm) hown (hts _ q1178) (hts _ q522) (hts _ q131) (hts _ q523) (Nat.le_trans (Nat.le_of_ble_eq_true rfl) rk.1) (Nat.le_trans (Nat.le_of_ble_eq_true rfl) rk.2) (Nat.zero_le _) (Nat.zero_le _) dX5_least_25 ?_
        refine u_top (nI_min (by omega) (by omega)) ?_
        refine lv_istore_n (lv' := [(2, .int (nI (min (minN (farT S Hd o) 11 t) (farT S Hd o t)))), (3, .int (nI t)), (0, .ref (b 0)), (1, .int (nI o))]) hx hb dX5_least_28 rfl hl (by decide) rfl (fun ls hl => ?_)
        refine lv_iinc (v := nI (t + 1)) (lv' := [(3, .int (nI (t + 1))), (2, .int (nI (min (minN (farT S Hd o) 11 t) (farT S Hd o t)))), (0, .ref (b 0)), (1, .int (nI o))]) hx hb dX5_least_29 hl (k := 1) rfl (nI_add _ 1) (by decide) rfl (fun ls hl => ?_)
        refine lv_goto (tgt := 5) hx hb dX5_least_32 (by decide) ?_
        exact ih5 (t + 1) (by omega) (by omega) ls (lv_sub hl [0, 1, 2, 3] rfl)
  exact lp5 (tn Hd + 1) 0 (by omega) (by omega) ls (lv_sub hl [0, 1, 2, 3] rfl)

set_option maxHeartbeats 4000000 in
theorem c_X5_bestMany (l : Launch) (dC : Nat → ClassId) (dI : Nat → Nat → Nat) (dA : Nat → ClassId) (b : Nat → Nat) (mc : Nat → Int32) (S : Nat → Int32) (Hd : Nat → Int32) (o : Nat) (hlt : o < ln S) (hS1 : SWf S) (hT : TWf Hd) : Met l yX5_bestMany (ws_ yX5_bestMany cX5_bestMany 5 (some (.int))) (rmD 6 0 0) (uPx [.ref (b 0), .int (nI o)] (fun U H => famP dC dI b (offE b dA mc S Hd) H ∧ CE U) dC dI dA) (uQi (nI (bst S Hd o))) 0 0 noF := by
  refine x_meti (own := RX5) (by decide) rfl (Nat.le_of_ble_eq_true rfl) fun p e R s m args below meth c Q SF rk hX hK hret ls hl => ?_
  have hx := SF.1
  have hb := SF.2.1
  have hml := SF.2.2.1
  have hown := SF.2.2.2.1
  have hts := SF.2.2.2.2
  have hO := hX.1
  have hCE := hX.2
  have hl : lv_has ls 5 [(0, .ref (b 0)), (1, .int (nI o))] := hl
  have hL := hS1.2.1
  have hn9 := hT.2.1
  have hlim := hS1.2.2.2.1
  have hm9 : lsc S Hd o ≤ 11 := minN_le _ _ _
  refine lv_aload_n hx hb dX5_bestMany_0 rfl (lv_at hl 0 rfl) ?_
  refine lv_iload_n hx hb dX5_bestMany_1 rfl (lv_at hl 1 rfl) ?_
  refine u_run (x_rV (C := RX5) (As := [.int (nI o)]) SF hK (d := 5) (rk.le (Nat.le_of_ble_eq_true rfl)) (c_X5_least l dC dI dA b mc S Hd o (show o < ln S by omega) hS1 hT) (lw_V q1153 q1154 q1155 q139 q1156) (n := 1) (by decide +kernel) rfl (by decide) (g_recv hK (hO 0 _ rfl) (ci := 1) rfl) (XOK.hp.and CE.ok) (⟨hO, hCE⟩) hl.1 (Nat.le_of_ble_eq_true rfl) ⟨Nat.zero_le _, Nat.zero_le _⟩ rfl dX5_bestMany_2) ?_
  refine u_top (y := nI (lsc S Hd o)) rfl ?_
  refine lv_istore_n (lv' := [(2, .int (nI (lsc S Hd o))), (0, .ref (b 0)), (1, .int (nI o))]) hx hb dX5_bestMany_5 rfl hl (by decide) rfl (fun ls hl => ?_)
  refine lv_iconst (v := nI 0) hx hb dX5_bestMany_6 (by decide) ?_
  refine lv_istore_n (lv' := [(3, .int (nI 0)), (2, .int (nI (lsc S Hd o))), (0, .ref (b 0)), (1, .int (nI o))]) hx hb dX5_bestMany_7 rfl hl (by decide) rfl (fun ls hl => ?_)
  refine lv_iconst (v := nI 0) hx hb dX5_bestMany_8 (by decide) ?_
  refine lv_istore (lv' := [(4, .int (nI 0)), (3, .int (nI 0)), (2, .int (nI (lsc S Hd o))), (0, .ref (b 0)), (1, .int (nI o))]) hx hb dX5_bestMany_9 hl (by decide) rfl (fun ls hl => ?_)
  have lp11 : ∀ (k0 : Nat) (t : Nat), t ≤ tn Hd → tn Hd < t + k0 → ∀ ls : Array Slot, lv_has ls 5 [(4, .int (nI t)), (3, .int (nI (cntN (isB S Hd o) t))), (2, .int (nI (lsc S Hd o))), (0, .ref (b 0)), (1, .int (nI o))] → W p l e R s m args below meth c s.heap [] 0 0 Q (F0 m 11 ls []) := by
    intro k0
    induction k0 with
    | zero =>
      intro t ht1 ht2; omega
    | succ k0 ih =>
      intro t ht1 ht2 ls hl
      have ih11 := ih
      have hf9 := farT_le S Hd o t
      refine lv_iload hx hb dX5_bestMany_11 (lv_at hl 0 rfl) ?_
      refine lv_aload_n hx hb dX5_bestMany_13 rfl (lv_at hl 3 rfl) ?_
      refine va_get (D := (dC, dI)) (ci := 1) (v := .ref (b 1)) (C := RX5) (T := TX5) (N := 10) hx hb hts in_X5 hown hK (hO 0 _ rfl) 0 rfl rfl 0 (by decide) (hts _ q830) (fun _ h9 => h9) rfl dX5_bestMany_14 ?_
      refine x_run5 (x_rF (C := RJ20) (As := []) (hK.1 6 _ rfl).2 SF hK (d := 0) (rk.le (Nat.le_of_ble_eq_true rfl)) (c_J20_size l dC dI dA (b 1) (b 2) (tn Hd) (mc 0) 12 (fun t => if t < tn Hd then some (b (10 + t)) else none) ) (lw_F q964 q954 q956 q141 q958) (hCE.2.2 7 (by decide)) (n := 0) (by decide +kernel) rfl (by decide) (g_recv hK (hO 1 _ rfl) (ci := 6) rfl) (XOK.hp) (⟨hO 1 _ rfl, hO 2 _ rfl⟩) hl.1 (Nat.le_of_ble_eq_true rfl) ⟨Nat.zero_le _, Nat.zero_le _⟩ rfl dX5_bestMany_17) ?_
      refine u_top (y := nI (tn Hd)) rfl ?_
      refine lv_icmp_ge (tgt := 61) hx hb dX5_bestMany_22 (by decide) (fun c_22 => ?_) (fun c_22 => ?_)
      · have c_22 : (tn Hd) ≤ t := (nI_leI (a := (tn Hd)) (b := t) (by omega) (by omega)).mp c_22
        refine lv_iload_n hx hb dX5_bestMany_61 rfl (lv_at hl 1 rfl) ?_
        exact hret _ _ _ (by rw [show t = tn Hd by omega]; rfl) dX5_bestMany_62
      · have c_22 : ¬ ((tn Hd) ≤ t) := fun q9 => c_22 ((nI_leI (a := (tn Hd)) (b := t) (by omega) (by omega)).mpr q9)
        have hls := lsc_eq (S := S) (o := o) (show 0 < tn Hd by omega)
        refine lv_iload_n hx hb dX5_bestMany_25 rfl (lv_at hl 1 rfl) ?_
        refine lv_iload_n hx hb dX5_bestMany_26 rfl (lv_at hl 2 rfl) ?_
        refine lv_aload_n hx hb dX5_bestMany_27 rfl (lv_at hl 3 rfl) ?_
        refine va_get (D := (dC, dI)) (ci := 1) (v := .int (S 0)) (C := RX5) (T := TX5) (N := 10) hx hb hts in_X5 hown hK (hO 0 _ rfl) 0 rfl rfl 7 (by decide) (hts _ q848) (fun _ h9 => h9) rfl dX5_bestMany_28 ?_
        refine u_top (y := nI (lim S)) (hS1.2.2.1) ?_
        have jn50 : ∀ v9 : Int32, v9 = nI ((isB S Hd o t).toNat) → ∀ ls : Array Slot, lv_has ls 5 [(4, .int (nI t)), (3, .int (nI (cntN (isB S Hd o) t))), (2, .int (nI (lsc S Hd o))), (0, .ref (b 0)), (1, .int (nI o))] → W p l e R s m args below meth c s.heap [] 0 0 Q (F0 m 50 ls [.int v9, .int (nI (cntN (isB S Hd o) t))]) := by
          intro v9 hv9 ls hl
          subst hv9
          refine u_run (x_rSN (As := [.int (nI ((isB S Hd o t).toNat))]) (X := fun _ _ => True) SF hK (d := 0) (rk.le (Nat.le_of_ble_eq_true rfl)) (c_X1_one l dC dI dA (isB S Hd o t) ) (hCE.2.1 5 (by decide)) q1147 q112 q1148 (n := 1) (by decide +kernel) rfl (by decide) (XOK.hp) (trivial) hl.1 (Nat.le_of_ble_eq_true rfl) ⟨Nat.zero_le _, Nat.zero_le _⟩ rfl dX5_bestMany_50) ?_
          refine u_top (y := nI ((isB S Hd o t).toNat)) rfl ?_
          refine lv_iadd hx hb dX5_bestMany_53 ?_
          refine u_top (nI_add _ _) ?_
          refine lv_istore_n (lv' := [(3, .int (nI (cntN (isB S Hd o) t + ((isB S Hd o t).toNat)))), (4, .int (nI t)), (2, .int (nI (lsc S Hd o))), (0, .ref (b 0)), (1, .int (nI o))]) hx hb dX5_bestMany_54 rfl hl (by decide) rfl (fun ls hl => ?_)
          refine lv_iinc (v := nI (t + 1)) (lv' := [(4, .int (nI (t + 1))), (3, .int (nI (cntN (isB S Hd o) t + ((isB S Hd o t).toNat)))), (2, .int (nI (lsc S Hd o))), (0, .ref (b 0)), (1, .int (nI o))]) hx hb dX5_bestMany_55 hl (k := 1) rfl (nI_add _ 1) (by decide) rfl (fun ls hl => ?_)
          refine lv_goto (tgt := 11) hx hb dX5_bestMany_58 (by decide) ?_
          exact ih11 (t + 1) (by omega) (by omega) ls (lv_sub hl [0, 1, 2, 3, 4] rfl)
        refine lv_icmp_gt (tgt := 49) hx hb dX5_bestMany_31 (by decide) (fun c_31 => ?_) (fun c_31 => ?_)
        · have c_31 : lim S < lsc S Hd o := (nI_ltI (a := lim S) (b := lsc S Hd o) (by omega) (by omega)).mp c_31
          refine lv_iconst (v := nI 0) hx hb dX5_bestMany_49 (by decide) ?_
          exact jn50 _ (u_ff (by rw [isB_iff]; omega)) ls (lv_sub hl [0, 1, 2, 3, 4] rfl)
        · have c_31 : ¬ (lim S < lsc S Hd o) := fun q9 => c_31 ((nI_ltI (a := lim S) (b := lsc S Hd o) (by omega) (by omega)).mpr q9)
          refine lv_aload_n hx hb dX5_bestMany_34 rfl (lv_at hl 3 rfl) ?_
          refine lv_iload_n hx hb dX5_bestMany_35 rfl (lv_at hl 4 rfl) ?_
          refine lv_iload hx hb dX5_bestMany_36 (lv_at hl 0 rfl) ?_
          refine u_run (x_rV (C := RX5) (As := [.int (nI o), .int (nI t)]) SF hK (d := 4) (rk.le (Nat.le_of_ble_eq_true rfl)) (c_X5_distance l dC dI dA b mc S Hd o t (show o < ln S by omega) (show t < tn Hd by omega) hS1 hT) (lw_V q1157 q1158 q1159 q139 q1160) (n := 2) (by decide +kernel) rfl (by decide) (g_recv hK (hO 0 _ rfl) (ci := 1) rfl) (XOK.hp.and CE.ok) (⟨hO, hCE⟩) hl.1 (Nat.le_of_ble_eq_true rfl) ⟨Nat.zero_le _, Nat.zero_le _⟩ rfl dX5_bestMany_38) ?_
          refine u_top (y := nI (farT S Hd o t)) rfl ?_
          refine lv_iload_n hx hb dX5_bestMany_41 rfl (lv_at hl 2 rfl) ?_
          refine lv_icmp_ne (tgt := 49) hx hb dX5_bestMany_42 (by decide) (fun c_42 => ?_) (fun c_42 => ?_)
          · have c_42 : ¬ (farT S Hd o t = lsc S Hd o) := fun q9 => c_42 ((nI_eq (a := farT S Hd o t) (b := lsc S Hd o) (by omega) (by omega)).mpr q9)
            refine lv_iconst (v := nI 0) hx hb dX5_bestMany_49 (by decide) ?_
            exact jn50 _ (u_ff (by rw [isB_iff]; omega)) ls (lv_sub hl [0, 1, 2, 3, 4] rfl)
          · have c_42 : farT S Hd o t = lsc S Hd o := (nI_eq (a := farT S Hd o t) (b := lsc S Hd o) (by omega) (by omega)).mp c_42
            refine lv_iconst (v := nI 1) hx hb dX5_bestMany_45 (by decide) ?_
            refine lv_goto (tgt := 50) hx hb dX5_bestMany_46 (by decide) ?_
            exact jn50 _ (u_tt (by rw [isB_iff]; omega)) ls (lv_sub hl [0, 1, 2, 3, 4] rfl)
  exact lp11 (tn Hd + 1) 0 (by omega) (by omega) ls (lv_sub hl [0, 1, 2, 3, 4] rfl)

set_option maxHeartbeats 4000000 in
theorem c_X5_isTooBad (l : Launch) (dC : Nat → ClassId) (dI : Nat → Nat → Nat) (dA : Nat → ClassId) (b : Nat → Nat) (mc : Nat → Int32) (S : Nat → Int32) (Hd : Nat → Int32) (o : Nat) (hlt : o < ln S) (hS1 : SWf S) : Met l yX5_isTooBad (ws_ yX5_isTooBad cX5_isTooBad 2 (some (.boolean))) (rmD 4 0 0) (uPx [.ref (b 0), .int (nI o)] (fun U H => famP dC dI b (offE b dA mc S Hd) H ∧ CE U) dC dI dA) (uQi (nI (decide (3 < unr S o)).toNat)) 0 0 noF := by
  refine x_metz (own := RX5) (by decide) rfl (Nat.le_of_ble_eq_true rfl) fun p e R s m args below meth c Q SF rk hX hK hret ls hl => ?_
  have hx := SF.1
  have hb := SF.2.1
  have hml := SF.2.2.1
  have hown := SF.2.2.2.1
  have hts := SF.2.2.2.2
  have hO := hX.1
  have hCE := hX.2
  have hl : lv_has ls 2 [(0, .ref (b 0)), (1, .int (nI o))] := hl
  have hL := hS1.2.1
  have hu9 : unr S o ≤ 5 := cntN_le _ _
  refine lv_aload_n hx hb dX5_isTooBad_0 rfl (lv_at hl 0 rfl) ?_
  refine lv_iload_n hx hb dX5_isTooBad_1 rfl (lv_at hl 1 rfl) ?_
  refine x_runa (x_rV (C := RX5) (As := [.int (nI o)]) SF hK (d := 3) (rk.le (Nat.le_of_ble_eq_true rfl)) (c_X5_letter l dC dI dA b mc S Hd o (show o < ln S by omega) hS1) (lw_V q1118 q188 q189 q139 q190) (n := 1) (by decide +kernel) rfl (by decide) (g_recv hK (hO 0 _ rfl) (ci := 1) rfl) (XOK.hp.and CE.ok) (⟨hO, hCE⟩) hl.1 (Nat.le_of_ble_eq_true rfl) ⟨Nat.zero_le _, Nat.zero_le _⟩ rfl dX5_isTooBad_2) ?_
  refine g_top (y := .ref (b (22 + o))) rfl ?_
  refine u_run (x_rV (C := RX7) (As := []) SF hK (d := 1) (rk.le (Nat.le_of_ble_eq_true rfl)) (c_X7_unread l dC dI dA b mc S Hd o (show o < ln S by omega) hS1) (lw_V q1142 q1143 q1144 q144 q1145) (n := 0) (by decide +kernel) rfl (by decide) (g_recv hK (hO _ _ (offE_lt (show o < ln S from (by omega)) hS1.2.1)) (ci := 3) rfl) (XOK.hp.and CE.ok) (⟨hO, hCE⟩) hl.1 (Nat.le_of_ble_eq_true rfl) ⟨Nat.zero_le _, Nat.zero_le _⟩ rfl dX5_isTooBad_5) ?_
  refine u_top (y := nI (unr S o)) rfl ?_
  refine lv_iconst (v := nI 3) hx hb dX5_isTooBad_8 (by decide) ?_
  have jn17 : ∀ v9 : Int32, v9 = nI ((decide (3 < unr S o)).toNat) → ∀ ls : Array Slot, lv_has ls 2 [(0, .ref (b 0)), (1, .int (nI o))] → W p l e R s m args below meth c s.heap [] 0 0 Q (F0 m 17 ls [.int v9]) := by
    intro v9 hv9 ls hl
    subst hv9
    exact hret _ _ _ rfl dX5_isTooBad_17
  refine lv_icmp_le (tgt := 16) hx hb dX5_isTooBad_9 (by decide) (fun c_9 => ?_) (fun c_9 => ?_)
  · have c_9 : unr S o ≤ 3 := (nI_leI (a := unr S o) (b := 3) (by omega) (by omega)).mp c_9
    refine lv_iconst (v := nI 0) hx hb dX5_isTooBad_16 (by decide) ?_
    exact jn17 _ (u_d0 (by omega)) ls (lv_sub hl [0, 1] rfl)
  · have c_9 : ¬ (unr S o ≤ 3) := fun q9 => c_9 ((nI_leI (a := unr S o) (b := 3) (by omega) (by omega)).mpr q9)
    refine lv_iconst (v := nI 1) hx hb dX5_isTooBad_12 (by decide) ?_
    refine lv_goto (tgt := 17) hx hb dX5_isTooBad_13 (by decide) ?_
    exact jn17 _ (u_d1 (by omega)) ls (lv_sub hl [0, 1] rfl)

set_option maxHeartbeats 4000000 in
theorem c_X5_byItself (l : Launch) (dC : Nat → ClassId) (dI : Nat → Nat → Nat) (dA : Nat → ClassId) (b : Nat → Nat) (mc : Nat → Int32) (S : Nat → Int32) (Hd : Nat → Int32) (o : Nat) (hlt : o < ln S) (hS1 : SWf S) (hT : TWf Hd) : Met l yX5_byItself (ws_ yX5_byItself cX5_byItself 4 (some (.int))) (rmD 7 0 0) (uPx [.ref (b 0), .int (nI o)] (fun U H => famP dC dI b (offE b dA mc S Hd) H ∧ CE U) dC dI dA) (uQi (oI (byS S Hd o))) 0 0 noF := by
  refine x_meti (own := RX5) (by decide) rfl (Nat.le_of_ble_eq_true rfl) fun p e R s m args below meth c Q SF rk hX hK hret ls hl => ?_
  have hx := SF.1
  have hb := SF.2.1
  have hml := SF.2.2.1
  have hown := SF.2.2.2.1
  have hts := SF.2.2.2.2
  have hO := hX.1
  have hCE := hX.2
  have hl : lv_has ls 4 [(0, .ref (b 0)), (1, .int (nI o))] := hl
  have hL := hS1.2.1
  have hn9 := hT.2.1
  have hu9 : unr S o ≤ 5 := cntN_le _ _
  have hb9 : bst S Hd o ≤ tn Hd := cntN_le _ _
  have hm9 : lsc S Hd o ≤ 11 := minN_le _ _ _
  refine lv_aload_n hx hb dX5_byItself_0 rfl (lv_at hl 0 rfl) ?_
  refine lv_iload_n hx hb dX5_byItself_1 rfl (lv_at hl 1 rfl) ?_
  refine u_run (x_rV (C := RX5) (As := [.int (nI o)]) SF hK (d := 4) (rk.le (Nat.le_of_ble_eq_true rfl)) (c_X5_isTooBad l dC dI dA b mc S Hd o (show o < ln S by omega) hS1) (lw_V q1138 q1139 q1140 q139 q1141) (n := 1) (by decide +kernel) rfl (by decide) (g_recv hK (hO 0 _ rfl) (ci := 1) rfl) (XOK.hp.and CE.ok) (⟨hO, hCE⟩) hl.1 (Nat.le_of_ble_eq_true rfl) ⟨Nat.zero_le _, Nat.zero_le _⟩ rfl dX5_byItself_2) ?_
  refine u_top (y := nI ((decide (3 < unr S o)).toNat)) rfl ?_
  refine lv_if_ne (tgt := 17) hx hb dX5_byItself_5 (by decide) (fun c_5 => ?_) (fun c_5 => ?_)
  · have c_5 : ¬ ((decide (3 < unr S o)) = false) := fun q9 => c_5 (u_zb.mpr q9)
    refine lv_iconst (v := (-1)) hx hb dX5_byItself_17 (by decide) ?_
    exact hret _ _ _ (by rw [byS, if_pos (by first | (have c8 : 3 < unr S o := by simpa using c_5); exact Or.inl c8 | exact Or.inr c_14)]; rfl) dX5_byItself_18
  · have c_5 : (decide (3 < unr S o)) = false := u_zb.mp c_5
    refine lv_aload_n hx hb dX5_byItself_8 rfl (lv_at hl 0 rfl) ?_
    refine lv_iload_n hx hb dX5_byItself_9 rfl (lv_at hl 1 rfl) ?_
    refine u_run (x_rV (C := RX5) (As := [.int (nI o)]) SF hK (d := 6) (rk.le (Nat.le_of_ble_eq_true rfl)) (c_X5_bestMany l dC dI dA b mc S Hd o (show o < ln S by omega) hS1 hT) (lw_V q1149 q1150 q1151 q139 q1152) (n := 1) (by decide +kernel) rfl (by decide) (g_recv hK (hO 0 _ rfl) (ci := 1) rfl) (XOK.hp.and CE.ok) (⟨hO, hCE⟩) hl.1 (Nat.le_of_ble_eq_true rfl) ⟨Nat.zero_le _, Nat.zero_le _⟩ rfl dX5_byItself_10) ?_
    refine u_top (y := nI (bst S Hd o)) rfl ?_
    refine lv_iconst (v := nI 1) hx hb dX5_byItself_13 (by decide) ?_
    refine lv_icmp_eq (tgt := 19) hx hb dX5_byItself_14 (by decide) (fun c_14 => ?_) (fun c_14 => ?_)
    · have c_14 : bst S Hd o = 1 := (nI_eq (a := bst S Hd o) (b := 1) (by omega) (by omega)).mp c_14
      have hcnt : cntN (isB S Hd o) (tn Hd) = 1 := c_14
      have hbp : 0 < bst S Hd o := by omega
      have hls := lsc_eq (S := S) (o := o) (bst_tn hbp)
      have htn0 := bst_tn hbp
      refine lv_aload_n hx hb dX5_byItself_19 rfl (lv_at hl 0 rfl) ?_
      refine lv_iload_n hx hb dX5_byItself_20 rfl (lv_at hl 1 rfl) ?_
      refine u_run (x_rV (C := RX5) (As := [.int (nI o)]) SF hK (d := 5) (rk.le (Nat.le_of_ble_eq_true rfl)) (c_X5_least l dC dI dA b mc S Hd o (show o < ln S by omega) hS1 hT) (lw_V q1153 q1154 q1155 q139 q1156) (n := 1) (by decide +kernel) rfl (by decide) (g_recv hK (hO 0 _ rfl) (ci := 1) rfl) (XOK.hp.and CE.ok) (⟨hO, hCE⟩) hl.1 (Nat.le_of_ble_eq_true rfl) ⟨Nat.zero_le _, Nat.zero_le _⟩ rfl dX5_byItself_21) ?_
      refine u_top (y := nI (lsc S Hd o)) rfl ?_
      refine lv_istore_n (lv' := [(2, .int (nI (lsc S Hd o))), (0, .ref (b 0)), (1, .int (nI o))]) hx hb dX5_byItself_24 rfl hl (by decide) rfl (fun ls hl => ?_)
      refine lv_iconst (v := nI 0) hx hb dX5_byItself_25 (by decide) ?_
      refine lv_istore_n (lv' := [(3, .int (nI 0)), (2, .int (nI (lsc S Hd o))), (0, .ref (b 0)), (1, .int (nI o))]) hx hb dX5_byItself_26 rfl hl (by decide) rfl (fun ls hl => ?_)
      have lp27 : ∀ (k0 : Nat) (t : Nat), t < tn Hd → (∀ j, j < t → isB S Hd o j = false) → tn Hd < t + k0 → ∀ ls : Array Slot, lv_has ls 4 [(3, .int (nI t)), (2, .int (nI (lsc S Hd o))), (0, .ref (b 0)), (1, .int (nI o))] → W p l e R s m args below meth c s.heap [] 0 0 Q (F0 m 27 ls []) := by
        intro k0
        induction k0 with
        | zero =>
          intro t ht1 htf ht2; omega
        | succ k0 ih =>
          intro t ht1 htf ht2 ls hl
          have ih27 := ih
          have hf9 := farT_le S Hd o t
          refine lv_aload_n hx hb dX5_byItself_27 rfl (lv_at hl 2 rfl) ?_
          refine lv_iload_n hx hb dX5_byItself_28 rfl (lv_at hl 3 rfl) ?_
          refine lv_iload_n hx hb dX5_byItself_29 rfl (lv_at hl 0 rfl) ?_
          refine u_run (x_rV (C := RX5) (As := [.int (nI o), .int (nI t)]) SF hK (d := 4) (rk.le (Nat.le_of_ble_eq_true rfl)) (c_X5_distance l dC dI dA b mc S Hd o t (show o < ln S by omega) (show t < tn Hd by omega) hS1 hT) (lw_V q1157 q1158 q1159 q139 q1160) (n := 2) (by decide +kernel) rfl (by decide) (g_recv hK (hO 0 _ rfl) (ci := 1) rfl) (XOK.hp.and CE.ok) (⟨hO, hCE⟩) hl.1 (Nat.le_of_ble_eq_true rfl) ⟨Nat.zero_le _, Nat.zero_le _⟩ rfl dX5_byItself_30) ?_
          refine u_top (y := nI (farT S Hd o t)) rfl ?_
          refine lv_iload_n hx hb dX5_byItself_33 rfl (lv_at hl 1 rfl) ?_
          refine lv_icmp_eq (tgt := 43) hx hb dX5_byItself_34 (by decide) (fun c_34 => ?_) (fun c_34 => ?_)
          · have c_34 : farT S Hd o t = lsc S Hd o := (nI_eq (a := farT S Hd o t) (b := lsc S Hd o) (by omega) (by omega)).mp c_34
            refine lv_iload_n hx hb dX5_byItself_43 rfl (lv_at hl 0 rfl) ?_
            exact hret _ _ _ (by rw [byS, if_neg (by simp at c_5; omega), fndN_some ht1 (isB_t hbp (by omega)) htf]; rfl) dX5_byItself_44
          · have c_34 : ¬ (farT S Hd o t = lsc S Hd o) := fun q9 => c_34 ((nI_eq (a := farT S Hd o t) (b := lsc S Hd o) (by omega) (by omega)).mpr q9)
            have hBf : isB S Hd o t = false := isB_f (by omega)
            refine lv_iinc (v := nI (t + 1)) (lv' := [(3, .int (nI (t + 1))), (2, .int (nI (lsc S Hd o))), (0, .ref (b 0)), (1, .int (nI o))]) hx hb dX5_byItself_37 hl (k := 0) rfl (nI_add _ 1) (by decide) rfl (fun ls hl => ?_)
            refine lv_goto (tgt := 27) hx hb dX5_byItself_40 (by decide) ?_
            exact ih27 (t + 1) (byS_next hcnt htf hBf ht1) (fun j h => (Nat.lt_succ_iff_lt_or_eq.mp h).elim (htf j) (fun e => e ▸ hBf)) (by omega) ls (lv_sub hl [0, 1, 2, 3] rfl)
      exact lp27 (tn Hd + 1) 0 (by omega) (fun j h => absurd h (Nat.not_lt_zero j)) (by omega) ls (lv_sub hl [0, 1, 2, 3] rfl)
    · have c_14 : ¬ (bst S Hd o = 1) := fun q9 => c_14 ((nI_eq (a := bst S Hd o) (b := 1) (by omega) (by omega)).mpr q9)
      refine lv_iconst (v := (-1)) hx hb dX5_byItself_17 (by decide) ?_
      exact hret _ _ _ (by rw [byS, if_pos (by first | (have c8 : 3 < unr S o := by simpa using c_5); exact Or.inl c8 | exact Or.inr c_14)]; rfl) dX5_byItself_18

set_option maxHeartbeats 4000000 in
theorem c_X5_otherSum (l : Launch) (dC : Nat → ClassId) (dI : Nat → Nat → Nat) (dA : Nat → ClassId) (b : Nat → Nat) (mc : Nat → Int32) (S : Nat → Int32) (Hd : Nat → Int32) (o : Nat) (hlt : o < ln S) (hS1 : SWf S) (hT : TWf Hd) : Met l yX5_otherSum (ws_ yX5_otherSum cX5_otherSum 5 (some (.int))) (rmD 8 0 0) (uPx [.ref (b 0), .int (nI o)] (fun U H => famP dC dI b (offE b dA mc S Hd) H ∧ CE U) dC dI dA) (uQi ((match oth S Hd o (ln S) with | none => (-1) | some x => nI x))) 0 0 noF := by
  refine x_meti (own := RX5) (by decide) rfl (Nat.le_of_ble_eq_true rfl) fun p e R s m args below meth c Q SF rk hX hK hret ls hl => ?_
  have hx := SF.1
  have hb := SF.2.1
  have hml := SF.2.2.1
  have hown := SF.2.2.2.1
  have hts := SF.2.2.2.2
  have hO := hX.1
  have hCE := hX.2
  have hl : lv_has ls 5 [(0, .ref (b 0)), (1, .int (nI o))] := hl
  have hL := hS1.2.1
  have hn9 := hT.2.1
  refine lv_iconst (v := nI 0) hx hb dX5_otherSum_0 (by decide) ?_
  refine lv_istore_n (lv' := [(2, .int (nI 0)), (0, .ref (b 0)), (1, .int (nI o))]) hx hb dX5_otherSum_1 rfl hl (by decide) rfl (fun ls hl => ?_)
  refine lv_iconst (v := nI 0) hx hb dX5_otherSum_2 (by decide) ?_
  refine lv_istore_n (lv' := [(3, .int (nI 0)), (2, .int (nI 0)), (0, .ref (b 0)), (1, .int (nI o))]) hx hb dX5_otherSum_3 rfl hl (by decide) rfl (fun ls hl => ?_)
  have lp4 : ∀ (k0 : Nat) (j x : Nat), j ≤ ln S → oth S Hd o j = some x → x ≤ 45 * j → ln S < j + k0 → ∀ ls : Array Slot, lv_has ls 5 [(3, .int (nI j)), (2, .int (nI x)), (0, .ref (b 0)), (1, .int (nI o))] → W p l e R s m args below meth c s.heap [] 0 0 Q (F0 m 4 ls []) := by
    intro k0
    induction k0 with
    | zero =>
      intro j x hj1 hx9 hxb hj2; omega
    | succ k0 ih =>
      intro j x hj1 hx9 hxb hj2 ls hl
      have ih4 := ih
      refine lv_iload_n hx hb dX5_otherSum_4 rfl (lv_at hl 0 rfl) ?_
      refine lv_aload_n hx hb dX5_otherSum_5 rfl (lv_at hl 2 rfl) ?_
      refine va_get (D := (dC, dI)) (ci := 1) (v := .ref (b 3)) (C := RX5) (T := TX5) (N := 10) hx hb hts in_X5 hown hK (hO 0 _ rfl) 0 rfl rfl 1 (by decide) (hts _ q833) (fun _ h9 => h9) rfl dX5_otherSum_6 ?_
      refine x_run5 (x_rF (C := RJ20) (As := []) (hK.1 6 _ rfl).2 SF hK (d := 0) (rk.le (Nat.le_of_ble_eq_true rfl)) (c_J20_size l dC dI dA (b 3) (b 4) (ln S) (mc 1) 24 (fun o => if o < ln S then some (b (22 + o)) else none) ) (lw_F q964 q954 q956 q141 q958) (hCE.2.2 7 (by decide)) (n := 0) (by decide +kernel) rfl (by decide) (g_recv hK (hO 3 _ rfl) (ci := 6) rfl) (XOK.hp) (⟨hO 3 _ rfl, hO 4 _ rfl⟩) hl.1 (Nat.le_of_ble_eq_true rfl) ⟨Nat.zero_le _, Nat.zero_le _⟩ rfl dX5_otherSum_9) ?_
      refine u_top (y := nI (ln S)) rfl ?_
      refine lv_icmp_ge (tgt := 77) hx hb dX5_otherSum_14 (by decide) (fun c_14 => ?_) (fun c_14 => ?_)
      · have c_14 : (ln S) ≤ j := (nI_leI (a := (ln S)) (b := j) (by omega) (by omega)).mp c_14
        refine lv_iload_n hx hb dX5_otherSum_77 rfl (lv_at hl 1 rfl) ?_
        exact hret _ _ _ (by rw [show ln S = j by omega, hx9]) dX5_otherSum_78
      · have c_14 : ¬ ((ln S) ≤ j) := fun q9 => c_14 ((nI_leI (a := (ln S)) (b := j) (by omega) (by omega)).mpr q9)
        refine lv_iload_n hx hb dX5_otherSum_17 rfl (lv_at hl 0 rfl) ?_
        refine lv_iload_n hx hb dX5_otherSum_18 rfl (lv_at hl 3 rfl) ?_
        refine lv_icmp_eq (tgt := 71) hx hb dX5_otherSum_19 (by decide) (fun c_19 => ?_) (fun c_19 => ?_)
        · have c_19 : j = o := (nI_eq (a := j) (b := o) (by omega) (by omega)).mp c_19
          refine lv_iinc (v := nI (j + 1)) (lv' := [(3, .int (nI (j + 1))), (2, .int (nI x)), (0, .ref (b 0)), (1, .int (nI o))]) hx hb dX5_otherSum_71 hl (k := 0) rfl (nI_add _ 1) (by decide) rfl (fun ls hl => ?_)
          refine lv_goto (tgt := 4) hx hb dX5_otherSum_74 (by decide) ?_
          exact ih4 (j + 1) x (by omega) (oth_skip hx9 (by first | exact Or.inl c_19 | exact Or.inr c_38)) (by omega) (by omega) ls (lv_sub hl [0, 1, 2, 3] rfl)
        · have c_19 : ¬ (j = o) := fun q9 => c_19 ((nI_eq (a := j) (b := o) (by omega) (by omega)).mpr q9)
          refine lv_aload_n hx hb dX5_otherSum_22 rfl (lv_at hl 2 rfl) ?_
          refine lv_iload_n hx hb dX5_otherSum_23 rfl (lv_at hl 0 rfl) ?_
          refine x_runa (x_rV (C := RX5) (As := [.int (nI j)]) SF hK (d := 3) (rk.le (Nat.le_of_ble_eq_true rfl)) (c_X5_letter l dC dI dA b mc S Hd j (show j < ln S by omega) hS1) (lw_V q1118 q188 q189 q139 q190) (n := 1) (by decide +kernel) rfl (by decide) (g_recv hK (hO 0 _ rfl) (ci := 1) rfl) (XOK.hp.and CE.ok) (⟨hO, hCE⟩) hl.1 (Nat.le_of_ble_eq_true rfl) ⟨Nat.zero_le _, Nat.zero_le _⟩ rfl dX5_otherSum_24) ?_
          refine g_top (y := .ref (b (22 + j))) rfl ?_
          refine va_getN (D := (dC, dI)) (ci := 3) (v := .int (lr S j 5)) (C := RX7) (T := TX7) (N := 6) hx hb hts in_X7 hown hK (hO _ _ (offE_lt (show j < ln S from (by omega)) hS1.2.1)) 0 rfl rfl 1 (by decide) (va_Nw.use rfl (hCE.1 29 (by decide))) (fun _ h9 => h9) rfl dX5_otherSum_27 ?_
          refine lv_aload_n hx hb dX5_otherSum_30 rfl (lv_at hl 2 rfl) ?_
          refine lv_iload_n hx hb dX5_otherSum_31 rfl (lv_at hl 3 rfl) ?_
          refine x_runa (x_rV (C := RX5) (As := [.int (nI o)]) SF hK (d := 3) (rk.le (Nat.le_of_ble_eq_true rfl)) (c_X5_letter l dC dI dA b mc S Hd o (show o < ln S by omega) hS1) (lw_V q1118 q188 q189 q139 q190) (n := 1) (by decide +kernel) rfl (by decide) (g_recv hK (hO 0 _ rfl) (ci := 1) rfl) (XOK.hp.and CE.ok) (⟨hO, hCE⟩) hl.1 (Nat.le_of_ble_eq_true rfl) ⟨Nat.zero_le _, Nat.zero_le _⟩ rfl dX5_otherSum_32) ?_
          refine g_top (y := .ref (b (22 + o))) rfl ?_
          refine va_getN (D := (dC, dI)) (ci := 3) (v := .int (lr S o 5)) (C := RX7) (T := TX7) (N := 6) hx hb hts in_X7 hown hK (hO _ _ (offE_lt (show o < ln S from (by omega)) hS1.2.1)) 0 rfl rfl 1 (by decide) (va_Nw.use rfl (hCE.1 29 (by decide))) (fun _ h9 => h9) rfl dX5_otherSum_35 ?_
          refine lv_icmp_eq (tgt := 44) hx hb dX5_otherSum_38 (by decide) (fun c_38 => ?_) (fun c_38 => ?_)
          · refine lv_aload_n hx hb dX5_otherSum_44 rfl (lv_at hl 2 rfl) ?_
            refine lv_iload_n hx hb dX5_otherSum_45 rfl (lv_at hl 0 rfl) ?_
            refine u_run (x_rV (C := RX5) (As := [.int (nI j)]) SF hK (d := 7) (rk.le (Nat.le_of_ble_eq_true rfl)) (c_X5_byItself l dC dI dA b mc S Hd j (show j < ln S by omega) hS1 hT) (lw_V q1184 q1185 q1186 q139 q1187) (n := 1) (by decide +kernel) rfl (by decide) (g_recv hK (hO 0 _ rfl) (ci := 1) rfl) (XOK.hp.and CE.ok) (⟨hO, hCE⟩) hl.1 (Nat.le_of_ble_eq_true rfl) ⟨Nat.zero_le _, Nat.zero_le _⟩ rfl dX5_otherSum_46) ?_
            refine u_top (y := oI (byS S Hd j)) rfl ?_
            rcases hE : byS S Hd j with _ | t9
            · refine u_top (y := (-1)) rfl ?_
              refine lv_istore (lv' := [(4, .int (-1)), (3, .int (nI j)), (2, .int (nI x)), (0, .ref (b 0)), (1, .int (nI o))]) hx hb dX5_otherSum_49 hl (by decide) rfl (fun ls hl => ?_)
              refine lv_iload hx hb dX5_otherSum_51 (lv_at hl 0 rfl) ?_
              refine lv_iconst (v := (-1)) hx hb dX5_otherSum_53 (by decide) ?_
              refine lv_icmp_ne (tgt := 59) hx hb dX5_otherSum_54 (by decide) (fun c_54 => absurd (by decide) c_54) (fun c_54 => ?_)
              refine lv_iconst (v := (-1)) hx hb dX5_otherSum_57 (by decide) ?_
              exact hret _ _ _ (by rw [oth_none (oth_stop hx9 c_19 c_38 hE) (ln S) (by omega)]) dX5_otherSum_58
            · have ht9 := byS_lt hE
              refine u_top (y := nI t9) rfl ?_
              refine lv_istore (lv' := [(4, .int (nI t9)), (3, .int (nI j)), (2, .int (nI x)), (0, .ref (b 0)), (1, .int (nI o))]) hx hb dX5_otherSum_49 hl (by decide) rfl (fun ls hl => ?_)
              refine lv_iload hx hb dX5_otherSum_51 (lv_at hl 0 rfl) ?_
              refine lv_iconst (v := (-1)) hx hb dX5_otherSum_53 (by decide) ?_
              refine lv_icmp_ne (tgt := 59) hx hb dX5_otherSum_54 (by decide) (fun c_54 => ?_) (fun c_54 => absurd c_54 (nI_m1 (by omega)))
              have hd9 := dsm_le (cd (num Hd t9))
              refine lv_iload_n hx hb dX5_otherSum_59 rfl (lv_at hl 2 rfl) ?_
              refine lv_aload_n hx hb dX5_otherSum_60 rfl (lv_at hl 3 rfl) ?_
              refine lv_iload hx hb dX5_otherSum_61 (lv_at hl 0 rfl) ?_
              refine x_runa (x_rV (C := RX5) (As := [.int (nI t9)]) SF hK (d := 3) (rk.le (Nat.le_of_ble_eq_true rfl)) (c_X5_town l dC dI dA b mc S Hd t9 (show t9 < tn Hd by omega) hT) (lw_V q965 q966 q967 q139 q968) (n := 1) (by decide +kernel) rfl (by decide) (g_recv hK (hO 0 _ rfl) (ci := 1) rfl) (XOK.hp.and CE.ok) (⟨hO, hCE⟩) hl.1 (Nat.le_of_ble_eq_true rfl) ⟨Nat.zero_le _, Nat.zero_le _⟩ rfl dX5_otherSum_63) ?_
              refine g_top (y := .ref (b (10 + t9))) rfl ?_
              refine u_run (x_rV (C := RX6) (As := []) SF hK (d := 2) (rk.le (Nat.le_of_ble_eq_true rfl)) (c_X6_sum l dC dI dA b mc S Hd t9 (show t9 < tn Hd by omega) hT) (lw_V q1196 q1197 q1198 q143 q1199) (n := 0) (by decide +kernel) rfl (by decide) (g_recv hK (hO _ _ (offE_tw (show t9 < tn Hd from (by omega)) hT.2.1)) (ci := 4) rfl) (XOK.hp.and CE.ok) (⟨hO, hCE⟩) hl.1 (Nat.le_of_ble_eq_true rfl) ⟨Nat.zero_le _, Nat.zero_le _⟩ rfl dX5_otherSum_66) ?_
              refine u_top (y := nI (dsm (cd (num Hd t9)))) rfl ?_
              refine lv_iadd hx hb dX5_otherSum_69 ?_
              refine u_top (nI_add _ _) ?_
              refine lv_istore_n (lv' := [(2, .int (nI (x + (dsm (cd (num Hd t9)))))), (4, .int (nI t9)), (3, .int (nI j)), (0, .ref (b 0)), (1, .int (nI o))]) hx hb dX5_otherSum_70 rfl hl (by decide) rfl (fun ls hl => ?_)
              refine lv_iinc (v := nI (j + 1)) (lv' := [(3, .int (nI (j + 1))), (2, .int (nI (x + (dsm (cd (num Hd t9)))))), (4, .int (nI t9)), (0, .ref (b 0)), (1, .int (nI o))]) hx hb dX5_otherSum_71 hl (k := 2) rfl (nI_add _ 1) (by decide) rfl (fun ls hl => ?_)
              refine lv_goto (tgt := 4) hx hb dX5_otherSum_74 (by decide) ?_
              exact ih4 (j + 1) _ (by omega) (oth_add hx9 c_19 c_38 hE) (by omega) (by omega) ls (lv_sub hl [0, 1, 3, 4] rfl)
          · refine lv_goto (tgt := 71) hx hb dX5_otherSum_41 (by decide) ?_
            refine lv_iinc (v := nI (j + 1)) (lv' := [(3, .int (nI (j + 1))), (2, .int (nI x)), (0, .ref (b 0)), (1, .int (nI o))]) hx hb dX5_otherSum_71 hl (k := 0) rfl (nI_add _ 1) (by decide) rfl (fun ls hl => ?_)
            refine lv_goto (tgt := 4) hx hb dX5_otherSum_74 (by decide) ?_
            exact ih4 (j + 1) x (by omega) (oth_skip hx9 (by first | exact Or.inl c_19 | exact Or.inr c_38)) (by omega) (by omega) ls (lv_sub hl [0, 1, 2, 3] rfl)
  exact lp4 (ln S + 1) 0 0 (by omega) rfl (by omega) (by omega) ls (lv_sub hl [0, 1, 2, 3] rfl)

set_option maxHeartbeats 4000000 in
theorem c_X5_byBundle (l : Launch) (dC : Nat → ClassId) (dI : Nat → Nat → Nat) (dA : Nat → ClassId) (b : Nat → Nat) (mc : Nat → Int32) (S : Nat → Int32) (Hd : Nat → Int32) (o : Nat) (hlt : o < ln S) (hS1 : SWf S) (hT : TWf Hd) (hun : ¬ 3 < unr S o) (hbp : 0 < bst S Hd o) : Met l yX5_byBundle (ws_ yX5_byBundle cX5_byBundle 7 (some (.int))) (rmD 9 0 0) (uPx [.ref (b 0), .int (nI o)] (fun U H => famP dC dI b (offE b dA mc S Hd) H ∧ CE U) dC dI dA) (uQi (oI (byB S Hd o))) 0 0 noF := by
  refine x_meti (own := RX5) (by decide) rfl (Nat.le_of_ble_eq_true rfl) fun p e R s m args below meth c Q SF rk hX hK hret ls hl => ?_
  have hx := SF.1
  have hb := SF.2.1
  have hml := SF.2.2.1
  have hown := SF.2.2.2.1
  have hts := SF.2.2.2.2
  have hO := hX.1
  have hCE := hX.2
  have hl : lv_has ls 7 [(0, .ref (b 0)), (1, .int (nI o))] := hl
  have hL := hS1.2.1
  have hn9 := hT.2.1
  have hbn := (hS1.2.2.2.2 o hlt).2.2
  have hls := lsc_eq (S := S) (o := o) (bst_tn hbp)
  have hm9 : lsc S Hd o ≤ 11 := minN_le _ _ _
  refine lv_aload_n hx hb dX5_byBundle_0 rfl (lv_at hl 0 rfl) ?_
  refine va_get (D := (dC, dI)) (ci := 1) (v := .ref (b 5)) (C := RX5) (T := TX5) (N := 10) hx hb hts in_X5 hown hK (hO 0 _ rfl) 0 rfl rfl 2 (by decide) (hts _ q836) (fun _ h9 => h9) rfl dX5_byBundle_1 ?_
  refine lv_aload_n hx hb dX5_byBundle_4 rfl (lv_at hl 0 rfl) ?_
  refine lv_iload_n hx hb dX5_byBundle_5 rfl (lv_at hl 1 rfl) ?_
  refine x_runa (x_rV (C := RX5) (As := [.int (nI o)]) SF hK (d := 3) (rk.le (Nat.le_of_ble_eq_true rfl)) (c_X5_letter l dC dI dA b mc S Hd o (show o < ln S by omega) hS1) (lw_V q1118 q188 q189 q139 q190) (n := 1) (by decide +kernel) rfl (by decide) (g_recv hK (hO 0 _ rfl) (ci := 1) rfl) (XOK.hp.and CE.ok) (⟨hO, hCE⟩) hl.1 (Nat.le_of_ble_eq_true rfl) ⟨Nat.zero_le _, Nat.zero_le _⟩ rfl dX5_byBundle_6) ?_
  refine g_top (y := .ref (b (22 + o))) rfl ?_
  refine va_getN (D := (dC, dI)) (ci := 3) (v := .int (lr S o 5)) (C := RX7) (T := TX7) (N := 6) hx hb hts in_X7 hown hK (hO _ _ (offE_lt (show o < ln S from (by omega)) hS1.2.1)) 0 rfl rfl 1 (by decide) (va_Nw.use rfl (hCE.1 29 (by decide))) (fun _ h9 => h9) rfl dX5_byBundle_9 ?_
  refine u_top (y := nI (bun S o)) ((hS1.2.2.2.2 o hlt).2.1) ?_
  refine u_iald hx hb hK (hO 5 _ rfl) 0 0 rfl rfl (i := bun S o) (by omega) (by decide) dX5_byBundle_12 ?_
  refine u_top (y := S (3 + (bun S o))) (by first | exact clip_at (by omega) | rfl) ?_
  refine lv_istore_n (lv' := [(2, .int (S (3 + (bun S o)))), (0, .ref (b 0)), (1, .int (nI o))]) hx hb dX5_byBundle_13 rfl hl (by decide) rfl (fun ls hl => ?_)
  refine lv_iload_n hx hb dX5_byBundle_14 rfl (lv_at hl 0 rfl) ?_
  refine lv_iconst (v := (-1)) hx hb dX5_byBundle_15 (by decide) ?_
  refine lv_icmp_ne (tgt := 23) hx hb dX5_byBundle_16 (by decide) (fun c_16 => ?_) (fun c_16 => ?_)
  · have hnb : ¬ (3 < unr S o ∨ S (3 + bun S o) = -1) := fun q => q.elim hun c_16
    refine lv_aload_n hx hb dX5_byBundle_23 rfl (lv_at hl 1 rfl) ?_
    refine lv_iload_n hx hb dX5_byBundle_24 rfl (lv_at hl 2 rfl) ?_
    refine u_run (x_rV (C := RX5) (As := [.int (nI o)]) SF hK (d := 8) (rk.le (Nat.le_of_ble_eq_true rfl)) (c_X5_otherSum l dC dI dA b mc S Hd o (show o < ln S by omega) hS1 hT) (lw_V q1192 q1194 qs22 q139 q1195) (n := 1) (by decide +kernel) rfl (by decide) (g_recv hK (hO 0 _ rfl) (ci := 1) rfl) (XOK.hp.and CE.ok) (⟨hO, hCE⟩) hl.1 (Nat.le_of_ble_eq_true rfl) ⟨Nat.zero_le _, Nat.zero_le _⟩ rfl dX5_byBundle_25) ?_
    refine u_top (y := (match oth S Hd o (ln S) with | none => (-1) | some x => nI x)) rfl ?_
    rcases hoe : oth S Hd o (ln S) with _ | x
    · refine u_top (y := (-1)) rfl ?_
      refine lv_istore_n (lv' := [(3, .int (-1)), (2, .int (S (3 + (bun S o)))), (0, .ref (b 0)), (1, .int (nI o))]) hx hb dX5_byBundle_28 rfl hl (by decide) rfl (fun ls hl => ?_)
      refine lv_iload_n hx hb dX5_byBundle_29 rfl (lv_at hl 0 rfl) ?_
      refine lv_iconst (v := (-1)) hx hb dX5_byBundle_30 (by decide) ?_
      refine lv_icmp_ne (tgt := 36) hx hb dX5_byBundle_31 (by decide) (fun c_31 => absurd (by decide) c_31) (fun c_31 => ?_)
      refine lv_iconst (v := (-1)) hx hb dX5_byBundle_34 (by decide) ?_
      exact hret _ _ _ (by first | (rw [byB, if_pos (Or.inr c_16)]; rfl) | (rw [byB_no hnb hoe]; rfl)) dX5_byBundle_35
    · have hxb := oth_le hoe
      refine u_top (y := nI x) rfl ?_
      refine lv_istore_n (lv' := [(3, .int (nI x)), (2, .int (S (3 + (bun S o)))), (0, .ref (b 0)), (1, .int (nI o))]) hx hb dX5_byBundle_28 rfl hl (by decide) rfl (fun ls hl => ?_)
      refine lv_iload_n hx hb dX5_byBundle_29 rfl (lv_at hl 0 rfl) ?_
      refine lv_iconst (v := (-1)) hx hb dX5_byBundle_30 (by decide) ?_
      refine lv_icmp_ne (tgt := 36) hx hb dX5_byBundle_31 (by decide) (fun c_31 => ?_) (fun c_31 => absurd c_31 (nI_m1 (by omega)))
      refine lv_aload_n hx hb dX5_byBundle_36 rfl (lv_at hl 2 rfl) ?_
      refine lv_iload_n hx hb dX5_byBundle_37 rfl (lv_at hl 3 rfl) ?_
      refine u_run (x_rV (C := RX5) (As := [.int (nI o)]) SF hK (d := 5) (rk.le (Nat.le_of_ble_eq_true rfl)) (c_X5_least l dC dI dA b mc S Hd o (show o < ln S by omega) hS1 hT) (lw_V q1153 q1154 q1155 q139 q1156) (n := 1) (by decide +kernel) rfl (by decide) (g_recv hK (hO 0 _ rfl) (ci := 1) rfl) (XOK.hp.and CE.ok) (⟨hO, hCE⟩) hl.1 (Nat.le_of_ble_eq_true rfl) ⟨Nat.zero_le _, Nat.zero_le _⟩ rfl dX5_byBundle_38) ?_
      refine u_top (y := nI (lsc S Hd o)) rfl ?_
      refine lv_istore (lv' := [(4, .int (nI (lsc S Hd o))), (3, .int (nI x)), (2, .int (S (3 + (bun S o)))), (0, .ref (b 0)), (1, .int (nI o))]) hx hb dX5_byBundle_41 hl (by decide) rfl (fun ls hl => ?_)
      refine lv_iconst (v := (-1)) hx hb dX5_byBundle_43 (by decide) ?_
      refine lv_istore (lv' := [(5, .int (-1)), (4, .int (nI (lsc S Hd o))), (3, .int (nI x)), (2, .int (S (3 + (bun S o)))), (0, .ref (b 0)), (1, .int (nI o))]) hx hb dX5_byBundle_44 hl (by decide) rfl (fun ls hl => ?_)
      refine lv_iconst (v := nI 0) hx hb dX5_byBundle_46 (by decide) ?_
      refine lv_istore (lv' := [(6, .int (nI 0)), (5, .int (-1)), (4, .int (nI (lsc S Hd o))), (3, .int (nI x)), (2, .int (S (3 + (bun S o)))), (0, .ref (b 0)), (1, .int (nI o))]) hx hb dX5_byBundle_47 hl (by decide) rfl (fun ls hl => ?_)
      have lp49 : ∀ (k0 : Nat) (t : Nat) (f : Option Nat), t ≤ tn Hd → uqI (bbP S Hd o x) t f → tn Hd < t + k0 → ∀ ls : Array Slot, lv_has ls 7 [(6, .int (nI t)), (5, .int (oI f)), (4, .int (nI (lsc S Hd o))), (3, .int (nI x)), (2, .int (S (3 + bun S o))), (0, .ref (b 0)), (1, .int (nI o))] → W p l e R s m args below meth c s.heap [] 0 0 Q (F0 m 49 ls []) := by
        intro k0
        induction k0 with
        | zero =>
          intro t f ht1 huq ht2; omega
        | succ k0 ih =>
          intro t f ht1 huq ht2 ls hl
          have ih49 := ih
          have hf9 := farT_le S Hd o t
          refine lv_iload hx hb dX5_byBundle_49 (lv_at hl 0 rfl) ?_
          refine lv_aload_n hx hb dX5_byBundle_51 rfl (lv_at hl 5 rfl) ?_
          refine va_get (D := (dC, dI)) (ci := 1) (v := .ref (b 1)) (C := RX5) (T := TX5) (N := 10) hx hb hts in_X5 hown hK (hO 0 _ rfl) 0 rfl rfl 0 (by decide) (hts _ q830) (fun _ h9 => h9) rfl dX5_byBundle_52 ?_
          refine x_run5 (x_rF (C := RJ20) (As := []) (hK.1 6 _ rfl).2 SF hK (d := 0) (rk.le (Nat.le_of_ble_eq_true rfl)) (c_J20_size l dC dI dA (b 1) (b 2) (tn Hd) (mc 0) 12 (fun t => if t < tn Hd then some (b (10 + t)) else none) ) (lw_F q964 q954 q956 q141 q958) (hCE.2.2 7 (by decide)) (n := 0) (by decide +kernel) rfl (by decide) (g_recv hK (hO 1 _ rfl) (ci := 6) rfl) (XOK.hp) (⟨hO 1 _ rfl, hO 2 _ rfl⟩) hl.1 (Nat.le_of_ble_eq_true rfl) ⟨Nat.zero_le _, Nat.zero_le _⟩ rfl dX5_byBundle_55) ?_
          refine u_top (y := nI (tn Hd)) rfl ?_
          refine lv_icmp_ge (tgt := 114) hx hb dX5_byBundle_60 (by decide) (fun c_60 => ?_) (fun c_60 => ?_)
          · have c_60 : (tn Hd) ≤ t := (nI_leI (a := (tn Hd)) (b := t) (by omega) (by omega)).mp c_60
            refine lv_iload hx hb dX5_byBundle_114 (lv_at hl 1 rfl) ?_
            exact hret _ _ _ (by rw [byB_go hnb hoe, uqI_end (show uqI _ (tn Hd) f by rw [show tn Hd = t by omega]; exact huq)]) dX5_byBundle_116
          · have c_60 : ¬ ((tn Hd) ≤ t) := fun q9 => c_60 ((nI_leI (a := (tn Hd)) (b := t) (by omega) (by omega)).mpr q9)
            refine lv_aload_n hx hb dX5_byBundle_63 rfl (lv_at hl 5 rfl) ?_
            refine lv_iload_n hx hb dX5_byBundle_64 rfl (lv_at hl 6 rfl) ?_
            refine lv_iload hx hb dX5_byBundle_65 (lv_at hl 0 rfl) ?_
            refine u_run (x_rV (C := RX5) (As := [.int (nI o), .int (nI t)]) SF hK (d := 4) (rk.le (Nat.le_of_ble_eq_true rfl)) (c_X5_distance l dC dI dA b mc S Hd o t (show o < ln S by omega) (show t < tn Hd by omega) hS1 hT) (lw_V q1157 q1158 q1159 q139 q1160) (n := 2) (by decide +kernel) rfl (by decide) (g_recv hK (hO 0 _ rfl) (ci := 1) rfl) (XOK.hp.and CE.ok) (⟨hO, hCE⟩) hl.1 (Nat.le_of_ble_eq_true rfl) ⟨Nat.zero_le _, Nat.zero_le _⟩ rfl dX5_byBundle_67) ?_
            refine u_top (y := nI (farT S Hd o t)) rfl ?_
            refine lv_iload hx hb dX5_byBundle_70 (lv_at hl 2 rfl) ?_
            refine lv_icmp_ne (tgt := 108) hx hb dX5_byBundle_72 (by decide) (fun c_72 => ?_) (fun c_72 => ?_)
            · have c_72 : ¬ (farT S Hd o t = lsc S Hd o) := fun q9 => c_72 ((nI_eq (a := farT S Hd o t) (b := lsc S Hd o) (by omega) (by omega)).mpr q9)
              refine lv_iinc (v := nI (t + 1)) (lv' := [(6, .int (nI (t + 1))), (5, .int (oI f)), (4, .int (nI (lsc S Hd o))), (3, .int (nI x)), (2, .int (S (3 + bun S o))), (0, .ref (b 0)), (1, .int (nI o))]) hx hb dX5_byBundle_108 hl (k := 0) rfl (nI_add _ 1) (by decide) rfl (fun ls hl => ?_)
              refine lv_goto (tgt := 49) hx hb dX5_byBundle_111 (by decide) ?_
              exact ih49 (t + 1) _ (by omega) (uqI_skip huq (by rw [bbP, Bool.and_eq_false_iff]; first | exact Or.inl (isB_f (by omega)) | exact Or.inr (decide_eq_false c_90))) (by omega) ls (lv_sub hl [0, 1, 2, 3, 4, 5, 6] rfl)
            · have c_72 : farT S Hd o t = lsc S Hd o := (nI_eq (a := farT S Hd o t) (b := lsc S Hd o) (by omega) (by omega)).mp c_72
              have hd9 := dsm_le (cd (num Hd t))
              refine lv_iload_n hx hb dX5_byBundle_75 rfl (lv_at hl 3 rfl) ?_
              refine lv_aload_n hx hb dX5_byBundle_76 rfl (lv_at hl 5 rfl) ?_
              refine lv_iload hx hb dX5_byBundle_77 (lv_at hl 0 rfl) ?_
              refine x_runa (x_rV (C := RX5) (As := [.int (nI t)]) SF hK (d := 3) (rk.le (Nat.le_of_ble_eq_true rfl)) (c_X5_town l dC dI dA b mc S Hd t (show t < tn Hd by omega) hT) (lw_V q965 q966 q967 q139 q968) (n := 1) (by decide +kernel) rfl (by decide) (g_recv hK (hO 0 _ rfl) (ci := 1) rfl) (XOK.hp.and CE.ok) (⟨hO, hCE⟩) hl.1 (Nat.le_of_ble_eq_true rfl) ⟨Nat.zero_le _, Nat.zero_le _⟩ rfl dX5_byBundle_79) ?_
              refine g_top (y := .ref (b (10 + t))) rfl ?_
              refine u_run (x_rV (C := RX6) (As := []) SF hK (d := 2) (rk.le (Nat.le_of_ble_eq_true rfl)) (c_X6_sum l dC dI dA b mc S Hd t (show t < tn Hd by omega) hT) (lw_V q1196 q1197 q1198 q143 q1199) (n := 0) (by decide +kernel) rfl (by decide) (g_recv hK (hO _ _ (offE_tw (show t < tn Hd from (by omega)) hT.2.1)) (ci := 4) rfl) (XOK.hp.and CE.ok) (⟨hO, hCE⟩) hl.1 (Nat.le_of_ble_eq_true rfl) ⟨Nat.zero_le _, Nat.zero_le _⟩ rfl dX5_byBundle_82) ?_
              refine u_top (y := nI (dsm (cd (num Hd t)))) rfl ?_
              refine lv_iadd hx hb dX5_byBundle_85 ?_
              refine u_top (nI_add _ _) ?_
              refine lv_bipush (v := nI 10) hx hb dX5_byBundle_86 (by decide) ?_
              refine lv_irem hx hb dX5_byBundle_88 (by decide) ?_
              refine u_top (pk_rem (by omega) (by omega) (by omega)) ?_
              refine lv_iload_n hx hb dX5_byBundle_89 rfl (lv_at hl 4 rfl) ?_
              refine lv_icmp_eq (tgt := 96) hx hb dX5_byBundle_90 (by decide) (fun c_90 => ?_) (fun c_90 => ?_)
              · have hpt : bbP S Hd o x t = true := by rw [bbP, Bool.and_eq_true, decide_eq_true_eq]; exact ⟨isB_t hbp (by omega), c_90⟩
                refine lv_iload hx hb dX5_byBundle_96 (lv_at hl 1 rfl) ?_
                rcases f with _ | u
                · refine u_top (y := (-1)) rfl ?_
                  refine lv_iconst (v := (-1)) hx hb dX5_byBundle_98 (by decide) ?_
                  refine lv_icmp_eq (tgt := 104) hx hb dX5_byBundle_99 (by decide) (fun c_99 => ?_) (fun c_99 => absurd (by decide) c_99)
                  refine lv_iload hx hb dX5_byBundle_104 (lv_at hl 0 rfl) ?_
                  refine lv_istore (lv' := [(5, .int (nI t)), (6, .int (nI t)), (4, .int (nI (lsc S Hd o))), (3, .int (nI x)), (2, .int (S (3 + bun S o))), (0, .ref (b 0)), (1, .int (nI o))]) hx hb dX5_byBundle_106 hl (by decide) rfl (fun ls hl => ?_)
                  refine lv_iinc (v := nI (t + 1)) (lv' := [(6, .int (nI (t + 1))), (5, .int (nI t)), (4, .int (nI (lsc S Hd o))), (3, .int (nI x)), (2, .int (S (3 + bun S o))), (0, .ref (b 0)), (1, .int (nI o))]) hx hb dX5_byBundle_108 hl (k := 1) rfl (nI_add _ 1) (by decide) rfl (fun ls hl => ?_)
                  refine lv_goto (tgt := 49) hx hb dX5_byBundle_111 (by decide) ?_
                  exact ih49 (t + 1) _ (by omega) (uqI_hit huq hpt) (by omega) ls (lv_sub hl [0, 1, 2, 3, 4, 5, 6] rfl)
                · have hu := uqI_lt huq
                  refine u_top (y := nI u) rfl ?_
                  refine lv_iconst (v := (-1)) hx hb dX5_byBundle_98 (by decide) ?_
                  refine lv_icmp_eq (tgt := 104) hx hb dX5_byBundle_99 (by decide) (fun c_99 => absurd c_99 (nI_m1 (by omega))) (fun c_99 => ?_)
                  refine lv_iconst (v := (-1)) hx hb dX5_byBundle_102 (by decide) ?_
                  exact hret _ _ _ (by rw [byB_go hnb hoe, uqI_two huq hpt (by omega)]; rfl) dX5_byBundle_103
              · refine lv_goto (tgt := 108) hx hb dX5_byBundle_93 (by decide) ?_
                refine lv_iinc (v := nI (t + 1)) (lv' := [(6, .int (nI (t + 1))), (5, .int (oI f)), (4, .int (nI (lsc S Hd o))), (3, .int (nI x)), (2, .int (S (3 + bun S o))), (0, .ref (b 0)), (1, .int (nI o))]) hx hb dX5_byBundle_108 hl (k := 0) rfl (nI_add _ 1) (by decide) rfl (fun ls hl => ?_)
                refine lv_goto (tgt := 49) hx hb dX5_byBundle_111 (by decide) ?_
                exact ih49 (t + 1) _ (by omega) (uqI_skip huq (by rw [bbP, Bool.and_eq_false_iff]; first | exact Or.inl (isB_f (by omega)) | exact Or.inr (decide_eq_false c_90))) (by omega) ls (lv_sub hl [0, 1, 2, 3, 4, 5, 6] rfl)
      exact lp49 (tn Hd + 1) 0 none (by omega) uqI_0 (by omega) ls (lv_sub hl [0, 1, 2, 3, 4, 5, 6] rfl)
  · refine lv_iconst (v := (-1)) hx hb dX5_byBundle_19 (by decide) ?_
    refine lv_goto (tgt := 28) hx hb dX5_byBundle_20 (by decide) ?_
    refine lv_istore_n (lv' := [(3, .int (-1)), (2, .int (S (3 + (bun S o)))), (0, .ref (b 0)), (1, .int (nI o))]) hx hb dX5_byBundle_28 rfl hl (by decide) rfl (fun ls hl => ?_)
    refine lv_iload_n hx hb dX5_byBundle_29 rfl (lv_at hl 0 rfl) ?_
    refine lv_iconst (v := (-1)) hx hb dX5_byBundle_30 (by decide) ?_
    refine lv_icmp_ne (tgt := 36) hx hb dX5_byBundle_31 (by decide) (fun c_31 => absurd (by decide) c_31) (fun c_31 => ?_)
    refine lv_iconst (v := (-1)) hx hb dX5_byBundle_34 (by decide) ?_
    exact hret _ _ _ (by first | (rw [byB, if_pos (Or.inr c_16)]; rfl) | (rw [byB_no hnb hoe]; rfl)) dX5_byBundle_35
end OL2
