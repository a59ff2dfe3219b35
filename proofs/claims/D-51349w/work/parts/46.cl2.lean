set_option maxRecDepth 100000
section CL2
variable {p : Program} {l : Launch} {e : Env} {R : Room} {s : State} {m : MethodId} {args : Array Value} {below : List Frame} {meth : Method} {c : Code} {H : Heap} {locs : List Loc} {Q : State → Prop}
variable {cc : ByteArray} {pc nL : Nat} {ls : Array Slot} {rest : List Value} {dC : Nat → ClassId} {dI : Nat → Nat → Nat} {dA : Nat → ClassId} {a : Nat → Nat} {M : Nat → Nat → Int32} {H0 : Heap}

theorem nI_down {n : Nat} : nI (n + 1) + (-1) = nI n := by
  rw [nI_succ]
  grind
def wgt (q : Nat) : Nat := if q = 0 ∨ q = 2 then 3 else 1
theorem wgt_le (q : Nat) : wgt q ≤ 3 := by unfold wgt; split <;> decide
def d4 (x q : Nat) : Nat := x / 10 ^ (3 - q) % 10
theorem d4_lt (x q : Nat) : d4 x q < 10 := Nat.mod_lt _ (by decide)
theorem d4_dg {x q : Nat} (h : q < 4) : d4 x q = dg (cd x) q := by
  have hc := chk_lt x
  unfold d4 dg cd
  rw [show 4 - q = (3 - q) + 1 by omega, Nat.pow_succ, Nat.mul_comm (10 ^ (3 - q)) 10, ← Nat.div_div_eq_div_mul, show (10 * x + chk x) / 10 = x by omega]
theorem chk_dg (x : Nat) : chk x = dg (cd x) 4 := by
  have hc := chk_lt x
  unfold dg cd
  rw [show 4 - 4 = 0 by omega, Nat.pow_zero, Nat.div_one]
  omega
set_option maxHeartbeats 4000000 in
theorem c_X1_weight (l : Launch) (dC : Nat → ClassId) (dI : Nat → Nat → Nat) (dA : Nat → ClassId) (q : Nat) (h : q < 5) : Met l yX1_weight (ws_ yX1_weight cX1_weight 1 (some .int)) (rmD 0 0 0) (uPc [.int (nI q)] (fun _ => True) dC dI dA) (uQi (nI (wgt q))) 0 0 noF := by
  refine u_meti (own := RX1) (by decide) rfl (Nat.le_of_ble_eq_true rfl) fun p e R s m args below meth c Q SF rk hP hK hret ls hl => ?_
  have hx := SF.1
  have hb := SF.2.1
  have hml := SF.2.2.1
  have hown := SF.2.2.2.1
  have hts := SF.2.2.2.2
  have hl : lv_has ls 1 [(0, .int (nI q))] := hl
  refine lv_iload_n hx hb dX1_weight_0 rfl (lv_at hl 0 rfl) ?_
  refine lv_if_eq (tgt := 9) hx hb dX1_weight_1 (by decide) (fun c_1 => ?_) (fun c_1 => ?_)
  · have c_1 : q = 0 := (nI_eq (a := q) (b := 0) (by omega) (by omega)).mp c_1
    refine lv_iconst (v := nI 3) hx hb dX1_weight_9 (by decide) ?_
    refine lv_goto (tgt := 14) hx hb dX1_weight_10 (by decide) ?_
    exact hret _ _ _ (by rw [wgt, if_pos (by omega)]) dX1_weight_14
  · have c_1 : ¬ (q = 0) := fun q9 => c_1 ((nI_eq (a := q) (b := 0) (by omega) (by omega)).mpr q9)
    refine lv_iload_n hx hb dX1_weight_4 rfl (lv_at hl 0 rfl) ?_
    refine lv_iconst (v := nI 2) hx hb dX1_weight_5 (by decide) ?_
    refine lv_icmp_ne (tgt := 13) hx hb dX1_weight_6 (by decide) (fun c_6 => ?_) (fun c_6 => ?_)
    · have c_6 : ¬ (q = 2) := fun q9 => c_6 ((nI_eq (a := q) (b := 2) (by omega) (by omega)).mpr q9)
      refine lv_iconst (v := nI 1) hx hb dX1_weight_13 (by decide) ?_
      exact hret _ _ _ (by rw [wgt, if_neg (by omega)]) dX1_weight_14
    · have c_6 : q = 2 := (nI_eq (a := q) (b := 2) (by omega) (by omega)).mp c_6
      refine lv_iconst (v := nI 3) hx hb dX1_weight_9 (by decide) ?_
      refine lv_goto (tgt := 14) hx hb dX1_weight_10 (by decide) ?_
      exact hret _ _ _ (by rw [wgt, if_pos (by omega)]) dX1_weight_14

set_option maxHeartbeats 4000000 in
theorem c_X1_digitOf (l : Launch) (dC : Nat → ClassId) (dI : Nat → Nat → Nat) (dA : Nat → ClassId) (x : Nat) (q : Nat) (h1 : x < 100000) (h2 : q < 4) : Met l yX1_digitOf (ws_ yX1_digitOf cX1_digitOf 4 (some .int)) (rmD 0 0 0) (uPc [.int (nI x), .int (nI q)] (fun _ => True) dC dI dA) (uQi (nI (d4 x q))) 0 0 noF := by
  refine u_meti (own := RX1) (by decide) rfl (Nat.le_of_ble_eq_true rfl) fun p e R s m args below meth c Q SF rk hP hK hret ls hl => ?_
  have hx := SF.1
  have hb := SF.2.1
  have hml := SF.2.2.1
  have hown := SF.2.2.2.1
  have hts := SF.2.2.2.2
  have hl : lv_has ls 4 [(0, .int (nI x)), (1, .int (nI q))] := hl
  refine lv_iload_n hx hb dX1_digitOf_0 rfl (lv_at hl 0 rfl) ?_
  refine u_top (y := nI (x / 10 ^ 0)) (by simp) ?_
  refine lv_istore_n (lv' := [(2, .int (nI (x / 10 ^ 0))), (0, .int (nI x)), (1, .int (nI q))]) hx hb dX1_digitOf_1 rfl hl (by decide) rfl (fun ls hl => ?_)
  refine lv_iconst (v := nI 3) hx hb dX1_digitOf_2 (by decide) ?_
  refine lv_istore_n (lv' := [(3, .int (nI 3)), (2, .int (nI (x / 10 ^ 0))), (0, .int (nI x)), (1, .int (nI q))]) hx hb dX1_digitOf_3 rfl hl (by decide) rfl (fun ls hl => ?_)
  have lp4 : ∀ (k0 : Nat) (j : Nat), j ≤ 3 - q → 3 - q < j + k0 → ∀ ls : Array Slot, lv_has ls 4 [(3, .int (nI (3 - j))), (2, .int (nI (x / 10 ^ j))), (0, .int (nI x)), (1, .int (nI q))] → W p l e R s m args below meth c s.heap [] 0 0 Q (F0 m 4 ls []) := by
    intro k0
    induction k0 with
    | zero =>
      intro j hj1 hj2; omega
    | succ k0 ih =>
      intro j hj1 hj2 ls hl
      have ih4 := ih
      have hdv : x / 10 ^ j ≤ x := Nat.div_le_self _ _
      refine lv_iload_n hx hb dX1_digitOf_4 rfl (lv_at hl 0 rfl) ?_
      refine lv_iload_n hx hb dX1_digitOf_5 rfl (lv_at hl 3 rfl) ?_
      refine lv_icmp_le (tgt := 20) hx hb dX1_digitOf_6 (by decide) (fun c_6 => ?_) (fun c_6 => ?_)
      · have c_6 : 3 - j ≤ q := (nI_leI (a := 3 - j) (b := q) (by omega) (by omega)).mp c_6
        refine lv_iload_n hx hb dX1_digitOf_20 rfl (lv_at hl 1 rfl) ?_
        refine lv_bipush (v := nI 10) hx hb dX1_digitOf_21 (by decide) ?_
        refine lv_irem hx hb dX1_digitOf_23 (by decide) ?_
        refine u_top (pk_rem (by omega) (by omega) (by omega)) ?_
        exact hret _ _ _ (by rw [d4, show j = 3 - q by omega]) dX1_digitOf_24
      · have c_6 : ¬ (3 - j ≤ q) := fun q9 => c_6 ((nI_leI (a := 3 - j) (b := q) (by omega) (by omega)).mpr q9)
        refine lv_iload_n hx hb dX1_digitOf_9 rfl (lv_at hl 1 rfl) ?_
        refine lv_bipush (v := nI 10) hx hb dX1_digitOf_10 (by decide) ?_
        refine lv_idiv hx hb dX1_digitOf_12 (by decide) ?_
        refine u_top (pk_div (by omega) (by omega) (by omega)) ?_
        refine u_top (y := nI (x / 10 ^ (j + 1))) (by rw [Nat.div_div_eq_div_mul, ← Nat.pow_succ]) ?_
        refine lv_istore_n (lv' := [(2, .int (nI (x / 10 ^ (j + 1)))), (3, .int (nI (3 - j))), (0, .int (nI x)), (1, .int (nI q))]) hx hb dX1_digitOf_13 rfl hl (by decide) rfl (fun ls hl => ?_)
        refine lv_iinc (v := nI (3 - (j + 1))) (lv' := [(3, .int (nI (3 - (j + 1)))), (2, .int (nI (x / 10 ^ (j + 1)))), (0, .int (nI x)), (1, .int (nI q))]) hx hb dX1_digitOf_14 hl (k := 1) rfl (by rw [show 3 - j = 3 - (j + 1) + 1 by omega]; exact nI_down) (by decide) rfl (fun ls hl => ?_)
        refine lv_goto (tgt := 4) hx hb dX1_digitOf_17 (by decide) ?_
        exact ih4 (j + 1) (by omega) (by omega) ls (lv_sub hl [0, 1, 2, 3] rfl)
  exact lp4 (3 - q + 1) 0 (by omega) (by omega) ls (lv_sub hl [0, 1, 2, 3] rfl)

set_option maxHeartbeats 4000000 in
theorem c_X1_check (l : Launch) (dC : Nat → ClassId) (dI : Nat → Nat → Nat) (dA : Nat → ClassId) (x : Nat) (h1 : x < 10000) : Met l yX1_check (ws_ yX1_check cX1_check 3 (some .int)) (rmD 1 0 0) (uPc [.int (nI x)] (fun _ => True) dC dI dA) (uQi (nI (chk x))) 0 0 noF := by
  refine u_meti (own := RX1) (by decide) rfl (Nat.le_of_ble_eq_true rfl) fun p e R s m args below meth c Q SF rk hP hK hret ls hl => ?_
  have hx := SF.1
  have hb := SF.2.1
  have hml := SF.2.2.1
  have hown := SF.2.2.2.1
  have hts := SF.2.2.2.2
  have hl : lv_has ls 3 [(0, .int (nI x))] := hl
  refine lv_iconst (v := nI 0) hx hb dX1_check_0 (by decide) ?_
  refine lv_istore_n (lv' := [(1, .int (nI 0)), (0, .int (nI x))]) hx hb dX1_check_1 rfl hl (by decide) rfl (fun ls hl => ?_)
  refine lv_iconst (v := nI 0) hx hb dX1_check_2 (by decide) ?_
  refine lv_istore_n (lv' := [(2, .int (nI 0)), (1, .int (nI 0)), (0, .int (nI x))]) hx hb dX1_check_3 rfl hl (by decide) rfl (fun ls hl => ?_)
  have lp4 : ∀ (k0 : Nat) (k : Nat), k ≤ 4 → 4 < k + k0 → ∀ ls : Array Slot, lv_has ls 3 [(2, .int (nI k)), (1, .int (nI (sumN (fun j => wgt j * d4 x j) k))), (0, .int (nI x))] → W p l e R s m args below meth c s.heap [] 0 0 Q (F0 m 4 ls []) := by
    intro k0
    induction k0 with
    | zero =>
      intro k hk1 hk2; omega
    | succ k0 ih =>
      intro k hk1 hk2 ls hl
      have ih4 := ih
      have hs9 : sumN (fun j => wgt j * d4 x j) k ≤ k * 27 := sumN_le k (fun j _ => Nat.le_trans (Nat.mul_le_mul (wgt_le j) (Nat.le_of_lt_succ (d4_lt x j))) (by decide))
      have hw9 := wgt_le k
      have hd9 := d4_lt x k
      have hm9 : wgt k * d4 x k ≤ 3 * 10 := Nat.mul_le_mul hw9 (by omega)
      refine lv_iload_n hx hb dX1_check_4 rfl (lv_at hl 0 rfl) ?_
      refine lv_iconst (v := nI 4) hx hb dX1_check_5 (by decide) ?_
      refine lv_icmp_ge (tgt := 28) hx hb dX1_check_6 (by decide) (fun c_6 => ?_) (fun c_6 => ?_)
      · have c_6 : 4 ≤ k := (nI_leI (a := 4) (b := k) (by omega) (by omega)).mp c_6
        refine lv_bipush (v := nI 10) hx hb dX1_check_28 (by decide) ?_
        refine lv_iload_n hx hb dX1_check_30 rfl (lv_at hl 1 rfl) ?_
        refine lv_bipush (v := nI 10) hx hb dX1_check_31 (by decide) ?_
        refine lv_irem hx hb dX1_check_33 (by decide) ?_
        refine u_top (pk_rem (by omega) (by omega) (by omega)) ?_
        refine lv_isub hx hb dX1_check_34 ?_
        refine u_top (pk_sub (by omega)) ?_
        refine lv_bipush (v := nI 10) hx hb dX1_check_35 (by decide) ?_
        refine lv_irem hx hb dX1_check_37 (by decide) ?_
        refine u_top (pk_rem (by omega) (by omega) (by omega)) ?_
        exact hret _ _ _ (by rw [show k = 4 by omega]; exact congrArg nI (by simp [sumN, wgt, d4, chk]; omega)) dX1_check_38
      · have c_6 : ¬ (4 ≤ k) := fun q9 => c_6 ((nI_leI (a := 4) (b := k) (by omega) (by omega)).mpr q9)
        refine lv_iload_n hx hb dX1_check_9 rfl (lv_at hl 1 rfl) ?_
        refine lv_iload_n hx hb dX1_check_10 rfl (lv_at hl 0 rfl) ?_
        refine u_run (u_rS (As := [.int (nI k)]) SF hK (d := 0) (rk.le (Nat.le_of_ble_eq_true rfl)) (c_X1_weight l dC dI dA k (by omega)) (lw_S q979 q980 q112 q981) (n := 1) (by decide +kernel) rfl (by decide) (trivial) hl.1 (Nat.le_of_ble_eq_true rfl) ⟨Nat.zero_le _, Nat.zero_le _⟩ rfl dX1_check_11) ?_
        refine u_top (y := nI (wgt k)) rfl ?_
        refine lv_iload_n hx hb dX1_check_14 rfl (lv_at hl 2 rfl) ?_
        refine lv_iload_n hx hb dX1_check_15 rfl (lv_at hl 0 rfl) ?_
        refine u_run (u_rS (As := [.int (nI x), .int (nI k)]) SF hK (d := 0) (rk.le (Nat.le_of_ble_eq_true rfl)) (c_X1_digitOf l dC dI dA x k (by omega) (by omega)) (lw_S q982 q983 q112 q984) (n := 2) (by decide +kernel) rfl (by decide) (trivial) hl.1 (Nat.le_of_ble_eq_true rfl) ⟨Nat.zero_le _, Nat.zero_le _⟩ rfl dX1_check_16) ?_
        refine u_top (y := nI (d4 x k)) rfl ?_
        refine lv_imul hx hb dX1_check_19 ?_
        refine u_top (pk_mul _ _) ?_
        refine lv_iadd hx hb dX1_check_20 ?_
        refine u_top (nI_add _ _) ?_
        refine lv_istore_n (lv' := [(1, .int (nI (sumN (fun j => wgt j * d4 x j) k + ((wgt k) * (d4 x k))))), (2, .int (nI k)), (0, .int (nI x))]) hx hb dX1_check_21 rfl hl (by decide) rfl (fun ls hl => ?_)
        refine lv_iinc (v := nI (k + 1)) (lv' := [(2, .int (nI (k + 1))), (1, .int (nI (sumN (fun j => wgt j * d4 x j) k + ((wgt k) * (d4 x k))))), (0, .int (nI x))]) hx hb dX1_check_22 hl (k := 1) rfl (nI_add _ 1) (by decide) rfl (fun ls hl => ?_)
        refine lv_goto (tgt := 4) hx hb dX1_check_25 (by decide) ?_
        exact ih4 (k + 1) (by omega) (by omega) ls (lv_sub hl [0, 1, 2] rfl)
  exact lp4 (4 + 1) 0 (by omega) (by omega) ls (lv_sub hl [0, 1, 2] rfl)
end CL2
