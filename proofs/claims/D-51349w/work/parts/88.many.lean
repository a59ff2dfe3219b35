set_option maxRecDepth 100000
section MANY
variable {p : Program} {l : Launch} {e : Env} {R : Room} {s : State} {m : MethodId} {args : Array Value} {below : List Frame} {meth : Method} {c : Code} {H : Heap} {locs : List Loc} {Q : State → Prop}
variable {cc : ByteArray} {pc nL : Nat} {ls : Array Slot} {rest : List Value} {dC : Nat → ClassId} {dI : Nat → Nat → Nat} {dA : Nat → ClassId} {a : Nat → Nat} {M : Nat → Nat → Int32} {H0 : Heap}

def allN (p : Nat → Bool) : Nat → Bool
  | 0 => true
  | k + 1 => allN p k && p k
theorem allN_f {p : Nat → Bool} {k : Nat} (h : p k = false) : ∀ {n : Nat}, k < n → allN p n = false
  | 0, h1 => absurd h1 (Nat.not_lt_zero k)
  | n + 1, h1 => by
    rw [allN]
    rcases Nat.lt_succ_iff_lt_or_eq.mp h1 with q | q
    · rw [allN_f h q]; rfl
    · rw [← q, h, Bool.and_false]
/-- the tests in an array -/
def TSA (dC : Nat → ClassId) (dI : Nat → Nat → Nat) (dA : Nat → ClassId) (g b b2 : Nat → Nat) (Hd2 : Nat → Int32) (cs : Nat → ClassId) (y nt : Nat) (ia qa : Nat → Nat) (za : Nat → Int32) (H : Heap) : Prop := cP dC dI y (.inl (dA 7, nt, .inr (.inr (.inr (.inr (fun j => if j < nt then some (qa j) else none)))))) H ∧
  ∀ j, j < nt → ia j < 12 ∧ lamP (cs (ia j)) (lcap (g 0) (b 0) (b2 0) (za j) (ia j)) (qa j) H ∧ (ia j = 4 → ∃ t, t < tn Hd2 ∧ za j = nI t)
set_option maxHeartbeats 4000000 in
theorem c_X1_areSo (l : Launch) (dC : Nat → ClassId) (dI : Nat → Nat → Nat) (dA : Nat → ClassId) (g : Nat → Nat) (b : Nat → Nat) (mc : Nat → Int32) (S : Nat → Int32) (Hd : Nat → Int32) (n : Nat → Int32) (b2 : Nat → Nat) (mc2 : Nat → Int32) (S2 : Nat → Int32) (Hd2 : Nat → Int32) (cs : Nat → ClassId) (y : Nat) (nt : Nat) (ia : Nat → Nat) (qa : Nat → Nat) (za : Nat → Int32) (o : Nat) (ho : o < ln S) (hnt : nt ≤ 2) (hS1 : SWf S) (hT : TWf Hd) (hS2 : SWf S2) (hT2 : TWf Hd2) (hln : ln S2 = ln S) : Met l yX1_areSo (ws_ yX1_areSo cX1_areSo 6 (some (.boolean))) (rmD 13 0 0) (uPx [.int (nI o), .ref y] (fun U H => (TX dC dI dA g b mc S Hd n b2 mc2 S2 Hd2 cs U H) ∧ TSA dC dI dA g b b2 Hd2 cs y nt ia qa za H) dC dI dA) (uQi (nI (allN (fun j => tf S S2 Hd2 (ia j) (za j) o) nt).toNat)) 0 0 noF := by
  refine x_metz (own := RX1) (by decide) rfl (Nat.le_of_ble_eq_true rfl) fun p e R s m args below meth c Q SF rk hX hK hret ls hl => ?_
  have hx := SF.1
  have hb := SF.2.1
  have hml := SF.2.2.1
  have hown := SF.2.2.2.1
  have hts := SF.2.2.2.2
  have hTX := hX.1
  have hP1 := hX.1.1
  have hO := hX.1.2.1
  have hCE := hX.1.2.2.2.1
  have hA7 := hX.2.1
  have hTs := hX.2.2
  have hl : lv_has ls 6 [(0, .int (nI o)), (1, .ref y)] := hl
  have hL := hS1.2.1
  refine lv_aload_n hx hb dX1_areSo_0 rfl (lv_at hl 1 rfl) ?_
  refine lv_astore_n (lv' := [(2, .ref y), (0, .int (nI o)), (1, .ref y)]) hx hb dX1_areSo_1 rfl hl (by decide) rfl (fun ls hl => ?_)
  refine lv_aload_n hx hb dX1_areSo_2 rfl (lv_at hl 0 rfl) ?_
  refine va_alen hx hb hK hA7 0 7 rfl rfl (v := nI nt) rfl dX1_areSo_3 ?_
  refine lv_istore_n (lv' := [(3, .int (nI nt)), (2, .ref y), (0, .int (nI o)), (1, .ref y)]) hx hb dX1_areSo_4 rfl hl (by decide) rfl (fun ls hl => ?_)
  refine lv_iconst (v := nI 0) hx hb dX1_areSo_5 (by decide) ?_
  refine lv_istore (lv' := [(4, .int (nI 0)), (3, .int (nI nt)), (2, .ref y), (0, .int (nI o)), (1, .ref y)]) hx hb dX1_areSo_6 hl (by decide) rfl (fun ls hl => ?_)
  have lp8 : ∀ (k0 : Nat) (j : Nat), j ≤ nt → allN (fun j => tf S S2 Hd2 (ia j) (za j) o) j = true → nt < j + k0 → ∀ ls : Array Slot, lv_has ls 6 [(4, .int (nI j)), (3, .int (nI nt)), (2, .ref y), (0, .int (nI o)), (1, .ref y)] → W p l e R s m args below meth c s.heap [] 0 0 Q (F0 m 8 ls []) := by
    intro k0
    induction k0 with
    | zero =>
      intro j hj1 hja hj2; omega
    | succ k0 ih =>
      intro j hj1 hja hj2 ls hl
      have ih8 := ih
      refine lv_iload hx hb dX1_areSo_8 (lv_at hl 0 rfl) ?_
      refine lv_iload_n hx hb dX1_areSo_10 rfl (lv_at hl 1 rfl) ?_
      refine lv_icmp_ge (tgt := 39) hx hb dX1_areSo_11 (by decide) (fun c_11 => ?_) (fun c_11 => ?_)
      · have c_11 : nt ≤ j := (nI_leI (a := nt) (b := j) (by omega) (by omega)).mp c_11
        refine lv_iconst (v := nI 1) hx hb dX1_areSo_39 (by decide) ?_
        exact hret _ _ _ (u_tt (by rw [show nt = j by omega]; exact hja)) dX1_areSo_40
      · have c_11 : ¬ (nt ≤ j) := fun q9 => c_11 ((nI_leI (a := nt) (b := j) (by omega) (by omega)).mpr q9)
        refine lv_aload_n hx hb dX1_areSo_14 rfl (lv_at hl 2 rfl) ?_
        refine lv_iload hx hb dX1_areSo_15 (lv_at hl 0 rfl) ?_
        refine g_aald hx hb hK hA7 (t0 := 7) rfl (i := j) (by omega) (by omega) (if_pos (by omega)) dX1_areSo_17 ?_
        refine lv_astore (lv' := [(5, .ref (qa j)), (4, .int (nI j)), (3, .int (nI nt)), (2, .ref y), (0, .int (nI o)), (1, .ref y)]) hx hb dX1_areSo_18 hl (by decide) rfl (fun ls hl => ?_)
        refine lv_aload hx hb dX1_areSo_20 (lv_at hl 0 rfl) ?_
        refine lv_iload_n hx hb dX1_areSo_22 rfl (lv_at hl 4 rfl) ?_
        refine x_run5 (tst_run (i := ia j) (z := za j) SF hK (rk.le (Nat.le_of_ble_eq_true rfl)) (hTs j (by omega)).1 hS1 hT hS2 hT2 (by omega) (by omega) (hTs j (by omega)).2.2 hTX (hTs j (by omega)).2.1 q1348 hl.1 rfl (by decide) ⟨Nat.zero_le _, Nat.zero_le _⟩ dX1_areSo_23) ?_
        refine lv_if_ne (tgt := 33) hx hb dX1_areSo_28 (by decide) (fun c_28 => ?_) (fun c_28 => ?_)
        · have c_28 : ¬ ((tf S S2 Hd2 (ia j) (za j) o) = false) := fun q9 => c_28 (u_zb.mpr q9)
          refine lv_iinc (v := nI (j + 1)) (lv' := [(4, .int (nI (j + 1))), (5, .ref (qa j)), (3, .int (nI nt)), (2, .ref y), (0, .int (nI o)), (1, .ref y)]) hx hb dX1_areSo_33 hl (k := 1) rfl (nI_add _ 1) (by decide) rfl (fun ls hl => ?_)
          refine lv_goto (tgt := 8) hx hb dX1_areSo_36 (by decide) ?_
          exact ih8 (j + 1) (by omega) (by rw [allN, hja]; simpa using c_28) (by omega) ls (lv_sub hl [0, 2, 3, 4, 5] rfl)
        · have c_28 : (tf S S2 Hd2 (ia j) (za j) o) = false := u_zb.mp c_28
          refine lv_iconst (v := nI 0) hx hb dX1_areSo_31 (by decide) ?_
          exact hret _ _ _ (u_ff (by rw [allN_f (k := j) (by simpa using c_28) (by omega)]; decide)) dX1_areSo_32
  exact lp8 (nt + 1) 0 (by omega) rfl (by omega) ls (lv_sub hl [0, 1, 2, 3, 4] rfl)

set_option maxHeartbeats 4000000 in
theorem c_X1_many (l : Launch) (dC : Nat → ClassId) (dI : Nat → Nat → Nat) (dA : Nat → ClassId) (g : Nat → Nat) (b : Nat → Nat) (mc : Nat → Int32) (S : Nat → Int32) (Hd : Nat → Int32) (n : Nat → Int32) (b2 : Nat → Nat) (mc2 : Nat → Int32) (S2 : Nat → Int32) (Hd2 : Nat → Int32) (cs : Nat → ClassId) (y : Nat) (nt : Nat) (ia : Nat → Nat) (qa : Nat → Nat) (za : Nat → Int32) (hnt : nt ≤ 2) (hS1 : SWf S) (hT : TWf Hd) (hS2 : SWf S2) (hT2 : TWf Hd2) (hln : ln S2 = ln S) : Met l yX1_many (ws_ yX1_many cX1_many 4 (some (.int))) (rmD 14 0 0) (uPx [.ref (g 0), .ref y] (fun U H => (TX dC dI dA g b mc S Hd n b2 mc2 S2 Hd2 cs U H) ∧ TSA dC dI dA g b b2 Hd2 cs y nt ia qa za H) dC dI dA) (uQi (nI (cntN (fun o => allN (fun j => tf S S2 Hd2 (ia j) (za j) o) nt) (ln S)))) 0 0 noF := by
  refine x_meti (own := RX1) (by decide) rfl (Nat.le_of_ble_eq_true rfl) fun p e R s m args below meth c Q SF rk hX hK hret ls hl => ?_
  have hx := SF.1
  have hb := SF.2.1
  have hml := SF.2.2.1
  have hown := SF.2.2.2.1
  have hts := SF.2.2.2.2
  have hTX := hX.1
  have hP1 := hX.1.1
  have hO := hX.1.2.1
  have hCE := hX.1.2.2.2.1
  have hA7 := hX.2.1
  have hTs := hX.2.2
  have hl : lv_has ls 4 [(0, .ref (g 0)), (1, .ref y)] := hl
  have hL := hS1.2.1
  refine lv_iconst (v := nI 0) hx hb dX1_many_0 (by decide) ?_
  refine lv_istore_n (lv' := [(2, .int (nI 0)), (0, .ref (g 0)), (1, .ref y)]) hx hb dX1_many_1 rfl hl (by decide) rfl (fun ls hl => ?_)
  refine lv_iconst (v := nI 0) hx hb dX1_many_2 (by decide) ?_
  refine lv_istore_n (lv' := [(3, .int (nI 0)), (2, .int (nI 0)), (0, .ref (g 0)), (1, .ref y)]) hx hb dX1_many_3 rfl hl (by decide) rfl (fun ls hl => ?_)
  have lp4 : ∀ (k0 : Nat) (k : Nat), k ≤ ln S → ln S < k + k0 → ∀ ls : Array Slot, lv_has ls 4 [(3, .int (nI k)), (2, .int (nI (cntN (fun o => allN (fun j => tf S S2 Hd2 (ia j) (za j) o) nt) k))), (0, .ref (g 0)), (1, .ref y)] → W p l e R s m args below meth c s.heap [] 0 0 Q (F0 m 4 ls []) := by
    intro k0
    induction k0 with
    | zero =>
      intro k hk1 hk2; omega
    | succ k0 ih =>
      intro k hk1 hk2 ls hl
      have ih4 := ih
      refine lv_iload_n hx hb dX1_many_4 rfl (lv_at hl 0 rfl) ?_
      refine lv_aload_n hx hb dX1_many_5 rfl (lv_at hl 2 rfl) ?_
      refine va_get (D := (dC, dI)) (ci := 0) (v := .ref (b 0)) (C := RX1) (T := TX1) (N := 9) hx hb hts in_X1 hown hK hP1 0 rfl rfl 4 (by decide) (hts _ q220) (fun _ h9 => h9) rfl dX1_many_6 ?_
      refine va_getN (D := (dC, dI)) (ci := 1) (v := .ref (b 3)) (C := RX5) (T := TX5) (N := 10) hx hb hts in_X5 hown hK (hO 0 _ rfl) 0 rfl rfl 1 (by decide) (va_Nw.use rfl (hCE.1 3 (by decide))) (fun _ h9 => h9) rfl dX1_many_9 ?_
      refine x_run5 (x_rF (C := RJ20) (As := []) (hK.1 6 _ rfl).2 SF hK (d := 0) (rk.le (Nat.le_of_ble_eq_true rfl)) (c_J20_size l dC dI dA (b 3) (b 4) (ln S) (mc 1) 24 (fun o => if o < ln S then some (b (22 + o)) else none) ) (lw_F q1303 q954 q956 q141 q958) (hCE.2.2 7 (by decide)) (n := 0) (by decide +kernel) rfl (by decide) (g_recv hK (hO 3 _ rfl) (ci := 6) rfl) (XOK.hp) (⟨hO 3 _ rfl, hO 4 _ rfl⟩) hl.1 (Nat.le_of_ble_eq_true rfl) ⟨Nat.zero_le _, Nat.zero_le _⟩ rfl dX1_many_12) ?_
      refine u_top (y := nI (ln S)) rfl ?_
      refine lv_icmp_ge (tgt := 37) hx hb dX1_many_17 (by decide) (fun c_17 => ?_) (fun c_17 => ?_)
      · have c_17 : (ln S) ≤ k := (nI_leI (a := (ln S)) (b := k) (by omega) (by omega)).mp c_17
        refine lv_iload_n hx hb dX1_many_37 rfl (lv_at hl 1 rfl) ?_
        exact hret _ _ _ (by rw [show k = ln S by omega]) dX1_many_38
      · have c_17 : ¬ ((ln S) ≤ k) := fun q9 => c_17 ((nI_leI (a := (ln S)) (b := k) (by omega) (by omega)).mpr q9)
        refine lv_iload_n hx hb dX1_many_20 rfl (lv_at hl 1 rfl) ?_
        refine lv_iload_n hx hb dX1_many_21 rfl (lv_at hl 0 rfl) ?_
        refine lv_aload_n hx hb dX1_many_22 rfl (lv_at hl 3 rfl) ?_
        refine u_run (x_rS (As := [.int (nI k), .ref y]) SF hK (d := 13) (rk.le (Nat.le_of_ble_eq_true rfl)) (c_X1_areSo l dC dI dA g b mc S Hd n b2 mc2 S2 Hd2 cs y nt ia qa za k (by omega) hnt hS1 hT hS2 hT2 hln) (lw_S q1344 q1345 q112 q1346) (n := 2) (by decide +kernel) rfl (by decide) ((XOK.hp.and (XOK.hp.and (XOK.hp.and (CE.ok.and (FT9.ok.and LE.ok))))).and XOK.hp) (hX) hl.1 (Nat.le_of_ble_eq_true rfl) ⟨Nat.zero_le _, Nat.zero_le _⟩ rfl dX1_many_23) ?_
        refine u_top (y := nI ((allN (fun j => tf S S2 Hd2 (ia j) (za j) k) nt).toNat)) rfl ?_
        refine u_run (x_rS (As := [.int (nI ((allN (fun j => tf S S2 Hd2 (ia j) (za j) k) nt).toNat))]) (X := fun _ _ => True) SF hK (d := 0) (rk.le (Nat.le_of_ble_eq_true rfl)) (c_X1_one l dC dI dA (allN (fun j => tf S S2 Hd2 (ia j) (za j) k) nt) ) (lw_S q1351 q1147 q112 q1148) (n := 1) (by decide +kernel) rfl (by decide) (XOK.hp) (trivial) hl.1 (Nat.le_of_ble_eq_true rfl) ⟨Nat.zero_le _, Nat.zero_le _⟩ rfl dX1_many_26) ?_
        refine u_top (y := nI ((allN (fun j => tf S S2 Hd2 (ia j) (za j) k) nt).toNat)) rfl ?_
        refine lv_iadd hx hb dX1_many_29 ?_
        refine u_top (nI_add _ _) ?_
        refine lv_istore_n (lv' := [(2, .int (nI (cntN (fun o => allN (fun j => tf S S2 Hd2 (ia j) (za j) o) nt) k + ((allN (fun j => tf S S2 Hd2 (ia j) (za j) k) nt).toNat)))), (3, .int (nI k)), (0, .ref (g 0)), (1, .ref y)]) hx hb dX1_many_30 rfl hl (by decide) rfl (fun ls hl => ?_)
        refine lv_iinc (v := nI (k + 1)) (lv' := [(3, .int (nI (k + 1))), (2, .int (nI (cntN (fun o => allN (fun j => tf S S2 Hd2 (ia j) (za j) o) nt) k + ((allN (fun j => tf S S2 Hd2 (ia j) (za j) k) nt).toNat)))), (0, .ref (g 0)), (1, .ref y)]) hx hb dX1_many_31 hl (k := 1) rfl (nI_add _ 1) (by decide) rfl (fun ls hl => ?_)
        refine lv_goto (tgt := 4) hx hb dX1_many_34 (by decide) ?_
        exact ih4 (k + 1) (by omega) (by omega) ls (lv_sub hl [0, 1, 2, 3] rfl)
  exact lp4 (ln S + 1) 0 (by omega) (by omega) ls (lv_sub hl [0, 1, 2, 3] rfl)
end MANY
