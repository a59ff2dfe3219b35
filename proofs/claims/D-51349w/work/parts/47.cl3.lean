set_option maxRecDepth 100000
section CL3
variable {p : Program} {l : Launch} {e : Env} {R : Room} {s : State} {m : MethodId} {args : Array Value} {below : List Frame} {meth : Method} {c : Code} {H : Heap} {locs : List Loc} {Q : State → Prop}
variable {cc : ByteArray} {pc nL : Nat} {ls : Array Slot} {rest : List Value} {dC : Nat → ClassId} {dI : Nat → Nat → Nat} {dA : Nat → ClassId} {a : Nat → Nat} {M : Nat → Nat → Int32} {H0 : Heap}

set_option maxHeartbeats 4000000 in
theorem c_X1_areAlike (l : Launch) (dC : Nat → ClassId) (dI : Nat → Nat → Nat) (dA : Nat → ClassId) (b1 : Nat) (b2 : Nat) (h1 : b1 < 10) (h2 : b2 < 10) : Met l yX1_areAlike (ws_ yX1_areAlike cX1_areAlike 2 (some .boolean)) (rmD 1 0 0) (uPc [.int (nI b1), .int (nI b2)] (fun _ => True) dC dI dA) (uQi (nI (alk b1 b2).toNat)) 0 0 noF := by
  refine u_metz (own := RX1) (by decide) rfl (Nat.le_of_ble_eq_true rfl) fun p e R s m args below meth c Q SF rk hP hK hret ls hl => ?_
  have hx := SF.1
  have hb := SF.2.1
  have hml := SF.2.2.1
  have hown := SF.2.2.2.1
  have hts := SF.2.2.2.2
  have hl : lv_has ls 2 [(0, .int (nI b1)), (1, .int (nI b2))] := hl
  refine lv_bipush (v := nI 10) hx hb dX1_areAlike_0 (by decide) ?_
  refine lv_iload_n hx hb dX1_areAlike_2 rfl (lv_at hl 0 rfl) ?_
  refine lv_iload_n hx hb dX1_areAlike_3 rfl (lv_at hl 1 rfl) ?_
  refine va_mmin hx hb (hml.trans hl.1.symm) hown (hts _ q1176) (hts _ q522) (hts _ q131) (hts _ q523) (Nat.le_trans (Nat.le_of_ble_eq_true rfl) rk.1) (Nat.le_trans (Nat.le_of_ble_eq_true rfl) rk.2) (Nat.zero_le _) (Nat.zero_le _) dX1_areAlike_4 ?_
  refine u_top (nI_min (by omega) (by omega)) ?_
  obtain ⟨lo, hlo⟩ : ∃ z, z = min b1 b2 := ⟨_, rfl⟩
  refine u_top (y := nI lo) (by rw [hlo]) ?_
  refine lv_imul hx hb dX1_areAlike_7 ?_
  refine u_top (pk_mul _ _) ?_
  refine lv_iload_n hx hb dX1_areAlike_8 rfl (lv_at hl 0 rfl) ?_
  refine lv_iload_n hx hb dX1_areAlike_9 rfl (lv_at hl 1 rfl) ?_
  refine va_mmax hx hb (hml.trans hl.1.symm) hown (hts _ q1177) (hts _ q504) (hts _ q131) (hts _ q505) (Nat.le_trans (Nat.le_of_ble_eq_true rfl) rk.1) (Nat.le_trans (Nat.le_of_ble_eq_true rfl) rk.2) (Nat.zero_le _) (Nat.zero_le _) dX1_areAlike_10 ?_
  refine u_top (nI_max (by omega) (by omega)) ?_
  obtain ⟨hi, hhi⟩ : ∃ z, z = max b1 b2 := ⟨_, rfl⟩
  refine u_top (y := nI hi) (by rw [hhi]) ?_
  refine lv_iadd hx hb dX1_areAlike_13 ?_
  refine u_top (nI_add _ _) ?_
  by_cases hk9 : 10 * lo + hi = 6 ∨ 10 * lo + hi = 17 ∨ 10 * lo + hi = 38 ∨ 10 * lo + hi = 49 ∨ 10 * lo + hi = 56
  · rcases hk9 with h9 | h9 | h9 | h9 | h9
    · refine lv_lookup (off := 50) (tgt := 64) hx hb dX1_areAlike_14 (by decide) (by rw [h9]; decide) (by decide) ?_
      refine lv_iconst (v := nI 1) hx hb dX1_areAlike_64 (by decide) ?_
      refine lv_goto (tgt := 69) hx hb dX1_areAlike_65 (by decide) ?_
      exact hret _ _ _ (u_tt (by rw [alk_iff hlo hhi]; omega)) dX1_areAlike_69
    · refine lv_lookup (off := 50) (tgt := 64) hx hb dX1_areAlike_14 (by decide) (by rw [h9]; decide) (by decide) ?_
      refine lv_iconst (v := nI 1) hx hb dX1_areAlike_64 (by decide) ?_
      refine lv_goto (tgt := 69) hx hb dX1_areAlike_65 (by decide) ?_
      exact hret _ _ _ (u_tt (by rw [alk_iff hlo hhi]; omega)) dX1_areAlike_69
    · refine lv_lookup (off := 50) (tgt := 64) hx hb dX1_areAlike_14 (by decide) (by rw [h9]; decide) (by decide) ?_
      refine lv_iconst (v := nI 1) hx hb dX1_areAlike_64 (by decide) ?_
      refine lv_goto (tgt := 69) hx hb dX1_areAlike_65 (by decide) ?_
      exact hret _ _ _ (u_tt (by rw [alk_iff hlo hhi]; omega)) dX1_areAlike_69
    · refine lv_lookup (off := 50) (tgt := 64) hx hb dX1_areAlike_14 (by decide) (by rw [h9]; decide) (by decide) ?_
      refine lv_iconst (v := nI 1) hx hb dX1_areAlike_64 (by decide) ?_
      refine lv_goto (tgt := 69) hx hb dX1_areAlike_65 (by decide) ?_
      exact hret _ _ _ (u_tt (by rw [alk_iff hlo hhi]; omega)) dX1_areAlike_69
    · refine lv_lookup (off := 50) (tgt := 64) hx hb dX1_areAlike_14 (by decide) (by rw [h9]; decide) (by decide) ?_
      refine lv_iconst (v := nI 1) hx hb dX1_areAlike_64 (by decide) ?_
      refine lv_goto (tgt := 69) hx hb dX1_areAlike_65 (by decide) ?_
      exact hret _ _ _ (u_tt (by rw [alk_iff hlo hhi]; omega)) dX1_areAlike_69
  · refine lv_lookup (off := 54) (tgt := 68) hx hb dX1_areAlike_14 (by decide) (by rw [nI_toInt (by omega)]; simp [Jvm.Op.lookupswitch.offset]; omega) (by decide) ?_
    refine lv_iconst (v := nI 0) hx hb dX1_areAlike_68 (by decide) ?_
    exact hret _ _ _ (u_ff (by rw [alk_iff hlo hhi]; omega)) dX1_areAlike_69
end CL3
