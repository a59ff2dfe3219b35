set_option maxRecDepth 100000
section AL3
variable {p : Program} {l : Launch} {e : Env} {R : Room} {s : State} {m : MethodId} {args : Array Value} {below : List Frame} {meth : Method} {c : Code} {H : Heap} {locs : List Loc} {Q : State → Prop}
variable {cc : ByteArray} {pc nL : Nat} {ls : Array Slot} {rest : List Value} {dC : Nat → ClassId} {dI : Nat → Nat → Nat} {dA : Nat → ClassId} {a : Nat → Nat} {M : Nat → Nat → Int32} {H0 : Heap}

def filF (f : Nat → Int32) (v : Int32) (k : Nat) : Nat → Int32 := fun i => if i < k then v else f i
theorem filF_0 {f : Nat → Int32} {v : Int32} : filF f v 0 = f := by funext i; exact if_neg (Nat.not_lt_zero i)
theorem filF_s {f : Nat → Int32} {v : Int32} {k : Nat} : upd (filF f v k) k v = filF f v (k + 1) := by
  funext i
  unfold upd filF
  by_cases h : i = k
  · rw [if_pos h, if_pos (by omega)]
  · rw [if_neg h]
    by_cases h2 : i < k
    · rw [if_pos h2, if_pos (by omega)]
    · rw [if_neg h2, if_neg (by omega)]
set_option maxHeartbeats 4000000 in
theorem c_J15_fill (l : Launch) (dC : Nat → ClassId) (dI : Nat → Nat → Nat) (dA : Nat → ClassId) (y : Nat) (n : Nat) (f : Nat → Int32) (hs : Nat) (w9 : Int32) (hn : n ≤ 100) : Met l yJ15_fill (ws_ yJ15_fill cJ15_fill 4 none) (rmD 0 (0) (0)) (gPx [.ref y, .int w9] (fun U H => cP dC dI y (.inl (dA 0, n, .inl f)) H) hs dC dI dA) (gQ hs (fun q => q = y) (fun v H => v = none ∧ cP dC dI y (.inl (dA 0, n, .inl (filF f w9 n))) H ∧ H.size = hs)) (0) (0) (gF (fun q => q = y) hs) := by
  refine g_metv (own := RJ15) (by decide) rfl (Nat.le_of_ble_eq_true rfl) fun p e R s m args below meth c Q SF rk hRR hX hK hin hret ls hl => ?_
  have hx := SF.1
  have hb := SF.2.1
  have hml := SF.2.2.1
  have hown := SF.2.2.2.1
  have hts := SF.2.2.2.2
  have hz0 := hX.2
  have hz : hs ≤ s.heap.size := Nat.le_of_eq hX.2.symm
  have hX := hX.1
  have hRc := hRR.1
  have hRs := hRR.2
  have gFs : ∀ q : Nat, s.heap.size ≤ q → gF (fun q => q = y) hs q := fun q h => Or.inr (hz0 ▸ h)
  have hS : va_S (gF (fun q => q = y) hs) s.heap s.heap [] := va_S.rf
  have hl : lv_has ls 4 [(0, .ref y), (1, .int w9)] := hl
  have hsx : s.heap.size = hs := hz0
  have hP := hX
  refine lv_iconst (v := nI 0) hx hb dJ15_fill_0 (by decide) ?_
  refine lv_istore_n (lv' := [(2, .int (nI 0)), (0, .ref y), (1, .int w9)]) hx hb dJ15_fill_1 rfl hl (by decide) rfl (fun ls hl => ?_)
  refine lv_aload_n hx hb dJ15_fill_2 rfl (lv_at hl 1 rfl) ?_
  refine va_alen hx hb hK hP 0 0 rfl rfl (v := nI n) rfl dJ15_fill_3 ?_
  refine lv_istore_n (lv' := [(3, .int (nI n)), (2, .int (nI 0)), (0, .ref y), (1, .int w9)]) hx hb dJ15_fill_4 rfl hl (by decide) rfl (fun ls hl => ?_)
  have lp5 : ∀ (k0 : Nat) (k : Nat), k ≤ n → n < k + k0 → ∀ (H : Heap) (locs : List Loc), cP dC dI y (.inl (dA 0, n, .inl (filF f w9 k))) H → H.size = hs → hs ≤ H.size → va_S (gF (fun q => q = y) hs) s.heap H locs → ∀ ls : Array Slot, lv_has ls 4 [(3, .int (nI n)), (2, .int (nI k)), (0, .ref y), (1, .int w9)] → W p l e R s m args below meth c H locs 0 0 Q (F0 m 5 ls []) := by
    intro k0
    induction k0 with
    | zero =>
      intro k hk1 hk2; omega
    | succ k0 ih =>
      intro k hk1 hk2 H locs hP hsx hz hS ls hl
      have ih5 := ih
      refine lv_iload_n hx hb dJ15_fill_5 rfl (lv_at hl 1 rfl) ?_
      refine lv_iload_n hx hb dJ15_fill_6 rfl (lv_at hl 0 rfl) ?_
      refine lv_icmp_ge (tgt := 20) hx hb dJ15_fill_7 (by decide) (fun c_7 => ?_) (fun c_7 => ?_)
      · have c_7 : n ≤ k := (nI_leI (a := n) (b := k) (by omega) (by omega)).mp c_7
        exact hret _ _ _ _ _ _ (⟨rfl, by rw [show n = k by omega]; rw [show n = k by omega] at hP; exact hP, hsx⟩) hS (by omega) (by omega) dJ15_fill_20
      · have c_7 : ¬ (n ≤ k) := fun q9 => c_7 ((nI_leI (a := n) (b := k) (by omega) (by omega)).mpr q9)
        refine lv_aload_n hx hb dJ15_fill_10 rfl (lv_at hl 2 rfl) ?_
        refine lv_iload_n hx hb dJ15_fill_11 rfl (lv_at hl 1 rfl) ?_
        refine lv_iload_n hx hb dJ15_fill_12 rfl (lv_at hl 3 rfl) ?_
        refine g_iast hx hb hK hP hS (Or.inl rfl) (t0 := 0) rfl (i := k) (by omega) (by omega) dJ15_fill_13 (fun H locs hP hz9 oq hS => ?_)
        rw [filF_s] at hP
        have hsx := hz9.trans hsx
        have hz := Nat.le_trans hz (Nat.le_of_eq hz9.symm)
        refine lv_iinc (v := nI (k + 1)) (lv' := [(2, .int (nI (k + 1))), (3, .int (nI n)), (0, .ref y), (1, .int w9)]) hx hb dJ15_fill_14 hl (k := 1) rfl (nI_add _ 1) (by decide) rfl (fun ls hl => ?_)
        refine lv_goto (tgt := 5) hx hb dJ15_fill_17 (by decide) ?_
        exact ih5 (k + 1) (by omega) (by omega) _ _ hP hsx hz hS ls (lv_sub hl [1, 0, 2, 3] rfl)
  exact lp5 (n + 1) 0 (by omega) (by omega) _ _ (by rw [filF_0]; exact hP) hsx hz hS ls (lv_sub hl [0, 1, 2, 3] rfl)

set_option maxHeartbeats 4000000 in
theorem c_X5_init (l : Launch) (dC : Nat → ClassId) (dI : Nat → Nat → Nat) (dA : Nat → ClassId) (x : Nat) (sz : Nat) (hs : Nat) (i1 : Int32) (i2 : Int32) (hxz : sz ≤ x) (hsz : sz ≤ hs) : Met l yX5_init (ws_ yX5_init cX5_init 3 none) (rmD 4 (9) (72)) (gPx [.ref x, .int i1, .int i2] (fun U H => cP dC dI x (.inr (1, [.null, .null, .null, .null, .null, .null, .null, .int 0, .int 0, .int 0])) H ∧ EN sz U H) hs dC dI dA) (gQ hs (fun q => q = x) (fun v H => v = none ∧ cP dC dI x (.inr (1, [.ref (hs + 7), .ref hs, .ref (hs + 2), .ref (hs + 3), .ref (hs + 4), .ref (hs + 5), .ref (hs + 6), .int i1, .int i2, .int 0])) H ∧ cP dC dI hs (.inr (6, [.int 0, .ref (hs + 1), .int (nI 0)])) H ∧ cP dC dI (hs + 1) (.inl (dA 5, 24, .inr (.inr (.inr (.inr (fun _ => none)))))) H ∧ cP dC dI (hs + 2) (.inl (dA 0, 6, .inl (filF (fun _ => 0) (-1) 6))) H ∧ cP dC dI (hs + 3) (.inl (dA 0, 6, .inl (fun _ => 0))) H ∧ cP dC dI (hs + 4) (.inl (dA 0, 6, .inl (fun _ => 0))) H ∧ cP dC dI (hs + 5) (.inl (dA 0, 6, .inl (fun _ => 0))) H ∧ cP dC dI (hs + 6) (.inl (dA 1, 6, .inl (fun _ => 0))) H ∧ cP dC dI (hs + 7) (.inr (6, [.int 0, .ref (hs + 8), .int (nI 0)])) H ∧ cP dC dI (hs + 8) (.inl (dA 5, 12, .inr (.inr (.inr (.inr (fun _ => none)))))) H ∧ H.size = hs + 9)) (9) (72) (gF (fun q => q = x) hs) := by
  refine g_metv (own := RX5) (by decide) rfl (Nat.le_of_ble_eq_true rfl) fun p e R s m args below meth c Q SF rk hRR hX hK hin hret ls hl => ?_
  have hx := SF.1
  have hb := SF.2.1
  have hml := SF.2.2.1
  have hown := SF.2.2.2.1
  have hts := SF.2.2.2.2
  have hz0 := hX.2
  have hz : hs ≤ s.heap.size := Nat.le_of_eq hX.2.symm
  have hX := hX.1
  have hRc := hRR.1
  have hRs := hRR.2
  have gFs : ∀ q : Nat, s.heap.size ≤ q → gF (fun q => q = x) hs q := fun q h => Or.inr (hz0 ▸ h)
  have hS : va_S (gF (fun q => q = x) hs) s.heap s.heap [] := va_S.rf
  have hl : lv_has ls 3 [(0, .ref x), (1, .int i1), (2, .int i2)] := hl
  have hsx : s.heap.size = hs := hz0
  have hP := hX.1
  have hEN := hX.2
  have hCE := hEN.1
  have hAz : ∀ q, gF (fun q => q = x) hs q → sz ≤ q := fun q h => h.elim (fun e => e ▸ hxz) (fun h => Nat.le_trans hsz h)
  have hxl : x < hs := hz0 ▸ hP.lt
  refine lv_aload_n hx hb dX5_init_0 rfl (lv_at hl 0 rfl) ?_
  refine W.objInit hx hb hown (hts _ q794) (hts _ q156) (hts _ q157) rfl (hl.1.trans hml.symm) rfl dX5_init_1 (Nat.le_trans (Nat.le_of_ble_eq_true rfl) rk.1) (Nat.le_trans (Nat.le_of_ble_eq_true rfl) rk.2) ?_
  refine W.eq (g2 := F0 m 4 ls []) rfl ?_
  refine lv_aload_n hx hb dX5_init_4 rfl (lv_at hl 0 rfl) ?_
  refine g_new (ci := 6) (fs := [.int 0, .null, .int 0]) (C := RJ20) (T := TJ20) (N := 3) hx hb hts in_J20 tyJ20 tyJ20_ok hown (hts _ q795) (hts _ q796) (hts _ q141) hK hS rfl (fun j hj => by rcases (show j = 0 ∨ j = 1 ∨ j = 2 by omega) with rfl | rfl | rfl <;> rfl) (by omega) (by omega) dX5_init_5 (fun q0 H heq9 hli hz9 oq hS => ?_)
  have e9 : q0 = hs := heq9.trans hsx
  rw [e9] at hli ⊢
  have hP := hP.made oq
  have hsx : H.size = hs + 1 := by omega
  have hz : hs ≤ H.size := by omega
  refine lv_dup hx hb dX5_init_8 rfl ?_
  refine lv_bipush (v := nI 24) hx hb dX5_init_9 (by decide) ?_
  refine g_run (g_rI (As := [.int (nI 24)]) SF hK (d := 3) (rk.le (Nat.le_of_ble_eq_true rfl)) (c_J20_init l dC dI dA hs sz (hs + 1) 24 (show 0 < 24 by omega) (show 24 ≤ 100 by omega)) q141 q797 q798 q799 rfl (n := 1) (by decide +kernel) rfl (by decide) (XOK.hs (XOK.hp.and EN.ok)) (⟨⟨hli, hEN.at hS hAz⟩, hsx⟩) hl.1 (Nat.le_of_ble_eq_true rfl) ⟨(by omega), (by omega)⟩ rfl dX5_init_11) hsx hS (fun z e => Or.inr (by have e : z = hs := e; omega)) gFs (fun v9 H locs hP9 hz9 oq hS => ?_)
  obtain ⟨rfl, hli, ha, hsx9⟩ := hP9
  have hP := hP.stay oq (fun e => by have e : x = hs := e; omega)
  have ha : cP dC dI (hs + 1) (.inl (dA 5, 24, .inr (.inr (.inr (.inr (fun _ => none)))))) H := ha
  have hz := Nat.le_trans hz hz9
  have hsx : H.size = hs + 2 := by omega
  refine W.eq (g2 := F0 m 14 ls [.ref hs, .ref x]) rfl ?_
  refine g_putF (ci := 1) (v := .ref hs) (ty := .object "java/util/List") (C := RX5) (T := TX5) (N := 10) hx hb hts in_X5 tyX5 tyX5_ok nmX5 hown hK hP hS (Or.inl rfl) rfl 1 (by decide) (hts _ q833) (fun _ h9 => h9) rfl hin rfl (by decide +kernel) rfl rfl (Nat.le_of_ble_eq_true rfl) dX5_init_14 (fun H locs hP hz9 oq hS => ?_)
  have hP : cP dC dI x (.inr (1, [.null, .ref hs, .null, .null, .null, .null, .null, .int 0, .int 0, .int 0])) H := hP
  have hz := Nat.le_trans hz (Nat.le_of_eq hz9.symm)
  have hli := hli.kept (oq _ (by omega))
  have ha := ha.kept (oq _ (by omega))
  have hsx := hz9.trans hsx
  refine lv_aload_n hx hb dX5_init_17 rfl (lv_at hl 0 rfl) ?_
  refine lv_bipush (v := nI 6) hx hb dX5_init_18 (by decide) ?_
  refine g_newa (atype := .int) (ty := .int) (N' := 6) (t0 := 0) hx hb (hts _ q252) rfl hK hS rfl (hK.2 0 _ rfl).2 rfl (by omega) (by first | decide | (simp only [componentBytes]; omega)) (by omega) (by omega) dX5_init_20 (fun q2 H heq9 h5 hz9 oq hS => ?_)
  have e9 : q2 = hs + 2 := heq9.trans hsx
  rw [e9] at h5 ⊢
  have hli := hli.made oq
  have ha := ha.made oq
  have hP := hP.made oq
  have hsx : H.size = hs + 3 := by omega
  have hz : hs ≤ H.size := by omega
  refine g_putF (ci := 1) (v := .ref (hs + 2)) (ty := .array (.int)) (C := RX5) (T := TX5) (N := 10) hx hb hts in_X5 tyX5 tyX5_ok nmX5 hown hK hP hS (Or.inl rfl) rfl 2 (by decide) (hts _ q836) (fun _ h9 => h9) rfl hin rfl (by decide +kernel) rfl rfl (Nat.le_of_ble_eq_true rfl) dX5_init_22 (fun H locs hP hz9 oq hS => ?_)
  have hP : cP dC dI x (.inr (1, [.null, .ref hs, .ref (hs + 2), .null, .null, .null, .null, .int 0, .int 0, .int 0])) H := hP
  have hz := Nat.le_trans hz (Nat.le_of_eq hz9.symm)
  have hli := hli.kept (oq _ (by omega))
  have ha := ha.kept (oq _ (by omega))
  have h5 := h5.kept (oq _ (by omega))
  have hsx := hz9.trans hsx
  refine lv_aload_n hx hb dX5_init_25 rfl (lv_at hl 0 rfl) ?_
  refine lv_bipush (v := nI 6) hx hb dX5_init_26 (by decide) ?_
  refine g_newa (atype := .int) (ty := .int) (N' := 6) (t0 := 0) hx hb (hts _ q252) rfl hK hS rfl (hK.2 0 _ rfl).2 rfl (by omega) (by first | decide | (simp only [componentBytes]; omega)) (by omega) (by omega) dX5_init_28 (fun q3 H heq9 h6 hz9 oq hS => ?_)
  have e9 : q3 = hs + 3 := heq9.trans hsx
  rw [e9] at h6 ⊢
  have hli := hli.made oq
  have ha := ha.made oq
  have h5 := h5.made oq
  have hP := hP.made oq
  have hsx : H.size = hs + 4 := by omega
  have hz : hs ≤ H.size := by omega
  refine g_putF (ci := 1) (v := .ref (hs + 3)) (ty := .array (.int)) (C := RX5) (T := TX5) (N := 10) hx hb hts in_X5 tyX5 tyX5_ok nmX5 hown hK hP hS (Or.inl rfl) rfl 3 (by decide) (hts _ q839) (fun _ h9 => h9) rfl hin rfl (by decide +kernel) rfl rfl (Nat.le_of_ble_eq_true rfl) dX5_init_30 (fun H locs hP hz9 oq hS => ?_)
  have hP : cP dC dI x (.inr (1, [.null, .ref hs, .ref (hs + 2), .ref (hs + 3), .null, .null, .null, .int 0, .int 0, .int 0])) H := hP
  have hz := Nat.le_trans hz (Nat.le_of_eq hz9.symm)
  have hli := hli.kept (oq _ (by omega))
  have ha := ha.kept (oq _ (by omega))
  have h5 := h5.kept (oq _ (by omega))
  have h6 := h6.kept (oq _ (by omega))
  have hsx := hz9.trans hsx
  refine lv_aload_n hx hb dX5_init_33 rfl (lv_at hl 0 rfl) ?_
  refine lv_bipush (v := nI 6) hx hb dX5_init_34 (by decide) ?_
  refine g_newa (atype := .int) (ty := .int) (N' := 6) (t0 := 0) hx hb (hts _ q252) rfl hK hS rfl (hK.2 0 _ rfl).2 rfl (by omega) (by first | decide | (simp only [componentBytes]; omega)) (by omega) (by omega) dX5_init_36 (fun q4 H heq9 h7 hz9 oq hS => ?_)
  have e9 : q4 = hs + 4 := heq9.trans hsx
  rw [e9] at h7 ⊢
  have hli := hli.made oq
  have ha := ha.made oq
  have h5 := h5.made oq
  have h6 := h6.made oq
  have hP := hP.made oq
  have hsx : H.size = hs + 5 := by omega
  have hz : hs ≤ H.size := by omega
  refine g_putF (ci := 1) (v := .ref (hs + 4)) (ty := .array (.int)) (C := RX5) (T := TX5) (N := 10) hx hb hts in_X5 tyX5 tyX5_ok nmX5 hown hK hP hS (Or.inl rfl) rfl 4 (by decide) (hts _ q841) (fun _ h9 => h9) rfl hin rfl (by decide +kernel) rfl rfl (Nat.le_of_ble_eq_true rfl) dX5_init_38 (fun H locs hP hz9 oq hS => ?_)
  have hP : cP dC dI x (.inr (1, [.null, .ref hs, .ref (hs + 2), .ref (hs + 3), .ref (hs + 4), .null, .null, .int 0, .int 0, .int 0])) H := hP
  have hz := Nat.le_trans hz (Nat.le_of_eq hz9.symm)
  have hli := hli.kept (oq _ (by omega))
  have ha := ha.kept (oq _ (by omega))
  have h5 := h5.kept (oq _ (by omega))
  have h6 := h6.kept (oq _ (by omega))
  have h7 := h7.kept (oq _ (by omega))
  have hsx := hz9.trans hsx
  refine lv_aload_n hx hb dX5_init_41 rfl (lv_at hl 0 rfl) ?_
  refine lv_bipush (v := nI 6) hx hb dX5_init_42 (by decide) ?_
  refine g_newa (atype := .int) (ty := .int) (N' := 6) (t0 := 0) hx hb (hts _ q252) rfl hK hS rfl (hK.2 0 _ rfl).2 rfl (by omega) (by first | decide | (simp only [componentBytes]; omega)) (by omega) (by omega) dX5_init_44 (fun q5 H heq9 h8 hz9 oq hS => ?_)
  have e9 : q5 = hs + 5 := heq9.trans hsx
  rw [e9] at h8 ⊢
  have hli := hli.made oq
  have ha := ha.made oq
  have h5 := h5.made oq
  have h6 := h6.made oq
  have h7 := h7.made oq
  have hP := hP.made oq
  have hsx : H.size = hs + 6 := by omega
  have hz : hs ≤ H.size := by omega
  refine g_putF (ci := 1) (v := .ref (hs + 5)) (ty := .array (.int)) (C := RX5) (T := TX5) (N := 10) hx hb hts in_X5 tyX5 tyX5_ok nmX5 hown hK hP hS (Or.inl rfl) rfl 5 (by decide) (hts _ q843) (fun _ h9 => h9) rfl hin rfl (by decide +kernel) rfl rfl (Nat.le_of_ble_eq_true rfl) dX5_init_46 (fun H locs hP hz9 oq hS => ?_)
  have hP : cP dC dI x (.inr (1, [.null, .ref hs, .ref (hs + 2), .ref (hs + 3), .ref (hs + 4), .ref (hs + 5), .null, .int 0, .int 0, .int 0])) H := hP
  have hz := Nat.le_trans hz (Nat.le_of_eq hz9.symm)
  have hli := hli.kept (oq _ (by omega))
  have ha := ha.kept (oq _ (by omega))
  have h5 := h5.kept (oq _ (by omega))
  have h6 := h6.kept (oq _ (by omega))
  have h7 := h7.kept (oq _ (by omega))
  have h8 := h8.kept (oq _ (by omega))
  have hsx := hz9.trans hsx
  refine lv_aload_n hx hb dX5_init_49 rfl (lv_at hl 0 rfl) ?_
  refine lv_bipush (v := nI 6) hx hb dX5_init_50 (by decide) ?_
  refine g_newa (atype := .boolean) (ty := .boolean) (N' := 6) (t0 := 1) hx hb (hts _ q875) rfl hK hS rfl (hK.2 1 _ rfl).2 rfl (by omega) (by first | decide | (simp only [componentBytes]; omega)) (by omega) (by omega) dX5_init_52 (fun q6 H heq9 h9 hz9 oq hS => ?_)
  have e9 : q6 = hs + 6 := heq9.trans hsx
  rw [e9] at h9 ⊢
  have hli := hli.made oq
  have ha := ha.made oq
  have h5 := h5.made oq
  have h6 := h6.made oq
  have h7 := h7.made oq
  have h8 := h8.made oq
  have hP := hP.made oq
  have hsx : H.size = hs + 7 := by omega
  have hz : hs ≤ H.size := by omega
  refine g_putF (ci := 1) (v := .ref (hs + 6)) (ty := .array (.boolean)) (C := RX5) (T := TX5) (N := 10) hx hb hts in_X5 tyX5 tyX5_ok nmX5 hown hK hP hS (Or.inl rfl) rfl 6 (by decide) (hts _ q845) (fun _ h9 => h9) rfl hin rfl (by decide +kernel) rfl rfl (Nat.le_of_ble_eq_true rfl) dX5_init_54 (fun H locs hP hz9 oq hS => ?_)
  have hP : cP dC dI x (.inr (1, [.null, .ref hs, .ref (hs + 2), .ref (hs + 3), .ref (hs + 4), .ref (hs + 5), .ref (hs + 6), .int 0, .int 0, .int 0])) H := hP
  have hz := Nat.le_trans hz (Nat.le_of_eq hz9.symm)
  have hli := hli.kept (oq _ (by omega))
  have ha := ha.kept (oq _ (by omega))
  have h5 := h5.kept (oq _ (by omega))
  have h6 := h6.kept (oq _ (by omega))
  have h7 := h7.kept (oq _ (by omega))
  have h8 := h8.kept (oq _ (by omega))
  have h9 := h9.kept (oq _ (by omega))
  have hsx := hz9.trans hsx
  refine lv_aload_n hx hb dX5_init_57 rfl (lv_at hl 0 rfl) ?_
  refine g_new (ci := 6) (fs := [.int 0, .null, .int 0]) (C := RJ20) (T := TJ20) (N := 3) hx hb hts in_J20 tyJ20 tyJ20_ok hown (hts _ q795) (hts _ q796) (hts _ q141) hK hS rfl (fun j hj => by rcases (show j = 0 ∨ j = 1 ∨ j = 2 by omega) with rfl | rfl | rfl <;> rfl) (by omega) (by omega) dX5_init_58 (fun q7 H heq9 ht hz9 oq hS => ?_)
  have e9 : q7 = hs + 7 := heq9.trans hsx
  rw [e9] at ht ⊢
  have hli := hli.made oq
  have ha := ha.made oq
  have h5 := h5.made oq
  have h6 := h6.made oq
  have h7 := h7.made oq
  have h8 := h8.made oq
  have h9 := h9.made oq
  have hP := hP.made oq
  have hsx : H.size = hs + 8 := by omega
  have hz : hs ≤ H.size := by omega
  refine lv_dup hx hb dX5_init_61 rfl ?_
  refine lv_bipush (v := nI 12) hx hb dX5_init_62 (by decide) ?_
  refine g_run (g_rI (As := [.int (nI 12)]) SF hK (d := 3) (rk.le (Nat.le_of_ble_eq_true rfl)) (c_J20_init l dC dI dA (hs + 7) sz (hs + 8) 12 (show 0 < 12 by omega) (show 12 ≤ 100 by omega)) q141 q797 q798 q799 rfl (n := 1) (by decide +kernel) rfl (by decide) (XOK.hs (XOK.hp.and EN.ok)) (⟨⟨ht, hEN.at hS hAz⟩, hsx⟩) hl.1 (Nat.le_of_ble_eq_true rfl) ⟨(by omega), (by omega)⟩ rfl dX5_init_64) hsx hS (fun z e => Or.inr (by have e : z = hs + 7 := e; omega)) gFs (fun v9 H locs hP9 hz9 oq hS => ?_)
  obtain ⟨rfl, ht, hu, hsx9⟩ := hP9
  have hli := hli.stay oq (fun e => by have e : hs = hs + 7 := e; omega)
  have ha := ha.stay oq (fun e => by have e : hs + 1 = hs + 7 := e; omega)
  have h5 := h5.stay oq (fun e => by have e : hs + 2 = hs + 7 := e; omega)
  have h6 := h6.stay oq (fun e => by have e : hs + 3 = hs + 7 := e; omega)
  have h7 := h7.stay oq (fun e => by have e : hs + 4 = hs + 7 := e; omega)
  have h8 := h8.stay oq (fun e => by have e : hs + 5 = hs + 7 := e; omega)
  have h9 := h9.stay oq (fun e => by have e : hs + 6 = hs + 7 := e; omega)
  have hP := hP.stay oq (fun e => by have e : x = hs + 7 := e; omega)
  have hu : cP dC dI (hs + 8) (.inl (dA 5, 12, .inr (.inr (.inr (.inr (fun _ => none)))))) H := hu
  have hz := Nat.le_trans hz hz9
  have hsx : H.size = hs + 9 := by omega
  refine W.eq (g2 := F0 m 67 ls [.ref (hs + 7), .ref x]) rfl ?_
  refine g_putF (ci := 1) (v := .ref (hs + 7)) (ty := .object "java/util/List") (C := RX5) (T := TX5) (N := 10) hx hb hts in_X5 tyX5 tyX5_ok nmX5 hown hK hP hS (Or.inl rfl) rfl 0 (by decide) (hts _ q830) (fun _ h9 => h9) rfl hin rfl (by decide +kernel) rfl rfl (Nat.le_of_ble_eq_true rfl) dX5_init_67 (fun H locs hP hz9 oq hS => ?_)
  have hP : cP dC dI x (.inr (1, [.ref (hs + 7), .ref hs, .ref (hs + 2), .ref (hs + 3), .ref (hs + 4), .ref (hs + 5), .ref (hs + 6), .int 0, .int 0, .int 0])) H := hP
  have hz := Nat.le_trans hz (Nat.le_of_eq hz9.symm)
  have hli := hli.kept (oq _ (by omega))
  have ha := ha.kept (oq _ (by omega))
  have h5 := h5.kept (oq _ (by omega))
  have h6 := h6.kept (oq _ (by omega))
  have h7 := h7.kept (oq _ (by omega))
  have h8 := h8.kept (oq _ (by omega))
  have h9 := h9.kept (oq _ (by omega))
  have ht := ht.kept (oq _ (by omega))
  have hu := hu.kept (oq _ (by omega))
  have hsx := hz9.trans hsx
  refine lv_aload_n hx hb dX5_init_70 rfl (lv_at hl 0 rfl) ?_
  refine lv_iload_n hx hb dX5_init_71 rfl (lv_at hl 1 rfl) ?_
  refine g_put (ci := 1) (v := .int i1) (ty := .int) (C := RX5) (T := TX5) (N := 10) hx hb hts in_X5 tyX5 tyX5_ok nmX5 hown hK hP hS (Or.inl rfl) rfl 7 (by decide) (hts _ q848) (fun _ h9 => h9) rfl (by decide +kernel) rfl rfl (Nat.le_of_ble_eq_true rfl) dX5_init_72 (fun H locs hP hz9 oq hS => ?_)
  have hP : cP dC dI x (.inr (1, [.ref (hs + 7), .ref hs, .ref (hs + 2), .ref (hs + 3), .ref (hs + 4), .ref (hs + 5), .ref (hs + 6), .int i1, .int 0, .int 0])) H := hP
  have hz := Nat.le_trans hz (Nat.le_of_eq hz9.symm)
  have hli := hli.kept (oq _ (by omega))
  have ha := ha.kept (oq _ (by omega))
  have h5 := h5.kept (oq _ (by omega))
  have h6 := h6.kept (oq _ (by omega))
  have h7 := h7.kept (oq _ (by omega))
  have h8 := h8.kept (oq _ (by omega))
  have h9 := h9.kept (oq _ (by omega))
  have ht := ht.kept (oq _ (by omega))
  have hu := hu.kept (oq _ (by omega))
  have hsx := hz9.trans hsx
  refine lv_aload_n hx hb dX5_init_75 rfl (lv_at hl 0 rfl) ?_
  refine lv_iload_n hx hb dX5_init_76 rfl (lv_at hl 2 rfl) ?_
  refine g_put (ci := 1) (v := .int i2) (ty := .int) (C := RX5) (T := TX5) (N := 10) hx hb hts in_X5 tyX5 tyX5_ok nmX5 hown hK hP hS (Or.inl rfl) rfl 8 (by decide) (hts _ q850) (fun _ h9 => h9) rfl (by decide +kernel) rfl rfl (Nat.le_of_ble_eq_true rfl) dX5_init_77 (fun H locs hP hz9 oq hS => ?_)
  have hP : cP dC dI x (.inr (1, [.ref (hs + 7), .ref hs, .ref (hs + 2), .ref (hs + 3), .ref (hs + 4), .ref (hs + 5), .ref (hs + 6), .int i1, .int i2, .int 0])) H := hP
  have hz := Nat.le_trans hz (Nat.le_of_eq hz9.symm)
  have hli := hli.kept (oq _ (by omega))
  have ha := ha.kept (oq _ (by omega))
  have h5 := h5.kept (oq _ (by omega))
  have h6 := h6.kept (oq _ (by omega))
  have h7 := h7.kept (oq _ (by omega))
  have h8 := h8.kept (oq _ (by omega))
  have h9 := h9.kept (oq _ (by omega))
  have ht := ht.kept (oq _ (by omega))
  have hu := hu.kept (oq _ (by omega))
  have hsx := hz9.trans hsx
  refine lv_aload_n hx hb dX5_init_80 rfl (lv_at hl 0 rfl) ?_
  refine va_get (D := (dC, dI)) (ci := 1) (v := .ref (hs + 2)) (C := RX5) (T := TX5) (N := 10) hx hb hts in_X5 hown hK hP 0 rfl rfl 2 (by decide) (hts _ q836) (fun _ h9 => h9) rfl dX5_init_81 ?_
  refine lv_iconst (v := (-1)) hx hb dX5_init_84 (by decide) ?_
  refine g_run (g_rS (As := [.ref (hs + 2), .int (-1)]) SF hK (d := 0) (rk.le (Nat.le_of_ble_eq_true rfl)) (c_J15_fill l dC dI dA (hs + 2) 6 (fun _ => 0) (hs + 9) (-1) (show 6 ≤ 100 by omega)) (lw_S q827 q828 q132 q829) (n := 2) (by decide +kernel) rfl (by decide) (XOK.hs (XOK.hp)) (⟨h5, hsx⟩) hl.1 (Nat.le_of_ble_eq_true rfl) ⟨(by omega), (by omega)⟩ rfl dX5_init_85) hsx hS (fun z e => Or.inr (by have e : z = hs + 2 := e; omega)) gFs (fun v9 H locs hP9 hz9 oq hS => ?_)
  obtain ⟨rfl, h5, hsx9⟩ := hP9
  have hli := hli.stay oq (fun e => by have e : hs = hs + 2 := e; omega)
  have ha := ha.stay oq (fun e => by have e : hs + 1 = hs + 2 := e; omega)
  have h6 := h6.stay oq (fun e => by have e : hs + 3 = hs + 2 := e; omega)
  have h7 := h7.stay oq (fun e => by have e : hs + 4 = hs + 2 := e; omega)
  have h8 := h8.stay oq (fun e => by have e : hs + 5 = hs + 2 := e; omega)
  have h9 := h9.stay oq (fun e => by have e : hs + 6 = hs + 2 := e; omega)
  have ht := ht.stay oq (fun e => by have e : hs + 7 = hs + 2 := e; omega)
  have hu := hu.stay oq (fun e => by have e : hs + 8 = hs + 2 := e; omega)
  have hP := hP.stay oq (fun e => by have e : x = hs + 2 := e; omega)
  have hz := Nat.le_trans hz hz9
  have hsx : H.size = hs + 9 := by omega
  refine W.eq (g2 := F0 m 88 ls []) rfl ?_
  exact hret _ _ _ _ _ _ (⟨rfl, hP, hli, ha, h5, h6, h7, h8, h9, ht, hu, hsx⟩) hS (by omega) (by omega) dX5_init_88
end AL3
