set_option maxRecDepth 100000
section AL4
variable {p : Program} {l : Launch} {e : Env} {R : Room} {s : State} {m : MethodId} {args : Array Value} {below : List Frame} {meth : Method} {c : Code} {H : Heap} {locs : List Loc} {Q : State → Prop}
variable {cc : ByteArray} {pc nL : Nat} {ls : Array Slot} {rest : List Value} {dC : Nat → ClassId} {dI : Nat → Nat → Nat} {dA : Nat → ClassId} {a : Nat → Nat} {M : Nat → Nat → Int32} {H0 : Heap}

set_option maxHeartbeats 4000000 in
theorem c_X5_init_2 (l : Launch) (dC : Nat → ClassId) (dI : Nat → Nat → Nat) (dA : Nat → ClassId) (x : Nat) (b : Nat → Nat) (mc : Nat → Int32) (S : Nat → Int32) (Hd : Nat → Int32) (sz : Nat) (hs : Nat) (hS1 : SWf S) (hT : TWf Hd) (hxz : sz ≤ x) (hsz : sz ≤ hs) (hbx : ∀ k, useK (ln S) (tn Hd) k → b k ≠ x) : Met l yX5_init_2 (ws_ yX5_init_2 cX5_init_2 3 none) (rmD 4 (55) (321)) (gPx [.ref x, .ref (b 0)] (fun U H => cP dC dI x (.inr (1, [.null, .null, .null, .null, .null, .null, .null, .int 0, .int 0, .int 0])) H ∧ famP dC dI b (offE b dA mc S Hd) H ∧ EN sz U H) hs dC dI dA) (gQ hs (fun q => q = x) (fun v H => v = none ∧ famP dC dI (bN x hs b) (offE (bN x hs b) dA (mcN mc S) S Hd) H ∧ H.size = hs + (7 + 2 * ln S))) (55) (321) (gF (fun q => q = x) hs) := by
  refine g_metv (own := RX5) (by decide) rfl (Nat.le_of_ble_eq_true rfl) fun p e R s m args below meth c Q SF rk hRR hX hK hin hret ls hl => ?_
  have hx := SF.1
  have hb := SF.2.1
  have hml := SF.2.2.1
  have hown := SF.2.2.2.1
  have hts := SF.2.2.2.2
  have hz0 := hX.2
  have hz : hs ≤ s.heap.size := Nat.le_of_eq hX.2.symm
  have hX := hX.1
  have hRc := hRR.1
  have hRs := hRR.2
  have gFs : ∀ q : Nat, s.heap.size ≤ q → gF (fun q => q = x) hs q := fun q h => Or.inr (hz0 ▸ h)
  have hS : va_S (gF (fun q => q = x) hs) s.heap s.heap [] := va_S.rf
  have hl : lv_has ls 3 [(0, .ref x), (1, .ref (b 0))] := hl
  have hsx : s.heap.size = hs := hz0
  have hP := hX.1
  have hO := hX.2.1
  have hEN := hX.2.2
  have hCE := hEN.1
  have hAz : ∀ q, gF (fun q => q = x) hs q → sz ≤ q := fun q h => h.elim (fun e => e ▸ hxz) (fun h => Nat.le_trans hsz h)
  have hxl : x < hs := hz0 ▸ hP.lt
  have hL := hS1.2.1
  have hn9 := hT.2.1
  have hOx : ∀ k, (offE b dA mc S Hd k).isSome = true → ¬ (fun q => q = x) (b k) := fun k hk => by
    obtain ⟨en, he⟩ := Option.isSome_iff_exists.mp hk
    exact hbx k (offE_use he)
  refine lv_aload_n hx hb dX5_init_2_0 rfl (lv_at hl 0 rfl) ?_
  refine W.objInit hx hb hown (hts _ q794) (hts _ q156) (hts _ q157) rfl (hl.1.trans hml.symm) rfl dX5_init_2_1 (Nat.le_trans (Nat.le_of_ble_eq_true rfl) rk.1) (Nat.le_trans (Nat.le_of_ble_eq_true rfl) rk.2) ?_
  refine W.eq (g2 := F0 m 4 ls []) rfl ?_
  refine lv_aload_n hx hb dX5_init_2_4 rfl (lv_at hl 0 rfl) ?_
  refine g_new (ci := 6) (fs := [.int 0, .null, .int 0]) (C := RJ20) (T := TJ20) (N := 3) hx hb hts in_J20 tyJ20 tyJ20_ok hown (hts _ q795) (hts _ q796) (hts _ q141) hK hS rfl (fun j hj => by rcases (show j = 0 ∨ j = 1 ∨ j = 2 by omega) with rfl | rfl | rfl <;> rfl) (by omega) (by omega) dX5_init_2_5 (fun q0 H heq9 hli hz9 oq hS => ?_)
  have e9 : q0 = hs := heq9.trans hsx
  rw [e9] at hli ⊢
  have hP := hP.made oq
  have hsx : H.size = hs + 1 := by omega
  have hz : hs ≤ H.size := by omega
  refine lv_dup hx hb dX5_init_2_8 rfl ?_
  refine lv_bipush (v := nI 24) hx hb dX5_init_2_9 (by decide) ?_
  refine g_run (g_rI (As := [.int (nI 24)]) SF hK (d := 3) (rk.le (Nat.le_of_ble_eq_true rfl)) (c_J20_init l dC dI dA hs sz (hs + 1) 24 (show 0 < 24 by omega) (show 24 ≤ 100 by omega)) q141 q797 q798 q799 rfl (n := 1) (by decide +kernel) rfl (by decide) (XOK.hs (XOK.hp.and EN.ok)) (⟨⟨hli, hEN.at hS hAz⟩, hsx⟩) hl.1 (Nat.le_of_ble_eq_true rfl) ⟨(by omega), (by omega)⟩ rfl dX5_init_2_11) hsx hS (fun z e => Or.inr (by have e : z = hs := e; omega)) gFs (fun v9 H locs hP9 hz9 oq hS => ?_)
  obtain ⟨rfl, hli, ha, hsx9⟩ := hP9
  have hP := hP.stay oq (fun e => by have e : x = hs := e; omega)
  have ha : cP dC dI (hs + 1) (.inl (dA 5, 24, .inr (.inr (.inr (.inr (fun _ => none)))))) H := ha
  have hz := Nat.le_trans hz hz9
  have hsx : H.size = hs + 2 := by omega
  refine W.eq (g2 := F0 m 14 ls [.ref hs, .ref x]) rfl ?_
  refine g_putF (ci := 1) (v := .ref hs) (ty := .object "java/util/List") (C := RX5) (T := TX5) (N := 10) hx hb hts in_X5 tyX5 tyX5_ok nmX5 hown hK hP hS (Or.inl rfl) rfl 1 (by decide) (hts _ q833) (fun _ h9 => h9) rfl hin rfl (by decide +kernel) rfl rfl (Nat.le_of_ble_eq_true rfl) dX5_init_2_14 (fun H locs hP hz9 oq hS => ?_)
  have hP : cP dC dI x (.inr (1, [.null, .ref hs, .null, .null, .null, .null, .null, .int 0, .int 0, .int 0])) H := hP
  have hz := Nat.le_trans hz (Nat.le_of_eq hz9.symm)
  have hli := hli.kept (oq _ (by omega))
  have ha := ha.kept (oq _ (by omega))
  have hsx := hz9.trans hsx
  refine lv_aload_n hx hb dX5_init_2_17 rfl (lv_at hl 0 rfl) ?_
  refine lv_bipush (v := nI 6) hx hb dX5_init_2_18 (by decide) ?_
  refine g_newa (atype := .int) (ty := .int) (N' := 6) (t0 := 0) hx hb (hts _ q252) rfl hK hS rfl (hK.2 0 _ rfl).2 rfl (by omega) (by first | decide | (simp only [componentBytes]; omega)) (by omega) (by omega) dX5_init_2_20 (fun q2 H heq9 h5 hz9 oq hS => ?_)
  have e9 : q2 = hs + 2 := heq9.trans hsx
  rw [e9] at h5 ⊢
  have hli := hli.made oq
  have ha := ha.made oq
  have hP := hP.made oq
  have hsx : H.size = hs + 3 := by omega
  have hz : hs ≤ H.size := by omega
  refine g_putF (ci := 1) (v := .ref (hs + 2)) (ty := .array (.int)) (C := RX5) (T := TX5) (N := 10) hx hb hts in_X5 tyX5 tyX5_ok nmX5 hown hK hP hS (Or.inl rfl) rfl 2 (by decide) (hts _ q836) (fun _ h9 => h9) rfl hin rfl (by decide +kernel) rfl rfl (Nat.le_of_ble_eq_true rfl) dX5_init_2_22 (fun H locs hP hz9 oq hS => ?_)
  have hP : cP dC dI x (.inr (1, [.null, .ref hs, .ref (hs + 2), .null, .null, .null, .null, .int 0, .int 0, .int 0])) H := hP
  have hz := Nat.le_trans hz (Nat.le_of_eq hz9.symm)
  have hli := hli.kept (oq _ (by omega))
  have ha := ha.kept (oq _ (by omega))
  have h5 := h5.kept (oq _ (by omega))
  have hsx := hz9.trans hsx
  refine lv_aload_n hx hb dX5_init_2_25 rfl (lv_at hl 0 rfl) ?_
  refine lv_bipush (v := nI 6) hx hb dX5_init_2_26 (by decide) ?_
  refine g_newa (atype := .int) (ty := .int) (N' := 6) (t0 := 0) hx hb (hts _ q252) rfl hK hS rfl (hK.2 0 _ rfl).2 rfl (by omega) (by first | decide | (simp only [componentBytes]; omega)) (by omega) (by omega) dX5_init_2_28 (fun q3 H heq9 h6 hz9 oq hS => ?_)
  have e9 : q3 = hs + 3 := heq9.trans hsx
  rw [e9] at h6 ⊢
  have hli := hli.made oq
  have ha := ha.made oq
  have h5 := h5.made oq
  have hP := hP.made oq
  have hsx : H.size = hs + 4 := by omega
  have hz : hs ≤ H.size := by omega
  refine g_putF (ci := 1) (v := .ref (hs + 3)) (ty := .array (.int)) (C := RX5) (T := TX5) (N := 10) hx hb hts in_X5 tyX5 tyX5_ok nmX5 hown hK hP hS (Or.inl rfl) rfl 3 (by decide) (hts _ q839) (fun _ h9 => h9) rfl hin rfl (by decide +kernel) rfl rfl (Nat.le_of_ble_eq_true rfl) dX5_init_2_30 (fun H locs hP hz9 oq hS => ?_)
  have hP : cP dC dI x (.inr (1, [.null, .ref hs, .ref (hs + 2), .ref (hs + 3), .null, .null, .null, .int 0, .int 0, .int 0])) H := hP
  have hz := Nat.le_trans hz (Nat.le_of_eq hz9.symm)
  have hli := hli.kept (oq _ (by omega))
  have ha := ha.kept (oq _ (by omega))
  have h5 := h5.kept (oq _ (by omega))
  have h6 := h6.kept (oq _ (by omega))
  have hsx := hz9.trans hsx
  refine lv_aload_n hx hb dX5_init_2_33 rfl (lv_at hl 0 rfl) ?_
  refine lv_bipush (v := nI 6) hx hb dX5_init_2_34 (by decide) ?_
  refine g_newa (atype := .int) (ty := .int) (N' := 6) (t0 := 0) hx hb (hts _ q252) rfl hK hS rfl (hK.2 0 _ rfl).2 rfl (by omega) (by first | decide | (simp only [componentBytes]; omega)) (by omega) (by omega) dX5_init_2_36 (fun q4 H heq9 h7 hz9 oq hS => ?_)
  have e9 : q4 = hs + 4 := heq9.trans hsx
  rw [e9] at h7 ⊢
  have hli := hli.made oq
  have ha := ha.made oq
  have h5 := h5.made oq
  have h6 := h6.made oq
  have hP := hP.made oq
  have hsx : H.size = hs + 5 := by omega
  have hz : hs ≤ H.size := by omega
  refine g_putF (ci := 1) (v := .ref (hs + 4)) (ty := .array (.int)) (C := RX5) (T := TX5) (N := 10) hx hb hts in_X5 tyX5 tyX5_ok nmX5 hown hK hP hS (Or.inl rfl) rfl 4 (by decide) (hts _ q841) (fun _ h9 => h9) rfl hin rfl (by decide +kernel) rfl rfl (Nat.le_of_ble_eq_true rfl) dX5_init_2_38 (fun H locs hP hz9 oq hS => ?_)
  have hP : cP dC dI x (.inr (1, [.null, .ref hs, .ref (hs + 2), .ref (hs + 3), .ref (hs + 4), .null, .null, .int 0, .int 0, .int 0])) H := hP
  have hz := Nat.le_trans hz (Nat.le_of_eq hz9.symm)
  have hli := hli.kept (oq _ (by omega))
  have ha := ha.kept (oq _ (by omega))
  have h5 := h5.kept (oq _ (by omega))
  have h6 := h6.kept (oq _ (by omega))
  have h7 := h7.kept (oq _ (by omega))
  have hsx := hz9.trans hsx
  refine lv_aload_n hx hb dX5_init_2_41 rfl (lv_at hl 0 rfl) ?_
  refine lv_bipush (v := nI 6) hx hb dX5_init_2_42 (by decide) ?_
  refine g_newa (atype := .int) (ty := .int) (N' := 6) (t0 := 0) hx hb (hts _ q252) rfl hK hS rfl (hK.2 0 _ rfl).2 rfl (by omega) (by first | decide | (simp only [componentBytes]; omega)) (by omega) (by omega) dX5_init_2_44 (fun q5 H heq9 h8 hz9 oq hS => ?_)
  have e9 : q5 = hs + 5 := heq9.trans hsx
  rw [e9] at h8 ⊢
  have hli := hli.made oq
  have ha := ha.made oq
  have h5 := h5.made oq
  have h6 := h6.made oq
  have h7 := h7.made oq
  have hP := hP.made oq
  have hsx : H.size = hs + 6 := by omega
  have hz : hs ≤ H.size := by omega
  refine g_putF (ci := 1) (v := .ref (hs + 5)) (ty := .array (.int)) (C := RX5) (T := TX5) (N := 10) hx hb hts in_X5 tyX5 tyX5_ok nmX5 hown hK hP hS (Or.inl rfl) rfl 5 (by decide) (hts _ q843) (fun _ h9 => h9) rfl hin rfl (by decide +kernel) rfl rfl (Nat.le_of_ble_eq_true rfl) dX5_init_2_46 (fun H locs hP hz9 oq hS => ?_)
  have hP : cP dC dI x (.inr (1, [.null, .ref hs, .ref (hs + 2), .ref (hs + 3), .ref (hs + 4), .ref (hs + 5), .null, .int 0, .int 0, .int 0])) H := hP
  have hz := Nat.le_trans hz (Nat.le_of_eq hz9.symm)
  have hli := hli.kept (oq _ (by omega))
  have ha := ha.kept (oq _ (by omega))
  have h5 := h5.kept (oq _ (by omega))
  have h6 := h6.kept (oq _ (by omega))
  have h7 := h7.kept (oq _ (by omega))
  have h8 := h8.kept (oq _ (by omega))
  have hsx := hz9.trans hsx
  refine lv_aload_n hx hb dX5_init_2_49 rfl (lv_at hl 0 rfl) ?_
  refine lv_bipush (v := nI 6) hx hb dX5_init_2_50 (by decide) ?_
  refine g_newa (atype := .boolean) (ty := .boolean) (N' := 6) (t0 := 1) hx hb (hts _ q875) rfl hK hS rfl (hK.2 1 _ rfl).2 rfl (by omega) (by first | decide | (simp only [componentBytes]; omega)) (by omega) (by omega) dX5_init_2_52 (fun q6 H heq9 h9 hz9 oq hS => ?_)
  have e9 : q6 = hs + 6 := heq9.trans hsx
  rw [e9] at h9 ⊢
  have hli := hli.made oq
  have ha := ha.made oq
  have h5 := h5.made oq
  have h6 := h6.made oq
  have h7 := h7.made oq
  have h8 := h8.made oq
  have hP := hP.made oq
  have hsx : H.size = hs + 7 := by omega
  have hz : hs ≤ H.size := by omega
  refine g_putF (ci := 1) (v := .ref (hs + 6)) (ty := .array (.boolean)) (C := RX5) (T := TX5) (N := 10) hx hb hts in_X5 tyX5 tyX5_ok nmX5 hown hK hP hS (Or.inl rfl) rfl 6 (by decide) (hts _ q845) (fun _ h9 => h9) rfl hin rfl (by decide +kernel) rfl rfl (Nat.le_of_ble_eq_true rfl) dX5_init_2_54 (fun H locs hP hz9 oq hS => ?_)
  have hP : cP dC dI x (.inr (1, [.null, .ref hs, .ref (hs + 2), .ref (hs + 3), .ref (hs + 4), .ref (hs + 5), .ref (hs + 6), .int 0, .int 0, .int 0])) H := hP
  have hz := Nat.le_trans hz (Nat.le_of_eq hz9.symm)
  have hli := hli.kept (oq _ (by omega))
  have ha := ha.kept (oq _ (by omega))
  have h5 := h5.kept (oq _ (by omega))
  have h6 := h6.kept (oq _ (by omega))
  have h7 := h7.kept (oq _ (by omega))
  have h8 := h8.kept (oq _ (by omega))
  have h9 := h9.kept (oq _ (by omega))
  have hsx := hz9.trans hsx
  refine lv_aload_n hx hb dX5_init_2_57 rfl (lv_at hl 0 rfl) ?_
  refine lv_aload_n hx hb dX5_init_2_58 rfl (lv_at hl 1 rfl) ?_
  refine va_get (D := (dC, dI)) (ci := 1) (v := .ref (b 1)) (C := RX5) (T := TX5) (N := 10) hx hb hts in_X5 hown hK ((hO.at hS hz0 hOx) 0 _ rfl) 0 rfl rfl 0 (by decide) (hts _ q830) (fun _ h9 => h9) rfl dX5_init_2_59 ?_
  refine g_putF (ci := 1) (v := .ref (b 1)) (ty := .object "java/util/List") (C := RX5) (T := TX5) (N := 10) hx hb hts in_X5 tyX5 tyX5_ok nmX5 hown hK hP hS (Or.inl rfl) rfl 0 (by decide) (hts _ q830) (fun _ h9 => h9) rfl hin rfl (by decide +kernel) rfl rfl (Nat.le_of_ble_eq_true rfl) dX5_init_2_62 (fun H locs hP hz9 oq hS => ?_)
  have hP : cP dC dI x (.inr (1, [.ref (b 1), .ref hs, .ref (hs + 2), .ref (hs + 3), .ref (hs + 4), .ref (hs + 5), .ref (hs + 6), .int 0, .int 0, .int 0])) H := hP
  have hz := Nat.le_trans hz (Nat.le_of_eq hz9.symm)
  have hli := hli.kept (oq _ (by omega))
  have ha := ha.kept (oq _ (by omega))
  have h5 := h5.kept (oq _ (by omega))
  have h6 := h6.kept (oq _ (by omega))
  have h7 := h7.kept (oq _ (by omega))
  have h8 := h8.kept (oq _ (by omega))
  have h9 := h9.kept (oq _ (by omega))
  have hsx := hz9.trans hsx
  refine lv_aload_n hx hb dX5_init_2_65 rfl (lv_at hl 0 rfl) ?_
  refine lv_aload_n hx hb dX5_init_2_66 rfl (lv_at hl 1 rfl) ?_
  refine va_get (D := (dC, dI)) (ci := 1) (v := .int (S 0)) (C := RX5) (T := TX5) (N := 10) hx hb hts in_X5 hown hK ((hO.at hS hz0 hOx) 0 _ rfl) 0 rfl rfl 7 (by decide) (hts _ q848) (fun _ h9 => h9) rfl dX5_init_2_67 ?_
  refine g_put (ci := 1) (v := .int (S 0)) (ty := .int) (C := RX5) (T := TX5) (N := 10) hx hb hts in_X5 tyX5 tyX5_ok nmX5 hown hK hP hS (Or.inl rfl) rfl 7 (by decide) (hts _ q848) (fun _ h9 => h9) rfl (by decide +kernel) rfl rfl (Nat.le_of_ble_eq_true rfl) dX5_init_2_70 (fun H locs hP hz9 oq hS => ?_)
  have hP : cP dC dI x (.inr (1, [.ref (b 1), .ref hs, .ref (hs + 2), .ref (hs + 3), .ref (hs + 4), .ref (hs + 5), .ref (hs + 6), .int (S 0), .int 0, .int 0])) H := hP
  have hz := Nat.le_trans hz (Nat.le_of_eq hz9.symm)
  have hli := hli.kept (oq _ (by omega))
  have ha := ha.kept (oq _ (by omega))
  have h5 := h5.kept (oq _ (by omega))
  have h6 := h6.kept (oq _ (by omega))
  have h7 := h7.kept (oq _ (by omega))
  have h8 := h8.kept (oq _ (by omega))
  have h9 := h9.kept (oq _ (by omega))
  have hsx := hz9.trans hsx
  refine lv_aload_n hx hb dX5_init_2_73 rfl (lv_at hl 0 rfl) ?_
  refine lv_aload_n hx hb dX5_init_2_74 rfl (lv_at hl 1 rfl) ?_
  refine va_get (D := (dC, dI)) (ci := 1) (v := .int (Hd 0)) (C := RX5) (T := TX5) (N := 10) hx hb hts in_X5 hown hK ((hO.at hS hz0 hOx) 0 _ rfl) 0 rfl rfl 8 (by decide) (hts _ q850) (fun _ h9 => h9) rfl dX5_init_2_75 ?_
  refine g_put (ci := 1) (v := .int (Hd 0)) (ty := .int) (C := RX5) (T := TX5) (N := 10) hx hb hts in_X5 tyX5 tyX5_ok nmX5 hown hK hP hS (Or.inl rfl) rfl 8 (by decide) (hts _ q850) (fun _ h9 => h9) rfl (by decide +kernel) rfl rfl (Nat.le_of_ble_eq_true rfl) dX5_init_2_78 (fun H locs hP hz9 oq hS => ?_)
  have hP : cP dC dI x (.inr (1, [.ref (b 1), .ref hs, .ref (hs + 2), .ref (hs + 3), .ref (hs + 4), .ref (hs + 5), .ref (hs + 6), .int (S 0), .int (Hd 0), .int 0])) H := hP
  have hz := Nat.le_trans hz (Nat.le_of_eq hz9.symm)
  have hli := hli.kept (oq _ (by omega))
  have ha := ha.kept (oq _ (by omega))
  have h5 := h5.kept (oq _ (by omega))
  have h6 := h6.kept (oq _ (by omega))
  have h7 := h7.kept (oq _ (by omega))
  have h8 := h8.kept (oq _ (by omega))
  have h9 := h9.kept (oq _ (by omega))
  have hsx := hz9.trans hsx
  refine lv_aload_n hx hb dX5_init_2_81 rfl (lv_at hl 0 rfl) ?_
  refine lv_aload_n hx hb dX5_init_2_82 rfl (lv_at hl 1 rfl) ?_
  refine va_get (D := (dC, dI)) (ci := 1) (v := .int (S 1)) (C := RX5) (T := TX5) (N := 10) hx hb hts in_X5 hown hK ((hO.at hS hz0 hOx) 0 _ rfl) 0 rfl rfl 9 (by decide) (hts _ q852) (fun _ h9 => h9) rfl dX5_init_2_83 ?_
  refine g_put (ci := 1) (v := .int (S 1)) (ty := .int) (C := RX5) (T := TX5) (N := 10) hx hb hts in_X5 tyX5 tyX5_ok nmX5 hown hK hP hS (Or.inl rfl) rfl 9 (by decide) (hts _ q852) (fun _ h9 => h9) rfl (by decide +kernel) rfl rfl (Nat.le_of_ble_eq_true rfl) dX5_init_2_86 (fun H locs hP hz9 oq hS => ?_)
  have hP : cP dC dI x (.inr (1, [.ref (b 1), .ref hs, .ref (hs + 2), .ref (hs + 3), .ref (hs + 4), .ref (hs + 5), .ref (hs + 6), .int (S 0), .int (Hd 0), .int (S 1)])) H := hP
  have hz := Nat.le_trans hz (Nat.le_of_eq hz9.symm)
  have hli := hli.kept (oq _ (by omega))
  have ha := ha.kept (oq _ (by omega))
  have h5 := h5.kept (oq _ (by omega))
  have h6 := h6.kept (oq _ (by omega))
  have h7 := h7.kept (oq _ (by omega))
  have h8 := h8.kept (oq _ (by omega))
  have h9 := h9.kept (oq _ (by omega))
  have hsx := hz9.trans hsx
  refine lv_iconst (v := nI 0) hx hb dX5_init_2_89 (by decide) ?_
  refine lv_istore_n (lv' := [(2, .int (nI 0)), (0, .ref x), (1, .ref (b 0))]) hx hb dX5_init_2_90 rfl hl (by decide) rfl (fun ls hl => ?_)
  have lp91 : ∀ (k0 : Nat) (k : Nat), k ≤ ln S → ln S < k + k0 → ∀ (H : Heap) (locs : List Loc), cP dC dI x (.inr (1, [.ref (b 1), .ref hs, .ref (hs + 2), .ref (hs + 3), .ref (hs + 4), .ref (hs + 5), .ref (hs + 6), .int (S 0), .int (Hd 0), .int (S 1)])) H → cP dC dI hs (.inr (6, [.int (nI k), .ref (hs + 1), .int (nI k)])) H → cP dC dI (hs + 1) (.inl (dA 5, 24, .inr (.inr (.inr (.inr (lsF hs k)))))) H → cP dC dI (hs + 2) (.inl (dA 0, 6, .inl (fun _ => 0))) H → cP dC dI (hs + 3) (.inl (dA 0, 6, .inl (fun _ => 0))) H → cP dC dI (hs + 4) (.inl (dA 0, 6, .inl (fun _ => 0))) H → cP dC dI (hs + 5) (.inl (dA 0, 6, .inl (fun _ => 0))) H → cP dC dI (hs + 6) (.inl (dA 1, 6, .inl (fun _ => 0))) H → (∀ o, o < k → cP dC dI (hs + (7 + 2 * o)) (.inr (3, [.ref (hs + (8 + 2 * o)), .int (lr S o 5), .int (lr S o 6), .int (lr S o 7), .int (lr S o 8), .int (lr S o 9)])) H ∧ cP dC dI (hs + (8 + 2 * o)) (.inl (dA 0, 5, .inl (clip 5 (fun p => lr S o p)))) H) → H.size = hs + (7 + 2 * k) → hs ≤ H.size → va_S (gF (fun q => q = x) hs) s.heap H locs → ∀ ls : Array Slot, lv_has ls 3 [(2, .int (nI k)), (0, .ref x), (1, .ref (b 0))] → W p l e R s m args below meth c H locs (7 + 2 * k) (57 + 11 * k) Q (F0 m 91 ls []) := by
    intro k0
    induction k0 with
    | zero =>
      intro k hk1 hk2; omega
    | succ k0 ih =>
      intro k hk1 hk2 H locs hP hli ha h5 h6 h7 h8 h9 hF hsx hz hS ls hl
      have ih91 := ih
      refine lv_iload_n hx hb dX5_init_2_91 rfl (lv_at hl 0 rfl) ?_
      refine lv_aload_n hx hb dX5_init_2_92 rfl (lv_at hl 2 rfl) ?_
      refine va_get (D := (dC, dI)) (ci := 1) (v := .ref (b 3)) (C := RX5) (T := TX5) (N := 10) hx hb hts in_X5 hown hK ((hO.at hS hz0 hOx) 0 _ rfl) 0 rfl rfl 1 (by decide) (hts _ q833) (fun _ h9 => h9) rfl dX5_init_2_93 ?_
      refine x_run5 (x_rF (C := RJ20) (As := []) (hK.1 6 _ rfl).2 SF hK (d := 0) (rk.le (Nat.le_of_ble_eq_true rfl)) (c_J20_size l dC dI dA (b 3) (b 4) (ln S) (mc 1) 24 (fun o => if o < ln S then some (b (22 + o)) else none) ) (lw_F q964 q954 q956 q141 q958) (hCE.2.2 7 (by decide)) (n := 0) (by decide +kernel) rfl (by decide) (g_recv hK ((hO.at hS hz0 hOx) 3 _ rfl) (ci := 6) rfl) (XOK.hp) (⟨(hO.at hS hz0 hOx) 3 _ rfl, (hO.at hS hz0 hOx) 4 _ rfl⟩) hl.1 (Nat.le_of_ble_eq_true rfl) ⟨(by omega), (by omega)⟩ rfl dX5_init_2_96) ?_
      refine u_top (y := nI (ln S)) rfl ?_
      refine lv_icmp_ge (tgt := 136) hx hb dX5_init_2_101 (by decide) (fun c_101 => ?_) (fun c_101 => ?_)
      · have c_101 : (ln S) ≤ k := (nI_leI (a := (ln S)) (b := k) (by omega) (by omega)).mp c_101
        refine lv_aload_n hx hb dX5_init_2_136 rfl (lv_at hl 2 rfl) ?_
        refine va_get (D := (dC, dI)) (ci := 1) (v := .ref (b 5)) (C := RX5) (T := TX5) (N := 10) hx hb hts in_X5 hown hK ((hO.at hS hz0 hOx) 0 _ rfl) 0 rfl rfl 2 (by decide) (hts _ q836) (fun _ h9 => h9) rfl dX5_init_2_137 ?_
        refine lv_iconst (v := nI 0) hx hb dX5_init_2_140 (by decide) ?_
        refine lv_aload_n hx hb dX5_init_2_141 rfl (lv_at hl 1 rfl) ?_
        refine va_get (D := (dC, dI)) (ci := 1) (v := .ref (hs + 2)) (C := RX5) (T := TX5) (N := 10) hx hb hts in_X5 hown hK hP 0 rfl rfl 2 (by decide) (hts _ q836) (fun _ h9 => h9) rfl dX5_init_2_142 ?_
        refine lv_iconst (v := nI 0) hx hb dX5_init_2_145 (by decide) ?_
        refine lv_bipush (v := nI 6) hx hb dX5_init_2_146 (by decide) ?_
        refine g_copy (sp := 0) (dp := 0) (n := 6) (ty := .int) hx hb (hml.trans hl.1.symm) hown (hts _ q1665) (hts _ q526) (hts _ q525) (hts _ q133) hK 0 ((hO.at hS hz0 hOx) 5 _ rfl) h5 hS (Or.inr (by omega)) rfl rfl rfl (by omega) (by omega) (by omega) (by omega) (fun _ _ => rfl) (Nat.le_trans (Nat.le_of_ble_eq_true rfl) rk.1) (Nat.le_trans (Nat.le_of_ble_eq_true rfl) rk.2) dX5_init_2_148 (fun H locs h5 hz9 oq hS => ?_)
        have hli := hli.kept (oq _ (by omega))
        have ha := ha.kept (oq _ (by omega))
        have h6 := h6.kept (oq _ (by omega))
        have h7 := h7.kept (oq _ (by omega))
        have h8 := h8.kept (oq _ (by omega))
        have h9 := h9.kept (oq _ (by omega))
        have hF := fun o ho => And.intro ((hF o ho).1.kept (oq _ (by omega))) ((hF o ho).2.kept (oq _ (by omega)))
        have hP := hP.kept (oq _ (by omega))
        have hz := Nat.le_trans hz (Nat.le_of_eq hz9.symm)
        have hsx := hz9.trans hsx
        refine W.eq (g2 := F0 m 151 ls []) rfl ?_
        refine lv_aload_n hx hb dX5_init_2_151 rfl (lv_at hl 2 rfl) ?_
        refine va_get (D := (dC, dI)) (ci := 1) (v := .ref (b 6)) (C := RX5) (T := TX5) (N := 10) hx hb hts in_X5 hown hK ((hO.at hS hz0 hOx) 0 _ rfl) 0 rfl rfl 3 (by decide) (hts _ q839) (fun _ h9 => h9) rfl dX5_init_2_152 ?_
        refine lv_iconst (v := nI 0) hx hb dX5_init_2_155 (by decide) ?_
        refine lv_aload_n hx hb dX5_init_2_156 rfl (lv_at hl 1 rfl) ?_
        refine va_get (D := (dC, dI)) (ci := 1) (v := .ref (hs + 3)) (C := RX5) (T := TX5) (N := 10) hx hb hts in_X5 hown hK hP 0 rfl rfl 3 (by decide) (hts _ q839) (fun _ h9 => h9) rfl dX5_init_2_157 ?_
        refine lv_iconst (v := nI 0) hx hb dX5_init_2_160 (by decide) ?_
        refine lv_bipush (v := nI 6) hx hb dX5_init_2_161 (by decide) ?_
        refine g_copy (sp := 0) (dp := 0) (n := 6) (ty := .int) hx hb (hml.trans hl.1.symm) hown (hts _ q1665) (hts _ q526) (hts _ q525) (hts _ q133) hK 0 ((hO.at hS hz0 hOx) 6 _ rfl) h6 hS (Or.inr (by omega)) rfl rfl rfl (by omega) (by omega) (by omega) (by omega) (fun _ _ => rfl) (Nat.le_trans (Nat.le_of_ble_eq_true rfl) rk.1) (Nat.le_trans (Nat.le_of_ble_eq_true rfl) rk.2) dX5_init_2_163 (fun H locs h6 hz9 oq hS => ?_)
        have hli := hli.kept (oq _ (by omega))
        have ha := ha.kept (oq _ (by omega))
        have h5 := h5.kept (oq _ (by omega))
        have h7 := h7.kept (oq _ (by omega))
        have h8 := h8.kept (oq _ (by omega))
        have h9 := h9.kept (oq _ (by omega))
        have hF := fun o ho => And.intro ((hF o ho).1.kept (oq _ (by omega))) ((hF o ho).2.kept (oq _ (by omega)))
        have hP := hP.kept (oq _ (by omega))
        have hz := Nat.le_trans hz (Nat.le_of_eq hz9.symm)
        have hsx := hz9.trans hsx
        refine W.eq (g2 := F0 m 166 ls []) rfl ?_
        refine lv_aload_n hx hb dX5_init_2_166 rfl (lv_at hl 2 rfl) ?_
        refine va_get (D := (dC, dI)) (ci := 1) (v := .ref (b 7)) (C := RX5) (T := TX5) (N := 10) hx hb hts in_X5 hown hK ((hO.at hS hz0 hOx) 0 _ rfl) 0 rfl rfl 4 (by decide) (hts _ q841) (fun _ h9 => h9) rfl dX5_init_2_167 ?_
        refine lv_iconst (v := nI 0) hx hb dX5_init_2_170 (by decide) ?_
        refine lv_aload_n hx hb dX5_init_2_171 rfl (lv_at hl 1 rfl) ?_
        refine va_get (D := (dC, dI)) (ci := 1) (v := .ref (hs + 4)) (C := RX5) (T := TX5) (N := 10) hx hb hts in_X5 hown hK hP 0 rfl rfl 4 (by decide) (hts _ q841) (fun _ h9 => h9) rfl dX5_init_2_172 ?_
        refine lv_iconst (v := nI 0) hx hb dX5_init_2_175 (by decide) ?_
        refine lv_bipush (v := nI 6) hx hb dX5_init_2_176 (by decide) ?_
        refine g_copy (sp := 0) (dp := 0) (n := 6) (ty := .int) hx hb (hml.trans hl.1.symm) hown (hts _ q1665) (hts _ q526) (hts _ q525) (hts _ q133) hK 0 ((hO.at hS hz0 hOx) 7 _ rfl) h7 hS (Or.inr (by omega)) rfl rfl rfl (by omega) (by omega) (by omega) (by omega) (fun _ _ => rfl) (Nat.le_trans (Nat.le_of_ble_eq_true rfl) rk.1) (Nat.le_trans (Nat.le_of_ble_eq_true rfl) rk.2) dX5_init_2_178 (fun H locs h7 hz9 oq hS => ?_)
        have hli := hli.kept (oq _ (by omega))
        have ha := ha.kept (oq _ (by omega))
        have h5 := h5.kept (oq _ (by omega))
        have h6 := h6.kept (oq _ (by omega))
        have h8 := h8.kept (oq _ (by omega))
        have h9 := h9.kept (oq _ (by omega))
        have hF := fun o ho => And.intro ((hF o ho).1.kept (oq _ (by omega))) ((hF o ho).2.kept (oq _ (by omega)))
        have hP := hP.kept (oq _ (by omega))
        have hz := Nat.le_trans hz (Nat.le_of_eq hz9.symm)
        have hsx := hz9.trans hsx
        refine W.eq (g2 := F0 m 181 ls []) rfl ?_
        refine lv_aload_n hx hb dX5_init_2_181 rfl (lv_at hl 2 rfl) ?_
        refine va_get (D := (dC, dI)) (ci := 1) (v := .ref (b 8)) (C := RX5) (T := TX5) (N := 10) hx hb hts in_X5 hown hK ((hO.at hS hz0 hOx) 0 _ rfl) 0 rfl rfl 5 (by decide) (hts _ q843) (fun _ h9 => h9) rfl dX5_init_2_182 ?_
        refine lv_iconst (v := nI 0) hx hb dX5_init_2_185 (by decide) ?_
        refine lv_aload_n hx hb dX5_init_2_186 rfl (lv_at hl 1 rfl) ?_
        refine va_get (D := (dC, dI)) (ci := 1) (v := .ref (hs + 5)) (C := RX5) (T := TX5) (N := 10) hx hb hts in_X5 hown hK hP 0 rfl rfl 5 (by decide) (hts _ q843) (fun _ h9 => h9) rfl dX5_init_2_187 ?_
        refine lv_iconst (v := nI 0) hx hb dX5_init_2_190 (by decide) ?_
        refine lv_bipush (v := nI 6) hx hb dX5_init_2_191 (by decide) ?_
        refine g_copy (sp := 0) (dp := 0) (n := 6) (ty := .int) hx hb (hml.trans hl.1.symm) hown (hts _ q1665) (hts _ q526) (hts _ q525) (hts _ q133) hK 0 ((hO.at hS hz0 hOx) 8 _ rfl) h8 hS (Or.inr (by omega)) rfl rfl rfl (by omega) (by omega) (by omega) (by omega) (fun _ _ => rfl) (Nat.le_trans (Nat.le_of_ble_eq_true rfl) rk.1) (Nat.le_trans (Nat.le_of_ble_eq_true rfl) rk.2) dX5_init_2_193 (fun H locs h8 hz9 oq hS => ?_)
        have hli := hli.kept (oq _ (by omega))
        have ha := ha.kept (oq _ (by omega))
        have h5 := h5.kept (oq _ (by omega))
        have h6 := h6.kept (oq _ (by omega))
        have h7 := h7.kept (oq _ (by omega))
        have h9 := h9.kept (oq _ (by omega))
        have hF := fun o ho => And.intro ((hF o ho).1.kept (oq _ (by omega))) ((hF o ho).2.kept (oq _ (by omega)))
        have hP := hP.kept (oq _ (by omega))
        have hz := Nat.le_trans hz (Nat.le_of_eq hz9.symm)
        have hsx := hz9.trans hsx
        refine W.eq (g2 := F0 m 196 ls []) rfl ?_
        refine lv_aload_n hx hb dX5_init_2_196 rfl (lv_at hl 2 rfl) ?_
        refine va_get (D := (dC, dI)) (ci := 1) (v := .ref (b 9)) (C := RX5) (T := TX5) (N := 10) hx hb hts in_X5 hown hK ((hO.at hS hz0 hOx) 0 _ rfl) 0 rfl rfl 6 (by decide) (hts _ q845) (fun _ h9 => h9) rfl dX5_init_2_197 ?_
        refine lv_iconst (v := nI 0) hx hb dX5_init_2_200 (by decide) ?_
        refine lv_aload_n hx hb dX5_init_2_201 rfl (lv_at hl 1 rfl) ?_
        refine va_get (D := (dC, dI)) (ci := 1) (v := .ref (hs + 6)) (C := RX5) (T := TX5) (N := 10) hx hb hts in_X5 hown hK hP 0 rfl rfl 6 (by decide) (hts _ q845) (fun _ h9 => h9) rfl dX5_init_2_202 ?_
        refine lv_iconst (v := nI 0) hx hb dX5_init_2_205 (by decide) ?_
        refine lv_bipush (v := nI 6) hx hb dX5_init_2_206 (by decide) ?_
        refine g_copy (sp := 0) (dp := 0) (n := 6) (ty := .boolean) hx hb (hml.trans hl.1.symm) hown (hts _ q1665) (hts _ q526) (hts _ q525) (hts _ q133) hK 1 ((hO.at hS hz0 hOx) 9 _ rfl) h9 hS (Or.inr (by omega)) rfl rfl rfl (by omega) (by omega) (by omega) (by omega) (fun i _ => fit_b) (Nat.le_trans (Nat.le_of_ble_eq_true rfl) rk.1) (Nat.le_trans (Nat.le_of_ble_eq_true rfl) rk.2) dX5_init_2_208 (fun H locs h9 hz9 oq hS => ?_)
        have hli := hli.kept (oq _ (by omega))
        have ha := ha.kept (oq _ (by omega))
        have h5 := h5.kept (oq _ (by omega))
        have h6 := h6.kept (oq _ (by omega))
        have h7 := h7.kept (oq _ (by omega))
        have h8 := h8.kept (oq _ (by omega))
        have hF := fun o ho => And.intro ((hF o ho).1.kept (oq _ (by omega))) ((hF o ho).2.kept (oq _ (by omega)))
        have hP := hP.kept (oq _ (by omega))
        have hz := Nat.le_trans hz (Nat.le_of_eq hz9.symm)
        have hsx := hz9.trans hsx
        refine W.eq (g2 := F0 m 211 ls []) rfl ?_
        exact hret _ _ _ _ _ _ (⟨rfl, off_mk hn9 hL (hO.at hS hz0 hOx) hP (by rw [show ln S = k by omega]; exact hli) (by rw [show ln S = k by omega]; exact ha) (h5.congr (fun i hi => by unfold va_cpy; rw [if_pos (by omega)]; exact congrArg _ (by omega))) (h6.congr (fun i hi => by unfold va_cpy; rw [if_pos (by omega)]; exact congrArg _ (by omega))) (h7.congr (fun i hi => by unfold va_cpy; rw [if_pos (by omega)]; exact congrArg _ (by omega))) (h8.congr (fun i hi => by unfold va_cpy; rw [if_pos (by omega)]; exact congrArg _ (by omega))) (h9.congr (fun i hi => by unfold va_cpy; rw [if_pos (by omega)]; exact congrArg _ (by omega))) (fun o ho => hF o (by omega)), by omega⟩) hS (by omega) (by omega) dX5_init_2_211
      · have c_101 : ¬ ((ln S) ≤ k) := fun q9 => c_101 ((nI_leI (a := (ln S)) (b := k) (by omega) (by omega)).mpr q9)
        refine lv_aload_n hx hb dX5_init_2_104 rfl (lv_at hl 1 rfl) ?_
        refine va_get (D := (dC, dI)) (ci := 1) (v := .ref hs) (C := RX5) (T := TX5) (N := 10) hx hb hts in_X5 hown hK hP 0 rfl rfl 1 (by decide) (hts _ q833) (fun _ h9 => h9) rfl dX5_init_2_105 ?_
        refine lv_aload_n hx hb dX5_init_2_108 rfl (lv_at hl 2 rfl) ?_
        refine va_get (D := (dC, dI)) (ci := 1) (v := .ref (b 3)) (C := RX5) (T := TX5) (N := 10) hx hb hts in_X5 hown hK ((hO.at hS hz0 hOx) 0 _ rfl) 0 rfl rfl 1 (by decide) (hts _ q833) (fun _ h9 => h9) rfl dX5_init_2_109 ?_
        refine lv_iload_n hx hb dX5_init_2_112 rfl (lv_at hl 0 rfl) ?_
        refine x_run5a (x_rF (C := RJ20) (As := [.int (nI k)]) (hK.1 6 _ rfl).2 SF hK (d := 2) (rk.le (Nat.le_of_ble_eq_true rfl)) (c_J20_get l dC dI dA (b 3) (b 4) (ln S) (mc 1) 24 (fun o => if o < ln S then some (b (22 + o)) else none) (b (22 + k)) k (show k < (ln S) by omega) (show (ln S) ≤ 24 by omega) (show 24 < 2 ^ 31 by omega) (if_pos (by omega))) (lw_F q192 q196 q198 q141 q200) (hCE.2.2 6 (by decide)) (n := 1) (by decide +kernel) rfl (by decide) (g_recv hK ((hO.at hS hz0 hOx) 3 _ rfl) (ci := 6) rfl) (XOK.hp) (⟨(hO.at hS hz0 hOx) 3 _ rfl, (hO.at hS hz0 hOx) 4 _ rfl⟩) hl.1 (Nat.le_of_ble_eq_true rfl) ⟨(by omega), (by omega)⟩ rfl dX5_init_2_113) ?_
        refine g_top (y := .ref (b (22 + k))) rfl ?_
        refine g_cast hx hb hown hK ((hO.at hS hz0 hOx) _ _ (offE_lt (show k < ln S from (by omega)) hS1.2.1)) (ci := 3) rfl (hts _ q211) dX5_init_2_118 ?_
        refine g_run (g_rV (C := RX7) (As := []) SF hK (d := 2) (rk.le (Nat.le_of_ble_eq_true rfl)) (c_X7_copy l dC dI dA b mc S Hd k (hs + (7 + 2 * k)) (show k < ln S by omega) hS1) (lw_V q1656 q1657 q1658 q144 q1659) (n := 0) (by decide +kernel) rfl (by decide) (g_recv hK ((hO.at hS hz0 hOx) _ _ (offE_lt (show k < ln S from (by omega)) hS1.2.1)) (ci := 3) rfl) (XOK.hs (XOK.hp.and CE.ok)) (⟨⟨(hO.at hS hz0 hOx), hCE⟩, hsx⟩) hl.1 (Nat.le_of_ble_eq_true rfl) ⟨(by omega), (by omega)⟩ rfl dX5_init_2_121) hsx hS (fun _ h => h.elim) gFs (fun v9 H locs hP9 hz9 oq hS => ?_)
        obtain ⟨rfl, hq1, hy1, hsx9⟩ := hP9
        have hli := hli.stay oq (fun h => h)
        have ha := ha.stay oq (fun h => h)
        have h5 := h5.stay oq (fun h => h)
        have h6 := h6.stay oq (fun h => h)
        have h7 := h7.stay oq (fun h => h)
        have h8 := h8.stay oq (fun h => h)
        have h9 := h9.stay oq (fun h => h)
        have hF := fun o ho => And.intro ((hF o ho).1.stay oq (fun h => h)) ((hF o ho).2.stay oq (fun h => h))
        have hP := hP.stay oq (fun h => h)
        have hq1 : cP dC dI (hs + (7 + 2 * k)) (.inr (3, [.ref ((hs + (7 + 2 * k)) + 1), .int (lr S k 5), .int (lr S k 6), .int (lr S k 7), .int (lr S k 8), .int (lr S k 9)])) H := hq1
        have hy1 : cP dC dI ((hs + (7 + 2 * k)) + 1) (.inl (dA 0, 5, .inl (clip 5 (fun p => lr S k p)))) H := hy1
        have hz := Nat.le_trans hz hz9
        have hsx : H.size = hs + (9 + 2 * k) := by omega
        refine W.eq (g2 := F0 m 124 ls [.ref (hs + (7 + 2 * k)), .ref hs]) rfl ?_
        refine g_run5 (g_rF (C := RJ20) (As := [.ref (hs + (7 + 2 * k))]) SF hK (d := 1) (rk.le (Nat.le_of_ble_eq_true rfl)) (hK.1 6 _ rfl).2 (c_J20_add_X7 l dC dI dA hs (hs + 1) k (nI k) 24 (lsF hs k) (hs + (7 + 2 * k)) sz (hs + (9 + 2 * k)) (by omega) (by omega) (by omega) (by omega) (by omega) (by omega) (by omega)) (lw_F q1664 q1006 q1008 q141 q1010) (hCE.2.2 8 (by decide)) (n := 1) (by decide +kernel) rfl (by decide) (g_recv hK hli (ci := 6) rfl) (XOK.hs (XOK.hp.and (XOK.hp.and EN.ok))) (⟨⟨⟨hli, ha⟩, ⟨_, hq1⟩, hEN.at hS hAz⟩, hsx⟩) hl.1 (Nat.le_of_ble_eq_true rfl) ⟨(by omega), (by omega)⟩ rfl dX5_init_2_124) hsx hS (fun z e => Or.inr (by rcases e with e | e <;> omega)) gFs (fun v9 H locs hP9 hz9 oq hS => ?_)
        obtain ⟨rfl, hL, hsx9⟩ := hP9
        have h5 := h5.stay oq (fun e => by rcases e with e | e <;> omega)
        have h6 := h6.stay oq (fun e => by rcases e with e | e <;> omega)
        have h7 := h7.stay oq (fun e => by rcases e with e | e <;> omega)
        have h8 := h8.stay oq (fun e => by rcases e with e | e <;> omega)
        have h9 := h9.stay oq (fun e => by rcases e with e | e <;> omega)
        have hF := fun o ho => And.intro ((hF o ho).1.stay oq (fun e => by rcases e with e | e <;> omega)) ((hF o ho).2.stay oq (fun e => by rcases e with e | e <;> omega))
        have hq1 := hq1.stay oq (fun e => by rcases e with e | e <;> omega)
        have hy1 := hy1.stay oq (fun e => by rcases e with e | e <;> omega)
        have hP := hP.stay oq (fun e => by rcases e with e | e <;> omega)
        have hz := Nat.le_trans hz hz9
        have hsx : H.size = hs + (9 + 2 * k) := by omega
        refine W.eq (g2 := F0 m 129 ls [.int (nI true.toNat)]) rfl ?_
        have hli := hL.1
        have ha := hL.2
        refine lv_pop hx hb dX5_init_2_129 rfl ?_
        refine lv_iinc (v := nI (k + 1)) (lv' := [(2, .int (nI (k + 1))), (0, .ref x), (1, .ref (b 0))]) hx hb dX5_init_2_130 hl (k := 0) rfl (nI_add _ 1) (by decide) rfl (fun ls hl => ?_)
        refine W.widen (k := 7 + 2 * (k + 1)) (n := 57 + 11 * (k + 1)) (by omega) (by omega) ?_
        refine lv_goto (tgt := 91) hx hb dX5_init_2_133 (by decide) ?_
        exact ih91 (k + 1) (by omega) (by omega) _ _ hP (by have e : nI k + nI 1 = nI (k + 1) := nI_add k 1; rw [e] at hli; exact hli) (by rw [lsF_s] at ha; exact ha) h5 h6 h7 h8 h9 (fun o ho => by
          by_cases e : o = k
          · subst e; rw [show hs + (8 + 2 * o) = hs + (7 + 2 * o) + 1 by omega]; exact ⟨hq1, hy1⟩
          · exact hF o (by omega)) (by omega) hz hS ls (lv_sub hl [0, 1, 2] rfl)
  exact lp91 (ln S + 1) 0 (by omega) (by omega) _ _ hP hli (by rw [lsF_0]; exact ha) h5 h6 h7 h8 h9 (fun o ho => absurd ho (Nat.not_lt_zero o)) hsx hz hS ls (lv_sub hl [0, 1, 2] rfl)
end AL4
