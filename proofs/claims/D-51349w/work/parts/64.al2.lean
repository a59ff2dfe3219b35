set_option maxRecDepth 100000
section AL2
variable {p : Program} {l : Launch} {e : Env} {R : Room} {s : State} {m : MethodId} {args : Array Value} {below : List Frame} {meth : Method} {c : Code} {H : Heap} {locs : List Loc} {Q : State → Prop}
variable {cc : ByteArray} {pc nL : Nat} {ls : Array Slot} {rest : List Value} {dC : Nat → ClassId} {dI : Nat → Nat → Nat} {dA : Nat → ClassId} {a : Nat → Nat} {M : Nat → Nat → Int32} {H0 : Heap}

set_option maxHeartbeats 4000000 in
theorem c_X6_init (l : Launch) (dC : Nat → ClassId) (dI : Nat → Nat → Nat) (dA : Nat → ClassId) (x : Nat) (hs : Nat) (n1 : Int32) (n2 : Int32) (n3 : Int32)  : Met l yX6_init (ws_ yX6_init cX6_init 4 none) (rmD 2 (0) (0)) (gPx [.ref x, .int n1, .int n2, .int n3] (fun U H => cP dC dI x (.inr (4, [.int 0, .int 0, .int 0])) H) hs dC dI dA) (gQ hs (fun q => q = x) (fun v H => v = none ∧ cP dC dI x (.inr (4, [.int n1, .int n2, .int n3])) H ∧ H.size = hs)) (0) (0) (gF (fun q => q = x) hs) := by
  refine g_metv (own := RX6) (by decide) rfl (Nat.le_of_ble_eq_true rfl) fun p e R s m args below meth c Q SF rk hRR hX hK hin hret ls hl => ?_
  have hx := SF.1
  have hb := SF.2.1
  have hml := SF.2.2.1
  have hown := SF.2.2.2.1
  have hts := SF.2.2.2.2
  have hz0 := hX.2
  have hz : hs ≤ s.heap.size := Nat.le_of_eq hX.2.symm
  have hX := hX.1
  have hRc := hRR.1
  have hRs := hRR.2
  have gFs : ∀ q : Nat, s.heap.size ≤ q → gF (fun q => q = x) hs q := fun q h => Or.inr (hz0 ▸ h)
  have hS : va_S (gF (fun q => q = x) hs) s.heap s.heap [] := va_S.rf
  have hl : lv_has ls 4 [(0, .ref x), (1, .int n1), (2, .int n2), (3, .int n3)] := hl
  have hsx : s.heap.size = hs := hz0
  have hP := hX
  refine lv_aload_n hx hb dX6_init_0 rfl (lv_at hl 0 rfl) ?_
  refine g_run (g_rI (As := []) SF hK (d := 1) (rk.le (Nat.le_of_ble_eq_true rfl)) (c_J21_init l dC dI dA x hs ) q142 q988 q989 q990 rfl (n := 0) (by decide +kernel) rfl (by decide) (XOK.hs (XOK.hp (P := fun _ => True))) (⟨trivial, hsx⟩) hl.1 (Nat.le_of_ble_eq_true rfl) ⟨(by omega), (by omega)⟩ rfl dX6_init_1) hsx hS (fun _ h => h.elim) gFs (fun v9 H locs hP9 hz9 oq hS => ?_)
  obtain ⟨rfl, hsx9⟩ := hP9
  have hz := Nat.le_trans hz hz9
  have hsx : H.size = hs := by omega
  refine W.eq (g2 := F0 m 4 ls []) rfl ?_
  have hP := hP.stay oq (fun h => h)
  refine lv_aload_n hx hb dX6_init_4 rfl (lv_at hl 0 rfl) ?_
  refine lv_iload_n hx hb dX6_init_5 rfl (lv_at hl 1 rfl) ?_
  refine g_putF (ci := 4) (v := .int n1) (ty := .int) (C := RX6) (T := TX6) (N := 3) hx hb hts in_X6 tyX6 tyX6_ok nmX6 hown hK hP hS (Or.inl rfl) rfl 0 (by decide) (hts _ q992) (fun _ h9 => h9) rfl hin rfl (by decide +kernel) rfl rfl (Nat.le_of_ble_eq_true rfl) dX6_init_6 (fun H locs hP hz9 oq hS => ?_)
  have hP : cP dC dI x (.inr (4, [.int n1, .int 0, .int 0])) H := hP
  have hz := Nat.le_trans hz (Nat.le_of_eq hz9.symm)
  have hsx := hz9.trans hsx
  refine lv_aload_n hx hb dX6_init_9 rfl (lv_at hl 0 rfl) ?_
  refine lv_iload_n hx hb dX6_init_10 rfl (lv_at hl 2 rfl) ?_
  refine g_putF (ci := 4) (v := .int n2) (ty := .int) (C := RX6) (T := TX6) (N := 3) hx hb hts in_X6 tyX6 tyX6_ok nmX6 hown hK hP hS (Or.inl rfl) rfl 1 (by decide) (hts _ q993) (fun _ h9 => h9) rfl hin rfl (by decide +kernel) rfl rfl (Nat.le_of_ble_eq_true rfl) dX6_init_11 (fun H locs hP hz9 oq hS => ?_)
  have hP : cP dC dI x (.inr (4, [.int n1, .int n2, .int 0])) H := hP
  have hz := Nat.le_trans hz (Nat.le_of_eq hz9.symm)
  have hsx := hz9.trans hsx
  refine lv_aload_n hx hb dX6_init_14 rfl (lv_at hl 0 rfl) ?_
  refine lv_iload_n hx hb dX6_init_15 rfl (lv_at hl 3 rfl) ?_
  refine g_putF (ci := 4) (v := .int n3) (ty := .int) (C := RX6) (T := TX6) (N := 3) hx hb hts in_X6 tyX6 tyX6_ok nmX6 hown hK hP hS (Or.inl rfl) rfl 2 (by decide) (hts _ q994) (fun _ h9 => h9) rfl hin rfl (by decide +kernel) rfl rfl (Nat.le_of_ble_eq_true rfl) dX6_init_16 (fun H locs hP hz9 oq hS => ?_)
  have hP : cP dC dI x (.inr (4, [.int n1, .int n2, .int n3])) H := hP
  have hz := Nat.le_trans hz (Nat.le_of_eq hz9.symm)
  have hsx := hz9.trans hsx
  exact hret _ _ _ _ _ _ (⟨rfl, hP, hsx⟩) hS (by omega) (by omega) dX6_init_19

set_option maxHeartbeats 4000000 in
theorem c_X7_init (l : Launch) (dC : Nat → ClassId) (dI : Nat → Nat → Nat) (dA : Nat → ClassId) (x : Nat) (hs : Nat)  : Met l yX7_init (ws_ yX7_init cX7_init 1 none) (rmD 1 (1) (5)) (gPx [.ref x] (fun U H => cP dC dI x (.inr (3, [.null, .int 0, .int 0, .int 0, .int 0, .int 0])) H) hs dC dI dA) (gQ hs (fun q => q = x) (fun v H => v = none ∧ cP dC dI x (.inr (3, [.ref hs, .int 0, .int 0, .int 0, .int 0, .int (-1)])) H ∧ cP dC dI hs (.inl (dA 0, 5, .inl (fun _ => 0))) H ∧ H.size = hs + 1)) (1) (5) (gF (fun q => q = x) hs) := by
  refine g_metv (own := RX7) (by decide) rfl (Nat.le_of_ble_eq_true rfl) fun p e R s m args below meth c Q SF rk hRR hX hK hin hret ls hl => ?_
  have hx := SF.1
  have hb := SF.2.1
  have hml := SF.2.2.1
  have hown := SF.2.2.2.1
  have hts := SF.2.2.2.2
  have hz0 := hX.2
  have hz : hs ≤ s.heap.size := Nat.le_of_eq hX.2.symm
  have hX := hX.1
  have hRc := hRR.1
  have hRs := hRR.2
  have gFs : ∀ q : Nat, s.heap.size ≤ q → gF (fun q => q = x) hs q := fun q h => Or.inr (hz0 ▸ h)
  have hS : va_S (gF (fun q => q = x) hs) s.heap s.heap [] := va_S.rf
  have hl : lv_has ls 1 [(0, .ref x)] := hl
  have hsx : s.heap.size = hs := hz0
  have hP := hX
  have hxl : x < hs := hz0 ▸ hP.lt
  refine lv_aload_n hx hb dX7_init_0 rfl (lv_at hl 0 rfl) ?_
  refine W.objInit hx hb hown (hts _ q1068) (hts _ q156) (hts _ q157) rfl (hl.1.trans hml.symm) rfl dX7_init_1 (Nat.le_trans (Nat.le_of_ble_eq_true rfl) rk.1) (Nat.le_trans (Nat.le_of_ble_eq_true rfl) rk.2) ?_
  refine W.eq (g2 := F0 m 4 ls []) rfl ?_
  refine lv_aload_n hx hb dX7_init_4 rfl (lv_at hl 0 rfl) ?_
  refine lv_iconst (v := nI 5) hx hb dX7_init_5 (by decide) ?_
  refine g_newa (atype := .int) (ty := .int) (N' := 5) (t0 := 0) hx hb (hts _ q252) rfl hK hS rfl (hK.2 0 _ rfl).2 rfl (by omega) (by first | decide | (simp only [componentBytes]; omega)) (by omega) (by omega) dX7_init_6 (fun q1 H heq9 hq1 hz9 oq hS => ?_)
  have e9 : q1 = hs := heq9.trans hsx
  rw [e9] at hq1 ⊢
  have hP := hP.made oq
  have hsx : H.size = hs + 1 := by omega
  have hz : hs ≤ H.size := by omega
  refine g_putF (ci := 3) (v := .ref hs) (ty := .array (.int)) (C := RX7) (T := TX7) (N := 6) hx hb hts in_X7 tyX7 tyX7_ok nmX7 hown hK hP hS (Or.inl rfl) rfl 0 (by decide) (hts _ q1069) (fun _ h9 => h9) rfl hin rfl (by decide +kernel) rfl rfl (Nat.le_of_ble_eq_true rfl) dX7_init_8 (fun H locs hP hz9 oq hS => ?_)
  have hP : cP dC dI x (.inr (3, [.ref hs, .int 0, .int 0, .int 0, .int 0, .int 0])) H := hP
  have hz := Nat.le_trans hz (Nat.le_of_eq hz9.symm)
  have hq1 := hq1.kept (oq _ (by omega))
  have hsx := hz9.trans hsx
  refine lv_aload_n hx hb dX7_init_11 rfl (lv_at hl 0 rfl) ?_
  refine lv_iconst (v := (-1)) hx hb dX7_init_12 (by decide) ?_
  refine g_put (ci := 3) (v := .int (-1)) (ty := .int) (C := RX7) (T := TX7) (N := 6) hx hb hts in_X7 tyX7 tyX7_ok nmX7 hown hK hP hS (Or.inl rfl) rfl 5 (by decide) (hts _ q1086) (fun _ h9 => h9) rfl (by decide +kernel) rfl rfl (Nat.le_of_ble_eq_true rfl) dX7_init_13 (fun H locs hP hz9 oq hS => ?_)
  have hP : cP dC dI x (.inr (3, [.ref hs, .int 0, .int 0, .int 0, .int 0, .int (-1)])) H := hP
  have hz := Nat.le_trans hz (Nat.le_of_eq hz9.symm)
  have hq1 := hq1.kept (oq _ (by omega))
  have hsx := hz9.trans hsx
  exact hret _ _ _ _ _ _ (⟨rfl, hP, hq1, hsx⟩) hS (by omega) (by omega) dX7_init_16

set_option maxHeartbeats 4000000 in
theorem c_X7_copy (l : Launch) (dC : Nat → ClassId) (dI : Nat → Nat → Nat) (dA : Nat → ClassId) (b : Nat → Nat) (mc : Nat → Int32) (S : Nat → Int32) (Hd : Nat → Int32) (o : Nat) (hs : Nat) (hlt : o < ln S) (hS1 : SWf S) : Met l yX7_copy (ws_ yX7_copy cX7_copy 2 (some (.object "BadCodes$Letter"))) (rmD 2 (2) (11)) (gPx [.ref (b (22 + o))] (fun U H => famP dC dI b (offE b dA mc S Hd) H ∧ CE U) hs dC dI dA) (gQ hs (fun _ => False) (fun v H => v = some (.ref (hs)) ∧ cP dC dI hs (.inr (3, [.ref (hs + 1), .int (lr S o 5), .int (lr S o 6), .int (lr S o 7), .int (lr S o 8), .int (lr S o 9)])) H ∧ cP dC dI (hs + 1) (.inl (dA 0, 5, .inl (clip 5 (fun p => lr S o p)))) H ∧ H.size = hs + 2)) (2) (11) (gF (fun _ => False) hs) := by
  refine g_meta (own := RX7) (by decide) rfl (Nat.le_of_ble_eq_true rfl) (Or.inl ⟨_, rfl⟩) fun p e R s m args below meth c Q SF rk hRR hX hK hin hret ls hl => ?_
  have hx := SF.1
  have hb := SF.2.1
  have hml := SF.2.2.1
  have hown := SF.2.2.2.1
  have hts := SF.2.2.2.2
  have hz0 := hX.2
  have hz : hs ≤ s.heap.size := Nat.le_of_eq hX.2.symm
  have hX := hX.1
  have hRc := hRR.1
  have hRs := hRR.2
  have gFs : ∀ q : Nat, s.heap.size ≤ q → gF (fun _ => False) hs q := fun q h => Or.inr (hz0 ▸ h)
  have hS : va_S (gF (fun _ => False) hs) s.heap s.heap [] := va_S.rf
  have hl : lv_has ls 2 [(0, .ref (b (22 + o)))] := hl
  have hsx : s.heap.size = hs := hz0
  have hO := hX.1
  have hCE := hX.2
  have hL := hS1.2.1
  refine g_new (ci := 3) (fs := [.null, .int 0, .int 0, .int 0, .int 0, .int 0]) (C := RX7) (T := TX7) (N := 6) hx hb hts in_X7 tyX7 tyX7_ok hown (hts _ q1660) (hts _ q1064) (hts _ q144) hK hS rfl (fun j hj => by rcases (show j = 0 ∨ j = 1 ∨ j = 2 ∨ j = 3 ∨ j = 4 ∨ j = 5 by omega) with rfl | rfl | rfl | rfl | rfl | rfl <;> rfl) (by omega) (by omega) dX7_copy_0 (fun q1 H heq9 hq1 hz9 oq hS => ?_)
  have e9 : q1 = hs := heq9.trans hsx
  rw [e9] at hq1 ⊢
  have hsx : H.size = hs + 1 := by omega
  have hz : hs ≤ H.size := by omega
  refine lv_dup hx hb dX7_copy_3 rfl ?_
  refine g_run (g_rI (As := []) SF hK (d := 1) (rk.le (Nat.le_of_ble_eq_true rfl)) (c_X7_init l dC dI dA hs (hs + 1) ) q144 q1661 q1066 q1067 rfl (n := 0) (by decide +kernel) rfl (by decide) (XOK.hs (XOK.hp)) (⟨hq1, hsx⟩) hl.1 (Nat.le_of_ble_eq_true rfl) ⟨(by omega), (by omega)⟩ rfl dX7_copy_4) hsx hS (fun z e => Or.inr (by subst e; exact Nat.le_refl _)) gFs (fun v9 H locs hP9 hz9 oq hS => ?_)
  obtain ⟨rfl, hq1, hy1, hsx9⟩ := hP9
  have hy1 : cP dC dI (hs + 1) (.inl (dA 0, 5, .inl (fun _ => 0))) H := hy1
  have hz := Nat.le_trans hz hz9
  have hsx : H.size = hs + 2 := by omega
  refine W.eq (g2 := F0 m 7 ls [.ref hs]) rfl ?_
  refine lv_astore_n (lv' := [(1, .ref hs), (0, .ref (b (22 + o)))]) hx hb dX7_copy_7 rfl hl (by decide) rfl (fun ls hl => ?_)
  refine lv_aload_n hx hb dX7_copy_8 rfl (lv_at hl 1 rfl) ?_
  refine va_get (D := (dC, dI)) (ci := 3) (v := .ref (b (46 + o))) (C := RX7) (T := TX7) (N := 6) hx hb hts in_X7 hown hK ((hO.at hS hz0 (fun _ _ h => h)) _ _ (offE_lt (show o < ln S from (by omega)) hS1.2.1)) 0 rfl rfl 0 (by decide) (hts _ q1069) (fun _ h9 => h9) rfl dX7_copy_9 ?_
  refine lv_iconst (v := nI 0) hx hb dX7_copy_12 (by decide) ?_
  refine lv_aload_n hx hb dX7_copy_13 rfl (lv_at hl 0 rfl) ?_
  refine va_get (D := (dC, dI)) (ci := 3) (v := .ref (hs + 1)) (C := RX7) (T := TX7) (N := 6) hx hb hts in_X7 hown hK hq1 0 rfl rfl 0 (by decide) (hts _ q1069) (fun _ h9 => h9) rfl dX7_copy_14 ?_
  refine lv_iconst (v := nI 0) hx hb dX7_copy_17 (by decide) ?_
  refine lv_iconst (v := nI 5) hx hb dX7_copy_18 (by decide) ?_
  refine g_copy (sp := 0) (dp := 0) (n := 5) (ty := .int) hx hb (hml.trans hl.1.symm) hown (hts _ q1662) (hts _ q526) (hts _ q525) (hts _ q133) hK 0 ((hO.at hS hz0 (fun _ _ h => h)) _ _ (offE_rd (show o < ln S from (by omega)) hS1.2.1)) hy1 hS (Or.inr (by omega)) rfl rfl rfl (by omega) (by omega) (by omega) (by omega) (fun _ _ => rfl) (Nat.le_trans (Nat.le_of_ble_eq_true rfl) rk.1) (Nat.le_trans (Nat.le_of_ble_eq_true rfl) rk.2) dX7_copy_19 (fun H locs hy1 hz9 oq hS => ?_)
  have hq1 := hq1.kept (oq _ (by omega))
  have hz := Nat.le_trans hz (Nat.le_of_eq hz9.symm)
  have hsx := hz9.trans hsx
  refine W.eq (g2 := F0 m 22 ls []) rfl ?_
  refine lv_aload_n hx hb dX7_copy_22 rfl (lv_at hl 0 rfl) ?_
  refine lv_aload_n hx hb dX7_copy_23 rfl (lv_at hl 1 rfl) ?_
  refine va_get (D := (dC, dI)) (ci := 3) (v := .int (lr S o 5)) (C := RX7) (T := TX7) (N := 6) hx hb hts in_X7 hown hK ((hO.at hS hz0 (fun _ _ h => h)) _ _ (offE_lt (show o < ln S from (by omega)) hS1.2.1)) 0 rfl rfl 1 (by decide) (hts _ q1073) (fun _ h9 => h9) rfl dX7_copy_24 ?_
  refine g_put (ci := 3) (v := .int (lr S o 5)) (ty := .int) (C := RX7) (T := TX7) (N := 6) hx hb hts in_X7 tyX7 tyX7_ok nmX7 hown hK hq1 hS (Or.inr (by omega)) rfl 1 (by decide) (hts _ q1073) (fun _ h9 => h9) rfl (by decide +kernel) rfl rfl (Nat.le_of_ble_eq_true rfl) dX7_copy_27 (fun H locs hq1 hz9 oq hS => ?_)
  have hq1 : cP dC dI hs (.inr (3, [.ref (hs + 1), .int (lr S o 5), .int 0, .int 0, .int 0, .int (-1)])) H := hq1
  have hy1 := hy1.kept (oq _ (by omega))
  have hz := Nat.le_trans hz (Nat.le_of_eq hz9.symm)
  have hsx := hz9.trans hsx
  refine lv_aload_n hx hb dX7_copy_30 rfl (lv_at hl 0 rfl) ?_
  refine lv_aload_n hx hb dX7_copy_31 rfl (lv_at hl 1 rfl) ?_
  refine va_get (D := (dC, dI)) (ci := 3) (v := .int (lr S o 6)) (C := RX7) (T := TX7) (N := 6) hx hb hts in_X7 hown hK ((hO.at hS hz0 (fun _ _ h => h)) _ _ (offE_lt (show o < ln S from (by omega)) hS1.2.1)) 0 rfl rfl 2 (by decide) (hts _ q1077) (fun _ h9 => h9) rfl dX7_copy_32 ?_
  refine g_put (ci := 3) (v := .int (lr S o 6)) (ty := .int) (C := RX7) (T := TX7) (N := 6) hx hb hts in_X7 tyX7 tyX7_ok nmX7 hown hK hq1 hS (Or.inr (by omega)) rfl 2 (by decide) (hts _ q1077) (fun _ h9 => h9) rfl (by decide +kernel) rfl rfl (Nat.le_of_ble_eq_true rfl) dX7_copy_35 (fun H locs hq1 hz9 oq hS => ?_)
  have hq1 : cP dC dI hs (.inr (3, [.ref (hs + 1), .int (lr S o 5), .int (lr S o 6), .int 0, .int 0, .int (-1)])) H := hq1
  have hy1 := hy1.kept (oq _ (by omega))
  have hz := Nat.le_trans hz (Nat.le_of_eq hz9.symm)
  have hsx := hz9.trans hsx
  refine lv_aload_n hx hb dX7_copy_38 rfl (lv_at hl 0 rfl) ?_
  refine lv_aload_n hx hb dX7_copy_39 rfl (lv_at hl 1 rfl) ?_
  refine va_get (D := (dC, dI)) (ci := 3) (v := .int (lr S o 7)) (C := RX7) (T := TX7) (N := 6) hx hb hts in_X7 hown hK ((hO.at hS hz0 (fun _ _ h => h)) _ _ (offE_lt (show o < ln S from (by omega)) hS1.2.1)) 0 rfl rfl 3 (by decide) (hts _ q1080) (fun _ h9 => h9) rfl dX7_copy_40 ?_
  refine g_put (ci := 3) (v := .int (lr S o 7)) (ty := .int) (C := RX7) (T := TX7) (N := 6) hx hb hts in_X7 tyX7 tyX7_ok nmX7 hown hK hq1 hS (Or.inr (by omega)) rfl 3 (by decide) (hts _ q1080) (fun _ h9 => h9) rfl (by decide +kernel) rfl rfl (Nat.le_of_ble_eq_true rfl) dX7_copy_43 (fun H locs hq1 hz9 oq hS => ?_)
  have hq1 : cP dC dI hs (.inr (3, [.ref (hs + 1), .int (lr S o 5), .int (lr S o 6), .int (lr S o 7), .int 0, .int (-1)])) H := hq1
  have hy1 := hy1.kept (oq _ (by omega))
  have hz := Nat.le_trans hz (Nat.le_of_eq hz9.symm)
  have hsx := hz9.trans hsx
  refine lv_aload_n hx hb dX7_copy_46 rfl (lv_at hl 0 rfl) ?_
  refine lv_aload_n hx hb dX7_copy_47 rfl (lv_at hl 1 rfl) ?_
  refine va_get (D := (dC, dI)) (ci := 3) (v := .int (lr S o 8)) (C := RX7) (T := TX7) (N := 6) hx hb hts in_X7 hown hK ((hO.at hS hz0 (fun _ _ h => h)) _ _ (offE_lt (show o < ln S from (by omega)) hS1.2.1)) 0 rfl rfl 4 (by decide) (hts _ q1083) (fun _ h9 => h9) rfl dX7_copy_48 ?_
  refine g_put (ci := 3) (v := .int (lr S o 8)) (ty := .int) (C := RX7) (T := TX7) (N := 6) hx hb hts in_X7 tyX7 tyX7_ok nmX7 hown hK hq1 hS (Or.inr (by omega)) rfl 4 (by decide) (hts _ q1083) (fun _ h9 => h9) rfl (by decide +kernel) rfl rfl (Nat.le_of_ble_eq_true rfl) dX7_copy_51 (fun H locs hq1 hz9 oq hS => ?_)
  have hq1 : cP dC dI hs (.inr (3, [.ref (hs + 1), .int (lr S o 5), .int (lr S o 6), .int (lr S o 7), .int (lr S o 8), .int (-1)])) H := hq1
  have hy1 := hy1.kept (oq _ (by omega))
  have hz := Nat.le_trans hz (Nat.le_of_eq hz9.symm)
  have hsx := hz9.trans hsx
  refine lv_aload_n hx hb dX7_copy_54 rfl (lv_at hl 0 rfl) ?_
  refine lv_aload_n hx hb dX7_copy_55 rfl (lv_at hl 1 rfl) ?_
  refine va_get (D := (dC, dI)) (ci := 3) (v := .int (lr S o 9)) (C := RX7) (T := TX7) (N := 6) hx hb hts in_X7 hown hK ((hO.at hS hz0 (fun _ _ h => h)) _ _ (offE_lt (show o < ln S from (by omega)) hS1.2.1)) 0 rfl rfl 5 (by decide) (hts _ q1086) (fun _ h9 => h9) rfl dX7_copy_56 ?_
  refine g_put (ci := 3) (v := .int (lr S o 9)) (ty := .int) (C := RX7) (T := TX7) (N := 6) hx hb hts in_X7 tyX7 tyX7_ok nmX7 hown hK hq1 hS (Or.inr (by omega)) rfl 5 (by decide) (hts _ q1086) (fun _ h9 => h9) rfl (by decide +kernel) rfl rfl (Nat.le_of_ble_eq_true rfl) dX7_copy_59 (fun H locs hq1 hz9 oq hS => ?_)
  have hq1 : cP dC dI hs (.inr (3, [.ref (hs + 1), .int (lr S o 5), .int (lr S o 6), .int (lr S o 7), .int (lr S o 8), .int (lr S o 9)])) H := hq1
  have hy1 := hy1.kept (oq _ (by omega))
  have hz := Nat.le_trans hz (Nat.le_of_eq hz9.symm)
  have hsx := hz9.trans hsx
  refine lv_aload_n hx hb dX7_copy_62 rfl (lv_at hl 0 rfl) ?_
  exact hret _ _ _ _ _ _ _ (Or.inr ⟨_, rfl⟩) (⟨rfl, hq1, hy1.congr (fun i hi => by unfold va_cpy; rw [if_pos (by omega)]; exact congrArg _ (by omega)), hsx⟩) hS (by omega) (by omega) dX7_copy_63
end AL2
