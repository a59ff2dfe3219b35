set_option maxRecDepth 100000
section AL1
variable {p : Program} {l : Launch} {e : Env} {R : Room} {s : State} {m : MethodId} {args : Array Value} {below : List Frame} {meth : Method} {c : Code} {H : Heap} {locs : List Loc} {Q : State → Prop}
variable {cc : ByteArray} {pc nL : Nat} {ls : Array Slot} {rest : List Value} {dC : Nat → ClassId} {dI : Nat → Nat → Nat} {dA : Nat → ClassId} {a : Nat → Nat} {M : Nat → Nat → Int32} {H0 : Heap}

set_option maxHeartbeats 4000000 in
theorem c_J0_init (l : Launch) (dC : Nat → ClassId) (dI : Nat → Nat → Nat) (dA : Nat → ClassId) (x : Nat) (hs : Nat)  : Met l yJ0_init (ws_ yJ0_init cJ0_init 1 none) (rmD 1 (0) (0)) (gPx [.ref x] (fun U H => True) hs dC dI dA) (gQ hs (fun _ => False) (fun v H => v = none ∧ H.size = hs)) (0) (0) (gF (fun _ => False) hs) := by
  refine g_metv (own := RJ0) (by decide) rfl (Nat.le_of_ble_eq_true rfl) fun p e R s m args below meth c Q SF rk hRR hX hK hin hret ls hl => ?_
  have hx := SF.1
  have hb := SF.2.1
  have hml := SF.2.2.1
  have hown := SF.2.2.2.1
  have hts := SF.2.2.2.2
  have hz0 := hX.2
  have hz : hs ≤ s.heap.size := Nat.le_of_eq hX.2.symm
  have hX := hX.1
  have hRc := hRR.1
  have hRs := hRR.2
  have gFs : ∀ q : Nat, s.heap.size ≤ q → gF (fun _ => False) hs q := fun q h => Or.inr (hz0 ▸ h)
  have hS : va_S (gF (fun _ => False) hs) s.heap s.heap [] := va_S.rf
  have hl : lv_has ls 1 [(0, .ref x)] := hl
  have hsx : s.heap.size = hs := hz0
  refine lv_aload_n hx hb dJ0_init_0 rfl (lv_at hl 0 rfl) ?_
  refine W.objInit hx hb hown (hts _ q166) (hts _ q156) (hts _ q157) rfl (hl.1.trans hml.symm) rfl dJ0_init_1 (Nat.le_trans (Nat.le_of_ble_eq_true rfl) rk.1) (Nat.le_trans (Nat.le_of_ble_eq_true rfl) rk.2) ?_
  refine W.eq (g2 := F0 m 4 ls []) rfl ?_
  exact hret _ _ _ _ _ _ (⟨rfl, hsx⟩) hS (by omega) (by omega) dJ0_init_4

set_option maxHeartbeats 4000000 in
theorem c_J21_init (l : Launch) (dC : Nat → ClassId) (dI : Nat → Nat → Nat) (dA : Nat → ClassId) (x : Nat) (hs : Nat)  : Met l yJ21_init (ws_ yJ21_init cJ21_init 1 none) (rmD 1 (0) (0)) (gPx [.ref x] (fun U H => True) hs dC dI dA) (gQ hs (fun _ => False) (fun v H => v = none ∧ H.size = hs)) (0) (0) (gF (fun _ => False) hs) := by
  refine g_metv (own := RJ21) (by decide) rfl (Nat.le_of_ble_eq_true rfl) fun p e R s m args below meth c Q SF rk hRR hX hK hin hret ls hl => ?_
  have hx := SF.1
  have hb := SF.2.1
  have hml := SF.2.2.1
  have hown := SF.2.2.2.1
  have hts := SF.2.2.2.2
  have hz0 := hX.2
  have hz : hs ≤ s.heap.size := Nat.le_of_eq hX.2.symm
  have hX := hX.1
  have hRc := hRR.1
  have hRs := hRR.2
  have gFs : ∀ q : Nat, s.heap.size ≤ q → gF (fun _ => False) hs q := fun q h => Or.inr (hz0 ▸ h)
  have hS : va_S (gF (fun _ => False) hs) s.heap s.heap [] := va_S.rf
  have hl : lv_has ls 1 [(0, .ref x)] := hl
  have hsx : s.heap.size = hs := hz0
  refine lv_aload_n hx hb dJ21_init_0 rfl (lv_at hl 0 rfl) ?_
  refine W.objInit hx hb hown (hts _ q991) (hts _ q156) (hts _ q157) rfl (hl.1.trans hml.symm) rfl dJ21_init_1 (Nat.le_trans (Nat.le_of_ble_eq_true rfl) rk.1) (Nat.le_trans (Nat.le_of_ble_eq_true rfl) rk.2) ?_
  refine W.eq (g2 := F0 m 4 ls []) rfl ?_
  exact hret _ _ _ _ _ _ (⟨rfl, hsx⟩) hS (by omega) (by omega) dJ21_init_4

set_option maxHeartbeats 4000000 in
theorem c_J19_init (l : Launch) (dC : Nat → ClassId) (dI : Nat → Nat → Nat) (dA : Nat → ClassId) (x : Nat) (hs : Nat)  : Met l yJ19_init (ws_ yJ19_init cJ19_init 1 none) (rmD 2 (0) (0)) (gPx [.ref x] (fun U H => cP dC dI x (.inr (6, [.int 0, .null, .int 0])) H) hs dC dI dA) (gQ hs (fun q => q = x) (fun v H => v = none ∧ cP dC dI x (.inr (6, [.int 0, .null, .int 0])) H ∧ H.size = hs)) (0) (0) (gF (fun q => q = x) hs) := by
  refine g_metv (own := RJ19) (by decide) rfl (Nat.le_of_ble_eq_true rfl) fun p e R s m args below meth c Q SF rk hRR hX hK hin hret ls hl => ?_
  have hx := SF.1
  have hb := SF.2.1
  have hml := SF.2.2.1
  have hown := SF.2.2.2.1
  have hts := SF.2.2.2.2
  have hz0 := hX.2
  have hz : hs ≤ s.heap.size := Nat.le_of_eq hX.2.symm
  have hX := hX.1
  have hRc := hRR.1
  have hRs := hRR.2
  have gFs : ∀ q : Nat, s.heap.size ≤ q → gF (fun q => q = x) hs q := fun q h => Or.inr (hz0 ▸ h)
  have hS : va_S (gF (fun q => q = x) hs) s.heap s.heap [] := va_S.rf
  have hl : lv_has ls 1 [(0, .ref x)] := hl
  have hsx : s.heap.size = hs := hz0
  have hP := hX
  refine lv_aload_n hx hb dJ19_init_0 rfl (lv_at hl 0 rfl) ?_
  refine g_run (g_rI (As := []) SF hK (d := 1) (rk.le (Nat.le_of_ble_eq_true rfl)) (c_J0_init l dC dI dA x hs ) q113 q803 q164 q165 rfl (n := 0) (by decide +kernel) rfl (by decide) (XOK.hs (XOK.hp (P := fun _ => True))) (⟨trivial, hsx⟩) hl.1 (Nat.le_of_ble_eq_true rfl) ⟨(by omega), (by omega)⟩ rfl dJ19_init_1) hsx hS (fun _ h => h.elim) gFs (fun v9 H locs hP9 hz9 oq hS => ?_)
  obtain ⟨rfl, hsx9⟩ := hP9
  have hz := Nat.le_trans hz hz9
  have hsx : H.size = hs := by omega
  refine W.eq (g2 := F0 m 4 ls []) rfl ?_
  have hP := hP.stay oq (fun h => h)
  refine lv_aload_n hx hb dJ19_init_4 rfl (lv_at hl 0 rfl) ?_
  refine lv_iconst (v := nI 0) hx hb dJ19_init_5 (by decide) ?_
  refine g_put (ci := 6) (v := .int (nI 0)) (ty := .int) (C := RJ20) (T := TJ20) (N := 3) hx hb hts in_J20 tyJ20 tyJ20_ok nmJ20 hown hK hP hS (Or.inl rfl) rfl 0 (by decide) (hts _ q817) (fun _ h9 => h9) rfl (by decide +kernel) rfl rfl (Nat.le_of_ble_eq_true rfl) dJ19_init_6 (fun H locs hP hz9 oq hS => ?_)
  have hP : cP dC dI x (.inr (6, [.int (nI 0), .null, .int 0])) H := hP
  have hz := Nat.le_trans hz (Nat.le_of_eq hz9.symm)
  have hsx := hz9.trans hsx
  exact hret _ _ _ _ _ _ (⟨rfl, hP, hsx⟩) hS (by omega) (by omega) dJ19_init_9

set_option maxHeartbeats 4000000 in
theorem c_J20_init (l : Launch) (dC : Nat → ClassId) (dI : Nat → Nat → Nat) (dA : Nat → ClassId) (x : Nat) (sz : Nat) (hs : Nat) (n : Nat) (hn0 : 0 < n) (hn1 : n ≤ 100) : Met l yJ20_init (ws_ yJ20_init cJ20_init 2 none) (rmD 3 (1) (n)) (gPx [.ref x, .int (nI n)] (fun U H => cP dC dI x (.inr (6, [.int 0, .null, .int 0])) H ∧ EN sz U H) hs dC dI dA) (gQ hs (fun q => q = x) (fun v H => v = none ∧ cP dC dI x (.inr (6, [.int 0, .ref hs, .int (nI 0)])) H ∧ cP dC dI hs (.inl (dA 5, n, .inr (.inr (.inr (.inr (fun _ => none)))))) H ∧ H.size = hs + 1)) (1) (n) (gF (fun q => q = x) hs) := by
  refine g_metv (own := RJ20) (by decide) rfl (Nat.le_of_ble_eq_true rfl) fun p e R s m args below meth c Q SF rk hRR hX hK hin hret ls hl => ?_
  have hx := SF.1
  have hb := SF.2.1
  have hml := SF.2.2.1
  have hown := SF.2.2.2.1
  have hts := SF.2.2.2.2
  have hz0 := hX.2
  have hz : hs ≤ s.heap.size := Nat.le_of_eq hX.2.symm
  have hX := hX.1
  have hRc := hRR.1
  have hRs := hRR.2
  have gFs : ∀ q : Nat, s.heap.size ≤ q → gF (fun q => q = x) hs q := fun q h => Or.inr (hz0 ▸ h)
  have hS : va_S (gF (fun q => q = x) hs) s.heap s.heap [] := va_S.rf
  have hl : lv_has ls 2 [(0, .ref x), (1, .int (nI n))] := hl
  have hsx : s.heap.size = hs := hz0
  have hP := hX.1
  have hEN := hX.2
  have hxl : x < hs := hz0 ▸ hP.lt
  refine lv_aload_n hx hb dJ20_init_0 rfl (lv_at hl 0 rfl) ?_
  refine g_run (g_rI (As := []) SF hK (d := 2) (rk.le (Nat.le_of_ble_eq_true rfl)) (c_J19_init l dC dI dA x hs ) q140 q800 q801 q802 rfl (n := 0) (by decide +kernel) rfl (by decide) (XOK.hs (XOK.hp)) (⟨hP, hsx⟩) hl.1 (Nat.le_of_ble_eq_true rfl) ⟨(by omega), (by omega)⟩ rfl dJ20_init_1) hsx hS (fun _ h => Or.inl h) gFs (fun v9 H locs hP9 hz9 oq hS => ?_)
  obtain ⟨rfl, hP, hsx9⟩ := hP9
  have hz := Nat.le_trans hz hz9
  have hsx : H.size = hs := by omega
  refine W.eq (g2 := F0 m 4 ls []) rfl ?_
  refine lv_iload_n hx hb dJ20_init_4 rfl (lv_at hl 1 rfl) ?_
  refine lv_if_le (tgt := 19) hx hb dJ20_init_5 (by decide) (fun c_5 => ?_) (fun c_5 => ?_)
  · have c_5 : n ≤ 0 := (nI_leI (a := n) (b := 0) (by omega) (by omega)).mp c_5
    omega
  · have c_5 : ¬ (n ≤ 0) := fun q9 => c_5 ((nI_leI (a := n) (b := 0) (by omega) (by omega)).mpr q9)
    refine lv_aload_n hx hb dJ20_init_8 rfl (lv_at hl 0 rfl) ?_
    refine lv_iload_n hx hb dJ20_init_9 rfl (lv_at hl 1 rfl) ?_
    refine g_newq (N' := n) (t0 := 5) hx hb hown (hts _ q804) (hEN.2.2.2.2 0 (by decide)) hK hS rfl (by omega) (by omega) (by omega) dJ20_init_10 (fun q1 H heq9 hq1 hz9 oq hS => ?_)
    have e9 : q1 = hs := heq9.trans hsx
    rw [e9] at hq1 ⊢
    have hP := hP.made oq
    have hsx : H.size = hs + 1 := by omega
    have hz : hs ≤ H.size := by omega
    refine g_put (ci := 6) (v := .ref hs) (ty := .array (.object "java/lang/Object")) (C := RJ20) (T := TJ20) (N := 3) hx hb hts in_J20 tyJ20 tyJ20_ok nmJ20 hown hK hP hS (Or.inl rfl) rfl 1 (by decide) (hts _ q815) (fun _ h9 => h9) rfl (by decide +kernel) rfl rfl (Nat.le_of_ble_eq_true rfl) dJ20_init_13 (fun H locs hP hz9 oq hS => ?_)
    have hP : cP dC dI x (.inr (6, [.int 0, .ref hs, .int 0])) H := hP
    have hz := Nat.le_trans hz (Nat.le_of_eq hz9.symm)
    have hq1 := hq1.kept (oq _ (by omega))
    have hsx := hz9.trans hsx
    refine lv_goto (tgt := 60) hx hb dJ20_init_16 (by decide) ?_
    exact hret _ _ _ _ _ _ (⟨rfl, hP, hq1, hsx⟩) hS (by omega) (by omega) dJ20_init_60

set_option maxHeartbeats 4000000 in
theorem c_J20_add_2_X6 (l : Launch) (dC : Nat → ClassId) (dI : Nat → Nat → Nat) (dA : Nat → ClassId) (x : Nat) (y : Nat) (n : Nat) (k : Int32) (cap : Nat) (f : Nat → Option Nat) (u : Nat) (sz : Nat) (hs : Nat) (hn : n < cap) (hcap : cap ≤ 100) (hxy : x ≠ y) : Met l yJ20_add_2 (ws_ yJ20_add_2 cJ20_add_2 4 none) (rmD 0 (0) (0)) (gPx [.ref x, .ref u, .ref y, .int (nI n)] (fun U H => alP dC dI dA x y n k cap f H ∧ (∃ vs, cP dC dI u (.inr (4, vs)) H) ∧ EN sz U H) hs dC dI dA) (gQ hs (fun q => q = x ∨ q = y) (fun v H => v = none ∧ alP dC dI dA x y (n + 1) k cap (va_up f n (some u)) H ∧ H.size = hs)) (0) (0) (gF (fun q => q = x ∨ q = y) hs) := by
  refine g_metv (own := RJ20) (by decide) rfl (Nat.le_of_ble_eq_true rfl) fun p e R s m args below meth c Q SF rk hRR hX hK hin hret ls hl => ?_
  have hx := SF.1
  have hb := SF.2.1
  have hml := SF.2.2.1
  have hown := SF.2.2.2.1
  have hts := SF.2.2.2.2
  have hz0 := hX.2
  have hz : hs ≤ s.heap.size := Nat.le_of_eq hX.2.symm
  have hX := hX.1
  have hRc := hRR.1
  have hRs := hRR.2
  have gFs : ∀ q : Nat, s.heap.size ≤ q → gF (fun q => q = x ∨ q = y) hs q := fun q h => Or.inr (hz0 ▸ h)
  have hS : va_S (gF (fun q => q = x ∨ q = y) hs) s.heap s.heap [] := va_S.rf
  have hl : lv_has ls 4 [(0, .ref x), (1, .ref u), (2, .ref y), (3, .int (nI n))] := hl
  have hsx : s.heap.size = hs := hz0
  have hL1 := hX.1.1
  have hL2 := hX.1.2
  obtain ⟨vs, hu⟩ := hX.2.1
  have hEN := hX.2.2
  refine lv_iload_n hx hb dJ20_add_2_0 rfl (lv_at hl 3 rfl) ?_
  refine lv_aload_n hx hb dJ20_add_2_1 rfl (lv_at hl 2 rfl) ?_
  refine va_alen hx hb hK hL2 0 5 rfl rfl (v := nI cap) rfl dJ20_add_2_2 ?_
  refine lv_icmp_ne (tgt := 11) hx hb dJ20_add_2_3 (by decide) (fun c_3 => ?_) (fun c_3 => ?_)
  · have c_3 : ¬ (n = cap) := fun q9 => c_3 ((nI_eq (a := n) (b := cap) (by omega) (by omega)).mpr q9)
    refine lv_aload_n hx hb dJ20_add_2_11 rfl (lv_at hl 2 rfl) ?_
    refine lv_iload_n hx hb dJ20_add_2_12 rfl (lv_at hl 3 rfl) ?_
    refine lv_aload_n hx hb dJ20_add_2_13 rfl (lv_at hl 1 rfl) ?_
    refine g_aast hx hb hK hL2 hS (Or.inl (Or.inr rfl)) (t0 := 5) rfl (cast_asg (hEN.2.2.1 7 (by decide))) hu (ci := 4) rfl (i := n) hn (by omega) dJ20_add_2_14 (fun H locs hL2 hz9 oq hS => ?_)
    have hL1 := hL1.kept (oq _ hxy)
    have hsx := hz9.trans hsx
    have hz := Nat.le_trans hz (Nat.le_of_eq hz9.symm)
    refine lv_aload_n hx hb dJ20_add_2_15 rfl (lv_at hl 0 rfl) ?_
    refine lv_iload_n hx hb dJ20_add_2_16 rfl (lv_at hl 3 rfl) ?_
    refine lv_iconst (v := nI 1) hx hb dJ20_add_2_17 (by decide) ?_
    refine lv_iadd hx hb dJ20_add_2_18 ?_
    refine u_top (nI_add _ _) ?_
    refine g_put (ci := 6) (v := .int (nI (n + 1))) (ty := .int) (C := RJ20) (T := TJ20) (N := 3) hx hb hts in_J20 tyJ20 tyJ20_ok nmJ20 hown hK hL1 hS (Or.inl (Or.inl rfl)) rfl 2 (by decide) (hts _ q816) (fun _ h9 => h9) rfl (by decide +kernel) rfl rfl (Nat.le_of_ble_eq_true rfl) dJ20_add_2_19 (fun H locs hL1 hz9 oq hS => ?_)
    have hL1 : cP dC dI x (.inr (6, [.int k, .ref y, .int (nI (n + 1))])) H := hL1
    have hL2 := hL2.kept (oq _ hxy.symm)
    have hsx := hz9.trans hsx
    have hz := Nat.le_trans hz (Nat.le_of_eq hz9.symm)
    exact hret _ _ _ _ _ _ (⟨rfl, ⟨hL1, hL2⟩, hsx⟩) hS (by omega) (by omega) dJ20_add_2_22
  · have c_3 : n = cap := (nI_eq (a := n) (b := cap) (by omega) (by omega)).mp c_3
    omega

set_option maxHeartbeats 4000000 in
theorem c_J20_add_X6 (l : Launch) (dC : Nat → ClassId) (dI : Nat → Nat → Nat) (dA : Nat → ClassId) (x : Nat) (y : Nat) (n : Nat) (k : Int32) (cap : Nat) (f : Nat → Option Nat) (u : Nat) (sz : Nat) (hs : Nat) (hn : n < cap) (hcap : cap ≤ 100) (hxy : x ≠ y) (hxz : sz ≤ x) (hyz : sz ≤ y) (hsz : sz ≤ hs) (hux : u ≠ x) : Met l yJ20_add (ws_ yJ20_add cJ20_add 2 (some (.boolean))) (rmD 1 (0) (0)) (gPx [.ref x, .ref u] (fun U H => alP dC dI dA x y n k cap f H ∧ (∃ vs, cP dC dI u (.inr (4, vs)) H) ∧ EN sz U H) hs dC dI dA) (gQ hs (fun q => q = x ∨ q = y) (fun v H => v = some (.int (nI (true).toNat)) ∧ alP dC dI dA x y (n + 1) (k + nI 1) cap (va_up f n (some u)) H ∧ H.size = hs)) (0) (0) (gF (fun q => q = x ∨ q = y) hs) := by
  refine g_metz (own := RJ20) (by decide) rfl (Nat.le_of_ble_eq_true rfl) fun p e R s m args below meth c Q SF rk hRR hX hK hin hret ls hl => ?_
  have hx := SF.1
  have hb := SF.2.1
  have hml := SF.2.2.1
  have hown := SF.2.2.2.1
  have hts := SF.2.2.2.2
  have hz0 := hX.2
  have hz : hs ≤ s.heap.size := Nat.le_of_eq hX.2.symm
  have hX := hX.1
  have hRc := hRR.1
  have hRs := hRR.2
  have gFs : ∀ q : Nat, s.heap.size ≤ q → gF (fun q => q = x ∨ q = y) hs q := fun q h => Or.inr (hz0 ▸ h)
  have hS : va_S (gF (fun q => q = x ∨ q = y) hs) s.heap s.heap [] := va_S.rf
  have hl : lv_has ls 2 [(0, .ref x), (1, .ref u)] := hl
  have hsx : s.heap.size = hs := hz0
  have hL1 := hX.1.1
  have hL2 := hX.1.2
  obtain ⟨vs, hu⟩ := hX.2.1
  have hEN := hX.2.2
  have hAz : ∀ q, gF (fun q => q = x ∨ q = y) hs q → sz ≤ q := fun q h => h.elim (fun e => e.elim (fun e => e ▸ hxz) (fun e => e ▸ hyz)) (fun h => Nat.le_trans hsz h)
  refine lv_aload_n hx hb dJ20_add_0 rfl (lv_at hl 0 rfl) ?_
  refine lv_dup hx hb dJ20_add_1 rfl ?_
  refine va_get (D := (dC, dI)) (ci := 6) (v := .int k) (C := RJ20) (T := TJ20) (N := 3) hx hb hts in_J20 hown hK hL1 0 rfl rfl 0 (by decide) (hts _ q818) (fun x9 h9 => u_same (hts _ q819) x9 h9) rfl dJ20_add_2 ?_
  refine lv_iconst (v := nI 1) hx hb dJ20_add_5 (by decide) ?_
  refine lv_iadd hx hb dJ20_add_6 ?_
  refine g_put (ci := 6) (v := .int (k + (nI 1))) (ty := .int) (C := RJ20) (T := TJ20) (N := 3) hx hb hts in_J20 tyJ20 tyJ20_ok nmJ20 hown hK hL1 hS (Or.inl (Or.inl rfl)) rfl 0 (by decide) (hts _ q818) (fun x9 h9 => u_same (hts _ q819) x9 h9) rfl (by decide +kernel) rfl rfl (Nat.le_of_ble_eq_true rfl) dJ20_add_7 (fun H locs hL1 hz9 oq hS => ?_)
  have hL1 : cP dC dI x (.inr (6, [.int (k + (nI 1)), .ref y, .int (nI n)])) H := hL1
  have hL2 := hL2.kept (oq _ hxy.symm)
  have hsx := hz9.trans hsx
  have hz := Nat.le_trans hz (Nat.le_of_eq hz9.symm)
  have hu := hu.kept (oq _ hux)
  refine lv_aload_n hx hb dJ20_add_10 rfl (lv_at hl 0 rfl) ?_
  refine lv_aload_n hx hb dJ20_add_11 rfl (lv_at hl 1 rfl) ?_
  refine lv_aload_n hx hb dJ20_add_12 rfl (lv_at hl 0 rfl) ?_
  refine va_get (D := (dC, dI)) (ci := 6) (v := .ref y) (C := RJ20) (T := TJ20) (N := 3) hx hb hts in_J20 hown hK hL1 0 rfl rfl 1 (by decide) (hts _ q815) (fun _ h9 => h9) rfl dJ20_add_13 ?_
  refine lv_aload_n hx hb dJ20_add_16 rfl (lv_at hl 0 rfl) ?_
  refine va_get (D := (dC, dI)) (ci := 6) (v := .int (nI n)) (C := RJ20) (T := TJ20) (N := 3) hx hb hts in_J20 hown hK hL1 0 rfl rfl 2 (by decide) (hts _ q816) (fun _ h9 => h9) rfl dJ20_add_17 ?_
  refine g_run (g_rV (C := RJ20) (As := [.ref u, .ref y, .int (nI n)]) SF hK (d := 0) (rk.le (Nat.le_of_ble_eq_true rfl)) (c_J20_add_2_X6 l dC dI dA x y n (k + nI 1) cap f u sz hs (show n < cap by omega) (show cap ≤ 100 by omega) (show x ≠ y by omega)) (lw_V q1011 q1013 qs12 q141 q1014) (n := 3) (by decide +kernel) rfl (by decide) (g_recv hK hL1 (ci := 6) rfl) (XOK.hs (XOK.hp.and (XOK.hp.and EN.ok))) (⟨⟨⟨hL1, hL2⟩, ⟨vs, hu⟩, hEN.at hS hAz⟩, hsx⟩) hl.1 (Nat.le_of_ble_eq_true rfl) ⟨(by omega), (by omega)⟩ rfl dJ20_add_20) hsx hS (fun _ h => Or.inl h) gFs (fun v9 H locs hP9 hz9 oq hS => ?_)
  obtain ⟨rfl, hL, hsx9⟩ := hP9
  have hz := Nat.le_trans hz hz9
  have hsx : H.size = hs := by omega
  refine W.eq (g2 := F0 m 23 ls []) rfl ?_
  refine lv_iconst (v := nI 1) hx hb dJ20_add_23 (by decide) ?_
  exact hret _ _ _ _ _ _ _ (true) rfl (⟨rfl, hL, hsx⟩) hS (by omega) (by omega) dJ20_add_24

set_option maxHeartbeats 4000000 in
theorem c_J20_add_2_X7 (l : Launch) (dC : Nat → ClassId) (dI : Nat → Nat → Nat) (dA : Nat → ClassId) (x : Nat) (y : Nat) (n : Nat) (k : Int32) (cap : Nat) (f : Nat → Option Nat) (u : Nat) (sz : Nat) (hs : Nat) (hn : n < cap) (hcap : cap ≤ 100) (hxy : x ≠ y) : Met l yJ20_add_2 (ws_ yJ20_add_2 cJ20_add_2 4 none) (rmD 0 (0) (0)) (gPx [.ref x, .ref u, .ref y, .int (nI n)] (fun U H => alP dC dI dA x y n k cap f H ∧ (∃ vs, cP dC dI u (.inr (3, vs)) H) ∧ EN sz U H) hs dC dI dA) (gQ hs (fun q => q = x ∨ q = y) (fun v H => v = none ∧ alP dC dI dA x y (n + 1) k cap (va_up f n (some u)) H ∧ H.size = hs)) (0) (0) (gF (fun q => q = x ∨ q = y) hs) := by
  refine g_metv (own := RJ20) (by decide) rfl (Nat.le_of_ble_eq_true rfl) fun p e R s m args below meth c Q SF rk hRR hX hK hin hret ls hl => ?_
  have hx := SF.1
  have hb := SF.2.1
  have hml := SF.2.2.1
  have hown := SF.2.2.2.1
  have hts := SF.2.2.2.2
  have hz0 := hX.2
  have hz : hs ≤ s.heap.size := Nat.le_of_eq hX.2.symm
  have hX := hX.1
  have hRc := hRR.1
  have hRs := hRR.2
  have gFs : ∀ q : Nat, s.heap.size ≤ q → gF (fun q => q = x ∨ q = y) hs q := fun q h => Or.inr (hz0 ▸ h)
  have hS : va_S (gF (fun q => q = x ∨ q = y) hs) s.heap s.heap [] := va_S.rf
  have hl : lv_has ls 4 [(0, .ref x), (1, .ref u), (2, .ref y), (3, .int (nI n))] := hl
  have hsx : s.heap.size = hs := hz0
  have hL1 := hX.1.1
  have hL2 := hX.1.2
  obtain ⟨vs, hu⟩ := hX.2.1
  have hEN := hX.2.2
  refine lv_iload_n hx hb dJ20_add_2_0 rfl (lv_at hl 3 rfl) ?_
  refine lv_aload_n hx hb dJ20_add_2_1 rfl (lv_at hl 2 rfl) ?_
  refine va_alen hx hb hK hL2 0 5 rfl rfl (v := nI cap) rfl dJ20_add_2_2 ?_
  refine lv_icmp_ne (tgt := 11) hx hb dJ20_add_2_3 (by decide) (fun c_3 => ?_) (fun c_3 => ?_)
  · have c_3 : ¬ (n = cap) := fun q9 => c_3 ((nI_eq (a := n) (b := cap) (by omega) (by omega)).mpr q9)
    refine lv_aload_n hx hb dJ20_add_2_11 rfl (lv_at hl 2 rfl) ?_
    refine lv_iload_n hx hb dJ20_add_2_12 rfl (lv_at hl 3 rfl) ?_
    refine lv_aload_n hx hb dJ20_add_2_13 rfl (lv_at hl 1 rfl) ?_
    refine g_aast hx hb hK hL2 hS (Or.inl (Or.inr rfl)) (t0 := 5) rfl (cast_asg (hEN.2.2.1 8 (by decide))) hu (ci := 3) rfl (i := n) hn (by omega) dJ20_add_2_14 (fun H locs hL2 hz9 oq hS => ?_)
    have hL1 := hL1.kept (oq _ hxy)
    have hsx := hz9.trans hsx
    have hz := Nat.le_trans hz (Nat.le_of_eq hz9.symm)
    refine lv_aload_n hx hb dJ20_add_2_15 rfl (lv_at hl 0 rfl) ?_
    refine lv_iload_n hx hb dJ20_add_2_16 rfl (lv_at hl 3 rfl) ?_
    refine lv_iconst (v := nI 1) hx hb dJ20_add_2_17 (by decide) ?_
    refine lv_iadd hx hb dJ20_add_2_18 ?_
    refine u_top (nI_add _ _) ?_
    refine g_put (ci := 6) (v := .int (nI (n + 1))) (ty := .int) (C := RJ20) (T := TJ20) (N := 3) hx hb hts in_J20 tyJ20 tyJ20_ok nmJ20 hown hK hL1 hS (Or.inl (Or.inl rfl)) rfl 2 (by decide) (hts _ q816) (fun _ h9 => h9) rfl (by decide +kernel) rfl rfl (Nat.le_of_ble_eq_true rfl) dJ20_add_2_19 (fun H locs hL1 hz9 oq hS => ?_)
    have hL1 : cP dC dI x (.inr (6, [.int k, .ref y, .int (nI (n + 1))])) H := hL1
    have hL2 := hL2.kept (oq _ hxy.symm)
    have hsx := hz9.trans hsx
    have hz := Nat.le_trans hz (Nat.le_of_eq hz9.symm)
    exact hret _ _ _ _ _ _ (⟨rfl, ⟨hL1, hL2⟩, hsx⟩) hS (by omega) (by omega) dJ20_add_2_22
  · have c_3 : n = cap := (nI_eq (a := n) (b := cap) (by omega) (by omega)).mp c_3
    omega

set_option maxHeartbeats 4000000 in
theorem c_J20_add_X7 (l : Launch) (dC : Nat → ClassId) (dI : Nat → Nat → Nat) (dA : Nat → ClassId) (x : Nat) (y : Nat) (n : Nat) (k : Int32) (cap : Nat) (f : Nat → Option Nat) (u : Nat) (sz : Nat) (hs : Nat) (hn : n < cap) (hcap : cap ≤ 100) (hxy : x ≠ y) (hxz : sz ≤ x) (hyz : sz ≤ y) (hsz : sz ≤ hs) (hux : u ≠ x) : Met l yJ20_add (ws_ yJ20_add cJ20_add 2 (some (.boolean))) (rmD 1 (0) (0)) (gPx [.ref x, .ref u] (fun U H => alP dC dI dA x y n k cap f H ∧ (∃ vs, cP dC dI u (.inr (3, vs)) H) ∧ EN sz U H) hs dC dI dA) (gQ hs (fun q => q = x ∨ q = y) (fun v H => v = some (.int (nI (true).toNat)) ∧ alP dC dI dA x y (n + 1) (k + nI 1) cap (va_up f n (some u)) H ∧ H.size = hs)) (0) (0) (gF (fun q => q = x ∨ q = y) hs) := by
  refine g_metz (own := RJ20) (by decide) rfl (Nat.le_of_ble_eq_true rfl) fun p e R s m args below meth c Q SF rk hRR hX hK hin hret ls hl => ?_
  have hx := SF.1
  have hb := SF.2.1
  have hml := SF.2.2.1
  have hown := SF.2.2.2.1
  have hts := SF.2.2.2.2
  have hz0 := hX.2
  have hz : hs ≤ s.heap.size := Nat.le_of_eq hX.2.symm
  have hX := hX.1
  have hRc := hRR.1
  have hRs := hRR.2
  have gFs : ∀ q : Nat, s.heap.size ≤ q → gF (fun q => q = x ∨ q = y) hs q := fun q h => Or.inr (hz0 ▸ h)
  have hS : va_S (gF (fun q => q = x ∨ q = y) hs) s.heap s.heap [] := va_S.rf
  have hl : lv_has ls 2 [(0, .ref x), (1, .ref u)] := hl
  have hsx : s.heap.size = hs := hz0
  have hL1 := hX.1.1
  have hL2 := hX.1.2
  obtain ⟨vs, hu⟩ := hX.2.1
  have hEN := hX.2.2
  have hAz : ∀ q, gF (fun q => q = x ∨ q = y) hs q → sz ≤ q := fun q h => h.elim (fun e => e.elim (fun e => e ▸ hxz) (fun e => e ▸ hyz)) (fun h => Nat.le_trans hsz h)
  refine lv_aload_n hx hb dJ20_add_0 rfl (lv_at hl 0 rfl) ?_
  refine lv_dup hx hb dJ20_add_1 rfl ?_
  refine va_get (D := (dC, dI)) (ci := 6) (v := .int k) (C := RJ20) (T := TJ20) (N := 3) hx hb hts in_J20 hown hK hL1 0 rfl rfl 0 (by decide) (hts _ q818) (fun x9 h9 => u_same (hts _ q819) x9 h9) rfl dJ20_add_2 ?_
  refine lv_iconst (v := nI 1) hx hb dJ20_add_5 (by decide) ?_
  refine lv_iadd hx hb dJ20_add_6 ?_
  refine g_put (ci := 6) (v := .int (k + (nI 1))) (ty := .int) (C := RJ20) (T := TJ20) (N := 3) hx hb hts in_J20 tyJ20 tyJ20_ok nmJ20 hown hK hL1 hS (Or.inl (Or.inl rfl)) rfl 0 (by decide) (hts _ q818) (fun x9 h9 => u_same (hts _ q819) x9 h9) rfl (by decide +kernel) rfl rfl (Nat.le_of_ble_eq_true rfl) dJ20_add_7 (fun H locs hL1 hz9 oq hS => ?_)
  have hL1 : cP dC dI x (.inr (6, [.int (k + (nI 1)), .ref y, .int (nI n)])) H := hL1
  have hL2 := hL2.kept (oq _ hxy.symm)
  have hsx := hz9.trans hsx
  have hz := Nat.le_trans hz (Nat.le_of_eq hz9.symm)
  have hu := hu.kept (oq _ hux)
  refine lv_aload_n hx hb dJ20_add_10 rfl (lv_at hl 0 rfl) ?_
  refine lv_aload_n hx hb dJ20_add_11 rfl (lv_at hl 1 rfl) ?_
  refine lv_aload_n hx hb dJ20_add_12 rfl (lv_at hl 0 rfl) ?_
  refine va_get (D := (dC, dI)) (ci := 6) (v := .ref y) (C := RJ20) (T := TJ20) (N := 3) hx hb hts in_J20 hown hK hL1 0 rfl rfl 1 (by decide) (hts _ q815) (fun _ h9 => h9) rfl dJ20_add_13 ?_
  refine lv_aload_n hx hb dJ20_add_16 rfl (lv_at hl 0 rfl) ?_
  refine va_get (D := (dC, dI)) (ci := 6) (v := .int (nI n)) (C := RJ20) (T := TJ20) (N := 3) hx hb hts in_J20 hown hK hL1 0 rfl rfl 2 (by decide) (hts _ q816) (fun _ h9 => h9) rfl dJ20_add_17 ?_
  refine g_run (g_rV (C := RJ20) (As := [.ref u, .ref y, .int (nI n)]) SF hK (d := 0) (rk.le (Nat.le_of_ble_eq_true rfl)) (c_J20_add_2_X7 l dC dI dA x y n (k + nI 1) cap f u sz hs (show n < cap by omega) (show cap ≤ 100 by omega) (show x ≠ y by omega)) (lw_V q1011 q1013 qs12 q141 q1014) (n := 3) (by decide +kernel) rfl (by decide) (g_recv hK hL1 (ci := 6) rfl) (XOK.hs (XOK.hp.and (XOK.hp.and EN.ok))) (⟨⟨⟨hL1, hL2⟩, ⟨vs, hu⟩, hEN.at hS hAz⟩, hsx⟩) hl.1 (Nat.le_of_ble_eq_true rfl) ⟨(by omega), (by omega)⟩ rfl dJ20_add_20) hsx hS (fun _ h => Or.inl h) gFs (fun v9 H locs hP9 hz9 oq hS => ?_)
  obtain ⟨rfl, hL, hsx9⟩ := hP9
  have hz := Nat.le_trans hz hz9
  have hsx : H.size = hs := by omega
  refine W.eq (g2 := F0 m 23 ls []) rfl ?_
  refine lv_iconst (v := nI 1) hx hb dJ20_add_23 (by decide) ?_
  exact hret _ _ _ _ _ _ _ (true) rfl (⟨rfl, hL, hsx⟩) hS (by omega) (by omega) dJ20_add_24
end AL1
