set_option maxRecDepth 100000
section EX1
variable {p : Program} {l : Launch} {e : Env} {R : Room} {s : State} {m : MethodId} {args : Array Value} {below : List Frame} {meth : Method} {c : Code} {H : Heap} {locs : List Loc} {Q : State → Prop}
variable {cc : ByteArray} {pc nL : Nat} {ls : Array Slot} {rest : List Value} {dC : Nat → ClassId} {dI : Nat → Nat → Nat} {dA : Nat → ClassId} {a : Nat → Nat} {M : Nat → Nat → Int32} {H0 : Heap}

def dcW : Nat → MethodName
  | 0 => ⟨"java/lang/RuntimeException", "<init>", "()V"⟩
  | 1 => ⟨"java/lang/Exception", "<init>", "()V"⟩
  | _ => ⟨"java/lang/Throwable", "<init>", "()V"⟩
/-- what exceptions rest on: two statics below sz, three words -/
def EX (sz : Nat) (U : State) (H : Heap) : Prop := vx_Zq Bundle.tN "UNASSIGNED_STACK" Bundle.steD (fun q => sz ≤ q) U H ∧ vx_Zq Bundle.tN "SUPPRESSED_SENTINEL" Bundle.listD (fun q => sz ≤ q) U H ∧ ∀ i, i < 3 → va_Nw (.declares (dcW i)) U
theorem EX.ok {sz : Nat} : XOK (EX sz) := ⟨fun u U H e q => ⟨vx_Zq.moved (by rw [e]; exact Vm.Alike.refl _) q.1, vx_Zq.moved (by rw [e]; exact Vm.Alike.refl _) q.2.1, fun i hi => va_Nw.same rfl e.symm (q.2.2 i hi)⟩, fun s U H hW q => ⟨vx_Zq.moved hW.alike q.1, vx_Zq.moved hW.alike q.2.1, fun i hi => va_Nw.warmD hW (q.2.2 i hi)⟩⟩
theorem EX.kept {sz : Nat} {U : State} {H H1 : Heap} (h : EX sz U H) (hq : ∀ a : Nat, a < H.size → ¬ sz ≤ a → H1[a]? = H[a]?) : EX sz U H1 := ⟨h.1.kept hq, h.2.1.kept hq, h.2.2⟩
theorem EX.at {sz : Nat} {A : Nat → Prop} {U : State} {H0 H : Heap} {locs : List Loc} (h : EX sz U H0) (hS : va_S A H0 H locs) (hA : ∀ q, A q → sz ≤ q) : EX sz U H := h.kept (fun a h1 h2 => hS.2.1 a h1 (fun q => h2 (hA a q)))
set_option maxHeartbeats 4000000 in
theorem c_J4_init_3_X4 (l : Launch) (dC : Nat → ClassId) (dI : Nat → Nat → Nat) (dA : Nat → ClassId) (x : Nat) (sz : Nat) (hs : Nat) (hxz : sz ≤ x) (hsz : sz ≤ hs) : Met l yJ4_init_3 (ws_ yJ4_init_3 cJ4_init_3 5 none) (rmD 1 (0) (0)) (gPx [.ref x, .null, .null, .int (nI 0), .int (nI 0)] (fun U H => cP dC dI x (.inr (10, [.null, .null, .null, .null, .null, .int 0, .int 0, .int 0])) H ∧ EX sz U H) hs dC dI dA) (gQ hs (fun q => q = x) (fun v H => v = none ∧ cP dC dI x (.inr (10, [.null, .null, .null, .null, .null, .int 0, .int 0, .int 0])) H)) (0) (0) (gF (fun q => q = x) hs) := by
  refine g_metv (own := RJ4) (by decide) rfl (Nat.le_of_ble_eq_true rfl) fun p e R s m args below meth c Q SF rk hRR hX hK hin hret ls hl => ?_
  have hx := SF.1
  have hb := SF.2.1
  have hml := SF.2.2.1
  have hown := SF.2.2.2.1
  have hts := SF.2.2.2.2
  have hz0 := hX.2
  have hz : hs ≤ s.heap.size := Nat.le_of_eq hX.2.symm
  have hX := hX.1
  have hRc := hRR.1
  have hRs := hRR.2
  have gFs : ∀ q : Nat, s.heap.size ≤ q → gF (fun q => q = x) hs q := fun q h => Or.inr (hz0 ▸ h)
  have hS : va_S (gF (fun q => q = x) hs) s.heap s.heap [] := va_S.rf
  have hl : lv_has ls 5 [(0, .ref x), (1, .null), (2, .null), (3, .int (nI 0)), (4, .int (nI 0))] := hl
  have hP := hX.1
  have hEX := hX.2
  have hAz : ∀ q, gF (fun q => q = x) hs q → sz ≤ q := fun q h => h.elim (fun e => e ▸ hxz) (fun h => Nat.le_trans hsz h)
  refine lv_aload_n hx hb dJ4_init_3_0 rfl (lv_at hl 0 rfl) ?_
  refine W.objInit hx hb hown (hts _ q301) (hts _ q156) (hts _ q157) rfl (hl.1.trans hml.symm) rfl dJ4_init_3_1 (Nat.le_trans (Nat.le_of_ble_eq_true rfl) rk.1) (Nat.le_trans (Nat.le_of_ble_eq_true rfl) rk.2) ?_
  refine W.eq (g2 := F0 m 4 ls []) rfl ?_
  refine lv_aload_n hx hb dJ4_init_3_4 rfl (lv_at hl 0 rfl) ?_
  refine lv_aload_n hx hb dJ4_init_3_5 rfl (lv_at hl 0 rfl) ?_
  refine g_put (ci := 10) (v := .ref x) (ty := .object "java/lang/Throwable") (C := RX4) (T := TX4) (N := 8) hx hb hts in_X4 tyX4 tyX4_ok nmX4 hown hK hP hS (Or.inl rfl) rfl 0 (by decide) (hts _ q325) (fun _ h9 => h9) rfl (by decide +kernel) rfl rfl (Nat.le_of_ble_eq_true rfl) dJ4_init_3_6 (fun H locs hP hz9 oq hS => ?_)
  have hP : cP dC dI x (.inr (10, [.ref x, .null, .null, .null, .null, .int 0, .int 0, .int 0])) H := hP
  have hz := Nat.le_trans hz (Nat.le_of_eq hz9.symm)
  refine lv_aload_n hx hb dJ4_init_3_9 rfl (lv_at hl 0 rfl) ?_
  rcases hEX.1.1 with hF | ⟨t91, hF⟩
  · refine va_gets hx hb (hF.narrow hAz) hS hown (hts _ q302) (fun _ h9 => h9) dJ4_init_3_10 ?_
    refine g_put (ci := 10) (v := .null) (ty := .array (.object "java/lang/StackTraceElement")) (C := RX4) (T := TX4) (N := 8) hx hb hts in_X4 tyX4 tyX4_ok nmX4 hown hK hP hS (Or.inl rfl) rfl 1 (by decide) (hts _ q326) (fun _ h9 => h9) rfl (by decide +kernel) rfl rfl (Nat.le_of_ble_eq_true rfl) dJ4_init_3_13 (fun H locs hP hz9 oq hS => ?_)
    have hP : cP dC dI x (.inr (10, [.ref x, .null, .null, .null, .null, .int 0, .int 0, .int 0])) H := hP
    have hz := Nat.le_trans hz (Nat.le_of_eq hz9.symm)
    refine lv_aload_n hx hb dJ4_init_3_16 rfl (lv_at hl 0 rfl) ?_
    rcases hEX.2.1.1 with hF | ⟨t92, hF⟩
    · refine va_gets hx hb (hF.narrow hAz) hS hown (hts _ q304) (fun _ h9 => h9) dJ4_init_3_17 ?_
      refine g_put (ci := 10) (v := .null) (ty := .object "java/util/List") (C := RX4) (T := TX4) (N := 8) hx hb hts in_X4 tyX4 tyX4_ok nmX4 hown hK hP hS (Or.inl rfl) rfl 2 (by decide) (hts _ q327) (fun _ h9 => h9) rfl (by decide +kernel) rfl rfl (Nat.le_of_ble_eq_true rfl) dJ4_init_3_20 (fun H locs hP hz9 oq hS => ?_)
      have hP : cP dC dI x (.inr (10, [.ref x, .null, .null, .null, .null, .int 0, .int 0, .int 0])) H := hP
      have hz := Nat.le_trans hz (Nat.le_of_eq hz9.symm)
      refine lv_iload hx hb dJ4_init_3_23 (lv_at hl 4 rfl) ?_
      refine lv_if_eq (tgt := 36) hx hb dJ4_init_3_25 (by decide) (fun c_25 => ?_) (fun c_25 => absurd (by decide) c_25)
      refine lv_aload_n hx hb dJ4_init_3_36 rfl (lv_at hl 0 rfl) ?_
      refine lv_null hx hb dJ4_init_3_37 ?_
      refine g_put (ci := 10) (v := .null) (ty := .array (.object "java/lang/StackTraceElement")) (C := RX4) (T := TX4) (N := 8) hx hb hts in_X4 tyX4 tyX4_ok nmX4 hown hK hP hS (Or.inl rfl) rfl 1 (by decide) (hts _ q326) (fun _ h9 => h9) rfl (by decide +kernel) rfl rfl (Nat.le_of_ble_eq_true rfl) dJ4_init_3_38 (fun H locs hP hz9 oq hS => ?_)
      have hP : cP dC dI x (.inr (10, [.ref x, .null, .null, .null, .null, .int 0, .int 0, .int 0])) H := hP
      have hz := Nat.le_trans hz (Nat.le_of_eq hz9.symm)
      refine lv_aload_n hx hb dJ4_init_3_41 rfl (lv_at hl 0 rfl) ?_
      refine lv_aload_nN hx hb dJ4_init_3_42 rfl (lv_at hl 1 rfl) ?_
      refine g_put (ci := 10) (v := .null) (ty := .object "java/lang/String") (C := RX4) (T := TX4) (N := 8) hx hb hts in_X4 tyX4 tyX4_ok nmX4 hown hK hP hS (Or.inl rfl) rfl 3 (by decide) (hts _ q324) (fun _ h9 => h9) rfl (by decide +kernel) rfl rfl (Nat.le_of_ble_eq_true rfl) dJ4_init_3_43 (fun H locs hP hz9 oq hS => ?_)
      have hP : cP dC dI x (.inr (10, [.ref x, .null, .null, .null, .null, .int 0, .int 0, .int 0])) H := hP
      have hz := Nat.le_trans hz (Nat.le_of_eq hz9.symm)
      refine lv_aload_n hx hb dJ4_init_3_46 rfl (lv_at hl 0 rfl) ?_
      refine lv_aload_nN hx hb dJ4_init_3_47 rfl (lv_at hl 2 rfl) ?_
      refine g_put (ci := 10) (v := .null) (ty := .object "java/lang/Throwable") (C := RX4) (T := TX4) (N := 8) hx hb hts in_X4 tyX4 tyX4_ok nmX4 hown hK hP hS (Or.inl rfl) rfl 0 (by decide) (hts _ q325) (fun _ h9 => h9) rfl (by decide +kernel) rfl rfl (Nat.le_of_ble_eq_true rfl) dJ4_init_3_48 (fun H locs hP hz9 oq hS => ?_)
      have hP : cP dC dI x (.inr (10, [.null, .null, .null, .null, .null, .int 0, .int 0, .int 0])) H := hP
      have hz := Nat.le_trans hz (Nat.le_of_eq hz9.symm)
      refine lv_iload_n hx hb dJ4_init_3_51 rfl (lv_at hl 3 rfl) ?_
      refine lv_if_ne (tgt := 60) hx hb dJ4_init_3_52 (by decide) (fun c_52 => absurd (by decide) c_52) (fun c_52 => ?_)
      refine lv_aload_n hx hb dJ4_init_3_55 rfl (lv_at hl 0 rfl) ?_
      refine lv_null hx hb dJ4_init_3_56 ?_
      refine g_put (ci := 10) (v := .null) (ty := .object "java/util/List") (C := RX4) (T := TX4) (N := 8) hx hb hts in_X4 tyX4 tyX4_ok nmX4 hown hK hP hS (Or.inl rfl) rfl 2 (by decide) (hts _ q327) (fun _ h9 => h9) rfl (by decide +kernel) rfl rfl (Nat.le_of_ble_eq_true rfl) dJ4_init_3_57 (fun H locs hP hz9 oq hS => ?_)
      have hP : cP dC dI x (.inr (10, [.null, .null, .null, .null, .null, .int 0, .int 0, .int 0])) H := hP
      have hz := Nat.le_trans hz (Nat.le_of_eq hz9.symm)
      exact hret _ _ _ _ _ _ (⟨rfl, hP⟩) hS (by omega) (by omega) dJ4_init_3_60
    · refine va_gets hx hb (hF.narrow hAz) hS hown (hts _ q304) (fun _ h9 => h9) dJ4_init_3_17 ?_
      refine g_put (ci := 10) (v := .ref t92) (ty := .object "java/util/List") (C := RX4) (T := TX4) (N := 8) hx hb hts in_X4 tyX4 tyX4_ok nmX4 hown hK hP hS (Or.inl rfl) rfl 2 (by decide) (hts _ q327) (fun _ h9 => h9) rfl (by decide +kernel) rfl rfl (Nat.le_of_ble_eq_true rfl) dJ4_init_3_20 (fun H locs hP hz9 oq hS => ?_)
      have hP : cP dC dI x (.inr (10, [.ref x, .null, .ref t92, .null, .null, .int 0, .int 0, .int 0])) H := hP
      have hz := Nat.le_trans hz (Nat.le_of_eq hz9.symm)
      refine lv_iload hx hb dJ4_init_3_23 (lv_at hl 4 rfl) ?_
      refine lv_if_eq (tgt := 36) hx hb dJ4_init_3_25 (by decide) (fun c_25 => ?_) (fun c_25 => absurd (by decide) c_25)
      refine lv_aload_n hx hb dJ4_init_3_36 rfl (lv_at hl 0 rfl) ?_
      refine lv_null hx hb dJ4_init_3_37 ?_
      refine g_put (ci := 10) (v := .null) (ty := .array (.object "java/lang/StackTraceElement")) (C := RX4) (T := TX4) (N := 8) hx hb hts in_X4 tyX4 tyX4_ok nmX4 hown hK hP hS (Or.inl rfl) rfl 1 (by decide) (hts _ q326) (fun _ h9 => h9) rfl (by decide +kernel) rfl rfl (Nat.le_of_ble_eq_true rfl) dJ4_init_3_38 (fun H locs hP hz9 oq hS => ?_)
      have hP : cP dC dI x (.inr (10, [.ref x, .null, .ref t92, .null, .null, .int 0, .int 0, .int 0])) H := hP
      have hz := Nat.le_trans hz (Nat.le_of_eq hz9.symm)
      refine lv_aload_n hx hb dJ4_init_3_41 rfl (lv_at hl 0 rfl) ?_
      refine lv_aload_nN hx hb dJ4_init_3_42 rfl (lv_at hl 1 rfl) ?_
      refine g_put (ci := 10) (v := .null) (ty := .object "java/lang/String") (C := RX4) (T := TX4) (N := 8) hx hb hts in_X4 tyX4 tyX4_ok nmX4 hown hK hP hS (Or.inl rfl) rfl 3 (by decide) (hts _ q324) (fun _ h9 => h9) rfl (by decide +kernel) rfl rfl (Nat.le_of_ble_eq_true rfl) dJ4_init_3_43 (fun H locs hP hz9 oq hS => ?_)
      have hP : cP dC dI x (.inr (10, [.ref x, .null, .ref t92, .null, .null, .int 0, .int 0, .int 0])) H := hP
      have hz := Nat.le_trans hz (Nat.le_of_eq hz9.symm)
      refine lv_aload_n hx hb dJ4_init_3_46 rfl (lv_at hl 0 rfl) ?_
      refine lv_aload_nN hx hb dJ4_init_3_47 rfl (lv_at hl 2 rfl) ?_
      refine g_put (ci := 10) (v := .null) (ty := .object "java/lang/Throwable") (C := RX4) (T := TX4) (N := 8) hx hb hts in_X4 tyX4 tyX4_ok nmX4 hown hK hP hS (Or.inl rfl) rfl 0 (by decide) (hts _ q325) (fun _ h9 => h9) rfl (by decide +kernel) rfl rfl (Nat.le_of_ble_eq_true rfl) dJ4_init_3_48 (fun H locs hP hz9 oq hS => ?_)
      have hP : cP dC dI x (.inr (10, [.null, .null, .ref t92, .null, .null, .int 0, .int 0, .int 0])) H := hP
      have hz := Nat.le_trans hz (Nat.le_of_eq hz9.symm)
      refine lv_iload_n hx hb dJ4_init_3_51 rfl (lv_at hl 3 rfl) ?_
      refine lv_if_ne (tgt := 60) hx hb dJ4_init_3_52 (by decide) (fun c_52 => absurd (by decide) c_52) (fun c_52 => ?_)
      refine lv_aload_n hx hb dJ4_init_3_55 rfl (lv_at hl 0 rfl) ?_
      refine lv_null hx hb dJ4_init_3_56 ?_
      refine g_put (ci := 10) (v := .null) (ty := .object "java/util/List") (C := RX4) (T := TX4) (N := 8) hx hb hts in_X4 tyX4 tyX4_ok nmX4 hown hK hP hS (Or.inl rfl) rfl 2 (by decide) (hts _ q327) (fun _ h9 => h9) rfl (by decide +kernel) rfl rfl (Nat.le_of_ble_eq_true rfl) dJ4_init_3_57 (fun H locs hP hz9 oq hS => ?_)
      have hP : cP dC dI x (.inr (10, [.null, .null, .null, .null, .null, .int 0, .int 0, .int 0])) H := hP
      have hz := Nat.le_trans hz (Nat.le_of_eq hz9.symm)
      exact hret _ _ _ _ _ _ (⟨rfl, hP⟩) hS (by omega) (by omega) dJ4_init_3_60
  · refine va_gets hx hb (hF.narrow hAz) hS hown (hts _ q302) (fun _ h9 => h9) dJ4_init_3_10 ?_
    refine g_put (ci := 10) (v := .ref t91) (ty := .array (.object "java/lang/StackTraceElement")) (C := RX4) (T := TX4) (N := 8) hx hb hts in_X4 tyX4 tyX4_ok nmX4 hown hK hP hS (Or.inl rfl) rfl 1 (by decide) (hts _ q326) (fun _ h9 => h9) rfl (by decide +kernel) rfl rfl (Nat.le_of_ble_eq_true rfl) dJ4_init_3_13 (fun H locs hP hz9 oq hS => ?_)
    have hP : cP dC dI x (.inr (10, [.ref x, .ref t91, .null, .null, .null, .int 0, .int 0, .int 0])) H := hP
    have hz := Nat.le_trans hz (Nat.le_of_eq hz9.symm)
    refine lv_aload_n hx hb dJ4_init_3_16 rfl (lv_at hl 0 rfl) ?_
    rcases hEX.2.1.1 with hF | ⟨t93, hF⟩
    · refine va_gets hx hb (hF.narrow hAz) hS hown (hts _ q304) (fun _ h9 => h9) dJ4_init_3_17 ?_
      refine g_put (ci := 10) (v := .null) (ty := .object "java/util/List") (C := RX4) (T := TX4) (N := 8) hx hb hts in_X4 tyX4 tyX4_ok nmX4 hown hK hP hS (Or.inl rfl) rfl 2 (by decide) (hts _ q327) (fun _ h9 => h9) rfl (by decide +kernel) rfl rfl (Nat.le_of_ble_eq_true rfl) dJ4_init_3_20 (fun H locs hP hz9 oq hS => ?_)
      have hP : cP dC dI x (.inr (10, [.ref x, .ref t91, .null, .null, .null, .int 0, .int 0, .int 0])) H := hP
      have hz := Nat.le_trans hz (Nat.le_of_eq hz9.symm)
      refine lv_iload hx hb dJ4_init_3_23 (lv_at hl 4 rfl) ?_
      refine lv_if_eq (tgt := 36) hx hb dJ4_init_3_25 (by decide) (fun c_25 => ?_) (fun c_25 => absurd (by decide) c_25)
      refine lv_aload_n hx hb dJ4_init_3_36 rfl (lv_at hl 0 rfl) ?_
      refine lv_null hx hb dJ4_init_3_37 ?_
      refine g_put (ci := 10) (v := .null) (ty := .array (.object "java/lang/StackTraceElement")) (C := RX4) (T := TX4) (N := 8) hx hb hts in_X4 tyX4 tyX4_ok nmX4 hown hK hP hS (Or.inl rfl) rfl 1 (by decide) (hts _ q326) (fun _ h9 => h9) rfl (by decide +kernel) rfl rfl (Nat.le_of_ble_eq_true rfl) dJ4_init_3_38 (fun H locs hP hz9 oq hS => ?_)
      have hP : cP dC dI x (.inr (10, [.ref x, .null, .null, .null, .null, .int 0, .int 0, .int 0])) H := hP
      have hz := Nat.le_trans hz (Nat.le_of_eq hz9.symm)
      refine lv_aload_n hx hb dJ4_init_3_41 rfl (lv_at hl 0 rfl) ?_
      refine lv_aload_nN hx hb dJ4_init_3_42 rfl (lv_at hl 1 rfl) ?_
      refine g_put (ci := 10) (v := .null) (ty := .object "java/lang/String") (C := RX4) (T := TX4) (N := 8) hx hb hts in_X4 tyX4 tyX4_ok nmX4 hown hK hP hS (Or.inl rfl) rfl 3 (by decide) (hts _ q324) (fun _ h9 => h9) rfl (by decide +kernel) rfl rfl (Nat.le_of_ble_eq_true rfl) dJ4_init_3_43 (fun H locs hP hz9 oq hS => ?_)
      have hP : cP dC dI x (.inr (10, [.ref x, .null, .null, .null, .null, .int 0, .int 0, .int 0])) H := hP
      have hz := Nat.le_trans hz (Nat.le_of_eq hz9.symm)
      refine lv_aload_n hx hb dJ4_init_3_46 rfl (lv_at hl 0 rfl) ?_
      refine lv_aload_nN hx hb dJ4_init_3_47 rfl (lv_at hl 2 rfl) ?_
      refine g_put (ci := 10) (v := .null) (ty := .object "java/lang/Throwable") (C := RX4) (T := TX4) (N := 8) hx hb hts in_X4 tyX4 tyX4_ok nmX4 hown hK hP hS (Or.inl rfl) rfl 0 (by decide) (hts _ q325) (fun _ h9 => h9) rfl (by decide +kernel) rfl rfl (Nat.le_of_ble_eq_true rfl) dJ4_init_3_48 (fun H locs hP hz9 oq hS => ?_)
      have hP : cP dC dI x (.inr (10, [.null, .null, .null, .null, .null, .int 0, .int 0, .int 0])) H := hP
      have hz := Nat.le_trans hz (Nat.le_of_eq hz9.symm)
      refine lv_iload_n hx hb dJ4_init_3_51 rfl (lv_at hl 3 rfl) ?_
      refine lv_if_ne (tgt := 60) hx hb dJ4_init_3_52 (by decide) (fun c_52 => absurd (by decide) c_52) (fun c_52 => ?_)
      refine lv_aload_n hx hb dJ4_init_3_55 rfl (lv_at hl 0 rfl) ?_
      refine lv_null hx hb dJ4_init_3_56 ?_
      refine g_put (ci := 10) (v := .null) (ty := .object "java/util/List") (C := RX4) (T := TX4) (N := 8) hx hb hts in_X4 tyX4 tyX4_ok nmX4 hown hK hP hS (Or.inl rfl) rfl 2 (by decide) (hts _ q327) (fun _ h9 => h9) rfl (by decide +kernel) rfl rfl (Nat.le_of_ble_eq_true rfl) dJ4_init_3_57 (fun H locs hP hz9 oq hS => ?_)
      have hP : cP dC dI x (.inr (10, [.null, .null, .null, .null, .null, .int 0, .int 0, .int 0])) H := hP
      have hz := Nat.le_trans hz (Nat.le_of_eq hz9.symm)
      exact hret _ _ _ _ _ _ (⟨rfl, hP⟩) hS (by omega) (by omega) dJ4_init_3_60
    · refine va_gets hx hb (hF.narrow hAz) hS hown (hts _ q304) (fun _ h9 => h9) dJ4_init_3_17 ?_
      refine g_put (ci := 10) (v := .ref t93) (ty := .object "java/util/List") (C := RX4) (T := TX4) (N := 8) hx hb hts in_X4 tyX4 tyX4_ok nmX4 hown hK hP hS (Or.inl rfl) rfl 2 (by decide) (hts _ q327) (fun _ h9 => h9) rfl (by decide +kernel) rfl rfl (Nat.le_of_ble_eq_true rfl) dJ4_init_3_20 (fun H locs hP hz9 oq hS => ?_)
      have hP : cP dC dI x (.inr (10, [.ref x, .ref t91, .ref t93, .null, .null, .int 0, .int 0, .int 0])) H := hP
      have hz := Nat.le_trans hz (Nat.le_of_eq hz9.symm)
      refine lv_iload hx hb dJ4_init_3_23 (lv_at hl 4 rfl) ?_
      refine lv_if_eq (tgt := 36) hx hb dJ4_init_3_25 (by decide) (fun c_25 => ?_) (fun c_25 => absurd (by decide) c_25)
      refine lv_aload_n hx hb dJ4_init_3_36 rfl (lv_at hl 0 rfl) ?_
      refine lv_null hx hb dJ4_init_3_37 ?_
      refine g_put (ci := 10) (v := .null) (ty := .array (.object "java/lang/StackTraceElement")) (C := RX4) (T := TX4) (N := 8) hx hb hts in_X4 tyX4 tyX4_ok nmX4 hown hK hP hS (Or.inl rfl) rfl 1 (by decide) (hts _ q326) (fun _ h9 => h9) rfl (by decide +kernel) rfl rfl (Nat.le_of_ble_eq_true rfl) dJ4_init_3_38 (fun H locs hP hz9 oq hS => ?_)
      have hP : cP dC dI x (.inr (10, [.ref x, .null, .ref t93, .null, .null, .int 0, .int 0, .int 0])) H := hP
      have hz := Nat.le_trans hz (Nat.le_of_eq hz9.symm)
      refine lv_aload_n hx hb dJ4_init_3_41 rfl (lv_at hl 0 rfl) ?_
      refine lv_aload_nN hx hb dJ4_init_3_42 rfl (lv_at hl 1 rfl) ?_
      refine g_put (ci := 10) (v := .null) (ty := .object "java/lang/String") (C := RX4) (T := TX4) (N := 8) hx hb hts in_X4 tyX4 tyX4_ok nmX4 hown hK hP hS (Or.inl rfl) rfl 3 (by decide) (hts _ q324) (fun _ h9 => h9) rfl (by decide +kernel) rfl rfl (Nat.le_of_ble_eq_true rfl) dJ4_init_3_43 (fun H locs hP hz9 oq hS => ?_)
      have hP : cP dC dI x (.inr (10, [.ref x, .null, .ref t93, .null, .null, .int 0, .int 0, .int 0])) H := hP
      have hz := Nat.le_trans hz (Nat.le_of_eq hz9.symm)
      refine lv_aload_n hx hb dJ4_init_3_46 rfl (lv_at hl 0 rfl) ?_
      refine lv_aload_nN hx hb dJ4_init_3_47 rfl (lv_at hl 2 rfl) ?_
      refine g_put (ci := 10) (v := .null) (ty := .object "java/lang/Throwable") (C := RX4) (T := TX4) (N := 8) hx hb hts in_X4 tyX4 tyX4_ok nmX4 hown hK hP hS (Or.inl rfl) rfl 0 (by decide) (hts _ q325) (fun _ h9 => h9) rfl (by decide +kernel) rfl rfl (Nat.le_of_ble_eq_true rfl) dJ4_init_3_48 (fun H locs hP hz9 oq hS => ?_)
      have hP : cP dC dI x (.inr (10, [.null, .null, .ref t93, .null, .null, .int 0, .int 0, .int 0])) H := hP
      have hz := Nat.le_trans hz (Nat.le_of_eq hz9.symm)
      refine lv_iload_n hx hb dJ4_init_3_51 rfl (lv_at hl 3 rfl) ?_
      refine lv_if_ne (tgt := 60) hx hb dJ4_init_3_52 (by decide) (fun c_52 => absurd (by decide) c_52) (fun c_52 => ?_)
      refine lv_aload_n hx hb dJ4_init_3_55 rfl (lv_at hl 0 rfl) ?_
      refine lv_null hx hb dJ4_init_3_56 ?_
      refine g_put (ci := 10) (v := .null) (ty := .object "java/util/List") (C := RX4) (T := TX4) (N := 8) hx hb hts in_X4 tyX4 tyX4_ok nmX4 hown hK hP hS (Or.inl rfl) rfl 2 (by decide) (hts _ q327) (fun _ h9 => h9) rfl (by decide +kernel) rfl rfl (Nat.le_of_ble_eq_true rfl) dJ4_init_3_57 (fun H locs hP hz9 oq hS => ?_)
      have hP : cP dC dI x (.inr (10, [.null, .null, .null, .null, .null, .int 0, .int 0, .int 0])) H := hP
      have hz := Nat.le_trans hz (Nat.le_of_eq hz9.symm)
      exact hret _ _ _ _ _ _ (⟨rfl, hP⟩) hS (by omega) (by omega) dJ4_init_3_60

set_option maxHeartbeats 4000000 in
theorem c_J5_init_3_X4 (l : Launch) (dC : Nat → ClassId) (dI : Nat → Nat → Nat) (dA : Nat → ClassId) (x : Nat) (sz : Nat) (hs : Nat) (hxz : sz ≤ x) (hsz : sz ≤ hs) : Met l yJ5_init_3 (ws_ yJ5_init_3 cJ5_init_3 5 none) (rmD 2 (0) (0)) (gPx [.ref x, .null, .null, .int (nI 0), .int (nI 0)] (fun U H => cP dC dI x (.inr (10, [.null, .null, .null, .null, .null, .int 0, .int 0, .int 0])) H ∧ EX sz U H) hs dC dI dA) (gQ hs (fun q => q = x) (fun v H => v = none ∧ cP dC dI x (.inr (10, [.null, .null, .null, .null, .null, .int 0, .int 0, .int 0])) H)) (0) (0) (gF (fun q => q = x) hs) := by
  refine g_metv (own := RJ5) (by decide) rfl (Nat.le_of_ble_eq_true rfl) fun p e R s m args below meth c Q SF rk hRR hX hK hin hret ls hl => ?_
  have hx := SF.1
  have hb := SF.2.1
  have hml := SF.2.2.1
  have hown := SF.2.2.2.1
  have hts := SF.2.2.2.2
  have hz0 := hX.2
  have hz : hs ≤ s.heap.size := Nat.le_of_eq hX.2.symm
  have hX := hX.1
  have hRc := hRR.1
  have hRs := hRR.2
  have gFs : ∀ q : Nat, s.heap.size ≤ q → gF (fun q => q = x) hs q := fun q h => Or.inr (hz0 ▸ h)
  have hS : va_S (gF (fun q => q = x) hs) s.heap s.heap [] := va_S.rf
  have hl : lv_has ls 5 [(0, .ref x), (1, .null), (2, .null), (3, .int (nI 0)), (4, .int (nI 0))] := hl
  have hP := hX.1
  have hEX := hX.2
  have hAz : ∀ q, gF (fun q => q = x) hs q → sz ≤ q := fun q h => h.elim (fun e => e ▸ hxz) (fun h => Nat.le_trans hsz h)
  refine lv_aload_n hx hb dJ5_init_3_0 rfl (lv_at hl 0 rfl) ?_
  refine lv_aload_nN hx hb dJ5_init_3_1 rfl (lv_at hl 1 rfl) ?_
  refine lv_aload_nN hx hb dJ5_init_3_2 rfl (lv_at hl 2 rfl) ?_
  refine lv_iload_n hx hb dJ5_init_3_3 rfl (lv_at hl 3 rfl) ?_
  refine lv_iload hx hb dJ5_init_3_4 (lv_at hl 4 rfl) ?_
  refine g_run (g_rI (As := [.null, .null, .int (nI 0), .int (nI 0)]) SF hK (d := 1) (rk.le (Nat.le_of_ble_eq_true rfl)) (c_J4_init_3_X4 l dC dI dA x sz s.heap.size (show sz ≤ x by omega) (show sz ≤ s.heap.size by omega)) q118 q772 q773 q774 rfl (n := 4) (by decide +kernel) rfl (by decide) (XOK.hs (XOK.hp.and EX.ok)) (⟨⟨hP, hEX.at hS hAz⟩, rfl⟩) hl.1 (Nat.le_of_ble_eq_true rfl) ⟨(by omega), (by omega)⟩ rfl dJ5_init_3_6) rfl hS (fun _ h => Or.inl h) gFs (fun v9 H locs hP9 hz9 oq hS => ?_)
  obtain ⟨rfl, hP⟩ := hP9
  have hz := Nat.le_trans hz hz9
  refine W.eq (g2 := F0 m 9 ls []) rfl ?_
  exact hret _ _ _ _ _ _ (⟨rfl, hP⟩) hS (by omega) (by omega) dJ5_init_3_9

set_option maxHeartbeats 4000000 in
theorem c_X4_init (l : Launch) (dC : Nat → ClassId) (dI : Nat → Nat → Nat) (dA : Nat → ClassId) (x : Nat) (sz : Nat) (hs : Nat) (r : Int32) (r2 : Int32) (hxz : sz ≤ x) (hsz : sz ≤ hs) : Met l yX4_init (ws_ yX4_init cX4_init 3 none) (rmD 3 (0) (0)) (gPx [.ref x, .int r, .int r2] (fun U H => cP dC dI x (.inr (10, [.null, .null, .null, .null, .null, .int 0, .int 0, .int 0])) H ∧ EX sz U H) hs dC dI dA) (gQ hs (fun q => q = x) (fun v H => v = none ∧ cP dC dI x (.inr (10, [.null, .null, .null, .null, .null, .int 0, .int r, .int r2])) H)) (0) (0) (gF (fun q => q = x) hs) := by
  refine g_metv (own := RX4) (by decide) rfl (Nat.le_of_ble_eq_true rfl) fun p e R s m args below meth c Q SF rk hRR hX hK hin hret ls hl => ?_
  have hx := SF.1
  have hb := SF.2.1
  have hml := SF.2.2.1
  have hown := SF.2.2.2.1
  have hts := SF.2.2.2.2
  have hz0 := hX.2
  have hz : hs ≤ s.heap.size := Nat.le_of_eq hX.2.symm
  have hX := hX.1
  have hRc := hRR.1
  have hRs := hRR.2
  have gFs : ∀ q : Nat, s.heap.size ≤ q → gF (fun q => q = x) hs q := fun q h => Or.inr (hz0 ▸ h)
  have hS : va_S (gF (fun q => q = x) hs) s.heap s.heap [] := va_S.rf
  have hl : lv_has ls 3 [(0, .ref x), (1, .int r), (2, .int r2)] := hl
  have hP := hX.1
  have hEX := hX.2
  have hAz : ∀ q, gF (fun q => q = x) hs q → sz ≤ q := fun q h => h.elim (fun e => e ▸ hxz) (fun h => Nat.le_trans hsz h)
  refine lv_aload_n hx hb dX4_init_0 rfl (lv_at hl 0 rfl) ?_
  refine lv_null hx hb dX4_init_1 ?_
  refine lv_null hx hb dX4_init_2 ?_
  refine lv_iconst (v := nI 0) hx hb dX4_init_3 (by decide) ?_
  refine lv_iconst (v := nI 0) hx hb dX4_init_4 (by decide) ?_
  refine g_run (g_rI (As := [.null, .null, .int (nI 0), .int (nI 0)]) SF hK (d := 2) (rk.le (Nat.le_of_ble_eq_true rfl)) (c_J5_init_3_X4 l dC dI dA x sz s.heap.size (show sz ≤ x by omega) (show sz ≤ s.heap.size by omega)) q119 q769 q770 q771 rfl (n := 4) (by decide +kernel) rfl (by decide) (XOK.hs (XOK.hp.and EX.ok)) (⟨⟨hP, hEX.at hS hAz⟩, rfl⟩) hl.1 (Nat.le_of_ble_eq_true rfl) ⟨(by omega), (by omega)⟩ rfl dX4_init_5) rfl hS (fun _ h => Or.inl h) gFs (fun v9 H locs hP9 hz9 oq hS => ?_)
  obtain ⟨rfl, hP⟩ := hP9
  have hz := Nat.le_trans hz hz9
  refine W.eq (g2 := F0 m 8 ls []) rfl ?_
  refine lv_aload_n hx hb dX4_init_8 rfl (lv_at hl 0 rfl) ?_
  refine lv_iload_n hx hb dX4_init_9 rfl (lv_at hl 1 rfl) ?_
  refine g_putF (ci := 10) (v := .int r) (ty := .int) (C := RX4) (T := TX4) (N := 8) hx hb hts in_X4 tyX4 tyX4_ok nmX4 hown hK hP hS (Or.inl rfl) rfl 6 (by decide) (hts _ q775) (fun _ h9 => h9) rfl hin rfl (by decide +kernel) rfl rfl (Nat.le_of_ble_eq_true rfl) dX4_init_10 (fun H locs hP hz9 oq hS => ?_)
  have hP : cP dC dI x (.inr (10, [.null, .null, .null, .null, .null, .int 0, .int r, .int 0])) H := hP
  have hz := Nat.le_trans hz (Nat.le_of_eq hz9.symm)
  refine lv_aload_n hx hb dX4_init_13 rfl (lv_at hl 0 rfl) ?_
  refine lv_iload_n hx hb dX4_init_14 rfl (lv_at hl 2 rfl) ?_
  refine g_putF (ci := 10) (v := .int r2) (ty := .int) (C := RX4) (T := TX4) (N := 8) hx hb hts in_X4 tyX4 tyX4_ok nmX4 hown hK hP hS (Or.inl rfl) rfl 7 (by decide) (hts _ q777) (fun _ h9 => h9) rfl hin rfl (by decide +kernel) rfl rfl (Nat.le_of_ble_eq_true rfl) dX4_init_15 (fun H locs hP hz9 oq hS => ?_)
  have hP : cP dC dI x (.inr (10, [.null, .null, .null, .null, .null, .int 0, .int r, .int r2])) H := hP
  have hz := Nat.le_trans hz (Nat.le_of_eq hz9.symm)
  exact hret _ _ _ _ _ _ (⟨rfl, hP⟩) hS (by omega) (by omega) dX4_init_18

set_option maxHeartbeats 4000000 in
theorem c_J4_init_3_X9 (l : Launch) (dC : Nat → ClassId) (dI : Nat → Nat → Nat) (dA : Nat → ClassId) (x : Nat) (sz : Nat) (hs : Nat) (hxz : sz ≤ x) (hsz : sz ≤ hs) : Met l yJ4_init_3 (ws_ yJ4_init_3 cJ4_init_3 5 none) (rmD 1 (0) (0)) (gPx [.ref x, .null, .null, .int (nI 0), .int (nI 0)] (fun U H => cP dC dI x (.inr (11, [.int 0, .null, .null, .null, .null, .null, .null, .int 0])) H ∧ EX sz U H) hs dC dI dA) (gQ hs (fun q => q = x) (fun v H => v = none ∧ cP dC dI x (.inr (11, [.int 0, .null, .null, .null, .null, .null, .null, .int 0])) H)) (0) (0) (gF (fun q => q = x) hs) := by
  refine g_metv (own := RJ4) (by decide) rfl (Nat.le_of_ble_eq_true rfl) fun p e R s m args below meth c Q SF rk hRR hX hK hin hret ls hl => ?_
  have hx := SF.1
  have hb := SF.2.1
  have hml := SF.2.2.1
  have hown := SF.2.2.2.1
  have hts := SF.2.2.2.2
  have hz0 := hX.2
  have hz : hs ≤ s.heap.size := Nat.le_of_eq hX.2.symm
  have hX := hX.1
  have hRc := hRR.1
  have hRs := hRR.2
  have gFs : ∀ q : Nat, s.heap.size ≤ q → gF (fun q => q = x) hs q := fun q h => Or.inr (hz0 ▸ h)
  have hS : va_S (gF (fun q => q = x) hs) s.heap s.heap [] := va_S.rf
  have hl : lv_has ls 5 [(0, .ref x), (1, .null), (2, .null), (3, .int (nI 0)), (4, .int (nI 0))] := hl
  have hP := hX.1
  have hEX := hX.2
  have hAz : ∀ q, gF (fun q => q = x) hs q → sz ≤ q := fun q h => h.elim (fun e => e ▸ hxz) (fun h => Nat.le_trans hsz h)
  refine lv_aload_n hx hb dJ4_init_3_0 rfl (lv_at hl 0 rfl) ?_
  refine W.objInit hx hb hown (hts _ q301) (hts _ q156) (hts _ q157) rfl (hl.1.trans hml.symm) rfl dJ4_init_3_1 (Nat.le_trans (Nat.le_of_ble_eq_true rfl) rk.1) (Nat.le_trans (Nat.le_of_ble_eq_true rfl) rk.2) ?_
  refine W.eq (g2 := F0 m 4 ls []) rfl ?_
  refine lv_aload_n hx hb dJ4_init_3_4 rfl (lv_at hl 0 rfl) ?_
  refine lv_aload_n hx hb dJ4_init_3_5 rfl (lv_at hl 0 rfl) ?_
  refine g_put (ci := 11) (v := .ref x) (ty := .object "java/lang/Throwable") (C := RX9) (T := TX9) (N := 8) hx hb hts in_X9 tyX9 tyX9_ok nmX9 hown hK hP hS (Or.inl rfl) rfl 2 (by decide) (hts _ q325) (fun _ h9 => h9) rfl (by decide +kernel) rfl rfl (Nat.le_of_ble_eq_true rfl) dJ4_init_3_6 (fun H locs hP hz9 oq hS => ?_)
  have hP : cP dC dI x (.inr (11, [.int 0, .null, .ref x, .null, .null, .null, .null, .int 0])) H := hP
  have hz := Nat.le_trans hz (Nat.le_of_eq hz9.symm)
  refine lv_aload_n hx hb dJ4_init_3_9 rfl (lv_at hl 0 rfl) ?_
  rcases hEX.1.1 with hF | ⟨t91, hF⟩
  · refine va_gets hx hb (hF.narrow hAz) hS hown (hts _ q302) (fun _ h9 => h9) dJ4_init_3_10 ?_
    refine g_put (ci := 11) (v := .null) (ty := .array (.object "java/lang/StackTraceElement")) (C := RX9) (T := TX9) (N := 8) hx hb hts in_X9 tyX9 tyX9_ok nmX9 hown hK hP hS (Or.inl rfl) rfl 3 (by decide) (hts _ q326) (fun _ h9 => h9) rfl (by decide +kernel) rfl rfl (Nat.le_of_ble_eq_true rfl) dJ4_init_3_13 (fun H locs hP hz9 oq hS => ?_)
    have hP : cP dC dI x (.inr (11, [.int 0, .null, .ref x, .null, .null, .null, .null, .int 0])) H := hP
    have hz := Nat.le_trans hz (Nat.le_of_eq hz9.symm)
    refine lv_aload_n hx hb dJ4_init_3_16 rfl (lv_at hl 0 rfl) ?_
    rcases hEX.2.1.1 with hF | ⟨t92, hF⟩
    · refine va_gets hx hb (hF.narrow hAz) hS hown (hts _ q304) (fun _ h9 => h9) dJ4_init_3_17 ?_
      refine g_put (ci := 11) (v := .null) (ty := .object "java/util/List") (C := RX9) (T := TX9) (N := 8) hx hb hts in_X9 tyX9 tyX9_ok nmX9 hown hK hP hS (Or.inl rfl) rfl 4 (by decide) (hts _ q327) (fun _ h9 => h9) rfl (by decide +kernel) rfl rfl (Nat.le_of_ble_eq_true rfl) dJ4_init_3_20 (fun H locs hP hz9 oq hS => ?_)
      have hP : cP dC dI x (.inr (11, [.int 0, .null, .ref x, .null, .null, .null, .null, .int 0])) H := hP
      have hz := Nat.le_trans hz (Nat.le_of_eq hz9.symm)
      refine lv_iload hx hb dJ4_init_3_23 (lv_at hl 4 rfl) ?_
      refine lv_if_eq (tgt := 36) hx hb dJ4_init_3_25 (by decide) (fun c_25 => ?_) (fun c_25 => absurd (by decide) c_25)
      refine lv_aload_n hx hb dJ4_init_3_36 rfl (lv_at hl 0 rfl) ?_
      refine lv_null hx hb dJ4_init_3_37 ?_
      refine g_put (ci := 11) (v := .null) (ty := .array (.object "java/lang/StackTraceElement")) (C := RX9) (T := TX9) (N := 8) hx hb hts in_X9 tyX9 tyX9_ok nmX9 hown hK hP hS (Or.inl rfl) rfl 3 (by decide) (hts _ q326) (fun _ h9 => h9) rfl (by decide +kernel) rfl rfl (Nat.le_of_ble_eq_true rfl) dJ4_init_3_38 (fun H locs hP hz9 oq hS => ?_)
      have hP : cP dC dI x (.inr (11, [.int 0, .null, .ref x, .null, .null, .null, .null, .int 0])) H := hP
      have hz := Nat.le_trans hz (Nat.le_of_eq hz9.symm)
      refine lv_aload_n hx hb dJ4_init_3_41 rfl (lv_at hl 0 rfl) ?_
      refine lv_aload_nN hx hb dJ4_init_3_42 rfl (lv_at hl 1 rfl) ?_
      refine g_put (ci := 11) (v := .null) (ty := .object "java/lang/String") (C := RX9) (T := TX9) (N := 8) hx hb hts in_X9 tyX9 tyX9_ok nmX9 hown hK hP hS (Or.inl rfl) rfl 5 (by decide) (hts _ q324) (fun _ h9 => h9) rfl (by decide +kernel) rfl rfl (Nat.le_of_ble_eq_true rfl) dJ4_init_3_43 (fun H locs hP hz9 oq hS => ?_)
      have hP : cP dC dI x (.inr (11, [.int 0, .null, .ref x, .null, .null, .null, .null, .int 0])) H := hP
      have hz := Nat.le_trans hz (Nat.le_of_eq hz9.symm)
      refine lv_aload_n hx hb dJ4_init_3_46 rfl (lv_at hl 0 rfl) ?_
      refine lv_aload_nN hx hb dJ4_init_3_47 rfl (lv_at hl 2 rfl) ?_
      refine g_put (ci := 11) (v := .null) (ty := .object "java/lang/Throwable") (C := RX9) (T := TX9) (N := 8) hx hb hts in_X9 tyX9 tyX9_ok nmX9 hown hK hP hS (Or.inl rfl) rfl 2 (by decide) (hts _ q325) (fun _ h9 => h9) rfl (by decide +kernel) rfl rfl (Nat.le_of_ble_eq_true rfl) dJ4_init_3_48 (fun H locs hP hz9 oq hS => ?_)
      have hP : cP dC dI x (.inr (11, [.int 0, .null, .null, .null, .null, .null, .null, .int 0])) H := hP
      have hz := Nat.le_trans hz (Nat.le_of_eq hz9.symm)
      refine lv_iload_n hx hb dJ4_init_3_51 rfl (lv_at hl 3 rfl) ?_
      refine lv_if_ne (tgt := 60) hx hb dJ4_init_3_52 (by decide) (fun c_52 => absurd (by decide) c_52) (fun c_52 => ?_)
      refine lv_aload_n hx hb dJ4_init_3_55 rfl (lv_at hl 0 rfl) ?_
      refine lv_null hx hb dJ4_init_3_56 ?_
      refine g_put (ci := 11) (v := .null) (ty := .object "java/util/List") (C := RX9) (T := TX9) (N := 8) hx hb hts in_X9 tyX9 tyX9_ok nmX9 hown hK hP hS (Or.inl rfl) rfl 4 (by decide) (hts _ q327) (fun _ h9 => h9) rfl (by decide +kernel) rfl rfl (Nat.le_of_ble_eq_true rfl) dJ4_init_3_57 (fun H locs hP hz9 oq hS => ?_)
      have hP : cP dC dI x (.inr (11, [.int 0, .null, .null, .null, .null, .null, .null, .int 0])) H := hP
      have hz := Nat.le_trans hz (Nat.le_of_eq hz9.symm)
      exact hret _ _ _ _ _ _ (⟨rfl, hP⟩) hS (by omega) (by omega) dJ4_init_3_60
    · refine va_gets hx hb (hF.narrow hAz) hS hown (hts _ q304) (fun _ h9 => h9) dJ4_init_3_17 ?_
      refine g_put (ci := 11) (v := .ref t92) (ty := .object "java/util/List") (C := RX9) (T := TX9) (N := 8) hx hb hts in_X9 tyX9 tyX9_ok nmX9 hown hK hP hS (Or.inl rfl) rfl 4 (by decide) (hts _ q327) (fun _ h9 => h9) rfl (by decide +kernel) rfl rfl (Nat.le_of_ble_eq_true rfl) dJ4_init_3_20 (fun H locs hP hz9 oq hS => ?_)
      have hP : cP dC dI x (.inr (11, [.int 0, .null, .ref x, .null, .ref t92, .null, .null, .int 0])) H := hP
      have hz := Nat.le_trans hz (Nat.le_of_eq hz9.symm)
      refine lv_iload hx hb dJ4_init_3_23 (lv_at hl 4 rfl) ?_
      refine lv_if_eq (tgt := 36) hx hb dJ4_init_3_25 (by decide) (fun c_25 => ?_) (fun c_25 => absurd (by decide) c_25)
      refine lv_aload_n hx hb dJ4_init_3_36 rfl (lv_at hl 0 rfl) ?_
      refine lv_null hx hb dJ4_init_3_37 ?_
      refine g_put (ci := 11) (v := .null) (ty := .array (.object "java/lang/StackTraceElement")) (C := RX9) (T := TX9) (N := 8) hx hb hts in_X9 tyX9 tyX9_ok nmX9 hown hK hP hS (Or.inl rfl) rfl 3 (by decide) (hts _ q326) (fun _ h9 => h9) rfl (by decide +kernel) rfl rfl (Nat.le_of_ble_eq_true rfl) dJ4_init_3_38 (fun H locs hP hz9 oq hS => ?_)
      have hP : cP dC dI x (.inr (11, [.int 0, .null, .ref x, .null, .ref t92, .null, .null, .int 0])) H := hP
      have hz := Nat.le_trans hz (Nat.le_of_eq hz9.symm)
      refine lv_aload_n hx hb dJ4_init_3_41 rfl (lv_at hl 0 rfl) ?_
      refine lv_aload_nN hx hb dJ4_init_3_42 rfl (lv_at hl 1 rfl) ?_
      refine g_put (ci := 11) (v := .null) (ty := .object "java/lang/String") (C := RX9) (T := TX9) (N := 8) hx hb hts in_X9 tyX9 tyX9_ok nmX9 hown hK hP hS (Or.inl rfl) rfl 5 (by decide) (hts _ q324) (fun _ h9 => h9) rfl (by decide +kernel) rfl rfl (Nat.le_of_ble_eq_true rfl) dJ4_init_3_43 (fun H locs hP hz9 oq hS => ?_)
      have hP : cP dC dI x (.inr (11, [.int 0, .null, .ref x, .null, .ref t92, .null, .null, .int 0])) H := hP
      have hz := Nat.le_trans hz (Nat.le_of_eq hz9.symm)
      refine lv_aload_n hx hb dJ4_init_3_46 rfl (lv_at hl 0 rfl) ?_
      refine lv_aload_nN hx hb dJ4_init_3_47 rfl (lv_at hl 2 rfl) ?_
      refine g_put (ci := 11) (v := .null) (ty := .object "java/lang/Throwable") (C := RX9) (T := TX9) (N := 8) hx hb hts in_X9 tyX9 tyX9_ok nmX9 hown hK hP hS (Or.inl rfl) rfl 2 (by decide) (hts _ q325) (fun _ h9 => h9) rfl (by decide +kernel) rfl rfl (Nat.le_of_ble_eq_true rfl) dJ4_init_3_48 (fun H locs hP hz9 oq hS => ?_)
      have hP : cP dC dI x (.inr (11, [.int 0, .null, .null, .null, .ref t92, .null, .null, .int 0])) H := hP
      have hz := Nat.le_trans hz (Nat.le_of_eq hz9.symm)
      refine lv_iload_n hx hb dJ4_init_3_51 rfl (lv_at hl 3 rfl) ?_
      refine lv_if_ne (tgt := 60) hx hb dJ4_init_3_52 (by decide) (fun c_52 => absurd (by decide) c_52) (fun c_52 => ?_)
      refine lv_aload_n hx hb dJ4_init_3_55 rfl (lv_at hl 0 rfl) ?_
      refine lv_null hx hb dJ4_init_3_56 ?_
      refine g_put (ci := 11) (v := .null) (ty := .object "java/util/List") (C := RX9) (T := TX9) (N := 8) hx hb hts in_X9 tyX9 tyX9_ok nmX9 hown hK hP hS (Or.inl rfl) rfl 4 (by decide) (hts _ q327) (fun _ h9 => h9) rfl (by decide +kernel) rfl rfl (Nat.le_of_ble_eq_true rfl) dJ4_init_3_57 (fun H locs hP hz9 oq hS => ?_)
      have hP : cP dC dI x (.inr (11, [.int 0, .null, .null, .null, .null, .null, .null, .int 0])) H := hP
      have hz := Nat.le_trans hz (Nat.le_of_eq hz9.symm)
      exact hret _ _ _ _ _ _ (⟨rfl, hP⟩) hS (by omega) (by omega) dJ4_init_3_60
  · refine va_gets hx hb (hF.narrow hAz) hS hown (hts _ q302) (fun _ h9 => h9) dJ4_init_3_10 ?_
    refine g_put (ci := 11) (v := .ref t91) (ty := .array (.object "java/lang/StackTraceElement")) (C := RX9) (T := TX9) (N := 8) hx hb hts in_X9 tyX9 tyX9_ok nmX9 hown hK hP hS (Or.inl rfl) rfl 3 (by decide) (hts _ q326) (fun _ h9 => h9) rfl (by decide +kernel) rfl rfl (Nat.le_of_ble_eq_true rfl) dJ4_init_3_13 (fun H locs hP hz9 oq hS => ?_)
    have hP : cP dC dI x (.inr (11, [.int 0, .null, .ref x, .ref t91, .null, .null, .null, .int 0])) H := hP
    have hz := Nat.le_trans hz (Nat.le_of_eq hz9.symm)
    refine lv_aload_n hx hb dJ4_init_3_16 rfl (lv_at hl 0 rfl) ?_
    rcases hEX.2.1.1 with hF | ⟨t93, hF⟩
    · refine va_gets hx hb (hF.narrow hAz) hS hown (hts _ q304) (fun _ h9 => h9) dJ4_init_3_17 ?_
      refine g_put (ci := 11) (v := .null) (ty := .object "java/util/List") (C := RX9) (T := TX9) (N := 8) hx hb hts in_X9 tyX9 tyX9_ok nmX9 hown hK hP hS (Or.inl rfl) rfl 4 (by decide) (hts _ q327) (fun _ h9 => h9) rfl (by decide +kernel) rfl rfl (Nat.le_of_ble_eq_true rfl) dJ4_init_3_20 (fun H locs hP hz9 oq hS => ?_)
      have hP : cP dC dI x (.inr (11, [.int 0, .null, .ref x, .ref t91, .null, .null, .null, .int 0])) H := hP
      have hz := Nat.le_trans hz (Nat.le_of_eq hz9.symm)
      refine lv_iload hx hb dJ4_init_3_23 (lv_at hl 4 rfl) ?_
      refine lv_if_eq (tgt := 36) hx hb dJ4_init_3_25 (by decide) (fun c_25 => ?_) (fun c_25 => absurd (by decide) c_25)
      refine lv_aload_n hx hb dJ4_init_3_36 rfl (lv_at hl 0 rfl) ?_
      refine lv_null hx hb dJ4_init_3_37 ?_
      refine g_put (ci := 11) (v := .null) (ty := .array (.object "java/lang/StackTraceElement")) (C := RX9) (T := TX9) (N := 8) hx hb hts in_X9 tyX9 tyX9_ok nmX9 hown hK hP hS (Or.inl rfl) rfl 3 (by decide) (hts _ q326) (fun _ h9 => h9) rfl (by decide +kernel) rfl rfl (Nat.le_of_ble_eq_true rfl) dJ4_init_3_38 (fun H locs hP hz9 oq hS => ?_)
      have hP : cP dC dI x (.inr (11, [.int 0, .null, .ref x, .null, .null, .null, .null, .int 0])) H := hP
      have hz := Nat.le_trans hz (Nat.le_of_eq hz9.symm)
      refine lv_aload_n hx hb dJ4_init_3_41 rfl (lv_at hl 0 rfl) ?_
      refine lv_aload_nN hx hb dJ4_init_3_42 rfl (lv_at hl 1 rfl) ?_
      refine g_put (ci := 11) (v := .null) (ty := .object "java/lang/String") (C := RX9) (T := TX9) (N := 8) hx hb hts in_X9 tyX9 tyX9_ok nmX9 hown hK hP hS (Or.inl rfl) rfl 5 (by decide) (hts _ q324) (fun _ h9 => h9) rfl (by decide +kernel) rfl rfl (Nat.le_of_ble_eq_true rfl) dJ4_init_3_43 (fun H locs hP hz9 oq hS => ?_)
      have hP : cP dC dI x (.inr (11, [.int 0, .null, .ref x, .null, .null, .null, .null, .int 0])) H := hP
      have hz := Nat.le_trans hz (Nat.le_of_eq hz9.symm)
      refine lv_aload_n hx hb dJ4_init_3_46 rfl (lv_at hl 0 rfl) ?_
      refine lv_aload_nN hx hb dJ4_init_3_47 rfl (lv_at hl 2 rfl) ?_
      refine g_put (ci := 11) (v := .null) (ty := .object "java/lang/Throwable") (C := RX9) (T := TX9) (N := 8) hx hb hts in_X9 tyX9 tyX9_ok nmX9 hown hK hP hS (Or.inl rfl) rfl 2 (by decide) (hts _ q325) (fun _ h9 => h9) rfl (by decide +kernel) rfl rfl (Nat.le_of_ble_eq_true rfl) dJ4_init_3_48 (fun H locs hP hz9 oq hS => ?_)
      have hP : cP dC dI x (.inr (11, [.int 0, .null, .null, .null, .null, .null, .null, .int 0])) H := hP
      have hz := Nat.le_trans hz (Nat.le_of_eq hz9.symm)
      refine lv_iload_n hx hb dJ4_init_3_51 rfl (lv_at hl 3 rfl) ?_
      refine lv_if_ne (tgt := 60) hx hb dJ4_init_3_52 (by decide) (fun c_52 => absurd (by decide) c_52) (fun c_52 => ?_)
      refine lv_aload_n hx hb dJ4_init_3_55 rfl (lv_at hl 0 rfl) ?_
      refine lv_null hx hb dJ4_init_3_56 ?_
      refine g_put (ci := 11) (v := .null) (ty := .object "java/util/List") (C := RX9) (T := TX9) (N := 8) hx hb hts in_X9 tyX9 tyX9_ok nmX9 hown hK hP hS (Or.inl rfl) rfl 4 (by decide) (hts _ q327) (fun _ h9 => h9) rfl (by decide +kernel) rfl rfl (Nat.le_of_ble_eq_true rfl) dJ4_init_3_57 (fun H locs hP hz9 oq hS => ?_)
      have hP : cP dC dI x (.inr (11, [.int 0, .null, .null, .null, .null, .null, .null, .int 0])) H := hP
      have hz := Nat.le_trans hz (Nat.le_of_eq hz9.symm)
      exact hret _ _ _ _ _ _ (⟨rfl, hP⟩) hS (by omega) (by omega) dJ4_init_3_60
    · refine va_gets hx hb (hF.narrow hAz) hS hown (hts _ q304) (fun _ h9 => h9) dJ4_init_3_17 ?_
      refine g_put (ci := 11) (v := .ref t93) (ty := .object "java/util/List") (C := RX9) (T := TX9) (N := 8) hx hb hts in_X9 tyX9 tyX9_ok nmX9 hown hK hP hS (Or.inl rfl) rfl 4 (by decide) (hts _ q327) (fun _ h9 => h9) rfl (by decide +kernel) rfl rfl (Nat.le_of_ble_eq_true rfl) dJ4_init_3_20 (fun H locs hP hz9 oq hS => ?_)
      have hP : cP dC dI x (.inr (11, [.int 0, .null, .ref x, .ref t91, .ref t93, .null, .null, .int 0])) H := hP
      have hz := Nat.le_trans hz (Nat.le_of_eq hz9.symm)
      refine lv_iload hx hb dJ4_init_3_23 (lv_at hl 4 rfl) ?_
      refine lv_if_eq (tgt := 36) hx hb dJ4_init_3_25 (by decide) (fun c_25 => ?_) (fun c_25 => absurd (by decide) c_25)
      refine lv_aload_n hx hb dJ4_init_3_36 rfl (lv_at hl 0 rfl) ?_
      refine lv_null hx hb dJ4_init_3_37 ?_
      refine g_put (ci := 11) (v := .null) (ty := .array (.object "java/lang/StackTraceElement")) (C := RX9) (T := TX9) (N := 8) hx hb hts in_X9 tyX9 tyX9_ok nmX9 hown hK hP hS (Or.inl rfl) rfl 3 (by decide) (hts _ q326) (fun _ h9 => h9) rfl (by decide +kernel) rfl rfl (Nat.le_of_ble_eq_true rfl) dJ4_init_3_38 (fun H locs hP hz9 oq hS => ?_)
      have hP : cP dC dI x (.inr (11, [.int 0, .null, .ref x, .null, .ref t93, .null, .null, .int 0])) H := hP
      have hz := Nat.le_trans hz (Nat.le_of_eq hz9.symm)
      refine lv_aload_n hx hb dJ4_init_3_41 rfl (lv_at hl 0 rfl) ?_
      refine lv_aload_nN hx hb dJ4_init_3_42 rfl (lv_at hl 1 rfl) ?_
      refine g_put (ci := 11) (v := .null) (ty := .object "java/lang/String") (C := RX9) (T := TX9) (N := 8) hx hb hts in_X9 tyX9 tyX9_ok nmX9 hown hK hP hS (Or.inl rfl) rfl 5 (by decide) (hts _ q324) (fun _ h9 => h9) rfl (by decide +kernel) rfl rfl (Nat.le_of_ble_eq_true rfl) dJ4_init_3_43 (fun H locs hP hz9 oq hS => ?_)
      have hP : cP dC dI x (.inr (11, [.int 0, .null, .ref x, .null, .ref t93, .null, .null, .int 0])) H := hP
      have hz := Nat.le_trans hz (Nat.le_of_eq hz9.symm)
      refine lv_aload_n hx hb dJ4_init_3_46 rfl (lv_at hl 0 rfl) ?_
      refine lv_aload_nN hx hb dJ4_init_3_47 rfl (lv_at hl 2 rfl) ?_
      refine g_put (ci := 11) (v := .null) (ty := .object "java/lang/Throwable") (C := RX9) (T := TX9) (N := 8) hx hb hts in_X9 tyX9 tyX9_ok nmX9 hown hK hP hS (Or.inl rfl) rfl 2 (by decide) (hts _ q325) (fun _ h9 => h9) rfl (by decide +kernel) rfl rfl (Nat.le_of_ble_eq_true rfl) dJ4_init_3_48 (fun H locs hP hz9 oq hS => ?_)
      have hP : cP dC dI x (.inr (11, [.int 0, .null, .null, .null, .ref t93, .null, .null, .int 0])) H := hP
      have hz := Nat.le_trans hz (Nat.le_of_eq hz9.symm)
      refine lv_iload_n hx hb dJ4_init_3_51 rfl (lv_at hl 3 rfl) ?_
      refine lv_if_ne (tgt := 60) hx hb dJ4_init_3_52 (by decide) (fun c_52 => absurd (by decide) c_52) (fun c_52 => ?_)
      refine lv_aload_n hx hb dJ4_init_3_55 rfl (lv_at hl 0 rfl) ?_
      refine lv_null hx hb dJ4_init_3_56 ?_
      refine g_put (ci := 11) (v := .null) (ty := .object "java/util/List") (C := RX9) (T := TX9) (N := 8) hx hb hts in_X9 tyX9 tyX9_ok nmX9 hown hK hP hS (Or.inl rfl) rfl 4 (by decide) (hts _ q327) (fun _ h9 => h9) rfl (by decide +kernel) rfl rfl (Nat.le_of_ble_eq_true rfl) dJ4_init_3_57 (fun H locs hP hz9 oq hS => ?_)
      have hP : cP dC dI x (.inr (11, [.int 0, .null, .null, .null, .null, .null, .null, .int 0])) H := hP
      have hz := Nat.le_trans hz (Nat.le_of_eq hz9.symm)
      exact hret _ _ _ _ _ _ (⟨rfl, hP⟩) hS (by omega) (by omega) dJ4_init_3_60

set_option maxHeartbeats 4000000 in
theorem c_J5_init_3_X9 (l : Launch) (dC : Nat → ClassId) (dI : Nat → Nat → Nat) (dA : Nat → ClassId) (x : Nat) (sz : Nat) (hs : Nat) (hxz : sz ≤ x) (hsz : sz ≤ hs) : Met l yJ5_init_3 (ws_ yJ5_init_3 cJ5_init_3 5 none) (rmD 2 (0) (0)) (gPx [.ref x, .null, .null, .int (nI 0), .int (nI 0)] (fun U H => cP dC dI x (.inr (11, [.int 0, .null, .null, .null, .null, .null, .null, .int 0])) H ∧ EX sz U H) hs dC dI dA) (gQ hs (fun q => q = x) (fun v H => v = none ∧ cP dC dI x (.inr (11, [.int 0, .null, .null, .null, .null, .null, .null, .int 0])) H)) (0) (0) (gF (fun q => q = x) hs) := by
  refine g_metv (own := RJ5) (by decide) rfl (Nat.le_of_ble_eq_true rfl) fun p e R s m args below meth c Q SF rk hRR hX hK hin hret ls hl => ?_
  have hx := SF.1
  have hb := SF.2.1
  have hml := SF.2.2.1
  have hown := SF.2.2.2.1
  have hts := SF.2.2.2.2
  have hz0 := hX.2
  have hz : hs ≤ s.heap.size := Nat.le_of_eq hX.2.symm
  have hX := hX.1
  have hRc := hRR.1
  have hRs := hRR.2
  have gFs : ∀ q : Nat, s.heap.size ≤ q → gF (fun q => q = x) hs q := fun q h => Or.inr (hz0 ▸ h)
  have hS : va_S (gF (fun q => q = x) hs) s.heap s.heap [] := va_S.rf
  have hl : lv_has ls 5 [(0, .ref x), (1, .null), (2, .null), (3, .int (nI 0)), (4, .int (nI 0))] := hl
  have hP := hX.1
  have hEX := hX.2
  have hAz : ∀ q, gF (fun q => q = x) hs q → sz ≤ q := fun q h => h.elim (fun e => e ▸ hxz) (fun h => Nat.le_trans hsz h)
  refine lv_aload_n hx hb dJ5_init_3_0 rfl (lv_at hl 0 rfl) ?_
  refine lv_aload_nN hx hb dJ5_init_3_1 rfl (lv_at hl 1 rfl) ?_
  refine lv_aload_nN hx hb dJ5_init_3_2 rfl (lv_at hl 2 rfl) ?_
  refine lv_iload_n hx hb dJ5_init_3_3 rfl (lv_at hl 3 rfl) ?_
  refine lv_iload hx hb dJ5_init_3_4 (lv_at hl 4 rfl) ?_
  refine g_run (g_rI (As := [.null, .null, .int (nI 0), .int (nI 0)]) SF hK (d := 1) (rk.le (Nat.le_of_ble_eq_true rfl)) (c_J4_init_3_X9 l dC dI dA x sz s.heap.size (show sz ≤ x by omega) (show sz ≤ s.heap.size by omega)) q118 q772 q773 q774 rfl (n := 4) (by decide +kernel) rfl (by decide) (XOK.hs (XOK.hp.and EX.ok)) (⟨⟨hP, hEX.at hS hAz⟩, rfl⟩) hl.1 (Nat.le_of_ble_eq_true rfl) ⟨(by omega), (by omega)⟩ rfl dJ5_init_3_6) rfl hS (fun _ h => Or.inl h) gFs (fun v9 H locs hP9 hz9 oq hS => ?_)
  obtain ⟨rfl, hP⟩ := hP9
  have hz := Nat.le_trans hz hz9
  refine W.eq (g2 := F0 m 9 ls []) rfl ?_
  exact hret _ _ _ _ _ _ (⟨rfl, hP⟩) hS (by omega) (by omega) dJ5_init_3_9

set_option maxHeartbeats 4000000 in
theorem c_X8_init_X9 (l : Launch) (dC : Nat → ClassId) (dI : Nat → Nat → Nat) (dA : Nat → ClassId) (x : Nat) (sz : Nat) (hs : Nat) (r : Int32) (hxz : sz ≤ x) (hsz : sz ≤ hs) : Met l yX8_init (ws_ yX8_init cX8_init 3 none) (rmD 3 (0) (0)) (gPx [.ref x, .int r, .null] (fun U H => cP dC dI x (.inr (11, [.int 0, .null, .null, .null, .null, .null, .null, .int 0])) H ∧ EX sz U H) hs dC dI dA) (gQ hs (fun q => q = x) (fun v H => v = none ∧ cP dC dI x (.inr (11, [.int r, .null, .null, .null, .null, .null, .null, .int 0])) H)) (0) (0) (gF (fun q => q = x) hs) := by
  refine g_metv (own := RX8) (by decide) rfl (Nat.le_of_ble_eq_true rfl) fun p e R s m args below meth c Q SF rk hRR hX hK hin hret ls hl => ?_
  have hx := SF.1
  have hb := SF.2.1
  have hml := SF.2.2.1
  have hown := SF.2.2.2.1
  have hts := SF.2.2.2.2
  have hz0 := hX.2
  have hz : hs ≤ s.heap.size := Nat.le_of_eq hX.2.symm
  have hX := hX.1
  have hRc := hRR.1
  have hRs := hRR.2
  have gFs : ∀ q : Nat, s.heap.size ≤ q → gF (fun q => q = x) hs q := fun q h => Or.inr (hz0 ▸ h)
  have hS : va_S (gF (fun q => q = x) hs) s.heap s.heap [] := va_S.rf
  have hl : lv_has ls 3 [(0, .ref x), (1, .int r), (2, .null)] := hl
  have hP := hX.1
  have hEX := hX.2
  have hAz : ∀ q, gF (fun q => q = x) hs q → sz ≤ q := fun q h => h.elim (fun e => e ▸ hxz) (fun h => Nat.le_trans hsz h)
  refine lv_aload_n hx hb dX8_init_0 rfl (lv_at hl 0 rfl) ?_
  refine lv_null hx hb dX8_init_1 ?_
  refine lv_null hx hb dX8_init_2 ?_
  refine lv_iconst (v := nI 0) hx hb dX8_init_3 (by decide) ?_
  refine lv_iconst (v := nI 0) hx hb dX8_init_4 (by decide) ?_
  refine g_run (g_rI (As := [.null, .null, .int (nI 0), .int (nI 0)]) SF hK (d := 2) (rk.le (Nat.le_of_ble_eq_true rfl)) (c_J5_init_3_X9 l dC dI dA x sz s.heap.size (show sz ≤ x by omega) (show sz ≤ s.heap.size by omega)) q119 q1215 q770 q771 rfl (n := 4) (by decide +kernel) rfl (by decide) (XOK.hs (XOK.hp.and EX.ok)) (⟨⟨hP, hEX.at hS hAz⟩, rfl⟩) hl.1 (Nat.le_of_ble_eq_true rfl) ⟨(by omega), (by omega)⟩ rfl dX8_init_5) rfl hS (fun _ h => Or.inl h) gFs (fun v9 H locs hP9 hz9 oq hS => ?_)
  obtain ⟨rfl, hP⟩ := hP9
  have hz := Nat.le_trans hz hz9
  refine W.eq (g2 := F0 m 8 ls []) rfl ?_
  refine lv_aload_n hx hb dX8_init_8 rfl (lv_at hl 0 rfl) ?_
  refine lv_iload_n hx hb dX8_init_9 rfl (lv_at hl 1 rfl) ?_
  refine g_putF (ci := 11) (v := .int r) (ty := .int) (C := RX9) (T := TX9) (N := 8) hx hb hts in_X9 tyX9 tyX9_ok nmX9 hown hK hP hS (Or.inl rfl) rfl 0 (by decide) (hts _ q1216) (fun _ h9 => h9) rfl hin rfl (by decide +kernel) rfl rfl (Nat.le_of_ble_eq_true rfl) dX8_init_10 (fun H locs hP hz9 oq hS => ?_)
  have hP : cP dC dI x (.inr (11, [.int r, .null, .null, .null, .null, .null, .null, .int 0])) H := hP
  have hz := Nat.le_trans hz (Nat.le_of_eq hz9.symm)
  refine lv_aload_n hx hb dX8_init_13 rfl (lv_at hl 0 rfl) ?_
  refine lv_aload_nN hx hb dX8_init_14 rfl (lv_at hl 2 rfl) ?_
  refine g_putF (ci := 11) (v := .null) (ty := .object "BadCodes$Unsorted") (C := RX9) (T := TX9) (N := 8) hx hb hts in_X9 tyX9 tyX9_ok nmX9 hown hK hP hS (Or.inl rfl) rfl 1 (by decide) (hts _ q1217) (fun _ h9 => h9) rfl hin rfl (by decide +kernel) rfl rfl (Nat.le_of_ble_eq_true rfl) dX8_init_15 (fun H locs hP hz9 oq hS => ?_)
  have hP : cP dC dI x (.inr (11, [.int r, .null, .null, .null, .null, .null, .null, .int 0])) H := hP
  have hz := Nat.le_trans hz (Nat.le_of_eq hz9.symm)
  exact hret _ _ _ _ _ _ (⟨rfl, hP⟩) hS (by omega) (by omega) dX8_init_18

set_option maxHeartbeats 4000000 in
theorem c_X9_init (l : Launch) (dC : Nat → ClassId) (dI : Nat → Nat → Nat) (dA : Nat → ClassId) (x : Nat) (sz : Nat) (hs : Nat) (r : Int32) (hxz : sz ≤ x) (hsz : sz ≤ hs) : Met l yX9_init (ws_ yX9_init cX9_init 2 none) (rmD 4 (0) (0)) (gPx [.ref x, .int r] (fun U H => cP dC dI x (.inr (11, [.int 0, .null, .null, .null, .null, .null, .null, .int 0])) H ∧ EX sz U H) hs dC dI dA) (gQ hs (fun q => q = x) (fun v H => v = none ∧ cP dC dI x (.inr (11, [.int r, .null, .null, .null, .null, .null, .null, .int 0])) H)) (0) (0) (gF (fun q => q = x) hs) := by
  refine g_metv (own := RX9) (by decide) rfl (Nat.le_of_ble_eq_true rfl) fun p e R s m args below meth c Q SF rk hRR hX hK hin hret ls hl => ?_
  have hx := SF.1
  have hb := SF.2.1
  have hml := SF.2.2.1
  have hown := SF.2.2.2.1
  have hts := SF.2.2.2.2
  have hz0 := hX.2
  have hz : hs ≤ s.heap.size := Nat.le_of_eq hX.2.symm
  have hX := hX.1
  have hRc := hRR.1
  have hRs := hRR.2
  have gFs : ∀ q : Nat, s.heap.size ≤ q → gF (fun q => q = x) hs q := fun q h => Or.inr (hz0 ▸ h)
  have hS : va_S (gF (fun q => q = x) hs) s.heap s.heap [] := va_S.rf
  have hl : lv_has ls 2 [(0, .ref x), (1, .int r)] := hl
  have hP := hX.1
  have hEX := hX.2
  have hAz : ∀ q, gF (fun q => q = x) hs q → sz ≤ q := fun q h => h.elim (fun e => e ▸ hxz) (fun h => Nat.le_trans hsz h)
  refine lv_aload_n hx hb dX9_init_0 rfl (lv_at hl 0 rfl) ?_
  refine lv_iload_n hx hb dX9_init_1 rfl (lv_at hl 1 rfl) ?_
  refine lv_null hx hb dX9_init_2 ?_
  refine g_run (g_rI (As := [.int r, .null]) SF hK (d := 3) (rk.le (Nat.le_of_ble_eq_true rfl)) (c_X8_init_X9 l dC dI dA x sz s.heap.size r (show sz ≤ x by omega) (show sz ≤ s.heap.size by omega)) q145 q1212 q1213 q1214 rfl (n := 2) (by decide +kernel) rfl (by decide) (XOK.hs (XOK.hp.and EX.ok)) (⟨⟨hP, hEX.at hS hAz⟩, rfl⟩) hl.1 (Nat.le_of_ble_eq_true rfl) ⟨(by omega), (by omega)⟩ rfl dX9_init_3) rfl hS (fun _ h => Or.inl h) gFs (fun v9 H locs hP9 hz9 oq hS => ?_)
  obtain ⟨rfl, hP⟩ := hP9
  have hz := Nat.le_trans hz hz9
  refine W.eq (g2 := F0 m 6 ls []) rfl ?_
  exact hret _ _ _ _ _ _ (⟨rfl, hP⟩) hS (by omega) (by omega) dX9_init_6

set_option maxHeartbeats 4000000 in
theorem c_J4_init_3_X10 (l : Launch) (dC : Nat → ClassId) (dI : Nat → Nat → Nat) (dA : Nat → ClassId) (x : Nat) (sz : Nat) (hs : Nat) (hxz : sz ≤ x) (hsz : sz ≤ hs) : Met l yJ4_init_3 (ws_ yJ4_init_3 cJ4_init_3 5 none) (rmD 1 (0) (0)) (gPx [.ref x, .null, .null, .int (nI 0), .int (nI 0)] (fun U H => cP dC dI x (.inr (12, [.int 0, .null, .null, .null, .null, .null, .null, .int 0])) H ∧ EX sz U H) hs dC dI dA) (gQ hs (fun q => q = x) (fun v H => v = none ∧ cP dC dI x (.inr (12, [.int 0, .null, .null, .null, .null, .null, .null, .int 0])) H)) (0) (0) (gF (fun q => q = x) hs) := by
  refine g_metv (own := RJ4) (by decide) rfl (Nat.le_of_ble_eq_true rfl) fun p e R s m args below meth c Q SF rk hRR hX hK hin hret ls hl => ?_
  have hx := SF.1
  have hb := SF.2.1
  have hml := SF.2.2.1
  have hown := SF.2.2.2.1
  have hts := SF.2.2.2.2
  have hz0 := hX.2
  have hz : hs ≤ s.heap.size := Nat.le_of_eq hX.2.symm
  have hX := hX.1
  have hRc := hRR.1
  have hRs := hRR.2
  have gFs : ∀ q : Nat, s.heap.size ≤ q → gF (fun q => q = x) hs q := fun q h => Or.inr (hz0 ▸ h)
  have hS : va_S (gF (fun q => q = x) hs) s.heap s.heap [] := va_S.rf
  have hl : lv_has ls 5 [(0, .ref x), (1, .null), (2, .null), (3, .int (nI 0)), (4, .int (nI 0))] := hl
  have hP := hX.1
  have hEX := hX.2
  have hAz : ∀ q, gF (fun q => q = x) hs q → sz ≤ q := fun q h => h.elim (fun e => e ▸ hxz) (fun h => Nat.le_trans hsz h)
  refine lv_aload_n hx hb dJ4_init_3_0 rfl (lv_at hl 0 rfl) ?_
  refine W.objInit hx hb hown (hts _ q301) (hts _ q156) (hts _ q157) rfl (hl.1.trans hml.symm) rfl dJ4_init_3_1 (Nat.le_trans (Nat.le_of_ble_eq_true rfl) rk.1) (Nat.le_trans (Nat.le_of_ble_eq_true rfl) rk.2) ?_
  refine W.eq (g2 := F0 m 4 ls []) rfl ?_
  refine lv_aload_n hx hb dJ4_init_3_4 rfl (lv_at hl 0 rfl) ?_
  refine lv_aload_n hx hb dJ4_init_3_5 rfl (lv_at hl 0 rfl) ?_
  refine g_put (ci := 12) (v := .ref x) (ty := .object "java/lang/Throwable") (C := RX10) (T := TX10) (N := 8) hx hb hts in_X10 tyX10 tyX10_ok nmX10 hown hK hP hS (Or.inl rfl) rfl 2 (by decide) (hts _ q325) (fun _ h9 => h9) rfl (by decide +kernel) rfl rfl (Nat.le_of_ble_eq_true rfl) dJ4_init_3_6 (fun H locs hP hz9 oq hS => ?_)
  have hP : cP dC dI x (.inr (12, [.int 0, .null, .ref x, .null, .null, .null, .null, .int 0])) H := hP
  have hz := Nat.le_trans hz (Nat.le_of_eq hz9.symm)
  refine lv_aload_n hx hb dJ4_init_3_9 rfl (lv_at hl 0 rfl) ?_
  rcases hEX.1.1 with hF | ⟨t91, hF⟩
  · refine va_gets hx hb (hF.narrow hAz) hS hown (hts _ q302) (fun _ h9 => h9) dJ4_init_3_10 ?_
    refine g_put (ci := 12) (v := .null) (ty := .array (.object "java/lang/StackTraceElement")) (C := RX10) (T := TX10) (N := 8) hx hb hts in_X10 tyX10 tyX10_ok nmX10 hown hK hP hS (Or.inl rfl) rfl 3 (by decide) (hts _ q326) (fun _ h9 => h9) rfl (by decide +kernel) rfl rfl (Nat.le_of_ble_eq_true rfl) dJ4_init_3_13 (fun H locs hP hz9 oq hS => ?_)
    have hP : cP dC dI x (.inr (12, [.int 0, .null, .ref x, .null, .null, .null, .null, .int 0])) H := hP
    have hz := Nat.le_trans hz (Nat.le_of_eq hz9.symm)
    refine lv_aload_n hx hb dJ4_init_3_16 rfl (lv_at hl 0 rfl) ?_
    rcases hEX.2.1.1 with hF | ⟨t92, hF⟩
    · refine va_gets hx hb (hF.narrow hAz) hS hown (hts _ q304) (fun _ h9 => h9) dJ4_init_3_17 ?_
      refine g_put (ci := 12) (v := .null) (ty := .object "java/util/List") (C := RX10) (T := TX10) (N := 8) hx hb hts in_X10 tyX10 tyX10_ok nmX10 hown hK hP hS (Or.inl rfl) rfl 4 (by decide) (hts _ q327) (fun _ h9 => h9) rfl (by decide +kernel) rfl rfl (Nat.le_of_ble_eq_true rfl) dJ4_init_3_20 (fun H locs hP hz9 oq hS => ?_)
      have hP : cP dC dI x (.inr (12, [.int 0, .null, .ref x, .null, .null, .null, .null, .int 0])) H := hP
      have hz := Nat.le_trans hz (Nat.le_of_eq hz9.symm)
      refine lv_iload hx hb dJ4_init_3_23 (lv_at hl 4 rfl) ?_
      refine lv_if_eq (tgt := 36) hx hb dJ4_init_3_25 (by decide) (fun c_25 => ?_) (fun c_25 => absurd (by decide) c_25)
      refine lv_aload_n hx hb dJ4_init_3_36 rfl (lv_at hl 0 rfl) ?_
      refine lv_null hx hb dJ4_init_3_37 ?_
      refine g_put (ci := 12) (v := .null) (ty := .array (.object "java/lang/StackTraceElement")) (C := RX10) (T := TX10) (N := 8) hx hb hts in_X10 tyX10 tyX10_ok nmX10 hown hK hP hS (Or.inl rfl) rfl 3 (by decide) (hts _ q326) (fun _ h9 => h9) rfl (by decide +kernel) rfl rfl (Nat.le_of_ble_eq_true rfl) dJ4_init_3_38 (fun H locs hP hz9 oq hS => ?_)
      have hP : cP dC dI x (.inr (12, [.int 0, .null, .ref x, .null, .null, .null, .null, .int 0])) H := hP
      have hz := Nat.le_trans hz (Nat.le_of_eq hz9.symm)
      refine lv_aload_n hx hb dJ4_init_3_41 rfl (lv_at hl 0 rfl) ?_
      refine lv_aload_nN hx hb dJ4_init_3_42 rfl (lv_at hl 1 rfl) ?_
      refine g_put (ci := 12) (v := .null) (ty := .object "java/lang/String") (C := RX10) (T := TX10) (N := 8) hx hb hts in_X10 tyX10 tyX10_ok nmX10 hown hK hP hS (Or.inl rfl) rfl 5 (by decide) (hts _ q324) (fun _ h9 => h9) rfl (by decide +kernel) rfl rfl (Nat.le_of_ble_eq_true rfl) dJ4_init_3_43 (fun H locs hP hz9 oq hS => ?_)
      have hP : cP dC dI x (.inr (12, [.int 0, .null, .ref x, .null, .null, .null, .null, .int 0])) H := hP
      have hz := Nat.le_trans hz (Nat.le_of_eq hz9.symm)
      refine lv_aload_n hx hb dJ4_init_3_46 rfl (lv_at hl 0 rfl) ?_
      refine lv_aload_nN hx hb dJ4_init_3_47 rfl (lv_at hl 2 rfl) ?_
      refine g_put (ci := 12) (v := .null) (ty := .object "java/lang/Throwable") (C := RX10) (T := TX10) (N := 8) hx hb hts in_X10 tyX10 tyX10_ok nmX10 hown hK hP hS (Or.inl rfl) rfl 2 (by decide) (hts _ q325) (fun _ h9 => h9) rfl (by decide +kernel) rfl rfl (Nat.le_of_ble_eq_true rfl) dJ4_init_3_48 (fun H locs hP hz9 oq hS => ?_)
      have hP : cP dC dI x (.inr (12, [.int 0, .null, .null, .null, .null, .null, .null, .int 0])) H := hP
      have hz := Nat.le_trans hz (Nat.le_of_eq hz9.symm)
      refine lv_iload_n hx hb dJ4_init_3_51 rfl (lv_at hl 3 rfl) ?_
      refine lv_if_ne (tgt := 60) hx hb dJ4_init_3_52 (by decide) (fun c_52 => absurd (by decide) c_52) (fun c_52 => ?_)
      refine lv_aload_n hx hb dJ4_init_3_55 rfl (lv_at hl 0 rfl) ?_
      refine lv_null hx hb dJ4_init_3_56 ?_
      refine g_put (ci := 12) (v := .null) (ty := .object "java/util/List") (C := RX10) (T := TX10) (N := 8) hx hb hts in_X10 tyX10 tyX10_ok nmX10 hown hK hP hS (Or.inl rfl) rfl 4 (by decide) (hts _ q327) (fun _ h9 => h9) rfl (by decide +kernel) rfl rfl (Nat.le_of_ble_eq_true rfl) dJ4_init_3_57 (fun H locs hP hz9 oq hS => ?_)
      have hP : cP dC dI x (.inr (12, [.int 0, .null, .null, .null, .null, .null, .null, .int 0])) H := hP
      have hz := Nat.le_trans hz (Nat.le_of_eq hz9.symm)
      exact hret _ _ _ _ _ _ (⟨rfl, hP⟩) hS (by omega) (by omega) dJ4_init_3_60
    · refine va_gets hx hb (hF.narrow hAz) hS hown (hts _ q304) (fun _ h9 => h9) dJ4_init_3_17 ?_
      refine g_put (ci := 12) (v := .ref t92) (ty := .object "java/util/List") (C := RX10) (T := TX10) (N := 8) hx hb hts in_X10 tyX10 tyX10_ok nmX10 hown hK hP hS (Or.inl rfl) rfl 4 (by decide) (hts _ q327) (fun _ h9 => h9) rfl (by decide +kernel) rfl rfl (Nat.le_of_ble_eq_true rfl) dJ4_init_3_20 (fun H locs hP hz9 oq hS => ?_)
      have hP : cP dC dI x (.inr (12, [.int 0, .null, .ref x, .null, .ref t92, .null, .null, .int 0])) H := hP
      have hz := Nat.le_trans hz (Nat.le_of_eq hz9.symm)
      refine lv_iload hx hb dJ4_init_3_23 (lv_at hl 4 rfl) ?_
      refine lv_if_eq (tgt := 36) hx hb dJ4_init_3_25 (by decide) (fun c_25 => ?_) (fun c_25 => absurd (by decide) c_25)
      refine lv_aload_n hx hb dJ4_init_3_36 rfl (lv_at hl 0 rfl) ?_
      refine lv_null hx hb dJ4_init_3_37 ?_
      refine g_put (ci := 12) (v := .null) (ty := .array (.object "java/lang/StackTraceElement")) (C := RX10) (T := TX10) (N := 8) hx hb hts in_X10 tyX10 tyX10_ok nmX10 hown hK hP hS (Or.inl rfl) rfl 3 (by decide) (hts _ q326) (fun _ h9 => h9) rfl (by decide +kernel) rfl rfl (Nat.le_of_ble_eq_true rfl) dJ4_init_3_38 (fun H locs hP hz9 oq hS => ?_)
      have hP : cP dC dI x (.inr (12, [.int 0, .null, .ref x, .null, .ref t92, .null, .null, .int 0])) H := hP
      have hz := Nat.le_trans hz (Nat.le_of_eq hz9.symm)
      refine lv_aload_n hx hb dJ4_init_3_41 rfl (lv_at hl 0 rfl) ?_
      refine lv_aload_nN hx hb dJ4_init_3_42 rfl (lv_at hl 1 rfl) ?_
      refine g_put (ci := 12) (v := .null) (ty := .object "java/lang/String") (C := RX10) (T := TX10) (N := 8) hx hb hts in_X10 tyX10 tyX10_ok nmX10 hown hK hP hS (Or.inl rfl) rfl 5 (by decide) (hts _ q324) (fun _ h9 => h9) rfl (by decide +kernel) rfl rfl (Nat.le_of_ble_eq_true rfl) dJ4_init_3_43 (fun H locs hP hz9 oq hS => ?_)
      have hP : cP dC dI x (.inr (12, [.int 0, .null, .ref x, .null, .ref t92, .null, .null, .int 0])) H := hP
      have hz := Nat.le_trans hz (Nat.le_of_eq hz9.symm)
      refine lv_aload_n hx hb dJ4_init_3_46 rfl (lv_at hl 0 rfl) ?_
      refine lv_aload_nN hx hb dJ4_init_3_47 rfl (lv_at hl 2 rfl) ?_
      refine g_put (ci := 12) (v := .null) (ty := .object "java/lang/Throwable") (C := RX10) (T := TX10) (N := 8) hx hb hts in_X10 tyX10 tyX10_ok nmX10 hown hK hP hS (Or.inl rfl) rfl 2 (by decide) (hts _ q325) (fun _ h9 => h9) rfl (by decide +kernel) rfl rfl (Nat.le_of_ble_eq_true rfl) dJ4_init_3_48 (fun H locs hP hz9 oq hS => ?_)
      have hP : cP dC dI x (.inr (12, [.int 0, .null, .null, .null, .ref t92, .null, .null, .int 0])) H := hP
      have hz := Nat.le_trans hz (Nat.le_of_eq hz9.symm)
      refine lv_iload_n hx hb dJ4_init_3_51 rfl (lv_at hl 3 rfl) ?_
      refine lv_if_ne (tgt := 60) hx hb dJ4_init_3_52 (by decide) (fun c_52 => absurd (by decide) c_52) (fun c_52 => ?_)
      refine lv_aload_n hx hb dJ4_init_3_55 rfl (lv_at hl 0 rfl) ?_
      refine lv_null hx hb dJ4_init_3_56 ?_
      refine g_put (ci := 12) (v := .null) (ty := .object "java/util/List") (C := RX10) (T := TX10) (N := 8) hx hb hts in_X10 tyX10 tyX10_ok nmX10 hown hK hP hS (Or.inl rfl) rfl 4 (by decide) (hts _ q327) (fun _ h9 => h9) rfl (by decide +kernel) rfl rfl (Nat.le_of_ble_eq_true rfl) dJ4_init_3_57 (fun H locs hP hz9 oq hS => ?_)
      have hP : cP dC dI x (.inr (12, [.int 0, .null, .null, .null, .null, .null, .null, .int 0])) H := hP
      have hz := Nat.le_trans hz (Nat.le_of_eq hz9.symm)
      exact hret _ _ _ _ _ _ (⟨rfl, hP⟩) hS (by omega) (by omega) dJ4_init_3_60
  · refine va_gets hx hb (hF.narrow hAz) hS hown (hts _ q302) (fun _ h9 => h9) dJ4_init_3_10 ?_
    refine g_put (ci := 12) (v := .ref t91) (ty := .array (.object "java/lang/StackTraceElement")) (C := RX10) (T := TX10) (N := 8) hx hb hts in_X10 tyX10 tyX10_ok nmX10 hown hK hP hS (Or.inl rfl) rfl 3 (by decide) (hts _ q326) (fun _ h9 => h9) rfl (by decide +kernel) rfl rfl (Nat.le_of_ble_eq_true rfl) dJ4_init_3_13 (fun H locs hP hz9 oq hS => ?_)
    have hP : cP dC dI x (.inr (12, [.int 0, .null, .ref x, .ref t91, .null, .null, .null, .int 0])) H := hP
    have hz := Nat.le_trans hz (Nat.le_of_eq hz9.symm)
    refine lv_aload_n hx hb dJ4_init_3_16 rfl (lv_at hl 0 rfl) ?_
    rcases hEX.2.1.1 with hF | ⟨t93, hF⟩
    · refine va_gets hx hb (hF.narrow hAz) hS hown (hts _ q304) (fun _ h9 => h9) dJ4_init_3_17 ?_
      refine g_put (ci := 12) (v := .null) (ty := .object "java/util/List") (C := RX10) (T := TX10) (N := 8) hx hb hts in_X10 tyX10 tyX10_ok nmX10 hown hK hP hS (Or.inl rfl) rfl 4 (by decide) (hts _ q327) (fun _ h9 => h9) rfl (by decide +kernel) rfl rfl (Nat.le_of_ble_eq_true rfl) dJ4_init_3_20 (fun H locs hP hz9 oq hS => ?_)
      have hP : cP dC dI x (.inr (12, [.int 0, .null, .ref x, .ref t91, .null, .null, .null, .int 0])) H := hP
      have hz := Nat.le_trans hz (Nat.le_of_eq hz9.symm)
      refine lv_iload hx hb dJ4_init_3_23 (lv_at hl 4 rfl) ?_
      refine lv_if_eq (tgt := 36) hx hb dJ4_init_3_25 (by decide) (fun c_25 => ?_) (fun c_25 => absurd (by decide) c_25)
      refine lv_aload_n hx hb dJ4_init_3_36 rfl (lv_at hl 0 rfl) ?_
      refine lv_null hx hb dJ4_init_3_37 ?_
      refine g_put (ci := 12) (v := .null) (ty := .array (.object "java/lang/StackTraceElement")) (C := RX10) (T := TX10) (N := 8) hx hb hts in_X10 tyX10 tyX10_ok nmX10 hown hK hP hS (Or.inl rfl) rfl 3 (by decide) (hts _ q326) (fun _ h9 => h9) rfl (by decide +kernel) rfl rfl (Nat.le_of_ble_eq_true rfl) dJ4_init_3_38 (fun H locs hP hz9 oq hS => ?_)
      have hP : cP dC dI x (.inr (12, [.int 0, .null, .ref x, .null, .null, .null, .null, .int 0])) H := hP
      have hz := Nat.le_trans hz (Nat.le_of_eq hz9.symm)
      refine lv_aload_n hx hb dJ4_init_3_41 rfl (lv_at hl 0 rfl) ?_
      refine lv_aload_nN hx hb dJ4_init_3_42 rfl (lv_at hl 1 rfl) ?_
      refine g_put (ci := 12) (v := .null) (ty := .object "java/lang/String") (C := RX10) (T := TX10) (N := 8) hx hb hts in_X10 tyX10 tyX10_ok nmX10 hown hK hP hS (Or.inl rfl) rfl 5 (by decide) (hts _ q324) (fun _ h9 => h9) rfl (by decide +kernel) rfl rfl (Nat.le_of_ble_eq_true rfl) dJ4_init_3_43 (fun H locs hP hz9 oq hS => ?_)
      have hP : cP dC dI x (.inr (12, [.int 0, .null, .ref x, .null, .null, .null, .null, .int 0])) H := hP
      have hz := Nat.le_trans hz (Nat.le_of_eq hz9.symm)
      refine lv_aload_n hx hb dJ4_init_3_46 rfl (lv_at hl 0 rfl) ?_
      refine lv_aload_nN hx hb dJ4_init_3_47 rfl (lv_at hl 2 rfl) ?_
      refine g_put (ci := 12) (v := .null) (ty := .object "java/lang/Throwable") (C := RX10) (T := TX10) (N := 8) hx hb hts in_X10 tyX10 tyX10_ok nmX10 hown hK hP hS (Or.inl rfl) rfl 2 (by decide) (hts _ q325) (fun _ h9 => h9) rfl (by decide +kernel) rfl rfl (Nat.le_of_ble_eq_true rfl) dJ4_init_3_48 (fun H locs hP hz9 oq hS => ?_)
      have hP : cP dC dI x (.inr (12, [.int 0, .null, .null, .null, .null, .null, .null, .int 0])) H := hP
      have hz := Nat.le_trans hz (Nat.le_of_eq hz9.symm)
      refine lv_iload_n hx hb dJ4_init_3_51 rfl (lv_at hl 3 rfl) ?_
      refine lv_if_ne (tgt := 60) hx hb dJ4_init_3_52 (by decide) (fun c_52 => absurd (by decide) c_52) (fun c_52 => ?_)
      refine lv_aload_n hx hb dJ4_init_3_55 rfl (lv_at hl 0 rfl) ?_
      refine lv_null hx hb dJ4_init_3_56 ?_
      refine g_put (ci := 12) (v := .null) (ty := .object "java/util/List") (C := RX10) (T := TX10) (N := 8) hx hb hts in_X10 tyX10 tyX10_ok nmX10 hown hK hP hS (Or.inl rfl) rfl 4 (by decide) (hts _ q327) (fun _ h9 => h9) rfl (by decide +kernel) rfl rfl (Nat.le_of_ble_eq_true rfl) dJ4_init_3_57 (fun H locs hP hz9 oq hS => ?_)
      have hP : cP dC dI x (.inr (12, [.int 0, .null, .null, .null, .null, .null, .null, .int 0])) H := hP
      have hz := Nat.le_trans hz (Nat.le_of_eq hz9.symm)
      exact hret _ _ _ _ _ _ (⟨rfl, hP⟩) hS (by omega) (by omega) dJ4_init_3_60
    · refine va_gets hx hb (hF.narrow hAz) hS hown (hts _ q304) (fun _ h9 => h9) dJ4_init_3_17 ?_
      refine g_put (ci := 12) (v := .ref t93) (ty := .object "java/util/List") (C := RX10) (T := TX10) (N := 8) hx hb hts in_X10 tyX10 tyX10_ok nmX10 hown hK hP hS (Or.inl rfl) rfl 4 (by decide) (hts _ q327) (fun _ h9 => h9) rfl (by decide +kernel) rfl rfl (Nat.le_of_ble_eq_true rfl) dJ4_init_3_20 (fun H locs hP hz9 oq hS => ?_)
      have hP : cP dC dI x (.inr (12, [.int 0, .null, .ref x, .ref t91, .ref t93, .null, .null, .int 0])) H := hP
      have hz := Nat.le_trans hz (Nat.le_of_eq hz9.symm)
      refine lv_iload hx hb dJ4_init_3_23 (lv_at hl 4 rfl) ?_
      refine lv_if_eq (tgt := 36) hx hb dJ4_init_3_25 (by decide) (fun c_25 => ?_) (fun c_25 => absurd (by decide) c_25)
      refine lv_aload_n hx hb dJ4_init_3_36 rfl (lv_at hl 0 rfl) ?_
      refine lv_null hx hb dJ4_init_3_37 ?_
      refine g_put (ci := 12) (v := .null) (ty := .array (.object "java/lang/StackTraceElement")) (C := RX10) (T := TX10) (N := 8) hx hb hts in_X10 tyX10 tyX10_ok nmX10 hown hK hP hS (Or.inl rfl) rfl 3 (by decide) (hts _ q326) (fun _ h9 => h9) rfl (by decide +kernel) rfl rfl (Nat.le_of_ble_eq_true rfl) dJ4_init_3_38 (fun H locs hP hz9 oq hS => ?_)
      have hP : cP dC dI x (.inr (12, [.int 0, .null, .ref x, .null, .ref t93, .null, .null, .int 0])) H := hP
      have hz := Nat.le_trans hz (Nat.le_of_eq hz9.symm)
      refine lv_aload_n hx hb dJ4_init_3_41 rfl (lv_at hl 0 rfl) ?_
      refine lv_aload_nN hx hb dJ4_init_3_42 rfl (lv_at hl 1 rfl) ?_
      refine g_put (ci := 12) (v := .null) (ty := .object "java/lang/String") (C := RX10) (T := TX10) (N := 8) hx hb hts in_X10 tyX10 tyX10_ok nmX10 hown hK hP hS (Or.inl rfl) rfl 5 (by decide) (hts _ q324) (fun _ h9 => h9) rfl (by decide +kernel) rfl rfl (Nat.le_of_ble_eq_true rfl) dJ4_init_3_43 (fun H locs hP hz9 oq hS => ?_)
      have hP : cP dC dI x (.inr (12, [.int 0, .null, .ref x, .null, .ref t93, .null, .null, .int 0])) H := hP
      have hz := Nat.le_trans hz (Nat.le_of_eq hz9.symm)
      refine lv_aload_n hx hb dJ4_init_3_46 rfl (lv_at hl 0 rfl) ?_
      refine lv_aload_nN hx hb dJ4_init_3_47 rfl (lv_at hl 2 rfl) ?_
      refine g_put (ci := 12) (v := .null) (ty := .object "java/lang/Throwable") (C := RX10) (T := TX10) (N := 8) hx hb hts in_X10 tyX10 tyX10_ok nmX10 hown hK hP hS (Or.inl rfl) rfl 2 (by decide) (hts _ q325) (fun _ h9 => h9) rfl (by decide +kernel) rfl rfl (Nat.le_of_ble_eq_true rfl) dJ4_init_3_48 (fun H locs hP hz9 oq hS => ?_)
      have hP : cP dC dI x (.inr (12, [.int 0, .null, .null, .null, .ref t93, .null, .null, .int 0])) H := hP
      have hz := Nat.le_trans hz (Nat.le_of_eq hz9.symm)
      refine lv_iload_n hx hb dJ4_init_3_51 rfl (lv_at hl 3 rfl) ?_
      refine lv_if_ne (tgt := 60) hx hb dJ4_init_3_52 (by decide) (fun c_52 => absurd (by decide) c_52) (fun c_52 => ?_)
      refine lv_aload_n hx hb dJ4_init_3_55 rfl (lv_at hl 0 rfl) ?_
      refine lv_null hx hb dJ4_init_3_56 ?_
      refine g_put (ci := 12) (v := .null) (ty := .object "java/util/List") (C := RX10) (T := TX10) (N := 8) hx hb hts in_X10 tyX10 tyX10_ok nmX10 hown hK hP hS (Or.inl rfl) rfl 4 (by decide) (hts _ q327) (fun _ h9 => h9) rfl (by decide +kernel) rfl rfl (Nat.le_of_ble_eq_true rfl) dJ4_init_3_57 (fun H locs hP hz9 oq hS => ?_)
      have hP : cP dC dI x (.inr (12, [.int 0, .null, .null, .null, .null, .null, .null, .int 0])) H := hP
      have hz := Nat.le_trans hz (Nat.le_of_eq hz9.symm)
      exact hret _ _ _ _ _ _ (⟨rfl, hP⟩) hS (by omega) (by omega) dJ4_init_3_60

set_option maxHeartbeats 4000000 in
theorem c_J5_init_3_X10 (l : Launch) (dC : Nat → ClassId) (dI : Nat → Nat → Nat) (dA : Nat → ClassId) (x : Nat) (sz : Nat) (hs : Nat) (hxz : sz ≤ x) (hsz : sz ≤ hs) : Met l yJ5_init_3 (ws_ yJ5_init_3 cJ5_init_3 5 none) (rmD 2 (0) (0)) (gPx [.ref x, .null, .null, .int (nI 0), .int (nI 0)] (fun U H => cP dC dI x (.inr (12, [.int 0, .null, .null, .null, .null, .null, .null, .int 0])) H ∧ EX sz U H) hs dC dI dA) (gQ hs (fun q => q = x) (fun v H => v = none ∧ cP dC dI x (.inr (12, [.int 0, .null, .null, .null, .null, .null, .null, .int 0])) H)) (0) (0) (gF (fun q => q = x) hs) := by
  refine g_metv (own := RJ5) (by decide) rfl (Nat.le_of_ble_eq_true rfl) fun p e R s m args below meth c Q SF rk hRR hX hK hin hret ls hl => ?_
  have hx := SF.1
  have hb := SF.2.1
  have hml := SF.2.2.1
  have hown := SF.2.2.2.1
  have hts := SF.2.2.2.2
  have hz0 := hX.2
  have hz : hs ≤ s.heap.size := Nat.le_of_eq hX.2.symm
  have hX := hX.1
  have hRc := hRR.1
  have hRs := hRR.2
  have gFs : ∀ q : Nat, s.heap.size ≤ q → gF (fun q => q = x) hs q := fun q h => Or.inr (hz0 ▸ h)
  have hS : va_S (gF (fun q => q = x) hs) s.heap s.heap [] := va_S.rf
  have hl : lv_has ls 5 [(0, .ref x), (1, .null), (2, .null), (3, .int (nI 0)), (4, .int (nI 0))] := hl
  have hP := hX.1
  have hEX := hX.2
  have hAz : ∀ q, gF (fun q => q = x) hs q → sz ≤ q := fun q h => h.elim (fun e => e ▸ hxz) (fun h => Nat.le_trans hsz h)
  refine lv_aload_n hx hb dJ5_init_3_0 rfl (lv_at hl 0 rfl) ?_
  refine lv_aload_nN hx hb dJ5_init_3_1 rfl (lv_at hl 1 rfl) ?_
  refine lv_aload_nN hx hb dJ5_init_3_2 rfl (lv_at hl 2 rfl) ?_
  refine lv_iload_n hx hb dJ5_init_3_3 rfl (lv_at hl 3 rfl) ?_
  refine lv_iload hx hb dJ5_init_3_4 (lv_at hl 4 rfl) ?_
  refine g_run (g_rI (As := [.null, .null, .int (nI 0), .int (nI 0)]) SF hK (d := 1) (rk.le (Nat.le_of_ble_eq_true rfl)) (c_J4_init_3_X10 l dC dI dA x sz s.heap.size (show sz ≤ x by omega) (show sz ≤ s.heap.size by omega)) q118 q772 q773 q774 rfl (n := 4) (by decide +kernel) rfl (by decide) (XOK.hs (XOK.hp.and EX.ok)) (⟨⟨hP, hEX.at hS hAz⟩, rfl⟩) hl.1 (Nat.le_of_ble_eq_true rfl) ⟨(by omega), (by omega)⟩ rfl dJ5_init_3_6) rfl hS (fun _ h => Or.inl h) gFs (fun v9 H locs hP9 hz9 oq hS => ?_)
  obtain ⟨rfl, hP⟩ := hP9
  have hz := Nat.le_trans hz hz9
  refine W.eq (g2 := F0 m 9 ls []) rfl ?_
  exact hret _ _ _ _ _ _ (⟨rfl, hP⟩) hS (by omega) (by omega) dJ5_init_3_9

set_option maxHeartbeats 4000000 in
theorem c_X8_init_X10 (l : Launch) (dC : Nat → ClassId) (dI : Nat → Nat → Nat) (dA : Nat → ClassId) (x : Nat) (sz : Nat) (hs : Nat) (r : Int32) (hxz : sz ≤ x) (hsz : sz ≤ hs) : Met l yX8_init (ws_ yX8_init cX8_init 3 none) (rmD 3 (0) (0)) (gPx [.ref x, .int r, .null] (fun U H => cP dC dI x (.inr (12, [.int 0, .null, .null, .null, .null, .null, .null, .int 0])) H ∧ EX sz U H) hs dC dI dA) (gQ hs (fun q => q = x) (fun v H => v = none ∧ cP dC dI x (.inr (12, [.int r, .null, .null, .null, .null, .null, .null, .int 0])) H)) (0) (0) (gF (fun q => q = x) hs) := by
  refine g_metv (own := RX8) (by decide) rfl (Nat.le_of_ble_eq_true rfl) fun p e R s m args below meth c Q SF rk hRR hX hK hin hret ls hl => ?_
  have hx := SF.1
  have hb := SF.2.1
  have hml := SF.2.2.1
  have hown := SF.2.2.2.1
  have hts := SF.2.2.2.2
  have hz0 := hX.2
  have hz : hs ≤ s.heap.size := Nat.le_of_eq hX.2.symm
  have hX := hX.1
  have hRc := hRR.1
  have hRs := hRR.2
  have gFs : ∀ q : Nat, s.heap.size ≤ q → gF (fun q => q = x) hs q := fun q h => Or.inr (hz0 ▸ h)
  have hS : va_S (gF (fun q => q = x) hs) s.heap s.heap [] := va_S.rf
  have hl : lv_has ls 3 [(0, .ref x), (1, .int r), (2, .null)] := hl
  have hP := hX.1
  have hEX := hX.2
  have hAz : ∀ q, gF (fun q => q = x) hs q → sz ≤ q := fun q h => h.elim (fun e => e ▸ hxz) (fun h => Nat.le_trans hsz h)
  refine lv_aload_n hx hb dX8_init_0 rfl (lv_at hl 0 rfl) ?_
  refine lv_null hx hb dX8_init_1 ?_
  refine lv_null hx hb dX8_init_2 ?_
  refine lv_iconst (v := nI 0) hx hb dX8_init_3 (by decide) ?_
  refine lv_iconst (v := nI 0) hx hb dX8_init_4 (by decide) ?_
  refine g_run (g_rI (As := [.null, .null, .int (nI 0), .int (nI 0)]) SF hK (d := 2) (rk.le (Nat.le_of_ble_eq_true rfl)) (c_J5_init_3_X10 l dC dI dA x sz s.heap.size (show sz ≤ x by omega) (show sz ≤ s.heap.size by omega)) q119 q1215 q770 q771 rfl (n := 4) (by decide +kernel) rfl (by decide) (XOK.hs (XOK.hp.and EX.ok)) (⟨⟨hP, hEX.at hS hAz⟩, rfl⟩) hl.1 (Nat.le_of_ble_eq_true rfl) ⟨(by omega), (by omega)⟩ rfl dX8_init_5) rfl hS (fun _ h => Or.inl h) gFs (fun v9 H locs hP9 hz9 oq hS => ?_)
  obtain ⟨rfl, hP⟩ := hP9
  have hz := Nat.le_trans hz hz9
  refine W.eq (g2 := F0 m 8 ls []) rfl ?_
  refine lv_aload_n hx hb dX8_init_8 rfl (lv_at hl 0 rfl) ?_
  refine lv_iload_n hx hb dX8_init_9 rfl (lv_at hl 1 rfl) ?_
  refine g_putF (ci := 12) (v := .int r) (ty := .int) (C := RX10) (T := TX10) (N := 8) hx hb hts in_X10 tyX10 tyX10_ok nmX10 hown hK hP hS (Or.inl rfl) rfl 0 (by decide) (hts _ q1216) (fun _ h9 => h9) rfl hin rfl (by decide +kernel) rfl rfl (Nat.le_of_ble_eq_true rfl) dX8_init_10 (fun H locs hP hz9 oq hS => ?_)
  have hP : cP dC dI x (.inr (12, [.int r, .null, .null, .null, .null, .null, .null, .int 0])) H := hP
  have hz := Nat.le_trans hz (Nat.le_of_eq hz9.symm)
  refine lv_aload_n hx hb dX8_init_13 rfl (lv_at hl 0 rfl) ?_
  refine lv_aload_nN hx hb dX8_init_14 rfl (lv_at hl 2 rfl) ?_
  refine g_putF (ci := 12) (v := .null) (ty := .object "BadCodes$Unsorted") (C := RX10) (T := TX10) (N := 8) hx hb hts in_X10 tyX10 tyX10_ok nmX10 hown hK hP hS (Or.inl rfl) rfl 1 (by decide) (hts _ q1217) (fun _ h9 => h9) rfl hin rfl (by decide +kernel) rfl rfl (Nat.le_of_ble_eq_true rfl) dX8_init_15 (fun H locs hP hz9 oq hS => ?_)
  have hP : cP dC dI x (.inr (12, [.int r, .null, .null, .null, .null, .null, .null, .int 0])) H := hP
  have hz := Nat.le_trans hz (Nat.le_of_eq hz9.symm)
  exact hret _ _ _ _ _ _ (⟨rfl, hP⟩) hS (by omega) (by omega) dX8_init_18

set_option maxHeartbeats 4000000 in
theorem c_X10_init (l : Launch) (dC : Nat → ClassId) (dI : Nat → Nat → Nat) (dA : Nat → ClassId) (x : Nat) (sz : Nat) (hs : Nat) (hxz : sz ≤ x) (hsz : sz ≤ hs) : Met l yX10_init (ws_ yX10_init cX10_init 1 none) (rmD 4 (0) (0)) (gPx [.ref x] (fun U H => cP dC dI x (.inr (12, [.int 0, .null, .null, .null, .null, .null, .null, .int 0])) H ∧ EX sz U H) hs dC dI dA) (gQ hs (fun q => q = x) (fun v H => v = none ∧ cP dC dI x (.inr (12, [.int (nI 4), .null, .null, .null, .null, .null, .null, .int 0])) H)) (0) (0) (gF (fun q => q = x) hs) := by
  refine g_metv (own := RX10) (by decide) rfl (Nat.le_of_ble_eq_true rfl) fun p e R s m args below meth c Q SF rk hRR hX hK hin hret ls hl => ?_
  have hx := SF.1
  have hb := SF.2.1
  have hml := SF.2.2.1
  have hown := SF.2.2.2.1
  have hts := SF.2.2.2.2
  have hz0 := hX.2
  have hz : hs ≤ s.heap.size := Nat.le_of_eq hX.2.symm
  have hX := hX.1
  have hRc := hRR.1
  have hRs := hRR.2
  have gFs : ∀ q : Nat, s.heap.size ≤ q → gF (fun q => q = x) hs q := fun q h => Or.inr (hz0 ▸ h)
  have hS : va_S (gF (fun q => q = x) hs) s.heap s.heap [] := va_S.rf
  have hl : lv_has ls 1 [(0, .ref x)] := hl
  have hP := hX.1
  have hEX := hX.2
  have hAz : ∀ q, gF (fun q => q = x) hs q → sz ≤ q := fun q h => h.elim (fun e => e ▸ hxz) (fun h => Nat.le_trans hsz h)
  refine lv_aload_n hx hb dX10_init_0 rfl (lv_at hl 0 rfl) ?_
  refine lv_iconst (v := nI 4) hx hb dX10_init_1 (by decide) ?_
  refine lv_null hx hb dX10_init_2 ?_
  refine g_run (g_rI (As := [.int (nI 4), .null]) SF hK (d := 3) (rk.le (Nat.le_of_ble_eq_true rfl)) (c_X8_init_X10 l dC dI dA x sz s.heap.size (nI 4) (show sz ≤ x by omega) (show sz ≤ s.heap.size by omega)) q145 q1243 q1213 q1214 rfl (n := 2) (by decide +kernel) rfl (by decide) (XOK.hs (XOK.hp.and EX.ok)) (⟨⟨hP, hEX.at hS hAz⟩, rfl⟩) hl.1 (Nat.le_of_ble_eq_true rfl) ⟨(by omega), (by omega)⟩ rfl dX10_init_3) rfl hS (fun _ h => Or.inl h) gFs (fun v9 H locs hP9 hz9 oq hS => ?_)
  obtain ⟨rfl, hP⟩ := hP9
  have hz := Nat.le_trans hz hz9
  refine W.eq (g2 := F0 m 6 ls []) rfl ?_
  exact hret _ _ _ _ _ _ (⟨rfl, hP⟩) hS (by omega) (by omega) dX10_init_6

set_option maxHeartbeats 4000000 in
theorem c_J4_init_3_X11 (l : Launch) (dC : Nat → ClassId) (dI : Nat → Nat → Nat) (dA : Nat → ClassId) (x : Nat) (sz : Nat) (hs : Nat) (hxz : sz ≤ x) (hsz : sz ≤ hs) : Met l yJ4_init_3 (ws_ yJ4_init_3 cJ4_init_3 5 none) (rmD 1 (0) (0)) (gPx [.ref x, .null, .null, .int (nI 0), .int (nI 0)] (fun U H => cP dC dI x (.inr (13, [.int 0, .null, .null, .null, .null, .null, .null, .int 0])) H ∧ EX sz U H) hs dC dI dA) (gQ hs (fun q => q = x) (fun v H => v = none ∧ cP dC dI x (.inr (13, [.int 0, .null, .null, .null, .null, .null, .null, .int 0])) H)) (0) (0) (gF (fun q => q = x) hs) := by
  refine g_metv (own := RJ4) (by decide) rfl (Nat.le_of_ble_eq_true rfl) fun p e R s m args below meth c Q SF rk hRR hX hK hin hret ls hl => ?_
  have hx := SF.1
  have hb := SF.2.1
  have hml := SF.2.2.1
  have hown := SF.2.2.2.1
  have hts := SF.2.2.2.2
  have hz0 := hX.2
  have hz : hs ≤ s.heap.size := Nat.le_of_eq hX.2.symm
  have hX := hX.1
  have hRc := hRR.1
  have hRs := hRR.2
  have gFs : ∀ q : Nat, s.heap.size ≤ q → gF (fun q => q = x) hs q := fun q h => Or.inr (hz0 ▸ h)
  have hS : va_S (gF (fun q => q = x) hs) s.heap s.heap [] := va_S.rf
  have hl : lv_has ls 5 [(0, .ref x), (1, .null), (2, .null), (3, .int (nI 0)), (4, .int (nI 0))] := hl
  have hP := hX.1
  have hEX := hX.2
  have hAz : ∀ q, gF (fun q => q = x) hs q → sz ≤ q := fun q h => h.elim (fun e => e ▸ hxz) (fun h => Nat.le_trans hsz h)
  refine lv_aload_n hx hb dJ4_init_3_0 rfl (lv_at hl 0 rfl) ?_
  refine W.objInit hx hb hown (hts _ q301) (hts _ q156) (hts _ q157) rfl (hl.1.trans hml.symm) rfl dJ4_init_3_1 (Nat.le_trans (Nat.le_of_ble_eq_true rfl) rk.1) (Nat.le_trans (Nat.le_of_ble_eq_true rfl) rk.2) ?_
  refine W.eq (g2 := F0 m 4 ls []) rfl ?_
  refine lv_aload_n hx hb dJ4_init_3_4 rfl (lv_at hl 0 rfl) ?_
  refine lv_aload_n hx hb dJ4_init_3_5 rfl (lv_at hl 0 rfl) ?_
  refine g_put (ci := 13) (v := .ref x) (ty := .object "java/lang/Throwable") (C := RX11) (T := TX11) (N := 8) hx hb hts in_X11 tyX11 tyX11_ok nmX11 hown hK hP hS (Or.inl rfl) rfl 2 (by decide) (hts _ q325) (fun _ h9 => h9) rfl (by decide +kernel) rfl rfl (Nat.le_of_ble_eq_true rfl) dJ4_init_3_6 (fun H locs hP hz9 oq hS => ?_)
  have hP : cP dC dI x (.inr (13, [.int 0, .null, .ref x, .null, .null, .null, .null, .int 0])) H := hP
  have hz := Nat.le_trans hz (Nat.le_of_eq hz9.symm)
  refine lv_aload_n hx hb dJ4_init_3_9 rfl (lv_at hl 0 rfl) ?_
  rcases hEX.1.1 with hF | ⟨t91, hF⟩
  · refine va_gets hx hb (hF.narrow hAz) hS hown (hts _ q302) (fun _ h9 => h9) dJ4_init_3_10 ?_
    refine g_put (ci := 13) (v := .null) (ty := .array (.object "java/lang/StackTraceElement")) (C := RX11) (T := TX11) (N := 8) hx hb hts in_X11 tyX11 tyX11_ok nmX11 hown hK hP hS (Or.inl rfl) rfl 3 (by decide) (hts _ q326) (fun _ h9 => h9) rfl (by decide +kernel) rfl rfl (Nat.le_of_ble_eq_true rfl) dJ4_init_3_13 (fun H locs hP hz9 oq hS => ?_)
    have hP : cP dC dI x (.inr (13, [.int 0, .null, .ref x, .null, .null, .null, .null, .int 0])) H := hP
    have hz := Nat.le_trans hz (Nat.le_of_eq hz9.symm)
    refine lv_aload_n hx hb dJ4_init_3_16 rfl (lv_at hl 0 rfl) ?_
    rcases hEX.2.1.1 with hF | ⟨t92, hF⟩
    · refine va_gets hx hb (hF.narrow hAz) hS hown (hts _ q304) (fun _ h9 => h9) dJ4_init_3_17 ?_
      refine g_put (ci := 13) (v := .null) (ty := .object "java/util/List") (C := RX11) (T := TX11) (N := 8) hx hb hts in_X11 tyX11 tyX11_ok nmX11 hown hK hP hS (Or.inl rfl) rfl 4 (by decide) (hts _ q327) (fun _ h9 => h9) rfl (by decide +kernel) rfl rfl (Nat.le_of_ble_eq_true rfl) dJ4_init_3_20 (fun H locs hP hz9 oq hS => ?_)
      have hP : cP dC dI x (.inr (13, [.int 0, .null, .ref x, .null, .null, .null, .null, .int 0])) H := hP
      have hz := Nat.le_trans hz (Nat.le_of_eq hz9.symm)
      refine lv_iload hx hb dJ4_init_3_23 (lv_at hl 4 rfl) ?_
      refine lv_if_eq (tgt := 36) hx hb dJ4_init_3_25 (by decide) (fun c_25 => ?_) (fun c_25 => absurd (by decide) c_25)
      refine lv_aload_n hx hb dJ4_init_3_36 rfl (lv_at hl 0 rfl) ?_
      refine lv_null hx hb dJ4_init_3_37 ?_
      refine g_put (ci := 13) (v := .null) (ty := .array (.object "java/lang/StackTraceElement")) (C := RX11) (T := TX11) (N := 8) hx hb hts in_X11 tyX11 tyX11_ok nmX11 hown hK hP hS (Or.inl rfl) rfl 3 (by decide) (hts _ q326) (fun _ h9 => h9) rfl (by decide +kernel) rfl rfl (Nat.le_of_ble_eq_true rfl) dJ4_init_3_38 (fun H locs hP hz9 oq hS => ?_)
      have hP : cP dC dI x (.inr (13, [.int 0, .null, .ref x, .null, .null, .null, .null, .int 0])) H := hP
      have hz := Nat.le_trans hz (Nat.le_of_eq hz9.symm)
      refine lv_aload_n hx hb dJ4_init_3_41 rfl (lv_at hl 0 rfl) ?_
      refine lv_aload_nN hx hb dJ4_init_3_42 rfl (lv_at hl 1 rfl) ?_
      refine g_put (ci := 13) (v := .null) (ty := .object "java/lang/String") (C := RX11) (T := TX11) (N := 8) hx hb hts in_X11 tyX11 tyX11_ok nmX11 hown hK hP hS (Or.inl rfl) rfl 5 (by decide) (hts _ q324) (fun _ h9 => h9) rfl (by decide +kernel) rfl rfl (Nat.le_of_ble_eq_true rfl) dJ4_init_3_43 (fun H locs hP hz9 oq hS => ?_)
      have hP : cP dC dI x (.inr (13, [.int 0, .null, .ref x, .null, .null, .null, .null, .int 0])) H := hP
      have hz := Nat.le_trans hz (Nat.le_of_eq hz9.symm)
      refine lv_aload_n hx hb dJ4_init_3_46 rfl (lv_at hl 0 rfl) ?_
      refine lv_aload_nN hx hb dJ4_init_3_47 rfl (lv_at hl 2 rfl) ?_
      refine g_put (ci := 13) (v := .null) (ty := .object "java/lang/Throwable") (C := RX11) (T := TX11) (N := 8) hx hb hts in_X11 tyX11 tyX11_ok nmX11 hown hK hP hS (Or.inl rfl) rfl 2 (by decide) (hts _ q325) (fun _ h9 => h9) rfl (by decide +kernel) rfl rfl (Nat.le_of_ble_eq_true rfl) dJ4_init_3_48 (fun H locs hP hz9 oq hS => ?_)
      have hP : cP dC dI x (.inr (13, [.int 0, .null, .null, .null, .null, .null, .null, .int 0])) H := hP
      have hz := Nat.le_trans hz (Nat.le_of_eq hz9.symm)
      refine lv_iload_n hx hb dJ4_init_3_51 rfl (lv_at hl 3 rfl) ?_
      refine lv_if_ne (tgt := 60) hx hb dJ4_init_3_52 (by decide) (fun c_52 => absurd (by decide) c_52) (fun c_52 => ?_)
      refine lv_aload_n hx hb dJ4_init_3_55 rfl (lv_at hl 0 rfl) ?_
      refine lv_null hx hb dJ4_init_3_56 ?_
      refine g_put (ci := 13) (v := .null) (ty := .object "java/util/List") (C := RX11) (T := TX11) (N := 8) hx hb hts in_X11 tyX11 tyX11_ok nmX11 hown hK hP hS (Or.inl rfl) rfl 4 (by decide) (hts _ q327) (fun _ h9 => h9) rfl (by decide +kernel) rfl rfl (Nat.le_of_ble_eq_true rfl) dJ4_init_3_57 (fun H locs hP hz9 oq hS => ?_)
      have hP : cP dC dI x (.inr (13, [.int 0, .null, .null, .null, .null, .null, .null, .int 0])) H := hP
      have hz := Nat.le_trans hz (Nat.le_of_eq hz9.symm)
      exact hret _ _ _ _ _ _ (⟨rfl, hP⟩) hS (by omega) (by omega) dJ4_init_3_60
    · refine va_gets hx hb (hF.narrow hAz) hS hown (hts _ q304) (fun _ h9 => h9) dJ4_init_3_17 ?_
      refine g_put (ci := 13) (v := .ref t92) (ty := .object "java/util/List") (C := RX11) (T := TX11) (N := 8) hx hb hts in_X11 tyX11 tyX11_ok nmX11 hown hK hP hS (Or.inl rfl) rfl 4 (by decide) (hts _ q327) (fun _ h9 => h9) rfl (by decide +kernel) rfl rfl (Nat.le_of_ble_eq_true rfl) dJ4_init_3_20 (fun H locs hP hz9 oq hS => ?_)
      have hP : cP dC dI x (.inr (13, [.int 0, .null, .ref x, .null, .ref t92, .null, .null, .int 0])) H := hP
      have hz := Nat.le_trans hz (Nat.le_of_eq hz9.symm)
      refine lv_iload hx hb dJ4_init_3_23 (lv_at hl 4 rfl) ?_
      refine lv_if_eq (tgt := 36) hx hb dJ4_init_3_25 (by decide) (fun c_25 => ?_) (fun c_25 => absurd (by decide) c_25)
      refine lv_aload_n hx hb dJ4_init_3_36 rfl (lv_at hl 0 rfl) ?_
      refine lv_null hx hb dJ4_init_3_37 ?_
      refine g_put (ci := 13) (v := .null) (ty := .array (.object "java/lang/StackTraceElement")) (C := RX11) (T := TX11) (N := 8) hx hb hts in_X11 tyX11 tyX11_ok nmX11 hown hK hP hS (Or.inl rfl) rfl 3 (by decide) (hts _ q326) (fun _ h9 => h9) rfl (by decide +kernel) rfl rfl (Nat.le_of_ble_eq_true rfl) dJ4_init_3_38 (fun H locs hP hz9 oq hS => ?_)
      have hP : cP dC dI x (.inr (13, [.int 0, .null, .ref x, .null, .ref t92, .null, .null, .int 0])) H := hP
      have hz := Nat.le_trans hz (Nat.le_of_eq hz9.symm)
      refine lv_aload_n hx hb dJ4_init_3_41 rfl (lv_at hl 0 rfl) ?_
      refine lv_aload_nN hx hb dJ4_init_3_42 rfl (lv_at hl 1 rfl) ?_
      refine g_put (ci := 13) (v := .null) (ty := .object "java/lang/String") (C := RX11) (T := TX11) (N := 8) hx hb hts in_X11 tyX11 tyX11_ok nmX11 hown hK hP hS (Or.inl rfl) rfl 5 (by decide) (hts _ q324) (fun _ h9 => h9) rfl (by decide +kernel) rfl rfl (Nat.le_of_ble_eq_true rfl) dJ4_init_3_43 (fun H locs hP hz9 oq hS => ?_)
      have hP : cP dC dI x (.inr (13, [.int 0, .null, .ref x, .null, .ref t92, .null, .null, .int 0])) H := hP
      have hz := Nat.le_trans hz (Nat.le_of_eq hz9.symm)
      refine lv_aload_n hx hb dJ4_init_3_46 rfl (lv_at hl 0 rfl) ?_
      refine lv_aload_nN hx hb dJ4_init_3_47 rfl (lv_at hl 2 rfl) ?_
      refine g_put (ci := 13) (v := .null) (ty := .object "java/lang/Throwable") (C := RX11) (T := TX11) (N := 8) hx hb hts in_X11 tyX11 tyX11_ok nmX11 hown hK hP hS (Or.inl rfl) rfl 2 (by decide) (hts _ q325) (fun _ h9 => h9) rfl (by decide +kernel) rfl rfl (Nat.le_of_ble_eq_true rfl) dJ4_init_3_48 (fun H locs hP hz9 oq hS => ?_)
      have hP : cP dC dI x (.inr (13, [.int 0, .null, .null, .null, .ref t92, .null, .null, .int 0])) H := hP
      have hz := Nat.le_trans hz (Nat.le_of_eq hz9.symm)
      refine lv_iload_n hx hb dJ4_init_3_51 rfl (lv_at hl 3 rfl) ?_
      refine lv_if_ne (tgt := 60) hx hb dJ4_init_3_52 (by decide) (fun c_52 => absurd (by decide) c_52) (fun c_52 => ?_)
      refine lv_aload_n hx hb dJ4_init_3_55 rfl (lv_at hl 0 rfl) ?_
      refine lv_null hx hb dJ4_init_3_56 ?_
      refine g_put (ci := 13) (v := .null) (ty := .object "java/util/List") (C := RX11) (T := TX11) (N := 8) hx hb hts in_X11 tyX11 tyX11_ok nmX11 hown hK hP hS (Or.inl rfl) rfl 4 (by decide) (hts _ q327) (fun _ h9 => h9) rfl (by decide +kernel) rfl rfl (Nat.le_of_ble_eq_true rfl) dJ4_init_3_57 (fun H locs hP hz9 oq hS => ?_)
      have hP : cP dC dI x (.inr (13, [.int 0, .null, .null, .null, .null, .null, .null, .int 0])) H := hP
      have hz := Nat.le_trans hz (Nat.le_of_eq hz9.symm)
      exact hret _ _ _ _ _ _ (⟨rfl, hP⟩) hS (by omega) (by omega) dJ4_init_3_60
  · refine va_gets hx hb (hF.narrow hAz) hS hown (hts _ q302) (fun _ h9 => h9) dJ4_init_3_10 ?_
    refine g_put (ci := 13) (v := .ref t91) (ty := .array (.object "java/lang/StackTraceElement")) (C := RX11) (T := TX11) (N := 8) hx hb hts in_X11 tyX11 tyX11_ok nmX11 hown hK hP hS (Or.inl rfl) rfl 3 (by decide) (hts _ q326) (fun _ h9 => h9) rfl (by decide +kernel) rfl rfl (Nat.le_of_ble_eq_true rfl) dJ4_init_3_13 (fun H locs hP hz9 oq hS => ?_)
    have hP : cP dC dI x (.inr (13, [.int 0, .null, .ref x, .ref t91, .null, .null, .null, .int 0])) H := hP
    have hz := Nat.le_trans hz (Nat.le_of_eq hz9.symm)
    refine lv_aload_n hx hb dJ4_init_3_16 rfl (lv_at hl 0 rfl) ?_
    rcases hEX.2.1.1 with hF | ⟨t93, hF⟩
    · refine va_gets hx hb (hF.narrow hAz) hS hown (hts _ q304) (fun _ h9 => h9) dJ4_init_3_17 ?_
      refine g_put (ci := 13) (v := .null) (ty := .object "java/util/List") (C := RX11) (T := TX11) (N := 8) hx hb hts in_X11 tyX11 tyX11_ok nmX11 hown hK hP hS (Or.inl rfl) rfl 4 (by decide) (hts _ q327) (fun _ h9 => h9) rfl (by decide +kernel) rfl rfl (Nat.le_of_ble_eq_true rfl) dJ4_init_3_20 (fun H locs hP hz9 oq hS => ?_)
      have hP : cP dC dI x (.inr (13, [.int 0, .null, .ref x, .ref t91, .null, .null, .null, .int 0])) H := hP
      have hz := Nat.le_trans hz (Nat.le_of_eq hz9.symm)
      refine lv_iload hx hb dJ4_init_3_23 (lv_at hl 4 rfl) ?_
      refine lv_if_eq (tgt := 36) hx hb dJ4_init_3_25 (by decide) (fun c_25 => ?_) (fun c_25 => absurd (by decide) c_25)
      refine lv_aload_n hx hb dJ4_init_3_36 rfl (lv_at hl 0 rfl) ?_
      refine lv_null hx hb dJ4_init_3_37 ?_
      refine g_put (ci := 13) (v := .null) (ty := .array (.object "java/lang/StackTraceElement")) (C := RX11) (T := TX11) (N := 8) hx hb hts in_X11 tyX11 tyX11_ok nmX11 hown hK hP hS (Or.inl rfl) rfl 3 (by decide) (hts _ q326) (fun _ h9 => h9) rfl (by decide +kernel) rfl rfl (Nat.le_of_ble_eq_true rfl) dJ4_init_3_38 (fun H locs hP hz9 oq hS => ?_)
      have hP : cP dC dI x (.inr (13, [.int 0, .null, .ref x, .null, .null, .null, .null, .int 0])) H := hP
      have hz := Nat.le_trans hz (Nat.le_of_eq hz9.symm)
      refine lv_aload_n hx hb dJ4_init_3_41 rfl (lv_at hl 0 rfl) ?_
      refine lv_aload_nN hx hb dJ4_init_3_42 rfl (lv_at hl 1 rfl) ?_
      refine g_put (ci := 13) (v := .null) (ty := .object "java/lang/String") (C := RX11) (T := TX11) (N := 8) hx hb hts in_X11 tyX11 tyX11_ok nmX11 hown hK hP hS (Or.inl rfl) rfl 5 (by decide) (hts _ q324) (fun _ h9 => h9) rfl (by decide +kernel) rfl rfl (Nat.le_of_ble_eq_true rfl) dJ4_init_3_43 (fun H locs hP hz9 oq hS => ?_)
      have hP : cP dC dI x (.inr (13, [.int 0, .null, .ref x, .null, .null, .null, .null, .int 0])) H := hP
      have hz := Nat.le_trans hz (Nat.le_of_eq hz9.symm)
      refine lv_aload_n hx hb dJ4_init_3_46 rfl (lv_at hl 0 rfl) ?_
      refine lv_aload_nN hx hb dJ4_init_3_47 rfl (lv_at hl 2 rfl) ?_
      refine g_put (ci := 13) (v := .null) (ty := .object "java/lang/Throwable") (C := RX11) (T := TX11) (N := 8) hx hb hts in_X11 tyX11 tyX11_ok nmX11 hown hK hP hS (Or.inl rfl) rfl 2 (by decide) (hts _ q325) (fun _ h9 => h9) rfl (by decide +kernel) rfl rfl (Nat.le_of_ble_eq_true rfl) dJ4_init_3_48 (fun H locs hP hz9 oq hS => ?_)
      have hP : cP dC dI x (.inr (13, [.int 0, .null, .null, .null, .null, .null, .null, .int 0])) H := hP
      have hz := Nat.le_trans hz (Nat.le_of_eq hz9.symm)
      refine lv_iload_n hx hb dJ4_init_3_51 rfl (lv_at hl 3 rfl) ?_
      refine lv_if_ne (tgt := 60) hx hb dJ4_init_3_52 (by decide) (fun c_52 => absurd (by decide) c_52) (fun c_52 => ?_)
      refine lv_aload_n hx hb dJ4_init_3_55 rfl (lv_at hl 0 rfl) ?_
      refine lv_null hx hb dJ4_init_3_56 ?_
      refine g_put (ci := 13) (v := .null) (ty := .object "java/util/List") (C := RX11) (T := TX11) (N := 8) hx hb hts in_X11 tyX11 tyX11_ok nmX11 hown hK hP hS (Or.inl rfl) rfl 4 (by decide) (hts _ q327) (fun _ h9 => h9) rfl (by decide +kernel) rfl rfl (Nat.le_of_ble_eq_true rfl) dJ4_init_3_57 (fun H locs hP hz9 oq hS => ?_)
      have hP : cP dC dI x (.inr (13, [.int 0, .null, .null, .null, .null, .null, .null, .int 0])) H := hP
      have hz := Nat.le_trans hz (Nat.le_of_eq hz9.symm)
      exact hret _ _ _ _ _ _ (⟨rfl, hP⟩) hS (by omega) (by omega) dJ4_init_3_60
    · refine va_gets hx hb (hF.narrow hAz) hS hown (hts _ q304) (fun _ h9 => h9) dJ4_init_3_17 ?_
      refine g_put (ci := 13) (v := .ref t93) (ty := .object "java/util/List") (C := RX11) (T := TX11) (N := 8) hx hb hts in_X11 tyX11 tyX11_ok nmX11 hown hK hP hS (Or.inl rfl) rfl 4 (by decide) (hts _ q327) (fun _ h9 => h9) rfl (by decide +kernel) rfl rfl (Nat.le_of_ble_eq_true rfl) dJ4_init_3_20 (fun H locs hP hz9 oq hS => ?_)
      have hP : cP dC dI x (.inr (13, [.int 0, .null, .ref x, .ref t91, .ref t93, .null, .null, .int 0])) H := hP
      have hz := Nat.le_trans hz (Nat.le_of_eq hz9.symm)
      refine lv_iload hx hb dJ4_init_3_23 (lv_at hl 4 rfl) ?_
      refine lv_if_eq (tgt := 36) hx hb dJ4_init_3_25 (by decide) (fun c_25 => ?_) (fun c_25 => absurd (by decide) c_25)
      refine lv_aload_n hx hb dJ4_init_3_36 rfl (lv_at hl 0 rfl) ?_
      refine lv_null hx hb dJ4_init_3_37 ?_
      refine g_put (ci := 13) (v := .null) (ty := .array (.object "java/lang/StackTraceElement")) (C := RX11) (T := TX11) (N := 8) hx hb hts in_X11 tyX11 tyX11_ok nmX11 hown hK hP hS (Or.inl rfl) rfl 3 (by decide) (hts _ q326) (fun _ h9 => h9) rfl (by decide +kernel) rfl rfl (Nat.le_of_ble_eq_true rfl) dJ4_init_3_38 (fun H locs hP hz9 oq hS => ?_)
      have hP : cP dC dI x (.inr (13, [.int 0, .null, .ref x, .null, .ref t93, .null, .null, .int 0])) H := hP
      have hz := Nat.le_trans hz (Nat.le_of_eq hz9.symm)
      refine lv_aload_n hx hb dJ4_init_3_41 rfl (lv_at hl 0 rfl) ?_
      refine lv_aload_nN hx hb dJ4_init_3_42 rfl (lv_at hl 1 rfl) ?_
      refine g_put (ci := 13) (v := .null) (ty := .object "java/lang/String") (C := RX11) (T := TX11) (N := 8) hx hb hts in_X11 tyX11 tyX11_ok nmX11 hown hK hP hS (Or.inl rfl) rfl 5 (by decide) (hts _ q324) (fun _ h9 => h9) rfl (by decide +kernel) rfl rfl (Nat.le_of_ble_eq_true rfl) dJ4_init_3_43 (fun H locs hP hz9 oq hS => ?_)
      have hP : cP dC dI x (.inr (13, [.int 0, .null, .ref x, .null, .ref t93, .null, .null, .int 0])) H := hP
      have hz := Nat.le_trans hz (Nat.le_of_eq hz9.symm)
      refine lv_aload_n hx hb dJ4_init_3_46 rfl (lv_at hl 0 rfl) ?_
      refine lv_aload_nN hx hb dJ4_init_3_47 rfl (lv_at hl 2 rfl) ?_
      refine g_put (ci := 13) (v := .null) (ty := .object "java/lang/Throwable") (C := RX11) (T := TX11) (N := 8) hx hb hts in_X11 tyX11 tyX11_ok nmX11 hown hK hP hS (Or.inl rfl) rfl 2 (by decide) (hts _ q325) (fun _ h9 => h9) rfl (by decide +kernel) rfl rfl (Nat.le_of_ble_eq_true rfl) dJ4_init_3_48 (fun H locs hP hz9 oq hS => ?_)
      have hP : cP dC dI x (.inr (13, [.int 0, .null, .null, .null, .ref t93, .null, .null, .int 0])) H := hP
      have hz := Nat.le_trans hz (Nat.le_of_eq hz9.symm)
      refine lv_iload_n hx hb dJ4_init_3_51 rfl (lv_at hl 3 rfl) ?_
      refine lv_if_ne (tgt := 60) hx hb dJ4_init_3_52 (by decide) (fun c_52 => absurd (by decide) c_52) (fun c_52 => ?_)
      refine lv_aload_n hx hb dJ4_init_3_55 rfl (lv_at hl 0 rfl) ?_
      refine lv_null hx hb dJ4_init_3_56 ?_
      refine g_put (ci := 13) (v := .null) (ty := .object "java/util/List") (C := RX11) (T := TX11) (N := 8) hx hb hts in_X11 tyX11 tyX11_ok nmX11 hown hK hP hS (Or.inl rfl) rfl 4 (by decide) (hts _ q327) (fun _ h9 => h9) rfl (by decide +kernel) rfl rfl (Nat.le_of_ble_eq_true rfl) dJ4_init_3_57 (fun H locs hP hz9 oq hS => ?_)
      have hP : cP dC dI x (.inr (13, [.int 0, .null, .null, .null, .null, .null, .null, .int 0])) H := hP
      have hz := Nat.le_trans hz (Nat.le_of_eq hz9.symm)
      exact hret _ _ _ _ _ _ (⟨rfl, hP⟩) hS (by omega) (by omega) dJ4_init_3_60

set_option maxHeartbeats 4000000 in
theorem c_J5_init_3_X11 (l : Launch) (dC : Nat → ClassId) (dI : Nat → Nat → Nat) (dA : Nat → ClassId) (x : Nat) (sz : Nat) (hs : Nat) (hxz : sz ≤ x) (hsz : sz ≤ hs) : Met l yJ5_init_3 (ws_ yJ5_init_3 cJ5_init_3 5 none) (rmD 2 (0) (0)) (gPx [.ref x, .null, .null, .int (nI 0), .int (nI 0)] (fun U H => cP dC dI x (.inr (13, [.int 0, .null, .null, .null, .null, .null, .null, .int 0])) H ∧ EX sz U H) hs dC dI dA) (gQ hs (fun q => q = x) (fun v H => v = none ∧ cP dC dI x (.inr (13, [.int 0, .null, .null, .null, .null, .null, .null, .int 0])) H)) (0) (0) (gF (fun q => q = x) hs) := by
  refine g_metv (own := RJ5) (by decide) rfl (Nat.le_of_ble_eq_true rfl) fun p e R s m args below meth c Q SF rk hRR hX hK hin hret ls hl => ?_
  have hx := SF.1
  have hb := SF.2.1
  have hml := SF.2.2.1
  have hown := SF.2.2.2.1
  have hts := SF.2.2.2.2
  have hz0 := hX.2
  have hz : hs ≤ s.heap.size := Nat.le_of_eq hX.2.symm
  have hX := hX.1
  have hRc := hRR.1
  have hRs := hRR.2
  have gFs : ∀ q : Nat, s.heap.size ≤ q → gF (fun q => q = x) hs q := fun q h => Or.inr (hz0 ▸ h)
  have hS : va_S (gF (fun q => q = x) hs) s.heap s.heap [] := va_S.rf
  have hl : lv_has ls 5 [(0, .ref x), (1, .null), (2, .null), (3, .int (nI 0)), (4, .int (nI 0))] := hl
  have hP := hX.1
  have hEX := hX.2
  have hAz : ∀ q, gF (fun q => q = x) hs q → sz ≤ q := fun q h => h.elim (fun e => e ▸ hxz) (fun h => Nat.le_trans hsz h)
  refine lv_aload_n hx hb dJ5_init_3_0 rfl (lv_at hl 0 rfl) ?_
  refine lv_aload_nN hx hb dJ5_init_3_1 rfl (lv_at hl 1 rfl) ?_
  refine lv_aload_nN hx hb dJ5_init_3_2 rfl (lv_at hl 2 rfl) ?_
  refine lv_iload_n hx hb dJ5_init_3_3 rfl (lv_at hl 3 rfl) ?_
  refine lv_iload hx hb dJ5_init_3_4 (lv_at hl 4 rfl) ?_
  refine g_run (g_rI (As := [.null, .null, .int (nI 0), .int (nI 0)]) SF hK (d := 1) (rk.le (Nat.le_of_ble_eq_true rfl)) (c_J4_init_3_X11 l dC dI dA x sz s.heap.size (show sz ≤ x by omega) (show sz ≤ s.heap.size by omega)) q118 q772 q773 q774 rfl (n := 4) (by decide +kernel) rfl (by decide) (XOK.hs (XOK.hp.and EX.ok)) (⟨⟨hP, hEX.at hS hAz⟩, rfl⟩) hl.1 (Nat.le_of_ble_eq_true rfl) ⟨(by omega), (by omega)⟩ rfl dJ5_init_3_6) rfl hS (fun _ h => Or.inl h) gFs (fun v9 H locs hP9 hz9 oq hS => ?_)
  obtain ⟨rfl, hP⟩ := hP9
  have hz := Nat.le_trans hz hz9
  refine W.eq (g2 := F0 m 9 ls []) rfl ?_
  exact hret _ _ _ _ _ _ (⟨rfl, hP⟩) hS (by omega) (by omega) dJ5_init_3_9

set_option maxHeartbeats 4000000 in
theorem c_X8_init_X11 (l : Launch) (dC : Nat → ClassId) (dI : Nat → Nat → Nat) (dA : Nat → ClassId) (x : Nat) (sz : Nat) (y : Nat) (hs : Nat) (r : Int32) (hxz : sz ≤ x) (hsz : sz ≤ hs) : Met l yX8_init (ws_ yX8_init cX8_init 3 none) (rmD 3 (0) (0)) (gPx [.ref x, .int r, .ref y] (fun U H => cP dC dI x (.inr (13, [.int 0, .null, .null, .null, .null, .null, .null, .int 0])) H ∧ EX sz U H) hs dC dI dA) (gQ hs (fun q => q = x) (fun v H => v = none ∧ cP dC dI x (.inr (13, [.int r, .ref y, .null, .null, .null, .null, .null, .int 0])) H)) (0) (0) (gF (fun q => q = x) hs) := by
  refine g_metv (own := RX8) (by decide) rfl (Nat.le_of_ble_eq_true rfl) fun p e R s m args below meth c Q SF rk hRR hX hK hin hret ls hl => ?_
  have hx := SF.1
  have hb := SF.2.1
  have hml := SF.2.2.1
  have hown := SF.2.2.2.1
  have hts := SF.2.2.2.2
  have hz0 := hX.2
  have hz : hs ≤ s.heap.size := Nat.le_of_eq hX.2.symm
  have hX := hX.1
  have hRc := hRR.1
  have hRs := hRR.2
  have gFs : ∀ q : Nat, s.heap.size ≤ q → gF (fun q => q = x) hs q := fun q h => Or.inr (hz0 ▸ h)
  have hS : va_S (gF (fun q => q = x) hs) s.heap s.heap [] := va_S.rf
  have hl : lv_has ls 3 [(0, .ref x), (1, .int r), (2, .ref y)] := hl
  have hP := hX.1
  have hEX := hX.2
  have hAz : ∀ q, gF (fun q => q = x) hs q → sz ≤ q := fun q h => h.elim (fun e => e ▸ hxz) (fun h => Nat.le_trans hsz h)
  refine lv_aload_n hx hb dX8_init_0 rfl (lv_at hl 0 rfl) ?_
  refine lv_null hx hb dX8_init_1 ?_
  refine lv_null hx hb dX8_init_2 ?_
  refine lv_iconst (v := nI 0) hx hb dX8_init_3 (by decide) ?_
  refine lv_iconst (v := nI 0) hx hb dX8_init_4 (by decide) ?_
  refine g_run (g_rI (As := [.null, .null, .int (nI 0), .int (nI 0)]) SF hK (d := 2) (rk.le (Nat.le_of_ble_eq_true rfl)) (c_J5_init_3_X11 l dC dI dA x sz s.heap.size (show sz ≤ x by omega) (show sz ≤ s.heap.size by omega)) q119 q1215 q770 q771 rfl (n := 4) (by decide +kernel) rfl (by decide) (XOK.hs (XOK.hp.and EX.ok)) (⟨⟨hP, hEX.at hS hAz⟩, rfl⟩) hl.1 (Nat.le_of_ble_eq_true rfl) ⟨(by omega), (by omega)⟩ rfl dX8_init_5) rfl hS (fun _ h => Or.inl h) gFs (fun v9 H locs hP9 hz9 oq hS => ?_)
  obtain ⟨rfl, hP⟩ := hP9
  have hz := Nat.le_trans hz hz9
  refine W.eq (g2 := F0 m 8 ls []) rfl ?_
  refine lv_aload_n hx hb dX8_init_8 rfl (lv_at hl 0 rfl) ?_
  refine lv_iload_n hx hb dX8_init_9 rfl (lv_at hl 1 rfl) ?_
  refine g_putF (ci := 13) (v := .int r) (ty := .int) (C := RX11) (T := TX11) (N := 8) hx hb hts in_X11 tyX11 tyX11_ok nmX11 hown hK hP hS (Or.inl rfl) rfl 0 (by decide) (hts _ q1216) (fun _ h9 => h9) rfl hin rfl (by decide +kernel) rfl rfl (Nat.le_of_ble_eq_true rfl) dX8_init_10 (fun H locs hP hz9 oq hS => ?_)
  have hP : cP dC dI x (.inr (13, [.int r, .null, .null, .null, .null, .null, .null, .int 0])) H := hP
  have hz := Nat.le_trans hz (Nat.le_of_eq hz9.symm)
  refine lv_aload_n hx hb dX8_init_13 rfl (lv_at hl 0 rfl) ?_
  refine lv_aload_n hx hb dX8_init_14 rfl (lv_at hl 2 rfl) ?_
  refine g_putF (ci := 13) (v := .ref y) (ty := .object "BadCodes$Unsorted") (C := RX11) (T := TX11) (N := 8) hx hb hts in_X11 tyX11 tyX11_ok nmX11 hown hK hP hS (Or.inl rfl) rfl 1 (by decide) (hts _ q1217) (fun _ h9 => h9) rfl hin rfl (by decide +kernel) rfl rfl (Nat.le_of_ble_eq_true rfl) dX8_init_15 (fun H locs hP hz9 oq hS => ?_)
  have hP : cP dC dI x (.inr (13, [.int r, .ref y, .null, .null, .null, .null, .null, .int 0])) H := hP
  have hz := Nat.le_trans hz (Nat.le_of_eq hz9.symm)
  exact hret _ _ _ _ _ _ (⟨rfl, hP⟩) hS (by omega) (by omega) dX8_init_18

set_option maxHeartbeats 4000000 in
theorem c_X11_init (l : Launch) (dC : Nat → ClassId) (dI : Nat → Nat → Nat) (dA : Nat → ClassId) (x : Nat) (sz : Nat) (y : Nat) (hs : Nat) (hxz : sz ≤ x) (hsz : sz ≤ hs) : Met l yX11_init (ws_ yX11_init cX11_init 2 none) (rmD 4 (0) (0)) (gPx [.ref x, .ref y] (fun U H => cP dC dI x (.inr (13, [.int 0, .null, .null, .null, .null, .null, .null, .int 0])) H ∧ EX sz U H) hs dC dI dA) (gQ hs (fun q => q = x) (fun v H => v = none ∧ cP dC dI x (.inr (13, [.int (nI 0), .ref y, .null, .null, .null, .null, .null, .int 0])) H)) (0) (0) (gF (fun q => q = x) hs) := by
  refine g_metv (own := RX11) (by decide) rfl (Nat.le_of_ble_eq_true rfl) fun p e R s m args below meth c Q SF rk hRR hX hK hin hret ls hl => ?_
  have hx := SF.1
  have hb := SF.2.1
  have hml := SF.2.2.1
  have hown := SF.2.2.2.1
  have hts := SF.2.2.2.2
  have hz0 := hX.2
  have hz : hs ≤ s.heap.size := Nat.le_of_eq hX.2.symm
  have hX := hX.1
  have hRc := hRR.1
  have hRs := hRR.2
  have gFs : ∀ q : Nat, s.heap.size ≤ q → gF (fun q => q = x) hs q := fun q h => Or.inr (hz0 ▸ h)
  have hS : va_S (gF (fun q => q = x) hs) s.heap s.heap [] := va_S.rf
  have hl : lv_has ls 2 [(0, .ref x), (1, .ref y)] := hl
  have hP := hX.1
  have hEX := hX.2
  have hAz : ∀ q, gF (fun q => q = x) hs q → sz ≤ q := fun q h => h.elim (fun e => e ▸ hxz) (fun h => Nat.le_trans hsz h)
  refine lv_aload_n hx hb dX11_init_0 rfl (lv_at hl 0 rfl) ?_
  refine lv_iconst (v := nI 0) hx hb dX11_init_1 (by decide) ?_
  refine lv_aload_n hx hb dX11_init_2 rfl (lv_at hl 1 rfl) ?_
  refine g_run (g_rI (As := [.int (nI 0), .ref y]) SF hK (d := 3) (rk.le (Nat.le_of_ble_eq_true rfl)) (c_X8_init_X11 l dC dI dA x sz y s.heap.size (nI 0) (show sz ≤ x by omega) (show sz ≤ s.heap.size by omega)) q145 q1259 q1213 q1214 rfl (n := 2) (by decide +kernel) rfl (by decide) (XOK.hs (XOK.hp.and EX.ok)) (⟨⟨hP, hEX.at hS hAz⟩, rfl⟩) hl.1 (Nat.le_of_ble_eq_true rfl) ⟨(by omega), (by omega)⟩ rfl dX11_init_3) rfl hS (fun _ h => Or.inl h) gFs (fun v9 H locs hP9 hz9 oq hS => ?_)
  obtain ⟨rfl, hP⟩ := hP9
  have hz := Nat.le_trans hz hz9
  refine W.eq (g2 := F0 m 6 ls []) rfl ?_
  exact hret _ _ _ _ _ _ (⟨rfl, hP⟩) hS (by omega) (by omega) dX11_init_6
end EX1
