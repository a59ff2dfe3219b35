set_option maxRecDepth 100000
section ST1
variable {p : Program} {l : Launch} {e : Env} {R : Room} {s : State} {m : MethodId} {args : Array Value} {below : List Frame} {meth : Method} {c : Code} {H : Heap} {locs : List Loc} {Q : State → Prop}
variable {cc : ByteArray} {pc nL : Nat} {ls : Array Slot} {rest : List Value} {dC : Nat → ClassId} {dI : Nat → Nat → Nat} {dA : Nat → ClassId} {a : Nat → Nat} {M : Nat → Nat → Int32} {H0 : Heap}

theorem vaT_ok {ty : FieldType} {t N : Nat} {f : Nat → Value} : XOK (va_T ty t N f noF) := XOK.of fun _ _ _ h q => va_T.moved h q
theorem nr_char {b : Nat} (h : b < 256) : narrow .char (.int (nI b)) = .int (nI b) := by
  have k : ∀ b, b < 256 → narrow .char (.int (nI b)) = .int (nI b) := by decide +kernel
  exact k b h
theorem and255 {b : Nat} (h : b < 256) : nI b &&& nI 255 = nI b := by
  have k : ∀ b, b < 256 → nI b &&& nI 255 = nI b := by decide +kernel
  exact k b h
theorem i2c_b {b : Nat} (h : b < 256) : ((nI b).toUInt32 % 65536).toInt32 = nI b := by
  have k : ∀ b, b < 256 → ((nI b).toUInt32 % 65536).toInt32 = nI b := by decide +kernel
  exact k b h
theorem shr_0 (x : Int32) : x >>> (nI 0 &&& 31) = x := by
  have e : nI 0 &&& 31 = 0 := by decide
  rw [e]
  simp
theorem SV.recv {q v n : Nat} {f : Nat → Int32} {U : State} {H : Heap} (h : SV q v n f U H) : ∃ cell : Cell, H[q]? = some cell ∧ cell.vm.isStatics = false ∧ U.vm.findClass "java/lang/String" = some cell.cls := by
  obtain ⟨cell, h1, h2, h3, -⟩ := h.1
  exact ⟨cell, h1, h2, h3⟩
set_option maxHeartbeats 4000000 in
theorem c_J9_coder (l : Launch) (dC : Nat → ClassId) (dI : Nat → Nat → Nat) (dA : Nat → ClassId) (q : Nat) (v : Nat) (n : Nat) (g : Nat → Nat)  : Met l yJ9_coder (ws_ yJ9_coder cJ9_coder 1 (some .byte)) (rmD 0 0 0) (uPx [.ref q] (fun U H => SV q v n (fun j => nI (g j)) U H ∧ CS U H) dC dI dA) (uQi (nI (0))) 0 0 noF := by
  refine x_metn (ty := .byte) (own := RJ9) (by decide) rfl (Nat.le_of_ble_eq_true rfl) (by decide) fun p e R s m args below meth c Q SF rk hX hK hret ls hl => ?_
  have hx := SF.1
  have hb := SF.2.1
  have hml := SF.2.2.1
  have hown := SF.2.2.2.1
  have hts := SF.2.2.2.2
  have hl : lv_has ls 1 [(0, .ref q)] := hl
  have hV := hX.1
  have hC := hX.2
  have hT := hV.2.2.2
  refine va_gets hx hb hC.1 va_S.rf hown (hts _ q683) (fun _ h9 => h9) dJ9_coder_0 ?_
  refine u_top (y := nI 1) rfl ?_
  refine lv_if_eq (tgt := 13) hx hb dJ9_coder_3 (by decide) (fun c_3 => absurd c_3 (by decide)) (fun c_3 => ?_)
  refine lv_aload_n hx hb dJ9_coder_6 rfl (lv_at hl 0 rfl) ?_
  refine vk_getf hx hb (hV.2.1) va_S.rf hown (hts _ q720) (fun _ h9 => h9) dJ9_coder_7 ?_
  refine u_top (y := nI 0) rfl ?_
  refine lv_goto (tgt := 14) hx hb dJ9_coder_10 (by decide) ?_
  exact hret _ _ _ rfl dJ9_coder_14

set_option maxHeartbeats 4000000 in
theorem c_J9_isLatin1 (l : Launch) (dC : Nat → ClassId) (dI : Nat → Nat → Nat) (dA : Nat → ClassId) (q : Nat) (v : Nat) (n : Nat) (g : Nat → Nat)  : Met l yJ9_isLatin1 (ws_ yJ9_isLatin1 cJ9_isLatin1 1 (some .boolean)) (rmD 0 0 0) (uPx [.ref q] (fun U H => SV q v n (fun j => nI (g j)) U H ∧ CS U H) dC dI dA) (uQi (nI (true).toNat)) 0 0 noF := by
  refine x_metz (own := RJ9) (by decide) rfl (Nat.le_of_ble_eq_true rfl) fun p e R s m args below meth c Q SF rk hX hK hret ls hl => ?_
  have hx := SF.1
  have hb := SF.2.1
  have hml := SF.2.2.1
  have hown := SF.2.2.2.1
  have hts := SF.2.2.2.2
  have hl : lv_has ls 1 [(0, .ref q)] := hl
  have hV := hX.1
  have hC := hX.2
  have hT := hV.2.2.2
  refine va_gets hx hb hC.1 va_S.rf hown (hts _ q683) (fun _ h9 => h9) dJ9_isLatin1_0 ?_
  refine u_top (y := nI 1) rfl ?_
  refine lv_if_eq (tgt := 17) hx hb dJ9_isLatin1_3 (by decide) (fun c_3 => absurd c_3 (by decide)) (fun c_3 => ?_)
  refine lv_aload_n hx hb dJ9_isLatin1_6 rfl (lv_at hl 0 rfl) ?_
  refine vk_getf hx hb (hV.2.1) va_S.rf hown (hts _ q720) (fun _ h9 => h9) dJ9_isLatin1_7 ?_
  refine u_top (y := nI 0) rfl ?_
  refine lv_if_ne (tgt := 17) hx hb dJ9_isLatin1_10 (by decide) (fun c_10 => absurd (by decide) c_10) (fun c_10 => ?_)
  refine lv_iconst (v := nI 1) hx hb dJ9_isLatin1_13 (by decide) ?_
  refine lv_goto (tgt := 18) hx hb dJ9_isLatin1_14 (by decide) ?_
  exact hret _ _ _ rfl dJ9_isLatin1_18

set_option maxHeartbeats 4000000 in
theorem c_J9_length (l : Launch) (dC : Nat → ClassId) (dI : Nat → Nat → Nat) (dA : Nat → ClassId) (q : Nat) (v : Nat) (n : Nat) (g : Nat → Nat)  : Met l yJ9_length (ws_ yJ9_length cJ9_length 1 (some .int)) (rmD 1 0 0) (uPx [.ref q] (fun U H => SV q v n (fun j => nI (g j)) U H ∧ CS U H) dC dI dA) (uQi (nI (n))) 0 0 noF := by
  refine x_meti (own := RJ9) (by decide) rfl (Nat.le_of_ble_eq_true rfl) fun p e R s m args below meth c Q SF rk hX hK hret ls hl => ?_
  have hx := SF.1
  have hb := SF.2.1
  have hml := SF.2.2.1
  have hown := SF.2.2.2.1
  have hts := SF.2.2.2.2
  have hl : lv_has ls 1 [(0, .ref q)] := hl
  have hV := hX.1
  have hC := hX.2
  have hT := hV.2.2.2
  refine lv_aload_n hx hb dJ9_length_0 rfl (lv_at hl 0 rfl) ?_
  refine vk_getf hx hb (hV.2.2.1) va_S.rf hown (hts _ q719) (fun _ h9 => h9) dJ9_length_1 ?_
  refine va_tlen hx hb hT va_S.rf (v := nI n) rfl dJ9_length_4 ?_
  refine lv_aload_n hx hb dJ9_length_5 rfl (lv_at hl 0 rfl) ?_
  refine u_run (x_rV (C := RJ9) (As := []) SF hK (d := 0) (rk.le (Nat.le_of_ble_eq_true rfl)) (c_J9_coder l dC dI dA q v n g ) (lw_V q679 q680 q681 q123 q682) (n := 0) (by decide +kernel) rfl (by decide) (hV.recv) (SV.ok.and CS.ok) (hX) hl.1 (Nat.le_of_ble_eq_true rfl) ⟨Nat.zero_le _, Nat.zero_le _⟩ rfl dJ9_length_6) ?_
  refine lv_ishr hx hb dJ9_length_9 ?_
  refine u_top (y := nI n) (shr_0 _) ?_
  exact hret _ _ _ rfl dJ9_length_10

set_option maxHeartbeats 4000000 in
theorem c_J3_checkIndexN (l : Launch) (dC : Nat → ClassId) (dI : Nat → Nat → Nat) (dA : Nat → ClassId) (i : Nat) (n : Nat) (hi : i < n) (hn : n < 2 ^ 31) : Met l yJ3_checkIndex (ws_ yJ3_checkIndex cJ3_checkIndex 3 (some .int)) (rmD 0 0 0) (uPx [.int (nI i), .int (nI n), .null] (fun _ _ => True) dC dI dA) (uQi (nI (i))) 0 0 noF := by
  refine x_meti (own := RJ3) (by decide) rfl (Nat.le_of_ble_eq_true rfl) fun p e R s m args below meth c Q SF rk hX hK hret ls hl => ?_
  have hx := SF.1
  have hb := SF.2.1
  have hml := SF.2.2.1
  have hown := SF.2.2.2.1
  have hts := SF.2.2.2.2
  have hl : lv_has ls 3 [(0, .int (nI i)), (1, .int (nI n)), (2, .null)] := hl
  refine lv_iload_n hx hb dJ3_checkIndex_0 rfl (lv_at hl 0 rfl) ?_
  refine lv_if_lt (tgt := 9) hx hb dJ3_checkIndex_1 (by decide) (fun c_1 => ?_) (fun c_1 => ?_)
  · have c_1 : i < 0 := (nI_ltI (a := i) (b := 0) (by omega) (by omega)).mp c_1
    omega
  · have c_1 : ¬ (i < 0) := fun q9 => c_1 ((nI_ltI (a := i) (b := 0) (by omega) (by omega)).mpr q9)
    refine lv_iload_n hx hb dJ3_checkIndex_4 rfl (lv_at hl 0 rfl) ?_
    refine lv_iload_n hx hb dJ3_checkIndex_5 rfl (lv_at hl 1 rfl) ?_
    refine lv_icmp_lt (tgt := 16) hx hb dJ3_checkIndex_6 (by decide) (fun c_6 => ?_) (fun c_6 => ?_)
    · have c_6 : i < n := (nI_ltI (a := i) (b := n) (by omega) (by omega)).mp c_6
      refine lv_iload_n hx hb dJ3_checkIndex_16 rfl (lv_at hl 0 rfl) ?_
      exact hret _ _ _ rfl dJ3_checkIndex_17
    · have c_6 : ¬ (i < n) := fun q9 => c_6 ((nI_ltI (a := i) (b := n) (by omega) (by omega)).mpr q9)
      omega

set_option maxHeartbeats 4000000 in
theorem c_J3_checkIndexR (l : Launch) (dC : Nat → ClassId) (dI : Nat → Nat → Nat) (dA : Nat → ClassId) (i : Nat) (n : Nat) (t : Nat) (hi : i < n) (hn : n < 2 ^ 31) : Met l yJ3_checkIndex (ws_ yJ3_checkIndex cJ3_checkIndex 3 (some .int)) (rmD 0 0 0) (uPx [.int (nI i), .int (nI n), .ref t] (fun _ _ => True) dC dI dA) (uQi (nI (i))) 0 0 noF := by
  refine x_meti (own := RJ3) (by decide) rfl (Nat.le_of_ble_eq_true rfl) fun p e R s m args below meth c Q SF rk hX hK hret ls hl => ?_
  have hx := SF.1
  have hb := SF.2.1
  have hml := SF.2.2.1
  have hown := SF.2.2.2.1
  have hts := SF.2.2.2.2
  have hl : lv_has ls 3 [(0, .int (nI i)), (1, .int (nI n)), (2, .ref t)] := hl
  refine lv_iload_n hx hb dJ3_checkIndex_0 rfl (lv_at hl 0 rfl) ?_
  refine lv_if_lt (tgt := 9) hx hb dJ3_checkIndex_1 (by decide) (fun c_1 => ?_) (fun c_1 => ?_)
  · have c_1 : i < 0 := (nI_ltI (a := i) (b := 0) (by omega) (by omega)).mp c_1
    omega
  · have c_1 : ¬ (i < 0) := fun q9 => c_1 ((nI_ltI (a := i) (b := 0) (by omega) (by omega)).mpr q9)
    refine lv_iload_n hx hb dJ3_checkIndex_4 rfl (lv_at hl 0 rfl) ?_
    refine lv_iload_n hx hb dJ3_checkIndex_5 rfl (lv_at hl 1 rfl) ?_
    refine lv_icmp_lt (tgt := 16) hx hb dJ3_checkIndex_6 (by decide) (fun c_6 => ?_) (fun c_6 => ?_)
    · have c_6 : i < n := (nI_ltI (a := i) (b := n) (by omega) (by omega)).mp c_6
      refine lv_iload_n hx hb dJ3_checkIndex_16 rfl (lv_at hl 0 rfl) ?_
      exact hret _ _ _ rfl dJ3_checkIndex_17
    · have c_6 : ¬ (i < n) := fun q9 => c_6 ((nI_ltI (a := i) (b := n) (by omega) (by omega)).mpr q9)
      omega

set_option maxHeartbeats 4000000 in
theorem c_J9_checkIndex (l : Launch) (dC : Nat → ClassId) (dI : Nat → Nat → Nat) (dA : Nat → ClassId) (i : Nat) (n : Nat) (hi : i < n) (hn : n < 2 ^ 31) : Met l yJ9_checkIndex (ws_ yJ9_checkIndex cJ9_checkIndex 2 none) (rmD 1 0 0) (uPx [.int (nI i), .int (nI n)] (CS) dC dI dA) uQv 0 0 noF := by
  refine x_metv (own := RJ9) (by decide) rfl (Nat.le_of_ble_eq_true rfl) fun p e R s m args below meth c Q SF rk hX hK hret ls hl => ?_
  have hx := SF.1
  have hb := SF.2.1
  have hml := SF.2.2.1
  have hown := SF.2.2.2.1
  have hts := SF.2.2.2.2
  have hl : lv_has ls 2 [(0, .int (nI i)), (1, .int (nI n))] := hl
  have hC := hX
  refine lv_iload_n hx hb dJ9_checkIndex_0 rfl (lv_at hl 0 rfl) ?_
  refine lv_iload_n hx hb dJ9_checkIndex_1 rfl (lv_at hl 1 rfl) ?_
  rcases hC.2 with hF | ⟨t9, hF⟩
  · refine va_gets hx hb hF va_S.rf hown (hts _ q554) (fun _ h9 => h9) dJ9_checkIndex_2 ?_
    refine u_run (x_rS (As := [.int (nI i), .int (nI n), .null]) SF hK (d := 0) (rk.le (Nat.le_of_ble_eq_true rfl)) (c_J3_checkIndexN l dC dI dA i n hi hn) (lw_S q577 q205 q116 q206) (n := 3) (by decide +kernel) rfl (by decide) (XOK.hp) (trivial) hl.1 (Nat.le_of_ble_eq_true rfl) ⟨Nat.zero_le _, Nat.zero_le _⟩ rfl dJ9_checkIndex_5) ?_
    refine lv_pop hx hb dJ9_checkIndex_8 rfl ?_
    exact hret _ _ dJ9_checkIndex_9
  · refine va_gets hx hb hF va_S.rf hown (hts _ q554) (fun _ h9 => h9) dJ9_checkIndex_2 ?_
    refine u_run (x_rS (As := [.int (nI i), .int (nI n), .ref t9]) SF hK (d := 0) (rk.le (Nat.le_of_ble_eq_true rfl)) (c_J3_checkIndexR l dC dI dA i n t9 hi hn) (lw_S q577 q205 q116 q206) (n := 3) (by decide +kernel) rfl (by decide) (XOK.hp) (trivial) hl.1 (Nat.le_of_ble_eq_true rfl) ⟨Nat.zero_le _, Nat.zero_le _⟩ rfl dJ9_checkIndex_5) ?_
    refine lv_pop hx hb dJ9_checkIndex_8 rfl ?_
    exact hret _ _ dJ9_checkIndex_9

set_option maxHeartbeats 4000000 in
theorem c_J16_charAt (l : Launch) (dC : Nat → ClassId) (dI : Nat → Nat → Nat) (dA : Nat → ClassId) (v : Nat) (n : Nat) (g : Nat → Nat) (i : Nat) (hi : i < n) (hn : n < 2 ^ 31) (hg : ∀ j, j < n → g j < 256) : Met l yJ16_charAt (ws_ yJ16_charAt cJ16_charAt 2 (some .char)) (rmD 2 0 0) (uPx [.ref v, .int (nI i)] (fun U H => va_T .byte v n (fun j => .int (nI (g j))) noF U H ∧ CS U H) dC dI dA) (uQi (nI (g i))) 0 0 noF := by
  refine x_metn (ty := .char) (own := RJ16) (by decide) rfl (Nat.le_of_ble_eq_true rfl) (nr_char (hg i hi)) fun p e R s m args below meth c Q SF rk hX hK hret ls hl => ?_
  have hx := SF.1
  have hb := SF.2.1
  have hml := SF.2.2.1
  have hown := SF.2.2.2.1
  have hts := SF.2.2.2.2
  have hl : lv_has ls 2 [(0, .ref v), (1, .int (nI i))] := hl
  have hT := hX.1
  have hC := hX.2
  have hg9 := hg i hi
  refine lv_iload_n hx hb dJ16_charAt_0 rfl (lv_at hl 1 rfl) ?_
  refine lv_aload_n hx hb dJ16_charAt_1 rfl (lv_at hl 0 rfl) ?_
  refine va_tlen hx hb hT va_S.rf (v := nI n) rfl dJ16_charAt_2 ?_
  refine x_runv (x_rS (As := [.int (nI i), .int (nI n)]) SF hK (d := 1) (rk.le (Nat.le_of_ble_eq_true rfl)) (c_J9_checkIndex l dC dI dA i n hi hn) (lw_S q1781 q575 q123 q576) (n := 2) (by decide +kernel) rfl (by decide) (CS.ok) (hC) hl.1 (Nat.le_of_ble_eq_true rfl) ⟨Nat.zero_le _, Nat.zero_le _⟩ rfl dJ16_charAt_3) ?_
  refine lv_aload_n hx hb dJ16_charAt_6 rfl (lv_at hl 0 rfl) ?_
  refine lv_iload_n hx hb dJ16_charAt_7 rfl (lv_at hl 1 rfl) ?_
  refine va_tb hx hb hT va_S.rf (vp_in_nI (by omega) (by omega)) (v := .int (nI (g i))) (by rw [nI_clamp (by omega)]) dJ16_charAt_8 ?_
  refine lv_sipush (v := nI 255) hx hb dJ16_charAt_9 (by decide) ?_
  refine lv_iand hx hb dJ16_charAt_12 ?_
  refine u_top (y := nI (g i)) (and255 hg9) ?_
  refine lv_i2c hx hb dJ16_charAt_13 rfl ?_
  refine u_top (y := nI (g i)) (i2c_b hg9) ?_
  exact hret _ _ _ rfl dJ16_charAt_14

set_option maxHeartbeats 4000000 in
theorem c_J9_charAt (l : Launch) (dC : Nat → ClassId) (dI : Nat → Nat → Nat) (dA : Nat → ClassId) (q : Nat) (v : Nat) (n : Nat) (g : Nat → Nat) (i : Nat) (hi : i < n) (hn : n < 2 ^ 31) (hg : ∀ j, j < n → g j < 256) : Met l yJ9_charAt (ws_ yJ9_charAt cJ9_charAt 2 (some .char)) (rmD 3 0 0) (uPx [.ref q, .int (nI i)] (fun U H => SV q v n (fun j => nI (g j)) U H ∧ CS U H) dC dI dA) (uQi (nI (g i))) 0 0 noF := by
  refine x_metn (ty := .char) (own := RJ9) (by decide) rfl (Nat.le_of_ble_eq_true rfl) (nr_char (hg i hi)) fun p e R s m args below meth c Q SF rk hX hK hret ls hl => ?_
  have hx := SF.1
  have hb := SF.2.1
  have hml := SF.2.2.1
  have hown := SF.2.2.2.1
  have hts := SF.2.2.2.2
  have hl : lv_has ls 2 [(0, .ref q), (1, .int (nI i))] := hl
  have hV := hX.1
  have hC := hX.2
  have hT := hV.2.2.2
  refine lv_aload_n hx hb dJ9_charAt_0 rfl (lv_at hl 0 rfl) ?_
  refine u_run (x_rV (C := RJ9) (As := []) SF hK (d := 0) (rk.le (Nat.le_of_ble_eq_true rfl)) (c_J9_isLatin1 l dC dI dA q v n g ) (lw_V q884 q885 q886 q123 q887) (n := 0) (by decide +kernel) rfl (by decide) (hV.recv) (SV.ok.and CS.ok) (hX) hl.1 (Nat.le_of_ble_eq_true rfl) ⟨Nat.zero_le _, Nat.zero_le _⟩ rfl dJ9_charAt_1) ?_
  refine u_top (y := nI true.toNat) rfl ?_
  refine lv_if_eq (tgt := 16) hx hb dJ9_charAt_4 (by decide) (fun c_4 => ?_) (fun c_4 => ?_)
  · have c_4 : true = false := u_zb.mp c_4
    cases c_4
  · have c_4 : ¬ (true = false) := fun q9 => c_4 (u_zb.mpr q9)
    refine lv_aload_n hx hb dJ9_charAt_7 rfl (lv_at hl 0 rfl) ?_
    refine vk_getf hx hb (hV.2.2.1) va_S.rf hown (hts _ q719) (fun _ h9 => h9) dJ9_charAt_8 ?_
    refine lv_iload_n hx hb dJ9_charAt_11 rfl (lv_at hl 1 rfl) ?_
    refine u_run (x_rS (As := [.ref v, .int (nI i)]) SF hK (d := 2) (rk.le (Nat.le_of_ble_eq_true rfl)) (c_J16_charAt l dC dI dA v n g i hi hn hg) (lw_S q1778 q1779 q134 q1780) (n := 2) (by decide +kernel) rfl (by decide) (vaT_ok.and CS.ok) (⟨hT, hC⟩) hl.1 (Nat.le_of_ble_eq_true rfl) ⟨Nat.zero_le _, Nat.zero_le _⟩ rfl dJ9_charAt_12) ?_
    exact hret _ _ _ rfl dJ9_charAt_15
end ST1
