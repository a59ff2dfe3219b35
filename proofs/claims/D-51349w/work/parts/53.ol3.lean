set_option maxRecDepth 100000
section OL3
variable {p : Program} {l : Launch} {e : Env} {R : Room} {s : State} {m : MethodId} {args : Array Value} {below : List Frame} {meth : Method} {c : Code} {H : Heap} {locs : List Loc} {Q : State → Prop}
variable {cc : ByteArray} {pc nL : Nat} {ls : Array Slot} {rest : List Value} {dC : Nat → ClassId} {dI : Nat → Nat → Nat} {dA : Nat → ClassId} {a : Nat → Nat} {M : Nat → Nat → Int32} {H0 : Heap}

theorem fndN_ne {p : Nat → Bool} {n : Nat} (h : 0 < cntN p n) : ∃ t, fndN p n = some t := by
  cases hE : fndN p n with
  | some t => exact ⟨t, rfl⟩
  | none =>
    exfalso
    unfold fndN at hE
    rw [List.find?_eq_none] at hE
    have : cntN p n = 0 := cntN_0.mpr (fun j hj => by
      have := hE j (List.mem_range.mpr hj)
      simpa using this)
    omega
theorem dcd_bad {S Hd : Nat → Int32} {o : Nat} (h : 3 < unr S o) : dcd S Hd o = none := by
  rw [dcd, byS, if_pos (Or.inl h)]
  show byB S Hd o = none
  rw [byB, if_pos (Or.inl h)]
theorem dcd_0 {S Hd : Nat → Int32} {o : Nat} (h : bst S Hd o = 0) : dcd S Hd o = none := by
  rw [dcd, byS, if_pos (Or.inr (by omega))]
  show byB S Hd o = none
  unfold byB
  split
  · rfl
  · split
    · rfl
    · rename_i x _
      have h2 : cntN (bbP S Hd o x) (tn Hd) ≤ cntN (isB S Hd o) (tn Hd) := cntN_sub (fun i _ hi => by
        rw [bbP, Bool.and_eq_true] at hi; exact hi.1)
      have h3 : cntN (isB S Hd o) (tn Hd) = 0 := h
      rw [unq, if_neg (by omega)]
theorem dcd_1 {S Hd : Nat → Int32} {o : Nat} (hu : ¬ 3 < unr S o) (h : bst S Hd o = 1) : dcd S Hd o = byS S Hd o := by
  have h3 : cntN (isB S Hd o) (tn Hd) = 1 := h
  obtain ⟨t, ht⟩ := fndN_ne (p := isB S Hd o) (n := tn Hd) (by omega)
  rw [dcd, byS, if_neg (fun q => q.elim hu (fun q => q h)), ht]
theorem dcd_2 {S Hd : Nat → Int32} {o : Nat} (h : ¬ bst S Hd o = 1) : dcd S Hd o = byB S Hd o := by
  rw [dcd, byS, if_pos (Or.inr h)]
theorem nrT_bst {S Hd : Nat → Int32} {o : Nat} (h : bst S Hd o = 0) : nrT S Hd o = 0 := by
  refine cntN_0.mpr (fun j hj => ?_)
  rw [decide_eq_false_iff_not]
  intro hf
  have h0 : ∀ i, i < tn Hd → isB S Hd o i = false := cntN_0.mp h
  have hl : lst S Hd o ≤ farT S Hd o j := minN_lef _ _ _ j hj
  rcases minN_hit (farT S Hd o) 10 (tn Hd) with h1 | ⟨i, hi, h1⟩
  · have h2 : lst S Hd o = 10 := h1
    have h3 := farT_le S Hd o j
    have := h0 j hj
    rw [(isB_iff (t := j)).mpr ⟨hf, by omega⟩] at this
    cases this
  · have h2 : farT S Hd o i = lst S Hd o := h1
    have := h0 i hi
    rw [(isB_iff (t := i)).mpr ⟨by omega, h2⟩] at this
    cases this
theorem nrT_pos {S Hd : Nat → Int32} {o : Nat} (h : 0 < bst S Hd o) : 0 < nrT S Hd o := by
  have : bst S Hd o ≤ nrT S Hd o := cntN_sub (fun i _ hi => by
    rw [isB_iff] at hi
    exact decide_eq_true hi.1)
  omega
theorem why_b {S Hd : Nat → Int32} {o : Nat} (h : 3 < unr S o) : why S Hd o = 1 := by rw [why_none (dcd_bad h), if_pos h]
theorem why_z {S Hd : Nat → Int32} {o : Nat} (hu : ¬ 3 < unr S o) (h : bst S Hd o = 0) : why S Hd o = 2 := by rw [why_none (dcd_0 h), if_neg hu, if_pos (nrT_bst h)]
theorem why_s {S Hd : Nat → Int32} {o : Nat} (hu : ¬ 3 < unr S o) (h : 0 < bst S Hd o) (hE : dcd S Hd o = none) : why S Hd o = 3 := by
  have := nrT_pos h
  rw [why_none hE, if_neg hu, if_neg (by omega)]
def twF (Hd : Nat → Int32) (v : Nat) : Option Nat := fndN (fun t => decide (num Hd t = v)) (tn Hd)
set_option maxHeartbeats 4000000 in
theorem c_X5_decided (l : Launch) (dC : Nat → ClassId) (dI : Nat → Nat → Nat) (dA : Nat → ClassId) (b : Nat → Nat) (mc : Nat → Int32) (S : Nat → Int32) (Hd : Nat → Int32) (o : Nat) (hlt : o < ln S) (hS1 : SWf S) (hT : TWf Hd) : Met l yX5_decided (ws_ yX5_decided cX5_decided 2 (some (.int))) (rmD 10 0 0) (uPx [.ref (b 0), .int (nI o)] (fun U H => famP dC dI b (offE b dA mc S Hd) H ∧ CE U) dC dI dA) (uQi (oI (dcd S Hd o))) 0 0 noF := by
  refine x_meti (own := RX5) (by decide) rfl (Nat.le_of_ble_eq_true rfl) fun p e R s m args below meth c Q SF rk hX hK hret ls hl => ?_
  have hx := SF.1
  have hb := SF.2.1
  have hml := SF.2.2.1
  have hown := SF.2.2.2.1
  have hts := SF.2.2.2.2
  have hO := hX.1
  have hCE := hX.2
  have hl : lv_has ls 2 [(0, .ref (b 0)), (1, .int (nI o))] := hl
  have hL := hS1.2.1
  have hn9 := hT.2.1
  have hu9 : unr S o ≤ 5 := cntN_le _ _
  have hb9 : bst S Hd o ≤ tn Hd := cntN_le _ _
  refine lv_aload_n hx hb dX5_decided_0 rfl (lv_at hl 0 rfl) ?_
  refine lv_iload_n hx hb dX5_decided_1 rfl (lv_at hl 1 rfl) ?_
  refine u_run (x_rV (C := RX5) (As := [.int (nI o)]) SF hK (d := 4) (rk.le (Nat.le_of_ble_eq_true rfl)) (c_X5_isTooBad l dC dI dA b mc S Hd o (show o < ln S by omega) hS1) (lw_V q1138 q1139 q1140 q139 q1141) (n := 1) (by decide +kernel) rfl (by decide) (g_recv hK (hO 0 _ rfl) (ci := 1) rfl) (XOK.hp.and CE.ok) (⟨hO, hCE⟩) hl.1 (Nat.le_of_ble_eq_true rfl) ⟨Nat.zero_le _, Nat.zero_le _⟩ rfl dX5_decided_2) ?_
  refine u_top (y := nI ((decide (3 < unr S o)).toNat)) rfl ?_
  refine lv_if_ne (tgt := 16) hx hb dX5_decided_5 (by decide) (fun c_5 => ?_) (fun c_5 => ?_)
  · have c_5 : ¬ ((decide (3 < unr S o)) = false) := fun q9 => c_5 (u_zb.mpr q9)
    skip
    refine lv_iconst (v := (-1)) hx hb dX5_decided_16 (by decide) ?_
    exact hret _ _ _ (by first | (rw [dcd_0 c_13]; rfl) | (rw [dcd_bad (by simpa using c_5)]; rfl)) dX5_decided_17
  · have c_5 : (decide (3 < unr S o)) = false := u_zb.mp c_5
    have hub : ¬ 3 < unr S o := by simpa using c_5
    refine lv_aload_n hx hb dX5_decided_8 rfl (lv_at hl 0 rfl) ?_
    refine lv_iload_n hx hb dX5_decided_9 rfl (lv_at hl 1 rfl) ?_
    refine u_run (x_rV (C := RX5) (As := [.int (nI o)]) SF hK (d := 6) (rk.le (Nat.le_of_ble_eq_true rfl)) (c_X5_bestMany l dC dI dA b mc S Hd o (show o < ln S by omega) hS1 hT) (lw_V q1149 q1150 q1151 q139 q1152) (n := 1) (by decide +kernel) rfl (by decide) (g_recv hK (hO 0 _ rfl) (ci := 1) rfl) (XOK.hp.and CE.ok) (⟨hO, hCE⟩) hl.1 (Nat.le_of_ble_eq_true rfl) ⟨Nat.zero_le _, Nat.zero_le _⟩ rfl dX5_decided_10) ?_
    refine u_top (y := nI (bst S Hd o)) rfl ?_
    refine lv_if_ne (tgt := 18) hx hb dX5_decided_13 (by decide) (fun c_13 => ?_) (fun c_13 => ?_)
    · have c_13 : ¬ (bst S Hd o = 0) := fun q9 => c_13 ((nI_eq (a := bst S Hd o) (b := 0) (by omega) (by omega)).mpr q9)
      refine lv_aload_n hx hb dX5_decided_18 rfl (lv_at hl 0 rfl) ?_
      refine lv_iload_n hx hb dX5_decided_19 rfl (lv_at hl 1 rfl) ?_
      refine u_run (x_rV (C := RX5) (As := [.int (nI o)]) SF hK (d := 6) (rk.le (Nat.le_of_ble_eq_true rfl)) (c_X5_bestMany l dC dI dA b mc S Hd o (show o < ln S by omega) hS1 hT) (lw_V q1149 q1150 q1151 q139 q1152) (n := 1) (by decide +kernel) rfl (by decide) (g_recv hK (hO 0 _ rfl) (ci := 1) rfl) (XOK.hp.and CE.ok) (⟨hO, hCE⟩) hl.1 (Nat.le_of_ble_eq_true rfl) ⟨Nat.zero_le _, Nat.zero_le _⟩ rfl dX5_decided_20) ?_
      refine u_top (y := nI (bst S Hd o)) rfl ?_
      refine lv_iconst (v := nI 1) hx hb dX5_decided_23 (by decide) ?_
      refine lv_icmp_ne (tgt := 35) hx hb dX5_decided_24 (by decide) (fun c_24 => ?_) (fun c_24 => ?_)
      · have c_24 : ¬ (bst S Hd o = 1) := fun q9 => c_24 ((nI_eq (a := bst S Hd o) (b := 1) (by omega) (by omega)).mpr q9)
        refine lv_aload_n hx hb dX5_decided_35 rfl (lv_at hl 0 rfl) ?_
        refine lv_iload_n hx hb dX5_decided_36 rfl (lv_at hl 1 rfl) ?_
        refine u_run (x_rV (C := RX5) (As := [.int (nI o)]) SF hK (d := 9) (rk.le (Nat.le_of_ble_eq_true rfl)) (c_X5_byBundle l dC dI dA b mc S Hd o hlt hS1 hT (by simpa using c_5) (by omega)) (lw_V q1188 q1190 qs21 q139 q1191) (n := 1) (by decide +kernel) rfl (by decide) (g_recv hK (hO 0 _ rfl) (ci := 1) rfl) (XOK.hp.and CE.ok) (⟨hO, hCE⟩) hl.1 (Nat.le_of_ble_eq_true rfl) ⟨Nat.zero_le _, Nat.zero_le _⟩ rfl dX5_decided_37) ?_
        refine u_top (y := oI (byB S Hd o)) rfl ?_
        exact hret _ _ _ (by rw [dcd_2 c_24]) dX5_decided_40
      · have c_24 : bst S Hd o = 1 := (nI_eq (a := bst S Hd o) (b := 1) (by omega) (by omega)).mp c_24
        refine lv_aload_n hx hb dX5_decided_27 rfl (lv_at hl 0 rfl) ?_
        refine lv_iload_n hx hb dX5_decided_28 rfl (lv_at hl 1 rfl) ?_
        refine u_run (x_rV (C := RX5) (As := [.int (nI o)]) SF hK (d := 7) (rk.le (Nat.le_of_ble_eq_true rfl)) (c_X5_byItself l dC dI dA b mc S Hd o (show o < ln S by omega) hS1 hT) (lw_V q1184 q1185 q1186 q139 q1187) (n := 1) (by decide +kernel) rfl (by decide) (g_recv hK (hO 0 _ rfl) (ci := 1) rfl) (XOK.hp.and CE.ok) (⟨hO, hCE⟩) hl.1 (Nat.le_of_ble_eq_true rfl) ⟨Nat.zero_le _, Nat.zero_le _⟩ rfl dX5_decided_29) ?_
        refine u_top (y := oI (byS S Hd o)) rfl ?_
        refine lv_goto (tgt := 40) hx hb dX5_decided_32 (by decide) ?_
        exact hret _ _ _ (by rw [dcd_1 (by simpa using c_5) c_24]) dX5_decided_40
    · have c_13 : bst S Hd o = 0 := (nI_eq (a := bst S Hd o) (b := 0) (by omega) (by omega)).mp c_13
      skip
      refine lv_iconst (v := (-1)) hx hb dX5_decided_16 (by decide) ?_
      exact hret _ _ _ (by first | (rw [dcd_0 c_13]; rfl) | (rw [dcd_bad (by simpa using c_5)]; rfl)) dX5_decided_17

set_option maxHeartbeats 4000000 in
theorem c_X5_whyNot (l : Launch) (dC : Nat → ClassId) (dI : Nat → Nat → Nat) (dA : Nat → ClassId) (b : Nat → Nat) (mc : Nat → Int32) (S : Nat → Int32) (Hd : Nat → Int32) (o : Nat) (hlt : o < ln S) (hS1 : SWf S) (hT : TWf Hd) : Met l yX5_whyNot (ws_ yX5_whyNot cX5_whyNot 2 (some (.int))) (rmD 11 0 0) (uPx [.ref (b 0), .int (nI o)] (fun U H => famP dC dI b (offE b dA mc S Hd) H ∧ CE U) dC dI dA) (uQi (nI (why S Hd o))) 0 0 noF := by
  refine x_meti (own := RX5) (by decide) rfl (Nat.le_of_ble_eq_true rfl) fun p e R s m args below meth c Q SF rk hX hK hret ls hl => ?_
  have hx := SF.1
  have hb := SF.2.1
  have hml := SF.2.2.1
  have hown := SF.2.2.2.1
  have hts := SF.2.2.2.2
  have hO := hX.1
  have hCE := hX.2
  have hl : lv_has ls 2 [(0, .ref (b 0)), (1, .int (nI o))] := hl
  have hL := hS1.2.1
  have hn9 := hT.2.1
  have hu9 : unr S o ≤ 5 := cntN_le _ _
  have hb9 : bst S Hd o ≤ tn Hd := cntN_le _ _
  refine lv_aload_n hx hb dX5_whyNot_0 rfl (lv_at hl 0 rfl) ?_
  refine lv_iload_n hx hb dX5_whyNot_1 rfl (lv_at hl 1 rfl) ?_
  refine u_run (x_rV (C := RX5) (As := [.int (nI o)]) SF hK (d := 4) (rk.le (Nat.le_of_ble_eq_true rfl)) (c_X5_isTooBad l dC dI dA b mc S Hd o (show o < ln S by omega) hS1) (lw_V q1138 q1139 q1140 q139 q1141) (n := 1) (by decide +kernel) rfl (by decide) (g_recv hK (hO 0 _ rfl) (ci := 1) rfl) (XOK.hp.and CE.ok) (⟨hO, hCE⟩) hl.1 (Nat.le_of_ble_eq_true rfl) ⟨Nat.zero_le _, Nat.zero_le _⟩ rfl dX5_whyNot_2) ?_
  refine u_top (y := nI ((decide (3 < unr S o)).toNat)) rfl ?_
  refine lv_if_eq (tgt := 10) hx hb dX5_whyNot_5 (by decide) (fun c_5 => ?_) (fun c_5 => ?_)
  · have c_5 : (decide (3 < unr S o)) = false := u_zb.mp c_5
    refine lv_aload_n hx hb dX5_whyNot_10 rfl (lv_at hl 0 rfl) ?_
    refine lv_iload_n hx hb dX5_whyNot_11 rfl (lv_at hl 1 rfl) ?_
    refine u_run (x_rV (C := RX5) (As := [.int (nI o)]) SF hK (d := 6) (rk.le (Nat.le_of_ble_eq_true rfl)) (c_X5_bestMany l dC dI dA b mc S Hd o (show o < ln S by omega) hS1 hT) (lw_V q1149 q1150 q1151 q139 q1152) (n := 1) (by decide +kernel) rfl (by decide) (g_recv hK (hO 0 _ rfl) (ci := 1) rfl) (XOK.hp.and CE.ok) (⟨hO, hCE⟩) hl.1 (Nat.le_of_ble_eq_true rfl) ⟨Nat.zero_le _, Nat.zero_le _⟩ rfl dX5_whyNot_12) ?_
    refine u_top (y := nI (bst S Hd o)) rfl ?_
    refine lv_if_ne (tgt := 20) hx hb dX5_whyNot_15 (by decide) (fun c_15 => ?_) (fun c_15 => ?_)
    · have c_15 : ¬ (bst S Hd o = 0) := fun q9 => c_15 ((nI_eq (a := bst S Hd o) (b := 0) (by omega) (by omega)).mpr q9)
      refine lv_aload_n hx hb dX5_whyNot_20 rfl (lv_at hl 0 rfl) ?_
      refine lv_iload_n hx hb dX5_whyNot_21 rfl (lv_at hl 1 rfl) ?_
      refine u_run (x_rV (C := RX5) (As := [.int (nI o)]) SF hK (d := 10) (rk.le (Nat.le_of_ble_eq_true rfl)) (c_X5_decided l dC dI dA b mc S Hd o (show o < ln S by omega) hS1 hT) (lw_V q1180 q1181 q1182 q139 q1183) (n := 1) (by decide +kernel) rfl (by decide) (g_recv hK (hO 0 _ rfl) (ci := 1) rfl) (XOK.hp.and CE.ok) (⟨hO, hCE⟩) hl.1 (Nat.le_of_ble_eq_true rfl) ⟨Nat.zero_le _, Nat.zero_le _⟩ rfl dX5_whyNot_22) ?_
      refine u_top (y := oI (dcd S Hd o)) rfl ?_
      rcases hE : dcd S Hd o with _ | t9
      · refine u_top (y := (-1)) rfl ?_
        refine lv_iconst (v := (-1)) hx hb dX5_whyNot_25 (by decide) ?_
        refine lv_icmp_ne (tgt := 33) hx hb dX5_whyNot_26 (by decide) (fun c_26 => absurd (by decide) c_26) (fun c_26 => ?_)
        refine lv_iconst (v := nI 3) hx hb dX5_whyNot_29 (by decide) ?_
        refine lv_goto (tgt := 34) hx hb dX5_whyNot_30 (by decide) ?_
        exact hret _ _ _ (by rw [why_s (by simpa using c_5) (by omega) hE]) dX5_whyNot_34
      · have ht9 := dcd_lt hE
        refine u_top (y := nI t9) rfl ?_
        refine lv_iconst (v := (-1)) hx hb dX5_whyNot_25 (by decide) ?_
        refine lv_icmp_ne (tgt := 33) hx hb dX5_whyNot_26 (by decide) (fun c_26 => ?_) (fun c_26 => absurd c_26 (nI_m1 (by omega)))
        refine lv_iconst (v := nI 0) hx hb dX5_whyNot_33 (by decide) ?_
        exact hret _ _ _ (by rw [why_some hE]) dX5_whyNot_34
    · have c_15 : bst S Hd o = 0 := (nI_eq (a := bst S Hd o) (b := 0) (by omega) (by omega)).mp c_15
      refine lv_iconst (v := nI 2) hx hb dX5_whyNot_18 (by decide) ?_
      exact hret _ _ _ (by rw [why_z (by simpa using c_5) c_15]) dX5_whyNot_19
  · have c_5 : ¬ ((decide (3 < unr S o)) = false) := fun q9 => c_5 (u_zb.mpr q9)
    refine lv_iconst (v := nI 1) hx hb dX5_whyNot_8 (by decide) ?_
    exact hret _ _ _ (by rw [why_b (by simpa using c_5)]) dX5_whyNot_9

set_option maxHeartbeats 4000000 in
theorem c_X5_inState (l : Launch) (dC : Nat → ClassId) (dI : Nat → Nat → Nat) (dA : Nat → ClassId) (b : Nat → Nat) (mc : Nat → Int32) (S : Nat → Int32) (Hd : Nat → Int32) (x : Int32) (hS1 : SWf S) : Met l yX5_inState (ws_ yX5_inState cX5_inState 4 (some (.int))) (rmD 4 0 0) (uPx [.ref (b 0), .int x] (fun U H => famP dC dI b (offE b dA mc S Hd) H ∧ CE U) dC dI dA) (uQi (nI (sts S x))) 0 0 noF := by
  refine x_meti (own := RX5) (by decide) rfl (Nat.le_of_ble_eq_true rfl) fun p e R s m args below meth c Q SF rk hX hK hret ls hl => ?_
  have hx := SF.1
  have hb := SF.2.1
  have hml := SF.2.2.1
  have hown := SF.2.2.2.1
  have hts := SF.2.2.2.2
  have hO := hX.1
  have hCE := hX.2
  have hl : lv_has ls 4 [(0, .ref (b 0)), (1, .int x)] := hl
  have hL := hS1.2.1
  refine lv_iconst (v := nI 0) hx hb dX5_inState_0 (by decide) ?_
  refine lv_istore_n (lv' := [(2, .int (nI 0)), (0, .ref (b 0)), (1, .int x)]) hx hb dX5_inState_1 rfl hl (by decide) rfl (fun ls hl => ?_)
  refine lv_iconst (v := nI 0) hx hb dX5_inState_2 (by decide) ?_
  refine lv_istore_n (lv' := [(3, .int (nI 0)), (2, .int (nI 0)), (0, .ref (b 0)), (1, .int x)]) hx hb dX5_inState_3 rfl hl (by decide) rfl (fun ls hl => ?_)
  have lp4 : ∀ (k0 : Nat) (k : Nat), k ≤ ln S → ln S < k + k0 → ∀ ls : Array Slot, lv_has ls 4 [(3, .int (nI k)), (2, .int (nI (cntN (fun o => decide (lr S o 6 = x)) k))), (0, .ref (b 0)), (1, .int x)] → W p l e R s m args below meth c s.heap [] 0 0 Q (F0 m 4 ls []) := by
    intro k0
    induction k0 with
    | zero =>
      intro k hk1 hk2; omega
    | succ k0 ih =>
      intro k hk1 hk2 ls hl
      have ih4 := ih
      refine lv_iload_n hx hb dX5_inState_4 rfl (lv_at hl 0 rfl) ?_
      refine lv_aload_n hx hb dX5_inState_5 rfl (lv_at hl 2 rfl) ?_
      refine va_get (D := (dC, dI)) (ci := 1) (v := .ref (b 3)) (C := RX5) (T := TX5) (N := 10) hx hb hts in_X5 hown hK (hO 0 _ rfl) 0 rfl rfl 1 (by decide) (hts _ q833) (fun _ h9 => h9) rfl dX5_inState_6 ?_
      refine x_run5 (x_rF (C := RJ20) (As := []) (hK.1 6 _ rfl).2 SF hK (d := 0) (rk.le (Nat.le_of_ble_eq_true rfl)) (c_J20_size l dC dI dA (b 3) (b 4) (ln S) (mc 1) 24 (fun o => if o < ln S then some (b (22 + o)) else none) ) (lw_F q964 q954 q956 q141 q958) (hCE.2.2 7 (by decide)) (n := 0) (by decide +kernel) rfl (by decide) (g_recv hK (hO 3 _ rfl) (ci := 6) rfl) (XOK.hp) (⟨hO 3 _ rfl, hO 4 _ rfl⟩) hl.1 (Nat.le_of_ble_eq_true rfl) ⟨Nat.zero_le _, Nat.zero_le _⟩ rfl dX5_inState_9) ?_
      refine u_top (y := nI (ln S)) rfl ?_
      refine lv_icmp_ge (tgt := 46) hx hb dX5_inState_14 (by decide) (fun c_14 => ?_) (fun c_14 => ?_)
      · have c_14 : (ln S) ≤ k := (nI_leI (a := (ln S)) (b := k) (by omega) (by omega)).mp c_14
        refine lv_iload_n hx hb dX5_inState_46 rfl (lv_at hl 1 rfl) ?_
        exact hret _ _ _ (by rw [show k = ln S by omega]; rfl) dX5_inState_47
      · have c_14 : ¬ ((ln S) ≤ k) := fun q9 => c_14 ((nI_leI (a := (ln S)) (b := k) (by omega) (by omega)).mpr q9)
        refine lv_iload_n hx hb dX5_inState_17 rfl (lv_at hl 1 rfl) ?_
        refine lv_aload_n hx hb dX5_inState_18 rfl (lv_at hl 2 rfl) ?_
        refine lv_iload_n hx hb dX5_inState_19 rfl (lv_at hl 0 rfl) ?_
        refine x_runa (x_rV (C := RX5) (As := [.int (nI k)]) SF hK (d := 3) (rk.le (Nat.le_of_ble_eq_true rfl)) (c_X5_letter l dC dI dA b mc S Hd k (show k < ln S by omega) hS1) (lw_V q1118 q188 q189 q139 q190) (n := 1) (by decide +kernel) rfl (by decide) (g_recv hK (hO 0 _ rfl) (ci := 1) rfl) (XOK.hp.and CE.ok) (⟨hO, hCE⟩) hl.1 (Nat.le_of_ble_eq_true rfl) ⟨Nat.zero_le _, Nat.zero_le _⟩ rfl dX5_inState_20) ?_
        refine g_top (y := .ref (b (22 + k))) rfl ?_
        refine va_getN (D := (dC, dI)) (ci := 3) (v := .int (lr S k 6)) (C := RX7) (T := TX7) (N := 6) hx hb hts in_X7 hown hK (hO _ _ (offE_lt (show k < ln S from (by omega)) hS1.2.1)) 0 rfl rfl 2 (by decide) (va_Nw.use rfl (hCE.1 30 (by decide))) (fun _ h9 => h9) rfl dX5_inState_23 ?_
        refine lv_iload_n hx hb dX5_inState_26 rfl (lv_at hl 3 rfl) ?_
        have jn35 : ∀ v9 : Int32, v9 = nI ((decide (lr S k 6 = x)).toNat) → ∀ ls : Array Slot, lv_has ls 4 [(3, .int (nI k)), (2, .int (nI (cntN (fun o => decide (lr S o 6 = x)) k))), (0, .ref (b 0)), (1, .int x)] → W p l e R s m args below meth c s.heap [] 0 0 Q (F0 m 35 ls [.int v9, .int (nI (cntN (fun o => decide (lr S o 6 = x)) k))]) := by
          intro v9 hv9 ls hl
          subst hv9
          refine u_run (x_rSN (As := [.int (nI ((decide (lr S k 6 = x)).toNat))]) (X := fun _ _ => True) SF hK (d := 0) (rk.le (Nat.le_of_ble_eq_true rfl)) (c_X1_one l dC dI dA (decide (lr S k 6 = x)) ) (hCE.2.1 5 (by decide)) q1147 q112 q1148 (n := 1) (by decide +kernel) rfl (by decide) (XOK.hp) (trivial) hl.1 (Nat.le_of_ble_eq_true rfl) ⟨Nat.zero_le _, Nat.zero_le _⟩ rfl dX5_inState_35) ?_
          refine u_top (y := nI ((decide (lr S k 6 = x)).toNat)) rfl ?_
          refine lv_iadd hx hb dX5_inState_38 ?_
          refine u_top (nI_add _ _) ?_
          refine lv_istore_n (lv' := [(2, .int (nI (cntN (fun o => decide (lr S o 6 = x)) k + ((decide (lr S k 6 = x)).toNat)))), (3, .int (nI k)), (0, .ref (b 0)), (1, .int x)]) hx hb dX5_inState_39 rfl hl (by decide) rfl (fun ls hl => ?_)
          refine lv_iinc (v := nI (k + 1)) (lv' := [(3, .int (nI (k + 1))), (2, .int (nI (cntN (fun o => decide (lr S o 6 = x)) k + ((decide (lr S k 6 = x)).toNat)))), (0, .ref (b 0)), (1, .int x)]) hx hb dX5_inState_40 hl (k := 1) rfl (nI_add _ 1) (by decide) rfl (fun ls hl => ?_)
          refine lv_goto (tgt := 4) hx hb dX5_inState_43 (by decide) ?_
          exact ih4 (k + 1) (by omega) (by omega) ls (lv_sub hl [0, 1, 2, 3] rfl)
        refine lv_icmp_ne (tgt := 34) hx hb dX5_inState_27 (by decide) (fun c_27 => ?_) (fun c_27 => ?_)
        · refine lv_iconst (v := nI 0) hx hb dX5_inState_34 (by decide) ?_
          exact jn35 _ (u_d0 c_27) ls (lv_sub hl [0, 1, 2, 3] rfl)
        · refine lv_iconst (v := nI 1) hx hb dX5_inState_30 (by decide) ?_
          refine lv_goto (tgt := 35) hx hb dX5_inState_31 (by decide) ?_
          exact jn35 _ (u_d1 c_27) ls (lv_sub hl [0, 1, 2, 3] rfl)
  exact lp4 (ln S + 1) 0 (by omega) (by omega) ls (lv_sub hl [0, 1, 2, 3] rfl)

set_option maxHeartbeats 4000000 in
theorem c_X5_whyNotAgain (l : Launch) (dC : Nat → ClassId) (dI : Nat → Nat → Nat) (dA : Nat → ClassId) (b : Nat → Nat) (mc : Nat → Int32) (S : Nat → Int32) (Hd : Nat → Int32) (o : Nat) (hlt : o < ln S) (hS1 : SWf S) : Met l yX5_whyNotAgain (ws_ yX5_whyNotAgain cX5_whyNotAgain 2 (some (.int))) (rmD 4 0 0) (uPx [.ref (b 0), .int (nI o)] (fun U H => famP dC dI b (offE b dA mc S Hd) H ∧ CE U) dC dI dA) (uQi (nI (whR S o))) 0 0 noF := by
  refine x_meti (own := RX5) (by decide) rfl (Nat.le_of_ble_eq_true rfl) fun p e R s m args below meth c Q SF rk hX hK hret ls hl => ?_
  have hx := SF.1
  have hb := SF.2.1
  have hml := SF.2.2.1
  have hown := SF.2.2.2.1
  have hts := SF.2.2.2.2
  have hO := hX.1
  have hCE := hX.2
  have hl : lv_has ls 2 [(0, .ref (b 0)), (1, .int (nI o))] := hl
  have hL := hS1.2.1
  refine lv_aload_n hx hb dX5_whyNotAgain_0 rfl (lv_at hl 0 rfl) ?_
  refine lv_iload_n hx hb dX5_whyNotAgain_1 rfl (lv_at hl 1 rfl) ?_
  refine x_runa (x_rV (C := RX5) (As := [.int (nI o)]) SF hK (d := 3) (rk.le (Nat.le_of_ble_eq_true rfl)) (c_X5_letter l dC dI dA b mc S Hd o (show o < ln S by omega) hS1) (lw_V q1118 q188 q189 q139 q190) (n := 1) (by decide +kernel) rfl (by decide) (g_recv hK (hO 0 _ rfl) (ci := 1) rfl) (XOK.hp.and CE.ok) (⟨hO, hCE⟩) hl.1 (Nat.le_of_ble_eq_true rfl) ⟨Nat.zero_le _, Nat.zero_le _⟩ rfl dX5_whyNotAgain_2) ?_
  refine g_top (y := .ref (b (22 + o))) rfl ?_
  refine va_getN (D := (dC, dI)) (ci := 3) (v := .int (lr S o 6)) (C := RX7) (T := TX7) (N := 6) hx hb hts in_X7 hown hK (hO _ _ (offE_lt (show o < ln S from (by omega)) hS1.2.1)) 0 rfl rfl 2 (by decide) (va_Nw.use rfl (hCE.1 30 (by decide))) (fun _ h9 => h9) rfl dX5_whyNotAgain_5 ?_
  refine lv_iconst (v := nI 2) hx hb dX5_whyNotAgain_8 (by decide) ?_
  refine lv_icmp_eq (tgt := 16) hx hb dX5_whyNotAgain_9 (by decide) (fun c_9 => ?_) (fun c_9 => ?_)
  · refine lv_aload_n hx hb dX5_whyNotAgain_16 rfl (lv_at hl 0 rfl) ?_
    refine lv_iload_n hx hb dX5_whyNotAgain_17 rfl (lv_at hl 1 rfl) ?_
    refine x_runa (x_rV (C := RX5) (As := [.int (nI o)]) SF hK (d := 3) (rk.le (Nat.le_of_ble_eq_true rfl)) (c_X5_letter l dC dI dA b mc S Hd o (show o < ln S by omega) hS1) (lw_V q1118 q188 q189 q139 q190) (n := 1) (by decide +kernel) rfl (by decide) (g_recv hK (hO 0 _ rfl) (ci := 1) rfl) (XOK.hp.and CE.ok) (⟨hO, hCE⟩) hl.1 (Nat.le_of_ble_eq_true rfl) ⟨Nat.zero_le _, Nat.zero_le _⟩ rfl dX5_whyNotAgain_18) ?_
    refine g_top (y := .ref (b (22 + o))) rfl ?_
    refine va_getN (D := (dC, dI)) (ci := 3) (v := .int (lr S o 7)) (C := RX7) (T := TX7) (N := 6) hx hb hts in_X7 hown hK (hO _ _ (offE_lt (show o < ln S from (by omega)) hS1.2.1)) 0 rfl rfl 3 (by decide) (va_Nw.use rfl (hCE.1 31 (by decide))) (fun _ h9 => h9) rfl dX5_whyNotAgain_21 ?_
    refine lv_iconst (v := nI 3) hx hb dX5_whyNotAgain_24 (by decide) ?_
    refine lv_icmp_ne (tgt := 32) hx hb dX5_whyNotAgain_25 (by decide) (fun c_25 => ?_) (fun c_25 => ?_)
    · refine lv_iconst (v := nI 0) hx hb dX5_whyNotAgain_32 (by decide) ?_
      exact hret _ _ _ (by rw [whR, if_neg (fun q => q c_9), if_neg c_25]) dX5_whyNotAgain_33
    · refine lv_iconst (v := nI 2) hx hb dX5_whyNotAgain_28 (by decide) ?_
      refine lv_goto (tgt := 33) hx hb dX5_whyNotAgain_29 (by decide) ?_
      exact hret _ _ _ (by rw [whR, if_neg (fun q => q c_9), if_pos c_25]) dX5_whyNotAgain_33
  · refine lv_iconst (v := nI 1) hx hb dX5_whyNotAgain_12 (by decide) ?_
    refine lv_goto (tgt := 33) hx hb dX5_whyNotAgain_13 (by decide) ?_
    exact hret _ _ _ (by rw [whR, if_pos c_9]) dX5_whyNotAgain_33

set_option maxHeartbeats 4000000 in
theorem c_X5_sentAll (l : Launch) (dC : Nat → ClassId) (dI : Nat → Nat → Nat) (dA : Nat → ClassId) (b : Nat → Nat) (mc : Nat → Int32) (S : Nat → Int32) (Hd : Nat → Int32)  : Met l yX5_sentAll (ws_ yX5_sentAll cX5_sentAll 3 (some (.int))) (rmD 0 0 0) (uPx [.ref (b 0)] (fun U H => famP dC dI b (offE b dA mc S Hd) H ∧ CE U) dC dI dA) (uQi (sum6 S 21 6)) 0 0 noF := by
  refine x_meti (own := RX5) (by decide) rfl (Nat.le_of_ble_eq_true rfl) fun p e R s m args below meth c Q SF rk hX hK hret ls hl => ?_
  have hx := SF.1
  have hb := SF.2.1
  have hml := SF.2.2.1
  have hown := SF.2.2.2.1
  have hts := SF.2.2.2.2
  have hO := hX.1
  have hCE := hX.2
  have hl : lv_has ls 3 [(0, .ref (b 0))] := hl
  refine lv_iconst (v := nI 0) hx hb dX5_sentAll_0 (by decide) ?_
  refine lv_istore_n (lv' := [(1, .int (nI 0)), (0, .ref (b 0))]) hx hb dX5_sentAll_1 rfl hl (by decide) rfl (fun ls hl => ?_)
  refine lv_iconst (v := nI 0) hx hb dX5_sentAll_2 (by decide) ?_
  refine lv_istore_n (lv' := [(2, .int (nI 0)), (1, .int (nI 0)), (0, .ref (b 0))]) hx hb dX5_sentAll_3 rfl hl (by decide) rfl (fun ls hl => ?_)
  have lp4 : ∀ (k0 : Nat) (k : Nat), k ≤ 6 → 6 < k + k0 → ∀ ls : Array Slot, lv_has ls 3 [(2, .int (nI k)), (1, .int (sum6 S 21 k)), (0, .ref (b 0))] → W p l e R s m args below meth c s.heap [] 0 0 Q (F0 m 4 ls []) := by
    intro k0
    induction k0 with
    | zero =>
      intro k hk1 hk2; omega
    | succ k0 ih =>
      intro k hk1 hk2 ls hl
      have ih4 := ih
      refine lv_iload_n hx hb dX5_sentAll_4 rfl (lv_at hl 0 rfl) ?_
      refine lv_bipush (v := nI 6) hx hb dX5_sentAll_5 (by decide) ?_
      refine lv_icmp_ge (tgt := 25) hx hb dX5_sentAll_7 (by decide) (fun c_7 => ?_) (fun c_7 => ?_)
      · have c_7 : 6 ≤ k := (nI_leI (a := 6) (b := k) (by omega) (by omega)).mp c_7
        refine lv_iload_n hx hb dX5_sentAll_25 rfl (lv_at hl 1 rfl) ?_
        exact hret _ _ _ (by rw [show k = 6 by omega]) dX5_sentAll_26
      · have c_7 : ¬ (6 ≤ k) := fun q9 => c_7 ((nI_leI (a := 6) (b := k) (by omega) (by omega)).mpr q9)
        refine lv_iload_n hx hb dX5_sentAll_10 rfl (lv_at hl 1 rfl) ?_
        refine lv_aload_n hx hb dX5_sentAll_11 rfl (lv_at hl 2 rfl) ?_
        refine va_get (D := (dC, dI)) (ci := 1) (v := .ref (b 7)) (C := RX5) (T := TX5) (N := 10) hx hb hts in_X5 hown hK (hO 0 _ rfl) 0 rfl rfl 4 (by decide) (hts _ q841) (fun _ h9 => h9) rfl dX5_sentAll_12 ?_
        refine lv_iload_n hx hb dX5_sentAll_15 rfl (lv_at hl 0 rfl) ?_
        refine u_iald hx hb hK (hO 7 _ rfl) 0 0 rfl rfl (i := k) (by omega) (by decide) dX5_sentAll_16 ?_
        refine u_top (y := S (21 + k)) (by first | exact clip_at (by omega) | rfl) ?_
        refine lv_iadd hx hb dX5_sentAll_17 ?_
        refine lv_istore_n (lv' := [(1, .int ((sum6 S 21 k) + (S (21 + k)))), (2, .int (nI k)), (0, .ref (b 0))]) hx hb dX5_sentAll_18 rfl hl (by decide) rfl (fun ls hl => ?_)
        refine lv_iinc (v := nI (k + 1)) (lv' := [(2, .int (nI (k + 1))), (1, .int ((sum6 S 21 k) + (S (21 + k)))), (0, .ref (b 0))]) hx hb dX5_sentAll_19 hl (k := 1) rfl (nI_add _ 1) (by decide) rfl (fun ls hl => ?_)
        refine lv_goto (tgt := 4) hx hb dX5_sentAll_22 (by decide) ?_
        exact ih4 (k + 1) (by omega) (by omega) ls (lv_sub hl [0, 1, 2] rfl)
  exact lp4 (6 + 1) 0 (by omega) (by omega) ls (lv_sub hl [0, 1, 2] rfl)

set_option maxHeartbeats 4000000 in
theorem c_X5_townWith (l : Launch) (dC : Nat → ClassId) (dI : Nat → Nat → Nat) (dA : Nat → ClassId) (b : Nat → Nat) (mc : Nat → Int32) (S : Nat → Int32) (Hd : Nat → Int32) (v : Nat) (hv : v < 10000) (hT : TWf Hd) : Met l yX5_townWith (ws_ yX5_townWith cX5_townWith 3 (some (.int))) (rmD 4 0 0) (uPx [.ref (b 0), .int (nI v)] (fun U H => famP dC dI b (offE b dA mc S Hd) H ∧ CE U) dC dI dA) (uQi (oI (twF Hd v))) 0 0 noF := by
  refine x_meti (own := RX5) (by decide) rfl (Nat.le_of_ble_eq_true rfl) fun p e R s m args below meth c Q SF rk hX hK hret ls hl => ?_
  have hx := SF.1
  have hb := SF.2.1
  have hml := SF.2.2.1
  have hown := SF.2.2.2.1
  have hts := SF.2.2.2.2
  have hO := hX.1
  have hCE := hX.2
  have hl : lv_has ls 3 [(0, .ref (b 0)), (1, .int (nI v))] := hl
  have hn9 := hT.2.1
  refine lv_iconst (v := nI 0) hx hb dX5_townWith_0 (by decide) ?_
  refine lv_istore_n (lv' := [(2, .int (nI 0)), (0, .ref (b 0)), (1, .int (nI v))]) hx hb dX5_townWith_1 rfl hl (by decide) rfl (fun ls hl => ?_)
  have lp2 : ∀ (k0 : Nat) (t : Nat), t ≤ tn Hd → (∀ j, j < t → decide (num Hd j = v) = false) → tn Hd < t + k0 → ∀ ls : Array Slot, lv_has ls 3 [(2, .int (nI t)), (0, .ref (b 0)), (1, .int (nI v))] → W p l e R s m args below meth c s.heap [] 0 0 Q (F0 m 2 ls []) := by
    intro k0
    induction k0 with
    | zero =>
      intro t ht1 htf ht2; omega
    | succ k0 ih =>
      intro t ht1 htf ht2 ls hl
      have ih2 := ih
      refine lv_iload_n hx hb dX5_townWith_2 rfl (lv_at hl 0 rfl) ?_
      refine lv_aload_n hx hb dX5_townWith_3 rfl (lv_at hl 1 rfl) ?_
      refine va_get (D := (dC, dI)) (ci := 1) (v := .ref (b 1)) (C := RX5) (T := TX5) (N := 10) hx hb hts in_X5 hown hK (hO 0 _ rfl) 0 rfl rfl 0 (by decide) (hts _ q830) (fun _ h9 => h9) rfl dX5_townWith_4 ?_
      refine x_run5 (x_rF (C := RJ20) (As := []) (hK.1 6 _ rfl).2 SF hK (d := 0) (rk.le (Nat.le_of_ble_eq_true rfl)) (c_J20_size l dC dI dA (b 1) (b 2) (tn Hd) (mc 0) 12 (fun t => if t < tn Hd then some (b (10 + t)) else none) ) (lw_F q964 q954 q956 q141 q958) (hCE.2.2 7 (by decide)) (n := 0) (by decide +kernel) rfl (by decide) (g_recv hK (hO 1 _ rfl) (ci := 6) rfl) (XOK.hp) (⟨hO 1 _ rfl, hO 2 _ rfl⟩) hl.1 (Nat.le_of_ble_eq_true rfl) ⟨Nat.zero_le _, Nat.zero_le _⟩ rfl dX5_townWith_7) ?_
      refine u_top (y := nI (tn Hd)) rfl ?_
      refine lv_icmp_ge (tgt := 35) hx hb dX5_townWith_12 (by decide) (fun c_12 => ?_) (fun c_12 => ?_)
      · have c_12 : (tn Hd) ≤ t := (nI_leI (a := (tn Hd)) (b := t) (by omega) (by omega)).mp c_12
        refine lv_iconst (v := (-1)) hx hb dX5_townWith_35 (by decide) ?_
        exact hret _ _ _ (by rw [twF, show tn Hd = t by omega, fndN_none htf]; rfl) dX5_townWith_36
      · have c_12 : ¬ ((tn Hd) ≤ t) := fun q9 => c_12 ((nI_leI (a := (tn Hd)) (b := t) (by omega) (by omega)).mpr q9)
        refine lv_aload_n hx hb dX5_townWith_15 rfl (lv_at hl 1 rfl) ?_
        refine lv_iload_n hx hb dX5_townWith_16 rfl (lv_at hl 0 rfl) ?_
        refine x_runa (x_rV (C := RX5) (As := [.int (nI t)]) SF hK (d := 3) (rk.le (Nat.le_of_ble_eq_true rfl)) (c_X5_town l dC dI dA b mc S Hd t (show t < tn Hd by omega) hT) (lw_V q965 q966 q967 q139 q968) (n := 1) (by decide +kernel) rfl (by decide) (g_recv hK (hO 0 _ rfl) (ci := 1) rfl) (XOK.hp.and CE.ok) (⟨hO, hCE⟩) hl.1 (Nat.le_of_ble_eq_true rfl) ⟨Nat.zero_le _, Nat.zero_le _⟩ rfl dX5_townWith_17) ?_
        refine g_top (y := .ref (b (10 + t))) rfl ?_
        refine u_run (x_rV (C := RX6) (As := []) SF hK (d := 0) (rk.le (Nat.le_of_ble_eq_true rfl)) (c_X6_number l dC dI dA b mc S Hd t (show t < tn Hd by omega) hT) (lw_V q970 q971 q972 q143 q973) (n := 0) (by decide +kernel) rfl (by decide) (g_recv hK (hO _ _ (offE_tw (show t < tn Hd from (by omega)) hT.2.1)) (ci := 4) rfl) (XOK.hp.and CE.ok) (⟨hO, hCE⟩) hl.1 (Nat.le_of_ble_eq_true rfl) ⟨Nat.zero_le _, Nat.zero_le _⟩ rfl dX5_townWith_20) ?_
        refine u_top (y := nI (num Hd t)) rfl ?_
        refine lv_iload_n hx hb dX5_townWith_23 rfl (lv_at hl 2 rfl) ?_
        have hnt := (hT.2.2 t (by omega)).2.1
        refine lv_icmp_ne (tgt := 29) hx hb dX5_townWith_24 (by decide) (fun c_24 => ?_) (fun c_24 => ?_)
        · have c_24 : ¬ (num Hd t = v) := fun q9 => c_24 ((nI_eq (a := num Hd t) (b := v) (by omega) (by omega)).mpr q9)
          refine lv_iinc (v := nI (t + 1)) (lv' := [(2, .int (nI (t + 1))), (0, .ref (b 0)), (1, .int (nI v))]) hx hb dX5_townWith_29 hl (k := 0) rfl (nI_add _ 1) (by decide) rfl (fun ls hl => ?_)
          refine lv_goto (tgt := 2) hx hb dX5_townWith_32 (by decide) ?_
          exact ih2 (t + 1) (by omega) (all_s htf (decide_eq_false c_24)) (by omega) ls (lv_sub hl [0, 1, 2] rfl)
        · have c_24 : num Hd t = v := (nI_eq (a := num Hd t) (b := v) (by omega) (by omega)).mp c_24
          refine lv_iload_n hx hb dX5_townWith_27 rfl (lv_at hl 0 rfl) ?_
          exact hret _ _ _ (by rw [twF, fndN_some (by omega) (decide_eq_true c_24) htf]; rfl) dX5_townWith_28
  exact lp2 (tn Hd + 1) 0 (by omega) (fun j h => absurd h (Nat.not_lt_zero j)) (by omega) ls (lv_sub hl [0, 1, 2] rfl)
end OL3
