set_option maxRecDepth 100000
section TW
variable {p : Program} {l : Launch} {e : Env} {R : Room} {s : State} {m : MethodId} {args : Array Value} {below : List Frame} {meth : Method} {c : Code} {H : Heap} {locs : List Loc} {Q : State → Prop}
variable {cc : ByteArray} {pc nL : Nat} {ls : Array Slot} {rest : List Value} {dC : Nat → ClassId} {dI : Nat → Nat → Nat} {dA : Nat → ClassId} {a : Nat → Nat} {M : Nat → Nat → Int32} {H0 : Heap}

set_option maxHeartbeats 4000000 in
theorem c_X2_nearAt (l : Launch) (dC : Nat → ClassId) (dI : Nat → Nat → Nat) (dA : Nat → ClassId) (a : Nat → Nat) (M : Nat → Nat → Int32) (lt : Nat) (x : Int32) (hlt : lt < ln (M 2)) (hS1 : SWf (M 2)) (hT : TWf (M 1)) : Met l yX2_nearAt (ws_ yX2_nearAt cX2_nearAt 6 (some .int)) (rmD 5 0 0) (uPc [.ref (a 0), .int (nI lt), .int x] (mP dC dI dA a M) dC dI dA) (uQi (oI (nrA (M 2) (M 1) lt x))) 0 0 noF := by
  refine u_meti (own := RX2) (by decide) rfl (Nat.le_of_ble_eq_true rfl) fun p e R s m args below meth c Q SF rk hP hK hret ls hl => ?_
  have hx := SF.1
  have hb := SF.2.1
  have hml := SF.2.2.1
  have hown := SF.2.2.2.1
  have hts := SF.2.2.2.2
  have hl : lv_has ls 6 [(0, .ref (a 0)), (1, .int (nI lt)), (2, .int x)] := hl
  have hL := hS1.2.1
  have hn9 := hT.2.1
  have hlim := hS1.2.2.2.1
  refine lv_iload_n hx hb dX2_nearAt_0 rfl (lv_at hl 2 rfl) ?_
  refine u_top (y := x - nI (pasN (farT (M 2) (M 1) lt) (tn (M 1)) 0 0)) (by rw [pasN_0]; exact (show x = x - nI 0 from by rw [nI_0]; grind)) ?_
  refine lv_istore_n (lv' := [(3, .int (x - nI (pasN (farT (M 2) (M 1) lt) (tn (M 1)) 0 0))), (0, .ref (a 0)), (1, .int (nI lt)), (2, .int x)]) hx hb dX2_nearAt_1 rfl hl (by decide) rfl (fun ls hl => ?_)
  refine lv_iconst (v := nI 0) hx hb dX2_nearAt_2 (by decide) ?_
  refine lv_istore (lv' := [(4, .int (nI 0)), (3, .int (x - nI (pasN (farT (M 2) (M 1) lt) (tn (M 1)) 0 0))), (0, .ref (a 0)), (1, .int (nI lt)), (2, .int x)]) hx hb dX2_nearAt_3 hl (by decide) rfl (fun ls hl => ?_)
  have lp5 : ∀ (k0 : Nat) (d : Nat), d ≤ 9 → pasI (M 2) (M 1) lt x d 0 → 9 < d + k0 → ∀ ls : Array Slot, lv_has ls 6 [(4, .int (nI d)), (3, .int (x - nI (pasN (farT (M 2) (M 1) lt) (tn (M 1)) d 0))), (0, .ref (a 0)), (1, .int (nI lt)), (2, .int x)] → W p l e R s m args below meth c s.heap [] 0 0 Q (F0 m 5 ls []) := by
    intro k0
    induction k0 with
    | zero =>
      intro d hd1 hpi hd2; omega
    | succ k0 ih =>
      intro d hd1 hpi hd2 ls hl
      have ih5 := ih
      refine lv_iload hx hb dX2_nearAt_5 (lv_at hl 0 rfl) ?_
      refine lv_aload_n hx hb dX2_nearAt_7 rfl (lv_at hl 2 rfl) ?_
      refine va_get (D := (dC, dI)) (ci := 2) (v := .ref (a 2)) (C := RX2) (T := TX2) (N := 22) hx hb hts in_X2 hown hK hP 0 rfl rfl 3 (by decide) (hts _ q1954) (fun _ h9 => h9) rfl dX2_nearAt_8 ?_
      refine lv_iconst (v := nI 0) hx hb dX2_nearAt_11 (by decide) ?_
      refine u_iald hx hb hK hP 2 0 rfl rfl (i := 0) (by omega) (by decide) dX2_nearAt_12 ?_
      refine u_top (y := nI (lim (M 2))) hS1.2.2.1 ?_
      refine lv_icmp_gt (tgt := 62) hx hb dX2_nearAt_13 (by decide) (fun c_13 => ?_) (fun c_13 => ?_)
      · have c_13 : lim (M 2) < d := (nI_ltI (a := lim (M 2)) (b := d) (by omega) (by omega)).mp c_13
        refine lv_iconst (v := (-1)) hx hb dX2_nearAt_62 (by decide) ?_
        exact hret _ _ _ (by rw [nrA_none hpi (by omega)]; rfl) dX2_nearAt_63
      · have c_13 : ¬ (lim (M 2) < d) := fun q9 => c_13 ((nI_ltI (a := lim (M 2)) (b := d) (by omega) (by omega)).mpr q9)
        refine lv_iconst (v := nI 0) hx hb dX2_nearAt_16 (by decide) ?_
        refine lv_istore (lv' := [(5, .int (nI 0)), (4, .int (nI d)), (3, .int (x - nI (pasN (farT (M 2) (M 1) lt) (tn (M 1)) d 0))), (0, .ref (a 0)), (1, .int (nI lt)), (2, .int x)]) hx hb dX2_nearAt_17 hl (by decide) rfl (fun ls hl => ?_)
        have lp19 : ∀ (k0 : Nat) (t : Nat), t ≤ tn (M 1) → pasI (M 2) (M 1) lt x d t → tn (M 1) < t + k0 → ∀ ls : Array Slot, lv_has ls 6 [(5, .int (nI t)), (4, .int (nI d)), (3, .int (x - nI (pasN (farT (M 2) (M 1) lt) (tn (M 1)) d t))), (0, .ref (a 0)), (1, .int (nI lt)), (2, .int x)] → W p l e R s m args below meth c s.heap [] 0 0 Q (F0 m 19 ls []) := by
          intro k0
          induction k0 with
          | zero =>
            intro t ht1 hpj ht2; omega
          | succ k0 ih =>
            intro t ht1 hpj ht2 ls hl
            have ih19 := ih
            have hf9 := farT_le (M 2) (M 1) lt t
            refine lv_iload hx hb dX2_nearAt_19 (lv_at hl 0 rfl) ?_
            refine lv_aload_n hx hb dX2_nearAt_21 rfl (lv_at hl 3 rfl) ?_
            refine k_X2_towns   SF hK (rk.le (Nat.le_of_ble_eq_true rfl)) hl.1 (Nat.le_of_ble_eq_true rfl) hP dX2_nearAt_22 ?_
            refine u_top (y := nI (tn (M 1))) hT.1 ?_
            refine lv_icmp_ge (tgt := 56) hx hb dX2_nearAt_25 (by decide) (fun c_25 => ?_) (fun c_25 => ?_)
            · have c_25 : tn (M 1) ≤ t := (nI_leI (a := tn (M 1)) (b := t) (by omega) (by omega)).mp c_25
              rw [show t = tn (M 1) by omega, pasN_row] at hl
              refine lv_iinc (v := nI (d + 1)) (lv' := [(4, .int (nI (d + 1))), (5, .int (nI (tn (M 1)))), (3, .int (x - nI (pasN (farT (M 2) (M 1) lt) (tn (M 1)) (d + 1) 0))), (0, .ref (a 0)), (1, .int (nI lt)), (2, .int x)]) hx hb dX2_nearAt_56 hl (k := 1) rfl (nI_add _ 1) (by decide) rfl (fun ls hl => ?_)
              refine lv_goto (tgt := 5) hx hb dX2_nearAt_59 (by decide) ?_
              exact ih5 (d + 1) (by omega) (pasI_row (by rw [show tn (M 1) = t by omega]; exact hpj)) (by omega) ls (lv_sub hl [0, 2, 3, 4, 5] rfl)
            · have c_25 : ¬ (tn (M 1) ≤ t) := fun q9 => c_25 ((nI_leI (a := tn (M 1)) (b := t) (by omega) (by omega)).mpr q9)
              refine lv_aload_n hx hb dX2_nearAt_28 rfl (lv_at hl 3 rfl) ?_
              refine lv_iload_n hx hb dX2_nearAt_29 rfl (lv_at hl 4 rfl) ?_
              refine lv_iload hx hb dX2_nearAt_30 (lv_at hl 0 rfl) ?_
              refine k_X2_farTown  hlt (by omega) hS1 hT SF hK (rk.le (Nat.le_of_ble_eq_true rfl)) hl.1 (Nat.le_of_ble_eq_true rfl) hP dX2_nearAt_32 ?_
              refine lv_iload hx hb dX2_nearAt_35 (lv_at hl 1 rfl) ?_
              refine lv_icmp_ne (tgt := 50) hx hb dX2_nearAt_37 (by decide) (fun c_37 => ?_) (fun c_37 => ?_)
              · have c_37 : ¬ (farT (M 2) (M 1) lt t = d) := fun q9 => c_37 ((nI_eq (a := farT (M 2) (M 1) lt t) (b := d) (by omega) (by omega)).mpr q9)
                rw [← pasN_miss (n := tn (M 1)) (t := t) c_37] at hl
                refine lv_iinc (v := nI (t + 1)) (lv' := [(5, .int (nI (t + 1))), (4, .int (nI d)), (3, .int (x - nI (pasN (farT (M 2) (M 1) lt) (tn (M 1)) d (t + 1)))), (0, .ref (a 0)), (1, .int (nI lt)), (2, .int x)]) hx hb dX2_nearAt_50 hl (k := 0) rfl (nI_add _ 1) (by decide) rfl (fun ls hl => ?_)
                refine lv_goto (tgt := 19) hx hb dX2_nearAt_53 (by decide) ?_
                exact ih19 (t + 1) (by omega) (by first | exact pasI_miss hpj c_37 | exact pasI_hit hpj (fun q => c_41 (i_sub0' (by rw [pasN_at c_37]; exact q)))) (by omega) ls (lv_sub hl [0, 1, 2, 3, 4, 5] rfl)
              · have c_37 : farT (M 2) (M 1) lt t = d := (nI_eq (a := farT (M 2) (M 1) lt t) (b := d) (by omega) (by omega)).mp c_37
                refine lv_iload_n hx hb dX2_nearAt_40 rfl (lv_at hl 2 rfl) ?_
                refine lv_if_ne (tgt := 47) hx hb dX2_nearAt_41 (by decide) (fun c_41 => ?_) (fun c_41 => ?_)
                · refine lv_iinc (v := x - nI (pasN (farT (M 2) (M 1) lt) (tn (M 1)) d (t + 1))) (lv' := [(3, .int (x - nI (pasN (farT (M 2) (M 1) lt) (tn (M 1)) d (t + 1)))), (5, .int (nI t)), (4, .int (nI d)), (0, .ref (a 0)), (1, .int (nI lt)), (2, .int x)]) hx hb dX2_nearAt_47 hl (k := 2) rfl (by rw [pasN_hit (by omega) c_37]; exact i_dec) (by decide) rfl (fun ls hl => ?_)
                  refine lv_iinc (v := nI (t + 1)) (lv' := [(5, .int (nI (t + 1))), (3, .int (x - nI (pasN (farT (M 2) (M 1) lt) (tn (M 1)) d (t + 1)))), (4, .int (nI d)), (0, .ref (a 0)), (1, .int (nI lt)), (2, .int x)]) hx hb dX2_nearAt_50 hl (k := 1) rfl (nI_add _ 1) (by decide) rfl (fun ls hl => ?_)
                  refine lv_goto (tgt := 19) hx hb dX2_nearAt_53 (by decide) ?_
                  exact ih19 (t + 1) (by omega) (by first | exact pasI_miss hpj c_37 | exact pasI_hit hpj (fun q => c_41 (i_sub0' (by rw [pasN_at c_37]; exact q)))) (by omega) ls (lv_sub hl [0, 2, 1, 3, 4, 5] rfl)
                · refine lv_iload hx hb dX2_nearAt_44 (lv_at hl 0 rfl) ?_
                  exact hret _ _ _ (by rw [nrA_some (t := t) (by omega) hn9 (by omega) (by rw [← pasN_at c_37]; exact i_sub0 c_41)]; rfl) dX2_nearAt_46
        exact lp19 (tn (M 1) + 1) 0 (by omega) hpi (by omega) ls (lv_sub hl [0, 1, 2, 3, 4, 5] rfl)
  exact lp5 10 0 (by omega) pasI_0 (by omega) ls (lv_sub hl [0, 1, 2, 3, 4] rfl)
theorem k_X2_nearAt {lt : Nat} {x : Int32} (hlt : lt < ln (M 2)) (hS1 : SWf (M 2)) (hT : TWf (M 1)) (SF : CallFix p m c cc nL s args lw_all RX2) (hK : KK dC dI dA s) (rk : rmOK 6 R) (hsz : ls.size = nL) (hcat : (rest.map fun v => v.category).sum ≤ 8) (hP : mP dC dI dA a M H) (hdg : decode cc pc = .ok (.invokevirtual 307, 3)) (k : W p l e R s m args below meth c H locs 0 0 Q (F0 m (pc + 3) ls (.int (oI (nrA (M 2) (M 1) lt x)) :: rest))) : W p l e R s m args below meth c H locs 0 0 Q (F0 m pc ls (.int x :: .int (nI lt) :: .ref (a 0) :: rest)) :=
  u_run (u_rV (C := RX2) (Ψ := (mP dC dI dA a M)) (As := [.int (nI lt), .int x]) SF hK rk (c_X2_nearAt l dC dI dA a M lt x hlt hS1 hT) (lw_V q2328 q2330 qs94 q117 q2331) (n := 2) (by decide +kernel) rfl (by decide) (va_recv hK hP (ci := 2) (q0 := 0) rfl rfl) hP hsz hcat ⟨Nat.zero_le _, Nat.zero_le _⟩ rfl hdg) k
end TW
