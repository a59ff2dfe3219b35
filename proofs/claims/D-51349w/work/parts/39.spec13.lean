/-! SPEC 13: what a line keeps -/
def RT (M M' : Nat → Nat → Int32) : Prop := (∀ r, r ≠ 0 → r ≠ 1 → r ≠ 2 → M' r = M r) ∧ ∀ k, (k < 12 ∨ k = 18 ∨ 19 < k) → M' 0 k = M 0 k
theorem RT.rf {M : Nat → Nat → Int32} : RT M M := ⟨fun _ _ _ _ => rfl, fun _ _ => rfl⟩
theorem RT.tr {A B C : Nat → Nat → Int32} (h : RT A B) (h1 : RT B C) : RT A C := ⟨fun r q1 q2 q3 => (h1.1 r q1 q2 q3).trans (h.1 r q1 q2 q3), fun k q => (h1.2 k q).trans (h.2 k q)⟩
theorem RS.rt {A B : Nat → Nat → Int32} (h : RS A B) : RT A B := ⟨fun r q _ _ => h.1 r q, fun k q => h.2 k (by omega)⟩
theorem RT.r1 {M : Nat → Nat → Int32} {f : Nat → Int32} : RT M (mrow M 1 f) := ⟨fun _ _ q _ => mrow_ne q, fun _ _ => rfl⟩
theorem RT.r2 {M : Nat → Nat → Int32} {f : Nat → Int32} : RT M (mrow M 2 f) := ⟨fun _ _ _ q => mrow_ne q, fun _ _ => rfl⟩
theorem RT_bl {M M' : Nat → Nat → Int32} (h : RT M M') : bl M' = bl M := by unfold bl; rw [h.2 11 (by omega)]
/-- well read so far -/
def RI (M : Nat → Nat → Int32) : Prop := PW M ∧ SWf (M 2) ∧ TWf (M 1)
theorem tok_nx {M : Nat → Nat → Int32} (h : PW0 M) : nx M ≤ nx (tokM M) ∧ (¬ tokM M 0 14 = 0 → nx M < nx (tokM M)) := by
  have h1 := spE_le h
  have h2 := smE_le h
  have h3 := nuE_ok h
  have hb := h.2.1
  by_cases c1 : sn M (spE M) = -1
  · rw [tok_e c1]
    have e : nx (t3 M (spE M) (spE M) 0) = spE M := nI_clamp (by omega)
    rw [e]
    exact ⟨h1.1, fun q => absurd (show nI 0 = 0 from nI_0) q⟩
  · have hl := sn_in c1
    cases c2 : smI (sn M (spE M)) with
    | true =>
      rw [tok_w c1 c2]
      have e : ∀ z, nx (t3 M (smE M) (spE M) z) = smE M := fun z => nI_clamp (by omega)
      rw [e]
      have e2 : smE M = runE (fun i => smI (sn M i)) (bl M) (spE M + 1) := runE_t c2
      have h4 := runE_le (q := fun i => smI (sn M i)) (b := bl M) (fun _ hi => sn_sm hi) (bl M) (spE M + 1) (by omega)
      rw [← e2] at h4
      exact ⟨by omega, fun _ => by omega⟩
    | false =>
      cases c3 : sgI (sn M (spE M)) with
      | true =>
        rw [tok_n c1 c2 c3]
        have e : ∀ z v, nx (t4 M (nuE M).1 (spE M) z v) = (nuE M).1 := fun z v => nI_clamp (by omega)
        rw [e]
        have h4 : spE M + 1 ≤ (nuE M).1 := by
          unfold nuE
          rw [numE, if_pos c3]
          have go : ∀ d v, (d = true → spE M + 1 - spE M ≤ 4 → ∃ w, w < 10 ^ (spE M + 1 - spE M) ∧ v = nI w) → spE M + 1 ≤ (numE M (spE M) (bl M) (spE M + 1) d v).1 := fun d v q => (numE_ok (bl M) (spE M + 1) d v (by omega) (by omega) (by omega) (fun j q1 q2 => by rw [show j = spE M by omega]; exact c3) q).1
          by_cases hd : (true && dgI (sn M (spE M))) = true
          · rw [if_pos hd, if_pos (by omega)]
            refine go _ _ (fun _ _ => ?_)
            have g := numE_ok (M := M) (i0 := spE M) (bl M + 1) (spE M) true (nI 0) h1.2 (Nat.le_refl _) (by omega) (fun j q1 q2 => by omega) (fun _ _ => ⟨0, by rw [Nat.sub_self]; decide, rfl⟩)
            have hg := hd
            rw [Bool.true_and, dgI, Bool.and_eq_true] at hg
            have a1 : ¬ sn M (spE M) < nI 48 := by simpa using hg.1
            have a2 : ¬ nI 57 < sn M (spE M) := by simpa using hg.2
            have k1 : (nI 48).toInt = 48 := by decide
            have k2 : (nI 57).toInt = 57 := by decide
            rw [Int32.lt_iff_toInt_lt, k1] at a1
            rw [Int32.lt_iff_toInt_lt, k2] at a2
            obtain ⟨z, z2, zs, z3⟩ := inZ_n (x := sn M (spE M)) (U := 57) (by unfold inZ; rw [Bool.and_eq_true, decide_eq_true_eq, decide_eq_true_eq]; omega)
            have z1 : 48 ≤ z := by have := nI_toInt zs; rw [← z3] at this; omega
            refine ⟨10 * 0 + z - 48, by rw [show spE M + 1 - spE M = 1 by omega]; omega, ?_⟩
            rw [z3, pk_mul, nI_add]
            exact pk_sub (by omega)
          · rw [if_neg hd]
            exact go _ _ (fun q => by cases q)
        exact ⟨by omega, fun _ => by omega⟩
      | false =>
        rw [tok_x c1 c2 c3]
        have e : ∀ z, nx (t3 M (spE M + 1) (spE M) z) = spE M + 1 := fun z => nI_clamp (by omega)
        rw [e]
        exact ⟨by omega, fun _ => by omega⟩
theorem fail_nx {M : Nat → Nat → Int32} {c : Int32} : nx (failM M c) = nx M := by
  unfold failM
  split <;> rfl
theorem fi_nx {M : Nat → Nat → Int32} {b : Bool} {c : Int32} : nx (fiM M b c) = nx M := by
  unfold fiM
  split
  · exact fail_nx
  · rfl
theorem go_nx {M : Nat → Nat → Int32} (h : PW M) : nx M ≤ nx (goM M) := by
  unfold goM
  split
  · exact (tok_nx h.p0).1
  · exact Nat.le_refl _
theorem look_nx {M : Nat → Nat → Int32} {lo hi : Int} : nx (lookM M lo hi) = nx M := by
  unfold lookM
  split
  · exact fail_nx
  · split
    · rfl
    · exact fail_nx
theorem tak_nx {M : Nat → Nat → Int32} {lo hi : Int32} (h : PW M) : nx M ≤ nx (takM M lo hi) := by
  have q := go_nx (look_wf (lo := lo.toInt) (hi := hi.toInt) h).1
  rw [look_nx] at q
  exact q
theorem twL_nx {M : Nat → Nat → Int32} {x : Int32} : ∀ k, nx (twL M x k) = nx M
  | 0 => rfl
  | k + 1 => by
    show nx (fiM _ _ _) = _
    rw [fi_nx, twL_nx k]
theorem twE_nx {M : Nat → Nat → Int32} (h : PW M) : nx M ≤ nx (twE M) := by
  have a1 := go_nx (fi_wf (b := decide (tn (M 1) = 12) || !decide (M 0 19 = 0)) (c := nI 4) h).1
  rw [fi_nx] at a1
  have a2 := go_nx (twL_wf (x := twV M) (twB_wf h).1 (tn (M 1))).1
  rw [twL_nx, show nx (twB M) = nx (twA M) from look_nx] at a2
  exact Nat.le_trans a1 (Nat.le_trans a2 (tak_nx (twD_wf h).1))
theorem TWf_add {Hd : Nat → Int32} {x r : Int32} (h : TWf Hd) (ht : tn Hd < 12) (hx : x = nI (cN x) ∧ cN x ≤ 9999) (hr : r = nI (cN r) ∧ cN r ≤ 5) : TWf (twH Hd (tn Hd) x r) ∧ tn (twH Hd (tn Hd) x r) = tn Hd + 1 := by
  have e1 : twH Hd (tn Hd) x r 1 = nI (tn Hd + 1) := by
    unfold twH
    rw [upd_eq, upd_ne (by omega), upd_ne (by omega), h.1, nI_add]
  have e : tn (twH Hd (tn Hd) x r) = tn Hd + 1 := by
    show (twH Hd (tn Hd) x r 1).toNatClampNeg = _
    rw [e1]
    exact nI_clamp (by omega)
  refine ⟨⟨by rw [e, e1], by omega, fun t h1 => ?_⟩, e⟩
  rw [e] at h1
  by_cases q : t = tn Hd
  · have n1 : twH Hd (tn Hd) x r (2 + t) = x := by unfold twH; rw [q, upd_ne (by omega), upd_ne (by omega), upd_eq]
    have n2 : twH Hd (tn Hd) x r (14 + t) = r := by unfold twH; rw [q, upd_ne (by omega), upd_eq]
    have n3 : num (twH Hd (tn Hd) x r) t = cN x := by unfold num; rw [n1]; rfl
    have n4 : rou (twH Hd (tn Hd) x r) t = cN r := by unfold rou; rw [n2]; rfl
    rw [n1, n2, n3, n4]
    exact ⟨hx.1, by omega, hr.1, by omega⟩
  · have a := h.2.2 t (by omega)
    have n1 : twH Hd (tn Hd) x r (2 + t) = Hd (2 + t) := by unfold twH; rw [upd_ne (by omega), upd_ne (by omega), upd_ne (by omega)]
    have n2 : twH Hd (tn Hd) x r (14 + t) = Hd (14 + t) := by unfold twH; rw [upd_ne (by omega), upd_ne (by omega), upd_ne (by omega)]
    have n3 : num (twH Hd (tn Hd) x r) t = num Hd t := by unfold num; rw [n1]
    have n4 : rou (twH Hd (tn Hd) x r) t = rou Hd t := by unfold rou; rw [n2]
    rw [n1, n2, n3, n4]
    exact a
theorem RI_r2 {M X : Nat → Nat → Int32} {f : Nat → Int32} (hw : PW X) (hr : RT M X) (e1 : X 1 = M 1) (hS : SWf f) (hT : TWf (M 1)) (n : nx M ≤ nx X) : RI (mrow X 2 f) ∧ RT M (mrow X 2 f) ∧ nx M ≤ nx (mrow X 2 f) :=
  ⟨⟨hw, hS, (show TWf (X 1) by rw [e1]; exact hT)⟩, hr.tr RT.r2, n⟩
theorem RI_r1 {M X : Nat → Nat → Int32} {f : Nat → Int32} (hw : PW X) (hr : RT M X) (e2 : X 2 = M 2) (hS : SWf (M 2)) (hT : TWf f) (n : nx M ≤ nx X) : RI (mrow X 1 f) ∧ RT M (mrow X 1 f) ∧ nx M ≤ nx (mrow X 1 f) :=
  ⟨⟨hw, (show SWf (X 2) by rw [e2]; exact hS), hT⟩, hr.tr RT.r1, n⟩
theorem RI_0 {M X : Nat → Nat → Int32} (h : RI M) (hw : PW X) (hr : RT M X) (e1 : X 1 = M 1) (e2 : X 2 = M 2) (n : nx M ≤ nx X) : RI X ∧ RT M X ∧ nx M ≤ nx X :=
  ⟨⟨hw, by rw [e2]; exact h.2.1, by rw [e1]; exact h.2.2⟩, hr, n⟩
theorem town_wf {M : Nat → Nat → Int32} (h : RI M) : RI (townM M) ∧ RT M (townM M) ∧ nx M ≤ nx (townM M) := by
  have w := twE_wf h.1
  have e1 : twE M 1 = M 1 := w.2.1 1 (by decide)
  have e2 : twE M 2 = M 2 := w.2.1 2 (by decide)
  have n := twE_nx h.1
  unfold townM
  by_cases c : twE M 0 16 = 0
  · rw [if_pos c]
    have hok := twE_ok h.1 c
    have v1 := lookV_ok (M := twA M) (a := 0) (b := 9999) (by decide) (by decide)
    have v2 := lookV_ok (M := twD M) (a := 0) (b := 5) (by decide) (by decide)
    have ht := h.2.2.2.1
    have a := TWf_add (x := twV M) (r := twR M) h.2.2 (by have := hok.1; omega) ⟨v1.1, v1.2.2⟩ ⟨v2.1, v2.2.2⟩
    exact RI_r1 w.1 w.2.rt e2 h.2.1 (by rw [e1]; exact a.1) n
  · rw [if_neg c]
    exact RI_0 h w.1 w.2.rt e1 e2 n
theorem sum_wf {M : Nat → Nat → Int32} (h : RI M) : RI (sumM M) ∧ RT M (sumM M) ∧ nx M ≤ nx (sumM M) := by
  have w := suE_wf h.1
  have e1 : suE M 1 = M 1 := w.2.1 1 (by decide)
  have e2 : suE M 2 = M 2 := w.2.1 2 (by decide)
  have n : nx M ≤ nx (suE M) := Nat.le_trans (go_nx h.1) (Nat.le_trans (tak_nx (go_wf h.1).1) (tak_nx (suB_wf h.1).1))
  unfold sumM
  by_cases c : suE M 0 16 = 0
  · rw [if_pos c]
    have v1 := lookV_ok (M := goM M) (a := 0) (b := 5) (by decide) (by decide)
    exact RI_r2 w.1 w.2.rt e1 (by rw [e2]; exact SWf_low h.2.1 (by omega) (by omega)) h.2.2 n
  · rw [if_neg c]
    exact RI_0 h w.1 w.2.rt e1 e2 n
theorem clo_wf {M : Nat → Nat → Int32} (h : RI M) : RI (cloM M) ∧ RT M (cloM M) ∧ nx M ≤ nx (cloM M) := by
  have w := suB_wf h.1
  have e1 : suB M 1 = M 1 := w.2.1 1 (by decide)
  have e2 : suB M 2 = M 2 := w.2.1 2 (by decide)
  have n : nx M ≤ nx (suB M) := Nat.le_trans (go_nx h.1) (tak_nx (go_wf h.1).1)
  have v1 := lookV_ok (M := goM M) (a := 0) (b := 5) (by decide) (by decide)
  have g : ∀ y, SWf (upd (suB M 2) (9 + cN (lookV (goM M) (nI 0) (nI 5))) y) := fun y => by rw [e2]; exact SWf_low h.2.1 (by omega) (by omega)
  exact RI_r2 (X := suB M) w.1 w.2.rt e1 (g _) h.2.2 n
theorem soA_rt {M : Nat → Nat → Int32} : RT M (soA M) := ⟨fun r q1 _ q3 => (mrow_ne q3).trans (mrow_ne q1), fun k q => by show upd _ _ _ k = _; rw [upd_ne (by omega)]⟩
theorem sor_wf {M : Nat → Nat → Int32} (h : RI M) : RI (goM (soA M)) ∧ RT M (goM (soA M)) ∧ nx M ≤ nx (goM (soA M)) := by
  have hs : PW (soA M) := soA_pw h.1
  have w := go_wf hs
  have e1 : goM (soA M) 1 = M 1 := w.2.1.1 1 (by decide)
  have e2 : goM (soA M) 2 = sAl (M 2) (M 1) := w.2.1.1 2 (by decide)
  have n : nx M ≤ nx (goM (soA M)) := go_nx hs
  exact ⟨⟨w.1, by rw [e2]; exact sAll_wf h.2.2 h.2.1 _, by rw [e1]; exact h.2.2⟩, soA_rt.tr w.2.1.rt, n⟩
theorem nw_off {S : Nat → Int32} {k i : Nat} {b : Int32} (h2 : i ≠ 2) (h : i < 33 + 10 * k + 5 ∨ 33 + 10 * k + 9 < i) : nwS S k b i = S i := by
  unfold nwS
  rw [upd_ne h2, upd_ne (by omega), upd_ne (by omega), upd_ne (by omega), upd_ne (by omega), upd_ne (by omega)]
theorem SWf_add {S : Nat → Int32} {b : Int32} (h : SWf S) (hl : ln S < 24) (hb : b = nI (cN b) ∧ cN b ≤ 5) (hr : ∀ p, p < 5 → rdOK (lr S (ln S) p)) : SWf (nwS S (ln S) b) ∧ ln (nwS S (ln S) b) = ln S + 1 := by
  have e2 : nwS S (ln S) b 2 = nI (ln S + 1) := upd_eq
  have e : ln (nwS S (ln S) b) = ln S + 1 := by
    show (nwS S (ln S) b 2).toNatClampNeg = _
    rw [e2]; exact nI_clamp (by omega)
  have e0 : nwS S (ln S) b 0 = S 0 := nw_off (by omega) (by omega)
  have el : lim (nwS S (ln S) b) = lim S := by unfold lim; rw [e0]
  refine ⟨⟨by rw [e, e2], by omega, by rw [el, e0]; exact h.2.2.1, by rw [el]; exact h.2.2.2.1, fun lt q => ?_⟩, e⟩
  rw [e] at q
  by_cases c : lt = ln S
  · have r5 : lr (nwS S (ln S) b) lt 5 = b := by
      show nwS S (ln S) b (33 + 10 * lt + 5) = b
      rw [c]
      unfold nwS
      rw [upd_ne (by omega), upd_ne (by omega), upd_ne (by omega), upd_ne (by omega), upd_ne (by omega), upd_eq]
    have eb : bun (nwS S (ln S) b) lt = cN b := by unfold bun; rw [r5]; rfl
    refine ⟨fun p hp => ?_, by rw [eb, r5]; exact hb.1, by rw [eb]; omega⟩
    have rp : lr (nwS S (ln S) b) lt p = lr S (ln S) p := by
      show nwS S (ln S) b (33 + 10 * lt + p) = S (33 + 10 * ln S + p)
      rw [c]; exact nw_off (by omega) (by omega)
    rw [rp]; exact hr p hp
  · have a := h.2.2.2.2 lt (by omega)
    have rp : ∀ p, p < 6 → lr (nwS S (ln S) b) lt p = lr S lt p := fun p hp => nw_off (by omega) (by omega)
    have eb : bun (nwS S (ln S) b) lt = bun S lt := by unfold bun; rw [rp 5 (by omega)]
    exact ⟨fun p hp => by rw [rp p (by omega)]; exact a.1 p hp, by rw [eb, rp 5 (by omega)]; exact a.2.1, by rw [eb]; exact a.2.2⟩
theorem ltW_at {M : Nat → Nat → Int32} {lt p : Nat} : ∀ {k}, p < k → ltW M lt k (33 + 10 * lt + p) = if sn M (fr M + p) = nI 63 then -1 else sn M (fr M + p) - nI 48
  | 0, h => absurd h (Nat.not_lt_zero _)
  | k + 1, h => by
    rw [ltW]
    by_cases c : p = k
    · rw [c]; exact upd_eq
    · rw [upd_ne (by omega)]; exact ltW_at (by omega)
theorem sg_rd {x : Int32} (h : sgI x = true) : rdOK (if x = nI 63 then -1 else x - nI 48) := by
  by_cases c : x = nI 63
  · rw [if_pos c]; exact Or.inl rfl
  · rw [if_neg c]
    have hg : dgI x = true := by simpa [sgI, c] using h
    rw [dgI, Bool.and_eq_true] at hg
    have a1 : ¬ x < nI 48 := by simpa using hg.1
    have a2 : ¬ nI 57 < x := by simpa using hg.2
    have k1 : (nI 48).toInt = 48 := by decide
    have k2 : (nI 57).toInt = 57 := by decide
    rw [Int32.lt_iff_toInt_lt, k1] at a1
    rw [Int32.lt_iff_toInt_lt, k2] at a2
    obtain ⟨z, z2, zs, z3⟩ := inZ_n (x := x) (U := 57) (by unfold inZ; rw [Bool.and_eq_true, decide_eq_true_eq, decide_eq_true_eq]; omega)
    have z1 : 48 ≤ z := by have := nI_toInt zs; rw [← z3] at this; omega
    exact Or.inr ⟨z - 48, by omega, by rw [z3]; exact pk_sub (by omega)⟩
theorem lett_wf {M : Nat → Nat → Int32} (h : RI M) : RI (lettM M) ∧ RT M (lettM M) ∧ nx M ≤ nx (lettM M) := by
  have wB := ltB_wf h.1
  have wC := ltC_wf h.1
  have w := ltE_wf h.1
  have rC : RT M (ltC M) := ⟨fun r q1 _ q3 => wC.2.1 r q1 q3, fun k q => wC.2.2.1 k (by omega)⟩
  have eC1 : ltC M 1 = M 1 := wC.2.1 1 (by decide) (by decide)
  have e1 : ltE M 1 = M 1 := (w.2.1 1 (by decide)).trans eC1
  have e2 : ltE M 2 = ltC M 2 := w.2.1 2 (by decide)
  have nC : nx (ltC M) = nx (ltB M) := by unfold ltC; split <;> rfl
  have nB : nx (ltB M) = nx (ltA M) := fi_nx
  have nA := go_nx (fi_wf (b := decide (ln (M 2) = 24)) (c := nI 4) h.1).1
  rw [fi_nx] at nA
  have n : nx M ≤ nx (ltE M) := Nat.le_trans (by rw [nC, nB]; exact nA) (Nat.le_trans (go_nx wC.1) (tak_nx (go_wf wC.1).1))
  have rE : RT M (ltE M) := rC.tr w.2.rt
  have hC2 : SWf (ltC M 2) ∧ ln (ltC M 2) = ln (M 2) := by
    have el : ln (ltC M 2) = ln (M 2) := by unfold ln; rw [wC.2.2.2.1]
    refine ⟨?_, el⟩
    unfold ltC
    split
    · show SWf (ltW (ltB M) (ln (M 2)) 5)
      have eb : ltB M 2 = M 2 := wB.2.1 2 (by decide)
      have off : ∀ i, (i < 33 + 10 * ln (M 2) ∨ 33 + 10 * ln (M 2) + 5 ≤ i) → ltW (ltB M) (ln (M 2)) 5 i = M 2 i := fun i hi => (ltW_off hi).trans (congrFun eb i)
      exact SWf_congr (off 0 (by omega)) (off 2 (by omega)) (fun lt p q1 q2 => off _ (by omega)) h.2.1
    · rw [wB.2.1 2 (by decide)]; exact h.2.1
  unfold lettM
  by_cases c : ltE M 0 16 = 0
  · rw [if_pos c]
    have h0 := lt_bad h.1 c
    have hok := ltB_ok h.1 h0
    have v := lookV_ok (M := ltD M) (a := 0) (b := 5) (by decide) (by decide)
    have hl := h.2.1.2.1
    have a := SWf_add (b := ltV M) hC2.1 (by rw [hC2.2]; have := hok.2.1; omega) ⟨v.1, v.2.2⟩ (fun p hp => by
      rw [hC2.2]
      have e : lr (ltC M 2) (ln (M 2)) p = if sn (ltB M) (fr (ltB M) + p) = nI 63 then -1 else sn (ltB M) (fr (ltB M) + p) - nI 48 := by
        unfold ltC
        rw [if_pos h0]
        exact ltW_at hp
      rw [e]
      exact sg_rd ((wB.1.2.2.2.2.2.2.1 hok.1).2 p hp))
    rw [hC2.2, ← e2] at a
    exact RI_r2 w.1 rE e1 a.1 h.2.2 n
  · rw [if_neg c]
    exact ⟨⟨w.1, by rw [e2]; exact hC2.1, by rw [e1]; exact h.2.2⟩, rE, n⟩
theorem line_wf {M : Nat → Nat → Int32} (h : RI M) : RI (lineM M) ∧ RT M (lineM M) ∧ nx M ≤ nx (lineM M) := by
  unfold lineM
  split
  · exact town_wf h
  · split
    · exact lett_wf h
    · split
      · exact sum_wf h
      · split
        · exact clo_wf h
        · split
          · exact sor_wf h
          · have r := RS.fail (M := M) (c := nI 1)
            exact RI_0 h (fail_pw h.1) r.rt (r.1 1 (by decide)) (r.1 2 (by decide)) (Nat.le_of_eq fail_nx.symm)
/-- no word there: the line fails -/
theorem line_end {M : Nat → Nat → Int32} (h : ¬ M 0 14 = nI 1) : ¬ lineM M 0 16 = 0 := by
  have w : ∀ j, wd M j = false := fun j => by simp [wd, wrdB, h]
  rw [lin_6 (w 1) (w 2) (w 3) (w 4) (w 5)]
  exact fail_bad (by decide)
