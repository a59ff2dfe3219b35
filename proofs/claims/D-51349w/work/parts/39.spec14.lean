/-! SPEC 14: reading all -/
def fz (f : Nat → Int32) (k : Nat) : Nat → Int32 := fun i => if i < k then nI 0 else f i
theorem fz_0 {f : Nat → Int32} : fz f 0 = f := by funext i; exact if_neg (by omega)
theorem fz_s {f : Nat → Int32} {k : Nat} : upd (fz f k) k (nI 0) = fz f (k + 1) := by
  funext i
  unfold upd fz
  by_cases h : i = k
  · rw [if_pos h, if_pos (by omega)]
  · rw [if_neg h]
    by_cases h2 : i < k
    · rw [if_pos h2, if_pos (by omega)]
    · rw [if_neg h2, if_neg (by omega)]
theorem fz_at {f : Nat → Int32} {k i : Nat} (h : i < k) : fz f k i = nI 0 := if_pos h
def iniS (f : Nat → Int32) : Nat → (Nat → Int32)
  | 0 => f
  | k + 1 => upd (upd (iniS f k) (3 + k) (-1)) (9 + k) (nI 1)
theorem iniS_off {f : Nat → Int32} {i : Nat} (h : i < 3) : ∀ k, iniS f k i = f i
  | 0 => rfl
  | k + 1 => by rw [iniS, upd_ne (by omega), upd_ne (by omega)]; exact iniS_off h k
def rd0 (M : Nat → Nat → Int32) : Nat → Nat → Int32 := mrow (mrow (mrow M 0 (upd (M 0) 19 (nI 0))) 1 (fz (M 1) 26)) 2 (iniS (fz (M 2) 273) 6)
def rdA (M : Nat → Nat → Int32) : Nat → Nat → Int32 := goM (fiM (rd0 M) (!wd (rd0 M) 0) (nI 1))
def rdB (M : Nat → Nat → Int32) : Nat → Nat → Int32 := mrow (takM (rdA M) (nI 0) (nI 8)) 2 (upd (takM (rdA M) (nI 0) (nI 8) 2) 0 (lookV (rdA M) (nI 0) (nI 8)))
def rdH (M : Nat → Nat → Int32) : Nat → Nat → Int32 := mrow (takM (rdB M) (nI 1) (nI 9)) 1 (upd (takM (rdB M) (nI 1) (nI 9) 1) 0 (lookV (rdB M) (nI 1) (nI 9)))
def linesM : Nat → (Nat → Nat → Int32) → (Nat → Nat → Int32)
  | 0, M => M
  | k + 1, M => if M 0 16 = 0 ∧ M 0 14 = nI 3 then linesM k (lineM (tokM M)) else M
def rdE (M : Nat → Nat → Int32) : Nat → Nat → Int32 := linesM (bl M + 3) (rdH M)
def rdD (M : Nat → Nat → Int32) : Nat → Nat → Int32 := fiM (rdE M) (!decide (rdE M 0 14 = 0)) (nI 1)
def readsM (M : Nat → Nat → Int32) : Nat → Nat → Int32 := fiM (rdD M) (decide (tn (rdD M 1) = 0)) (nI 5)
theorem rd0_ri {M : Nat → Nat → Int32} (h : PW M) : RI (rd0 M) ∧ RT M (rd0 M) := by
  have s0 : iniS (fz (M 2) 273) 6 0 = nI 0 := (iniS_off (by omega) 6).trans (fz_at (by omega))
  have s2 : iniS (fz (M 2) 273) 6 2 = nI 0 := (iniS_off (by omega) 6).trans (fz_at (by omega))
  have el : ln (iniS (fz (M 2) 273) 6) = 0 := by unfold ln; rw [s2]; exact nI_clamp (by omega)
  have em : lim (iniS (fz (M 2) 273) 6) = 0 := by unfold lim; rw [s0]; exact nI_clamp (by omega)
  have t1 : fz (M 1) 26 1 = nI 0 := fz_at (by omega)
  have et : tn (fz (M 1) 26) = 0 := by unfold tn; rw [t1]; exact nI_clamp (by omega)
  refine ⟨⟨h, ?_, ?_⟩, ?_⟩
  · show SWf (iniS (fz (M 2) 273) 6)
    exact ⟨by rw [el, s2], by omega, by rw [em, s0], by omega, fun lt q => by omega⟩
  · show TWf (fz (M 1) 26)
    exact ⟨by rw [et, t1], by omega, fun t q => by omega⟩
  · exact ⟨fun r q1 q2 q3 => (mrow_ne q3).trans ((mrow_ne q2).trans (mrow_ne q1)), fun k q => by show upd _ _ _ k = _; rw [upd_ne (by omega)]⟩
theorem RI_s {M X : Nat → Nat → Int32} (h : RI M) (hw : PW X) (hr : RS M X) : RI X := ⟨hw, by rw [hr.1 2 (by decide)]; exact h.2.1, by rw [hr.1 1 (by decide)]; exact h.2.2⟩
theorem rdA_ri {M : Nat → Nat → Int32} (h : PW M) : RI (rdA M) ∧ RT M (rdA M) := by
  have a := rd0_ri h
  have b := fi_wf (b := !wd (rd0 M) 0) (c := nI 1) a.1.1
  have g := go_wf b.1
  exact ⟨RI_s a.1 g.1 (b.2.tr g.2.1), a.2.tr (b.2.tr g.2.1).rt⟩
theorem rdB_ri {M : Nat → Nat → Int32} (h : PW M) : RI (rdB M) ∧ RT M (rdB M) := by
  have a := rdA_ri h
  have b := tak_wf (lo := nI 0) (hi := nI 8) a.1.1
  have v := lookV_ok (M := rdA M) (a := 0) (b := 8) (by decide) (by decide)
  have e2 : takM (rdA M) (nI 0) (nI 8) 2 = rdA M 2 := b.2.1 2 (by decide)
  have s : SWf (upd (takM (rdA M) (nI 0) (nI 8) 2) 0 (lookV (rdA M) (nI 0) (nI 8))) := by
    rw [e2, v.1]; exact SWf_lim a.1.2.1 v.2.2
  have r := RI_r2 (M := takM (rdA M) (nI 0) (nI 8)) (X := takM (rdA M) (nI 0) (nI 8)) b.1 RT.rf rfl s (by rw [b.2.1 1 (by decide)]; exact a.1.2.2) (Nat.le_refl _)
  exact ⟨r.1, (a.2.tr b.2.rt).tr r.2.1⟩
theorem rdH_ri {M : Nat → Nat → Int32} (h : PW M) : RI (rdH M) ∧ RT M (rdH M) := by
  have a := rdB_ri h
  have b := tak_wf (lo := nI 1) (hi := nI 9) a.1.1
  have e1 : takM (rdB M) (nI 1) (nI 9) 1 = rdB M 1 := b.2.1 1 (by decide)
  have r := RI_r1 (M := takM (rdB M) (nI 1) (nI 9)) (X := takM (rdB M) (nI 1) (nI 9)) (f := upd (takM (rdB M) (nI 1) (nI 9) 1) 0 (lookV (rdB M) (nI 1) (nI 9))) b.1 RT.rf rfl (by rw [b.2.1 2 (by decide)]; exact a.1.2.1) (by rw [e1]; exact TWf_bag a.1.2.2) (Nat.le_refl _)
  exact ⟨r.1, (a.2.tr b.2.rt).tr r.2.1⟩
theorem tok_ri {M : Nat → Nat → Int32} (h : RI M) : RI (tokM M) := RI_s h (tok_wf h.1.p0).1 (tok_wf h.1.p0).2.1
theorem lines_ri : ∀ k {M : Nat → Nat → Int32}, RI M → RI (linesM k M) ∧ RT M (linesM k M)
  | 0, _, h => ⟨h, RT.rf⟩
  | k + 1, M, h => by
    rw [linesM]
    split
    · have a := line_wf (tok_ri h)
      have b := lines_ri k a.1
      exact ⟨b.1, (((tok_wf h.1.p0).2.1.rt).tr a.2.1).tr b.2⟩
    · exact ⟨h, RT.rf⟩
theorem rdE_ri {M : Nat → Nat → Int32} (h : PW M) : RI (rdE M) ∧ RT M (rdE M) := by
  have a := rdH_ri h
  have b := lines_ri (bl M + 3) a.1
  exact ⟨b.1, a.2.tr b.2⟩
theorem rdD_ri {M : Nat → Nat → Int32} (h : PW M) : RI (rdD M) ∧ RT M (rdD M) := by
  have a := rdE_ri h
  have b := fi_wf (b := !decide (rdE M 0 14 = 0)) (c := nI 1) a.1.1
  exact ⟨RI_s a.1 b.1 b.2, a.2.tr b.2.rt⟩
theorem reads_ri {M : Nat → Nat → Int32} (h : PW M) : RI (readsM M) ∧ RT M (readsM M) := by
  have a := rdD_ri h
  have b := fi_wf (b := decide (tn (rdD M 1) = 0)) (c := nI 5) a.1.1
  exact ⟨RI_s a.1 b.1 b.2, a.2.tr b.2.rt⟩
/-- one more line: what it leaves of the measure -/
theorem line_go {N : Nat → Nat → Int32} {b k0 : Nat} (h : RI N) (hb : bl N = b) (h0 : N 0 16 = 0) (hk : N 0 16 = 0 → b + 1 < nx N + (k0 + 1)) : RI (lineM (tokM N)) ∧ bl (lineM (tokM N)) = b ∧ 1 ≤ k0 ∧ (lineM (tokM N) 0 16 = 0 → b + 1 < nx (lineM (tokM N)) + k0) := by
  have a := line_wf (tok_ri h)
  have n1 := h.1.2.2.2.1
  have n2 := hk h0
  refine ⟨a.1, (RT_bl a.2.1).trans ((RT_bl (tok_wf h.1.p0).2.1.rt).trans hb), by omega, fun q => ?_⟩
  have h14 : tokM N 0 14 = nI 1 := Classical.byContradiction (fun z => line_end z q)
  have n3 := (tok_nx h.1.p0).2 (by rw [h14]; decide)
  have n4 := a.2.2
  omega
