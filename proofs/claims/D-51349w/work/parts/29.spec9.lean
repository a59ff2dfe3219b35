/-! SPEC 9: the lines -/
theorem inZ_iff {x : Int32} {a b : Nat} (hb : b < 2 ^ 31) (ha : a ≤ b) (h : inZ x.toInt (nI a).toInt (nI b).toInt = true) : x = nI (cN x) ∧ a ≤ cN x ∧ cN x ≤ b := by
  unfold inZ at h
  rw [Bool.and_eq_true, decide_eq_true_eq, decide_eq_true_eq, nI_toInt (by omega), nI_toInt hb] at h
  obtain ⟨z, z1, z2, z3⟩ := inZ_n (x := x) (U := b) (by unfold inZ; rw [Bool.and_eq_true, decide_eq_true_eq, decide_eq_true_eq]; omega)
  have e := nI_toInt z2
  rw [← z3] at e
  have ec : cN x = z := by rw [z3]; exact nI_clamp z2
  rw [ec]
  exact ⟨z3, by omega, by omega⟩
theorem fail_bad {M : Nat → Nat → Int32} {c : Int32} (hc : ¬ c = 0) : ¬ failM M c 0 16 = 0 := by
  unfold failM
  by_cases h : M 0 16 = 0
  · rw [if_pos h]; exact hc
  · rw [if_neg h]; exact h
theorem fi_bad {M : Nat → Nat → Int32} {b : Bool} {c : Int32} (hc : ¬ c = 0) (h : fiM M b c 0 16 = 0) : b = false ∧ fiM M b c = M := by
  unfold fiM at h ⊢
  cases b with
  | false => exact ⟨rfl, rfl⟩
  | true => exact absurd h (fail_bad hc)
theorem look_bad {M : Nat → Nat → Int32} {lo hi : Int} (h : lookM M lo hi 0 16 = 0) : M 0 14 = nI 2 ∧ inZ (M 0 15).toInt lo hi = true ∧ lookM M lo hi = M := by
  unfold lookM at h ⊢
  by_cases c1 : M 0 14 = nI 2
  · rw [if_neg (fun q => q c1)] at h ⊢
    by_cases c2 : inZ (M 0 15).toInt lo hi = true
    · rw [if_pos c2]; exact ⟨c1, c2, rfl⟩
    · rw [if_neg c2] at h; exact absurd h (fail_bad (by decide))
  · rw [if_pos c1] at h; exact absurd h (fail_bad (by decide))
theorem lookV_ok {M : Nat → Nat → Int32} {a b : Nat} (hb : b < 2 ^ 31) (ha : a ≤ b) : lookV M (nI a) (nI b) = nI (cN (lookV M (nI a) (nI b))) ∧ a ≤ cN (lookV M (nI a) (nI b)) ∧ cN (lookV M (nI a) (nI b)) ≤ b := by
  unfold lookV
  by_cases h : lookM M (nI a).toInt (nI b).toInt 0 16 = 0
  · rw [if_pos h]
    have h1 := look_bad h
    rw [h1.2.2]
    exact inZ_iff hb ha h1.2.1
  · rw [if_neg h]
    have e : cN (nI a) = a := nI_clamp (by omega)
    rw [e]
    exact ⟨rfl, Nat.le_refl _, ha⟩
/-- a town's line -/
def twA (M : Nat → Nat → Int32) : Nat → Nat → Int32 := goM (fiM M (decide (tn (M 1) = 12) || !decide (M 0 19 = 0)) (nI 4))
def twV (M : Nat → Nat → Int32) : Int32 := lookV (twA M) (nI 0) (nI 9999)
def twB (M : Nat → Nat → Int32) : Nat → Nat → Int32 := lookM (twA M) (nI 0).toInt (nI 9999).toInt
def twL (M : Nat → Nat → Int32) (c : Int32) : Nat → (Nat → Nat → Int32)
  | 0 => M
  | k + 1 => fiM (twL M c k) (decide (twL M c k 0 16 = 0) && decide (twL M c k 1 (2 + k) = c)) (nI 3)
def twD (M : Nat → Nat → Int32) : Nat → Nat → Int32 := goM (twL (twB M) (twV M) (tn (M 1)))
def twR (M : Nat → Nat → Int32) : Int32 := lookV (twD M) (nI 0) (nI 5)
def twE (M : Nat → Nat → Int32) : Nat → Nat → Int32 := takM (twD M) (nI 0) (nI 5)
def twH (Hd : Nat → Int32) (t : Nat) (x r : Int32) : Nat → Int32 := upd (upd (upd Hd (2 + t) x) (14 + t) r) 1 (upd (upd Hd (2 + t) x) (14 + t) r 1 + nI 1)
def townM (M : Nat → Nat → Int32) : Nat → Nat → Int32 := if twE M 0 16 = 0 then mrow (twE M) 1 (twH (twE M 1) (tn (M 1)) (twV M) (twR M)) else twE M
theorem twL_wf {M : Nat → Nat → Int32} {x : Int32} (h : PW M) : ∀ k, PW (twL M x k) ∧ RS M (twL M x k)
  | 0 => ⟨h, RS.rf⟩
  | k + 1 => by
    have q := twL_wf (x := x) h k
    exact ⟨(fi_wf q.1).1, q.2.tr (fi_wf q.1).2⟩
theorem twA_wf {M : Nat → Nat → Int32} (h : PW M) : PW (twA M) ∧ RS M (twA M) := ⟨(go_wf (fi_wf h).1).1, (fi_wf h).2.tr (go_wf (fi_wf h).1).2.1⟩
theorem twB_wf {M : Nat → Nat → Int32} (h : PW M) : PW (twB M) ∧ RS M (twB M) := ⟨(look_wf (twA_wf h).1).1, (twA_wf h).2.tr (look_wf (twA_wf h).1).2⟩
theorem twD_wf {M : Nat → Nat → Int32} (h : PW M) : PW (twD M) ∧ RS M (twD M) := by
  have q := twL_wf (x := twV M) (twB_wf h).1 (tn (M 1))
  exact ⟨(go_wf q.1).1, ((twB_wf h).2.tr q.2).tr (go_wf q.1).2.1⟩
theorem twE_wf {M : Nat → Nat → Int32} (h : PW M) : PW (twE M) ∧ RS M (twE M) := ⟨(tak_wf (twD_wf h).1).1, (twD_wf h).2.tr (tak_wf (twD_wf h).1).2⟩
/-- a letter's line -/
def ltA (M : Nat → Nat → Int32) : Nat → Nat → Int32 := goM (fiM M (decide (ln (M 2) = 24)) (nI 4))
def ltB (M : Nat → Nat → Int32) : Nat → Nat → Int32 := fiM (ltA M) (!decide (ltA M 0 14 = nI 5)) (nI 1)
def ltW (M : Nat → Nat → Int32) (lt : Nat) : Nat → (Nat → Int32)
  | 0 => M 2
  | k + 1 => upd (ltW M lt k) (33 + 10 * lt + k) (if sn M (fr M + k) = nI 63 then -1 else sn M (fr M + k) - nI 48)
def ltC (M : Nat → Nat → Int32) : Nat → Nat → Int32 := if ltB M 0 16 = 0 then mrow (ltB M) 2 (ltW (ltB M) (ln (M 2)) 5) else ltB M
def ltD (M : Nat → Nat → Int32) : Nat → Nat → Int32 := goM (ltC M)
def ltE (M : Nat → Nat → Int32) : Nat → Nat → Int32 := takM (ltD M) (nI 0) (nI 5)
def ltV (M : Nat → Nat → Int32) : Int32 := lookV (ltD M) (nI 0) (nI 5)
def lettM (M : Nat → Nat → Int32) : Nat → Nat → Int32 := if ltE M 0 16 = 0 then mrow (ltE M) 2 (nwS (ltE M 2) (ln (M 2)) (ltV M)) else ltE M
theorem ltA_wf {M : Nat → Nat → Int32} (h : PW M) : PW (ltA M) ∧ RS M (ltA M) := ⟨(go_wf (fi_wf h).1).1, (fi_wf h).2.tr (go_wf (fi_wf h).1).2.1⟩
theorem ltB_wf {M : Nat → Nat → Int32} (h : PW M) : PW (ltB M) ∧ RS M (ltB M) := ⟨(fi_wf (ltA_wf h).1).1, (ltA_wf h).2.tr (fi_wf (ltA_wf h).1).2⟩
theorem ltB_ok {M : Nat → Nat → Int32} (h : PW M) (h0 : ltB M 0 16 = 0) : ltB M 0 14 = nI 5 ∧ ¬ ln (M 2) = 24 ∧ M 0 16 = 0 := by
  have a1 := fi_bad (b := !decide (ltA M 0 14 = nI 5)) (by decide) h0
  have e : ltB M = ltA M := a1.2
  have h1 : ltA M 0 16 = 0 := by rw [← e]; exact h0
  have h2 : fiM M (decide (ln (M 2) = 24)) (nI 4) 0 16 = 0 := by rw [← (go_wf (fi_wf h).1).2.2.1]; exact h1
  have a2 := fi_bad (by decide) h2
  refine ⟨?_, by simpa using a2.1, by rw [a2.2] at h2; exact h2⟩
  rw [e]
  simpa using a1.1
theorem ltW_off {M : Nat → Nat → Int32} {lt i : Nat} : ∀ {k}, (i < 33 + 10 * lt ∨ 33 + 10 * lt + k ≤ i) → ltW M lt k i = M 2 i
  | 0, _ => rfl
  | k + 1, h => by
    rw [ltW, upd_ne (by omega)]
    exact ltW_off (by omega)
theorem ltC_wf {M : Nat → Nat → Int32} (h : PW M) : PW (ltC M) ∧ (∀ r, r ≠ 0 → r ≠ 2 → ltC M r = M r) ∧ (∀ k, (k < 12 ∨ 17 < k) → ltC M 0 k = M 0 k) ∧ ltC M 2 2 = M 2 2 ∧ ltC M 0 16 = ltB M 0 16 := by
  have q := ltB_wf h
  unfold ltC
  split
  · refine ⟨q.1, fun r h1 h2 => (mrow_ne h2).trans (q.2.1 r h1), fun k hk => q.2.2 k hk, ?_, rfl⟩
    show ltW _ _ _ 2 = _
    rw [ltW_off (by omega)]
    exact congrFun (q.2.1 2 (by decide)) 2
  · exact ⟨q.1, fun r h1 _ => q.2.1 r h1, fun k hk => q.2.2 k hk, congrFun (q.2.1 2 (by decide)) 2, rfl⟩
theorem ltE_wf {M : Nat → Nat → Int32} (h : PW M) : PW (ltE M) ∧ RS (ltC M) (ltE M) :=
  ⟨(tak_wf (go_wf (ltC_wf h).1).1).1, (go_wf (ltC_wf h).1).2.1.tr (tak_wf (go_wf (ltC_wf h).1).1).2⟩
/-- a sum's line -/
def suB (M : Nat → Nat → Int32) : Nat → Nat → Int32 := takM (goM M) (nI 0) (nI 5)
def suE (M : Nat → Nat → Int32) : Nat → Nat → Int32 := takM (suB M) (nI 0) (nI 9)
def sumM (M : Nat → Nat → Int32) : Nat → Nat → Int32 := if suE M 0 16 = 0 then mrow (suE M) 2 (upd (suE M 2) (3 + cN (lookV (goM M) (nI 0) (nI 5))) (lookV (suB M) (nI 0) (nI 9))) else suE M
theorem suB_wf {M : Nat → Nat → Int32} (h : PW M) : PW (suB M) ∧ RS M (suB M) := ⟨(tak_wf (go_wf h).1).1, (go_wf h).2.1.tr (tak_wf (go_wf h).1).2⟩
theorem suE_wf {M : Nat → Nat → Int32} (h : PW M) : PW (suE M) ∧ RS M (suE M) := ⟨(tak_wf (suB_wf h).1).1, (suB_wf h).2.tr (tak_wf (suB_wf h).1).2⟩
theorem lt_exit {dC : Nat → ClassId} {dI : Nat → Nat → Nat} {dA : Nat → ClassId} {a : Nat → Nat} {M MB : Nat → Nat → Int32} {H : Heap} {k : Nat} (eB : MB = ltB M) (hk : k ≤ 5) (h0 : 0 < k → MB 0 16 = 0) (hx : ¬ MB 0 16 = 0 ∨ ¬ k < 5) (hP : mP dC dI dA a (mrow MB 2 (ltW MB (ln (M 2)) k)) H) : mP dC dI dA a (ltC M) H := by
  unfold ltC
  rw [← eB]
  by_cases hb : MB 0 16 = 0
  · have e : k = 5 := by
      rcases hx with q | q
      · exact absurd hb q
      · omega
    rw [if_pos hb, ← e]
    exact hP
  · have e : k = 0 := by
      by_cases q : 0 < k
      · exact absurd (h0 q) hb
      · omega
    rw [if_neg hb]
    subst e
    exact hP
theorem lt_bad {M : Nat → Nat → Int32} (h : PW M) (h0 : ltE M 0 16 = 0) : ltB M 0 16 = 0 := by
  have w := (ltC_wf h)
  have h1 : lookM (ltD M) (nI 0).toInt (nI 5).toInt 0 16 = 0 := ((go_wf (look_wf (lo := (nI 0).toInt) (hi := (nI 5).toInt) (go_wf w.1).1).1).2.2.1).symm.trans h0
  have h2 := look_bad h1
  rw [h2.2.2] at h1
  rw [← w.2.2.2.2, ← (go_wf w.1).2.2.1]
  exact h1
theorem su_bad {M : Nat → Nat → Int32} (h : PW M) {lo hi : Int32} (h0 : takM M lo hi 0 16 = 0) : M 0 16 = 0 := by
  have h1 : lookM M lo.toInt hi.toInt 0 16 = 0 := ((go_wf (look_wf (lo := lo.toInt) (hi := hi.toInt) h).1).2.2.1).symm.trans h0
  have h2 := look_bad h1
  rw [h2.2.2] at h1
  exact h1
theorem twL_ok {M : Nat → Nat → Int32} {x : Int32} : ∀ {k}, twL M x k 0 16 = 0 → twL M x k = M ∧ ∀ j, j < k → ¬ M 1 (2 + j) = x
  | 0, _ => ⟨rfl, fun _ h => absurd h (Nat.not_lt_zero _)⟩
  | k + 1, h => by
    have q := fi_bad (by decide) h
    have e : twL M x (k + 1) = twL M x k := q.2
    rw [e] at h ⊢
    have r := twL_ok h
    refine ⟨r.1, fun j hj => ?_⟩
    by_cases z : j = k
    · have q1 := q.1
      rw [decide_eq_true h, r.1] at q1
      rw [z]
      simpa using q1
    · exact r.2 j (by omega)
theorem twE_ok {M : Nat → Nat → Int32} (h : PW M) (h0 : twE M 0 16 = 0) : ¬ tn (M 1) = 12 ∧ M 0 19 = 0 ∧ M 0 16 = 0 ∧ twA M 0 14 = nI 2 ∧ twA M = tokM M ∧ twB M = tokM M ∧ twD M = tokM (tokM M) ∧ ∀ j, j < tn (M 1) → ¬ M 1 (2 + j) = twV M := by
  have h1 : twD M 0 16 = 0 := su_bad (twD_wf h).1 h0
  have h2 : twL (twB M) (twV M) (tn (M 1)) 0 16 = 0 := ((go_wf (twL_wf (twB_wf h).1 _).1).2.2.1).symm.trans h1
  have a2 := twL_ok h2
  rw [a2.1] at h2
  have a3 := look_bad (M := twA M) h2
  have e3 : twB M = twA M := a3.2.2
  rw [e3] at h2
  have h4 : fiM M (decide (tn (M 1) = 12) || !decide (M 0 19 = 0)) (nI 4) 0 16 = 0 := ((go_wf (fi_wf h).1).2.2.1).symm.trans h2
  have a4 := fi_bad (by decide) h4
  rw [a4.2] at h4
  have e5 : twA M = tokM M := by
    unfold twA
    rw [a4.2, goM, if_pos h4]
  have e6 : twD M = tokM (twB M) := by
    unfold twD
    rw [a2.1, goM, if_pos (by rw [e3]; exact h2)]
  have q := a4.1
  rw [Bool.or_eq_false_iff] at q
  refine ⟨by simpa using q.1, by simpa using q.2, h4, a3.1, e5, by rw [e3, e5], by rw [e6, e3, e5], fun j hj => ?_⟩
  have r := a2.2 j hj
  rw [(twB_wf h).2.1 1 (by decide)] at r
  exact r
