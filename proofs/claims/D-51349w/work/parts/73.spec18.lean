/-! SPEC 18: where the class goes another way: closest, margin -/
/-- the distance of the closest so far -/
def clD (Hd : Nat → Int32) (t k : Nat) : Nat := match clN Hd t k with
  | none => 11
  | some b => apr Hd t b
theorem apr_10 (Hd : Nat → Int32) (t u : Nat) : apr Hd t u ≤ 10 := sumN_le 5 (fun _ _ => cst_le _ _)
theorem clD_le {Hd : Nat → Int32} {t k : Nat} : clD Hd t k ≤ 11 := by
  unfold clD
  split
  · exact Nat.le_refl _
  · rename_i b _
    exact Nat.le_trans (apr_10 Hd t b) (by omega)
theorem clN_hit {Hd : Nat → Int32} {t k : Nat} (h : ¬ k = t) (hl : apr Hd t k < clD Hd t k) : clN Hd t (k + 1) = some k := by
  rw [clN, if_neg h]
  unfold clD at hl
  cases hE : clN Hd t k with
  | none => rfl
  | some b => rw [hE] at hl; exact if_pos hl
theorem clN_mis {Hd : Nat → Int32} {t k : Nat} (h : k = t ∨ ¬ apr Hd t k < clD Hd t k) : clN Hd t (k + 1) = clN Hd t k := by
  rw [clN]
  by_cases e : k = t
  · rw [if_pos e]
  · rw [if_neg e]
    have hl := h.resolve_left e
    unfold clD at hl
    cases hE : clN Hd t k with
    | none =>
      rw [hE] at hl
      have := apr_10 Hd t k
      exact absurd (show apr Hd t k < 11 by omega) hl
    | some b => rw [hE] at hl; exact if_neg hl
theorem clD_hit {Hd : Nat → Int32} {t k : Nat} (h : ¬ k = t) (hl : apr Hd t k < clD Hd t k) : clD Hd t (k + 1) = apr Hd t k := by
  rw [clD, clN_hit h hl]
theorem clD_mis {Hd : Nat → Int32} {t k : Nat} (h : k = t ∨ ¬ apr Hd t k < clD Hd t k) : clD Hd t (k + 1) = clD Hd t k := by
  rw [clD, clN_mis h, clD]
/-- the second least -/
def min2 (f : Nat → Nat) : Nat → Nat
  | 0 => 11
  | k + 1 => min (min2 f k) (max (minN f 11 k) (f k))
theorem min2_le (f : Nat → Nat) : ∀ k, min2 f k ≤ 11
  | 0 => Nat.le_refl _
  | k + 1 => by have := min2_le f k; rw [min2]; omega
theorem minN_cnt {f : Nat → Nat} {v : Nat} (hv : v ≤ 10) : ∀ k, minN f 11 k ≤ v ↔ 1 ≤ cntN (fun i => decide (f i ≤ v)) k
  | 0 => by simp only [minN, cntN]; omega
  | k + 1 => by
    have h := minN_cnt (f := f) hv k
    rw [minN, cntN]
    by_cases e : f k ≤ v
    · rw [decide_eq_true e]; show _ ↔ 1 ≤ _ + 1; omega
    · rw [decide_eq_false e]; show _ ↔ 1 ≤ _ + 0; omega
theorem min2_cnt {f : Nat → Nat} {v : Nat} (hv : v ≤ 10) : ∀ k, min2 f k ≤ v ↔ 2 ≤ cntN (fun i => decide (f i ≤ v)) k
  | 0 => by simp only [min2, cntN]; omega
  | k + 1 => by
    have h := min2_cnt (f := f) hv k
    have h1 := minN_cnt (f := f) hv k
    rw [min2, cntN]
    by_cases e : f k ≤ v
    · rw [decide_eq_true e]; show _ ↔ 2 ≤ _ + 1; omega
    · rw [decide_eq_false e]; show _ ↔ 2 ≤ _ + 0; omega
theorem minN_min2 (f : Nat → Nat) : ∀ k, minN f 11 k ≤ min2 f k
  | 0 => Nat.le_refl _
  | k + 1 => by have := minN_min2 f k; rw [minN, min2]; omega
theorem scN_spec {S Hd : Nat → Int32} {lt : Nat} : ∀ {k : Nat}, match scN S Hd lt k with
    | none => ∀ i, i < k → farT S Hd lt i ≤ lst S Hd lt
    | some x => (∃ i, i < k ∧ farT S Hd lt i = x) ∧ lst S Hd lt < x ∧ ∀ i, i < k → lst S Hd lt < farT S Hd lt i → x ≤ farT S Hd lt i
  | 0 => fun i h => absurd h (Nat.not_lt_zero i)
  | k + 1 => by
    have h := scN_spec (S := S) (Hd := Hd) (lt := lt) (k := k)
    by_cases c : lst S Hd lt < farT S Hd lt k
    · rw [scN, if_pos c]
      cases hE : scN S Hd lt k with
      | none =>
        rw [hE] at h
        refine ⟨⟨k, by omega, rfl⟩, c, fun i hi hl => ?_⟩
        rcases Nat.lt_succ_iff_lt_or_eq.mp hi with q | q
        · have := h i q; omega
        · subst q; exact Nat.le_refl _
      | some x =>
        rw [hE] at h
        obtain ⟨⟨j, hj, hjx⟩, h2, h3⟩ := h
        by_cases d : farT S Hd lt k < x
        · show match (if farT S Hd lt k < x then some (farT S Hd lt k) else some x) with | none => _ | some x => _
          rw [if_pos d]
          refine ⟨⟨k, by omega, rfl⟩, c, fun i hi hl => ?_⟩
          rcases Nat.lt_succ_iff_lt_or_eq.mp hi with q | q
          · have := h3 i q hl; omega
          · subst q; exact Nat.le_refl _
        · show match (if farT S Hd lt k < x then some (farT S Hd lt k) else some x) with | none => _ | some x => _
          rw [if_neg d]
          refine ⟨⟨j, by omega, hjx⟩, h2, fun i hi hl => ?_⟩
          rcases Nat.lt_succ_iff_lt_or_eq.mp hi with q | q
          · exact h3 i q hl
          · subst q; omega
    · rw [scN, if_neg c]
      cases hE : scN S Hd lt k with
      | none =>
        rw [hE] at h
        intro i hi
        rcases Nat.lt_succ_iff_lt_or_eq.mp hi with q | q
        · exact h i q
        · subst q; omega
      | some x =>
        rw [hE] at h
        obtain ⟨⟨j, hj, hjx⟩, h2, h3⟩ := h
        refine ⟨⟨j, by omega, hjx⟩, h2, fun i hi hl => ?_⟩
        rcases Nat.lt_succ_iff_lt_or_eq.mp hi with q | q
        · exact h3 i q hl
        · subst q; omega
theorem cntN_all {p : Nat → Bool} : ∀ {n : Nat}, (∀ i, i < n → p i = true) → cntN p n = n
  | 0, _ => rfl
  | n + 1, h => by
    rw [cntN, cntN_all (fun i hi => h i (by omega)), h n (by omega)]
    rfl
theorem mgV_eq {S Hd : Nat → Int32} {lt : Nat} (hn : 0 < tn Hd) : mgV S Hd lt = if tn Hd = 1 then -1 else nI (min2 (farT S Hd lt) (tn Hd) - minN (farT S Hd lt) 11 (tn Hd)) := by
  obtain ⟨n, hn1⟩ : ∃ n, tn Hd = n + 1 := ⟨tn Hd - 1, by omega⟩
  have hm : minN (farT S Hd lt) 11 (tn Hd) = lst S Hd lt := by
    unfold lst; rw [hn1]; exact minN_11 (fun i => farT_le S Hd lt i) n
  have hl10 : lst S Hd lt ≤ 10 := minN_le _ _ _
  have hlo : ∀ i, i < tn Hd → lst S Hd lt ≤ farT S Hd lt i := fun i hi => minN_lef _ _ _ i hi
  have hmy : mny S Hd lt = cntN (fun i => decide (farT S Hd lt i ≤ lst S Hd lt)) (tn Hd) := cntN_congr (fun i hi => by
    have := hlo i hi
    by_cases e : farT S Hd lt i = lst S Hd lt
    · rw [decide_eq_true e, decide_eq_true (by omega)]
    · rw [decide_eq_false e, decide_eq_false (by omega)])
  have h1 := (minN_cnt (f := farT S Hd lt) hl10 (tn Hd)).mp (by omega)
  have h2 := min2_cnt (f := farT S Hd lt) hl10 (tn Hd)
  have h3 := minN_min2 (farT S Hd lt) (tn Hd)
  have hmn : mny S Hd lt ≤ tn Hd := cntN_le _ _
  rw [mgV, hm]
  by_cases c : 1 < mny S Hd lt
  · rw [if_pos c, if_neg (by omega), show min2 (farT S Hd lt) (tn Hd) - lst S Hd lt = 0 by omega]
  · rw [if_neg c]
    have hs := scN_spec (S := S) (Hd := Hd) (lt := lt) (k := tn Hd)
    cases hE : scN S Hd lt (tn Hd) with
    | none =>
      rw [hE] at hs
      have : cntN (fun i => decide (farT S Hd lt i ≤ lst S Hd lt)) (tn Hd) = tn Hd := cntN_all (fun i hi => decide_eq_true (hs i hi))
      rw [if_pos (by omega)]
    | some x =>
      rw [hE] at hs
      obtain ⟨⟨j, hj, hjx⟩, hx, hx3⟩ := hs
      have hx10 : x ≤ 10 := by rw [← hjx]; exact farT_le _ _ _ _
      have hlt : cntN (fun i => decide (farT S Hd lt i ≤ lst S Hd lt)) (tn Hd) < cntN (fun i => decide (farT S Hd lt i ≤ x)) (tn Hd) := cntN_lt (i := j) (fun i _ hi => by
        rw [decide_eq_true_eq] at hi ⊢; omega) hj (decide_eq_false (by omega)) (decide_eq_true (by omega))
      have h4 : min2 (farT S Hd lt) (tn Hd) ≤ x := (min2_cnt hx10 _).mpr (by omega)
      have h5 : ¬ min2 (farT S Hd lt) (tn Hd) ≤ x - 1 := by
        intro q
        have h6 := (min2_cnt (f := farT S Hd lt) (v := x - 1) (by omega) (tn Hd)).mp q
        have h7 : cntN (fun i => decide (farT S Hd lt i ≤ x - 1)) (tn Hd) ≤ cntN (fun i => decide (farT S Hd lt i ≤ lst S Hd lt)) (tn Hd) := cntN_sub (fun i hi h8 => by
          rw [decide_eq_true_eq] at h8 ⊢
          rcases Nat.lt_or_ge (lst S Hd lt) (farT S Hd lt i) with q | q
          · have := hx3 i hi q; omega
          · exact q)
        omega
      have hne : ¬ tn Hd = 1 := by
        intro q
        have h8 : cntN (fun i => decide (farT S Hd lt i ≤ x)) (tn Hd) ≤ tn Hd := cntN_le _ _
        omega
      rw [if_neg hne, show min2 (farT S Hd lt) (tn Hd) = x by omega]
