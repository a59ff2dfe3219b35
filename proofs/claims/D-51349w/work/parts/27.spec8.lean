/-! SPEC 8: reading -/
def nx (M : Nat → Nat → Int32) : Nat := (M 0 12).toNatClampNeg
def fr (M : Nat → Nat → Int32) : Nat := (M 0 13).toNatClampNeg
def bl (M : Nat → Nat → Int32) : Nat := (M 0 11).toNatClampNeg
def sn (M : Nat → Nat → Int32) (i : Nat) : Int32 := if i < bl M then M 5 i else -1
def smI (x : Int32) : Bool := !decide (x < nI 97) && !decide (nI 122 < x)
def dgI (x : Int32) : Bool := !decide (x < nI 48) && !decide (nI 57 < x)
def sgI (x : Int32) : Bool := dgI x || decide (x = nI 63)
def runE (q : Nat → Bool) : Nat → Nat → Nat
  | 0, i => i
  | k + 1, i => if q i = true then runE q k (i + 1) else i
def numE (M : Nat → Nat → Int32) (i0 : Nat) : Nat → Nat → Bool → Int32 → Nat × Bool × Int32
  | 0, i, d, v => (i, d, v)
  | k + 1, i, d, v => if sgI (sn M i) = true then (if (d && dgI (sn M i)) = true then (if i - i0 < 4 then numE M i0 k (i + 1) true (nI 10 * v + sn M i - nI 48) else numE M i0 k (i + 1) true (nI 0)) else numE M i0 k (i + 1) false (nI 0)) else (i, d, v)
def spE (M : Nat → Nat → Int32) : Nat := runE (fun i => decide (sn M i = nI 32)) (bl M + 1) (nx M)
def smE (M : Nat → Nat → Int32) : Nat := runE (fun i => smI (sn M i)) (bl M + 1) (spE M)
def nuE (M : Nat → Nat → Int32) : Nat × Bool × Int32 := numE M (spE M) (bl M + 1) (spE M) true (nI 0)
def nuS (i : Nat) (r : Nat × Bool × Int32) : Nat := if r.1 - i = 5 then 5 else if r.2.1 = true ∧ r.1 - i < 5 then 2 else 4
def t3 (M : Nat → Nat → Int32) (x y z : Nat) : Nat → Nat → Int32 := mrow M 0 (upd (upd (upd (M 0) 12 (nI x)) 13 (nI y)) 14 (nI z))
def t4 (M : Nat → Nat → Int32) (x y z : Nat) (v : Int32) : Nat → Nat → Int32 := mrow M 0 (upd (upd (upd (upd (M 0) 12 (nI x)) 13 (nI y)) 14 (nI z)) 15 v)
/-- the next token -/
def tokM (M : Nat → Nat → Int32) : Nat → Nat → Int32 := if sn M (spE M) = -1 then t3 M (spE M) (spE M) 0 else if smI (sn M (spE M)) = true then t3 M (smE M) (spE M) (if 6 < smE M - spE M then 4 else 1) else if sgI (sn M (spE M)) = true then t4 M (nuE M).1 (spE M) (nuS (spE M) (nuE M)) (nuE M).2.2 else t3 M (spE M + 1) (spE M) (if sn M (spE M) = nI 59 then 3 else 4)
def failM (M : Nat → Nat → Int32) (c : Int32) : Nat → Nat → Int32 := if M 0 16 = 0 then mrow M 0 (upd (upd (M 0) 16 c) 17 (M 0 13)) else M
def goM (M : Nat → Nat → Int32) : Nat → Nat → Int32 := if M 0 16 = 0 then tokM M else M
def lookM (M : Nat → Nat → Int32) (lo hi : Int) : Nat → Nat → Int32 := if ¬ M 0 14 = nI 2 then failM M (nI 1) else if inZ (M 0 15).toInt lo hi = true then M else failM M (nI 2)
/-- the reader's fields stand well -/
def PW (M : Nat → Nat → Int32) : Prop := M 0 11 = nI (bl M) ∧ bl M ≤ 600 ∧ M 0 12 = nI (nx M) ∧ nx M ≤ bl M ∧ M 0 13 = nI (fr M) ∧ fr M ≤ nx M ∧ (M 0 14 = nI 5 → nx M = fr M + 5 ∧ ∀ p, p < 5 → sgI (sn M (fr M + p)) = true) ∧ (M 0 14 = nI 2 → ∃ k, k ≤ 9999 ∧ M 0 15 = nI k)
/-- before the first token -/
def PW0 (M : Nat → Nat → Int32) : Prop := M 0 11 = nI (bl M) ∧ bl M ≤ 600 ∧ M 0 12 = nI (nx M) ∧ nx M ≤ bl M
theorem PW.p0 {M : Nat → Nat → Int32} (h : PW M) : PW0 M := ⟨h.1, h.2.1, h.2.2.1, h.2.2.2.1⟩
theorem sn_in {M : Nat → Nat → Int32} {i : Nat} (h : ¬ sn M i = -1) : i < bl M := by
  by_cases q : i < bl M
  · exact q
  · exact absurd (if_neg q) h
theorem smI_m1 : smI (-1) = false := by decide
theorem dgI_m1 : dgI (-1) = false := by decide
theorem sgI_m1 : sgI (-1) = false := by decide
theorem sn_sm {M : Nat → Nat → Int32} {i : Nat} (h : smI (sn M i) = true) : i < bl M := sn_in (fun q => by rw [q, smI_m1] at h; cases h)
theorem sn_sg {M : Nat → Nat → Int32} {i : Nat} (h : sgI (sn M i) = true) : i < bl M := sn_in (fun q => by rw [q, sgI_m1] at h; cases h)
theorem sn_32 {M : Nat → Nat → Int32} {i : Nat} (h : sn M i = nI 32) : i < bl M := sn_in (fun q => by rw [q] at h; exact absurd h (by decide))
theorem runE_t {q : Nat → Bool} {k i : Nat} (h : q i = true) : runE q (k + 1) i = runE q k (i + 1) := if_pos h
theorem runE_f {q : Nat → Bool} {k i : Nat} (h : q i = false) : runE q (k + 1) i = i := if_neg (by rw [h]; decide)
theorem runE_le {q : Nat → Bool} {b : Nat} (hq : ∀ i, q i = true → i < b) : ∀ k i, i ≤ b → i ≤ runE q k i ∧ runE q k i ≤ b
  | 0, i, h => ⟨Nat.le_refl _, h⟩
  | k + 1, i, h => by
    cases e : q i with
    | true =>
      rw [runE_t e]
      have h1 := hq i e
      have h2 := runE_le hq k (i + 1) h1
      exact ⟨by omega, h2.2⟩
    | false => rw [runE_f e]; exact ⟨Nat.le_refl _, h⟩
theorem spE_le {M : Nat → Nat → Int32} (h : PW0 M) : nx M ≤ spE M ∧ spE M ≤ bl M := runE_le (fun i hi => sn_32 (decide_eq_true_eq.mp hi)) _ _ h.2.2.2
theorem smE_le {M : Nat → Nat → Int32} (h : PW0 M) : spE M ≤ smE M ∧ smE M ≤ bl M := runE_le (fun _ hi => sn_sm hi) _ _ (spE_le h).2
/-- what a number's run gives: where it ends; if all were digits and at most four, their value; all that it passed were signs -/
theorem numE_ok {M : Nat → Nat → Int32} {i0 : Nat} : ∀ k i d v, i ≤ bl M → i0 ≤ i → bl M < i + k → (∀ j, i0 ≤ j → j < i → sgI (sn M j) = true) → (d = true → i - i0 ≤ 4 → ∃ w, w < 10 ^ (i - i0) ∧ v = nI w) →
    i ≤ (numE M i0 k i d v).1 ∧ (numE M i0 k i d v).1 ≤ bl M ∧ (∀ j, i0 ≤ j → j < (numE M i0 k i d v).1 → sgI (sn M j) = true) ∧ ((numE M i0 k i d v).2.1 = true → (numE M i0 k i d v).1 - i0 ≤ 4 → ∃ w, w < 10 ^ ((numE M i0 k i d v).1 - i0) ∧ (numE M i0 k i d v).2.2 = nI w)
  | 0, i, d, v, h1, _, h3, _, _ => by omega
  | k + 1, i, d, v, h1, h2, h3, h4, h5 => by
    rw [numE]
    by_cases hs : sgI (sn M i) = true
    · have hb := sn_sg hs
      have h4' : ∀ j, i0 ≤ j → j < i + 1 → sgI (sn M j) = true := fun j q1 q2 => by
        by_cases e : j = i
        · rw [e]; exact hs
        · exact h4 j q1 (by omega)
      have go : ∀ (d' : Bool) (v' : Int32), (d' = true → i + 1 - i0 ≤ 4 → ∃ w, w < 10 ^ (i + 1 - i0) ∧ v' = nI w) → _ := fun d' v' q => numE_ok (M := M) (i0 := i0) k (i + 1) d' v' (by omega) (by omega) (by omega) h4' q
      rw [if_pos hs]
      by_cases hd : (d && dgI (sn M i)) = true
      · rw [if_pos hd]
        rw [Bool.and_eq_true] at hd
        by_cases hl : i - i0 < 4
        · rw [if_pos hl]
          have g := go true (nI 10 * v + sn M i - nI 48) (fun _ _ => by
            obtain ⟨w, q1, q2⟩ := h5 hd.1 (by omega)
            have hg := hd.2
            rw [dgI, Bool.and_eq_true] at hg
            have a1 : ¬ sn M i < nI 48 := by simpa using hg.1
            have a2 : ¬ nI 57 < sn M i := by simpa using hg.2
            have c1 : (nI 48).toInt = 48 := by decide
            have c2 : (nI 57).toInt = 57 := by decide
            rw [Int32.lt_iff_toInt_lt, c1] at a1
            rw [Int32.lt_iff_toInt_lt, c2] at a2
            obtain ⟨z, z2, zs, z3⟩ := inZ_n (x := sn M i) (U := 57) (by unfold inZ; rw [Bool.and_eq_true, decide_eq_true_eq, decide_eq_true_eq]; omega)
            have z1 : 48 ≤ z := by have := nI_toInt zs; rw [← z3] at this; omega
            have e10 : 10 ^ (i + 1 - i0) = 10 * 10 ^ (i - i0) := by rw [show i + 1 - i0 = (i - i0) + 1 by omega, Nat.pow_succ, Nat.mul_comm]
            refine ⟨10 * w + z - 48, by rw [e10]; omega, ?_⟩
            rw [q2, z3, pk_mul, nI_add]
            exact pk_sub (by omega))
          exact ⟨by omega, g.2⟩
        · rw [if_neg hl]
          have g := go true (nI 0) (fun _ q => by omega)
          exact ⟨by omega, g.2⟩
      · rw [if_neg hd]
        have g := go false (nI 0) (fun q => by cases q)
        exact ⟨by omega, g.2⟩
    · rw [if_neg hs]
      exact ⟨Nat.le_refl _, h1, h4, h5⟩

theorem t3_wf {M : Nat → Nat → Int32} {x y z : Nat} (h : PW0 M) (h1 : y ≤ x) (h2 : x ≤ bl M) (h5 : z ≠ 5) (h6 : z ≠ 2) (h7 : z < 10) : PW (t3 M x y z) := by
  have hb := h.2.1
  have ex : nx (t3 M x y z) = x := nI_clamp (by omega)
  have ey : fr (t3 M x y z) = y := nI_clamp (by omega)
  exact ⟨h.1, h.2.1, by rw [ex]; rfl, by rw [ex]; exact h2, by rw [ey]; rfl, by rw [ex, ey]; exact h1, fun q => absurd ((nI_eq (by omega) (by decide)).mp (show nI z = nI 5 from q)) h5, fun q => absurd ((nI_eq (by omega) (by decide)).mp (show nI z = nI 2 from q)) h6⟩
theorem t4_wf {M : Nat → Nat → Int32} {x y z : Nat} {v : Int32} (h : PW0 M) (h1 : y ≤ x) (h2 : x ≤ bl M) (h5 : z = 5 → x = y + 5 ∧ ∀ p, p < 5 → sgI (sn M (y + p)) = true) (h6 : z = 2 → ∃ k, k ≤ 9999 ∧ v = nI k) (h7 : z < 10) : PW (t4 M x y z v) := by
  have hb := h.2.1
  have ex : nx (t4 M x y z v) = x := nI_clamp (by omega)
  have ey : fr (t4 M x y z v) = y := nI_clamp (by omega)
  refine ⟨h.1, h.2.1, by rw [ex]; rfl, by rw [ex]; exact h2, by rw [ey]; rfl, by rw [ex, ey]; exact h1, fun q => ?_, fun q => h6 ((nI_eq (by omega) (by decide)).mp (show nI z = nI 2 from q))⟩
  rw [ex, ey]
  exact h5 ((nI_eq (by omega) (by decide)).mp (show nI z = nI 5 from q))
theorem nuE_ok {M : Nat → Nat → Int32} (h : PW0 M) : spE M ≤ (nuE M).1 ∧ (nuE M).1 ≤ bl M ∧ (∀ j, spE M ≤ j → j < (nuE M).1 → sgI (sn M j) = true) ∧ ((nuE M).2.1 = true → (nuE M).1 - spE M ≤ 4 → ∃ w, w < 10 ^ ((nuE M).1 - spE M) ∧ (nuE M).2.2 = nI w) :=
  numE_ok (bl M + 1) (spE M) true (nI 0) (spE_le h).2 (Nat.le_refl _) (by have := (spE_le h).2; omega) (fun j q1 q2 => by omega) (fun _ _ => ⟨0, by rw [Nat.sub_self]; decide, rfl⟩)
theorem tok_e {M : Nat → Nat → Int32} (h : sn M (spE M) = -1) : tokM M = t3 M (spE M) (spE M) 0 := if_pos h
theorem tok_w {M : Nat → Nat → Int32} (h : ¬ sn M (spE M) = -1) (h1 : smI (sn M (spE M)) = true) : tokM M = t3 M (smE M) (spE M) (if 6 < smE M - spE M then 4 else 1) := by rw [tokM, if_neg h, if_pos h1]
theorem tok_n {M : Nat → Nat → Int32} (h : ¬ sn M (spE M) = -1) (h1 : smI (sn M (spE M)) = false) (h2 : sgI (sn M (spE M)) = true) : tokM M = t4 M (nuE M).1 (spE M) (nuS (spE M) (nuE M)) (nuE M).2.2 := by rw [tokM, if_neg h, if_neg (by rw [h1]; decide), if_pos h2]
theorem tok_x {M : Nat → Nat → Int32} (h : ¬ sn M (spE M) = -1) (h1 : smI (sn M (spE M)) = false) (h2 : sgI (sn M (spE M)) = false) : tokM M = t3 M (spE M + 1) (spE M) (if sn M (spE M) = nI 59 then 3 else 4) := by rw [tokM, if_neg h, if_neg (by rw [h1]; decide), if_neg (by rw [h2]; decide)]
/-- the same but the reader's own fields -/
def RS (M M' : Nat → Nat → Int32) : Prop := (∀ r, r ≠ 0 → M' r = M r) ∧ ∀ k, (k < 12 ∨ 17 < k) → M' 0 k = M 0 k
theorem RS.rf {M : Nat → Nat → Int32} : RS M M := ⟨fun _ _ => rfl, fun _ _ => rfl⟩
theorem RS.tr {A B C : Nat → Nat → Int32} (h : RS A B) (h1 : RS B C) : RS A C := ⟨fun r q => (h1.1 r q).trans (h.1 r q), fun k q => (h1.2 k q).trans (h.2 k q)⟩
theorem RS.t3 {M : Nat → Nat → Int32} {x y z : Nat} : RS M (t3 M x y z) := ⟨fun _ q => mrow_ne q, fun k q => by show upd _ _ _ k = _; rw [upd_ne (by omega), upd_ne (by omega), upd_ne (by omega)]⟩
theorem RS.t4 {M : Nat → Nat → Int32} {x y z : Nat} {v : Int32} : RS M (t4 M x y z v) := ⟨fun _ q => mrow_ne q, fun k q => by show upd _ _ _ k = _; rw [upd_ne (by omega), upd_ne (by omega), upd_ne (by omega), upd_ne (by omega)]⟩
theorem RS.fail {M : Nat → Nat → Int32} {c : Int32} : RS M (failM M c) := by
  unfold failM
  split
  · exact ⟨fun _ q => mrow_ne q, fun k q => by show upd _ _ _ k = _; rw [upd_ne (by omega), upd_ne (by omega)]⟩
  · exact RS.rf
theorem tok_wf {M : Nat → Nat → Int32} (h : PW0 M) : PW (tokM M) ∧ RS M (tokM M) ∧ tokM M 0 16 = M 0 16 ∧ tokM M 0 17 = M 0 17 := by
  have h1 := spE_le h
  have h2 := smE_le h
  have h3 := nuE_ok h
  by_cases c1 : sn M (spE M) = -1
  · rw [tok_e c1]; exact ⟨t3_wf h (Nat.le_refl _) h1.2 (by decide) (by decide) (by decide), RS.t3, rfl, rfl⟩
  · cases c2 : smI (sn M (spE M)) with
    | true => rw [tok_w c1 c2]; exact ⟨t3_wf h h2.1 h2.2 (by split <;> decide) (by split <;> decide) (by split <;> decide), RS.t3, rfl, rfl⟩
    | false =>
      cases c3 : sgI (sn M (spE M)) with
      | true =>
        rw [tok_n c1 c2 c3]
        refine ⟨t4_wf h h3.1 h3.2.1 (fun q => ?_) (fun q => ?_) (by unfold nuS; split <;> (try split) <;> decide), RS.t4, rfl, rfl⟩
        · have e : (nuE M).1 - spE M = 5 := by
            unfold nuS at q
            split at q
            · assumption
            · split at q <;> cases q
          exact ⟨by omega, fun p hp => h3.2.2.1 _ (by omega) (by omega)⟩
        · have e : (nuE M).2.1 = true ∧ (nuE M).1 - spE M < 5 := by
            unfold nuS at q
            split at q
            · cases q
            · split at q
              · assumption
              · cases q
          obtain ⟨w, hw, ew⟩ := h3.2.2.2 e.1 (by omega)
          refine ⟨w, ?_, ew⟩
          have : 10 ^ ((nuE M).1 - spE M) ≤ 10 ^ 4 := Nat.pow_le_pow_right (by decide) (by omega)
          omega
      | false =>
        have hl := sn_in c1
        rw [tok_x c1 c2 c3]; exact ⟨t3_wf h (by omega) (by omega) (by split <;> decide) (by split <;> decide) (by split <;> decide), RS.t3, rfl, rfl⟩
theorem fail_pw {M : Nat → Nat → Int32} {c : Int32} (h : PW M) : PW (failM M c) := by
  unfold failM
  split
  · exact h
  · exact h
theorem go_wf {M : Nat → Nat → Int32} (h : PW M) : PW (goM M) ∧ RS M (goM M) ∧ goM M 0 16 = M 0 16 ∧ goM M 0 17 = M 0 17 := by
  unfold goM
  split
  · exact tok_wf h.p0
  · exact ⟨h, RS.rf, rfl, rfl⟩
theorem look_wf {M : Nat → Nat → Int32} {lo hi : Int} (h : PW M) : PW (lookM M lo hi) ∧ RS M (lookM M lo hi) := by
  unfold lookM
  split
  · exact ⟨fail_pw h, RS.fail⟩
  · split
    · exact ⟨h, RS.rf⟩
    · exact ⟨fail_pw h, RS.fail⟩
def fiM (M : Nat → Nat → Int32) (b : Bool) (c : Int32) : Nat → Nat → Int32 := if b = true then failM M c else M
theorem fi_wf {M : Nat → Nat → Int32} {b : Bool} {c : Int32} (h : PW M) : PW (fiM M b c) ∧ RS M (fiM M b c) := by
  unfold fiM
  split
  · exact ⟨fail_pw h, RS.fail⟩
  · exact ⟨h, RS.rf⟩
def lookV (M : Nat → Nat → Int32) (lo hi : Int32) : Int32 := if lookM M lo.toInt hi.toInt 0 16 = 0 then lookM M lo.toInt hi.toInt 0 15 else lo
def takM (M : Nat → Nat → Int32) (lo hi : Int32) : Nat → Nat → Int32 := goM (lookM M lo.toInt hi.toInt)
theorem tak_wf {M : Nat → Nat → Int32} {lo hi : Int32} (h : PW M) : PW (takM M lo hi) ∧ RS M (takM M lo hi) :=
  ⟨(go_wf (look_wf h).1).1, (look_wf h).2.tr (go_wf (look_wf h).1).2.1⟩
theorem m_same {dC : Nat → ClassId} {dI : Nat → Nat → Nat} {dA : Nat → ClassId} {a : Nat → Nat} {M : Nat → Nat → Int32} {H : Heap} {k : Nat} {v : Int32} (h : M 0 k = v) (hP : mP dC dI dA a M H) : mP dC dI dA a (mrow M 0 (upd (M 0) k v)) H := by
  have e : upd (M 0) k v = M 0 := by
    funext j
    unfold upd
    by_cases q : j = k
    · rw [if_pos q, q, h]
    · rw [if_neg q]
  rw [e]
  exact hP
