/-! SPEC 1: sums, counts, least ones; codes and costs (plain Lean, no program) -/
def sumN (f : Nat → Nat) : Nat → Nat
  | 0 => 0
  | n + 1 => sumN f n + f n
def cntN (p : Nat → Bool) : Nat → Nat
  | 0 => 0
  | n + 1 => cntN p n + (p n).toNat
def minN (f : Nat → Nat) (d : Nat) : Nat → Nat
  | 0 => d
  | n + 1 => min (minN f d n) (f n)
def fndN (p : Nat → Bool) (n : Nat) : Option Nat := (List.range n).find? p
/-- a town or none, as the number that both systems hand back -/
def oI : Option Nat → Int32
  | none => -1
  | some t => nI t
theorem sumN_le {f : Nat → Nat} {b : Nat} : ∀ n, (∀ i, i < n → f i ≤ b) → sumN f n ≤ n * b
  | 0, _ => by simp [sumN]
  | n + 1, h => by
    have h1 := sumN_le n (fun i hi => h i (by omega))
    have h2 := h n (by omega)
    rw [sumN, Nat.add_mul, Nat.one_mul]
    omega
theorem cntN_le (p : Nat → Bool) : ∀ n, cntN p n ≤ n
  | 0 => by simp [cntN]
  | n + 1 => by
    have h1 := cntN_le p n
    have h2 : (p n).toNat ≤ 1 := by cases p n <;> decide
    rw [cntN]
    omega
theorem minN_le (f : Nat → Nat) (d : Nat) : ∀ n, minN f d n ≤ d
  | 0 => by simp [minN]
  | n + 1 => by
    have h1 := minN_le f d n
    rw [minN]
    omega
theorem minN_lef (f : Nat → Nat) (d : Nat) : ∀ n i, i < n → minN f d n ≤ f i
  | 0, i, h => by omega
  | n + 1, i, h => by
    rw [minN]
    by_cases hi : i = n
    · subst hi; omega
    · have h1 := minN_lef f d n i (by omega)
      omega
theorem minN_hit (f : Nat → Nat) (d : Nat) : ∀ n, minN f d n = d ∨ ∃ i, i < n ∧ f i = minN f d n
  | 0 => Or.inl rfl
  | n + 1 => by
    rw [minN]
    rcases minN_hit f d n with h | ⟨i, hi, h⟩
    · by_cases hf : f n ≤ d
      · exact Or.inr ⟨n, by omega, by omega⟩
      · exact Or.inl (by omega)
    · by_cases hf : f n ≤ minN f d n
      · exact Or.inr ⟨n, by omega, by omega⟩
      · exact Or.inr ⟨i, by omega, by omega⟩
/-- the check digit; a code of five digits; its digits -/
def chk (x : Nat) : Nat := (10 - (3 * (x / 1000) + x / 100 % 10 + 3 * (x / 10 % 10) + x % 10) % 10) % 10
def cd (x : Nat) : Nat := 10 * x + chk x
def dg (c p : Nat) : Nat := c / 10 ^ (4 - p) % 10
def dsm (c : Nat) : Nat := sumN (dg c) 5
def alk (a b : Nat) : Bool := (min a b == 0 && max a b == 6) || (min a b == 1 && max a b == 7) || (min a b == 3 && max a b == 8) || (min a b == 4 && max a b == 9) || (min a b == 5 && max a b == 6)
theorem alk_iff {a b lo hi : Nat} (h1 : lo = min a b) (h2 : hi = max a b) : alk a b = true ↔ (lo = 0 ∧ hi = 6) ∨ (lo = 1 ∧ hi = 7) ∨ (lo = 3 ∧ hi = 8) ∨ (lo = 4 ∧ hi = 9) ∨ (lo = 5 ∧ hi = 6) := by
  unfold alk
  rw [← h1, ← h2]
  simp only [beq_iff_eq, Bool.or_eq_true, Bool.and_eq_true]
  omega
/-- a digit that was read: -1 or 0 .. 9 -/
def rdOK (r : Int32) : Prop := r = -1 ∨ ∃ k : Nat, k < 10 ∧ r = nI k
def cst (r : Int32) (d : Nat) : Nat := if r = nI d then 0 else if r = -1 ∨ alk r.toNatClampNeg d = true then 1 else 2
theorem chk_lt (x : Nat) : chk x < 10 := by unfold chk; omega
theorem dg_lt (c p : Nat) : dg c p < 10 := by unfold dg; omega
theorem cst_le (r : Int32) (d : Nat) : cst r d ≤ 2 := by unfold cst; split <;> (try split) <;> omega
/-- the distance of a letter (its digits lie at g 0 .. g 4) to a code -/
def far (g : Nat → Int32) (c : Nat) : Nat := sumN (fun p => cst (g p) (dg c p)) 5
theorem far_le (g : Nat → Int32) (c : Nat) : far g c ≤ 10 := sumN_le 5 (fun i _ => cst_le _ _)
theorem far_eq (g : Nat → Int32) (c : Nat) : far g c = 0 + cst (g 4) (c % 10) + cst (g 3) (c / 10 % 10) + cst (g 2) (c / 10 / 10 % 10) + cst (g 1) (c / 10 / 10 / 10 % 10) + cst (g 0) (c / 10 / 10 / 10 / 10 % 10) := by
  simp [far, sumN, dg, Nat.div_div_eq_div_mul]
  omega
/-- a letter's numbers -/
def lr (S : Nat → Int32) (lt w : Nat) : Int32 := S (33 + 10 * lt + w)
def tn (Hd : Nat → Int32) : Nat := (Hd 1).toNatClampNeg
def num (Hd : Nat → Int32) (t : Nat) : Nat := (Hd (2 + t)).toNatClampNeg
def rou (Hd : Nat → Int32) (t : Nat) : Nat := (Hd (14 + t)).toNatClampNeg
def ln (S : Nat → Int32) : Nat := (S 2).toNatClampNeg
def lim (S : Nat → Int32) : Nat := (S 0).toNatClampNeg
def bun (S : Nat → Int32) (lt : Nat) : Nat := (lr S lt 5).toNatClampNeg
/-- what the walks need of the towns, of an office -/
def TWf (Hd : Nat → Int32) : Prop := Hd 1 = nI (tn Hd) ∧ tn Hd ≤ 12 ∧ ∀ t, t < tn Hd → Hd (2 + t) = nI (num Hd t) ∧ num Hd t < 10000 ∧ Hd (14 + t) = nI (rou Hd t) ∧ rou Hd t < 6
def SWf (S : Nat → Int32) : Prop := S 2 = nI (ln S) ∧ ln S ≤ 24 ∧ S 0 = nI (lim S) ∧ lim S ≤ 8 ∧ ∀ lt, lt < ln S → (∀ p, p < 5 → rdOK (lr S lt p)) ∧ lr S lt 5 = nI (bun S lt) ∧ bun S lt < 6
def farT (S Hd : Nat → Int32) (lt t : Nat) : Nat := far (lr S lt) (cd (num Hd t))
theorem farT_le (S Hd : Nat → Int32) (lt t : Nat) : farT S Hd lt t ≤ 10 := far_le _ _
def unr (S : Nat → Int32) (lt : Nat) : Nat := cntN (fun p => decide (lr S lt p = -1)) 5
def lst (S Hd : Nat → Int32) (lt : Nat) : Nat := minN (farT S Hd lt) 10 (tn Hd)
def nrT (S Hd : Nat → Int32) (lt : Nat) : Nat := cntN (fun t => decide (farT S Hd lt t ≤ lim S)) (tn Hd)
def isB (S Hd : Nat → Int32) (lt t : Nat) : Bool := decide (farT S Hd lt t ≤ lim S) && decide (farT S Hd lt t = lst S Hd lt)
def bst (S Hd : Nat → Int32) (lt : Nat) : Nat := cntN (isB S Hd lt) (tn Hd)
def byS (S Hd : Nat → Int32) (lt : Nat) : Option Nat := if 3 < unr S lt ∨ ¬ bst S Hd lt = 1 then none else fndN (isB S Hd lt) (tn Hd)
/-- the digits of the other letters of a bundle, of the first o letters; none if one isn't decided by itself -/
def oth (S Hd : Nat → Int32) (lt : Nat) : Nat → Option Nat
  | 0 => some 0
  | o + 1 => match oth S Hd lt o with
    | none => none
    | some x => if o = lt ∨ ¬ lr S o 5 = lr S lt 5 then some x else match byS S Hd o with
      | none => none
      | some t => some (x + dsm (cd (num Hd t)))
/-- the one place of p below n; none if there is none or more -/
def unq (p : Nat → Bool) (n : Nat) : Option Nat := if cntN p n = 1 then fndN p n else none
def bbP (S Hd : Nat → Int32) (lt x t : Nat) : Bool := isB S Hd lt t && decide (nI ((x + dsm (cd (num Hd t))) % 10) = S (3 + bun S lt))
def byB (S Hd : Nat → Int32) (lt : Nat) : Option Nat := if 3 < unr S lt ∨ S (3 + bun S lt) = -1 then none else match oth S Hd lt (ln S) with
  | none => none
  | some x => unq (bbP S Hd lt x) (tn Hd)
def dcd (S Hd : Nat → Int32) (lt : Nat) : Option Nat := match byS S Hd lt with
  | some t => some t
  | none => byB S Hd lt
def why (S Hd : Nat → Int32) (lt : Nat) : Nat := if (dcd S Hd lt).isSome then 0 else if 3 < unr S lt then 1 else if nrT S Hd lt = 0 then 2 else 3
/-- why a letter is not sorted now -/
def cau (S Hd : Nat → Int32) (lt : Nat) : Nat := match dcd S Hd lt with
  | none => why S Hd lt
  | some t => if S (9 + rou Hd t) = 0 then 4 else 0
def sts (S : Nat → Int32) (x : Int32) : Nat := cntN (fun o => decide (lr S o 6 = x)) (ln S)
theorem cd_lt {x : Nat} (h : x < 10000) : cd x < 100000 := by have := chk_lt x; unfold cd; omega
theorem fndN_some {p : Nat → Bool} {n t : Nat} (ht : t < n) (hp : p t = true) (hj : ∀ j, j < t → p j = false) : fndN p n = some t := by
  unfold fndN
  rw [List.find?_range_eq_some]
  exact ⟨hp, List.mem_range.mpr ht, fun j h => by simp [hj j h]⟩
theorem fndN_none {p : Nat → Bool} {n : Nat} (h : ∀ j, j < n → p j = false) : fndN p n = none := by
  unfold fndN
  rw [List.find?_eq_none]
  intro x hx
  simp [h x (List.mem_range.mp hx)]
theorem fndN_lt {p : Nat → Bool} {n t : Nat} (h : fndN p n = some t) : t < n ∧ p t = true := by
  unfold fndN at h
  rw [List.find?_range_eq_some] at h
  exact ⟨List.mem_range.mp h.2.1, h.1⟩
theorem cntN_0 {p : Nat → Bool} : ∀ {n : Nat}, cntN p n = 0 ↔ ∀ j, j < n → p j = false
  | 0 => by simp [cntN]
  | n + 1 => by
    rw [cntN]
    constructor
    · intro h j hj
      have h1 : cntN p n = 0 := by omega
      have h2 : (p n).toNat = 0 := by omega
      by_cases hjn : j = n
      · subst hjn
        revert h2; cases p j <;> simp
      · exact cntN_0.mp h1 j (by omega)
    · intro h
      have h1 := cntN_0.mpr (fun j hj => h j (by omega) : ∀ j, j < n → p j = false)
      rw [h1, h n (by omega)]
      rfl
theorem byS_lt {S Hd : Nat → Int32} {lt t : Nat} (h : byS S Hd lt = some t) : t < tn Hd := by
  unfold byS at h
  split at h
  · cases h
  · exact (fndN_lt h).1
theorem unq_lt {p : Nat → Bool} {n t : Nat} (h : unq p n = some t) : t < n ∧ p t = true := by
  unfold unq at h
  split at h
  · exact fndN_lt h
  · cases h
theorem byB_lt {S Hd : Nat → Int32} {lt t : Nat} (h : byB S Hd lt = some t) : t < tn Hd := by
  unfold byB at h
  split at h
  · cases h
  · split at h
    · cases h
    · exact (unq_lt h).1
theorem dcd_lt {S Hd : Nat → Int32} {lt t : Nat} (h : dcd S Hd lt = some t) : t < tn Hd := by
  unfold dcd at h
  split at h
  · rename_i h1
    cases h
    exact byS_lt h1
  · exact byB_lt h
theorem isB_iff {S Hd : Nat → Int32} {lt t : Nat} : isB S Hd lt t = true ↔ farT S Hd lt t ≤ lim S ∧ farT S Hd lt t = lst S Hd lt := by
  unfold isB
  rw [Bool.and_eq_true, decide_eq_true_eq, decide_eq_true_eq]
theorem byS_next {p : Nat → Bool} {n t : Nat} (hc : cntN p n = 1) (hf : ∀ j, j < t → p j = false) (ht : p t = false) (hn : t < n) : t + 1 < n := by
  rcases Nat.lt_or_ge (t + 1) n with h | h
  · exact h
  · exfalso
    have h1 : cntN p n = 0 := cntN_0.mpr (fun j hj => by
      by_cases e : j = t
      · rw [e]; exact ht
      · exact hf j (by omega))
    omega
theorem dsm_le (c : Nat) : dsm c ≤ 45 := sumN_le (b := 9) 5 (fun i _ => by have := dg_lt c i; omega)
theorem oth_none {S Hd : Nat → Int32} {lt k : Nat} (h : oth S Hd lt k = none) : ∀ n, k ≤ n → oth S Hd lt n = none := by
  intro n hn
  induction n with
  | zero => rw [show k = 0 by omega] at h; exact h
  | succ n ih =>
    by_cases e : k = n + 1
    · rw [← e]; exact h
    · rw [oth, ih (by omega)]
theorem oth_skip {S Hd : Nat → Int32} {lt o x : Nat} (h : oth S Hd lt o = some x) (hs : o = lt ∨ ¬ lr S o 5 = lr S lt 5) : oth S Hd lt (o + 1) = some x := by
  rw [oth, h]
  exact if_pos hs
theorem oth_add {S Hd : Nat → Int32} {lt o x t : Nat} (h : oth S Hd lt o = some x) (h1 : ¬ o = lt) (h2 : lr S o 5 = lr S lt 5) (ht : byS S Hd o = some t) : oth S Hd lt (o + 1) = some (x + dsm (cd (num Hd t))) := by
  rw [oth, h]
  show (if o = lt ∨ ¬ lr S o 5 = lr S lt 5 then _ else _) = _
  rw [if_neg (fun q => q.elim h1 (fun q => q h2)), ht]
theorem oth_stop {S Hd : Nat → Int32} {lt o x : Nat} (h : oth S Hd lt o = some x) (h1 : ¬ o = lt) (h2 : lr S o 5 = lr S lt 5) (ht : byS S Hd o = none) : oth S Hd lt (o + 1) = none := by
  rw [oth, h]
  show (if o = lt ∨ ¬ lr S o 5 = lr S lt 5 then _ else _) = _
  rw [if_neg (fun q => q.elim h1 (fun q => q h2)), ht]
/-- a search for the one place, at t -/
def uqI (P : Nat → Bool) (t : Nat) (f : Option Nat) : Prop := (f = none ∧ cntN P t = 0) ∨ ∃ u, f = some u ∧ u < t ∧ cntN P t = 1 ∧ P u = true ∧ ∀ j, j < u → P j = false
theorem uqI_0 {P : Nat → Bool} : uqI P 0 none := Or.inl ⟨rfl, rfl⟩
theorem uqI_lt {P : Nat → Bool} {t u : Nat} (h : uqI P t (some u)) : u < t := by
  rcases h with ⟨h, -⟩ | ⟨v, h, h1, -⟩
  · cases h
  · cases h; exact h1
theorem uqI_skip {P : Nat → Bool} {t : Nat} {f : Option Nat} (h : uqI P t f) (hp : P t = false) : uqI P (t + 1) f := by
  have hc : cntN P (t + 1) = cntN P t := by rw [cntN, hp]; rfl
  rcases h with ⟨h, h0⟩ | ⟨u, h, h1, h2, h3⟩
  · exact Or.inl ⟨h, by rw [hc, h0]⟩
  · exact Or.inr ⟨u, h, by omega, by rw [hc, h2], h3⟩
theorem uqI_hit {P : Nat → Bool} {t : Nat} (h : uqI P t none) (hp : P t = true) : uqI P (t + 1) (some t) := by
  rcases h with ⟨-, h0⟩ | ⟨u, h, -⟩
  · exact Or.inr ⟨t, rfl, by omega, by rw [cntN, h0, hp]; rfl, hp, cntN_0.mp h0⟩
  · cases h
theorem cntN_mono {P : Nat → Bool} : ∀ {n m : Nat}, n ≤ m → cntN P n ≤ cntN P m
  | n, 0, h => by rw [show n = 0 by omega]; exact Nat.le_refl _
  | n, m + 1, h => by
    by_cases e : n = m + 1
    · rw [e]; exact Nat.le_refl _
    · have := cntN_mono (P := P) (n := n) (m := m) (by omega)
      rw [cntN]; omega
theorem uqI_two {P : Nat → Bool} {t u n : Nat} (h : uqI P t (some u)) (hp : P t = true) (ht : t < n) : unq P n = none := by
  rcases h with ⟨h, -⟩ | ⟨v, -, h1, h2, -⟩
  · cases h
  · have h3 : cntN P (t + 1) = 2 := by rw [cntN, h2, hp]; rfl
    have h4 := cntN_mono (P := P) (n := t + 1) (m := n) (by omega)
    rw [unq, if_neg (by omega)]
theorem uqI_end {P : Nat → Bool} {n : Nat} {f : Option Nat} (h : uqI P n f) : unq P n = f := by
  rcases h with ⟨h, h0⟩ | ⟨u, h, h1, h2, h3, h4⟩
  · rw [unq, if_neg (by omega), h]
  · rw [unq, if_pos h2, h, fndN_some h1 h3 h4]
theorem byB_go {S Hd : Nat → Int32} {lt x : Nat} (h1 : ¬ (3 < unr S lt ∨ S (3 + bun S lt) = -1)) (h2 : oth S Hd lt (ln S) = some x) : byB S Hd lt = unq (bbP S Hd lt x) (tn Hd) := by
  rw [byB, if_neg h1, h2]
theorem byB_no {S Hd : Nat → Int32} {lt : Nat} (h1 : ¬ (3 < unr S lt ∨ S (3 + bun S lt) = -1)) (h2 : oth S Hd lt (ln S) = none) : byB S Hd lt = none := by
  rw [byB, if_neg h1, h2]
theorem why_some {S Hd : Nat → Int32} {lt t : Nat} (h : dcd S Hd lt = some t) : why S Hd lt = 0 := by rw [why, h]; rfl
theorem why_none {S Hd : Nat → Int32} {lt : Nat} (h : dcd S Hd lt = none) : why S Hd lt = if 3 < unr S lt then 1 else if nrT S Hd lt = 0 then 2 else 3 := by rw [why, h]; rfl
theorem why_ne {S Hd : Nat → Int32} {lt : Nat} (h : dcd S Hd lt = none) : ¬ why S Hd lt = 0 := by
  rw [why_none h]
  split
  · decide
  · split <;> decide
theorem why_le (S Hd : Nat → Int32) (lt : Nat) : why S Hd lt ≤ 3 := by
  unfold why
  split
  · omega
  · split
    · omega
    · split <;> omega
theorem cau_why {S Hd : Nat → Int32} {lt : Nat} (h : ¬ why S Hd lt = 0) : cau S Hd lt = why S Hd lt := by
  cases hE : dcd S Hd lt with
  | none => unfold cau; rw [hE]
  | some t => exact absurd (why_some hE) h
theorem cau_some {S Hd : Nat → Int32} {lt t : Nat} (h : dcd S Hd lt = some t) : cau S Hd lt = if S (9 + rou Hd t) = 0 then 4 else 0 := by unfold cau; rw [h]
