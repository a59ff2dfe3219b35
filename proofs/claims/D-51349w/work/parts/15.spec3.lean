/-! SPEC 3: the near towns by distance and place -/
theorem cntN_congr {p q : Nat → Bool} : ∀ {n : Nat}, (∀ i, i < n → p i = q i) → cntN p n = cntN q n
  | 0, _ => rfl
  | n + 1, h => by rw [cntN, cntN, cntN_congr (fun i hi => h i (by omega)), h n (by omega)]
theorem cntN_sub {p q : Nat → Bool} : ∀ {n : Nat}, (∀ i, i < n → p i = true → q i = true) → cntN p n ≤ cntN q n
  | 0, _ => Nat.le_refl _
  | n + 1, h => by
    have h1 := cntN_sub (p := p) (q := q) (n := n) (fun i hi => h i (by omega))
    have h2 := h n (by omega)
    rw [cntN, cntN]
    cases hp : p n with
    | false => show _ + 0 ≤ _; omega
    | true => rw [h2 hp]; omega
theorem cntN_lt {p q : Nat → Bool} : ∀ {n i : Nat}, (∀ i, i < n → p i = true → q i = true) → i < n → p i = false → q i = true → cntN p n < cntN q n
  | 0, i, _, hi, _, _ => by omega
  | n + 1, i, h, hi, hp, hq => by
    rw [cntN, cntN]
    by_cases e : i = n
    · subst e
      have h1 := cntN_sub (p := p) (q := q) (n := i) (fun j hj => h j (by omega))
      rw [hp, hq]
      show _ + 0 < _ + 1
      omega
    · have h1 := cntN_lt (p := p) (q := q) (n := n) (i := i) (fun j hj => h j (by omega)) (by omega) hp hq
      have h2 := h n (by omega)
      cases hpn : p n with
      | false => show _ + 0 < _; omega
      | true => rw [h2 hpn]; omega
/-- how many towns are ahead of one, by distance and place -/
def ahP (f : Nat → Nat) (t u : Nat) : Bool := decide (f u < f t) || (decide (f u = f t) && decide (u < t))
def ahd (f : Nat → Nat) (n t : Nat) : Nat := cntN (ahP f t) n
theorem ahP_iff {f : Nat → Nat} {t u : Nat} : ahP f t u = true ↔ f u < f t ∨ f u = f t ∧ u < t := by
  unfold ahP
  rw [Bool.or_eq_true, Bool.and_eq_true, decide_eq_true_eq, decide_eq_true_eq, decide_eq_true_eq]
theorem ahd_lt {f : Nat → Nat} {n t u : Nat} (hu : u < n) (h : ahP f t u = true) : ahd f n u < ahd f n t := by
  refine cntN_lt (i := u) (fun i _ hi => ?_) hu ?_ h
  · rw [ahP_iff] at *; omega
  · cases hh : ahP f u u with
    | false => rfl
    | true => rw [ahP_iff] at hh; omega
theorem ahd_inj {f : Nat → Nat} {n t u : Nat} (ht : t < n) (hu : u < n) (h : ahd f n t = ahd f n u) : t = u := by
  rcases Nat.lt_trichotomy (f t) (f u) with q | q | q
  · have := ahd_lt (f := f) (n := n) (t := u) (u := t) ht (ahP_iff.mpr (Or.inl q)); omega
  · rcases Nat.lt_trichotomy t u with r | r | r
    · have := ahd_lt (f := f) (n := n) (t := u) (u := t) ht (ahP_iff.mpr (Or.inr ⟨q, r⟩)); omega
    · exact r
    · have := ahd_lt (f := f) (n := n) (t := t) (u := u) hu (ahP_iff.mpr (Or.inr ⟨q.symm, r⟩)); omega
  · have := ahd_lt (f := f) (n := n) (t := t) (u := u) hu (ahP_iff.mpr (Or.inl q)); omega
/-- a near town by its place among them -/
def nrA (S Hd : Nat → Int32) (lt : Nat) (k : Int32) : Option Nat := fndN (fun t => decide (farT S Hd lt t ≤ lim S) && decide (nI (ahd (farT S Hd lt) (tn Hd) t) = k)) (tn Hd)
/-- how many have been passed, at distance d and place t -/
def pasN (f : Nat → Nat) (n d t : Nat) : Nat := cntN (fun u => decide (f u < d) || (decide (f u = d) && decide (u < t))) n
theorem pasN_0 {f : Nat → Nat} {n : Nat} : pasN f n 0 0 = 0 := by
  unfold pasN
  rw [cntN_0]
  intro j _
  simp
theorem pasN_at {f : Nat → Nat} {n d t : Nat} (h : f t = d) : pasN f n d t = ahd f n t := by
  subst h
  rfl
theorem pasN_row {f : Nat → Nat} {n d : Nat} : pasN f n d n = pasN f n (d + 1) 0 := by
  unfold pasN
  refine cntN_congr (fun i hi => ?_)
  have e : (decide (f i < d + 1) || (decide (f i = d + 1) && decide (i < 0))) = decide (f i < d + 1) := by simp
  rw [e]
  by_cases h1 : f i < d
  · simp [h1]; omega
  · by_cases h2 : f i = d
    · simp [h2, hi]
    · simp [h1, h2]; omega
theorem cntN_add1 {p q : Nat → Bool} {t : Nat} : ∀ {n : Nat}, t < n → (∀ i, i ≠ t → q i = p i) → p t = false → q t = true → cntN q n = cntN p n + 1
  | 0, h, _, _, _ => by omega
  | n + 1, h, h1, h2, h3 => by
    rw [cntN, cntN]
    by_cases e : t = n
    · subst e
      rw [h2, h3, cntN_congr (p := q) (q := p) (fun i hi => h1 i (by omega))]
      rfl
    · rw [cntN_add1 (n := n) (by omega) h1 h2 h3, h1 n (fun z => e z.symm)]
      omega
theorem pasN_hit {f : Nat → Nat} {n d t : Nat} (ht : t < n) (h : f t = d) : pasN f n d (t + 1) = pasN f n d t + 1 := by
  unfold pasN
  refine cntN_add1 ht (fun i hi => ?_) ?_ ?_
  · have : decide (i < t + 1) = decide (i < t) := by
      by_cases q : i < t
      · rw [decide_eq_true q, decide_eq_true (by omega)]
      · rw [decide_eq_false q, decide_eq_false (by omega)]
    rw [this]
  · simp [h]
  · simp [h]
theorem pasN_miss {f : Nat → Nat} {n d t : Nat} (h : ¬ f t = d) : pasN f n d (t + 1) = pasN f n d t := by
  unfold pasN
  refine cntN_congr (fun i hi => ?_)
  by_cases q : i = t
  · subst q; simp [h]
  · have : decide (i < t + 1) = decide (i < t) := by
      by_cases r : i < t
      · rw [decide_eq_true r, decide_eq_true (by omega)]
      · rw [decide_eq_false r, decide_eq_false (by omega)]
    rw [this]
theorem i_sub0 {k x : Int32} (h : k - x = 0) : x = k := by grind
theorem i_sub0' {k x : Int32} (h : x = k) : k - x = 0 := by grind
theorem i_dec {k : Int32} {n : Nat} : k - nI n + (-1) = k - nI (n + 1) := by rw [nI_succ]; grind
/-- none that was passed is the one -/
def pasI (S Hd : Nat → Int32) (lt : Nat) (k : Int32) (d t : Nat) : Prop := ∀ u, u < tn Hd → (farT S Hd lt u < d ∨ farT S Hd lt u = d ∧ u < t) → ¬ nI (ahd (farT S Hd lt) (tn Hd) u) = k
theorem pasI_0 {S Hd : Nat → Int32} {lt : Nat} {k : Int32} : pasI S Hd lt k 0 0 := fun u _ h => by omega
theorem pasI_row {S Hd : Nat → Int32} {lt d : Nat} {k : Int32} (h : pasI S Hd lt k d (tn Hd)) : pasI S Hd lt k (d + 1) 0 := fun u hu h1 => h u hu (by omega)
theorem pasI_miss {S Hd : Nat → Int32} {lt d t : Nat} {k : Int32} (h : pasI S Hd lt k d t) (hm : ¬ farT S Hd lt t = d) : pasI S Hd lt k d (t + 1) := fun u hu h1 => h u hu (by
  by_cases e : u = t
  · subst e; omega
  · omega)
theorem pasI_hit {S Hd : Nat → Int32} {lt d t : Nat} {k : Int32} (h : pasI S Hd lt k d t) (hm : ¬ nI (ahd (farT S Hd lt) (tn Hd) t) = k) : pasI S Hd lt k d (t + 1) := fun u hu h1 => by
  by_cases e : u = t
  · rw [e]; exact hm
  · exact h u hu (by omega)
theorem nrA_none {S Hd : Nat → Int32} {lt d : Nat} {k : Int32} (h : pasI S Hd lt k d 0) (hd : lim S < d) : nrA S Hd lt k = none := by
  refine fndN_none (fun j hj => ?_)
  by_cases q : farT S Hd lt j ≤ lim S
  · rw [decide_eq_false (h j hj (by omega)), Bool.and_false]
  · rw [decide_eq_false q, Bool.false_and]
theorem ahd_le {f : Nat → Nat} {n t : Nat} : ahd f n t ≤ n := cntN_le _ _
theorem nrA_some {S Hd : Nat → Int32} {lt t : Nat} {k : Int32} (ht : t < tn Hd) (hn : tn Hd ≤ 12) (h1 : farT S Hd lt t ≤ lim S) (h2 : nI (ahd (farT S Hd lt) (tn Hd) t) = k) : nrA S Hd lt k = some t := by
  refine fndN_some ht (by simp [h1, h2]) (fun j hj => ?_)
  have hne : ¬ nI (ahd (farT S Hd lt) (tn Hd) j) = k := by
    intro q
    rw [← h2] at q
    have b1 := ahd_le (f := farT S Hd lt) (n := tn Hd) (t := j)
    have b2 := ahd_le (f := farT S Hd lt) (n := tn Hd) (t := t)
    have := ahd_inj (show j < tn Hd by omega) ht ((nI_eq (by omega) (by omega)).mp q)
    omega
  rw [decide_eq_false hne, Bool.and_false]
theorem nrA_lt {S Hd : Nat → Int32} {lt t : Nat} {k : Int32} (h : nrA S Hd lt k = some t) : t < tn Hd := (fndN_lt h).1
