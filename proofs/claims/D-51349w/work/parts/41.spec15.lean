/-! SPEC 15: load -/
def cpN (f g : Nat → Int32) (k : Nat) : Nat → Int32 := fun i => if i < k then f i else g i
theorem cpN_0 {f g : Nat → Int32} : cpN f g 0 = g := by funext i; exact if_neg (by omega)
theorem cpN_s {f g : Nat → Int32} {k : Nat} : upd (cpN f g k) k (f k) = cpN f g (k + 1) := by
  funext i
  unfold upd cpN
  by_cases h : i = k
  · rw [if_pos h, if_pos (by omega), h]
  · rw [if_neg h]
    by_cases h2 : i < k
    · rw [if_pos h2, if_pos (by omega)]
    · rw [if_neg h2, if_neg (by omega)]
def ldA (M : Nat → Nat → Int32) (n : Nat) : Nat → Nat → Int32 := mrow (mrow (mrow M 0 (upd (upd (upd (upd (upd (upd (M 0) 0 (nI 0)) 8 (nI 0)) 11 (nI n)) 12 (nI 0)) 16 (nI 0)) 17 (-1))) 3 (va_cpy (M 2) (M 3) 0 2730 273)) 6 (cpN (M 1) (M 6) 26)
def ldB (M : Nat → Nat → Int32) (n : Nat) : Nat → Nat → Int32 := readsM (tokM (ldA M n))
def ldE (X : Nat → Nat → Int32) : Int32 := if X 0 16 = 0 then -1 else X 0 17
def ldO' (X : Nat → Nat → Int32) : Nat → Nat → Int32 := mrow (mrow X 0 (upd (upd (upd (upd (upd (X 0) 0 (nI 0)) 1 (nI 1)) 5 (nI 0)) 9 (X 0 16)) 10 (ldE X))) 4 (upd (upd (X 4) 0 (nI 0)) 1 (nI 0))
def ldF' (M X : Nat → Nat → Int32) : Nat → Nat → Int32 := mrow (mrow (mrow X 0 (upd (upd (upd (X 0) 0 (nI 2)) 9 (X 0 16)) 10 (ldE X))) 1 (M 1)) 2 (M 2)
theorem ldA_p0 {M : Nat → Nat → Int32} {n : Nat} (hn : n ≤ 600) : PW0 (ldA M n) := by
  have e : bl (ldA M n) = n := nI_clamp (by omega)
  have e2 : nx (ldA M n) = 0 := nI_clamp (by omega)
  exact ⟨by rw [e]; rfl, by omega, by rw [e2]; rfl, by omega⟩
theorem m_row1 {dC : Nat → ClassId} {dI : Nat → Nat → Nat} {dA : Nat → ClassId} {a : Nat → Nat} {M : Nat → Nat → Int32} {H : Heap} {f g : Nat → Int32} (h : ∀ i, i < 26 → f i = g i) (hP : mP dC dI dA a (mrow M 1 f) H) : mP dC dI dA a (mrow M 1 g) H := by
  intro k q hk
  by_cases e : k = 1
  · subst e
    have h1 := hP 1 _ rfl
    cases hk
    show H[a 1]? = some (vp_cell _ (26, .inl g))
    rw [← vp_cell_congr h]
    exact h1
  · refine hP k q ?_
    rw [← hk]
    match k, e with
    | 0, _ => rfl
    | 1, e => exact absurd rfl e
    | 2, _ => rfl
    | 3, _ => rfl
    | 4, _ => rfl
    | 5, _ => rfl
    | 6, _ => rfl
    | 7, _ => rfl
    | k + 8, _ => rfl
theorem ld_back {dC : Nat → ClassId} {dI : Nat → Nat → Nat} {dA : Nat → ClassId} {a : Nat → Nat} {M X : Nat → Nat → Int32} {H : Heap} {F g2 : Nat → Int32} (h6 : X 6 = cpN (M 1) (M 6) 26) (h3 : X 3 = va_cpy (M 2) (M 3) 0 2730 273) (hP : mP dC dI dA a (mrow (mrow (mrow X 0 F) 1 (cpN (X 6) (X 1) 26)) 2 (va_cpy (X 3) g2 2730 0 273)) H) : mP dC dI dA a (mrow (mrow (mrow X 0 F) 1 (M 1)) 2 (M 2)) H := by
  rw [h3] at hP
  have h1 := m_row2 (g := M 2) cpy_back hP
  exact m_row1 (M := mrow (mrow X 0 F) 2 (M 2)) (f := cpN (X 6) (X 1) 26) (fun i hi => by rw [h6]; exact (if_pos hi).trans (if_pos hi)) h1
