/-! TWIN 0: the reference's cells. M: its numbers: row 0 its scalar fields by their numbers, rows 1 .. 7 its arrays h, s, stores, isKept, buffer, heldTold, text; a: the addresses -/
def mrow (M : Nat → Nat → Int32) (r : Nat) (f : Nat → Int32) : Nat → Nat → Int32 := fun r' => if r' = r then f else M r'
abbrev mW (a : Nat → Nat) (dA : Nat → ClassId) (M : Nat → Nat → Int32) : va_W := [(a 0, .inr (2, [.int (M 0 0), .int (M 0 1), .ref (a 1), .ref (a 2), .ref (a 3), .int (M 0 5), .ref (a 4), .ref (a 5), .int (M 0 8), .int (M 0 9), .int (M 0 10), .int (M 0 11), .int (M 0 12), .int (M 0 13), .int (M 0 14), .int (M 0 15), .int (M 0 16), .int (M 0 17), .ref (a 6), .int (M 0 19), .ref (a 7), .int (M 0 21)])), (a 1, .inl (dA 0, 26, .inl (M 1))), (a 2, .inl (dA 0, 273, .inl (M 2))), (a 3, .inl (dA 0, 3003, .inl (M 3))), (a 4, .inl (dA 1, 2, .inl (M 4))), (a 5, .inl (dA 0, 600, .inl (M 5))), (a 6, .inl (dA 0, 26, .inl (M 6))), (a 7, .inl (dA 0, 400, .inl (M 7)))]
abbrev mP (dC : Nat → ClassId) (dI : Nat → Nat → Nat) (dA : Nat → ClassId) (a : Nat → Nat) (M : Nat → Nat → Int32) (H : Heap) : Prop := va_P (dC, dI) CL (mW a dA M) H
def mA (a : Nat → Nat) : Nat → Prop := fun q => ∃ k : Nat, k < 8 ∧ q = a k
def mJ (a : Nat → Nat) : Prop := ∀ i j : Nat, i < 8 → j < 8 → a i = a j → i = j
theorem m_key {a : Nat → Nat} {dA : Nat → ClassId} {M : Nat → Nat → Int32} (k : Nat) (q : Nat × va_E) (h : (mW a dA M)[k]? = some q) : k < 8 ∧ q.1 = a k := by
  match k, h with
  | 0, h => cases h; exact ⟨by decide, rfl⟩
  | 1, h => cases h; exact ⟨by decide, rfl⟩
  | 2, h => cases h; exact ⟨by decide, rfl⟩
  | 3, h => cases h; exact ⟨by decide, rfl⟩
  | 4, h => cases h; exact ⟨by decide, rfl⟩
  | 5, h => cases h; exact ⟨by decide, rfl⟩
  | 6, h => cases h; exact ⟨by decide, rfl⟩
  | 7, h => cases h; exact ⟨by decide, rfl⟩
  | k + 8, h => simp at h
theorem m_D {a : Nat → Nat} {dA : Nat → ClassId} {M : Nat → Nat → Int32} (hJ : mJ a) : va_D (mA a) (mW a dA M) := by
  refine ⟨fun i j p q hi hj hpq => ?_, fun k q hk => ?_⟩
  · obtain ⟨h1, h2⟩ := m_key i p hi
    obtain ⟨h3, h4⟩ := m_key j q hj
    exact hJ i j h1 h3 (by rw [← h2, ← h4]; exact hpq)
  · obtain ⟨h1, h2⟩ := m_key k q hk
    exact ⟨k, h1, h2⟩
theorem mrow_eq {M : Nat → Nat → Int32} {r : Nat} {f : Nat → Int32} : mrow M r f r = f := if_pos rfl
theorem mrow_ne {M : Nat → Nat → Int32} {r r' : Nat} {f : Nat → Int32} (h : r' ≠ r) : mrow M r f r' = M r' := if_neg h
