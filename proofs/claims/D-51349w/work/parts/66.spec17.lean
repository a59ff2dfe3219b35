/-! SPEC 17: a copy's cells: x, then from hs on, one behind another -/
section SPEC17
variable {dC : Nat → ClassId} {dI : Nat → Nat → Nat} {dA : Nat → ClassId} {b : Nat → Nat} {H : Heap} {x hs : Nat} {mc S Hd : Nat → Int32}
def bN (x hs : Nat) (b : Nat → Nat) (k : Nat) : Nat := if k = 0 then x else if k < 3 then b k else if k < 10 then hs + (k - 3) else if k < 22 then b k else if k < 46 then hs + (7 + 2 * (k - 22)) else hs + (8 + 2 * (k - 46))
def mcN (mc S : Nat → Int32) : Nat → Int32 := fun i => if i = 0 then mc 0 else nI (ln S)
def lsF (hs k : Nat) : Nat → Option Nat := fun o => if o < k then some (hs + (7 + 2 * o)) else none
theorem lsF_0 : lsF hs 0 = fun _ => none := by funext o; exact if_neg (Nat.not_lt_zero o)
theorem lsF_s {k : Nat} : va_up (lsF hs k) k (some (hs + (7 + 2 * k))) = lsF hs (k + 1) := by
  funext o
  unfold va_up lsF
  by_cases h : o = k
  · subst h; rw [if_pos rfl, if_pos (by omega)]
  · rw [if_neg h]
    by_cases h2 : o < k
    · rw [if_pos h2, if_pos (by omega)]
    · rw [if_neg h2, if_neg (by omega)]
theorem fit_b {S : Nat → Int32} {i : Nat} : fits .boolean (.int (clip 6 (fun r => if S (9 + r) = 0 then nI 1 else nI 0) i)) = true := by
  have h : ∀ v : Int32, (v = nI 1 ∨ v = nI 0) → fits .boolean (.int v) = true := by
    intro v hv
    rcases hv with rfl | rfl <;> rfl
  refine h _ ?_
  show (if i < 6 then (if S (9 + i) = 0 then nI 1 else nI 0) else 0) = nI 1 ∨ (if i < 6 then (if S (9 + i) = 0 then nI 1 else nI 0) else 0) = nI 0
  by_cases h1 : i < 6
  · rw [if_pos h1]
    by_cases h2 : S (9 + i) = 0
    · left; rw [if_pos h2]
    · right; rw [if_neg h2]
  · right; rw [if_neg h1]; rfl
theorem bN_tw {t : Nat} (h : t < 12) : bN x hs b (10 + t) = b (10 + t) := by
  unfold bN
  rw [if_neg (by omega), if_neg (by omega), if_neg (by omega), if_pos (by omega)]
theorem bN_lt {o : Nat} (h : o < 24) : bN x hs b (22 + o) = hs + (7 + 2 * o) := by
  unfold bN
  rw [if_neg (by omega), if_neg (by omega), if_neg (by omega), if_neg (by omega), if_pos (by omega)]
  omega
theorem bN_rd {o : Nat} : bN x hs b (46 + o) = hs + (8 + 2 * o) := by
  unfold bN
  rw [if_neg (by omega), if_neg (by omega), if_neg (by omega), if_neg (by omega), if_neg (by omega)]
  omega
theorem bN_own {n k : Nat} (h : ownK n k) (hn : n ≤ 24) : bN x hs b k = x ∨ (hs ≤ bN x hs b k ∧ bN x hs b k < hs + (7 + 2 * n)) := by
  unfold ownK at h
  unfold bN
  rcases h with h | h | h | h
  · left; rw [if_pos h]
  · right; rw [if_neg (by omega), if_neg (by omega), if_pos (by omega)]; omega
  · right; rw [if_neg (by omega), if_neg (by omega), if_neg (by omega), if_neg (by omega), if_pos (by omega)]; omega
  · right; rw [if_neg (by omega), if_neg (by omega), if_neg (by omega), if_neg (by omega), if_neg (by omega)]; omega
theorem off_mk (hT : tn Hd ≤ 12) (hL : ln S ≤ 24) (hO : famP dC dI b (offE b dA mc S Hd) H)
    (hP : cP dC dI x (.inr (1, [.ref (b 1), .ref hs, .ref (hs + 2), .ref (hs + 3), .ref (hs + 4), .ref (hs + 5), .ref (hs + 6), .int (S 0), .int (Hd 0), .int (S 1)])) H)
    (h3 : cP dC dI hs (.inr (6, [.int (nI (ln S)), .ref (hs + 1), .int (nI (ln S))])) H) (h4 : cP dC dI (hs + 1) (.inl (dA 5, 24, .inr (.inr (.inr (.inr (lsF hs (ln S))))))) H)
    (h5 : cP dC dI (hs + 2) (.inl (dA 0, 6, .inl (clip 6 (fun r => S (3 + r))))) H) (h6 : cP dC dI (hs + 3) (.inl (dA 0, 6, .inl (clip 6 (fun r => S (15 + r))))) H) (h7 : cP dC dI (hs + 4) (.inl (dA 0, 6, .inl (clip 6 (fun r => S (21 + r))))) H) (h8 : cP dC dI (hs + 5) (.inl (dA 0, 6, .inl (clip 6 (fun r => S (27 + r))))) H) (h9 : cP dC dI (hs + 6) (.inl (dA 1, 6, .inl (clip 6 (fun r => if S (9 + r) = 0 then nI 1 else nI 0)))) H)
    (hF : ∀ o, o < ln S → cP dC dI (hs + (7 + 2 * o)) (.inr (3, [.ref (hs + (8 + 2 * o)), .int (lr S o 5), .int (lr S o 6), .int (lr S o 7), .int (lr S o 8), .int (lr S o 9)])) H ∧ cP dC dI (hs + (8 + 2 * o)) (.inl (dA 0, 5, .inl (clip 5 (fun p => lr S o p)))) H) :
    famP dC dI (bN x hs b) (offE (bN x hs b) dA (mcN mc S) S Hd) H := by
  intro k en hk
  have hu := offE_use hk
  have hc : k = 0 ∨ k = 1 ∨ k = 2 ∨ k = 3 ∨ k = 4 ∨ k = 5 ∨ k = 6 ∨ k = 7 ∨ k = 8 ∨ k = 9 ∨ (∃ t, t < tn Hd ∧ k = 10 + t) ∨ (∃ o, o < ln S ∧ k = 22 + o) ∨ (∃ o, o < ln S ∧ k = 46 + o) := by
    unfold useK at hu
    by_cases h1 : k < 10
    · omega
    · by_cases h2 : k < 22
      · exact Or.inr (Or.inr (Or.inr (Or.inr (Or.inr (Or.inr (Or.inr (Or.inr (Or.inr (Or.inr (Or.inl ⟨k - 10, by omega, by omega⟩))))))))))
      · by_cases h3 : k < 46
        · exact Or.inr (Or.inr (Or.inr (Or.inr (Or.inr (Or.inr (Or.inr (Or.inr (Or.inr (Or.inr (Or.inr (Or.inl ⟨k - 22, by omega, by omega⟩)))))))))))
        · exact Or.inr (Or.inr (Or.inr (Or.inr (Or.inr (Or.inr (Or.inr (Or.inr (Or.inr (Or.inr (Or.inr (Or.inr ⟨k - 46, by omega, by omega⟩)))))))))))
  rcases hc with rfl | rfl | rfl | rfl | rfl | rfl | rfl | rfl | rfl | rfl | ⟨t, ht, rfl⟩ | ⟨o, ho, rfl⟩ | ⟨o, ho, rfl⟩
  · cases hk; exact hP
  · cases hk; exact hO 1 _ rfl
  · cases hk
    have e : (fun t => if t < tn Hd then some (bN x hs b (10 + t)) else none) = (fun t => if t < tn Hd then some (b (10 + t)) else none) := by
      funext t
      by_cases ht : t < tn Hd
      · rw [if_pos ht, if_pos ht, bN_tw (by omega)]
      · rw [if_neg ht, if_neg ht]
    rw [e]
    exact hO 2 _ rfl
  · cases hk; exact h3
  · cases hk
    have e : (fun o => if o < ln S then some (bN x hs b (22 + o)) else none) = lsF hs (ln S) := by
      funext o
      unfold lsF
      by_cases ho : o < ln S
      · rw [if_pos ho, if_pos ho, bN_lt (by omega)]
      · rw [if_neg ho, if_neg ho]
    rw [e]
    exact h4
  · cases hk; exact h5
  · cases hk; exact h6
  · cases hk; exact h7
  · cases hk; exact h8
  · cases hk; exact h9
  · rw [offE_tw ht hT] at hk
    cases hk
    rw [bN_tw (by omega)]
    exact hO _ _ (offE_tw ht hT)
  · rw [offE_lt ho hL, bN_rd] at hk
    cases hk
    rw [bN_lt (by omega)]
    exact (hF o ho).1
  · rw [offE_rd ho hL] at hk
    cases hk
    rw [bN_rd]
    exact (hF o ho).2
theorem bN_J (hT : tn Hd ≤ 12) (hL : ln S ≤ 24) (hJ : offJ b (ln S) (tn Hd)) (hx : x < hs) (ht : ∀ k, (k = 1 ∨ k = 2 ∨ (10 ≤ k ∧ k < 10 + tn Hd)) → b k < hs ∧ b k ≠ x) : offJ (bN x hs b) (ln S) (tn Hd) := by
  have cls : ∀ k, useK (ln S) (tn Hd) k → (bN x hs b k = x ∧ k = 0) ∨ ((k = 1 ∨ k = 2 ∨ (10 ≤ k ∧ k < 10 + tn Hd)) ∧ bN x hs b k = b k) ∨ (3 ≤ k ∧ k < 10 ∧ bN x hs b k = hs + (k - 3)) ∨ (22 ≤ k ∧ k < 46 ∧ bN x hs b k = hs + (7 + 2 * (k - 22))) ∨ (46 ≤ k ∧ bN x hs b k = hs + (8 + 2 * (k - 46))) := by
    intro k hk
    unfold useK at hk
    unfold bN
    by_cases h0 : k = 0
    · left; exact ⟨if_pos h0, h0⟩
    · rw [if_neg h0]
      by_cases h3 : k < 3
      · right; left; rw [if_pos h3]; exact ⟨by omega, rfl⟩
      · rw [if_neg h3]
        by_cases h10 : k < 10
        · right; right; left; rw [if_pos h10]; exact ⟨by omega, h10, rfl⟩
        · rw [if_neg h10]
          by_cases h22 : k < 22
          · right; left; rw [if_pos h22]; exact ⟨by omega, rfl⟩
          · rw [if_neg h22]
            by_cases h46 : k < 46
            · right; right; right; left; rw [if_pos h46]; exact ⟨by omega, h46, rfl⟩
            · right; right; right; right; rw [if_neg h46]; exact ⟨by omega, rfl⟩
  intro i j hi hj e
  rcases cls i hi with ⟨a1, a2⟩ | ⟨a1, a2⟩ | ⟨a1, a3, a2⟩ | ⟨a1, a3, a2⟩ | ⟨a1, a2⟩ <;> rcases cls j hj with ⟨b1, b2⟩ | ⟨b1, b2⟩ | ⟨b1, b3, b2⟩ | ⟨b1, b3, b2⟩ | ⟨b1, b2⟩
  all_goals first
    | omega
    | (have h1 := ht i a1; omega)
    | (have h1 := ht j b1; omega)
    | exact hJ i j hi hj (by rw [← a2, ← b2]; exact e)
end SPEC17
