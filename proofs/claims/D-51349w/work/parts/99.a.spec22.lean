/-! SPEC 22: sorting doesn't look at what has been sent -/
section SPEC22
variable {S S' Hd : Nat → Int32} {lt : Nat}
theorem E_far (h : lr S' = lr S) : farT S' Hd = farT S Hd := by funext a b; unfold farT; rw [h]
theorem E_unr (h : lr S' = lr S) : unr S' = unr S := by funext a; unfold unr; rw [h]
theorem E_lim (h0 : S' 0 = S 0) : lim S' = lim S := by unfold lim; rw [h0]
theorem E_ln (h2 : S' 2 = S 2) : ln S' = ln S := by unfold ln; rw [h2]
theorem E_lst (h : lr S' = lr S) : lst S' Hd = lst S Hd := by funext a; unfold lst; rw [E_far h]
theorem E_isB (h : lr S' = lr S) (h0 : S' 0 = S 0) : isB S' Hd = isB S Hd := by funext a b; unfold isB; rw [E_far h, E_lim h0, E_lst h]
theorem E_bst (h : lr S' = lr S) (h0 : S' 0 = S 0) : bst S' Hd = bst S Hd := by funext a; unfold bst; rw [E_isB h h0]
theorem E_byS (h : lr S' = lr S) (h0 : S' 0 = S 0) : byS S' Hd = byS S Hd := by funext a; unfold byS; rw [E_unr h, E_bst h h0, E_isB h h0]
theorem E_oth (h : lr S' = lr S) (h0 : S' 0 = S 0) : ∀ o, oth S' Hd lt o = oth S Hd lt o
  | 0 => rfl
  | o + 1 => by rw [oth, oth, E_oth h h0 o, E_byS h h0, h]
theorem E_dcd (h : lr S' = lr S) (h0 : S' 0 = S 0) (h2 : S' 2 = S 2) (hb : S' (3 + bun S lt) = S (3 + bun S lt)) : dcd S' Hd lt = dcd S Hd lt := by
  have e1 : bun S' lt = bun S lt := by unfold bun; rw [h]
  have e2 : byB S' Hd lt = byB S Hd lt := by
    have e3 : ∀ x, bbP S' Hd lt x = bbP S Hd lt x := fun x => by funext t; unfold bbP; rw [E_isB h h0, e1, hb]
    unfold byB
    rw [E_unr h, e1, hb, E_ln h2, E_oth h h0]
    cases oth S Hd lt (ln S) with
    | none => rfl
    | some x => show (if _ then _ else unq (bbP S' Hd lt x) (tn Hd)) = _; rw [e3]
  unfold dcd
  rw [E_byS h h0, e2]
theorem E_why (h : lr S' = lr S) (h0 : S' 0 = S 0) (hd : dcd S' Hd lt = dcd S Hd lt) : why S' Hd lt = why S Hd lt := by
  unfold why nrT
  rw [hd, E_unr h, E_far h, E_lim h0]
theorem E_cau (hT : TWf Hd) (h : lr S' = lr S) (h0 : S' 0 = S 0) (hd : dcd S' Hd lt = dcd S Hd lt) (h9 : ∀ r, r < 6 → S' (9 + r) = S (9 + r)) : cau S' Hd lt = cau S Hd lt := by
  cases hE : dcd S Hd lt with
  | none =>
    unfold cau
    rw [hd, hE]
    exact E_why h h0 hd
  | some t =>
    have ht := (hT.2.2 t (dcd_lt hE)).2.2.2
    rw [cau_some (hd.trans hE), cau_some hE, h9 _ ht]
def addS (S d : Nat → Int32) : Nat → Int32 := fun i => S i + d i
variable {d : Nat → Int32}
theorem addS_off (hd : ∀ i, ¬ (21 ≤ i ∧ i < 27) → d i = 0) {i : Nat} (hi : ¬ (21 ≤ i ∧ i < 27)) : addS S d i = S i := by
  show S i + d i = _
  rw [hd i hi, Int32.add_zero]
theorem addS_upd (hd : ∀ i, ¬ (21 ≤ i ∧ i < 27) → d i = 0) {i : Nat} {v : Int32} (hi : ¬ (21 ≤ i ∧ i < 27)) : upd (addS S d) i v = addS (upd S i v) d := by
  funext j
  by_cases e : j = i
  · subst e
    rw [upd_eq, addS_off hd hi, upd_eq]
  · show _ = upd S i v j + d j
    rw [upd_ne e, upd_ne e]
    rfl
theorem addS_inc {i : Nat} : upd (addS S d) i (addS S d i + nI 1) = addS (upd S i (S i + nI 1)) d := by
  funext j
  by_cases e : j = i
  · subst e
    rw [upd_eq]
    show S j + d j + nI 1 = upd S j (S j + nI 1) j + d j
    rw [upd_eq, Int32.add_assoc, Int32.add_comm (d j), ← Int32.add_assoc]
  · show _ = upd S i _ j + d j
    rw [upd_ne e, upd_ne e]
    rfl
theorem bagS_add (hd : ∀ i, ¬ (21 ≤ i ∧ i < 27) → d i = 0) {bag : Int32} {r : Nat} (hr : r < 6) : bagS (addS S d) bag r = addS (bagS S bag r) d := by
  have hF : bagF (addS S d) r = addS (bagF S r) d := by
    unfold bagF
    rw [addS_off hd (i := 27 + r) (by omega), addS_upd hd (i := 27 + r) (by omega), addS_off hd (i := 15 + r) (by omega), addS_upd hd (by omega)]
  unfold bagS
  rw [hF, addS_off hd (i := 15 + r) (by omega)]
  by_cases c : bagF S r (15 + r) = bag
  · rw [if_pos c, if_pos c, addS_upd hd (i := 15 + r) (by omega), addS_inc]
  · rw [if_neg c, if_neg c]
theorem lr_add (hd : ∀ i, ¬ (21 ≤ i ∧ i < 27) → d i = 0) : lr (addS S d) = lr S := by
  funext a b
  exact addS_off hd (by omega)
theorem dcd_add (hd : ∀ i, ¬ (21 ≤ i ∧ i < 27) → d i = 0) (hb : bun S lt < 6) : dcd (addS S d) Hd lt = dcd S Hd lt := E_dcd (lr_add hd) (addS_off hd (by omega)) (addS_off hd (by omega)) (addS_off hd (by omega))
theorem cau_add (hT : TWf Hd) (hd : ∀ i, ¬ (21 ≤ i ∧ i < 27) → d i = 0) (hb : bun S lt < 6) : cau (addS S d) Hd lt = cau S Hd lt := E_cau hT (lr_add hd) (addS_off hd (by omega)) (dcd_add hd hb) (fun r hr => addS_off hd (by omega))
theorem srtS_add (hT : TWf Hd) (hd : ∀ i, ¬ (21 ≤ i ∧ i < 27) → d i = 0) (hb : bun S lt < 6) : srtS (addS S d) Hd lt = addS (srtS S Hd lt) d := by
  unfold srtS
  rw [cau_add hT hd hb, dcd_add hd hb]
  by_cases c : cau S Hd lt = 0
  · rw [if_pos c, if_pos c]
    obtain ⟨t, hE⟩ := cau_0 c
    rw [hE]
    show bagS (upd (upd (addS S d) _ _) _ _) _ _ = addS (bagS _ _ _) d
    rw [addS_upd hd (by omega), addS_upd hd (by omega), bagS_add hd (hT.2.2 t (dcd_lt hE)).2.2.2]
  · rw [if_neg c, if_neg c, addS_upd hd (by omega), addS_upd hd (by omega)]
theorem sum6_add {a : Nat} : ∀ k, sum6 (addS S d) a k = sum6 S a k + sum6 d a k
  | 0 => by show (0 : Int32) = 0 + 0; decide
  | k + 1 => by
    rw [sum6, sum6, sum6, sum6_add k]
    show sum6 S a k + sum6 d a k + (S (a + k) + d (a + k)) = _
    rw [Int32.add_assoc, Int32.add_assoc, ← Int32.add_assoc (sum6 d a k), Int32.add_comm (sum6 d a k) (S (a + k)), Int32.add_assoc]
end SPEC22
