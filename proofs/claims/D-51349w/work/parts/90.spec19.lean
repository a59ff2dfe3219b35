/-! SPEC 19: tests in arrays; what the counts of tests are -/
/-- the state that methods see which make tests -/
abbrev AY (dC : Nat → ClassId) (dI : Nat → Nat → Nat) (dA : Nat → ClassId) (g b : Nat → Nat) (mc S Hd n : Nat → Int32) (sz : Nat) (cs : Nat → ClassId) (U : State) (H : Heap) : Prop := AX dC dI dA g b mc S Hd n sz U H ∧ FT9 U ∧ LE cs U ∧ lamP (cs 0) [.ref (g 0)] (g 5) H
theorem TSA.mk1 {dC : Nat → ClassId} {dI : Nat → Nat → Nat} {dA : Nat → ClassId} {g b b2 : Nat → Nat} {Hd2 : Nat → Int32} {cs : Nat → ClassId} {y i q : Nat} {z : Int32} {H : Heap} (h : cP dC dI y (.inl (dA 7, 1, .inr (.inr (.inr (.inr (va_up (fun _ => none) 0 (some q))))))) H) (hi : i < 12) (hl : lamP (cs i) (lcap (g 0) (b 0) (b2 0) z i) q H) (hz : i = 4 → ∃ t, t < tn Hd2 ∧ z = nI t) :
    TSA dC dI dA g b b2 Hd2 cs y 1 (fun _ => i) (fun _ => q) (fun _ => z) H := by
  refine ⟨?_, fun j hj => ⟨hi, hl, hz⟩⟩
  have e : va_up (fun _ => none) 0 (some q) = fun j => if j < 1 then some ((fun _ => q) j) else none := by
    funext j
    unfold va_up
    by_cases hj : j = 0
    · rw [if_pos hj, if_pos (by omega)]
    · rw [if_neg hj, if_neg (by omega)]
  rw [← e]
  exact h
theorem TSA.mk2 {dC : Nat → ClassId} {dI : Nat → Nat → Nat} {dA : Nat → ClassId} {g b b2 : Nat → Nat} {Hd2 : Nat → Int32} {cs : Nat → ClassId} {y i0 i1 q0 q1 : Nat} {z0 z1 : Int32} {H : Heap} (h : cP dC dI y (.inl (dA 7, 2, .inr (.inr (.inr (.inr (va_up (va_up (fun _ => none) 0 (some q0)) 1 (some q1))))))) H) (h0 : i0 < 12) (h1 : i1 < 12)
    (hl0 : lamP (cs i0) (lcap (g 0) (b 0) (b2 0) z0 i0) q0 H) (hl1 : lamP (cs i1) (lcap (g 0) (b 0) (b2 0) z1 i1) q1 H) (hz0 : i0 = 4 → ∃ t, t < tn Hd2 ∧ z0 = nI t) (hz1 : i1 = 4 → ∃ t, t < tn Hd2 ∧ z1 = nI t) :
    TSA dC dI dA g b b2 Hd2 cs y 2 (fun j => if j = 0 then i0 else i1) (fun j => if j = 0 then q0 else q1) (fun j => if j = 0 then z0 else z1) H := by
  refine ⟨?_, fun j hj => ?_⟩
  · have e : va_up (va_up (fun _ => none) 0 (some q0)) 1 (some q1) = fun j => if j < 2 then some ((fun j => if j = 0 then q0 else q1) j) else none := by
      funext j
      unfold va_up
      match j with
      | 0 => rfl
      | 1 => rfl
      | j + 2 => rw [if_neg (by omega), if_neg (by omega), if_neg (by omega)]
    rw [← e]
    exact h
  · match j, hj with
    | 0, _ => exact ⟨h0, hl0, hz0⟩
    | 1, _ => exact ⟨h1, hl1, hz1⟩
theorem many1 {S S2 Hd2 : Nat → Int32} {i : Nat} {z : Int32} {q : Nat → Bool} {n : Nat} (h : ∀ o, o < n → tf S S2 Hd2 i z o = q o) : cntN (fun o => allN (fun j => tf S S2 Hd2 ((fun _ => i) j) ((fun _ => z) j) o) 1) n = cntN q n :=
  cntN_congr (fun o ho => by rw [← h o ho]; simp only [allN, Bool.true_and])
theorem many2 {S S2 Hd2 : Nat → Int32} {i0 i1 : Nat} {z0 z1 : Int32} {q : Nat → Bool} {n : Nat} (h : ∀ o, o < n → (tf S S2 Hd2 i0 z0 o && tf S S2 Hd2 i1 z1 o) = q o) : cntN (fun o => allN (fun j => tf S S2 Hd2 ((fun j => if j = 0 then i0 else i1) j) ((fun j => if j = 0 then z0 else z1) j) o) 2) n = cntN q n :=
  cntN_congr (fun o ho => by rw [← h o ho]; simp only [allN, Bool.true_and]; rfl)
theorem t_wt1 {S Hd : Nat → Int32} {o : Nat} : (tf S S Hd 0 (nI 0) o && tf S S Hd 1 (nI 0) o) = wtP S Hd (-1) o := by
  show (decide (lr S o 6 = 0) && (dcd S Hd o).isSome) = _
  rw [wtP]
  cases dcd S Hd o with
  | none => rfl
  | some t => rfl
theorem t_wt3 {S Hd : Nat → Int32} {o t : Nat} (ht : t < tn Hd) (hT : TWf Hd) : (tf S S Hd 0 (nI 0) o && tf S S Hd 3 (nI t) o) = wtP S Hd (nI t) o := by
  show (decide (lr S o 6 = 0) && decide (oI (dcd S Hd o) = nI t)) = _
  have hn9 := hT.2.1
  rw [wtP]
  cases hE : dcd S Hd o with
  | none =>
    have : ¬ oI none = nI t := fun q => nI_m1' (by omega) q
    rw [decide_eq_false this]
  | some u =>
    have : ¬ nI t = -1 := fun q => nI_m1' (by omega) q.symm
    show (_ && decide (nI u = nI t)) = (_ && (decide (nI t = -1) || decide (nI u = nI t)))
    rw [decide_eq_false this, Bool.false_or]
theorem t_nr {S Hd : Nat → Int32} {o t : Nat} (ht : t < tn Hd) (hT : TWf Hd) : (tf S S Hd 0 (nI 0) o && tf S S Hd 4 (nI t) o) = (decide (lr S o 6 = 0) && decide (farT S Hd o t ≤ lim S)) := by
  have hn9 := hT.2.1
  show (_ && decide (farT S Hd o (nI t).toNatClampNeg ≤ lim S)) = _
  rw [nI_clamp (by omega)]
  rfl
theorem t_sr {S Hd : Nat → Int32} {o t : Nat} (h : LTf S o) (ht : t < 2 ^ 31) : tf S S Hd 2 (nI t) o = (decide (lr S o 6 = nI 1) && decide (lr S o 9 = nI t)) := by
  show decide (lr S o 9 = nI t) = _
  by_cases e : lr S o 9 = nI t
  · rw [decide_eq_true e, decide_eq_true (h.1.resolve_right (fun q => nI_m1' ht (q.symm.trans e)))]; rfl
  · rw [decide_eq_false e, Bool.and_false]
theorem t_cs {S Hd : Nat → Int32} {o : Nat} {x : Int32} (h : LTf S o) (hx : ¬ x = nI 0) : (tf S S Hd 7 (nI 0) o && tf S S Hd 8 x o) = decide (lr S o 8 = x) := by
  show (decide (lr S o 6 = nI 2) && decide (lr S o 8 = x)) = _
  by_cases e : lr S o 8 = x
  · rw [decide_eq_true e, decide_eq_true (h.2.resolve_left (fun q => hx (e.symm.trans q)))]; rfl
  · rw [decide_eq_false e, Bool.and_false]
theorem slv_cnt {S Hd : Nat → Int32} {b : Int32} : ∀ n, sumN (slvF S Hd b false) n = cntN (fun o => decide (lr S o 5 = b) && (byS S Hd o).isSome) n
  | 0 => rfl
  | n + 1 => by
    rw [sumN, cntN, slv_cnt n, slvF]
    by_cases e : lr S n 5 = b
    · rw [if_pos e, decide_eq_true e]
      cases byS S Hd n <;> rfl
    · rw [if_neg e, decide_eq_false e]
      rfl
