/-! SPEC 16: what the class keeps in an office's numbers (plain Lean) -/
def BGf (S Hd : Nat → Int32) : Prop := ∃ y : Nat, y ≤ 9 ∧ Hd 0 = nI y ∧ ∀ r, r < 6 → ∃ x : Nat, x < y ∧ S (15 + r) = nI x
def LTf (S : Nat → Int32) (o : Nat) : Prop := (lr S o 6 = nI 1 ∨ lr S o 9 = -1) ∧ (lr S o 8 = nI 0 ∨ lr S o 6 = nI 2)
def OPf (S : Nat → Int32) : Prop := ∀ r, r < 6 → S (9 + r) = 0 ∨ S (9 + r) = 1
def SNf (S : Nat → Int32) : Prop := ∀ r, r < 6 → ∃ x : Nat, x ≤ sts S (nI 1) ∧ S (21 + r) = nI x
def CWf (S Hd : Nat → Int32) : Prop := BGf S Hd ∧ (∀ o, o < ln S → LTf S o) ∧ OPf S ∧ SNf S
theorem upd_comm {f : Nat → Int32} {i j : Nat} {u v : Int32} (h : i ≠ j) : upd (upd f i u) j v = upd (upd f j v) i u := by
  funext k
  unfold upd
  by_cases e1 : k = i
  · subst e1
    rw [if_neg h, if_pos rfl, if_pos rfl]
  · rw [if_neg e1]
    by_cases e2 : k = j
    · rw [if_pos e2, if_neg e1]
    · rw [if_neg e2, if_neg e1]
theorem bagF_upd {S : Nat → Int32} {r i : Nat} {v : Int32} (hr : r < 6) (hi : 33 ≤ i) : bagF (upd S i v) r = upd (bagF S r) i v := by
  unfold bagF
  rw [upd_ne (show 27 + r ≠ i by omega), upd_comm (show i ≠ 27 + r by omega), upd_ne (show 15 + r ≠ i by omega), upd_comm (show i ≠ 15 + r by omega)]
theorem bagS_upd {S : Nat → Int32} {bag v : Int32} {r i : Nat} (hr : r < 6) (hi : 33 ≤ i) : bagS (upd S i v) bag r = upd (bagS S bag r) i v := by
  unfold bagS
  rw [bagF_upd hr hi, upd_ne (show 15 + r ≠ i by omega)]
  split
  · rw [upd_comm (show i ≠ 15 + r by omega), upd_ne (show 21 + r ≠ i by omega), upd_comm (show i ≠ 21 + r by omega)]
  · rfl
theorem srtS_cls {S Hd : Nat → Int32} {o t : Nat} (hT : TWf Hd) (hc : cau S Hd o = 0) (hE : dcd S Hd o = some t) : srtS S Hd o = upd (bagS (upd S (33 + 10 * o + 9) (nI t)) (Hd 0) (rou Hd t)) (33 + 10 * o + 6) (nI 1) := by
  have hr := (hT.2.2 t (dcd_lt hE)).2.2.2
  rw [srtS_ok hc hE, ← bagS_upd hr (by omega), upd_comm (by omega)]
theorem srtS_clsN {S Hd : Nat → Int32} {o : Nat} (h : ¬ cau S Hd o = 0) : srtS S Hd o = upd (upd S (33 + 10 * o + 8) (nI (cau S Hd o))) (33 + 10 * o + 6) (nI 2) := by
  rw [srtS_no h, upd_comm (by omega)]
theorem bagS_t {S : Nat → Int32} {bag : Int32} {r i : Nat} (hr : r < 6) (h : 33 ≤ i) : bagS S bag r i = S i := bagS_off hr (Or.inr h)
/-- in the bag of a route, sent: after one more -/
theorem bagS_15 {S : Nat → Int32} {r x y : Nat} (hx : S (15 + r) = nI x) (hxy : x < y) (hy : y ≤ 9) : ∃ x', x' < y ∧ bagS S (nI y) r (15 + r) = nI x' := by
  have hF : bagF S r (15 + r) = nI (x + 1) := by
    unfold bagF
    rw [upd_eq, upd_ne (by omega), hx, nI_add]
  unfold bagS
  by_cases h : x + 1 = y
  · rw [if_pos (by rw [hF, h])]
    exact ⟨0, by omega, by rw [upd_ne (by omega), upd_eq]⟩
  · rw [if_neg (by rw [hF]; exact fun q => h ((nI_eq (by omega) (by omega)).mp q))]
    exact ⟨x + 1, by omega, hF⟩
theorem bagS_15' {S : Nat → Int32} {bag : Int32} {r k : Nat} (hk : k < 6) (h : k ≠ r) : bagS S bag r (15 + k) = S (15 + k) := by
  have hF : bagF S r (15 + k) = S (15 + k) := by
    unfold bagF
    by_cases e : 15 + k = 27 + r
    · omega
    · rw [upd_ne (by omega), upd_ne e]
  unfold bagS
  split
  · by_cases e : 15 + k = 21 + r
    · omega
    · rw [upd_ne e, upd_ne (by omega), hF]
  · exact hF
theorem bagS_21 {S : Nat → Int32} {bag : Int32} {r k x : Nat} (hr : r < 6) (hk : k < 6) (h : S (21 + k) = nI x) : bagS S bag r (21 + k) = nI x ∨ bagS S bag r (21 + k) = nI (x + 1) := by
  have hF : bagF S r (21 + k) = S (21 + k) := by
    unfold bagF
    rw [upd_ne (by omega), upd_ne (by omega)]
  unfold bagS
  split
  · by_cases e : k = r
    · subst e
      right
      rw [upd_eq, upd_ne (by omega), hF, h, nI_add]
    · left
      rw [upd_ne (by omega), upd_ne (by omega), hF, h]
  · left; rw [hF, h]
theorem LTf_congr {S S' : Nat → Int32} {o : Nat} (h : ∀ w, w < 10 → lr S' o w = lr S o w) (hL : LTf S o) : LTf S' o := by
  unfold LTf
  rw [h 6 (by decide), h 8 (by decide), h 9 (by decide)]
  exact hL
theorem srtS_ln {S Hd : Nat → Int32} {o : Nat} (hT : TWf Hd) : ln (srtS S Hd o) = ln S := by
  unfold ln
  rw [srtS_off hT (Or.inl (by decide)) (by omega) (by omega) (by omega)]
theorem srtS_CWf {S Hd : Nat → Int32} {o : Nat} (hT : TWf Hd) (ho : o < ln S) (hw : lr S o 6 = nI 0) (h : CWf S Hd) : CWf (srtS S Hd o) Hd := by
  obtain ⟨⟨y, hy9, hy, hB⟩, hL, hO, hN⟩ := h
  obtain ⟨h9, h8⟩ := hL o ho
  have h9 : lr S o 9 = -1 := h9.resolve_left (by rw [hw]; decide)
  have h8 : lr S o 8 = nI 0 := h8.resolve_right (by rw [hw]; decide)
  have hoth : ∀ k w, k ≠ o → w < 10 → lr (srtS S Hd o) k w = lr S k w := fun k w hk hw => by
    unfold lr
    exact srtS_off hT (Or.inr (by omega)) (by omega) (by omega) (by omega)
  have hop : OPf (srtS S Hd o) := fun r hr => by rw [srtS_off hT (Or.inl (by omega)) (by omega) (by omega) (by omega)]; exact hO r hr
  by_cases hc : cau S Hd o = 0
  · obtain ⟨t, hE⟩ := cau_0 hc
    have hr := (hT.2.2 t (dcd_lt hE)).2.2.2
    have e := srtS_cls hT hc hE
    have e6 : lr (srtS S Hd o) o 6 = nI 1 := by rw [e]; exact upd_eq
    have e8 : lr (srtS S Hd o) o 8 = nI 0 := by
      rw [e]
      unfold lr
      rw [upd_ne (by omega), bagS_t hr (by omega), upd_ne (by omega)]
      exact h8
    have hst : sts (srtS S Hd o) (nI 1) = sts S (nI 1) + 1 := by
      unfold sts
      rw [srtS_ln hT]
      refine cntN_add1 ho (fun i hi => by rw [hoth i 6 hi (by decide)]) ?_ ?_
      · exact decide_eq_false (by rw [hw]; decide)
      · exact decide_eq_true e6
    refine ⟨⟨y, hy9, hy, fun r hr2 => ?_⟩, fun k hk => ?_, hop, fun r hr2 => ?_⟩
    · obtain ⟨x, hxy, hx⟩ := hB r hr2
      rw [e, upd_ne (by omega), hy]
      by_cases er : r = rou Hd t
      · rw [er] at hx ⊢
        exact bagS_15 (by rw [upd_ne (by omega)]; exact hx) hxy hy9
      · rw [bagS_15' hr2 er, upd_ne (by omega)]
        exact ⟨x, hxy, hx⟩
    · by_cases ek : k = o
      · rw [ek]; exact ⟨Or.inl e6, Or.inl e8⟩
      · rw [srtS_ln hT] at hk
        exact LTf_congr (fun w hw => hoth k w ek hw) (hL k hk)
    · obtain ⟨x, hxs, hx⟩ := hN r hr2
      rw [hst, e, upd_ne (by omega)]
      rcases bagS_21 (S := upd S (33 + 10 * o + 9) (nI t)) (bag := Hd 0) hr hr2 (by rw [upd_ne (by omega)]; exact hx) with q | q
      · exact ⟨x, by omega, q⟩
      · exact ⟨x + 1, by omega, q⟩
  · have e := srtS_clsN hc
    have e6 : lr (srtS S Hd o) o 6 = nI 2 := by rw [e]; exact upd_eq
    have e9 : lr (srtS S Hd o) o 9 = -1 := by
      rw [e]
      unfold lr
      rw [upd_ne (by omega), upd_ne (by omega)]
      exact h9
    have hst : sts (srtS S Hd o) (nI 1) = sts S (nI 1) := by
      unfold sts
      rw [srtS_ln hT]
      refine cntN_congr (fun i hi => ?_)
      by_cases ei : i = o
      · rw [ei, e6, hw]; decide
      · rw [hoth i 6 ei (by decide)]
    refine ⟨⟨y, hy9, hy, fun r hr2 => ?_⟩, fun k hk => ?_, hop, fun r hr2 => ?_⟩
    · obtain ⟨x, hxy, hx⟩ := hB r hr2
      exact ⟨x, hxy, by rw [e, upd_ne (by omega), upd_ne (by omega)]; exact hx⟩
    · by_cases ek : k = o
      · rw [ek]; exact ⟨Or.inr e9, Or.inr e6⟩
      · rw [srtS_ln hT] at hk
        exact LTf_congr (fun w hw => hoth k w ek hw) (hL k hk)
    · obtain ⟨x, hxs, hx⟩ := hN r hr2
      exact ⟨x, by rw [hst]; exact hxs, by rw [e, upd_ne (by omega), upd_ne (by omega)]; exact hx⟩
theorem sAll_CWf {S Hd : Nat → Int32} (hT : TWf Hd) (h : CWf S Hd) : ∀ k, k ≤ ln S → CWf (sAll S Hd k).1 Hd
  | 0, _ => h
  | k + 1, hk => by
    by_cases hw : lr (sAll S Hd k).1 k 6 = 0
    · rw [sAll_go hw]
      exact srtS_CWf hT (by rw [sAll_ln hT]; omega) hw (sAll_CWf hT h k (by omega))
    · rw [sAll_stay hw]; exact sAll_CWf hT h k (by omega)
theorem BGf_upd {S Hd : Nat → Int32} {i : Nat} {v : Int32} (h : BGf S Hd) (hi : i < 15 ∨ 21 ≤ i) : BGf (upd S i v) Hd := by
  obtain ⟨y, h1, h2, h3⟩ := h
  exact ⟨y, h1, h2, fun r hr => by rw [upd_ne (by omega)]; exact h3 r hr⟩
theorem agS_cls {S : Nat → Int32} {o q : Nat} {z : Int32} (hq : q < 5) : agS S o q z = upd (upd (upd (upd (upd S (33 + 10 * o + 7) (lr S o 7 + nI 1)) (33 + 10 * o + q) z) (33 + 10 * o + 6) (nI 0)) (33 + 10 * o + 8) (nI 0)) 1 (upd (upd (upd (upd S (33 + 10 * o + 7) (lr S o 7 + nI 1)) (33 + 10 * o + q) z) (33 + 10 * o + 6) (nI 0)) (33 + 10 * o + 8) (nI 0) 1 + nI 1) := by
  have e1 : lr (ag1 S o q z) o 7 = lr S o 7 := by
    unfold lr ag1
    rw [upd_ne (by omega)]
  have e : ag3 S o q z = upd (upd (upd (upd S (33 + 10 * o + 7) (lr S o 7 + nI 1)) (33 + 10 * o + q) z) (33 + 10 * o + 6) (nI 0)) (33 + 10 * o + 8) (nI 0) := by
    unfold ag3 ag2
    rw [e1]
    unfold ag1
    rw [upd_comm (show 33 + 10 * o + q ≠ 33 + 10 * o + 7 by omega)]
  rw [agS, e]
