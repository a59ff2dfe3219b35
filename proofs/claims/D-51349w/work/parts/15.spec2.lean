/-! SPEC 2: sorting, counts over letters, searches (plain Lean) -/
def inZ (X L U : Int) : Bool := decide (L ≤ X) && decide (X ≤ U)
theorem inZ_t {x lo hi : Int64} {X L U : Int} (h1 : x.toInt = X) (h2 : lo.toInt = L) (h3 : hi.toInt = U) (c1 : ¬ lg_cmp x lo < 0) (c2 : ¬ 0 < lg_cmp x hi) : inZ X L U = true := by
  rw [lg_cmp_lt, Int64.lt_iff_toInt_lt] at c1
  rw [lg_cmp_gt, Int64.lt_iff_toInt_lt] at c2
  unfold inZ
  rw [Bool.and_eq_true, decide_eq_true_eq, decide_eq_true_eq]
  omega
theorem inZ_f1 {x lo : Int64} {X L U : Int} (h1 : x.toInt = X) (h2 : lo.toInt = L) (c1 : lg_cmp x lo < 0) : ¬ inZ X L U = true := by
  rw [lg_cmp_lt, Int64.lt_iff_toInt_lt] at c1
  unfold inZ
  rw [Bool.and_eq_true, decide_eq_true_eq, decide_eq_true_eq]
  omega
theorem inZ_f2 {x hi : Int64} {X L U : Int} (h1 : x.toInt = X) (h3 : hi.toInt = U) (c2 : 0 < lg_cmp x hi) : ¬ inZ X L U = true := by
  rw [lg_cmp_gt, Int64.lt_iff_toInt_lt] at c2
  unfold inZ
  rw [Bool.and_eq_true, decide_eq_true_eq, decide_eq_true_eq]
  omega
theorem i2l_toInt (x : Int32) : x.toInt64.toInt = x.toInt := by simp
/-- what 'refuse' does to what is thrown -/
def rfT (th : Int32) (b : Bool) (c : Int32) : Int32 := if th = 0 ∧ b = true then c else th
theorem rfT_0 {b : Bool} {c : Int32} : rfT (nI 0) b c = if b = true then c else nI 0 := by
  unfold rfT
  by_cases h : b = true
  · rw [if_pos ⟨rfl, h⟩, if_pos h]
  · rw [if_neg (fun q => h q.2), if_neg h]
theorem rfT_ne {th : Int32} {b : Bool} {c : Int32} (h : ¬ th = 0) : rfT th b c = th := if_neg (fun q => h q.1)
theorem nI_n0 {k : Nat} (h0 : 0 < k) (h : k < 2 ^ 31) : ¬ nI k = 0 := nI_ne0 h0 h
theorem rf_res {b : Bool} {k : Nat} (h0 : 0 < k) (h : k < 2 ^ 31) : (!decide (rfT (nI 0) b (nI k) = 0)) = b := by
  rw [rfT_0]
  cases b with
  | true => rw [if_pos rfl, decide_eq_false (nI_n0 h0 h)]; rfl
  | false => rw [if_neg (by decide)]; rfl
/-- a letter that has a town comes to the bag of its route -/
def bagF (S : Nat → Int32) (r : Nat) : Nat → Int32 := upd (upd S (27 + r) (S (27 + r) + nI 1)) (15 + r) ((upd S (27 + r) (S (27 + r) + nI 1)) (15 + r) + nI 1)
def bagS (S : Nat → Int32) (bag : Int32) (r : Nat) : Nat → Int32 := if bagF S r (15 + r) = bag then upd (upd (bagF S r) (15 + r) (nI 0)) (21 + r) ((upd (bagF S r) (15 + r) (nI 0)) (21 + r) + nI 1) else bagF S r
def srtS (S Hd : Nat → Int32) (lt : Nat) : Nat → Int32 := if cau S Hd lt = 0 then (match dcd S Hd lt with
  | none => S
  | some t => bagS (upd (upd S (33 + 10 * lt + 6) (nI 1)) (33 + 10 * lt + 9) (nI t)) (Hd 0) (rou Hd t)) else upd (upd S (33 + 10 * lt + 6) (nI 2)) (33 + 10 * lt + 8) (nI (cau S Hd lt))
def srtR (S Hd : Nat → Int32) (lt : Nat) : Option Nat := if cau S Hd lt = 0 then dcd S Hd lt else none
theorem srtS_ok {S Hd : Nat → Int32} {lt t : Nat} (h : cau S Hd lt = 0) (hE : dcd S Hd lt = some t) : srtS S Hd lt = bagS (upd (upd S (33 + 10 * lt + 6) (nI 1)) (33 + 10 * lt + 9) (nI t)) (Hd 0) (rou Hd t) := by
  rw [srtS, if_pos h, hE]
theorem srtS_no {S Hd : Nat → Int32} {lt : Nat} (h : ¬ cau S Hd lt = 0) : srtS S Hd lt = upd (upd S (33 + 10 * lt + 6) (nI 2)) (33 + 10 * lt + 8) (nI (cau S Hd lt)) := if_neg h
theorem cau_0 {S Hd : Nat → Int32} {lt : Nat} (h : cau S Hd lt = 0) : ∃ t, dcd S Hd lt = some t := by
  cases hE : dcd S Hd lt with
  | none => rw [cau, hE] at h; exact absurd h (why_ne hE)
  | some t => exact ⟨t, rfl⟩
theorem cau_le (S Hd : Nat → Int32) (lt : Nat) : cau S Hd lt ≤ 4 := by
  unfold cau
  split
  · have := why_le S Hd lt; omega
  · split <;> omega
theorem upd_ne {f : Nat → Int32} {k j : Nat} {x : Int32} (h : j ≠ k) : upd f k x j = f j := if_neg h
theorem upd_eq {f : Nat → Int32} {k : Nat} {x : Int32} : upd f k x k = x := if_pos rfl
/-- sorting touches no number but of these places -/
theorem bagS_off {S : Nat → Int32} {bag : Int32} {r i : Nat} (hr : r < 6) (h : i < 15 ∨ 33 ≤ i) : bagS S bag r i = S i := by
  have hF : bagF S r i = S i := by
    unfold bagF
    rw [upd_ne (by omega), upd_ne (by omega)]
  unfold bagS
  split
  · rw [upd_ne (by omega), upd_ne (by omega), hF]
  · exact hF
theorem srtS_off {S Hd : Nat → Int32} {lt i : Nat} (hT : TWf Hd) (h : i < 15 ∨ 33 ≤ i) (h6 : i ≠ 33 + 10 * lt + 6) (h8 : i ≠ 33 + 10 * lt + 8) (h9 : i ≠ 33 + 10 * lt + 9) : srtS S Hd lt i = S i := by
  by_cases hc : cau S Hd lt = 0
  · obtain ⟨t, hE⟩ := cau_0 hc
    rw [srtS_ok hc hE, bagS_off (hT.2.2 t (dcd_lt hE)).2.2.2 h, upd_ne h9, upd_ne h6]
  · rw [srtS_no hc, upd_ne h8, upd_ne h6]
theorem SWf_congr {S S' : Nat → Int32} (h0 : S' 0 = S 0) (h2 : S' 2 = S 2) (hl : ∀ lt p, lt < ln S → p < 6 → lr S' lt p = lr S lt p) (h : SWf S) : SWf S' := by
  have e1 : ln S' = ln S := by unfold ln; rw [h2]
  have e2 : lim S' = lim S := by unfold lim; rw [h0]
  refine ⟨by rw [e1, h2]; exact h.1, by rw [e1]; exact h.2.1, by rw [e2, h0]; exact h.2.2.1, by rw [e2]; exact h.2.2.2.1, fun lt hlt => ?_⟩
  rw [e1] at hlt
  obtain ⟨a1, a2, a3⟩ := h.2.2.2.2 lt hlt
  have e3 : bun S' lt = bun S lt := by unfold bun; rw [hl lt 5 hlt (by decide)]
  exact ⟨fun p hp => by rw [hl lt p hlt (by omega)]; exact a1 p hp, by rw [e3, hl lt 5 hlt (by decide)]; exact a2, by rw [e3]; exact a3⟩
theorem srtS_wf {S Hd : Nat → Int32} {lt : Nat} (hT : TWf Hd) (h : SWf S) : SWf (srtS S Hd lt) := by
  refine SWf_congr (srtS_off hT (Or.inl (by decide)) (by omega) (by omega) (by omega)) (srtS_off hT (Or.inl (by decide)) (by omega) (by omega) (by omega)) (fun k p _ hp => ?_) h
  unfold lr
  exact srtS_off hT (Or.inr (by omega)) (by omega) (by omega) (by omega)
/-- all the letters that wait, in turn: the first k -/
def sAll (S Hd : Nat → Int32) : Nat → (Nat → Int32) × Nat
  | 0 => (S, 0)
  | k + 1 => if lr (sAll S Hd k).1 k 6 = 0 then (srtS (sAll S Hd k).1 Hd k, (sAll S Hd k).2 + (srtR (sAll S Hd k).1 Hd k).isSome.toNat) else sAll S Hd k
theorem sAll_go {S Hd : Nat → Int32} {k : Nat} (h : lr (sAll S Hd k).1 k 6 = 0) : sAll S Hd (k + 1) = (srtS (sAll S Hd k).1 Hd k, (sAll S Hd k).2 + (srtR (sAll S Hd k).1 Hd k).isSome.toNat) := if_pos h
theorem sAll_stay {S Hd : Nat → Int32} {k : Nat} (h : ¬ lr (sAll S Hd k).1 k 6 = 0) : sAll S Hd (k + 1) = sAll S Hd k := if_neg h
theorem sAll_2 {S Hd : Nat → Int32} (hT : TWf Hd) : ∀ k, (sAll S Hd k).1 2 = S 2
  | 0 => rfl
  | k + 1 => by
    by_cases h : lr (sAll S Hd k).1 k 6 = 0
    · rw [sAll_go h]
      show srtS _ _ _ _ = _
      rw [srtS_off hT (Or.inl (by decide)) (by omega) (by omega) (by omega)]
      exact sAll_2 hT k
    · rw [sAll_stay h]; exact sAll_2 hT k
theorem sAll_ln {S Hd : Nat → Int32} (hT : TWf Hd) (k : Nat) : ln (sAll S Hd k).1 = ln S := by unfold ln; rw [sAll_2 hT]
theorem sAll_wf {S Hd : Nat → Int32} (hT : TWf Hd) (hS : SWf S) : ∀ k, SWf (sAll S Hd k).1
  | 0 => hS
  | k + 1 => by
    by_cases h : lr (sAll S Hd k).1 k 6 = 0
    · rw [sAll_go h]; exact srtS_wf hT (sAll_wf hT hS k)
    · rw [sAll_stay h]; exact sAll_wf hT hS k
theorem sAll_le {S Hd : Nat → Int32} : ∀ k, (sAll S Hd k).2 ≤ k
  | 0 => Nat.le_refl _
  | k + 1 => by
    by_cases h : lr (sAll S Hd k).1 k 6 = 0
    · rw [sAll_go h]
      have := sAll_le (S := S) (Hd := Hd) k
      have h2 : (srtR (sAll S Hd k).1 Hd k).isSome.toNat ≤ 1 := by cases (srtR (sAll S Hd k).1 Hd k).isSome <;> decide
      show _ + _ ≤ _
      omega
    · rw [sAll_stay h]
      have := sAll_le (S := S) (Hd := Hd) k
      omega
def sAl (S Hd : Nat → Int32) : Nat → Int32 := (sAll S Hd (ln S)).1
def sAn (S Hd : Nat → Int32) : Nat := (sAll S Hd (ln S)).2
theorem srtR_lt {S Hd : Nat → Int32} {lt t : Nat} (h : srtR S Hd lt = some t) : t < tn Hd := by
  unfold srtR at h
  split at h
  · exact dcd_lt h
  · cases h
theorem oI_is {f : Option Nat} (h : ¬ oI f = -1) : f.isSome = true := by
  cases f with
  | none => exact absurd rfl h
  | some t => rfl
theorem oI_no {f : Option Nat} {n : Nat} (hb : ∀ t, f = some t → t < n) (hn : n ≤ 100000) (h : oI f = -1) : ¬ f.isSome = true := by
  cases f with
  | none => decide
  | some t => exact absurd h (nI_m1 (by have := hb t rfl; omega))
/-- a new letter's place gets its numbers -/
def nwS (S : Nat → Int32) (k : Nat) (b : Int32) : Nat → Int32 := upd (upd (upd (upd (upd (upd S (33 + 10 * k + 5) b) (33 + 10 * k + 6) (nI 0)) (33 + 10 * k + 7) (nI 0)) (33 + 10 * k + 8) (nI 0)) (33 + 10 * k + 9) (-1)) 2 (nI (k + 1))
theorem cpy_0 {α : Type} {f g : Nat → α} {sp dp : Nat} : va_cpy f g sp dp 0 = g := by
  funext k
  unfold va_cpy
  exact if_neg (by omega)
theorem cpy_s {f g : Nat → Int32} {sp dp k : Nat} : upd (va_cpy f g sp dp k) (dp + k) (f (sp + k)) = va_cpy f g sp dp (k + 1) := by
  funext j
  unfold upd va_cpy
  by_cases h : j = dp + k
  · subst h
    rw [if_pos rfl, if_pos (by omega)]
    congr 1
    omega
  · rw [if_neg h]
    by_cases h2 : dp ≤ j ∧ j < dp + k
    · rw [if_pos h2, if_pos (by omega)]
    · rw [if_neg h2, if_neg (by omega)]
/-- how many letters that wait are decided: for a town, or for any (-1) -/
def wtP (S Hd : Nat → Int32) (x : Int32) (o : Nat) : Bool := decide (lr S o 6 = 0) && (match dcd S Hd o with
  | none => false
  | some t => decide (x = -1) || decide (nI t = x))
def wtF (S Hd : Nat → Int32) (x : Int32) : Nat := cntN (wtP S Hd x) (ln S)
theorem wtP_wait {S Hd : Nat → Int32} {x : Int32} {o : Nat} (h : ¬ lr S o 6 = 0) : wtP S Hd x o = false := by rw [wtP, decide_eq_false h]; rfl
theorem wtP_none {S Hd : Nat → Int32} {x : Int32} {o : Nat} (h : lr S o 6 = 0) (hE : dcd S Hd o = none) : wtP S Hd x o = false := by rw [wtP, hE, Bool.and_false]
theorem wtP_some {S Hd : Nat → Int32} {x : Int32} {o t : Nat} (h : lr S o 6 = 0) (hE : dcd S Hd o = some t) : wtP S Hd x o = (decide (x = -1) || decide (nI t = x)) := by rw [wtP, hE, decide_eq_true h]; rfl
def srF (S : Nat → Int32) (x : Int32) : Nat := cntN (fun o => decide (lr S o 6 = nI 1) && decide (lr S o 9 = x)) (ln S)
def nrL (S Hd : Nat → Int32) (t : Nat) : Nat := cntN (fun o => decide (lr S o 6 = 0) && decide (farT S Hd o t ≤ lim S)) (ln S)
def apr (Hd : Nat → Int32) (t u : Nat) : Nat := sumN (fun p => cst (nI (dg (cd (num Hd t)) p)) (dg (cd (num Hd u)) p)) 5
def ltO (S : Nat → Int32) (b : Int32) : Nat := cntN (fun o => decide (lr S o 5 = b)) (ln S)
def tnO (Hd : Nat → Int32) (r : Int32) : Nat := cntN (fun t => decide (Hd (14 + t) = r)) (tn Hd)
def slvF (S Hd : Nat → Int32) (b : Int32) (z : Bool) (o : Nat) : Nat := if lr S o 5 = b then (match byS S Hd o with
  | none => 0
  | some t => if z = true then dsm (cd (num Hd t)) else 1) else 0
def slv (S Hd : Nat → Int32) (b : Int32) (z : Bool) : Nat := sumN (slvF S Hd b z) (ln S)
def whR (S : Nat → Int32) (lt : Nat) : Nat := if ¬ lr S lt 6 = nI 2 then 1 else if lr S lt 7 = nI 3 then 2 else 0
/-- six numbers from a place on -/
def sum6 (S : Nat → Int32) (at' : Nat) : Nat → Int32
  | 0 => 0
  | k + 1 => sum6 S at' k + S (at' + k)
/-- the first number with the least distance, below n -/
def fxN (g : Nat → Int32) : Nat → Nat × Nat
  | 0 => (0, 11)
  | k + 1 => if (fxN g k).2 = 0 then fxN g k else if far g (cd k) < (fxN g k).2 then (k, far g (cd k)) else fxN g k
theorem fxN_le (g : Nat → Int32) : ∀ k, (fxN g k).1 ≤ k ∧ (fxN g k).2 ≤ 11
  | 0 => by simp [fxN]
  | k + 1 => by
    have h := fxN_le g k
    have h2 := far_le g (cd k)
    rw [fxN]
    split
    · omega
    · split
      · exact ⟨by show k ≤ _; omega, by show far g (cd k) ≤ _; omega⟩
      · omega
theorem fxN_stop {g : Nat → Int32} {k : Nat} (h : (fxN g k).2 = 0) : ∀ n, k ≤ n → fxN g n = fxN g k := by
  intro n hn
  induction n with
  | zero => rw [show k = 0 by omega]
  | succ n ih =>
    by_cases e : k = n + 1
    · rw [e]
    · have h1 := ih (by omega)
      rw [fxN, h1, if_pos h]
theorem fxN_lt (g : Nat → Int32) : ∀ k, 0 < k → (fxN g k).1 < k
  | 0, h => by omega
  | k + 1, _ => by
    rw [fxN]
    have h := fxN_le g k
    split
    · omega
    · split
      · exact Nat.lt_succ_self k
      · omega
