/-! SPEC 4: what is refused, and by which code -/
/-- the code of the first check that fails; 0 if none does -/
def thC : List (Bool × Nat) → Nat
  | [] => 0
  | (b, k) :: r => if b = true then thC r else k
def lo (x : Int32) : Bool := !decide (x = 0)
theorem lo_t {x : Int32} (h : ¬ x = 0) : lo x = true := by rw [lo, decide_eq_false h]; rfl
theorem lo_f {x : Int32} (h : x = 0) : lo x = false := by rw [lo, decide_eq_true h]; rfl
theorem thC_pre {L1 L2 : List (Bool × Nat)} (h : ¬ thC L1 = 0) : thC (L1 ++ L2) = thC L1 := by
  induction L1 with
  | nil => exact absurd rfl h
  | cons a r ih =>
    obtain ⟨b, k⟩ := a
    show (if b = true then thC (r ++ L2) else k) = if b = true then thC r else k
    by_cases hb : b = true
    · rw [if_pos hb, if_pos hb]
      refine ih (fun q => h ?_)
      show (if b = true then thC r else k) = 0
      rw [if_pos hb]; exact q
    · rw [if_neg hb, if_neg hb]
theorem thC_1 {a : Bool} {k : Nat} (h : thC [(a, k + 1)] = 0) : a = true := by
  cases a with
  | true => rfl
  | false => cases h
theorem thC_2 {a b : Bool} {k j : Nat} (h : thC [(a, k + 1), (b, j + 1)] = 0) : a = true ∧ b = true := by
  cases a <;> cases b <;> first | exact ⟨rfl, rfl⟩ | cases h
theorem thC_3 {a b c : Bool} {k j i : Nat} (h : thC [(a, k + 1), (b, j + 1), (c, i + 1)] = 0) : a = true ∧ b = true ∧ c = true := by
  cases a <;> cases b <;> cases c <;> first | exact ⟨rfl, rfl, rfl⟩ | cases h
theorem rfT_f {c : Int32} : rfT (nI 0) false c = nI 0 := by rw [rfT_0]; rfl
theorem rfT_t {c : Int32} : rfT (nI 0) true c = c := by rw [rfT_0]; rfl
theorem inZ_n {x : Int32} {U : Int} (h : inZ x.toInt 0 U = true) : ∃ j : Nat, (j : Int) ≤ U ∧ j < 2 ^ 31 ∧ x = nI j := by
  unfold inZ at h
  rw [Bool.and_eq_true, decide_eq_true_eq, decide_eq_true_eq] at h
  obtain ⟨j, hj, e⟩ := nI_of (x := x) (by rw [Int32.lt_iff_toInt_lt]; have : (0 : Int32).toInt = 0 := by decide
                                          omega)
  refine ⟨j, ?_, hj, e⟩
  have := nI_toInt hj
  rw [← e] at this
  omega
theorem inZ_rd {x : Int32} (h : inZ x.toInt (-1) 9 = true) : rdOK x := by
  unfold inZ at h
  rw [Bool.and_eq_true, decide_eq_true_eq, decide_eq_true_eq] at h
  by_cases h0 : x.toInt = -1
  · exact Or.inl (Int32.toInt_inj.mp (by rw [h0]; decide))
  · obtain ⟨j, hj, -, e⟩ := inZ_n (x := x) (U := 9) (by unfold inZ; rw [Bool.and_eq_true, decide_eq_true_eq, decide_eq_true_eq]; omega)
    exact Or.inr ⟨j, by omega, e⟩
/-- an array's content counts below its length alone -/
theorem vp_cell_congr {cA : ClassId} {n : Nat} {f g : Nat → Int32} (h : ∀ i, i < n → f i = g i) : vp_cell cA (n, .inl f) = vp_cell cA (n, .inl g) := by
  have e : (Array.ofFn (n := n) fun j => Value.int (f j.val)) = Array.ofFn (n := n) fun j => Value.int (g j.val) := by
    refine congrArg Array.ofFn ?_
    funext j
    rw [h j.val j.isLt]
  rw [vp_cell_i, vp_cell_i]
  unfold arrV
  rw [e]
theorem m_row2 {dC : Nat → ClassId} {dI : Nat → Nat → Nat} {dA : Nat → ClassId} {a : Nat → Nat} {M : Nat → Nat → Int32} {H : Heap} {f g : Nat → Int32} (h : ∀ i, i < 273 → f i = g i) (hP : mP dC dI dA a (mrow M 2 f) H) : mP dC dI dA a (mrow M 2 g) H := by
  intro k q hk
  by_cases e : k = 2
  · subst e
    have h1 := hP 2 _ rfl
    cases hk
    show H[a 2]? = some (vp_cell _ (273, .inl g))
    rw [← vp_cell_congr h]
    exact h1
  · refine hP k q ?_
    rw [← hk]
    match k, e with
    | 0, _ => rfl
    | 1, _ => rfl
    | 2, e => exact absurd rfl e
    | 3, _ => rfl
    | 4, _ => rfl
    | 5, _ => rfl
    | 6, _ => rfl
    | 7, _ => rfl
    | k + 8, _ => rfl
theorem cpy_in {α : Type} {f g : Nat → α} {sp dp n i : Nat} (h1 : dp ≤ i) (h2 : i < dp + n) : va_cpy f g sp dp n i = f (sp + (i - dp)) := if_pos ⟨h1, h2⟩
theorem cpy_out {α : Type} {f g : Nat → α} {sp dp n i : Nat} (h : i < dp ∨ dp + n ≤ i) : va_cpy f g sp dp n i = g i := if_neg (by omega)
/-- laid aside, and taken back -/
theorem cpy_back {S st S' : Nat → Int32} : ∀ i, i < 273 → va_cpy (va_cpy S st 0 2730 273) S' 2730 0 273 i = S i := by
  intro i hi
  rw [cpy_in (by omega) (by omega), cpy_in (by omega) (by omega)]
  exact congrArg S (by omega)
def cntV (S Hd : Nat → Int32) (j : Nat) : Int32 := if j = 0 then Hd 1 else if j = 1 then S 2 else if j = 2 then S 0 else if j = 3 then Hd 0 else if j ≤ 6 then nI (sts S (nI (j - 4))) else if j = 7 then nI (wtF S Hd (-1)) else if j = 8 then sum6 S 21 6 else if j = 9 then sum6 S 15 6 else if j = 10 then sum6 S 9 6 else S 1
def twnV (S Hd : Nat → Int32) (t j : Nat) : Int32 := if j = 0 then Hd (2 + t) else if j = 1 then Hd (14 + t) else if j = 2 then nI (chk (num Hd t)) else if j = 3 then nI (srF S (nI t)) else if j = 4 then nI (wtF S Hd (nI t)) else if j = 5 then nI (nrL S Hd t) else nI (dsm (cd (num Hd t)))
/-- the closest other town among the first k -/
def clN (Hd : Nat → Int32) (t : Nat) : Nat → Option Nat
  | 0 => none
  | k + 1 => if k = t then clN Hd t k else match clN Hd t k with
    | none => some k
    | some b => if apr Hd t k < apr Hd t b then some k else some b
theorem clN_t {Hd : Nat → Int32} {t k : Nat} (h : k = t) : clN Hd t (k + 1) = clN Hd t k := if_pos h
theorem clN_0 {Hd : Nat → Int32} {t k : Nat} (h : ¬ k = t) (hE : clN Hd t k = none) : clN Hd t (k + 1) = some k := by rw [clN, if_neg h, hE]
theorem clN_lt {Hd : Nat → Int32} {t k b : Nat} (h : ¬ k = t) (hE : clN Hd t k = some b) (hl : apr Hd t k < apr Hd t b) : clN Hd t (k + 1) = some k := by rw [clN, if_neg h, hE]; exact if_pos hl
theorem clN_ge {Hd : Nat → Int32} {t k b : Nat} (h : ¬ k = t) (hE : clN Hd t k = some b) (hl : ¬ apr Hd t k < apr Hd t b) : clN Hd t (k + 1) = some b := by rw [clN, if_neg h, hE]; exact if_neg hl
theorem clN_le {Hd : Nat → Int32} {t : Nat} : ∀ {k b : Nat}, clN Hd t k = some b → b < k
  | 0, b, h => by cases h
  | k + 1, b, h => by
    by_cases e : k = t
    · rw [clN_t e] at h; have := clN_le h; omega
    · cases hE : clN Hd t k with
      | none => rw [clN_0 e hE] at h; cases h; omega
      | some c =>
        have := clN_le hE
        by_cases hl : apr Hd t k < apr Hd t c
        · rw [clN_lt e hE hl] at h; cases h; omega
        · rw [clN_ge e hE hl] at h; cases h; omega
theorem apr_le (Hd : Nat → Int32) (t u : Nat) : apr Hd t u ≤ 10 := sumN_le 5 (fun _ _ => cst_le _ _)
def letV (S Hd : Nat → Int32) (lt j : Nat) : Int32 := if j = 3 then nI (unr S lt) else if j = 4 then lr S lt 8 else if j = 5 then lr S lt 9 else if j = 6 then nI (nrT S Hd lt) else if j = 7 then nI (bst S Hd lt) else lr S lt (5 + j)
def rgS (S : Nat → Int32) (lt : Nat) : Int32 := nI 3 * lr S lt 0 + lr S lt 1 + nI 3 * lr S lt 2 + lr S lt 3 + lr S lt 4
def rgt (S : Nat → Int32) (lt : Nat) : Bool := decide (unr S lt = 0) && decide (rgS S lt - rgS S lt / nI 10 * nI 10 = 0)
def howV (S Hd : Nat → Int32) (lt : Nat) : Nat := match byS S Hd lt with
  | some t => if farT S Hd lt t = 0 then 1 else 2
  | none => match byB S Hd lt with
    | none => 0
    | some _ => 3
/-- the least distance above the least, among the first k towns -/
def scN (S Hd : Nat → Int32) (lt : Nat) : Nat → Option Nat
  | 0 => none
  | k + 1 => if lst S Hd lt < farT S Hd lt k then (match scN S Hd lt k with
    | none => some (farT S Hd lt k)
    | some x => if farT S Hd lt k < x then some (farT S Hd lt k) else some x) else scN S Hd lt k
theorem scN_le {S Hd : Nat → Int32} {lt : Nat} : ∀ {k x : Nat}, scN S Hd lt k = some x → x ≤ 10 ∧ lst S Hd lt < x
  | 0, x, h => by cases h
  | k + 1, x, h => by
    have hf := farT_le S Hd lt k
    rw [scN] at h
    split at h
    · split at h
      · cases h; omega
      · rename_i hE
        have := scN_le hE
        split at h
        · cases h; omega
        · cases h; omega
    · exact scN_le h
def mny (S Hd : Nat → Int32) (lt : Nat) : Nat := cntN (fun t => decide (farT S Hd lt t = lst S Hd lt)) (tn Hd)
def mgV (S Hd : Nat → Int32) (lt : Nat) : Int32 := if 1 < mny S Hd lt then nI 0 else match scN S Hd lt (tn Hd) with
  | none => -1
  | some x => nI (x - lst S Hd lt)
def mnd (S Hd : Nat → Int32) (lt : Nat) : Int32 := match dcd S Hd lt with
  | none => -1
  | some t => nI (cntN (fun p => !decide (lr S lt p = nI (dg (cd (num Hd t)) p))) 5)
def lfx (S : Nat → Int32) (lt : Nat) : Nat := far (lr S lt) (cd (fxN (lr S lt) 10000).1)
def cnr (S : Nat → Int32) (lt d : Nat) : Nat := cntN (fun k => decide (far (lr S lt) (cd k) ≤ d)) 10000
def bunV (S Hd : Nat → Int32) (b j : Nat) : Int32 := if j = 0 then nI (ltO S (nI b)) else if j = 1 then S (3 + b) else if j = 2 then nI (slv S Hd (nI b) false) else nI (slv S Hd (nI b) true % 10)
def bagV (S Hd : Nat → Int32) (r j : Nat) : Int32 := if j = 0 then S (15 + r) else if j = 1 then S (21 + r) else if j = 2 then S (27 + r) else if j = 3 then S (9 + r) else nI (tnO Hd (nI r))
def csV (S : Nat → Int32) (x : Int32) : Nat := cntN (fun o => decide (lr S o 8 = x)) (ln S)
def absI (x : Int32) : Int32 := if 0 ≤ x then x else 0 - x
def gapR (S Hd : Nat → Int32) : Nat → Int32
  | 0 => absI (nI (ln S) - nI (sts S (nI 0)) - nI (sts S (nI 1)) - nI (sts S (nI 2)))
  | r + 1 => gapR S Hd r + absI (S (15 + r) + Hd 0 * S (21 + r) - S (27 + r))
theorem cd_ok (x : Nat) (h : x < 10000) : (3 * dg (cd x) 0 + dg (cd x) 1 + 3 * dg (cd x) 2 + dg (cd x) 3 + dg (cd x) 4) % 10 = 0 := by
  have h1 := chk_lt x
  have e4 : dg (cd x) 4 = chk x := by unfold dg cd; omega
  have e3 : dg (cd x) 3 = x % 10 := by unfold dg cd; omega
  have e2 : dg (cd x) 2 = x / 10 % 10 := by unfold dg cd; omega
  have e1 : dg (cd x) 1 = x / 100 % 10 := by unfold dg cd; omega
  have e0 : dg (cd x) 0 = x / 1000 := by unfold dg cd; omega
  rw [e4, e3, e2, e1, e0]
  unfold chk
  omega
theorem SWf_read {S : Nat → Int32} {lt q : Nat} {x : Int32} (h : SWf S) (hl : lt < ln S) (hq : q < 5) (hx : rdOK x) : SWf (upd S (33 + 10 * lt + q) x) := by
  have h0 : upd S (33 + 10 * lt + q) x 0 = S 0 := upd_ne (by omega)
  have h2 : upd S (33 + 10 * lt + q) x 2 = S 2 := upd_ne (by omega)
  have e1 : ln (upd S (33 + 10 * lt + q) x) = ln S := by unfold ln; rw [h2]
  have e2 : lim (upd S (33 + 10 * lt + q) x) = lim S := by unfold lim; rw [h0]
  refine ⟨by rw [e1, h2]; exact h.1, by rw [e1]; exact h.2.1, by rw [e2, h0]; exact h.2.2.1, by rw [e2]; exact h.2.2.2.1, fun k hk => ?_⟩
  rw [e1] at hk
  obtain ⟨a1, a2, a3⟩ := h.2.2.2.2 k hk
  have e5 : lr (upd S (33 + 10 * lt + q) x) k 5 = lr S k 5 := upd_ne (by omega)
  have eb : bun (upd S (33 + 10 * lt + q) x) k = bun S k := by unfold bun; rw [e5]
  refine ⟨fun p hp => ?_, by rw [eb, e5]; exact a2, by rw [eb]; exact a3⟩
  unfold lr
  by_cases e : 33 + 10 * k + p = 33 + 10 * lt + q
  · rw [e, upd_eq]; exact hx
  · rw [upd_ne e]; exact a1 p hp
theorem SWf_lim {S : Nat → Int32} {j : Nat} (h : SWf S) (hj : j ≤ 8) : SWf (upd S 0 (nI j)) := by
  have h2 : upd S 0 (nI j) 2 = S 2 := upd_ne (by omega)
  have e1 : ln (upd S 0 (nI j)) = ln S := by unfold ln; rw [h2]
  have e2 : lim (upd S 0 (nI j)) = j := by unfold lim; rw [upd_eq, nI_clamp (by omega)]
  refine ⟨by rw [e1, h2]; exact h.1, by rw [e1]; exact h.2.1, by rw [e2, upd_eq], by rw [e2]; exact hj, fun k hk => ?_⟩
  rw [e1] at hk
  have eq : ∀ p, lr (upd S 0 (nI j)) k p = lr S k p := fun p => upd_ne (by omega)
  have eb : bun (upd S 0 (nI j)) k = bun S k := by unfold bun; rw [eq]
  obtain ⟨a1, a2, a3⟩ := h.2.2.2.2 k hk
  exact ⟨fun p hp => by rw [eq]; exact a1 p hp, by rw [eb, eq]; exact a2, by rw [eb]; exact a3⟩
theorem SWf_low {S : Nat → Int32} {i : Nat} {x : Int32} (h : SWf S) (h1 : 3 ≤ i) (h2 : i < 33) : SWf (upd S i x) :=
  SWf_congr (upd_ne (by omega)) (upd_ne (by omega)) (fun k p _ _ => upd_ne (by omega)) h
theorem cpy_idem {S st : Nat → Int32} : va_cpy S (va_cpy S st 0 2730 273) 0 2730 273 = va_cpy S st 0 2730 273 := by
  funext i
  unfold va_cpy
  by_cases h : 2730 ≤ i ∧ i < 2730 + 273
  · rw [if_pos h, if_pos h]
  · rw [if_neg h, if_neg h]
/-- the best of the numbers 0 .. k by g, the first among equals: (which, how much) -/
def bstF (g : Nat → Nat) : Nat → Nat × Nat
  | 0 => (0, g 0)
  | k + 1 => if (bstF g k).2 < g (k + 1) then (k + 1, g (k + 1)) else bstF g k
theorem bstF_2 (g : Nat → Nat) (k : Nat) : (bstF g (k + 1)).2 = max (bstF g k).2 (g (k + 1)) := by
  rw [bstF]
  split
  · show g (k + 1) = _; omega
  · omega
theorem bstF_le {g : Nat → Nat} {b : Nat} (h : ∀ i, g i ≤ b) : ∀ k, (bstF g k).2 ≤ b ∧ (bstF g k).1 ≤ k
  | 0 => ⟨h 0, Nat.le_refl _⟩
  | k + 1 => by
    have := bstF_le h k
    rw [bstF]
    split
    · exact ⟨h _, Nat.le_refl _⟩
    · exact ⟨this.1, by omega⟩
def dIn (S Hd : Nat → Int32) (b k : Nat) : Nat := cntN (fun o => decide (lr S o 5 = nI b) && (dcd (upd S (3 + b) (nI k)) Hd o).isSome) (ln S)
/-- nothing in the bags, nothing sent -/
def zrS (S : Nat → Int32) : Nat → (Nat → Int32)
  | 0 => S
  | r + 1 => upd (upd (zrS S r) (15 + r) (nI 0)) (21 + r) (nI 0)
theorem zrS_off {S : Nat → Int32} {i : Nat} : ∀ {r}, r ≤ 6 → (i < 15 ∨ 27 ≤ i) → zrS S r i = S i
  | 0, _, _ => rfl
  | r + 1, h, hi => by
    rw [zrS, upd_ne (by omega), upd_ne (by omega)]
    exact zrS_off (by omega) hi
theorem zrS_wf {S : Nat → Int32} {r : Nat} (hr : r ≤ 6) (h : SWf S) : SWf (zrS S r) :=
  SWf_congr (zrS_off hr (by omega)) (zrS_off hr (by omega)) (fun k p _ _ => zrS_off hr (by omega)) h
def hlpP (S Hd : Nat → Int32) (lt p : Nat) : Bool := decide (¬ lr S lt p = -1) && (dcd (upd S (33 + 10 * lt + p) (-1)) Hd lt).isSome
def hlp (S Hd : Nat → Int32) (lt : Nat) : Option Nat := match dcd S Hd lt with
  | some _ => none
  | none => fndN (hlpP S Hd lt) 5
theorem upd_self {f : Nat → Int32} {k : Nat} {x : Int32} : upd (upd f k x) k (f k) = f := by
  funext j
  unfold upd
  by_cases h : j = k
  · rw [if_pos h, h]
  · rw [if_neg h, if_neg h]
theorem TWf_bag {Hd : Nat → Int32} {x : Int32} (h : TWf Hd) : TWf (upd Hd 0 x) := by
  have e1 : upd Hd 0 x 1 = Hd 1 := upd_ne (by omega)
  have e : tn (upd Hd 0 x) = tn Hd := by unfold tn; rw [e1]
  refine ⟨by rw [e, e1]; exact h.1, by rw [e]; exact h.2.1, fun t ht => ?_⟩
  rw [e] at ht
  have a := h.2.2 t ht
  have n1 : upd Hd 0 x (2 + t) = Hd (2 + t) := upd_ne (by omega)
  have n2 : upd Hd 0 x (14 + t) = Hd (14 + t) := upd_ne (by omega)
  have n3 : num (upd Hd 0 x) t = num Hd t := by unfold num; rw [n1]
  have n4 : rou (upd Hd 0 x) t = rou Hd t := by unfold rou; rw [n2]
  rw [n1, n2, n3, n4]
  exact a
theorem slv_le {S Hd : Nat → Int32} {b : Int32} {z : Bool} (hS : ln S ≤ 24) : slv S Hd b z ≤ 1080 := by
  have h : ∀ i, i < ln S → slvF S Hd b z i ≤ 45 := fun i _ => by
    unfold slvF
    split
    · split
      · omega
      · split
        · exact dsm_le _
        · omega
    · omega
  have h2 := sumN_le (ln S) h
  unfold slv
  have h3 : ln S * 45 ≤ 24 * 45 := Nat.mul_le_mul_right 45 hS
  omega
theorem rgt_1 {S : Nat → Int32} {lt : Nat} (h : unr S lt = 0) (h2 : rgS S lt - rgS S lt / nI 10 * nI 10 = 0) : rgt S lt = true := by rw [rgt, decide_eq_true h, decide_eq_true h2]; rfl
theorem rgt_0a {S : Nat → Int32} {lt : Nat} (h : 0 < unr S lt) : rgt S lt = false := by rw [rgt, decide_eq_false (by omega)]; rfl
theorem rgt_0b {S : Nat → Int32} {lt : Nat} (h2 : ¬ rgS S lt - rgS S lt / nI 10 * nI 10 = 0) : rgt S lt = false := by rw [rgt, decide_eq_false h2, Bool.and_false]
theorem scN_lt {S Hd : Nat → Int32} {lt k x : Nat} (h : lst S Hd lt < farT S Hd lt k) (hE : scN S Hd lt k = some x) (h2 : farT S Hd lt k < x) : scN S Hd lt (k + 1) = some (farT S Hd lt k) := by rw [scN, if_pos h, hE]; exact if_pos h2
theorem scN_ge {S Hd : Nat → Int32} {lt k x : Nat} (h : lst S Hd lt < farT S Hd lt k) (hE : scN S Hd lt k = some x) (h2 : ¬ farT S Hd lt k < x) : scN S Hd lt (k + 1) = some x := by rw [scN, if_pos h, hE]; exact if_neg h2
theorem fin32 : ∀ a, a < 25 → ∀ b, b < 25 → 0 < b → vf_n32 (FP.fdiv (FP.i2f (nI a)) (FP.i2f (nI b))) := by
  unfold vf_n32
  decide +kernel
def shr (S : Nat → Int32) : UInt32 := if sts S (nI 1) + sts S (nI 2) = 0 then FP.fconst0 else FP.fdiv (FP.i2f (nI (sts S (nI 1)))) (FP.i2f (nI (sts S (nI 1) + sts S (nI 2))))
theorem cntN_disj {p q : Nat → Bool} : ∀ {n : Nat}, (∀ i, i < n → p i = true → q i = false) → cntN p n + cntN q n ≤ n
  | 0, _ => Nat.le_refl _
  | n + 1, h => by
    have h1 := cntN_disj (p := p) (q := q) (n := n) (fun i hi => h i (by omega))
    have h2 := h n (by omega)
    rw [cntN, cntN]
    cases hp : p n with
    | false => have : (q n).toNat ≤ 1 := by cases q n <;> decide
               show _ + 0 + _ ≤ _; omega
    | true => rw [h2 hp]; show _ + 1 + (_ + 0) ≤ _; omega
theorem sts_12 (S : Nat → Int32) : sts S (nI 1) + sts S (nI 2) ≤ ln S := by
  unfold sts
  refine cntN_disj (fun i _ h => ?_)
  rw [decide_eq_true_eq] at h
  rw [h]
  decide
/-- a number written over by itself -/
theorem m_self0 {dC : Nat → ClassId} {dI : Nat → Nat → Nat} {dA : Nat → ClassId} {a : Nat → Nat} {M : Nat → Nat → Int32} {H : Heap} {f : Nat → Int32} {k : Nat} (hP : mP dC dI dA a (mrow M 7 f) H) : mP dC dI dA a (mrow (mrow M 0 (upd (M 0) k (M 0 k))) 7 f) H := by
  have e : upd (M 0) k (M 0 k) = M 0 := by
    funext j
    unfold upd
    by_cases h : j = k
    · rw [if_pos h, h]
    · rw [if_neg h]
  rw [e]
  exact hP
