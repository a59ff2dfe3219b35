/-! SPEC 6: bags' texts, gap, means, helps, changes -/
def BWf (S : Nat → Int32) : Prop := ∀ r, r < 6 → S (21 + r) = nI (cN (S (21 + r))) ∧ cN (S (21 + r)) < 100 ∧ S (15 + r) = nI (cN (S (15 + r))) ∧ cN (S (15 + r)) < 100
theorem thC_le2 {a b : Bool} : thC [(a, 1), (b, 2)] ≤ 2 := by cases a <;> cases b <;> decide
theorem thC_le1 {a : Bool} : thC [(a, 1)] ≤ 1 := by cases a <;> decide
def asdF (b : Bool) (S st : Nat → Int32) : Nat → Int32 := if b = true then va_cpy S st 0 2730 273 else st
theorem asdF_go {b : Bool} {S st : Nat → Int32} : va_cpy S (asdF b S st) 0 2730 273 = asdF true S st := by
  cases b
  · rfl
  · exact cpy_idem
theorem asdF_0 {S st : Nat → Int32} : asdF false S st = st := rfl
def anyR (S : Nat → Int32) (lt k : Nat) : Bool := decide (0 < cntN (fun p => decide (¬ lr S lt p = -1)) k)
theorem anyR_0 {S : Nat → Int32} {lt : Nat} : anyR S lt 0 = false := rfl
theorem anyR_t {S : Nat → Int32} {lt k : Nat} (h : ¬ lr S lt k = -1) : anyR S lt (k + 1) = true := by
  unfold anyR
  rw [decide_eq_true_eq, cntN, decide_eq_true h]
  exact Nat.succ_pos _
theorem anyR_f {S : Nat → Int32} {lt k : Nat} (h : lr S lt k = -1) : anyR S lt (k + 1) = anyR S lt k := by
  unfold anyR
  rw [cntN, show decide (¬ lr S lt k = -1) = false from decide_eq_false (fun q => q h)]
  rfl
def hlpM (S Hd : Nat → Int32) (lt : Nat) : Bool := match dcd S Hd lt with
  | some _ => false
  | none => match fndN (hlpP S Hd lt) 5 with
    | some _ => true
    | none => anyR S lt 5
theorem hlp_s {S Hd : Nat → Int32} {lt t : Nat} (h : dcd S Hd lt = some t) : hlp S Hd lt = none ∧ hlpM S Hd lt = false := by
  unfold hlp hlpM; rw [h]; exact ⟨rfl, rfl⟩
theorem hlp_f {S Hd : Nat → Int32} {lt p : Nat} (h : dcd S Hd lt = none) (hp : p < 5) (hf : ∀ j, j < p → hlpP S Hd lt j = false) (ht : hlpP S Hd lt p = true) : hlp S Hd lt = some p ∧ hlpM S Hd lt = true := by
  unfold hlp hlpM; rw [h, fndN_some hp ht hf]; exact ⟨rfl, rfl⟩
theorem hlp_n {S Hd : Nat → Int32} {lt k : Nat} (h : dcd S Hd lt = none) (hk : 5 ≤ k) (hf : ∀ j, j < k → hlpP S Hd lt j = false) : hlp S Hd lt = none ∧ hlpM S Hd lt = anyR S lt 5 := by
  have e : fndN (hlpP S Hd lt) 5 = none := by
    unfold fndN
    rw [List.find?_eq_none]
    intro j hj
    rw [List.mem_range] at hj
    rw [hf j (by omega)]
    decide
  unfold hlp hlpM; rw [h, e]; exact ⟨rfl, rfl⟩
theorem hlpP_f1 {S Hd : Nat → Int32} {lt p : Nat} (h : lr S lt p = -1) : hlpP S Hd lt p = false := by
  rw [hlpP, decide_eq_false (fun q => q h)]; rfl
theorem hlpP_f2 {S Hd : Nat → Int32} {lt p : Nat} (h : dcd (upd S (33 + 10 * lt + p) (-1)) Hd lt = none) : hlpP S Hd lt p = false := by
  rw [hlpP, h, Bool.and_comm]; rfl
theorem hlpP_t {S Hd : Nat → Int32} {lt p t : Nat} (h1 : ¬ lr S lt p = -1) (h : dcd (upd S (33 + 10 * lt + p) (-1)) Hd lt = some t) : hlpP S Hd lt p = true := by
  rw [hlpP, h, decide_eq_true h1]; rfl
theorem all_s {P : Nat → Bool} {k : Nat} (h : ∀ j, j < k → P j = false) (hk : P k = false) : ∀ j, j < k + 1 → P j = false := fun j hj => (Nat.lt_succ_iff_lt_or_eq.mp hj).elim (h j) (fun e => e ▸ hk)
/-- the mean of the distances -/
def mdF (S Hd : Nat → Int32) (o : Nat) : Nat := match dcd S Hd o with
  | none => 0
  | some t => farT S Hd o t
def mdS (S Hd : Nat → Int32) (k : Nat) : Nat := sumN (mdF S Hd) k
def mdN (S Hd : Nat → Int32) (k : Nat) : Nat := cntN (fun o => (dcd S Hd o).isSome) k
theorem mdF_le {S Hd : Nat → Int32} {o : Nat} : mdF S Hd o ≤ 10 * (dcd S Hd o).isSome.toNat := by
  unfold mdF
  split
  · exact Nat.zero_le _
  · rename_i t h; rw [h]; exact farT_le _ _ _ _
theorem md_le {S Hd : Nat → Int32} : ∀ k, mdS S Hd k ≤ 10 * mdN S Hd k ∧ mdN S Hd k ≤ k
  | 0 => ⟨Nat.le_refl _, Nat.le_refl _⟩
  | k + 1 => by
    have h := md_le (S := S) (Hd := Hd) k
    have h1 := mdF_le (S := S) (Hd := Hd) (o := k)
    have h2 : (dcd S Hd k).isSome.toNat ≤ 1 := by cases (dcd S Hd k).isSome <;> decide
    have e1 : mdS S Hd (k + 1) = mdS S Hd k + mdF S Hd k := rfl
    have e2 : mdN S Hd (k + 1) = mdN S Hd k + (dcd S Hd k).isSome.toNat := rfl
    omega
def mdV (S Hd : Nat → Int32) : UInt64 := if mdN S Hd (ln S) = 0 then FP.dconst0 else FP.ddiv (FP.i2d (nI (mdS S Hd (ln S)))) (FP.i2d (nI (mdN S Hd (ln S))))
set_option maxRecDepth 100000 in
theorem fin64 : ∀ b, b < 25 → 0 < b → ∀ a, a < 10 * b + 1 → vf_n64 (FP.ddiv (FP.i2d (nI a)) (FP.i2d (nI b))) := by
  unfold vf_n64
  decide +kernel
/-- the bags, tried at another size -/
def bgI (S Hd : Nat → Int32) (x : Int32) : Int32 := sum6 (sAl (zrS S 6) (upd Hd 0 x)) 21 6
theorem i_add_n0 {x : Int32} {P : Prop} [Decidable P] (h : P) : x + nI (!decide P).toNat = x := by
  rw [decide_eq_true h]
  show x + nI 0 = x
  rw [nI_0]
  grind
