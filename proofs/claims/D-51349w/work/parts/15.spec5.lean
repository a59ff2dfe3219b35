/-! SPEC 5: texts and changes -/
def cN (x : Int32) : Nat := x.toNatClampNeg
/-- signs written from place n on -/
def putL (T : Nat → Int32) (n : Nat) (L : List Nat) : Nat → Int32 := fun i => if n ≤ i ∧ i < n + L.length then nI (L.getD (i - n) 0) else T i
theorem putL_nil {T : Nat → Int32} {n : Nat} : putL T n [] = T := by
  funext i
  exact if_neg (by simp only [List.length_nil]; omega)
theorem putL_one {T : Nat → Int32} {n c : Nat} : upd T n (nI c) = putL T n [c] := by
  funext i
  unfold upd putL
  simp only [List.length_singleton]
  by_cases h : i = n
  · subst h
    rw [if_pos rfl, if_pos (by omega), Nat.sub_self]
    rfl
  · rw [if_neg h, if_neg (by omega)]
theorem putL_app {T : Nat → Int32} {n : Nat} {L1 L2 : List Nat} : putL (putL T n L1) (n + L1.length) L2 = putL T n (L1 ++ L2) := by
  funext i
  unfold putL
  rw [List.length_append]
  by_cases h1 : n ≤ i ∧ i < n + L1.length
  · rw [if_neg (by omega), if_pos h1, if_pos (by omega)]
    congr 1
    rw [List.getD_eq_getElem?_getD, List.getD_eq_getElem?_getD, List.getElem?_append_left (by omega)]
  · by_cases h2 : n + L1.length ≤ i ∧ i < n + L1.length + L2.length
    · rw [if_pos h2, if_pos (by omega)]
      congr 1
      rw [List.getD_eq_getElem?_getD, List.getD_eq_getElem?_getD, List.getElem?_append_right (by omega)]
      congr 2
      omega
    · rw [if_neg h2, if_neg h1, if_neg (by omega)]
theorem putL_at {T : Nat → Int32} {L : List Nat} {i : Nat} (h : i < L.length) : putL T 0 L i = nI (L.getD i 0) := if_pos (by omega)
/-- a number of at most two digits, as signs -/
def sgN (v : Nat) : List Nat := if 9 < v then [48 + v / 10, 48 + v % 10] else [48 + v % 10]
def sgC (c : Nat) : Nat → List Nat
  | 0 => []
  | k + 1 => sgC c k ++ [48 + dg c k]
theorem sgC_len (c : Nat) : ∀ k, (sgC c k).length = k
  | 0 => rfl
  | k + 1 => by rw [sgC, List.length_append, sgC_len c k]; rfl
theorem sgN_len (v : Nat) : 1 ≤ (sgN v).length ∧ (sgN v).length ≤ 2 := by
  unfold sgN
  split <;> simp
def rdC (r : Int32) : Nat := if r = -1 then 63 else 48 + r.toNatClampNeg
def rdL (S : Nat → Int32) (lt : Nat) : Nat → List Nat
  | 0 => []
  | k + 1 => rdL S lt k ++ [rdC (lr S lt k)]
theorem rdL_len (S : Nat → Int32) (lt : Nat) : ∀ k, (rdL S lt k).length = k
  | 0 => rfl
  | k + 1 => by rw [rdL, List.length_append, rdL_len S lt k]; rfl
/-- a letter's text -/
def wLet (S Hd : Nat → Int32) (lt : Nat) : List Nat := rdL S lt 5 ++ [62] ++ (match dcd S Hd lt with
  | none => [45]
  | some t => sgC (cd (num Hd t)) 5)
/-- the near towns' text, of the first k -/
def wNrK (S Hd : Nat → Int32) (lt : Nat) : Nat → List Nat
  | 0 => []
  | k + 1 => match nrA S Hd lt (nI k) with
    | none => wNrK S Hd lt k
    | some t => wNrK S Hd lt k ++ ((if 0 < k then [32] else []) ++ sgC (cd (num Hd t)) 5 ++ [58] ++ sgN (farT S Hd lt t))
def wNr (S Hd : Nat → Int32) (lt : Nat) : List Nat := if nrT S Hd lt = 0 then [45] else wNrK S Hd lt (nrT S Hd lt)
/-- the bags' text, of the first r -/
def wBgR (S : Nat → Int32) : Nat → List Nat
  | 0 => []
  | r + 1 => wBgR S r ++ ((if 0 < r then [32] else []) ++ sgN (cN (S (21 + r))) ++ [43] ++ sgN (cN (S (15 + r))) ++ (if S (9 + r) = 0 then [120] else []))
theorem wBgR_len (S : Nat → Int32) : ∀ r, (wBgR S r).length ≤ 7 * r
  | 0 => Nat.le_refl _
  | r + 1 => by
    have h := wBgR_len S r
    have h1 := (sgN_len (cN (S (21 + r)))).2
    have h2 := (sgN_len (cN (S (15 + r)))).2
    have h3 : (if 0 < r then [32] else ([] : List Nat)).length ≤ 1 := by split <;> simp
    have h4 : (if S (9 + r) = 0 then [120] else ([] : List Nat)).length ≤ 1 := by split <;> simp
    rw [wBgR]
    simp only [List.length_append, List.length_singleton]
    omega
theorem wNrK_len (S Hd : Nat → Int32) (lt : Nat) : ∀ k, (wNrK S Hd lt k).length ≤ 9 * k
  | 0 => Nat.le_refl _
  | k + 1 => by
    have h := wNrK_len S Hd lt k
    rw [wNrK]
    split
    · omega
    · rename_i t _
      have h1 := (sgN_len (farT S Hd lt t)).2
      have h3 : (if 0 < k then [32] else ([] : List Nat)).length ≤ 1 := by split <;> simp
      simp only [List.length_append, List.length_singleton, sgC_len]
      omega
theorem pas_row {f : Nat → Nat} {n d k : Nat} (h0 : k < pasN f n d 0 → ∃ u, u < n ∧ (f u < d ∨ f u = d ∧ u < 0) ∧ ahd f n u = k) : ∀ t, t ≤ n → k < pasN f n d t → ∃ u, u < n ∧ (f u < d ∨ f u = d ∧ u < t) ∧ ahd f n u = k
  | 0, _, h => h0 h
  | t + 1, ht, h => by
    by_cases e : f t = d
    · rw [pasN_hit (by omega) e] at h
      by_cases q : k < pasN f n d t
      · obtain ⟨u, h1, h2, h3⟩ := pas_row h0 t (by omega) q
        exact ⟨u, h1, by omega, h3⟩
      · exact ⟨t, by omega, Or.inr ⟨e, by omega⟩, by rw [← pasN_at e]; omega⟩
    · rw [pasN_miss e] at h
      obtain ⟨u, h1, h2, h3⟩ := pas_row h0 t (by omega) h
      exact ⟨u, h1, by omega, h3⟩
theorem pas_ex {f : Nat → Nat} {n k : Nat} : ∀ d, k < pasN f n d 0 → ∃ u, u < n ∧ (f u < d ∨ f u = d ∧ u < 0) ∧ ahd f n u = k
  | 0, h => by rw [pasN_0] at h; omega
  | d + 1, h => by
    rw [← pasN_row] at h
    obtain ⟨u, h1, h2, h3⟩ := pas_row (pas_ex d) n (Nat.le_refl _) h
    exact ⟨u, h1, by omega, h3⟩
/-- as many have a place among the near ones as are near -/
theorem nrA_ex {S Hd : Nat → Int32} {lt : Nat} (hn : tn Hd ≤ 12) {k : Nat} (h : k < nrT S Hd lt) : ∃ t, nrA S Hd lt (nI k) = some t := by
  have e : nrT S Hd lt = pasN (farT S Hd lt) (tn Hd) (lim S + 1) 0 := by
    unfold nrT pasN
    refine cntN_congr (fun i hi => ?_)
    by_cases q : farT S Hd lt i ≤ lim S
    · simp [q, Nat.lt_succ_of_le q]
    · simp [q, show ¬ farT S Hd lt i < lim S + 1 by omega]
  rw [e] at h
  obtain ⟨u, h1, h2, h3⟩ := pas_ex _ h
  exact ⟨u, nrA_some h1 hn (by omega) (by rw [h3])⟩
theorem nrA_no {S Hd : Nat → Int32} {lt : Nat} (hn : tn Hd ≤ 12) {k : Nat} (h : nrT S Hd lt ≤ k) (hk : k < 2 ^ 31) : nrA S Hd lt (nI k) = none := by
  cases hE : nrA S Hd lt (nI k) with
  | none => rfl
  | some t =>
    exfalso
    obtain ⟨h1, h2⟩ := fndN_lt hE
    rw [Bool.and_eq_true, decide_eq_true_eq, decide_eq_true_eq] at h2
    have b := ahd_le (f := farT S Hd lt) (n := tn Hd) (t := t)
    have h3 := (nI_eq (by omega) hk).mp h2.2
    have h4 : ahd (farT S Hd lt) (tn Hd) t < nrT S Hd lt := by
      unfold ahd nrT
      refine cntN_lt (i := t) (fun i _ hi => ?_) h1 ?_ ?_
      · rw [ahP_iff] at hi; rw [decide_eq_true_eq]; omega
      · cases hh : ahP (farT S Hd lt) t t with
        | false => rfl
        | true => rw [ahP_iff] at hh; omega
      · rw [decide_eq_true_eq]; exact h2.1
    omega
theorem wNrK_s {S Hd : Nat → Int32} {lt k t : Nat} (h : nrA S Hd lt (nI k) = some t) : wNrK S Hd lt (k + 1) = wNrK S Hd lt k ++ ((if 0 < k then [32] else []) ++ sgC (cd (num Hd t)) 5 ++ [58] ++ sgN (farT S Hd lt t)) := by rw [wNrK, h]
theorem wNrK_pos {S Hd : Nat → Int32} {lt k : Nat} (hn : tn Hd ≤ 12) (h0 : 0 < k) (hk : k ≤ nrT S Hd lt) : 0 < (wNrK S Hd lt k).length := by
  match k, h0 with
  | k + 1, _ =>
    obtain ⟨t, ht⟩ := nrA_ex hn (show k < nrT S Hd lt by omega)
    rw [wNrK_s ht]
    simp only [List.length_append, List.length_singleton]
    omega
theorem wNr_0 {S Hd : Nat → Int32} {lt k : Nat} (hn : tn Hd ≤ 12) (h1 : k ≤ nrT S Hd lt) (h2 : ¬ k < nrT S Hd lt) (h0 : (wNrK S Hd lt k).length = 0) : (if nrT S Hd lt = 0 then [45] else wNrK S Hd lt (nrT S Hd lt)) = wNrK S Hd lt k ++ [45] := by
  have e : nrT S Hd lt = k := by omega
  rw [e]
  match k, h0, h1 with
  | 0, _, _ => rfl
  | k + 1, h0, h1 => exact absurd h0 (Nat.ne_of_gt (wNrK_pos hn (Nat.succ_pos k) h1))
theorem wNr_1 {S Hd : Nat → Int32} {lt k : Nat} (hn : tn Hd ≤ 12) (h1 : k ≤ nrT S Hd lt) (h2 : ¬ k < nrT S Hd lt) (h0 : ¬ (wNrK S Hd lt k).length = 0) : (if nrT S Hd lt = 0 then [45] else wNrK S Hd lt (nrT S Hd lt)) = wNrK S Hd lt k := by
  have e : nrT S Hd lt = k := by omega
  rw [e]
  match k, h0 with
  | 0, h0 => exact absurd rfl h0
  | k + 1, _ => exact if_neg (by omega)
/-- what is kept when something changes -/
def kpN (c : Nat) : Nat := if c = 8 then 8 else c + 1
def shK (st : Nat → Int32) (k : Nat) : Nat → Int32 := fun j => if j < k then st (j + 273) else st j
theorem shK_0 {st : Nat → Int32} : shK st 0 = st := by funext j; exact if_neg (by omega)
theorem shK_s {st : Nat → Int32} {k : Nat} : upd (shK st k) k (shK st k (k + 273)) = shK st (k + 1) := by
  funext j
  unfold upd shK
  by_cases h : j = k
  · rw [if_pos h, if_neg (by omega), if_pos (by omega), h]
  · rw [if_neg h]
    by_cases h2 : j < k
    · rw [if_pos h2, if_pos (by omega)]
    · rw [if_neg h2, if_neg (by omega)]
def kpS (S st : Nat → Int32) (c : Nat) : Nat → Int32 := if c = 8 then va_cpy S (shK st 1911) 0 (273 * (0 + 7)) 273 else va_cpy S st 0 (273 * (0 + c)) 273
theorem m_says {dC : Nat → ClassId} {dI : Nat → Nat → Nat} {dA : Nat → ClassId} {a : Nat → Nat} {M : Nat → Nat → Int32} {H : Heap} {F T : Nat → Int32} {L Lc : List Nat} (hP : mP dC dI dA a (mrow (mrow M 0 (upd F 21 (nI (L.length + Lc.length)))) 7 (putL (putL T 0 L) L.length Lc)) H) : mP dC dI dA a (mrow (mrow M 0 (upd F 21 (nI (L ++ Lc).length))) 7 (putL T 0 (L ++ Lc))) H := by
  rw [List.length_append, ← putL_app, Nat.zero_add]
  exact hP
theorem m_says0 {dC : Nat → ClassId} {dI : Nat → Nat → Nat} {dA : Nat → ClassId} {a : Nat → Nat} {M : Nat → Nat → Int32} {H : Heap} {F : Nat → Int32} (hP : mP dC dI dA a (mrow M 0 (upd F 21 (nI 0))) H) : mP dC dI dA a (mrow (mrow M 0 (upd F 21 (nI ([] : List Nat).length))) 7 (putL (M 7) 0 [])) H := by
  rw [putL_nil]
  exact hP
theorem rdC_n {r : Int32} (h : rdOK r) (h1 : ¬ r = -1) : nI 48 + r = nI (rdC r) := by
  rcases h with q | ⟨j, hj, q⟩
  · exact absurd q h1
  · rw [rdC, if_neg h1, q, nI_clamp (by omega)]
    exact nI_add 48 j
