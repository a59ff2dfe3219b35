/-! SPEC 11: the words; their Strings -/
def alN (p : Nat → Bool) : Nat → Bool
  | 0 => true
  | k + 1 => alN p k && p k
theorem alN_t {p : Nat → Bool} {k : Nat} (h : alN p k = true) (hp : p k = true) : alN p (k + 1) = true := by rw [alN, h, hp]; rfl
theorem alN_f {p : Nat → Bool} {k : Nat} (hp : p k = false) : ∀ {n}, k < n → alN p n = false
  | 0, h => absurd h (Nat.not_lt_zero _)
  | n + 1, h => by
    by_cases e : k = n
    · rw [alN, ← e, hp, Bool.and_false]
    · rw [alN, alN_f hp (by omega)]; rfl
def wrdB (M : Nat → Nat → Int32) (n : Nat) (g : Nat → Nat) : Bool := decide (M 0 16 = 0) && (decide (M 0 14 = nI 1) && (decide (nx M - fr M = n) && alN (fun i => decide (sn M (fr M + i) = nI (g i))) n))
def wB : Nat → List Nat
  | 0 => [111, 102, 102, 105, 99, 101]
  | 1 => [116, 111, 119, 110]
  | 2 => [108, 101, 116, 116, 101, 114]
  | 3 => [115, 117, 109]
  | 4 => [99, 108, 111, 115, 101]
  | _ => [115, 111, 114, 116]
def wG (j i : Nat) : Nat := (wB j).getD i 0
def wI : Nat → Nat
  | 0 => 243
  | 1 => 218
  | 2 => 227
  | 3 => 232
  | 4 => 237
  | _ => 239
def wT : Nat → String
  | 0 => "office"
  | 1 => "town"
  | 2 => "letter"
  | 3 => "sum"
  | 4 => "close"
  | _ => "sort"
theorem wG_lt (j : Nat) (hj : j < 6) : ∀ i, i < (wB j).length → wG j i < 256 := by
  have k : ∀ j, j < 6 → ∀ i, i < (wB j).length → wG j i < 256 := by decide
  exact k j hj
def SVA (A : Nat → Prop) (q v n : Nat) (f : Nat → Int32) (U : State) (H : Heap) : Prop := va_O "java/lang/String" q A U H ∧ va_OF "java/lang/String" "coder" "B" (.int 0) q A U H ∧ va_OF "java/lang/String" "value" "[B" (.ref v) q A U H ∧ va_T .byte v n (fun j => .int (f j)) A U H
theorem SVA.sv {A : Nat → Prop} {q v n : Nat} {f : Nat → Int32} {U : State} {H : Heap} (h : SVA A q v n f U H) : SV q v n f U H := ⟨h.1.narrow (fun _ q => nomatch q), h.2.1.narrow (fun _ q => nomatch q), h.2.2.1.narrow (fun _ q => nomatch q), h.2.2.2.narrow (fun _ q => nomatch q)⟩
theorem SVA.kept {A : Nat → Prop} {q v n : Nat} {f : Nat → Int32} {U : State} {H H1 : Heap} (h : SVA A q v n f U H) (hq : ∀ a : Nat, a < H.size → ¬ A a → H1[a]? = H[a]?) : SVA A q v n f U H1 := ⟨h.1.kept hq, h.2.1.kept hq, h.2.2.1.kept hq, h.2.2.2.kept hq⟩
theorem SVA.ok {A : Nat → Prop} {q v n : Nat} {f : Nat → Int32} : XOK (SVA A q v n f) := XOK.of fun u U H h q => ⟨va_O.moved h q.1, va_OF.moved h q.2.1, va_OF.moved h q.2.2.1, va_T.moved h q.2.2.2⟩
def CSA (A : Nat → Prop) (U : State) (H : Heap) : Prop := va_Z "java/lang/String" "COMPACT_STRINGS" "Z" (.int 1) A U H ∧ va_Zq "jdk/internal/util/Preconditions" "SIOOBE_FORMATTER" "Ljava/util/function/BiFunction;" A U H
theorem CSA.cs {A : Nat → Prop} {U : State} {H : Heap} (h : CSA A U H) : CS U H := ⟨h.1.narrow (fun _ q => nomatch q), h.2.narrow (fun _ q => nomatch q)⟩
theorem CSA.kept {A : Nat → Prop} {U : State} {H H1 : Heap} (h : CSA A U H) (hq : ∀ a : Nat, a < H.size → ¬ A a → H1[a]? = H[a]?) : CSA A U H1 := ⟨h.1.kept hq, h.2.kept hq⟩
theorem CSA.ok {A : Nat → Prop} : XOK (CSA A) := XOK.of fun u U H h q => ⟨va_Z.moved h q.1, va_Zq.moved h q.2⟩
/-- the reference's six words, below sz, and what Strings rest on -/
def EW (sz : Nat) (ks : Nat → Nat) (U : State) (H : Heap) : Prop := CSA (fun q => sz ≤ q) U H ∧ ∀ j, j < 6 → vk_R "BadCodesModel" (wI j) (wT j) (ks (2 * j)) U ∧ SVA (fun q => sz ≤ q) (ks (2 * j)) (ks (2 * j + 1)) (wB j).length (fun i => nI (wG j i)) U H
theorem EW.ok {sz : Nat} {ks : Nat → Nat} : XOK (EW sz ks) := ⟨fun u U H e q => ⟨CSA.ok.1 u U H e q.1, fun j hj => ⟨vk_R.same e (q.2 j hj).1, SVA.ok.1 u U H e (q.2 j hj).2⟩⟩, fun s U H hW q => ⟨CSA.ok.2 s U H hW q.1, fun j hj => ⟨vk_R.warm hW (q.2 j hj).1, SVA.ok.2 s U H hW (q.2 j hj).2⟩⟩⟩
theorem EW.kept {sz : Nat} {ks a : Nat → Nat} {U : State} {H H1 : Heap} {locs : List Loc} (hA : ∀ j, j < 8 → sz ≤ a j) (hS : uS (mA a) H H1 locs) (h : EW sz ks U H) : EW sz ks U H1 := by
  have hq : ∀ q : Nat, q < H.size → ¬ sz ≤ q → H1[q]? = H[q]? := fun q _ hn => hS.2.1 q (fun ⟨j, hj, e⟩ => hn (by rw [e]; exact hA j hj))
  exact ⟨h.1.kept hq, fun j hj => ⟨(h.2 j hj).1, (h.2 j hj).2.kept hq⟩⟩
theorem EW.word {sz : Nat} {ks : Nat → Nat} {U : State} {H : Heap} (h : EW sz ks U H) (j : Nat) (hj : j < 6) : SV (ks (2 * j)) (ks (2 * j + 1)) (wB j).length (fun i => nI (wG j i)) U H ∧ CS U H := ⟨(h.2 j hj).2.sv, h.1.cs⟩
