/-! SPEC 21: what a method gives back that changes an office's cells -/
/-- the heap's half of AX -/
def AXh (dC : Nat → ClassId) (dI : Nat → Nat → Nat) (g b : Nat → Nat) (dA : Nat → ClassId) (mc S Hd n : Nat → Int32) (H : Heap) : Prop := (n 1 = 0 → cP dC dI (g 0) (obE g n .null) H) ∧ (¬ n 1 = 0 → cP dC dI (g 0) (obE g n (.ref (b 0))) H ∧ famP dC dI b (offE b dA mc S Hd) H)
theorem AX.stay {dC : Nat → ClassId} {dI : Nat → Nat → Nat} {dA : Nat → ClassId} {g b : Nat → Nat} {mc S Hd n : Nat → Int32} {sz : Nat} {U : State} {H H1 : Heap} (h : AX dC dI dA g b mc S Hd n sz U H) (oq : ∀ q : Nat, q < H.size → ¬ (fun _ => False) q → H1[q]? = H[q]?) : AX dC dI dA g b mc S Hd n sz U H1 :=
  ⟨fun h1 => (h.1 h1).stay oq (fun h => h), fun h1 => ⟨(h.2.1 h1).1.stay oq (fun h => h), (h.2.1 h1).2.stay oq (fun _ _ h => h)⟩, h.2.2.1, h.2.2.2.1.kept (fun a h1 _ => oq a h1 (fun h => h)), h.2.2.2.2⟩
theorem hlpP_d {S Hd : Nat → Int32} {lt p t : Nat} (hE : dcd S Hd lt = none) (h : dcd (upd S (33 + 10 * lt + p) (-1)) Hd lt = some t) : hlpP S Hd lt p = true := by
  refine hlpP_t (fun q => ?_) h
  have e : upd S (33 + 10 * lt + p) (-1) = S := by
    have q2 : S (33 + 10 * lt + p) = -1 := q
    rw [← q2]
    funext j
    unfold upd
    by_cases e : j = 33 + 10 * lt + p
    · rw [if_pos e, e]
    · rw [if_neg e]
  rw [e, hE] at h
  cases h
theorem hlp_end {S Hd : Nat → Int32} {lt k : Nat} (hk : 5 ≤ k) (hf : ∀ j, j < k → hlpP S Hd lt j = false) : hlp S Hd lt = none := by
  cases hE : dcd S Hd lt with
  | none => exact (hlp_n hE hk hf).1
  | some t => exact (hlp_s hE).1
