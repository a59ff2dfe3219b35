/-! SPEC 20: an office that is tried in another state -/
theorem sts_ext {S S' : Nat → Int32} (h : ∀ k, 2 ≤ k → S' k = S k) (x : Int32) : sts S' x = sts S x := by
  have hl : ln S' = ln S := by unfold ln; rw [h 2 (by omega)]
  unfold sts
  rw [hl]
  exact cntN_congr (fun o _ => by
    have : lr S' o 6 = lr S o 6 := h _ (by omega)
    rw [this])
theorem CWf_ext {S S' Hd : Nat → Int32} (h : ∀ k, 2 ≤ k → S' k = S k) (hC : CWf S Hd) : CWf S' Hd := by
  have hl : ln S' = ln S := by unfold ln; rw [h 2 (by omega)]
  obtain ⟨⟨y, hy9, hy, hB⟩, hL, hO, hN⟩ := hC
  refine ⟨⟨y, hy9, hy, fun r hr => ?_⟩, fun o ho => ?_, fun r hr => ?_, fun r hr => ?_⟩
  · obtain ⟨x, hx, he⟩ := hB r hr
    exact ⟨x, hx, by rw [h _ (by omega)]; exact he⟩
  · have h6 : lr S' o 6 = lr S o 6 := h _ (by omega)
    have h8 : lr S' o 8 = lr S o 8 := h _ (by omega)
    have h9 : lr S' o 9 = lr S o 9 := h _ (by omega)
    unfold LTf
    rw [h6, h8, h9]
    exact hL o (by rw [← hl]; exact ho)
  · rw [h _ (by omega)]
    exact hO r hr
  · obtain ⟨x, hx, he⟩ := hN r hr
    exact ⟨x, by rw [sts_ext h]; exact hx, by rw [h _ (by omega)]; exact he⟩
theorem CWf_lim {S Hd : Nat → Int32} {v : Int32} (hC : CWf S Hd) : CWf (upd S 0 v) Hd := CWf_ext (fun k hk => upd_ne (by omega)) hC
theorem fam_lt {dC : Nat → ClassId} {dI : Nat → Nat → Nat} {dA : Nat → ClassId} {b : Nat → Nat} {mc S Hd : Nat → Int32} {H : Heap} (hO : famP dC dI b (offE b dA mc S Hd) H) (hT : tn Hd ≤ 12) (hL : ln S ≤ 24) : ∀ k, useK (ln S) (tn Hd) k → b k < H.size := by
  intro k hk
  rcases hk with hk | ⟨h1, h2⟩ | ⟨h1, h2⟩ | ⟨h1, h2⟩
  · match k, hk with
    | 0, _ => exact (hO 0 _ rfl).lt
    | 1, _ => exact (hO 1 _ rfl).lt
    | 2, _ => exact (hO 2 _ rfl).lt
    | 3, _ => exact (hO 3 _ rfl).lt
    | 4, _ => exact (hO 4 _ rfl).lt
    | 5, _ => exact (hO 5 _ rfl).lt
    | 6, _ => exact (hO 6 _ rfl).lt
    | 7, _ => exact (hO 7 _ rfl).lt
    | 8, _ => exact (hO 8 _ rfl).lt
    | 9, _ => exact (hO 9 _ rfl).lt
  · obtain ⟨t, rfl⟩ : ∃ t, k = 10 + t := ⟨k - 10, by omega⟩
    exact (hO _ _ (offE_tw (by omega) hT)).lt
  · obtain ⟨o, rfl⟩ : ∃ o, k = 22 + o := ⟨k - 22, by omega⟩
    exact (hO _ _ (offE_lt (by omega) hL)).lt
  · obtain ⟨o, rfl⟩ : ∃ o, k = 46 + o := ⟨k - 46, by omega⟩
    exact (hO _ _ (offE_rd (by omega) hL)).lt
