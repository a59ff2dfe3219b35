section TW20
variable {p : Program} {l : Launch} {e : Env}
/-- the reference's numbers as it is made -/
def M00 : Nat → Nat → Int32 := fun r k => if r = 0 ∧ k = 10 then -1 else 0
/-- what the constructor leaves: seven new arrays, all zero; nothing else has changed -/
def uMk (o hs : Nat) (dC : Nat → ClassId) (dI : Nat → Nat → Nat) (dA : Nat → ClassId) : Array Value → State → Outcome → State → Prop := fun _ st oc t => oc = .returned none ∧ ∃ a : Nat → Nat, a 0 = o ∧ mJ a ∧ (∀ k, 0 < k → k < 8 → hs ≤ a k) ∧ mP dC dI dA a M00 t.heap ∧ hs ≤ t.heap.size ∧ ∀ q : Nat, q < hs → q ≠ o → t.heap[q]? = st.heap[q]?
def ini2 : List Value := [.int 0, .int 0, .null, .null, .null, .int 0, .null, .null, .int 0, .int 0, .int 0, .int 0, .int 0, .int 0, .int 0, .int 0, .int 0, .int 0, .null, .int 0, .null, .int 0]
def adA (o q1 q2 q3 q4 q5 q6 q7 : Nat) : Nat → Nat
  | 0 => o
  | 1 => q1
  | 2 => q2
  | 3 => q3
  | 4 => q4
  | 5 => q5
  | 6 => q6
  | _ => q7
set_option maxHeartbeats 4000000 in
set_option maxRecDepth 100000 in
theorem c_X2_init (l : Launch) (dC : Nat → ClassId) (dI : Nat → Nat → Nat) (dA : Nat → ClassId) (o hs : Nat) : Met l yX2_init (ws_ yX2_init cX2_init 1 none) (rmD 1 7 4330) (uPx [.ref o] (fun _ H => va_P (dC, dI) CL [(o, .inr (2, ini2))] H ∧ H.size = hs) dC dI dA) (uMk o hs dC dI dA) 7 4330 (fun q => q = o ∨ hs ≤ q) := by
  refine Met.ofW (cc := cX2_init) (maxL := 1) (ret := none) (by decide) rfl ?_
  intro p e s m args below meth c s₁ B hml hv
  obtain ⟨rfl, ⟨hP, hsz⟩, hK⟩ := hv
  have hx := B.exec
  have hb := B.bytes
  have hr := B.returns
  have hts := atoms_spec (ws := ws_ yX2_init cX2_init 1 none) B.pre
  have hts : ∀ w ∈ lw_all, w.before _ s = true := fun w h => hts w (List.mem_cons_of_mem _ h)
  have hown : s.vm.findClass RX2 = some m.cls := findClass_of_methodNamed B.named
  have hlocks := B.notSynchronized
  have hin : meth.name = "<init>" := (name_of_methodNamed B.named B.method).1
  subst hsz
  obtain ⟨A, hAe⟩ : ∃ A : Nat → Prop, A = fun q => q = o ∨ s.heap.size ≤ q := ⟨_, rfl⟩
  rw [← hAe]
  have hA : ∀ q : Nat, s.heap.size ≤ q → A q := fun q h => by rw [hAe]; exact Or.inr h
  have hD : va_D A [(o, .inr (2, ini2))] := by
    refine ⟨fun i j x y hi hj hq => ?_, fun k x hk => ?_⟩
    · have h1 : i < 1 := (List.getElem?_eq_some_iff.mp hi).1
      have h2 : j < 1 := (List.getElem?_eq_some_iff.mp hj).1
      omega
    · match k, hk with
      | 0, hk => cases hk; rw [hAe]; exact Or.inl rfl
  have hol : o < s.heap.size := (hP 0 _ rfl).lt
  have hS : va_S A s.heap s.heap [] := va_S.rf
  have hl := lv_entry ([.ref o]) (n := 1) (Nat.le_of_ble_eq_true rfl)
  rw [lg_entry_eq]
  generalize (lg_sl ([.ref o]) ++ List.replicate (1 - (lg_sl ([.ref o])).length) Slot.unset).toArray = ls at hl ⊢
  have hl : lv_has ls 1 [(0, .ref o)] := hl
  refine lv_aload_n hx hb dX2_init_0 rfl (lv_at hl 0 rfl) ?_
  refine W.objInit hx hb hown (hts _ q1950) (hts _ q156) (hts _ q157) rfl (by rw [hml]; exact hl.1) rfl dX2_init_1 (Nat.le_of_ble_eq_true rfl) (Nat.le_of_ble_eq_true rfl) ?_
  refine W.eq (g2 := F0 m 4 ls []) rfl ?_
  have hP : va_P (dC, dI) CL [(o, .inr (2, [.int 0, .int 0, .null, .null, .null, .int 0, .null, .null, .int 0, .int 0, .int 0, .int 0, .int 0, .int 0, .int 0, .int 0, .int 0, .int 0, .null, .int 0, .null, .int 0]))] s.heap := hP
  have hD : va_D A [(o, .inr (2, [.int 0, .int 0, .null, .null, .null, .int 0, .null, .null, .int 0, .int 0, .int 0, .int 0, .int 0, .int 0, .int 0, .int 0, .int 0, .int 0, .null, .int 0, .null, .int 0]))] := hD
  refine lv_aload_n hx hb dX2_init_4 rfl (lv_at hl 0 rfl) ?_
  refine lv_bipush (v := nI 26) hx hb dX2_init_5 (by decide) ?_
  refine va_newa (atype := .int) (ty := .int) (a0 := (26, .inl (fun _ => 0))) (N' := 26) hx hb (hts _ q252) rfl hK hP hD hS hA (fun cA => vp_cell_i cA _ _) (nI_pos (by decide)) (nI_clamp (by decide)) (Nat.le_of_ble_eq_true rfl) (Nat.le_of_ble_eq_true rfl) (Nat.le_of_ble_eq_true rfl) dX2_init_7 (fun q1 cA H hK9 hP hD hS => ?_)
  have e9 : cA = dA 0 := Option.some.inj ((hK9.2 8 _ rfl).2.symm.trans (hK.2 0 _ rfl).2)
  subst e9
  have hP : va_P (dC, dI) CL [(o, .inr (2, [.int 0, .int 0, .null, .null, .null, .int 0, .null, .null, .int 0, .int 0, .int 0, .int 0, .int 0, .int 0, .int 0, .int 0, .int 0, .int 0, .null, .int 0, .null, .int 0])), (q1, .inl (dA 0, 26, .inl (fun _ => 0)))] H := hP
  have hD : va_D A [(o, .inr (2, [.int 0, .int 0, .null, .null, .null, .int 0, .null, .null, .int 0, .int 0, .int 0, .int 0, .int 0, .int 0, .int 0, .int 0, .int 0, .int 0, .null, .int 0, .null, .int 0])), (q1, .inl (dA 0, 26, .inl (fun _ => 0)))] := hD
  refine va_putF (D := (dC, dI)) (ci := 2) (v := .ref q1) (ty := .array .int) (C := RX2) (T := TX2) (N := 22) hx hb hts in_X2 tyX2 tyX2_ok nmX2 hown hK hP hD hS 0 rfl rfl 2 (by decide) (hts _ q1953) (fun _ h9 => h9) rfl hin rfl (by decide +kernel) rfl rfl (Nat.le_of_ble_eq_true rfl) dX2_init_9 (fun H locs hP hD hS => ?_)
  have hP : va_P (dC, dI) CL [(o, .inr (2, [.int 0, .int 0, .ref q1, .null, .null, .int 0, .null, .null, .int 0, .int 0, .int 0, .int 0, .int 0, .int 0, .int 0, .int 0, .int 0, .int 0, .null, .int 0, .null, .int 0])), (q1, .inl (dA 0, 26, .inl (fun _ => 0)))] H := hP
  have hD : va_D A [(o, .inr (2, [.int 0, .int 0, .ref q1, .null, .null, .int 0, .null, .null, .int 0, .int 0, .int 0, .int 0, .int 0, .int 0, .int 0, .int 0, .int 0, .int 0, .null, .int 0, .null, .int 0])), (q1, .inl (dA 0, 26, .inl (fun _ => 0)))] := hD
  refine lv_aload_n hx hb dX2_init_12 rfl (lv_at hl 0 rfl) ?_
  refine lv_sipush (v := nI 273) hx hb dX2_init_13 (by decide) ?_
  refine va_newa (atype := .int) (ty := .int) (a0 := (273, .inl (fun _ => 0))) (N' := 273) hx hb (hts _ q252) rfl hK hP hD hS hA (fun cA => vp_cell_i cA _ _) (nI_pos (by decide)) (nI_clamp (by decide)) (Nat.le_of_ble_eq_true rfl) (Nat.le_of_ble_eq_true rfl) (Nat.le_of_ble_eq_true rfl) dX2_init_16 (fun q2 cA H hK9 hP hD hS => ?_)
  have e9 : cA = dA 0 := Option.some.inj ((hK9.2 8 _ rfl).2.symm.trans (hK.2 0 _ rfl).2)
  subst e9
  have hP : va_P (dC, dI) CL [(o, .inr (2, [.int 0, .int 0, .ref q1, .null, .null, .int 0, .null, .null, .int 0, .int 0, .int 0, .int 0, .int 0, .int 0, .int 0, .int 0, .int 0, .int 0, .null, .int 0, .null, .int 0])), (q1, .inl (dA 0, 26, .inl (fun _ => 0))), (q2, .inl (dA 0, 273, .inl (fun _ => 0)))] H := hP
  have hD : va_D A [(o, .inr (2, [.int 0, .int 0, .ref q1, .null, .null, .int 0, .null, .null, .int 0, .int 0, .int 0, .int 0, .int 0, .int 0, .int 0, .int 0, .int 0, .int 0, .null, .int 0, .null, .int 0])), (q1, .inl (dA 0, 26, .inl (fun _ => 0))), (q2, .inl (dA 0, 273, .inl (fun _ => 0)))] := hD
  refine va_putF (D := (dC, dI)) (ci := 2) (v := .ref q2) (ty := .array .int) (C := RX2) (T := TX2) (N := 22) hx hb hts in_X2 tyX2 tyX2_ok nmX2 hown hK hP hD hS 0 rfl rfl 3 (by decide) (hts _ q1954) (fun _ h9 => h9) rfl hin rfl (by decide +kernel) rfl rfl (Nat.le_of_ble_eq_true rfl) dX2_init_18 (fun H locs hP hD hS => ?_)
  have hP : va_P (dC, dI) CL [(o, .inr (2, [.int 0, .int 0, .ref q1, .ref q2, .null, .int 0, .null, .null, .int 0, .int 0, .int 0, .int 0, .int 0, .int 0, .int 0, .int 0, .int 0, .int 0, .null, .int 0, .null, .int 0])), (q1, .inl (dA 0, 26, .inl (fun _ => 0))), (q2, .inl (dA 0, 273, .inl (fun _ => 0)))] H := hP
  have hD : va_D A [(o, .inr (2, [.int 0, .int 0, .ref q1, .ref q2, .null, .int 0, .null, .null, .int 0, .int 0, .int 0, .int 0, .int 0, .int 0, .int 0, .int 0, .int 0, .int 0, .null, .int 0, .null, .int 0])), (q1, .inl (dA 0, 26, .inl (fun _ => 0))), (q2, .inl (dA 0, 273, .inl (fun _ => 0)))] := hD
  refine lv_aload_n hx hb dX2_init_21 rfl (lv_at hl 0 rfl) ?_
  refine lv_sipush (v := nI 3003) hx hb dX2_init_22 (by decide) ?_
  refine va_newa (atype := .int) (ty := .int) (a0 := (3003, .inl (fun _ => 0))) (N' := 3003) hx hb (hts _ q252) rfl hK hP hD hS hA (fun cA => vp_cell_i cA _ _) (nI_pos (by decide)) (nI_clamp (by decide)) (Nat.le_of_ble_eq_true rfl) (Nat.le_of_ble_eq_true rfl) (Nat.le_of_ble_eq_true rfl) dX2_init_25 (fun q3 cA H hK9 hP hD hS => ?_)
  have e9 : cA = dA 0 := Option.some.inj ((hK9.2 8 _ rfl).2.symm.trans (hK.2 0 _ rfl).2)
  subst e9
  have hP : va_P (dC, dI) CL [(o, .inr (2, [.int 0, .int 0, .ref q1, .ref q2, .null, .int 0, .null, .null, .int 0, .int 0, .int 0, .int 0, .int 0, .int 0, .int 0, .int 0, .int 0, .int 0, .null, .int 0, .null, .int 0])), (q1, .inl (dA 0, 26, .inl (fun _ => 0))), (q2, .inl (dA 0, 273, .inl (fun _ => 0))), (q3, .inl (dA 0, 3003, .inl (fun _ => 0)))] H := hP
  have hD : va_D A [(o, .inr (2, [.int 0, .int 0, .ref q1, .ref q2, .null, .int 0, .null, .null, .int 0, .int 0, .int 0, .int 0, .int 0, .int 0, .int 0, .int 0, .int 0, .int 0, .null, .int 0, .null, .int 0])), (q1, .inl (dA 0, 26, .inl (fun _ => 0))), (q2, .inl (dA 0, 273, .inl (fun _ => 0))), (q3, .inl (dA 0, 3003, .inl (fun _ => 0)))] := hD
  refine va_putF (D := (dC, dI)) (ci := 2) (v := .ref q3) (ty := .array .int) (C := RX2) (T := TX2) (N := 22) hx hb hts in_X2 tyX2 tyX2_ok nmX2 hown hK hP hD hS 0 rfl rfl 4 (by decide) (hts _ q1955) (fun _ h9 => h9) rfl hin rfl (by decide +kernel) rfl rfl (Nat.le_of_ble_eq_true rfl) dX2_init_27 (fun H locs hP hD hS => ?_)
  have hP : va_P (dC, dI) CL [(o, .inr (2, [.int 0, .int 0, .ref q1, .ref q2, .ref q3, .int 0, .null, .null, .int 0, .int 0, .int 0, .int 0, .int 0, .int 0, .int 0, .int 0, .int 0, .int 0, .null, .int 0, .null, .int 0])), (q1, .inl (dA 0, 26, .inl (fun _ => 0))), (q2, .inl (dA 0, 273, .inl (fun _ => 0))), (q3, .inl (dA 0, 3003, .inl (fun _ => 0)))] H := hP
  have hD : va_D A [(o, .inr (2, [.int 0, .int 0, .ref q1, .ref q2, .ref q3, .int 0, .null, .null, .int 0, .int 0, .int 0, .int 0, .int 0, .int 0, .int 0, .int 0, .int 0, .int 0, .null, .int 0, .null, .int 0])), (q1, .inl (dA 0, 26, .inl (fun _ => 0))), (q2, .inl (dA 0, 273, .inl (fun _ => 0))), (q3, .inl (dA 0, 3003, .inl (fun _ => 0)))] := hD
  refine lv_aload_n hx hb dX2_init_30 rfl (lv_at hl 0 rfl) ?_
  refine lv_iconst (v := nI 2) hx hb dX2_init_31 (by decide) ?_
  refine va_newa (atype := .boolean) (ty := .boolean) (a0 := (2, .inl (fun _ => 0))) (N' := 2) hx hb (hts _ q875) rfl hK hP hD hS hA (fun cA => vp_cell_i cA _ _) (nI_pos (by decide)) (nI_clamp (by decide)) (Nat.le_of_ble_eq_true rfl) (Nat.le_of_ble_eq_true rfl) (Nat.le_of_ble_eq_true rfl) dX2_init_32 (fun q4 cA H hK9 hP hD hS => ?_)
  have e9 : cA = dA 1 := Option.some.inj ((hK9.2 8 _ rfl).2.symm.trans (hK.2 1 _ rfl).2)
  subst e9
  have hP : va_P (dC, dI) CL [(o, .inr (2, [.int 0, .int 0, .ref q1, .ref q2, .ref q3, .int 0, .null, .null, .int 0, .int 0, .int 0, .int 0, .int 0, .int 0, .int 0, .int 0, .int 0, .int 0, .null, .int 0, .null, .int 0])), (q1, .inl (dA 0, 26, .inl (fun _ => 0))), (q2, .inl (dA 0, 273, .inl (fun _ => 0))), (q3, .inl (dA 0, 3003, .inl (fun _ => 0))), (q4, .inl (dA 1, 2, .inl (fun _ => 0)))] H := hP
  have hD : va_D A [(o, .inr (2, [.int 0, .int 0, .ref q1, .ref q2, .ref q3, .int 0, .null, .null, .int 0, .int 0, .int 0, .int 0, .int 0, .int 0, .int 0, .int 0, .int 0, .int 0, .null, .int 0, .null, .int 0])), (q1, .inl (dA 0, 26, .inl (fun _ => 0))), (q2, .inl (dA 0, 273, .inl (fun _ => 0))), (q3, .inl (dA 0, 3003, .inl (fun _ => 0))), (q4, .inl (dA 1, 2, .inl (fun _ => 0)))] := hD
  refine va_putF (D := (dC, dI)) (ci := 2) (v := .ref q4) (ty := .array .boolean) (C := RX2) (T := TX2) (N := 22) hx hb hts in_X2 tyX2 tyX2_ok nmX2 hown hK hP hD hS 0 rfl rfl 6 (by decide) (hts _ q1957) (fun _ h9 => h9) rfl hin rfl (by decide +kernel) rfl rfl (Nat.le_of_ble_eq_true rfl) dX2_init_34 (fun H locs hP hD hS => ?_)
  have hP : va_P (dC, dI) CL [(o, .inr (2, [.int 0, .int 0, .ref q1, .ref q2, .ref q3, .int 0, .ref q4, .null, .int 0, .int 0, .int 0, .int 0, .int 0, .int 0, .int 0, .int 0, .int 0, .int 0, .null, .int 0, .null, .int 0])), (q1, .inl (dA 0, 26, .inl (fun _ => 0))), (q2, .inl (dA 0, 273, .inl (fun _ => 0))), (q3, .inl (dA 0, 3003, .inl (fun _ => 0))), (q4, .inl (dA 1, 2, .inl (fun _ => 0)))] H := hP
  have hD : va_D A [(o, .inr (2, [.int 0, .int 0, .ref q1, .ref q2, .ref q3, .int 0, .ref q4, .null, .int 0, .int 0, .int 0, .int 0, .int 0, .int 0, .int 0, .int 0, .int 0, .int 0, .null, .int 0, .null, .int 0])), (q1, .inl (dA 0, 26, .inl (fun _ => 0))), (q2, .inl (dA 0, 273, .inl (fun _ => 0))), (q3, .inl (dA 0, 3003, .inl (fun _ => 0))), (q4, .inl (dA 1, 2, .inl (fun _ => 0)))] := hD
  refine lv_aload_n hx hb dX2_init_37 rfl (lv_at hl 0 rfl) ?_
  refine lv_sipush (v := nI 600) hx hb dX2_init_38 (by decide) ?_
  refine va_newa (atype := .int) (ty := .int) (a0 := (600, .inl (fun _ => 0))) (N' := 600) hx hb (hts _ q252) rfl hK hP hD hS hA (fun cA => vp_cell_i cA _ _) (nI_pos (by decide)) (nI_clamp (by decide)) (Nat.le_of_ble_eq_true rfl) (Nat.le_of_ble_eq_true rfl) (Nat.le_of_ble_eq_true rfl) dX2_init_41 (fun q5 cA H hK9 hP hD hS => ?_)
  have e9 : cA = dA 0 := Option.some.inj ((hK9.2 8 _ rfl).2.symm.trans (hK.2 0 _ rfl).2)
  subst e9
  have hP : va_P (dC, dI) CL [(o, .inr (2, [.int 0, .int 0, .ref q1, .ref q2, .ref q3, .int 0, .ref q4, .null, .int 0, .int 0, .int 0, .int 0, .int 0, .int 0, .int 0, .int 0, .int 0, .int 0, .null, .int 0, .null, .int 0])), (q1, .inl (dA 0, 26, .inl (fun _ => 0))), (q2, .inl (dA 0, 273, .inl (fun _ => 0))), (q3, .inl (dA 0, 3003, .inl (fun _ => 0))), (q4, .inl (dA 1, 2, .inl (fun _ => 0))), (q5, .inl (dA 0, 600, .inl (fun _ => 0)))] H := hP
  have hD : va_D A [(o, .inr (2, [.int 0, .int 0, .ref q1, .ref q2, .ref q3, .int 0, .ref q4, .null, .int 0, .int 0, .int 0, .int 0, .int 0, .int 0, .int 0, .int 0, .int 0, .int 0, .null, .int 0, .null, .int 0])), (q1, .inl (dA 0, 26, .inl (fun _ => 0))), (q2, .inl (dA 0, 273, .inl (fun _ => 0))), (q3, .inl (dA 0, 3003, .inl (fun _ => 0))), (q4, .inl (dA 1, 2, .inl (fun _ => 0))), (q5, .inl (dA 0, 600, .inl (fun _ => 0)))] := hD
  refine va_putF (D := (dC, dI)) (ci := 2) (v := .ref q5) (ty := .array .int) (C := RX2) (T := TX2) (N := 22) hx hb hts in_X2 tyX2 tyX2_ok nmX2 hown hK hP hD hS 0 rfl rfl 7 (by decide) (hts _ q1958) (fun _ h9 => h9) rfl hin rfl (by decide +kernel) rfl rfl (Nat.le_of_ble_eq_true rfl) dX2_init_43 (fun H locs hP hD hS => ?_)
  have hP : va_P (dC, dI) CL [(o, .inr (2, [.int 0, .int 0, .ref q1, .ref q2, .ref q3, .int 0, .ref q4, .ref q5, .int 0, .int 0, .int 0, .int 0, .int 0, .int 0, .int 0, .int 0, .int 0, .int 0, .null, .int 0, .null, .int 0])), (q1, .inl (dA 0, 26, .inl (fun _ => 0))), (q2, .inl (dA 0, 273, .inl (fun _ => 0))), (q3, .inl (dA 0, 3003, .inl (fun _ => 0))), (q4, .inl (dA 1, 2, .inl (fun _ => 0))), (q5, .inl (dA 0, 600, .inl (fun _ => 0)))] H := hP
  have hD : va_D A [(o, .inr (2, [.int 0, .int 0, .ref q1, .ref q2, .ref q3, .int 0, .ref q4, .ref q5, .int 0, .int 0, .int 0, .int 0, .int 0, .int 0, .int 0, .int 0, .int 0, .int 0, .null, .int 0, .null, .int 0])), (q1, .inl (dA 0, 26, .inl (fun _ => 0))), (q2, .inl (dA 0, 273, .inl (fun _ => 0))), (q3, .inl (dA 0, 3003, .inl (fun _ => 0))), (q4, .inl (dA 1, 2, .inl (fun _ => 0))), (q5, .inl (dA 0, 600, .inl (fun _ => 0)))] := hD
  refine lv_aload_n hx hb dX2_init_46 rfl (lv_at hl 0 rfl) ?_
  refine lv_iconst (v := (-1)) hx hb dX2_init_47 (by decide) ?_
  refine va_put (D := (dC, dI)) (ci := 2) (v := .int (-1)) (ty := .int) (C := RX2) (T := TX2) (N := 22) hx hb hts in_X2 tyX2 tyX2_ok nmX2 hown hK hP hD hS 0 rfl rfl 10 (by decide) (hts _ q1961) (fun _ h9 => h9) rfl (by decide +kernel) rfl rfl (Nat.le_of_ble_eq_true rfl) dX2_init_48 (fun H locs hP hD hS => ?_)
  have hP : va_P (dC, dI) CL [(o, .inr (2, [.int 0, .int 0, .ref q1, .ref q2, .ref q3, .int 0, .ref q4, .ref q5, .int 0, .int 0, .int (-1), .int 0, .int 0, .int 0, .int 0, .int 0, .int 0, .int 0, .null, .int 0, .null, .int 0])), (q1, .inl (dA 0, 26, .inl (fun _ => 0))), (q2, .inl (dA 0, 273, .inl (fun _ => 0))), (q3, .inl (dA 0, 3003, .inl (fun _ => 0))), (q4, .inl (dA 1, 2, .inl (fun _ => 0))), (q5, .inl (dA 0, 600, .inl (fun _ => 0)))] H := hP
  have hD : va_D A [(o, .inr (2, [.int 0, .int 0, .ref q1, .ref q2, .ref q3, .int 0, .ref q4, .ref q5, .int 0, .int 0, .int (-1), .int 0, .int 0, .int 0, .int 0, .int 0, .int 0, .int 0, .null, .int 0, .null, .int 0])), (q1, .inl (dA 0, 26, .inl (fun _ => 0))), (q2, .inl (dA 0, 273, .inl (fun _ => 0))), (q3, .inl (dA 0, 3003, .inl (fun _ => 0))), (q4, .inl (dA 1, 2, .inl (fun _ => 0))), (q5, .inl (dA 0, 600, .inl (fun _ => 0)))] := hD
  refine lv_aload_n hx hb dX2_init_51 rfl (lv_at hl 0 rfl) ?_
  refine lv_bipush (v := nI 26) hx hb dX2_init_52 (by decide) ?_
  refine va_newa (atype := .int) (ty := .int) (a0 := (26, .inl (fun _ => 0))) (N' := 26) hx hb (hts _ q252) rfl hK hP hD hS hA (fun cA => vp_cell_i cA _ _) (nI_pos (by decide)) (nI_clamp (by decide)) (Nat.le_of_ble_eq_true rfl) (Nat.le_of_ble_eq_true rfl) (Nat.le_of_ble_eq_true rfl) dX2_init_54 (fun q6 cA H hK9 hP hD hS => ?_)
  have e9 : cA = dA 0 := Option.some.inj ((hK9.2 8 _ rfl).2.symm.trans (hK.2 0 _ rfl).2)
  subst e9
  have hP : va_P (dC, dI) CL [(o, .inr (2, [.int 0, .int 0, .ref q1, .ref q2, .ref q3, .int 0, .ref q4, .ref q5, .int 0, .int 0, .int (-1), .int 0, .int 0, .int 0, .int 0, .int 0, .int 0, .int 0, .null, .int 0, .null, .int 0])), (q1, .inl (dA 0, 26, .inl (fun _ => 0))), (q2, .inl (dA 0, 273, .inl (fun _ => 0))), (q3, .inl (dA 0, 3003, .inl (fun _ => 0))), (q4, .inl (dA 1, 2, .inl (fun _ => 0))), (q5, .inl (dA 0, 600, .inl (fun _ => 0))), (q6, .inl (dA 0, 26, .inl (fun _ => 0)))] H := hP
  have hD : va_D A [(o, .inr (2, [.int 0, .int 0, .ref q1, .ref q2, .ref q3, .int 0, .ref q4, .ref q5, .int 0, .int 0, .int (-1), .int 0, .int 0, .int 0, .int 0, .int 0, .int 0, .int 0, .null, .int 0, .null, .int 0])), (q1, .inl (dA 0, 26, .inl (fun _ => 0))), (q2, .inl (dA 0, 273, .inl (fun _ => 0))), (q3, .inl (dA 0, 3003, .inl (fun _ => 0))), (q4, .inl (dA 1, 2, .inl (fun _ => 0))), (q5, .inl (dA 0, 600, .inl (fun _ => 0))), (q6, .inl (dA 0, 26, .inl (fun _ => 0)))] := hD
  refine va_putF (D := (dC, dI)) (ci := 2) (v := .ref q6) (ty := .array .int) (C := RX2) (T := TX2) (N := 22) hx hb hts in_X2 tyX2 tyX2_ok nmX2 hown hK hP hD hS 0 rfl rfl 18 (by decide) (hts _ q1969) (fun _ h9 => h9) rfl hin rfl (by decide +kernel) rfl rfl (Nat.le_of_ble_eq_true rfl) dX2_init_56 (fun H locs hP hD hS => ?_)
  have hP : va_P (dC, dI) CL [(o, .inr (2, [.int 0, .int 0, .ref q1, .ref q2, .ref q3, .int 0, .ref q4, .ref q5, .int 0, .int 0, .int (-1), .int 0, .int 0, .int 0, .int 0, .int 0, .int 0, .int 0, .ref q6, .int 0, .null, .int 0])), (q1, .inl (dA 0, 26, .inl (fun _ => 0))), (q2, .inl (dA 0, 273, .inl (fun _ => 0))), (q3, .inl (dA 0, 3003, .inl (fun _ => 0))), (q4, .inl (dA 1, 2, .inl (fun _ => 0))), (q5, .inl (dA 0, 600, .inl (fun _ => 0))), (q6, .inl (dA 0, 26, .inl (fun _ => 0)))] H := hP
  have hD : va_D A [(o, .inr (2, [.int 0, .int 0, .ref q1, .ref q2, .ref q3, .int 0, .ref q4, .ref q5, .int 0, .int 0, .int (-1), .int 0, .int 0, .int 0, .int 0, .int 0, .int 0, .int 0, .ref q6, .int 0, .null, .int 0])), (q1, .inl (dA 0, 26, .inl (fun _ => 0))), (q2, .inl (dA 0, 273, .inl (fun _ => 0))), (q3, .inl (dA 0, 3003, .inl (fun _ => 0))), (q4, .inl (dA 1, 2, .inl (fun _ => 0))), (q5, .inl (dA 0, 600, .inl (fun _ => 0))), (q6, .inl (dA 0, 26, .inl (fun _ => 0)))] := hD
  refine lv_aload_n hx hb dX2_init_59 rfl (lv_at hl 0 rfl) ?_
  refine lv_sipush (v := nI 400) hx hb dX2_init_60 (by decide) ?_
  refine va_newa (atype := .int) (ty := .int) (a0 := (400, .inl (fun _ => 0))) (N' := 400) hx hb (hts _ q252) rfl hK hP hD hS hA (fun cA => vp_cell_i cA _ _) (nI_pos (by decide)) (nI_clamp (by decide)) (Nat.le_of_ble_eq_true rfl) (Nat.le_of_ble_eq_true rfl) (Nat.le_of_ble_eq_true rfl) dX2_init_63 (fun q7 cA H hK9 hP hD hS => ?_)
  have e9 : cA = dA 0 := Option.some.inj ((hK9.2 8 _ rfl).2.symm.trans (hK.2 0 _ rfl).2)
  subst e9
  have hP : va_P (dC, dI) CL [(o, .inr (2, [.int 0, .int 0, .ref q1, .ref q2, .ref q3, .int 0, .ref q4, .ref q5, .int 0, .int 0, .int (-1), .int 0, .int 0, .int 0, .int 0, .int 0, .int 0, .int 0, .ref q6, .int 0, .null, .int 0])), (q1, .inl (dA 0, 26, .inl (fun _ => 0))), (q2, .inl (dA 0, 273, .inl (fun _ => 0))), (q3, .inl (dA 0, 3003, .inl (fun _ => 0))), (q4, .inl (dA 1, 2, .inl (fun _ => 0))), (q5, .inl (dA 0, 600, .inl (fun _ => 0))), (q6, .inl (dA 0, 26, .inl (fun _ => 0))), (q7, .inl (dA 0, 400, .inl (fun _ => 0)))] H := hP
  have hD : va_D A [(o, .inr (2, [.int 0, .int 0, .ref q1, .ref q2, .ref q3, .int 0, .ref q4, .ref q5, .int 0, .int 0, .int (-1), .int 0, .int 0, .int 0, .int 0, .int 0, .int 0, .int 0, .ref q6, .int 0, .null, .int 0])), (q1, .inl (dA 0, 26, .inl (fun _ => 0))), (q2, .inl (dA 0, 273, .inl (fun _ => 0))), (q3, .inl (dA 0, 3003, .inl (fun _ => 0))), (q4, .inl (dA 1, 2, .inl (fun _ => 0))), (q5, .inl (dA 0, 600, .inl (fun _ => 0))), (q6, .inl (dA 0, 26, .inl (fun _ => 0))), (q7, .inl (dA 0, 400, .inl (fun _ => 0)))] := hD
  refine va_putF (D := (dC, dI)) (ci := 2) (v := .ref q7) (ty := .array .int) (C := RX2) (T := TX2) (N := 22) hx hb hts in_X2 tyX2 tyX2_ok nmX2 hown hK hP hD hS 0 rfl rfl 20 (by decide) (hts _ q1971) (fun _ h9 => h9) rfl hin rfl (by decide +kernel) rfl rfl (Nat.le_of_ble_eq_true rfl) dX2_init_65 (fun H locs hP hD hS => ?_)
  have hP : va_P (dC, dI) CL [(o, .inr (2, [.int 0, .int 0, .ref q1, .ref q2, .ref q3, .int 0, .ref q4, .ref q5, .int 0, .int 0, .int (-1), .int 0, .int 0, .int 0, .int 0, .int 0, .int 0, .int 0, .ref q6, .int 0, .ref q7, .int 0])), (q1, .inl (dA 0, 26, .inl (fun _ => 0))), (q2, .inl (dA 0, 273, .inl (fun _ => 0))), (q3, .inl (dA 0, 3003, .inl (fun _ => 0))), (q4, .inl (dA 1, 2, .inl (fun _ => 0))), (q5, .inl (dA 0, 600, .inl (fun _ => 0))), (q6, .inl (dA 0, 26, .inl (fun _ => 0))), (q7, .inl (dA 0, 400, .inl (fun _ => 0)))] H := hP
  have hD : va_D A [(o, .inr (2, [.int 0, .int 0, .ref q1, .ref q2, .ref q3, .int 0, .ref q4, .ref q5, .int 0, .int 0, .int (-1), .int 0, .int 0, .int 0, .int 0, .int 0, .int 0, .int 0, .ref q6, .int 0, .ref q7, .int 0])), (q1, .inl (dA 0, 26, .inl (fun _ => 0))), (q2, .inl (dA 0, 273, .inl (fun _ => 0))), (q3, .inl (dA 0, 3003, .inl (fun _ => 0))), (q4, .inl (dA 1, 2, .inl (fun _ => 0))), (q5, .inl (dA 0, 600, .inl (fun _ => 0))), (q6, .inl (dA 0, 26, .inl (fun _ => 0))), (q7, .inl (dA 0, 400, .inl (fun _ => 0)))] := hD
  have hge : ∀ (k q : Nat) (x : va_E), 0 < k → ([(o, .inr (2, [.int 0, .int 0, .ref q1, .ref q2, .ref q3, .int 0, .ref q4, .ref q5, .int 0, .int 0, .int (-1), .int 0, .int 0, .int 0, .int 0, .int 0, .int 0, .int 0, .ref q6, .int 0, .ref q7, .int 0])), (q1, .inl (dA 0, 26, .inl (fun _ => 0))), (q2, .inl (dA 0, 273, .inl (fun _ => 0))), (q3, .inl (dA 0, 3003, .inl (fun _ => 0))), (q4, .inl (dA 1, 2, .inl (fun _ => 0))), (q5, .inl (dA 0, 600, .inl (fun _ => 0))), (q6, .inl (dA 0, 26, .inl (fun _ => 0))), (q7, .inl (dA 0, 400, .inl (fun _ => 0)))] : va_W)[k]? = some (q, x) → s.heap.size ≤ q := fun k q x hk hx9 => by
    have h1 := hD.2 k _ hx9
    rw [hAe] at h1
    rcases h1 with h1 | h1
    · exact absurd (hD.1 k 0 _ _ hx9 rfl h1) (by omega)
    · exact h1
  have hJ : mJ (adA o q1 q2 q3 q4 q5 q6 q7) := by
    intro i j hi hj hij
    have g : ∀ k, k < 8 → ∃ x : va_E, ([(o, .inr (2, [.int 0, .int 0, .ref q1, .ref q2, .ref q3, .int 0, .ref q4, .ref q5, .int 0, .int 0, .int (-1), .int 0, .int 0, .int 0, .int 0, .int 0, .int 0, .int 0, .ref q6, .int 0, .ref q7, .int 0])), (q1, .inl (dA 0, 26, .inl (fun _ => 0))), (q2, .inl (dA 0, 273, .inl (fun _ => 0))), (q3, .inl (dA 0, 3003, .inl (fun _ => 0))), (q4, .inl (dA 1, 2, .inl (fun _ => 0))), (q5, .inl (dA 0, 600, .inl (fun _ => 0))), (q6, .inl (dA 0, 26, .inl (fun _ => 0))), (q7, .inl (dA 0, 400, .inl (fun _ => 0)))] : va_W)[k]? = some (adA o q1 q2 q3 q4 q5 q6 q7 k, x) := by
      intro k hk
      match k, hk with
      | 0, _ => exact ⟨_, rfl⟩
      | 1, _ => exact ⟨_, rfl⟩
      | 2, _ => exact ⟨_, rfl⟩
      | 3, _ => exact ⟨_, rfl⟩
      | 4, _ => exact ⟨_, rfl⟩
      | 5, _ => exact ⟨_, rfl⟩
      | 6, _ => exact ⟨_, rfl⟩
      | 7, _ => exact ⟨_, rfl⟩
    obtain ⟨x, hx1⟩ := g i hi
    obtain ⟨y, hy1⟩ := g j hj
    exact hD.1 i j _ _ hx1 hy1 hij
  refine W.vret hx hb hr (fun t ht hW => ⟨rfl, adA o q1 q2 q3 q4 q5 q6 q7, rfl, hJ, fun k h0 h8 => ?_, by rw [ht]; exact hP, by rw [ht]; exact hS.1, fun q h1 h2 => by rw [ht]; exact hS.2.1 q h1 (by rw [hAe]; omega)⟩) hS.2.2 dX2_init_68
  match k, h0, h8 with
  | 1, _, _ => exact hge 1 _ _ (by decide) rfl
  | 2, _, _ => exact hge 2 _ _ (by decide) rfl
  | 3, _, _ => exact hge 3 _ _ (by decide) rfl
  | 4, _, _ => exact hge 4 _ _ (by decide) rfl
  | 5, _, _ => exact hge 5 _ _ (by decide) rfl
  | 6, _, _ => exact hge 6 _ _ (by decide) rfl
  | 7, _, _ => exact hge 7 _ _ (by decide) rfl
end TW20
