set_option maxRecDepth 100000
section CL1
variable {p : Program} {l : Launch} {e : Env} {R : Room} {s : State} {m : MethodId} {args : Array Value} {below : List Frame} {meth : Method} {c : Code} {H : Heap} {locs : List Loc} {Q : State → Prop}
variable {cc : ByteArray} {pc nL : Nat} {ls : Array Slot} {rest : List Value} {dC : Nat → ClassId} {dI : Nat → Nat → Nat} {dA : Nat → ClassId} {a : Nat → Nat} {M : Nat → Nat → Int32} {H0 : Heap}

set_option maxHeartbeats 4000000 in
theorem c_X1_one (l : Launch) (dC : Nat → ClassId) (dI : Nat → Nat → Nat) (dA : Nat → ClassId) (z : Bool)  : Met l yX1_one (ws_ yX1_one cX1_one 1 (some .int)) (rmD 0 0 0) (uPc [.int (nI z.toNat)] (fun _ => True) dC dI dA) (uQi (nI (z.toNat))) 0 0 noF := by
  refine u_meti (own := RX1) (by decide) rfl (Nat.le_of_ble_eq_true rfl) fun p e R s m args below meth c Q SF rk hP hK hret ls hl => ?_
  have hx := SF.1
  have hb := SF.2.1
  have hml := SF.2.2.1
  have hown := SF.2.2.2.1
  have hts := SF.2.2.2.2
  have hl : lv_has ls 1 [(0, .int (nI z.toNat))] := hl
  refine lv_iload_n hx hb dX1_one_0 rfl (lv_at hl 0 rfl) ?_
  refine lv_if_eq (tgt := 8) hx hb dX1_one_1 (by decide) (fun c_1 => ?_) (fun c_1 => ?_)
  · have c_1 : z = false := u_zb.mp c_1
    refine lv_iconst (v := nI 0) hx hb dX1_one_8 (by decide) ?_
    exact hret _ _ _ (u_ff (by simp [c_1])) dX1_one_9
  · have c_1 : ¬ (z = false) := fun q9 => c_1 (u_zb.mpr q9)
    refine lv_iconst (v := nI 1) hx hb dX1_one_4 (by decide) ?_
    refine lv_goto (tgt := 9) hx hb dX1_one_5 (by decide) ?_
    exact hret _ _ _ (u_tt (by simpa using c_1)) dX1_one_9
end CL1
