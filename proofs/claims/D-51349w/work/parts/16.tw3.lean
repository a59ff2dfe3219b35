set_option maxRecDepth 100000
section TW
variable {p : Program} {l : Launch} {e : Env} {R : Room} {s : State} {m : MethodId} {args : Array Value} {below : List Frame} {meth : Method} {c : Code} {H : Heap} {locs : List Loc} {Q : State → Prop}
variable {cc : ByteArray} {pc nL : Nat} {ls : Array Slot} {rest : List Value} {dC : Nat → ClassId} {dI : Nat → Nat → Nat} {dA : Nat → ClassId} {a : Nat → Nat} {M : Nat → Nat → Int32} {H0 : Heap}

theorem m_pf_errorPosition {v : Int32} (SF : CallFix p m c cc nL s args lw_all RX2) (hK : KK dC dI dA s) (hJ : mJ a) (hP : mP dC dI dA a M H) (hS : uS (mA a) H0 H locs) (hdg : decode cc pc = .ok (.putfield 26, 3)) (kk : ∀ (H1 : Heap) (locs1 : List Loc), mP dC dI dA a (mrow M 0 (upd (M 0) 10 (v))) H1 → uS (mA a) H0 H1 locs1 → W p l e R s m args below meth c H1 locs1 0 0 Q (F0 m (pc + 3) ls rest)) : W p l e R s m args below meth c H locs 0 0 Q (F0 m pc ls (.int (v) :: .ref (a 0) :: rest)) :=
  u_put (D := (dC, dI)) (ci := 2) (v := .int (v)) (ty := .int) (C := RX2) (T := TX2) (N := 22) SF.1 SF.2.1 SF.2.2.2.2 in_X2 tyX2 tyX2_ok nmX2 SF.2.2.2.1 hK hP (m_D hJ) hS 0 rfl rfl 10 (by decide) (SF.2.2.2.2 _ q1961) (fun _ h9 => h9) rfl (by decide +kernel) rfl rfl (Nat.le_of_ble_eq_true rfl) hdg (fun H1 locs1 h1 h2 _ => kk H1 locs1 h1 h2)
theorem m_pf_thrown {v : Int32} (SF : CallFix p m c cc nL s args lw_all RX2) (hK : KK dC dI dA s) (hJ : mJ a) (hP : mP dC dI dA a M H) (hS : uS (mA a) H0 H locs) (hdg : decode cc pc = .ok (.putfield 36, 3)) (kk : ∀ (H1 : Heap) (locs1 : List Loc), mP dC dI dA a (mrow M 0 (upd (M 0) 0 (v))) H1 → uS (mA a) H0 H1 locs1 → W p l e R s m args below meth c H1 locs1 0 0 Q (F0 m (pc + 3) ls rest)) : W p l e R s m args below meth c H locs 0 0 Q (F0 m pc ls (.int (v) :: .ref (a 0) :: rest)) :=
  u_put (D := (dC, dI)) (ci := 2) (v := .int (v)) (ty := .int) (C := RX2) (T := TX2) (N := 22) SF.1 SF.2.1 SF.2.2.2.2 in_X2 tyX2 tyX2_ok nmX2 SF.2.2.2.1 hK hP (m_D hJ) hS 0 rfl rfl 0 (by decide) (SF.2.2.2.2 _ q1951) (fun _ h9 => h9) rfl (by decide +kernel) rfl rfl (Nat.le_of_ble_eq_true rfl) hdg (fun H1 locs1 h1 h2 _ => kk H1 locs1 h1 h2)
theorem m_pf_isLoaded {b9 : Bool} (SF : CallFix p m c cc nL s args lw_all RX2) (hK : KK dC dI dA s) (hJ : mJ a) (hP : mP dC dI dA a M H) (hS : uS (mA a) H0 H locs) (hdg : decode cc pc = .ok (.putfield 39, 3)) (kk : ∀ (H1 : Heap) (locs1 : List Loc), mP dC dI dA a (mrow M 0 (upd (M 0) 1 (nI b9.toNat))) H1 → uS (mA a) H0 H1 locs1 → W p l e R s m args below meth c H1 locs1 0 0 Q (F0 m (pc + 3) ls rest)) : W p l e R s m args below meth c H locs 0 0 Q (F0 m pc ls (.int (nI b9.toNat) :: .ref (a 0) :: rest)) :=
  u_put (D := (dC, dI)) (ci := 2) (v := .int (nI b9.toNat)) (ty := .boolean) (C := RX2) (T := TX2) (N := 22) SF.1 SF.2.1 SF.2.2.2.2 in_X2 tyX2 tyX2_ok nmX2 SF.2.2.2.1 hK hP (m_D hJ) hS 0 rfl rfl 1 (by decide) (SF.2.2.2.2 _ q1952) (fun _ h9 => h9) rfl (by decide +kernel) (by cases b9 <;> rfl) (by cases b9 <;> rfl) (Nat.le_of_ble_eq_true rfl) hdg (fun H1 locs1 h1 h2 _ => kk H1 locs1 h1 h2)
theorem m_pf_buffered {v : Int32} (SF : CallFix p m c cc nL s args lw_all RX2) (hK : KK dC dI dA s) (hJ : mJ a) (hP : mP dC dI dA a M H) (hS : uS (mA a) H0 H locs) (hdg : decode cc pc = .ok (.putfield 140, 3)) (kk : ∀ (H1 : Heap) (locs1 : List Loc), mP dC dI dA a (mrow M 0 (upd (M 0) 8 (v))) H1 → uS (mA a) H0 H1 locs1 → W p l e R s m args below meth c H1 locs1 0 0 Q (F0 m (pc + 3) ls rest)) : W p l e R s m args below meth c H locs 0 0 Q (F0 m pc ls (.int (v) :: .ref (a 0) :: rest)) :=
  u_put (D := (dC, dI)) (ci := 2) (v := .int (v)) (ty := .int) (C := RX2) (T := TX2) (N := 22) SF.1 SF.2.1 SF.2.2.2.2 in_X2 tyX2 tyX2_ok nmX2 SF.2.2.2.1 hK hP (m_D hJ) hS 0 rfl rfl 8 (by decide) (SF.2.2.2.2 _ q1959) (fun _ h9 => h9) rfl (by decide +kernel) rfl rfl (Nat.le_of_ble_eq_true rfl) hdg (fun H1 locs1 h1 h2 _ => kk H1 locs1 h1 h2)
theorem m_pf_parseError {v : Int32} (SF : CallFix p m c cc nL s args lw_all RX2) (hK : KK dC dI dA s) (hJ : mJ a) (hP : mP dC dI dA a M H) (hS : uS (mA a) H0 H locs) (hdg : decode cc pc = .ok (.putfield 143, 3)) (kk : ∀ (H1 : Heap) (locs1 : List Loc), mP dC dI dA a (mrow M 0 (upd (M 0) 9 (v))) H1 → uS (mA a) H0 H1 locs1 → W p l e R s m args below meth c H1 locs1 0 0 Q (F0 m (pc + 3) ls rest)) : W p l e R s m args below meth c H locs 0 0 Q (F0 m pc ls (.int (v) :: .ref (a 0) :: rest)) :=
  u_put (D := (dC, dI)) (ci := 2) (v := .int (v)) (ty := .int) (C := RX2) (T := TX2) (N := 22) SF.1 SF.2.1 SF.2.2.2.2 in_X2 tyX2 tyX2_ok nmX2 SF.2.2.2.1 hK hP (m_D hJ) hS 0 rfl rfl 9 (by decide) (SF.2.2.2.2 _ q1960) (fun _ h9 => h9) rfl (by decide +kernel) rfl rfl (Nat.le_of_ble_eq_true rfl) hdg (fun H1 locs1 h1 h2 _ => kk H1 locs1 h1 h2)
theorem m_pf_length {v : Int32} (SF : CallFix p m c cc nL s args lw_all RX2) (hK : KK dC dI dA s) (hJ : mJ a) (hP : mP dC dI dA a M H) (hS : uS (mA a) H0 H locs) (hdg : decode cc pc = .ok (.putfield 146, 3)) (kk : ∀ (H1 : Heap) (locs1 : List Loc), mP dC dI dA a (mrow M 0 (upd (M 0) 11 (v))) H1 → uS (mA a) H0 H1 locs1 → W p l e R s m args below meth c H1 locs1 0 0 Q (F0 m (pc + 3) ls rest)) : W p l e R s m args below meth c H locs 0 0 Q (F0 m pc ls (.int (v) :: .ref (a 0) :: rest)) :=
  u_put (D := (dC, dI)) (ci := 2) (v := .int (v)) (ty := .int) (C := RX2) (T := TX2) (N := 22) SF.1 SF.2.1 SF.2.2.2.2 in_X2 tyX2 tyX2_ok nmX2 SF.2.2.2.1 hK hP (m_D hJ) hS 0 rfl rfl 11 (by decide) (SF.2.2.2.2 _ q1962) (fun _ h9 => h9) rfl (by decide +kernel) rfl rfl (Nat.le_of_ble_eq_true rfl) hdg (fun H1 locs1 h1 h2 _ => kk H1 locs1 h1 h2)
theorem m_pf_next {v : Int32} (SF : CallFix p m c cc nL s args lw_all RX2) (hK : KK dC dI dA s) (hJ : mJ a) (hP : mP dC dI dA a M H) (hS : uS (mA a) H0 H locs) (hdg : decode cc pc = .ok (.putfield 153, 3)) (kk : ∀ (H1 : Heap) (locs1 : List Loc), mP dC dI dA a (mrow M 0 (upd (M 0) 12 (v))) H1 → uS (mA a) H0 H1 locs1 → W p l e R s m args below meth c H1 locs1 0 0 Q (F0 m (pc + 3) ls rest)) : W p l e R s m args below meth c H locs 0 0 Q (F0 m pc ls (.int (v) :: .ref (a 0) :: rest)) :=
  u_put (D := (dC, dI)) (ci := 2) (v := .int (v)) (ty := .int) (C := RX2) (T := TX2) (N := 22) SF.1 SF.2.1 SF.2.2.2.2 in_X2 tyX2 tyX2_ok nmX2 SF.2.2.2.1 hK hP (m_D hJ) hS 0 rfl rfl 12 (by decide) (SF.2.2.2.2 _ q1963) (fun _ h9 => h9) rfl (by decide +kernel) rfl rfl (Nat.le_of_ble_eq_true rfl) hdg (fun H1 locs1 h1 h2 _ => kk H1 locs1 h1 h2)
theorem m_pf_from {v : Int32} (SF : CallFix p m c cc nL s args lw_all RX2) (hK : KK dC dI dA s) (hJ : mJ a) (hP : mP dC dI dA a M H) (hS : uS (mA a) H0 H locs) (hdg : decode cc pc = .ok (.putfield 159, 3)) (kk : ∀ (H1 : Heap) (locs1 : List Loc), mP dC dI dA a (mrow M 0 (upd (M 0) 13 (v))) H1 → uS (mA a) H0 H1 locs1 → W p l e R s m args below meth c H1 locs1 0 0 Q (F0 m (pc + 3) ls rest)) : W p l e R s m args below meth c H locs 0 0 Q (F0 m pc ls (.int (v) :: .ref (a 0) :: rest)) :=
  u_put (D := (dC, dI)) (ci := 2) (v := .int (v)) (ty := .int) (C := RX2) (T := TX2) (N := 22) SF.1 SF.2.1 SF.2.2.2.2 in_X2 tyX2 tyX2_ok nmX2 SF.2.2.2.1 hK hP (m_D hJ) hS 0 rfl rfl 13 (by decide) (SF.2.2.2.2 _ q1964) (fun _ h9 => h9) rfl (by decide +kernel) rfl rfl (Nat.le_of_ble_eq_true rfl) hdg (fun H1 locs1 h1 h2 _ => kk H1 locs1 h1 h2)
theorem m_pf_sort {v : Int32} (SF : CallFix p m c cc nL s args lw_all RX2) (hK : KK dC dI dA s) (hJ : mJ a) (hP : mP dC dI dA a M H) (hS : uS (mA a) H0 H locs) (hdg : decode cc pc = .ok (.putfield 162, 3)) (kk : ∀ (H1 : Heap) (locs1 : List Loc), mP dC dI dA a (mrow M 0 (upd (M 0) 14 (v))) H1 → uS (mA a) H0 H1 locs1 → W p l e R s m args below meth c H1 locs1 0 0 Q (F0 m (pc + 3) ls rest)) : W p l e R s m args below meth c H locs 0 0 Q (F0 m pc ls (.int (v) :: .ref (a 0) :: rest)) :=
  u_put (D := (dC, dI)) (ci := 2) (v := .int (v)) (ty := .int) (C := RX2) (T := TX2) (N := 22) SF.1 SF.2.1 SF.2.2.2.2 in_X2 tyX2 tyX2_ok nmX2 SF.2.2.2.1 hK hP (m_D hJ) hS 0 rfl rfl 14 (by decide) (SF.2.2.2.2 _ q1965) (fun _ h9 => h9) rfl (by decide +kernel) rfl rfl (Nat.le_of_ble_eq_true rfl) hdg (fun H1 locs1 h1 h2 _ => kk H1 locs1 h1 h2)
theorem m_pf_number {v : Int32} (SF : CallFix p m c cc nL s args lw_all RX2) (hK : KK dC dI dA s) (hJ : mJ a) (hP : mP dC dI dA a M H) (hS : uS (mA a) H0 H locs) (hdg : decode cc pc = .ok (.putfield 171, 3)) (kk : ∀ (H1 : Heap) (locs1 : List Loc), mP dC dI dA a (mrow M 0 (upd (M 0) 15 (v))) H1 → uS (mA a) H0 H1 locs1 → W p l e R s m args below meth c H1 locs1 0 0 Q (F0 m (pc + 3) ls rest)) : W p l e R s m args below meth c H locs 0 0 Q (F0 m pc ls (.int (v) :: .ref (a 0) :: rest)) :=
  u_put (D := (dC, dI)) (ci := 2) (v := .int (v)) (ty := .int) (C := RX2) (T := TX2) (N := 22) SF.1 SF.2.1 SF.2.2.2.2 in_X2 tyX2 tyX2_ok nmX2 SF.2.2.2.1 hK hP (m_D hJ) hS 0 rfl rfl 15 (by decide) (SF.2.2.2.2 _ q1966) (fun _ h9 => h9) rfl (by decide +kernel) rfl rfl (Nat.le_of_ble_eq_true rfl) hdg (fun H1 locs1 h1 h2 _ => kk H1 locs1 h1 h2)
theorem m_pf_bad {v : Int32} (SF : CallFix p m c cc nL s args lw_all RX2) (hK : KK dC dI dA s) (hJ : mJ a) (hP : mP dC dI dA a M H) (hS : uS (mA a) H0 H locs) (hdg : decode cc pc = .ok (.putfield 174, 3)) (kk : ∀ (H1 : Heap) (locs1 : List Loc), mP dC dI dA a (mrow M 0 (upd (M 0) 16 (v))) H1 → uS (mA a) H0 H1 locs1 → W p l e R s m args below meth c H1 locs1 0 0 Q (F0 m (pc + 3) ls rest)) : W p l e R s m args below meth c H locs 0 0 Q (F0 m pc ls (.int (v) :: .ref (a 0) :: rest)) :=
  u_put (D := (dC, dI)) (ci := 2) (v := .int (v)) (ty := .int) (C := RX2) (T := TX2) (N := 22) SF.1 SF.2.1 SF.2.2.2.2 in_X2 tyX2 tyX2_ok nmX2 SF.2.2.2.1 hK hP (m_D hJ) hS 0 rfl rfl 16 (by decide) (SF.2.2.2.2 _ q1967) (fun _ h9 => h9) rfl (by decide +kernel) rfl rfl (Nat.le_of_ble_eq_true rfl) hdg (fun H1 locs1 h1 h2 _ => kk H1 locs1 h1 h2)
theorem m_pf_badAt {v : Int32} (SF : CallFix p m c cc nL s args lw_all RX2) (hK : KK dC dI dA s) (hJ : mJ a) (hP : mP dC dI dA a M H) (hS : uS (mA a) H0 H locs) (hdg : decode cc pc = .ok (.putfield 177, 3)) (kk : ∀ (H1 : Heap) (locs1 : List Loc), mP dC dI dA a (mrow M 0 (upd (M 0) 17 (v))) H1 → uS (mA a) H0 H1 locs1 → W p l e R s m args below meth c H1 locs1 0 0 Q (F0 m (pc + 3) ls rest)) : W p l e R s m args below meth c H locs 0 0 Q (F0 m pc ls (.int (v) :: .ref (a 0) :: rest)) :=
  u_put (D := (dC, dI)) (ci := 2) (v := .int (v)) (ty := .int) (C := RX2) (T := TX2) (N := 22) SF.1 SF.2.1 SF.2.2.2.2 in_X2 tyX2 tyX2_ok nmX2 SF.2.2.2.1 hK hP (m_D hJ) hS 0 rfl rfl 17 (by decide) (SF.2.2.2.2 _ q1968) (fun _ h9 => h9) rfl (by decide +kernel) rfl rfl (Nat.le_of_ble_eq_true rfl) hdg (fun H1 locs1 h1 h2 _ => kk H1 locs1 h1 h2)
theorem m_pf_wasSorted {b9 : Bool} (SF : CallFix p m c cc nL s args lw_all RX2) (hK : KK dC dI dA s) (hJ : mJ a) (hP : mP dC dI dA a M H) (hS : uS (mA a) H0 H locs) (hdg : decode cc pc = .ok (.putfield 205, 3)) (kk : ∀ (H1 : Heap) (locs1 : List Loc), mP dC dI dA a (mrow M 0 (upd (M 0) 19 (nI b9.toNat))) H1 → uS (mA a) H0 H1 locs1 → W p l e R s m args below meth c H1 locs1 0 0 Q (F0 m (pc + 3) ls rest)) : W p l e R s m args below meth c H locs 0 0 Q (F0 m pc ls (.int (nI b9.toNat) :: .ref (a 0) :: rest)) :=
  u_put (D := (dC, dI)) (ci := 2) (v := .int (nI b9.toNat)) (ty := .boolean) (C := RX2) (T := TX2) (N := 22) SF.1 SF.2.1 SF.2.2.2.2 in_X2 tyX2 tyX2_ok nmX2 SF.2.2.2.1 hK hP (m_D hJ) hS 0 rfl rfl 19 (by decide) (SF.2.2.2.2 _ q1970) (fun _ h9 => h9) rfl (by decide +kernel) (by cases b9 <;> rfl) (by cases b9 <;> rfl) (Nat.le_of_ble_eq_true rfl) hdg (fun H1 locs1 h1 h2 _ => kk H1 locs1 h1 h2)
theorem m_pf_changes {v : Int32} (SF : CallFix p m c cc nL s args lw_all RX2) (hK : KK dC dI dA s) (hJ : mJ a) (hP : mP dC dI dA a M H) (hS : uS (mA a) H0 H locs) (hdg : decode cc pc = .ok (.putfield 257, 3)) (kk : ∀ (H1 : Heap) (locs1 : List Loc), mP dC dI dA a (mrow M 0 (upd (M 0) 5 (v))) H1 → uS (mA a) H0 H1 locs1 → W p l e R s m args below meth c H1 locs1 0 0 Q (F0 m (pc + 3) ls rest)) : W p l e R s m args below meth c H locs 0 0 Q (F0 m pc ls (.int (v) :: .ref (a 0) :: rest)) :=
  u_put (D := (dC, dI)) (ci := 2) (v := .int (v)) (ty := .int) (C := RX2) (T := TX2) (N := 22) SF.1 SF.2.1 SF.2.2.2.2 in_X2 tyX2 tyX2_ok nmX2 SF.2.2.2.1 hK hP (m_D hJ) hS 0 rfl rfl 5 (by decide) (SF.2.2.2.2 _ q1956) (fun _ h9 => h9) rfl (by decide +kernel) rfl rfl (Nat.le_of_ble_eq_true rfl) hdg (fun H1 locs1 h1 h2 _ => kk H1 locs1 h1 h2)
theorem m_pf_textLong {v : Int32} (SF : CallFix p m c cc nL s args lw_all RX2) (hK : KK dC dI dA s) (hJ : mJ a) (hP : mP dC dI dA a M H) (hS : uS (mA a) H0 H locs) (hdg : decode cc pc = .ok (.putfield 360, 3)) (kk : ∀ (H1 : Heap) (locs1 : List Loc), mP dC dI dA a (mrow M 0 (upd (M 0) 21 (v))) H1 → uS (mA a) H0 H1 locs1 → W p l e R s m args below meth c H1 locs1 0 0 Q (F0 m (pc + 3) ls rest)) : W p l e R s m args below meth c H locs 0 0 Q (F0 m pc ls (.int (v) :: .ref (a 0) :: rest)) :=
  u_put (D := (dC, dI)) (ci := 2) (v := .int (v)) (ty := .int) (C := RX2) (T := TX2) (N := 22) SF.1 SF.2.1 SF.2.2.2.2 in_X2 tyX2 tyX2_ok nmX2 SF.2.2.2.1 hK hP (m_D hJ) hS 0 rfl rfl 21 (by decide) (SF.2.2.2.2 _ q1972) (fun _ h9 => h9) rfl (by decide +kernel) rfl rfl (Nat.le_of_ble_eq_true rfl) hdg (fun H1 locs1 h1 h2 _ => kk H1 locs1 h1 h2)
theorem m_as1 {v : Int32} (SF : CallFix p m c cc nL s args lw_all RX2) (hK : KK dC dI dA s) (hJ : mJ a) (hP : mP dC dI dA a M H) (hS : uS (mA a) H0 H locs) {i : Nat} (hi : i < 26) (hdg : decode cc pc = .ok (.iastore, 1)) (kk : ∀ (H1 : Heap) (locs1 : List Loc), mP dC dI dA a (mrow M 1 (upd (M 1) i v)) H1 → uS (mA a) H0 H1 locs1 → W p l e R s m args below meth c H1 locs1 0 0 Q (F0 m (pc + 1) ls rest)) : W p l e R s m args below meth c H locs 0 0 Q (F0 m pc ls (.int v :: .int (nI i) :: .ref (a 1) :: rest)) :=
  u_iast SF.1 SF.2.1 hK hP (m_D hJ) hS 1 0 rfl rfl hi (by decide) hdg (fun H1 locs1 h1 h2 _ => kk H1 locs1 h1 h2)
theorem m_as2 {v : Int32} (SF : CallFix p m c cc nL s args lw_all RX2) (hK : KK dC dI dA s) (hJ : mJ a) (hP : mP dC dI dA a M H) (hS : uS (mA a) H0 H locs) {i : Nat} (hi : i < 273) (hdg : decode cc pc = .ok (.iastore, 1)) (kk : ∀ (H1 : Heap) (locs1 : List Loc), mP dC dI dA a (mrow M 2 (upd (M 2) i v)) H1 → uS (mA a) H0 H1 locs1 → W p l e R s m args below meth c H1 locs1 0 0 Q (F0 m (pc + 1) ls rest)) : W p l e R s m args below meth c H locs 0 0 Q (F0 m pc ls (.int v :: .int (nI i) :: .ref (a 2) :: rest)) :=
  u_iast SF.1 SF.2.1 hK hP (m_D hJ) hS 2 0 rfl rfl hi (by decide) hdg (fun H1 locs1 h1 h2 _ => kk H1 locs1 h1 h2)
theorem m_as3 {v : Int32} (SF : CallFix p m c cc nL s args lw_all RX2) (hK : KK dC dI dA s) (hJ : mJ a) (hP : mP dC dI dA a M H) (hS : uS (mA a) H0 H locs) {i : Nat} (hi : i < 3003) (hdg : decode cc pc = .ok (.iastore, 1)) (kk : ∀ (H1 : Heap) (locs1 : List Loc), mP dC dI dA a (mrow M 3 (upd (M 3) i v)) H1 → uS (mA a) H0 H1 locs1 → W p l e R s m args below meth c H1 locs1 0 0 Q (F0 m (pc + 1) ls rest)) : W p l e R s m args below meth c H locs 0 0 Q (F0 m pc ls (.int v :: .int (nI i) :: .ref (a 3) :: rest)) :=
  u_iast SF.1 SF.2.1 hK hP (m_D hJ) hS 3 0 rfl rfl hi (by decide) hdg (fun H1 locs1 h1 h2 _ => kk H1 locs1 h1 h2)
theorem m_as5 {v : Int32} (SF : CallFix p m c cc nL s args lw_all RX2) (hK : KK dC dI dA s) (hJ : mJ a) (hP : mP dC dI dA a M H) (hS : uS (mA a) H0 H locs) {i : Nat} (hi : i < 600) (hdg : decode cc pc = .ok (.iastore, 1)) (kk : ∀ (H1 : Heap) (locs1 : List Loc), mP dC dI dA a (mrow M 5 (upd (M 5) i v)) H1 → uS (mA a) H0 H1 locs1 → W p l e R s m args below meth c H1 locs1 0 0 Q (F0 m (pc + 1) ls rest)) : W p l e R s m args below meth c H locs 0 0 Q (F0 m pc ls (.int v :: .int (nI i) :: .ref (a 5) :: rest)) :=
  u_iast SF.1 SF.2.1 hK hP (m_D hJ) hS 5 0 rfl rfl hi (by decide) hdg (fun H1 locs1 h1 h2 _ => kk H1 locs1 h1 h2)
theorem m_as6 {v : Int32} (SF : CallFix p m c cc nL s args lw_all RX2) (hK : KK dC dI dA s) (hJ : mJ a) (hP : mP dC dI dA a M H) (hS : uS (mA a) H0 H locs) {i : Nat} (hi : i < 26) (hdg : decode cc pc = .ok (.iastore, 1)) (kk : ∀ (H1 : Heap) (locs1 : List Loc), mP dC dI dA a (mrow M 6 (upd (M 6) i v)) H1 → uS (mA a) H0 H1 locs1 → W p l e R s m args below meth c H1 locs1 0 0 Q (F0 m (pc + 1) ls rest)) : W p l e R s m args below meth c H locs 0 0 Q (F0 m pc ls (.int v :: .int (nI i) :: .ref (a 6) :: rest)) :=
  u_iast SF.1 SF.2.1 hK hP (m_D hJ) hS 6 0 rfl rfl hi (by decide) hdg (fun H1 locs1 h1 h2 _ => kk H1 locs1 h1 h2)
theorem m_as7 {v : Int32} (SF : CallFix p m c cc nL s args lw_all RX2) (hK : KK dC dI dA s) (hJ : mJ a) (hP : mP dC dI dA a M H) (hS : uS (mA a) H0 H locs) {i : Nat} (hi : i < 400) (hdg : decode cc pc = .ok (.iastore, 1)) (kk : ∀ (H1 : Heap) (locs1 : List Loc), mP dC dI dA a (mrow M 7 (upd (M 7) i v)) H1 → uS (mA a) H0 H1 locs1 → W p l e R s m args below meth c H1 locs1 0 0 Q (F0 m (pc + 1) ls rest)) : W p l e R s m args below meth c H locs 0 0 Q (F0 m pc ls (.int v :: .int (nI i) :: .ref (a 7) :: rest)) :=
  u_iast SF.1 SF.2.1 hK hP (m_D hJ) hS 7 0 rfl rfl hi (by decide) hdg (fun H1 locs1 h1 h2 _ => kk H1 locs1 h1 h2)

set_option maxHeartbeats 4000000 in
theorem c_X2_in (l : Launch) (dC : Nat → ClassId) (dI : Nat → Nat → Nat) (dA : Nat → ClassId) (x : Int64) (lo : Int64) (hi : Int64) (X : Int) (L : Int) (U : Int) (hx9 : x.toInt = X) (hl9 : lo.toInt = L) (hu9 : hi.toInt = U) : Met l yX2_in (ws_ yX2_in cX2_in 6 (some .boolean)) (rmD 0 0 0) (uPc [.long x, .long lo, .long hi] (fun _ => True) dC dI dA) (uQi (nI (inZ X L U).toNat)) 0 0 noF := by
  refine u_metz (own := RX2) (by decide) rfl (Nat.le_of_ble_eq_true rfl) fun p e R s m args below meth c Q SF rk hP hK hret ls hl => ?_
  have hx := SF.1
  have hb := SF.2.1
  have hml := SF.2.2.1
  have hown := SF.2.2.2.1
  have hts := SF.2.2.2.2
  have hl : lv_has ls 6 [(0, .long x), (2, .long lo), (4, .long hi)] := hl
  refine lv_lload_n hx hb dX2_in_0 rfl (lv_at hl 0 rfl) ?_
  refine lv_lload_n hx hb dX2_in_1 rfl (lv_at hl 1 rfl) ?_
  refine W.lcmp hx hb dX2_in_2 ?_
  refine lv_if_lt (tgt := 17) hx hb dX2_in_3 (by decide) (fun c_3 => ?_) (fun c_3 => ?_)
  · refine lv_iconst (v := nI 0) hx hb dX2_in_17 (by decide) ?_
    exact hret _ _ _ (u_ff (by first | exact inZ_f1 hx9 hl9 c_3 | exact inZ_f2 hx9 hu9 c_10)) dX2_in_18
  · refine lv_lload_n hx hb dX2_in_6 rfl (lv_at hl 0 rfl) ?_
    refine lv_lload hx hb dX2_in_7 (lv_at hl 2 rfl) ?_
    refine W.lcmp hx hb dX2_in_9 ?_
    refine lv_if_gt (tgt := 17) hx hb dX2_in_10 (by decide) (fun c_10 => ?_) (fun c_10 => ?_)
    · refine lv_iconst (v := nI 0) hx hb dX2_in_17 (by decide) ?_
      exact hret _ _ _ (u_ff (by first | exact inZ_f1 hx9 hl9 c_3 | exact inZ_f2 hx9 hu9 c_10)) dX2_in_18
    · refine lv_iconst (v := nI 1) hx hb dX2_in_13 (by decide) ?_
      refine lv_goto (tgt := 18) hx hb dX2_in_14 (by decide) ?_
      exact hret _ _ _ (u_tt (inZ_t hx9 hl9 hu9 c_3 c_10)) dX2_in_18
theorem k_X2_in {x : Int64} {lo : Int64} {hi : Int64} {X : Int} {L : Int} {U : Int} (hx9 : x.toInt = X) (hl9 : lo.toInt = L) (hu9 : hi.toInt = U) (SF : CallFix p m c cc nL s args lw_all RX2) (hK : KK dC dI dA s) (rk : rmOK 1 R) (hsz : ls.size = nL) (hcat : (rest.map fun v => v.category).sum ≤ 8) (hdg : decode cc pc = .ok (.invokestatic 195, 3)) (k : W p l e R s m args below meth c H locs 0 0 Q (F0 m (pc + 3) ls (.int (nI (inZ X L U).toNat) :: rest))) : W p l e R s m args below meth c H locs 0 0 Q (F0 m pc ls (.long hi :: .long lo :: .long x :: rest)) :=
  u_run (u_rS (Ψ := (fun _ => True)) (As := [.long x, .long lo, .long hi]) SF hK rk (c_X2_in l dC dI dA x lo hi X L U hx9 hl9 hu9) (lw_S q2042 q2043 q117 q2044) (n := 3) (by decide +kernel) rfl (by decide) trivial hsz hcat ⟨Nat.zero_le _, Nat.zero_le _⟩ rfl hdg) k

set_option maxHeartbeats 4000000 in
theorem c_X2_thrown (l : Launch) (dC : Nat → ClassId) (dI : Nat → Nat → Nat) (dA : Nat → ClassId) (a : Nat → Nat) (M : Nat → Nat → Int32)   : Met l yX2_thrown (ws_ yX2_thrown cX2_thrown 1 (some .int)) (rmD 0 0 0) (uPc [.ref (a 0)] (mP dC dI dA a M) dC dI dA) (uQi (M 0 0)) 0 0 noF := by
  refine u_meti (own := RX2) (by decide) rfl (Nat.le_of_ble_eq_true rfl) fun p e R s m args below meth c Q SF rk hP hK hret ls hl => ?_
  have hx := SF.1
  have hb := SF.2.1
  have hml := SF.2.2.1
  have hown := SF.2.2.2.1
  have hts := SF.2.2.2.2
  have hl : lv_has ls 1 [(0, .ref (a 0))] := hl
  refine lv_aload_n hx hb dX2_thrown_0 rfl (lv_at hl 0 rfl) ?_
  refine va_get (D := (dC, dI)) (ci := 2) (v := .int (M 0 0)) (C := RX2) (T := TX2) (N := 22) hx hb hts in_X2 hown hK hP 0 rfl rfl 0 (by decide) (hts _ q1951) (fun _ h9 => h9) rfl dX2_thrown_1 ?_
  exact hret _ _ _ rfl dX2_thrown_4

set_option maxHeartbeats 4000000 in
theorem c_X2_refuse (l : Launch) (dC : Nat → ClassId) (dI : Nat → Nat → Nat) (dA : Nat → ClassId) (a : Nat → Nat) (M : Nat → Nat → Int32) (hJ : mJ a) (b : Bool) (c9 : Int32)  : Met l yX2_refuse (ws_ yX2_refuse cX2_refuse 3 (some .boolean)) (rmD 0 0 0) (uPc [.ref (a 0), .int (nI b.toNat), .int c9] (mP dC dI dA a M) dC dI dA) (uMi (mA a) (nI (!decide (rfT (M 0 0) b c9 = 0)).toNat) (mP dC dI dA a (mrow M 0 (upd (M 0) 0 (rfT (M 0 0) b c9))))) 0 0 (mA a) := by
  refine u_metMz (own := RX2) (by decide) rfl (Nat.le_of_ble_eq_true rfl) fun p e R s m args below meth c Q SF rk hP hK hret ls hl => ?_
  have hx := SF.1
  have hb := SF.2.1
  have hml := SF.2.2.1
  have hown := SF.2.2.2.1
  have hts := SF.2.2.2.2
  have hS : uS (mA a) s.heap s.heap [] := uS.rf
  have hl : lv_has ls 3 [(0, .ref (a 0)), (1, .int (nI b.toNat)), (2, .int c9)] := hl
  refine lv_aload_n hx hb dX2_refuse_0 rfl (lv_at hl 0 rfl) ?_
  refine va_get (D := (dC, dI)) (ci := 2) (v := .int (M 0 0)) (C := RX2) (T := TX2) (N := 22) hx hb hts in_X2 hown hK hP 0 rfl rfl 0 (by decide) (hts _ q1951) (fun _ h9 => h9) rfl dX2_refuse_1 ?_
  refine lv_if_ne (tgt := 16) hx hb dX2_refuse_4 (by decide) (fun c_4 => ?_) (fun c_4 => ?_)
  · refine lv_aload_n hx hb dX2_refuse_16 rfl (lv_at hl 0 rfl) ?_
    refine va_get (D := (dC, dI)) (ci := 2) (v := .int (M 0 0)) (C := RX2) (T := TX2) (N := 22) hx hb hts in_X2 hown hK hP 0 rfl rfl 0 (by decide) (hts _ q1951) (fun _ h9 => h9) rfl dX2_refuse_17 ?_
    have jn28 : ∀ v9 : Int32, v9 = nI ((!decide (M 0 0 = 0)).toNat) → ∀ (H : Heap) (locs : List Loc), mP dC dI dA a (M) H → uS (mA a) s.heap H locs → ∀ ls : Array Slot, lv_has ls 3 [(0, .ref (a 0)), (1, .int (nI b.toNat)), (2, .int c9)] → W p l e R s m args below meth c H locs 0 0 Q (F0 m 28 ls [.int v9]) := by
      intro v9 hv9 H locs hP hS ls hl
      subst hv9
      exact hret _ _ _ _ _ (by simp_all [rfT]) (by have e9 : rfT (M 0 0) b c9 = M 0 0 := (by simp_all [rfT]); rw [e9]; exact hP) hS dX2_refuse_28
    refine lv_if_eq (tgt := 27) hx hb dX2_refuse_20 (by decide) (fun c_20 => ?_) (fun c_20 => ?_)
    · refine lv_iconst (v := nI 0) hx hb dX2_refuse_27 (by decide) ?_
      exact jn28 _ (u_n0 c_20) _ _ hP hS ls (lv_sub hl [0, 1, 2] rfl)
    · refine lv_iconst (v := nI 1) hx hb dX2_refuse_23 (by decide) ?_
      refine lv_goto (tgt := 28) hx hb dX2_refuse_24 (by decide) ?_
      exact jn28 _ (u_n1 c_20) _ _ hP hS ls (lv_sub hl [0, 1, 2] rfl)
  · refine lv_iload_n hx hb dX2_refuse_7 rfl (lv_at hl 1 rfl) ?_
    refine lv_if_eq (tgt := 16) hx hb dX2_refuse_8 (by decide) (fun c_8 => ?_) (fun c_8 => ?_)
    · have c_8 : b = false := u_zb.mp c_8
      refine lv_aload_n hx hb dX2_refuse_16 rfl (lv_at hl 0 rfl) ?_
      refine va_get (D := (dC, dI)) (ci := 2) (v := .int (M 0 0)) (C := RX2) (T := TX2) (N := 22) hx hb hts in_X2 hown hK hP 0 rfl rfl 0 (by decide) (hts _ q1951) (fun _ h9 => h9) rfl dX2_refuse_17 ?_
      have jn28_2 : ∀ v9 : Int32, v9 = nI ((!decide (M 0 0 = 0)).toNat) → ∀ (H : Heap) (locs : List Loc), mP dC dI dA a (M) H → uS (mA a) s.heap H locs → ∀ ls : Array Slot, lv_has ls 3 [(0, .ref (a 0)), (1, .int (nI b.toNat)), (2, .int c9)] → W p l e R s m args below meth c H locs 0 0 Q (F0 m 28 ls [.int v9]) := by
        intro v9 hv9 H locs hP hS ls hl
        subst hv9
        exact hret _ _ _ _ _ (by simp_all [rfT]) (by have e9 : rfT (M 0 0) b c9 = M 0 0 := (by simp_all [rfT]); rw [e9]; exact hP) hS dX2_refuse_28
      refine lv_if_eq (tgt := 27) hx hb dX2_refuse_20 (by decide) (fun c_20 => ?_) (fun c_20 => ?_)
      · refine lv_iconst (v := nI 0) hx hb dX2_refuse_27 (by decide) ?_
        exact jn28_2 _ (u_n0 c_20) _ _ hP hS ls (lv_sub hl [0, 1, 2] rfl)
      · refine lv_iconst (v := nI 1) hx hb dX2_refuse_23 (by decide) ?_
        refine lv_goto (tgt := 28) hx hb dX2_refuse_24 (by decide) ?_
        exact jn28_2 _ (u_n1 c_20) _ _ hP hS ls (lv_sub hl [0, 1, 2] rfl)
    · have c_8 : ¬ (b = false) := fun q9 => c_8 (u_zb.mpr q9)
      refine lv_aload_n hx hb dX2_refuse_11 rfl (lv_at hl 0 rfl) ?_
      refine lv_iload_n hx hb dX2_refuse_12 rfl (lv_at hl 2 rfl) ?_
      refine m_pf_thrown SF hK hJ hP hS dX2_refuse_13 (fun H locs hP hS => ?_)
      have hP : mP dC dI dA a (mrow M 0 (upd (M 0) 0 c9)) H := hP
      refine lv_aload_n hx hb dX2_refuse_16 rfl (lv_at hl 0 rfl) ?_
      refine va_get (D := (dC, dI)) (ci := 2) (v := .int c9) (C := RX2) (T := TX2) (N := 22) hx hb hts in_X2 hown hK hP 0 rfl rfl 0 (by decide) (hts _ q1951) (fun _ h9 => h9) rfl dX2_refuse_17 ?_
      have jn28_3 : ∀ v9 : Int32, v9 = nI ((!decide (c9 = 0)).toNat) → ∀ (H : Heap) (locs : List Loc), mP dC dI dA a (mrow M 0 (upd (M 0) 0 c9)) H → uS (mA a) s.heap H locs → ∀ ls : Array Slot, lv_has ls 3 [(0, .ref (a 0)), (1, .int (nI b.toNat)), (2, .int c9)] → W p l e R s m args below meth c H locs 0 0 Q (F0 m 28 ls [.int v9]) := by
        intro v9 hv9 H locs hP hS ls hl
        subst hv9
        exact hret _ _ _ _ _ (by simp_all [rfT]) (by have e9 : rfT (M 0 0) b c9 = c9 := (by simp_all [rfT]); rw [e9]; exact hP) hS dX2_refuse_28
      refine lv_if_eq (tgt := 27) hx hb dX2_refuse_20 (by decide) (fun c_20 => ?_) (fun c_20 => ?_)
      · refine lv_iconst (v := nI 0) hx hb dX2_refuse_27 (by decide) ?_
        exact jn28_3 _ (u_n0 c_20) _ _ hP hS ls (lv_sub hl [0, 1, 2] rfl)
      · refine lv_iconst (v := nI 1) hx hb dX2_refuse_23 (by decide) ?_
        refine lv_goto (tgt := 28) hx hb dX2_refuse_24 (by decide) ?_
        exact jn28_3 _ (u_n1 c_20) _ _ hP hS ls (lv_sub hl [0, 1, 2] rfl)
theorem k_X2_refuse (hJ : mJ a) {b : Bool} {c9 : Int32}  (SF : CallFix p m c cc nL s args lw_all RX2) (hK : KK dC dI dA s) (rk : rmOK 1 R) (hsz : ls.size = nL) (hcat : (rest.map fun v => v.category).sum ≤ 8) (hP : mP dC dI dA a M H) (hS : uS (mA a) H0 H locs) (hdg : decode cc pc = .ok (.invokevirtual 43, 3)) (k : ∀ (H1 : Heap) (locs1 : List Loc), mP dC dI dA a (mrow M 0 (upd (M 0) 0 (rfT (M 0 0) b c9))) H1 → uS (mA a) H0 H1 locs1 → W p l e R s m args below meth c H1 locs1 0 0 Q (F0 m (pc + 3) ls (.int (nI (!decide (rfT (M 0 0) b c9 = 0)).toNat) :: rest))) : W p l e R s m args below meth c H locs 0 0 Q (F0 m pc ls (.int c9 :: .int (nI b.toNat) :: .ref (a 0) :: rest)) :=
  u_runM (u_rV (C := RX2) (Ψ := (mP dC dI dA a M)) (As := [.int (nI b.toNat), .int c9]) SF hK rk (c_X2_refuse l dC dI dA a M hJ b c9 ) (lw_V q2045 q2047 qs47 q117 q2048) (n := 2) (by decide +kernel) rfl (by decide) (va_recv hK hP (ci := 2) (q0 := 0) rfl rfl) hP hsz hcat ⟨Nat.zero_le _, Nat.zero_le _⟩ rfl hdg) hS (fun _ h => h) (fun H1 locs1 h1 h2 _ => k H1 locs1 h1 h2)

set_option maxHeartbeats 4000000 in
theorem c_X2_notLoaded (l : Launch) (dC : Nat → ClassId) (dI : Nat → Nat → Nat) (dA : Nat → ClassId) (a : Nat → Nat) (M : Nat → Nat → Int32) (hJ : mJ a)   : Met l yX2_notLoaded (ws_ yX2_notLoaded cX2_notLoaded 1 (some .boolean)) (rmD 1 0 0) (uPc [.ref (a 0)] (mP dC dI dA a M) dC dI dA) (uMi (mA a) (nI (!decide (thC [(lo (M 0 1), 1)] = 0)).toNat) (mP dC dI dA a (mrow M 0 (upd (M 0) 0 (nI (thC [(lo (M 0 1), 1)])))))) 0 0 (mA a) := by
  refine u_metMz (own := RX2) (by decide) rfl (Nat.le_of_ble_eq_true rfl) fun p e R s m args below meth c Q SF rk hP hK hret ls hl => ?_
  have hx := SF.1
  have hb := SF.2.1
  have hml := SF.2.2.1
  have hown := SF.2.2.2.1
  have hts := SF.2.2.2.2
  have hS : uS (mA a) s.heap s.heap [] := uS.rf
  have hl : lv_has ls 1 [(0, .ref (a 0))] := hl
  refine lv_aload_n hx hb dX2_notLoaded_0 rfl (lv_at hl 0 rfl) ?_
  refine lv_iconst (v := nI 0) hx hb dX2_notLoaded_1 (by decide) ?_
  refine m_pf_thrown SF hK hJ hP hS dX2_notLoaded_2 (fun H locs hP hS => ?_)
  have hP : mP dC dI dA a (mrow M 0 (upd (M 0) 0 (nI 0))) H := hP
  refine lv_aload_n hx hb dX2_notLoaded_5 rfl (lv_at hl 0 rfl) ?_
  refine lv_aload_n hx hb dX2_notLoaded_6 rfl (lv_at hl 0 rfl) ?_
  refine va_get (D := (dC, dI)) (ci := 2) (v := .int (M 0 1)) (C := RX2) (T := TX2) (N := 22) hx hb hts in_X2 hown hK hP 0 rfl rfl 1 (by decide) (hts _ q1952) (fun _ h9 => h9) rfl dX2_notLoaded_7 ?_
  have jn18 : ∀ v9 : Int32, v9 = nI ((decide (M 0 1 = 0)).toNat) → ∀ (H : Heap) (locs : List Loc), mP dC dI dA a (mrow M 0 (upd (M 0) 0 (nI 0))) H → uS (mA a) s.heap H locs → ∀ ls : Array Slot, lv_has ls 1 [(0, .ref (a 0))] → W p l e R s m args below meth c H locs 0 0 Q (F0 m 18 ls [.int v9, .ref (a 0)]) := by
    intro v9 hv9 H locs hP hS ls hl
    subst hv9
    refine lv_iconst (v := nI 1) hx hb dX2_notLoaded_18 (by decide) ?_
    refine k_X2_refuse (M := mrow M 0 (upd (M 0) 0 (nI 0)))  hJ  SF hK (rk.le (Nat.le_of_ble_eq_true rfl)) hl.1 (Nat.le_of_ble_eq_true rfl) hP hS dX2_notLoaded_19 (fun H locs hP hS => ?_)
    refine u_top (y := nI ((!decide (rfT ((nI 0)) (decide (M 0 1 = 0)) (nI 1) = 0)).toNat)) rfl ?_
    have hP : mP dC dI dA a (mrow M 0 (upd (M 0) 0 (rfT ((nI 0)) (decide (M 0 1 = 0)) (nI 1)))) H := hP
    cases hq0 : (decide (M 0 1 = 0))
    · have hz0 : (lo (M 0 1)) = true := by first | simpa using hq0 | simpa [lo] using hq0
      rw [hq0, rfT_f] at hP
      refine u_top (y := nI 0) (by rw [rfT_f]; rfl) ?_
      have hP : mP dC dI dA a (mrow M 0 (upd (M 0) 0 (nI 0))) H := hP
      exact hret _ _ _ _ _ (by rw [hz0]; rfl) (by rw [hz0]; exact hP) hS dX2_notLoaded_22
    · have hz0 : (lo (M 0 1)) = false := by first | simpa using hq0 | simpa [lo] using hq0
      rw [hq0, rfT_t] at hP
      refine u_top (y := nI 1) (by rw [rfT_t]; rfl) ?_
      have hP : mP dC dI dA a (mrow M 0 (upd (M 0) 0 (nI 1))) H := hP
      exact hret _ _ _ _ _ (by rw [hz0]; rfl) (by rw [hz0]; exact hP) hS dX2_notLoaded_22
  refine lv_if_ne (tgt := 17) hx hb dX2_notLoaded_10 (by decide) (fun c_10 => ?_) (fun c_10 => ?_)
  · refine lv_iconst (v := nI 0) hx hb dX2_notLoaded_17 (by decide) ?_
    exact jn18 _ (u_d0 c_10) _ _ hP hS ls (lv_sub hl [0] rfl)
  · refine lv_iconst (v := nI 1) hx hb dX2_notLoaded_13 (by decide) ?_
    refine lv_goto (tgt := 18) hx hb dX2_notLoaded_14 (by decide) ?_
    exact jn18 _ (u_d1 c_10) _ _ hP hS ls (lv_sub hl [0] rfl)
theorem k_X2_notLoaded (hJ : mJ a)   (SF : CallFix p m c cc nL s args lw_all RX2) (hK : KK dC dI dA s) (rk : rmOK 2 R) (hsz : ls.size = nL) (hcat : (rest.map fun v => v.category).sum ≤ 8) (hP : mP dC dI dA a M H) (hS : uS (mA a) H0 H locs) (hdg : decode cc pc = .ok (.invokevirtual 260, 3)) (k : ∀ (H1 : Heap) (locs1 : List Loc), mP dC dI dA a (mrow M 0 (upd (M 0) 0 (nI (thC [(lo (M 0 1), 1)])))) H1 → uS (mA a) H0 H1 locs1 → W p l e R s m args below meth c H1 locs1 0 0 Q (F0 m (pc + 3) ls (.int (nI (!decide (thC [(lo (M 0 1), 1)] = 0)).toNat) :: rest))) : W p l e R s m args below meth c H locs 0 0 Q (F0 m pc ls (.ref (a 0) :: rest)) :=
  u_runM (u_rV (C := RX2) (Ψ := (mP dC dI dA a M)) (As := []) SF hK rk (c_X2_notLoaded l dC dI dA a M hJ  ) (lw_V q2236 q2238 qs83 q117 q2239) (n := 0) (by decide +kernel) rfl (by decide) (va_recv hK hP (ci := 2) (q0 := 0) rfl rfl) hP hsz hcat ⟨Nat.zero_le _, Nat.zero_le _⟩ rfl hdg) hS (fun _ h => h) (fun H1 locs1 h1 h2 _ => k H1 locs1 h1 h2)

set_option maxHeartbeats 4000000 in
theorem c_X2_lays (l : Launch) (dC : Nat → ClassId) (dI : Nat → Nat → Nat) (dA : Nat → ClassId) (a : Nat → Nat) (M : Nat → Nat → Int32) (hJ : mJ a) (lt : Nat) (w : Nat) (v : Int32) (h1 : lt < 24) (h2 : w < 10) : Met l yX2_lays (ws_ yX2_lays cX2_lays 4 none) (rmD 0 0 0) (uPc [.ref (a 0), .int (nI lt), .int (nI w), .int v] (mP dC dI dA a M) dC dI dA) (uMv (mA a) (mP dC dI dA a (mrow M 2 (upd (M 2) (33 + 10 * lt + w) v)))) 0 0 (mA a) := by
  refine u_metMv (own := RX2) (by decide) rfl (Nat.le_of_ble_eq_true rfl) fun p e R s m args below meth c Q SF rk hP hK hret ls hl => ?_
  have hx := SF.1
  have hb := SF.2.1
  have hml := SF.2.2.1
  have hown := SF.2.2.2.1
  have hts := SF.2.2.2.2
  have hS : uS (mA a) s.heap s.heap [] := uS.rf
  have hl : lv_has ls 4 [(0, .ref (a 0)), (1, .int (nI lt)), (2, .int (nI w)), (3, .int v)] := hl
  refine lv_aload_n hx hb dX2_lays_0 rfl (lv_at hl 0 rfl) ?_
  refine va_get (D := (dC, dI)) (ci := 2) (v := .ref (a 2)) (C := RX2) (T := TX2) (N := 22) hx hb hts in_X2 hown hK hP 0 rfl rfl 3 (by decide) (hts _ q1954) (fun _ h9 => h9) rfl dX2_lays_1 ?_
  refine lv_bipush (v := nI 33) hx hb dX2_lays_4 (by decide) ?_
  refine lv_bipush (v := nI 10) hx hb dX2_lays_6 (by decide) ?_
  refine lv_iload_n hx hb dX2_lays_8 rfl (lv_at hl 1 rfl) ?_
  refine lv_imul hx hb dX2_lays_9 ?_
  refine u_top (pk_mul _ _) ?_
  refine lv_iadd hx hb dX2_lays_10 ?_
  refine u_top (nI_add _ _) ?_
  refine lv_iload_n hx hb dX2_lays_11 rfl (lv_at hl 2 rfl) ?_
  refine lv_iadd hx hb dX2_lays_12 ?_
  refine u_top (nI_add _ _) ?_
  refine lv_iload_n hx hb dX2_lays_13 rfl (lv_at hl 3 rfl) ?_
  refine m_as2 SF hK hJ hP hS (i := 33 + (10 * lt) + w) (by omega) dX2_lays_14 (fun H locs hP hS => ?_)
  have hP : mP dC dI dA a (mrow M 2 (upd (M 2) (33 + (10 * lt) + w) v)) H := hP
  exact hret _ _ _ _ hP hS dX2_lays_15
theorem k_X2_lays (hJ : mJ a) {lt : Nat} {w : Nat} {v : Int32} (h1 : lt < 24) (h2 : w < 10) (SF : CallFix p m c cc nL s args lw_all RX2) (hK : KK dC dI dA s) (rk : rmOK 1 R) (hsz : ls.size = nL) (hcat : (rest.map fun v => v.category).sum ≤ 8) (hP : mP dC dI dA a M H) (hS : uS (mA a) H0 H locs) (hdg : decode cc pc = .ok (.invokevirtual 133, 3)) (k : ∀ (H1 : Heap) (locs1 : List Loc), mP dC dI dA a (mrow M 2 (upd (M 2) (33 + 10 * lt + w) v)) H1 → uS (mA a) H0 H1 locs1 → W p l e R s m args below meth c H1 locs1 0 0 Q (F0 m (pc + 3) ls (rest))) : W p l e R s m args below meth c H locs 0 0 Q (F0 m pc ls (.int v :: .int (nI w) :: .int (nI lt) :: .ref (a 0) :: rest)) :=
  u_runMv (u_rV (C := RX2) (Ψ := (mP dC dI dA a M)) (As := [.int (nI lt), .int (nI w), .int v]) SF hK rk (c_X2_lays l dC dI dA a M hJ lt w v h1 h2) (lw_V q2126 q2128 qs63 q117 q2129) (n := 3) (by decide +kernel) rfl (by decide) (va_recv hK hP (ci := 2) (q0 := 0) rfl rfl) hP hsz hcat ⟨Nat.zero_le _, Nat.zero_le _⟩ rfl hdg) hS (fun _ h => h) (fun H1 locs1 h1 h2 _ => k H1 locs1 h1 h2)

set_option maxHeartbeats 4000000 in
theorem c_X2_copiesA (l : Launch) (dC : Nat → ClassId) (dI : Nat → Nat → Nat) (dA : Nat → ClassId) (a : Nat → Nat) (M : Nat → Nat → Int32) (hJ : mJ a) (i : Nat) (j : Nat) (h1 : i + 273 ≤ 273) (h2 : j + 273 ≤ 3003) : Met l yX2_copies (ws_ yX2_copies cX2_copies 5 none) (rmD 0 0 0) (uPc [.ref (a 2), .int (nI i), .ref (a 3), .int (nI j)] (mP dC dI dA a M) dC dI dA) (uMv (mA a) (mP dC dI dA a (mrow M 3 (va_cpy (M 2) (M 3) i j 273)))) 0 0 (mA a) := by
  refine u_metMv (own := RX2) (by decide) rfl (Nat.le_of_ble_eq_true rfl) fun p e R s m args below meth c Q SF rk hP hK hret ls hl => ?_
  have hx := SF.1
  have hb := SF.2.1
  have hml := SF.2.2.1
  have hown := SF.2.2.2.1
  have hts := SF.2.2.2.2
  have hS : uS (mA a) s.heap s.heap [] := uS.rf
  have hl : lv_has ls 5 [(0, .ref (a 2)), (1, .int (nI i)), (2, .ref (a 3)), (3, .int (nI j))] := hl
  refine lv_iconst (v := nI 0) hx hb dX2_copies_0 (by decide) ?_
  refine lv_istore (lv' := [(4, .int (nI 0)), (0, .ref (a 2)), (1, .int (nI i)), (2, .ref (a 3)), (3, .int (nI j))]) hx hb dX2_copies_1 hl (by decide) rfl (fun ls hl => ?_)
  have lp3 : ∀ (k0 : Nat) (k : Nat), k ≤ 273 → 273 < k + k0 → ∀ (H : Heap) (locs : List Loc), mP dC dI dA a (mrow M 3 (va_cpy (M 2) (M 3) i j k)) H → uS (mA a) s.heap H locs → ∀ ls : Array Slot, lv_has ls 5 [(4, .int (nI k)), (0, .ref (a 2)), (1, .int (nI i)), (2, .ref (a 3)), (3, .int (nI j))] → W p l e R s m args below meth c H locs 0 0 Q (F0 m 3 ls []) := by
    intro k0
    induction k0 with
    | zero =>
      intro k hk1 hk2; omega
    | succ k0 ih =>
      intro k hk1 hk2 H locs hP hS ls hl
      have ih3 := ih
      refine lv_iload hx hb dX2_copies_3 (lv_at hl 0 rfl) ?_
      refine lv_sipush (v := nI 273) hx hb dX2_copies_5 (by decide) ?_
      refine lv_icmp_ge (tgt := 29) hx hb dX2_copies_8 (by decide) (fun c_8 => ?_) (fun c_8 => ?_)
      · have c_8 : 273 ≤ k := (nI_leI (a := 273) (b := k) (by omega) (by omega)).mp c_8
        exact hret _ _ _ _ (by rw [show 273 = k by omega]; exact hP) hS dX2_copies_29
      · have c_8 : ¬ (273 ≤ k) := fun q9 => c_8 ((nI_leI (a := 273) (b := k) (by omega) (by omega)).mpr q9)
        refine lv_aload_n hx hb dX2_copies_11 rfl (lv_at hl 3 rfl) ?_
        refine lv_iload_n hx hb dX2_copies_12 rfl (lv_at hl 4 rfl) ?_
        refine lv_iload hx hb dX2_copies_13 (lv_at hl 0 rfl) ?_
        refine lv_iadd hx hb dX2_copies_15 ?_
        refine u_top (nI_add _ _) ?_
        refine lv_aload_n hx hb dX2_copies_16 rfl (lv_at hl 1 rfl) ?_
        refine lv_iload_n hx hb dX2_copies_17 rfl (lv_at hl 2 rfl) ?_
        refine lv_iload hx hb dX2_copies_18 (lv_at hl 0 rfl) ?_
        refine lv_iadd hx hb dX2_copies_20 ?_
        refine u_top (nI_add _ _) ?_
        refine u_iald hx hb hK hP 2 0 rfl rfl (i := i + k) (by omega) (by decide) dX2_copies_21 ?_
        refine u_top (y := M 2 (i + k)) rfl ?_
        refine m_as3 SF hK hJ hP hS (i := j + k) (by omega) dX2_copies_22 (fun H locs hP hS => ?_)
        have hP : mP dC dI dA a (mrow M 3 (upd (va_cpy (M 2) (M 3) i j k) (j + k) (M 2 (i + k)))) H := hP
        refine lv_iinc (v := nI (k + 1)) (lv' := [(4, .int (nI (k + 1))), (0, .ref (a 2)), (1, .int (nI i)), (2, .ref (a 3)), (3, .int (nI j))]) hx hb dX2_copies_23 hl (k := 0) rfl (nI_add _ 1) (by decide) rfl (fun ls hl => ?_)
        refine lv_goto (tgt := 3) hx hb dX2_copies_26 (by decide) ?_
        exact ih3 (k + 1) (by omega) (by omega) _ _ (by rw [← cpy_s]; exact hP) hS ls (lv_sub hl [0, 1, 2, 3, 4] rfl)
  exact lp3 274 0 (by omega) (by omega) _ _ (by rw [cpy_0]; exact hP) hS ls (lv_sub hl [0, 1, 2, 3, 4] rfl)
theorem k_X2_copiesA (hJ : mJ a) {i : Nat} {j : Nat} (h1 : i + 273 ≤ 273) (h2 : j + 273 ≤ 3003) (SF : CallFix p m c cc nL s args lw_all RX2) (hK : KK dC dI dA s) (rk : rmOK 1 R) (hsz : ls.size = nL) (hcat : (rest.map fun v => v.category).sum ≤ 8) (hP : mP dC dI dA a M H) (hS : uS (mA a) H0 H locs) (hdg : decode cc pc = .ok (.invokestatic 47, 3)) (k : ∀ (H1 : Heap) (locs1 : List Loc), mP dC dI dA a (mrow M 3 (va_cpy (M 2) (M 3) i j 273)) H1 → uS (mA a) H0 H1 locs1 → W p l e R s m args below meth c H1 locs1 0 0 Q (F0 m (pc + 3) ls (rest))) : W p l e R s m args below meth c H locs 0 0 Q (F0 m pc ls (.int (nI j) :: .ref (a 3) :: .int (nI i) :: .ref (a 2) :: rest)) :=
  u_runMv (u_rS (Ψ := (mP dC dI dA a M)) (As := [.ref (a 2), .int (nI i), .ref (a 3), .int (nI j)]) SF hK rk (c_X2_copiesA l dC dI dA a M hJ i j h1 h2) (lw_S q2053 q2054 q117 q2055) (n := 4) (by decide +kernel) rfl (by decide) hP hsz hcat ⟨Nat.zero_le _, Nat.zero_le _⟩ rfl hdg) hS (fun _ h => h) (fun H1 locs1 h1 h2 _ => k H1 locs1 h1 h2)

set_option maxHeartbeats 4000000 in
theorem c_X2_copiesB (l : Launch) (dC : Nat → ClassId) (dI : Nat → Nat → Nat) (dA : Nat → ClassId) (a : Nat → Nat) (M : Nat → Nat → Int32) (hJ : mJ a) (i : Nat) (j : Nat) (h1 : i + 273 ≤ 3003) (h2 : j + 273 ≤ 273) : Met l yX2_copies (ws_ yX2_copies cX2_copies 5 none) (rmD 0 0 0) (uPc [.ref (a 3), .int (nI i), .ref (a 2), .int (nI j)] (mP dC dI dA a M) dC dI dA) (uMv (mA a) (mP dC dI dA a (mrow M 2 (va_cpy (M 3) (M 2) i j 273)))) 0 0 (mA a) := by
  refine u_metMv (own := RX2) (by decide) rfl (Nat.le_of_ble_eq_true rfl) fun p e R s m args below meth c Q SF rk hP hK hret ls hl => ?_
  have hx := SF.1
  have hb := SF.2.1
  have hml := SF.2.2.1
  have hown := SF.2.2.2.1
  have hts := SF.2.2.2.2
  have hS : uS (mA a) s.heap s.heap [] := uS.rf
  have hl : lv_has ls 5 [(0, .ref (a 3)), (1, .int (nI i)), (2, .ref (a 2)), (3, .int (nI j))] := hl
  refine lv_iconst (v := nI 0) hx hb dX2_copies_0 (by decide) ?_
  refine lv_istore (lv' := [(4, .int (nI 0)), (0, .ref (a 3)), (1, .int (nI i)), (2, .ref (a 2)), (3, .int (nI j))]) hx hb dX2_copies_1 hl (by decide) rfl (fun ls hl => ?_)
  have lp3 : ∀ (k0 : Nat) (k : Nat), k ≤ 273 → 273 < k + k0 → ∀ (H : Heap) (locs : List Loc), mP dC dI dA a (mrow M 2 (va_cpy (M 3) (M 2) i j k)) H → uS (mA a) s.heap H locs → ∀ ls : Array Slot, lv_has ls 5 [(4, .int (nI k)), (0, .ref (a 3)), (1, .int (nI i)), (2, .ref (a 2)), (3, .int (nI j))] → W p l e R s m args below meth c H locs 0 0 Q (F0 m 3 ls []) := by
    intro k0
    induction k0 with
    | zero =>
      intro k hk1 hk2; omega
    | succ k0 ih =>
      intro k hk1 hk2 H locs hP hS ls hl
      have ih3 := ih
      refine lv_iload hx hb dX2_copies_3 (lv_at hl 0 rfl) ?_
      refine lv_sipush (v := nI 273) hx hb dX2_copies_5 (by decide) ?_
      refine lv_icmp_ge (tgt := 29) hx hb dX2_copies_8 (by decide) (fun c_8 => ?_) (fun c_8 => ?_)
      · have c_8 : 273 ≤ k := (nI_leI (a := 273) (b := k) (by omega) (by omega)).mp c_8
        exact hret _ _ _ _ (by rw [show 273 = k by omega]; exact hP) hS dX2_copies_29
      · have c_8 : ¬ (273 ≤ k) := fun q9 => c_8 ((nI_leI (a := 273) (b := k) (by omega) (by omega)).mpr q9)
        refine lv_aload_n hx hb dX2_copies_11 rfl (lv_at hl 3 rfl) ?_
        refine lv_iload_n hx hb dX2_copies_12 rfl (lv_at hl 4 rfl) ?_
        refine lv_iload hx hb dX2_copies_13 (lv_at hl 0 rfl) ?_
        refine lv_iadd hx hb dX2_copies_15 ?_
        refine u_top (nI_add _ _) ?_
        refine lv_aload_n hx hb dX2_copies_16 rfl (lv_at hl 1 rfl) ?_
        refine lv_iload_n hx hb dX2_copies_17 rfl (lv_at hl 2 rfl) ?_
        refine lv_iload hx hb dX2_copies_18 (lv_at hl 0 rfl) ?_
        refine lv_iadd hx hb dX2_copies_20 ?_
        refine u_top (nI_add _ _) ?_
        refine u_iald hx hb hK hP 3 0 rfl rfl (i := i + k) (by omega) (by decide) dX2_copies_21 ?_
        refine u_top (y := M 3 (i + k)) rfl ?_
        refine m_as2 SF hK hJ hP hS (i := j + k) (by omega) dX2_copies_22 (fun H locs hP hS => ?_)
        have hP : mP dC dI dA a (mrow M 2 (upd (va_cpy (M 3) (M 2) i j k) (j + k) (M 3 (i + k)))) H := hP
        refine lv_iinc (v := nI (k + 1)) (lv' := [(4, .int (nI (k + 1))), (0, .ref (a 3)), (1, .int (nI i)), (2, .ref (a 2)), (3, .int (nI j))]) hx hb dX2_copies_23 hl (k := 0) rfl (nI_add _ 1) (by decide) rfl (fun ls hl => ?_)
        refine lv_goto (tgt := 3) hx hb dX2_copies_26 (by decide) ?_
        exact ih3 (k + 1) (by omega) (by omega) _ _ (by rw [← cpy_s]; exact hP) hS ls (lv_sub hl [0, 1, 2, 3, 4] rfl)
  exact lp3 274 0 (by omega) (by omega) _ _ (by rw [cpy_0]; exact hP) hS ls (lv_sub hl [0, 1, 2, 3, 4] rfl)
theorem k_X2_copiesB (hJ : mJ a) {i : Nat} {j : Nat} (h1 : i + 273 ≤ 3003) (h2 : j + 273 ≤ 273) (SF : CallFix p m c cc nL s args lw_all RX2) (hK : KK dC dI dA s) (rk : rmOK 1 R) (hsz : ls.size = nL) (hcat : (rest.map fun v => v.category).sum ≤ 8) (hP : mP dC dI dA a M H) (hS : uS (mA a) H0 H locs) (hdg : decode cc pc = .ok (.invokestatic 47, 3)) (k : ∀ (H1 : Heap) (locs1 : List Loc), mP dC dI dA a (mrow M 2 (va_cpy (M 3) (M 2) i j 273)) H1 → uS (mA a) H0 H1 locs1 → W p l e R s m args below meth c H1 locs1 0 0 Q (F0 m (pc + 3) ls (rest))) : W p l e R s m args below meth c H locs 0 0 Q (F0 m pc ls (.int (nI j) :: .ref (a 2) :: .int (nI i) :: .ref (a 3) :: rest)) :=
  u_runMv (u_rS (Ψ := (mP dC dI dA a M)) (As := [.ref (a 3), .int (nI i), .ref (a 2), .int (nI j)]) SF hK rk (c_X2_copiesB l dC dI dA a M hJ i j h1 h2) (lw_S q2053 q2054 q117 q2055) (n := 4) (by decide +kernel) rfl (by decide) hP hsz hcat ⟨Nat.zero_le _, Nat.zero_le _⟩ rfl hdg) hS (fun _ h => h) (fun H1 locs1 h1 h2 _ => k H1 locs1 h1 h2)
end TW
