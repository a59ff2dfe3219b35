/-! SPEC 7: changes -/
section SP7
variable {p : Program} {l : Launch} {e : Env} {R : Room} {s : State} {m : MethodId} {args : Array Value} {below : List Frame} {meth : Method} {c : Code} {H : Heap} {locs : List Loc} {cells slots : Nat} {Q : State → Prop}
variable {cc : ByteArray} {pc nL : Nat} {ls : Array Slot} {rest : List Value} {dC : Nat → ClassId} {dI : Nat → Nat → Nat} {dA : Nat → ClassId} {a : Nat → Nat} {M : Nat → Nat → Int32} {H0 : Heap}
theorem u_zast {D : va_G} {cl : List vw_C} {ws : va_W} {tys : List (ClassId × FieldType)} {a : Nat} {A : Nat → Prop} {H0 : Heap} (hx : p.tables.exec = Jvm.exec) (hb : c.code = cc) (hK : va_K D cl tys s) (hP : va_P D cl ws H) (hD : va_D A ws) (hS : uS A H0 H locs) (q0 t0 : Nat) {cA : ClassId} {n i : Nat} {f : Nat → Int32} {x : Int32} (ha : ws[q0]? = some (a, .inl (cA, n, .inl f))) (ht : tys[t0]? = some (cA, .boolean)) (hi : i < n) (hn : n < 2 ^ 31) (hdg : decode cc pc = .ok (.bastore, 1))
    (kk : ∀ (H1 : Heap) (locs1 : List Loc), va_P D cl (ws.set q0 (a, .inl (cA, n, .inl (upd f i (vp_nar .boolean x))))) H1 → uS A H0 H1 locs1 → (∀ q : Nat, q ≠ a → H1[q]? = H[q]?) → W p l e R s m args below meth c H1 locs1 cells slots Q (F0 m (pc + 1) ls rest)) : W p l e R s m args below meth c H locs cells slots Q (F0 m pc ls (.int x :: .int (nI i) :: .ref a :: rest)) := by
  have hc := nI_clamp (Nat.lt_trans hi hn)
  refine W.zast hx hb (hP q0 _ ha) ((hK.2 t0 _ ht).1 n (fun j => .int (f j))) (fun q => by cases q) (by show ¬ ((nI i) < 0 ∨ (arrV _ _ _).slots.size ≤ _); rw [arrV_size]; exact vp_in_nI hi hn) rfl rfl hdg fun H1 e z oq => ?_
  rw [hc] at e ⊢
  refine kk H1 _ (hP.set hD ha ?_ oq) (hS.put z oq (hD.2 q0 _ ha)) oq
  show H1[a]? = some (vp_cell _ _)
  rw [e, vp_cell_i, vp_cell_i, arrV_store]
  congr 2
  funext q
  by_cases hq : q = i
  · subst hq
    simp [updV, upd, vp_nar]
    try rfl
  · simp [updV, upd, hq]
theorem m_zst {v i : Nat} (SF : CallFix p m c cc nL s args lw_all RX2) (hK : KK dC dI dA s) (hJ : mJ a) (hP : mP dC dI dA a M H) (hS : uS (mA a) H0 H locs) (hi : i < 2) (hv : v < 2) (hdg : decode cc pc = .ok (.bastore, 1)) (kk : ∀ (H1 : Heap) (locs1 : List Loc), mP dC dI dA a (mrow M 4 (upd (M 4) i (nI v))) H1 → uS (mA a) H0 H1 locs1 → W p l e R s m args below meth c H1 locs1 0 0 Q (F0 m (pc + 1) ls rest)) : W p l e R s m args below meth c H locs 0 0 Q (F0 m pc ls (.int (nI v) :: .int (nI i) :: .ref (a 4) :: rest)) := by
  have e : vp_nar .boolean (nI v) = nI v := by
    match v, hv with
    | 0, _ => rfl
    | 1, _ => rfl
  exact u_zast SF.1 SF.2.1 hK hP (m_D hJ) hS 4 1 rfl rfl hi (by decide) hdg (fun H1 locs1 h1 h2 _ => kk H1 locs1 (by rw [e] at h1; exact h1) h2)
theorem m_zld {i : Nat} (SF : CallFix p m c cc nL s args lw_all RX2) (hK : KK dC dI dA s) (hP : mP dC dI dA a M H) (hi : i < 2) (hdg : decode cc pc = .ok (.baload, 1)) (kk : W p l e R s m args below meth c H locs 0 0 Q (F0 m (pc + 1) ls (.int (M 4 i) :: rest))) : W p l e R s m args below meth c H locs 0 0 Q (F0 m pc ls (.int (nI i) :: .ref (a 4) :: rest)) := by
  refine va_zald SF.1 SF.2.1 hK hP 4 1 rfl rfl (vp_in_nI hi (by decide)) hdg ?_
  rw [nI_clamp (by omega)]
  exact kk
end SP7
/-- read again -/
def ag1 (S : Nat → Int32) (lt q : Nat) (z : Int32) : Nat → Int32 := upd S (33 + 10 * lt + q) z
def ag2 (S : Nat → Int32) (lt q : Nat) (z : Int32) : Nat → Int32 := upd (ag1 S lt q z) (33 + 10 * lt + 7) (lr (ag1 S lt q z) lt 7 + nI 1)
def ag3 (S : Nat → Int32) (lt q : Nat) (z : Int32) : Nat → Int32 := upd (upd (ag2 S lt q z) (33 + 10 * lt + 6) (nI 0)) (33 + 10 * lt + 8) (nI 0)
def agS (S : Nat → Int32) (lt q : Nat) (z : Int32) : Nat → Int32 := upd (ag3 S lt q z) 1 (ag3 S lt q z 1 + nI 1)
/-- a letter added -/
def adR (x y k : Nat) : Int32 := if nI y >>> (nI k &&& 31) &&& nI 1 = nI 1 then -1 else nI (dg x k)
def adK (S : Nat → Int32) (lt x y : Nat) : Nat → (Nat → Int32)
  | 0 => S
  | k + 1 => upd (adK S lt x y k) (33 + 10 * lt + k) (adR x y k)
theorem adK_off {S : Nat → Int32} {lt x y i : Nat} : ∀ {k}, k ≤ 5 → (i < 33 + 10 * lt ∨ 33 + 10 * lt + 5 ≤ i) → adK S lt x y k i = S i
  | 0, _, _ => rfl
  | k + 1, h, hi => by
    rw [adK, upd_ne (by omega)]
    exact adK_off (by omega) hi
theorem adK_2 {S : Nat → Int32} {lt x y k : Nat} (h : k ≤ 5) : adK S lt x y k 2 = S 2 := adK_off h (by omega)
theorem adK_ln {S : Nat → Int32} {lt x y k : Nat} (h : k ≤ 5) : ln (adK S lt x y k) = ln S := by unfold ln; rw [adK_2 h]
theorem b_nt {x : Bool} (h : (!x) = true) : x = false := by cases x <;> simp_all
theorem b_nf {x : Bool} (h : (!x) = false) : x = true := by cases x <;> simp_all
def adS (S : Nat → Int32) (x y : Nat) (b : Int32) : Nat → Int32 := nwS (adK S (ln S) x y 5) (ln S) b
