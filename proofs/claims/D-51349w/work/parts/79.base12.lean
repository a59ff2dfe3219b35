/-! BASE 12: 'invokedynamic' makes its object -/
/-- a made object: its class, what it has captured -/
def lamP (c : ClassId) (vals : List Value) (x : Nat) (H : Heap) : Prop := H[x]? = some { cls := c, slots := vals.toArray, vm := .none }
theorem lamP.lt {c : ClassId} {vals : List Value} {x : Nat} {H : Heap} (h : lamP c vals x H) : x < H.size := (Array.getElem?_eq_some_iff.mp h).1
theorem lamP.kept {c : ClassId} {vals : List Value} {x : Nat} {H H1 : Heap} (h : lamP c vals x H) (e : H1[x]? = H[x]?) : lamP c vals x H1 := e.trans h
theorem lamP.made {c : ClassId} {vals : List Value} {x : Nat} {H H1 : Heap} (h : lamP c vals x H) (oq : ∀ q : Nat, q < H.size → H1[q]? = H[q]?) : lamP c vals x H1 := h.kept (oq x h.lt)
theorem lam_types {e : Setting} {s : State} {args : Array Value} {d c : ClassId} {σ : Lambda.Shape} {dk : Class} {T : Array FieldType} (h : Lambda.isMade e s.vm d σ c = true) (hd : s.vm.classes[d]? = some dk) (hn : dk.name = "BadCodes")
    (hO : (Cond.instantiable "java/lang/Object" 0).before args s = true) (hlay : ((σ.file "BadCodes").bind (layoutFields · 0)).map (·.2.1) = some T) : ∃ k, s.vm.classes[c]? = some k ∧ k.instanceTypes = T ∧ k.kind = .ordinary := by
  obtain ⟨dk', k, ok, tk, file, cf, object, iface, t, lay, methods, target, found, h1, h2, h3, h4, h5, h6, h7, h8, h9, h10, h11, h12, h13, ⟨-, hkind, -⟩, -, -, -, -, -, -, -, ⟨hty, -⟩, -⟩ := Lambda.isMade_spec h
  cases hd.symm.trans h1
  obtain ⟨cO, kO, hfO, hkO, -, -, -, hsz⟩ := Cond.instantiable_spec hO
  cases hfO.symm.trans h5
  cases hkO.symm.trans h7
  have hemp : ok.instanceTypes = #[] := Array.eq_empty_of_size_eq_zero hsz
  rw [hsz] at h8
  rw [hn] at h4
  rw [h4] at hlay
  simp only [Option.bind_some, h8, Option.map_some, Option.some.injEq] at hlay
  exact ⟨k, h2, by rw [hty, hemp, hlay]; simp, hkind⟩
section BASE12
variable {p : Program} {l : Launch} {e : Env} {R : Room} {s : State} {m : MethodId} {args : Array Value} {below : List Frame} {meth : Method} {c : Code} {H H0 H1 : Heap} {locs : List Loc} {cells slots : Nat} {Q : State → Prop}
variable {cc : ByteArray} {pc : Nat} {ls : Array Slot} {rest st : List Value} {A0 : Nat → Prop}
theorem w_lam {x : MethodName} {index : Nat} {σ : Lambda.Shape} {cK : ClassId} {T : Array FieldType} {vals : List Value} (hexec : p.tables.exec = Jvm.exec) (hb : c.code = cc) (hml : ls.size = c.maxLocals) (hx : x.cls = "BadCodes") (hnm : s.methodNamed? x = some m) (hL : LM x pc index σ cK s)
    (hO : (Cond.instantiable "java/lang/Object" 0).before args s = true) (hlay : ((σ.file "BadCodes").bind (layoutFields · 0)).map (·.2.1) = some T) (hval : ((T.toList.zip vals).map fun (t, v) => narrow t v) = vals) (hfit : ∀ (i : Nat) (v : Value), vals[i]? = some v → ∃ t, T[i]? = some t ∧ fits t v = true)
    (hlen : vals.length = σ.captured.length) (hst : st = vals.reverse ++ rest) (hloc : (st.map fun v => v.category).sum + 3072 ≤ R.locals) (hcells : cells + 1 ≤ R.cells) (hslots : slots + vals.length ≤ R.slots) (hdg : decode cc pc = .ok (.invokedynamic index, 5)) (hS : va_S A0 H0 H locs)
    (kk : ∀ (q : Nat) (H1 : Heap), q = H.size → lamP cK vals q H1 → H1.size = H.size + 1 → (∀ z : Nat, z < H.size → H1[z]? = H[z]?) → va_S A0 H0 H1 locs → W p l e R s m args below meth c H1 locs (cells + 1) (slots + vals.length) Q (F0 m (pc + 5) ls (.ref q :: rest))) :
    W p l e R s m args below meth c H locs cells slots Q (F0 m pc ls st) := by
  obtain ⟨m', kS, cfS, i0, p0, hm', hkS, hcfS, hshape, hfind, hmade, hcan⟩ := hL
  cases hnm.symm.trans hm'
  obtain ⟨kS', hkS', hnameS⟩ := className_of_methodNamed hnm
  cases hkS.symm.trans hkS'
  obtain ⟨bsm, nt, desc, site, hc, hnt, hsite, hpar⟩ := lam_site hshape
  obtain ⟨kK, hkK, htyK, hkindK⟩ := lam_types hmade hkS (hnameS.trans hx) hO hlay
  have hE : ((kK.instanceTypes.toList.zip vals).map fun (t, v) => narrow t v) = vals := by rw [htyK]; exact hval
  intro U hU X
  obtain ⟨X₁, st1⟩ := X.lambdaMakes hexec (g := F0 m pc ls st) rfl hml (by rw [hb]; exact hdg) (vals := vals) (rest := rest) hkS hfind hcfS hc hnt (parseLong_of_parse hsite) (by rw [hpar]; exact hlen) hst hkK
    (by rw [X.admits.platform]; show 2 * 0 + (st.map fun v => v.category).sum + 3072 ≤ R.locals; omega) hcells (by rw [hE]; exact hslots)
    (fun i v hv => by
      rw [hE, List.getElem?_toArray] at hv
      obtain ⟨t, h1, h2⟩ := hfit i v hv
      simp [State.fitsSlot, State.slotType?, hkK, hkindK, htyK, h1, h2])
  rw [hE] at X₁ st1
  have hsz : (U.pushCell { cls := cK, slots := vals.toArray, vm := .none }).heap.size = H.size + 1 := by rw [← hU]; exact Array.size_push _
  have hold : ∀ z : Nat, z < H.size → (U.pushCell { cls := cK, slots := vals.toArray, vm := .none }).heap[z]? = H[z]? := fun z hz => by
    rw [← hU] at hz ⊢
    exact Array.getElem?_push_lt hz ▸ (Array.getElem?_eq_getElem hz).symm
  have hnew : (U.pushCell { cls := cK, slots := vals.toArray, vm := .none }).heap[H.size]? = some { cls := cK, slots := vals.toArray, vm := .none } := by rw [← hU]; exact State.heap_pushCell_size _ _
  obtain ⟨t, a, b⟩ := kk H.size _ rfl hnew hsz hold (hS.more (by omega) hold) _ rfl (by simpa using X₁)
  exact ⟨t, st1 _ (by rw [hU]; exact a), b⟩
end BASE12
