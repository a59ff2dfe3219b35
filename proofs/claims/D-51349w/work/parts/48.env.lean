/-! ENV: words that ride in the class's contracts -/
def nfW : Nat → Cond
  | 0 => Cond.fieldLinkNest "BadCodes" 96 "BadCodes$FormatException" "kind" "I" "BadCodes"
  | 1 => Cond.fieldLinkNest "BadCodes" 102 "BadCodes$FormatException" "position" "I" "BadCodes"
  | 2 => Cond.fieldLinkNest "BadCodes" 136 "BadCodes$Office" "towns" "Ljava/util/List;" "BadCodes"
  | 3 => Cond.fieldLinkNest "BadCodes" 119 "BadCodes$Office" "letters" "Ljava/util/List;" "BadCodes"
  | 4 => Cond.fieldLinkNest "BadCodes" 319 "BadCodes$Office" "sums" "[I" "BadCodes"
  | 5 => Cond.fieldLinkNest "BadCodes" 156 "BadCodes$Office" "inBag" "[I" "BadCodes"
  | 6 => Cond.fieldLinkNest "BadCodes" 329 "BadCodes$Office" "sent" "[I" "BadCodes"
  | 7 => Cond.fieldLinkNest "BadCodes" 332 "BadCodes$Office" "sorted" "[I" "BadCodes"
  | 8 => Cond.fieldLinkNest "BadCodes" 160 "BadCodes$Office" "isClosed" "[Z" "BadCodes"
  | 9 => Cond.fieldLinkNest "BadCodes" 164 "BadCodes$Office" "limit" "I" "BadCodes"
  | 10 => Cond.fieldLinkNest "BadCodes" 167 "BadCodes$Office" "bag" "I" "BadCodes"
  | 11 => Cond.fieldLinkNest "BadCodes" 189 "BadCodes$Office" "readAgain" "I" "BadCodes"
  | 12 => Cond.fieldLinkNest "BadCodes" 269 "BadCodes$Letter" "read" "[I" "BadCodes"
  | 13 => Cond.fieldLinkNest "BadCodes" 240 "BadCodes$Letter" "bundle" "I" "BadCodes"
  | 14 => Cond.fieldLinkNest "BadCodes" 245 "BadCodes$Letter" "state" "I" "BadCodes"
  | 15 => Cond.fieldLinkNest "BadCodes" 248 "BadCodes$Letter" "tries" "I" "BadCodes"
  | 16 => Cond.fieldLinkNest "BadCodes" 254 "BadCodes$Letter" "cause" "I" "BadCodes"
  | 17 => Cond.fieldLinkNest "BadCodes" 257 "BadCodes$Letter" "town" "I" "BadCodes"
  | 18 => Cond.fieldLinkNest "BadCodes$Parser" 43 "BadCodes" "buffer" "[B" "BadCodes"
  | 19 => Cond.fieldLinkNest "BadCodes$Parser" 34 "BadCodes" "buffered" "I" "BadCodes"
  | 20 => Cond.fieldLinkNest "BadCodes$Parser" 37 "BadCodes" "parseError" "I" "BadCodes"
  | 21 => Cond.fieldLinkNest "BadCodes$Parser" 40 "BadCodes" "errorPosition" "I" "BadCodes"
  | 22 => Cond.fieldLinkNest "BadCodes$Parser" 119 "BadCodes$Office" "towns" "Ljava/util/List;" "BadCodes"
  | 23 => Cond.fieldLinkNest "BadCodes$Parser" 153 "BadCodes$Office" "letters" "Ljava/util/List;" "BadCodes"
  | 24 => Cond.fieldLinkNest "BadCodes$Parser" 165 "BadCodes$Office" "sums" "[I" "BadCodes"
  | 25 => Cond.fieldLinkNest "BadCodes$Parser" 168 "BadCodes$Office" "isClosed" "[Z" "BadCodes"
  | 26 => Cond.fieldLinkNest "BadCodes$Parser" 159 "BadCodes$Letter" "read" "[I" "BadCodes"
  | 27 => Cond.fieldLinkNest "BadCodes$Parser" 162 "BadCodes$Letter" "bundle" "I" "BadCodes"
  | 28 => Cond.fieldLinkNest "BadCodes$Office" 189 "BadCodes$Letter" "read" "[I" "BadCodes"
  | 29 => Cond.fieldLinkNest "BadCodes$Office" 125 "BadCodes$Letter" "bundle" "I" "BadCodes"
  | 30 => Cond.fieldLinkNest "BadCodes$Office" 143 "BadCodes$Letter" "state" "I" "BadCodes"
  | 31 => Cond.fieldLinkNest "BadCodes$Office" 186 "BadCodes$Letter" "tries" "I" "BadCodes"
  | 32 => Cond.fieldLinkNest "BadCodes$Office" 180 "BadCodes$Letter" "cause" "I" "BadCodes"
  | _ => Cond.fieldLinkNest "BadCodes$Office" 175 "BadCodes$Letter" "town" "I" "BadCodes"
def nmW : Nat → Cond
  | 0 => Cond.methodLinkNest "BadCodes" 432 ⟨"BadCodes$Letter", "<init>", "()V"⟩ "BadCodes"
  | 1 => Cond.methodLinkNest "BadCodes$Parser" 51 ⟨"BadCodes", "in", "(III)Z"⟩ "BadCodes"
  | 2 => Cond.methodLinkNest "BadCodes$Parser" 143 ⟨"BadCodes", "check", "(I)I"⟩ "BadCodes"
  | 3 => Cond.methodLinkNest "BadCodes$Parser" 146 ⟨"BadCodes$Town", "<init>", "(III)V"⟩ "BadCodes"
  | 4 => Cond.methodLinkNest "BadCodes$Parser" 158 ⟨"BadCodes$Letter", "<init>", "()V"⟩ "BadCodes"
  | 5 => Cond.methodLinkNest "BadCodes$Office" 111 ⟨"BadCodes", "one", "(Z)I"⟩ "BadCodes"
  | 6 => Cond.methodLinkNest "BadCodes$Town" 21 ⟨"BadCodes", "digitOf", "(II)I"⟩ "BadCodes"
  | 7 => Cond.methodLinkNest "BadCodes$Letter" 38 ⟨"BadCodes", "one", "(Z)I"⟩ "BadCodes"
  | _ => Cond.methodLinkNest "BadCodes$Letter" 48 ⟨"BadCodes", "cost", "(II)I"⟩ "BadCodes"
def ifC : Nat → String
  | 0 => "java/util/ArrayDeque"
  | 1 => "java/util/ArrayDeque"
  | 2 => "java/util/ArrayDeque"
  | 3 => "java/util/ArrayDeque"
  | 4 => "java/util/ArrayDeque"
  | 5 => "java/util/ArrayDeque"
  | 6 => "java/util/ArrayList"
  | 7 => "java/util/ArrayList"
  | 8 => "java/util/ArrayList"
  | _ => "java/util/ArrayList"
def ifX : Nat → MethodName
  | 0 => ⟨"java/util/Deque", "size", "()I"⟩
  | 1 => ⟨"java/util/Collection", "clear", "()V"⟩
  | 2 => ⟨"java/util/Deque", "removeFirst", "()Ljava/lang/Object;"⟩
  | 3 => ⟨"java/util/Deque", "addLast", "(Ljava/lang/Object;)V"⟩
  | 4 => ⟨"java/util/Collection", "isEmpty", "()Z"⟩
  | 5 => ⟨"java/util/Deque", "removeLast", "()Ljava/lang/Object;"⟩
  | 6 => ⟨"java/util/List", "get", "(I)Ljava/lang/Object;"⟩
  | 7 => ⟨"java/util/List", "size", "()I"⟩
  | 8 => ⟨"java/util/List", "add", "(Ljava/lang/Object;)Z"⟩
  | _ => ⟨"java/util/List", "isEmpty", "()Z"⟩
def ifY : Nat → MethodName
  | 0 => ⟨"java/util/ArrayDeque", "size", "()I"⟩
  | 1 => ⟨"java/util/ArrayDeque", "clear", "()V"⟩
  | 2 => ⟨"java/util/ArrayDeque", "removeFirst", "()Ljava/lang/Object;"⟩
  | 3 => ⟨"java/util/ArrayDeque", "addLast", "(Ljava/lang/Object;)V"⟩
  | 4 => ⟨"java/util/ArrayDeque", "isEmpty", "()Z"⟩
  | 5 => ⟨"java/util/ArrayDeque", "removeLast", "()Ljava/lang/Object;"⟩
  | 6 => ⟨"java/util/ArrayList", "get", "(I)Ljava/lang/Object;"⟩
  | 7 => ⟨"java/util/ArrayList", "size", "()I"⟩
  | 8 => ⟨"java/util/ArrayList", "add", "(Ljava/lang/Object;)Z"⟩
  | _ => ⟨"java/util/ArrayList", "isEmpty", "()Z"⟩
def CE (U : State) : Prop := (∀ i, i < 34 → va_Nw (nfW i) U) ∧ (∀ i, i < 9 → va_Nw (nmW i) U) ∧ ∀ i, i < 10 → va_Fw (ifC i) (ifX i) (ifY i) U
theorem nfW_on (i : Nat) : (nfW i).onTables = true := by unfold nfW; split <;> rfl
theorem nmW_on (i : Nat) : (nmW i).onTables = true := by unfold nmW; split <;> rfl
theorem nfW_warm {s U : State} (hW : s.WarmedH U.vm) (i : Nat) (h : va_Nw (nfW i) s) : va_Nw (nfW i) U := by
  unfold nfW at h ⊢
  split at h <;> exact va_Nw.warmF hW h
theorem nmW_warm {s U : State} (hW : s.WarmedH U.vm) (i : Nat) (h : va_Nw (nmW i) s) : va_Nw (nmW i) U := by
  unfold nmW at h ⊢
  split at h <;> exact va_Nw.warmM hW h
theorem ifX_ok (i : Nat) : (ifX i).cls ≠ "java/lang/invoke/MethodHandle" ∧ (ifX i).cls ≠ "java/lang/invoke/VarHandle" := by unfold ifX; split <;> decide
theorem CE.ok : XOK (fun U _ => CE U) := ⟨fun u U H e q => ⟨fun i hi => va_Nw.same (nfW_on i) e.symm (q.1 i hi), fun i hi => va_Nw.same (nmW_on i) e.symm (q.2.1 i hi), fun i hi => va_Fw.moved (ifX_ok i) (by rw [e]; exact Vm.Alike.refl _) (q.2.2 i hi)⟩, fun s U H hW q => ⟨fun i hi => nfW_warm hW i (q.1 i hi), fun i hi => nmW_warm hW i (q.2.1 i hi), fun i hi => va_Fw.moved (ifX_ok i) hW.alike (q.2.2 i hi)⟩⟩
