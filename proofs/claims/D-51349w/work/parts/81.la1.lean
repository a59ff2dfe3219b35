/-! LAMBDAS: the twelve shapes; what their files say -/
/-- what the file of a made class says: its second method's bytes, the entries that these name -/
def laOK (σ : Lambda.Shape) (code : ByteArray) (mi : Nat) (y : MethodName) (fs : List (Nat × Nat)) : Bool :=
  match σ.file "BadCodes" with
  | none => false
  | some D => match layoutMethods D, layoutFields D 0 with
    | some ms, some lay => (match ms[1]? with
      | some fw => (match fw.code with
        | some x => decide (x.code.data = code.data) && decide (x.maxLocals = 2)
        | none => false) && decide (fw.accessFlags = 1) && decide (fw.sig.returnType = some FieldType.boolean)
      | none => false) &&
      (match D.constantPool[mi]? with
       | some (.methodref ci nt) => decide (D.constantPool.className? ci = some y.cls) && decide (D.constantPool.nameAndType? nt = some (y.name, y.desc)) && (match D.constantPool[ci]? with
         | some (.class_ n) => decide (D.constantPool.string? n = some y.cls) && decide (ci ≠ D.thisClass)
         | _ => false)
       | _ => false) && fs.all fun q => match D.constantPool[q.1]? with
         | some (.fieldref _ nt) => (match D.constantPool.nameAndType? nt with
           | some (nm, _) => decide (lay.1.findIdx? (·.name == nm) = some q.2) && (match lay.1[q.2]? with
             | some f => decide (f.isStatic = false) && decide (f.slot = q.2)
             | none => false)
           | none => false)
         | _ => false
    | _, _ => false
def laBA : ByteArray := ⟨#[42, 180, 0, 15, 27, 182, 0, 22, 172]⟩
def laBB : ByteArray := ⟨#[42, 180, 0, 15, 27, 184, 0, 23, 172]⟩
def laBC : ByteArray := ⟨#[42, 180, 0, 17, 42, 180, 0, 19, 27, 184, 0, 27, 172]⟩
def laBD : ByteArray := ⟨#[42, 180, 0, 17, 42, 180, 0, 19, 27, 182, 0, 27, 172]⟩
def laS0 : Lambda.Shape := ({ iface := "BadCodes$Test", name := "isSo", sam := ({ parameters := [Jvm.ClassFile.FieldType.int], returnType := (Option.some Jvm.ClassFile.FieldType.boolean) } : Jvm.ClassFile.MethodDescriptor), captured := [(Jvm.ClassFile.FieldType.object "BadCodes")], kind := 5, implClass := "BadCodes", implName := "lambda$new$0", implDesc := ({ parameters := [Jvm.ClassFile.FieldType.int], returnType := (Option.some Jvm.ClassFile.FieldType.boolean) } : Jvm.ClassFile.MethodDescriptor), implItf := false, inst := ({ parameters := [Jvm.ClassFile.FieldType.int], returnType := (Option.some Jvm.ClassFile.FieldType.boolean) } : Jvm.ClassFile.MethodDescriptor) } : Jvm.Lambda.Shape)
def laX0 : MethodName := ⟨"BadCodes", "<init>", "()V"⟩
def laY0 : MethodName := ⟨"BadCodes", "lambda$new$0", "(I)Z"⟩
theorem laW0 : siteWord_1_1 = .lambdaSite laX0 47 58 laS0 := rfl
theorem laK0 : laOK laS0 laBA 22 laY0 [(15, 0)] = true := by decide +kernel
theorem laT0 : ((laS0.file "BadCodes").bind (layoutFields · 0)).map (·.2.1) = some #[.object "BadCodes"] := by decide +kernel
theorem laN0 : laS0.implClass = "BadCodes" ∧ laS0.implName = laY0.name ∧ laS0.implDesc.toString = laY0.desc ∧ laS0.implItf = false ∧ laS0.iface = "BadCodes$Test" ∧ laS0.name = "isSo" ∧ laS0.sam.toString = "(I)Z" ∧ laS0.captured ≠ [] := by decide +kernel
def laS1 : Lambda.Shape := ({ iface := "BadCodes$Test", name := "isSo", sam := ({ parameters := [Jvm.ClassFile.FieldType.int], returnType := (Option.some Jvm.ClassFile.FieldType.boolean) } : Jvm.ClassFile.MethodDescriptor), captured := [(Jvm.ClassFile.FieldType.object "BadCodes$Office")], kind := 6, implClass := "BadCodes", implName := "lambda$count$1", implDesc := ({ parameters := [(Jvm.ClassFile.FieldType.object "BadCodes$Office"), Jvm.ClassFile.FieldType.int], returnType := (Option.some Jvm.ClassFile.FieldType.boolean) } : Jvm.ClassFile.MethodDescriptor), implItf := false, inst := ({ parameters := [Jvm.ClassFile.FieldType.int], returnType := (Option.some Jvm.ClassFile.FieldType.boolean) } : Jvm.ClassFile.MethodDescriptor) } : Jvm.Lambda.Shape)
def laX1 : MethodName := ⟨"BadCodes", "count", "(I)I"⟩
def laY1 : MethodName := ⟨"BadCodes", "lambda$count$1", "(LBadCodes$Office;I)Z"⟩
theorem laW1 : siteWord_1_2 = .lambdaSite laX1 131 173 laS1 := rfl
theorem laK1 : laOK laS1 laBB 23 laY1 [(15, 0)] = true := by decide +kernel
theorem laT1 : ((laS1.file "BadCodes").bind (layoutFields · 0)).map (·.2.1) = some #[.object "BadCodes$Office"] := by decide +kernel
theorem laN1 : laS1.implClass = "BadCodes" ∧ laS1.implName = laY1.name ∧ laS1.implDesc.toString = laY1.desc ∧ laS1.implItf = false ∧ laS1.iface = "BadCodes$Test" ∧ laS1.name = "isSo" ∧ laS1.sam.toString = "(I)Z" ∧ laS1.captured ≠ [] := by decide +kernel
def laS2 : Lambda.Shape := ({ iface := "BadCodes$Test", name := "isSo", sam := ({ parameters := [Jvm.ClassFile.FieldType.int], returnType := (Option.some Jvm.ClassFile.FieldType.boolean) } : Jvm.ClassFile.MethodDescriptor), captured := [(Jvm.ClassFile.FieldType.object "BadCodes$Office"), Jvm.ClassFile.FieldType.int], kind := 6, implClass := "BadCodes", implName := "lambda$town$2", implDesc := ({ parameters := [(Jvm.ClassFile.FieldType.object "BadCodes$Office"), Jvm.ClassFile.FieldType.int, Jvm.ClassFile.FieldType.int], returnType := (Option.some Jvm.ClassFile.FieldType.boolean) } : Jvm.ClassFile.MethodDescriptor), implItf := false, inst := ({ parameters := [Jvm.ClassFile.FieldType.int], returnType := (Option.some Jvm.ClassFile.FieldType.boolean) } : Jvm.ClassFile.MethodDescriptor) } : Jvm.Lambda.Shape)
def laX2 : MethodName := ⟨"BadCodes", "town", "(II)I"⟩
def laY2 : MethodName := ⟨"BadCodes", "lambda$town$2", "(LBadCodes$Office;II)Z"⟩
theorem laW2 : siteWord_1_3 = .lambdaSite laX2 89 210 laS2 := rfl
theorem laK2 : laOK laS2 laBC 27 laY2 [(17, 0), (19, 1)] = true := by decide +kernel
theorem laT2 : ((laS2.file "BadCodes").bind (layoutFields · 0)).map (·.2.1) = some #[.object "BadCodes$Office", .int] := by decide +kernel
theorem laN2 : laS2.implClass = "BadCodes" ∧ laS2.implName = laY2.name ∧ laS2.implDesc.toString = laY2.desc ∧ laS2.implItf = false ∧ laS2.iface = "BadCodes$Test" ∧ laS2.name = "isSo" ∧ laS2.sam.toString = "(I)Z" ∧ laS2.captured ≠ [] := by decide +kernel
def laS3 : Lambda.Shape := ({ iface := "BadCodes$Test", name := "isSo", sam := ({ parameters := [Jvm.ClassFile.FieldType.int], returnType := (Option.some Jvm.ClassFile.FieldType.boolean) } : Jvm.ClassFile.MethodDescriptor), captured := [(Jvm.ClassFile.FieldType.object "BadCodes$Office"), Jvm.ClassFile.FieldType.int], kind := 6, implClass := "BadCodes", implName := "lambda$town$3", implDesc := ({ parameters := [(Jvm.ClassFile.FieldType.object "BadCodes$Office"), Jvm.ClassFile.FieldType.int, Jvm.ClassFile.FieldType.int], returnType := (Option.some Jvm.ClassFile.FieldType.boolean) } : Jvm.ClassFile.MethodDescriptor), implItf := false, inst := ({ parameters := [Jvm.ClassFile.FieldType.int], returnType := (Option.some Jvm.ClassFile.FieldType.boolean) } : Jvm.ClassFile.MethodDescriptor) } : Jvm.Lambda.Shape)
def laX3 : MethodName := ⟨"BadCodes", "town", "(II)I"⟩
def laY3 : MethodName := ⟨"BadCodes", "lambda$town$3", "(LBadCodes$Office;II)Z"⟩
theorem laW3 : siteWord_1_4 = .lambdaSite laX3 117 213 laS3 := rfl
theorem laK3 : laOK laS3 laBC 27 laY3 [(17, 0), (19, 1)] = true := by decide +kernel
theorem laT3 : ((laS3.file "BadCodes").bind (layoutFields · 0)).map (·.2.1) = some #[.object "BadCodes$Office", .int] := by decide +kernel
theorem laN3 : laS3.implClass = "BadCodes" ∧ laS3.implName = laY3.name ∧ laS3.implDesc.toString = laY3.desc ∧ laS3.implItf = false ∧ laS3.iface = "BadCodes$Test" ∧ laS3.name = "isSo" ∧ laS3.sam.toString = "(I)Z" ∧ laS3.captured ≠ [] := by decide +kernel
def laS4 : Lambda.Shape := ({ iface := "BadCodes$Test", name := "isSo", sam := ({ parameters := [Jvm.ClassFile.FieldType.int], returnType := (Option.some Jvm.ClassFile.FieldType.boolean) } : Jvm.ClassFile.MethodDescriptor), captured := [(Jvm.ClassFile.FieldType.object "BadCodes$Office"), Jvm.ClassFile.FieldType.int], kind := 6, implClass := "BadCodes", implName := "lambda$town$4", implDesc := ({ parameters := [(Jvm.ClassFile.FieldType.object "BadCodes$Office"), Jvm.ClassFile.FieldType.int, Jvm.ClassFile.FieldType.int], returnType := (Option.some Jvm.ClassFile.FieldType.boolean) } : Jvm.ClassFile.MethodDescriptor), implItf := false, inst := ({ parameters := [Jvm.ClassFile.FieldType.int], returnType := (Option.some Jvm.ClassFile.FieldType.boolean) } : Jvm.ClassFile.MethodDescriptor) } : Jvm.Lambda.Shape)
def laX4 : MethodName := ⟨"BadCodes", "town", "(II)I"⟩
def laY4 : MethodName := ⟨"BadCodes", "lambda$town$4", "(LBadCodes$Office;II)Z"⟩
theorem laW4 : siteWord_1_5 = .lambdaSite laX4 145 214 laS4 := rfl
theorem laK4 : laOK laS4 laBC 27 laY4 [(17, 0), (19, 1)] = true := by decide +kernel
theorem laT4 : ((laS4.file "BadCodes").bind (layoutFields · 0)).map (·.2.1) = some #[.object "BadCodes$Office", .int] := by decide +kernel
theorem laN4 : laS4.implClass = "BadCodes" ∧ laS4.implName = laY4.name ∧ laS4.implDesc.toString = laY4.desc ∧ laS4.implItf = false ∧ laS4.iface = "BadCodes$Test" ∧ laS4.name = "isSo" ∧ laS4.sam.toString = "(I)Z" ∧ laS4.captured ≠ [] := by decide +kernel
def laS5 : Lambda.Shape := ({ iface := "BadCodes$Test", name := "isSo", sam := ({ parameters := [Jvm.ClassFile.FieldType.int], returnType := (Option.some Jvm.ClassFile.FieldType.boolean) } : Jvm.ClassFile.MethodDescriptor), captured := [(Jvm.ClassFile.FieldType.object "BadCodes$Office"), Jvm.ClassFile.FieldType.int], kind := 6, implClass := "BadCodes", implName := "lambda$bundle$5", implDesc := ({ parameters := [(Jvm.ClassFile.FieldType.object "BadCodes$Office"), Jvm.ClassFile.FieldType.int, Jvm.ClassFile.FieldType.int], returnType := (Option.some Jvm.ClassFile.FieldType.boolean) } : Jvm.ClassFile.MethodDescriptor), implItf := false, inst := ({ parameters := [Jvm.ClassFile.FieldType.int], returnType := (Option.some Jvm.ClassFile.FieldType.boolean) } : Jvm.ClassFile.MethodDescriptor) } : Jvm.Lambda.Shape)
def laX5 : MethodName := ⟨"BadCodes", "bundle", "(II)I"⟩
def laY5 : MethodName := ⟨"BadCodes", "lambda$bundle$5", "(LBadCodes$Office;II)Z"⟩
theorem laW5 : siteWord_1_6 = .lambdaSite laX5 8 318 laS5 := rfl
theorem laK5 : laOK laS5 laBC 27 laY5 [(17, 0), (19, 1)] = true := by decide +kernel
theorem laT5 : ((laS5.file "BadCodes").bind (layoutFields · 0)).map (·.2.1) = some #[.object "BadCodes$Office", .int] := by decide +kernel
theorem laN5 : laS5.implClass = "BadCodes" ∧ laS5.implName = laY5.name ∧ laS5.implDesc.toString = laY5.desc ∧ laS5.implItf = false ∧ laS5.iface = "BadCodes$Test" ∧ laS5.name = "isSo" ∧ laS5.sam.toString = "(I)Z" ∧ laS5.captured ≠ [] := by decide +kernel
def laS6 : Lambda.Shape := ({ iface := "BadCodes$Test", name := "isSo", sam := ({ parameters := [Jvm.ClassFile.FieldType.int], returnType := (Option.some Jvm.ClassFile.FieldType.boolean) } : Jvm.ClassFile.MethodDescriptor), captured := [(Jvm.ClassFile.FieldType.object "BadCodes$Office")], kind := 6, implClass := "BadCodes", implName := "lambda$bundle$6", implDesc := ({ parameters := [(Jvm.ClassFile.FieldType.object "BadCodes$Office"), Jvm.ClassFile.FieldType.int], returnType := (Option.some Jvm.ClassFile.FieldType.boolean) } : Jvm.ClassFile.MethodDescriptor), implItf := false, inst := ({ parameters := [Jvm.ClassFile.FieldType.int], returnType := (Option.some Jvm.ClassFile.FieldType.boolean) } : Jvm.ClassFile.MethodDescriptor) } : Jvm.Lambda.Shape)
def laX6 : MethodName := ⟨"BadCodes", "bundle", "(II)I"⟩
def laY6 : MethodName := ⟨"BadCodes", "lambda$bundle$6", "(LBadCodes$Office;I)Z"⟩
theorem laW6 : siteWord_1_7 = .lambdaSite laX6 86 322 laS6 := rfl
theorem laK6 : laOK laS6 laBB 23 laY6 [(15, 0)] = true := by decide +kernel
theorem laT6 : ((laS6.file "BadCodes").bind (layoutFields · 0)).map (·.2.1) = some #[.object "BadCodes$Office"] := by decide +kernel
theorem laN6 : laS6.implClass = "BadCodes" ∧ laS6.implName = laY6.name ∧ laS6.implDesc.toString = laY6.desc ∧ laS6.implItf = false ∧ laS6.iface = "BadCodes$Test" ∧ laS6.name = "isSo" ∧ laS6.sam.toString = "(I)Z" ∧ laS6.captured ≠ [] := by decide +kernel
def laS7 : Lambda.Shape := ({ iface := "BadCodes$Test", name := "isSo", sam := ({ parameters := [Jvm.ClassFile.FieldType.int], returnType := (Option.some Jvm.ClassFile.FieldType.boolean) } : Jvm.ClassFile.MethodDescriptor), captured := [(Jvm.ClassFile.FieldType.object "BadCodes$Office")], kind := 6, implClass := "BadCodes", implName := "lambda$causes$7", implDesc := ({ parameters := [(Jvm.ClassFile.FieldType.object "BadCodes$Office"), Jvm.ClassFile.FieldType.int], returnType := (Option.some Jvm.ClassFile.FieldType.boolean) } : Jvm.ClassFile.MethodDescriptor), implItf := false, inst := ({ parameters := [Jvm.ClassFile.FieldType.int], returnType := (Option.some Jvm.ClassFile.FieldType.boolean) } : Jvm.ClassFile.MethodDescriptor) } : Jvm.Lambda.Shape)
def laX7 : MethodName := ⟨"BadCodes", "causes", "(I)I"⟩
def laY7 : MethodName := ⟨"BadCodes", "lambda$causes$7", "(LBadCodes$Office;I)Z"⟩
theorem laW7 : siteWord_1_8 = .lambdaSite laX7 22 338 laS7 := rfl
theorem laK7 : laOK laS7 laBB 23 laY7 [(15, 0)] = true := by decide +kernel
theorem laT7 : ((laS7.file "BadCodes").bind (layoutFields · 0)).map (·.2.1) = some #[.object "BadCodes$Office"] := by decide +kernel
theorem laN7 : laS7.implClass = "BadCodes" ∧ laS7.implName = laY7.name ∧ laS7.implDesc.toString = laY7.desc ∧ laS7.implItf = false ∧ laS7.iface = "BadCodes$Test" ∧ laS7.name = "isSo" ∧ laS7.sam.toString = "(I)Z" ∧ laS7.captured ≠ [] := by decide +kernel
def laS8 : Lambda.Shape := ({ iface := "BadCodes$Test", name := "isSo", sam := ({ parameters := [Jvm.ClassFile.FieldType.int], returnType := (Option.some Jvm.ClassFile.FieldType.boolean) } : Jvm.ClassFile.MethodDescriptor), captured := [(Jvm.ClassFile.FieldType.object "BadCodes$Office"), Jvm.ClassFile.FieldType.int], kind := 6, implClass := "BadCodes", implName := "lambda$causes$8", implDesc := ({ parameters := [(Jvm.ClassFile.FieldType.object "BadCodes$Office"), Jvm.ClassFile.FieldType.int, Jvm.ClassFile.FieldType.int], returnType := (Option.some Jvm.ClassFile.FieldType.boolean) } : Jvm.ClassFile.MethodDescriptor), implItf := false, inst := ({ parameters := [Jvm.ClassFile.FieldType.int], returnType := (Option.some Jvm.ClassFile.FieldType.boolean) } : Jvm.ClassFile.MethodDescriptor) } : Jvm.Lambda.Shape)
def laX8 : MethodName := ⟨"BadCodes", "causes", "(I)I"⟩
def laY8 : MethodName := ⟨"BadCodes", "lambda$causes$8", "(LBadCodes$Office;II)Z"⟩
theorem laW8 : siteWord_1_9 = .lambdaSite laX8 32 339 laS8 := rfl
theorem laK8 : laOK laS8 laBC 27 laY8 [(17, 0), (19, 1)] = true := by decide +kernel
theorem laT8 : ((laS8.file "BadCodes").bind (layoutFields · 0)).map (·.2.1) = some #[.object "BadCodes$Office", .int] := by decide +kernel
theorem laN8 : laS8.implClass = "BadCodes" ∧ laS8.implName = laY8.name ∧ laS8.implDesc.toString = laY8.desc ∧ laS8.implItf = false ∧ laS8.iface = "BadCodes$Test" ∧ laS8.name = "isSo" ∧ laS8.sam.toString = "(I)Z" ∧ laS8.captured ≠ [] := by decide +kernel
def laS9 : Lambda.Shape := ({ iface := "BadCodes$Test", name := "isSo", sam := ({ parameters := [Jvm.ClassFile.FieldType.int], returnType := (Option.some Jvm.ClassFile.FieldType.boolean) } : Jvm.ClassFile.MethodDescriptor), captured := [(Jvm.ClassFile.FieldType.object "BadCodes"), (Jvm.ClassFile.FieldType.object "BadCodes$Office")], kind := 5, implClass := "BadCodes", implName := "lambda$gap$9", implDesc := ({ parameters := [(Jvm.ClassFile.FieldType.object "BadCodes$Office"), Jvm.ClassFile.FieldType.int], returnType := (Option.some Jvm.ClassFile.FieldType.boolean) } : Jvm.ClassFile.MethodDescriptor), implItf := false, inst := ({ parameters := [Jvm.ClassFile.FieldType.int], returnType := (Option.some Jvm.ClassFile.FieldType.boolean) } : Jvm.ClassFile.MethodDescriptor) } : Jvm.Lambda.Shape)
def laX9 : MethodName := ⟨"BadCodes", "gap", "()I"⟩
def laY9 : MethodName := ⟨"BadCodes", "lambda$gap$9", "(LBadCodes$Office;I)Z"⟩
theorem laW9 : siteWord_1_10 = .lambdaSite laX9 14 340 laS9 := rfl
theorem laK9 : laOK laS9 laBD 27 laY9 [(17, 0), (19, 1)] = true := by decide +kernel
theorem laT9 : ((laS9.file "BadCodes").bind (layoutFields · 0)).map (·.2.1) = some #[.object "BadCodes", .object "BadCodes$Office"] := by decide +kernel
theorem laN9 : laS9.implClass = "BadCodes" ∧ laS9.implName = laY9.name ∧ laS9.implDesc.toString = laY9.desc ∧ laS9.implItf = false ∧ laS9.iface = "BadCodes$Test" ∧ laS9.name = "isSo" ∧ laS9.sam.toString = "(I)Z" ∧ laS9.captured ≠ [] := by decide +kernel
def laS10 : Lambda.Shape := ({ iface := "BadCodes$Test", name := "isSo", sam := ({ parameters := [Jvm.ClassFile.FieldType.int], returnType := (Option.some Jvm.ClassFile.FieldType.boolean) } : Jvm.ClassFile.MethodDescriptor), captured := [(Jvm.ClassFile.FieldType.object "BadCodes$Office"), Jvm.ClassFile.FieldType.int], kind := 6, implClass := "BadCodes", implName := "lambda$decidedIn$10", implDesc := ({ parameters := [(Jvm.ClassFile.FieldType.object "BadCodes$Office"), Jvm.ClassFile.FieldType.int, Jvm.ClassFile.FieldType.int], returnType := (Option.some Jvm.ClassFile.FieldType.boolean) } : Jvm.ClassFile.MethodDescriptor), implItf := false, inst := ({ parameters := [Jvm.ClassFile.FieldType.int], returnType := (Option.some Jvm.ClassFile.FieldType.boolean) } : Jvm.ClassFile.MethodDescriptor) } : Jvm.Lambda.Shape)
def laX10 : MethodName := ⟨"BadCodes", "decidedIn", "(LBadCodes$Office;I)I"⟩
def laY10 : MethodName := ⟨"BadCodes", "lambda$decidedIn$10", "(LBadCodes$Office;II)Z"⟩
theorem laW10 : siteWord_1_11 = .lambdaSite laX10 9 362 laS10 := rfl
theorem laK10 : laOK laS10 laBC 27 laY10 [(17, 0), (19, 1)] = true := by decide +kernel
theorem laT10 : ((laS10.file "BadCodes").bind (layoutFields · 0)).map (·.2.1) = some #[.object "BadCodes$Office", .int] := by decide +kernel
theorem laN10 : laS10.implClass = "BadCodes" ∧ laS10.implName = laY10.name ∧ laS10.implDesc.toString = laY10.desc ∧ laS10.implItf = false ∧ laS10.iface = "BadCodes$Test" ∧ laS10.name = "isSo" ∧ laS10.sam.toString = "(I)Z" ∧ laS10.captured ≠ [] := by decide +kernel
def laS11 : Lambda.Shape := ({ iface := "BadCodes$Test", name := "isSo", sam := ({ parameters := [Jvm.ClassFile.FieldType.int], returnType := (Option.some Jvm.ClassFile.FieldType.boolean) } : Jvm.ClassFile.MethodDescriptor), captured := [(Jvm.ClassFile.FieldType.object "BadCodes$Office")], kind := 6, implClass := "BadCodes", implName := "lambda$decidedIn$11", implDesc := ({ parameters := [(Jvm.ClassFile.FieldType.object "BadCodes$Office"), Jvm.ClassFile.FieldType.int], returnType := (Option.some Jvm.ClassFile.FieldType.boolean) } : Jvm.ClassFile.MethodDescriptor), implItf := false, inst := ({ parameters := [Jvm.ClassFile.FieldType.int], returnType := (Option.some Jvm.ClassFile.FieldType.boolean) } : Jvm.ClassFile.MethodDescriptor) } : Jvm.Lambda.Shape)
def laX11 : MethodName := ⟨"BadCodes", "decidedIn", "(LBadCodes$Office;I)I"⟩
def laY11 : MethodName := ⟨"BadCodes", "lambda$decidedIn$11", "(LBadCodes$Office;I)Z"⟩
theorem laW11 : siteWord_1_12 = .lambdaSite laX11 18 363 laS11 := rfl
theorem laK11 : laOK laS11 laBB 23 laY11 [(15, 0)] = true := by decide +kernel
theorem laT11 : ((laS11.file "BadCodes").bind (layoutFields · 0)).map (·.2.1) = some #[.object "BadCodes$Office"] := by decide +kernel
theorem laN11 : laS11.implClass = "BadCodes" ∧ laS11.implName = laY11.name ∧ laS11.implDesc.toString = laY11.desc ∧ laS11.implItf = false ∧ laS11.iface = "BadCodes$Test" ∧ laS11.name = "isSo" ∧ laS11.sam.toString = "(I)Z" ∧ laS11.captured ≠ [] := by decide +kernel
