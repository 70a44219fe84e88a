/-! ===== the classes of the lambdas (printed by gen/mklam.py) ===== -/
set_option maxRecDepth 100000
def fwA : ByteArray := ⟨#[0x2a, 0xb4, 0x00, 0x0f, 0x1b, 0x1c, 0xb6, 0x00, 0x16, 0xac]⟩
theorem fwA_0 : decode fwA 0 = .ok (.aload_n 0, 1) := by decide +kernel
theorem fwA_1 : decode fwA 1 = .ok (.getfield 15, 3) := by decide +kernel
theorem fwA_4 : decode fwA 4 = .ok (.iload_n 1, 1) := by decide +kernel
theorem fwA_5 : decode fwA 5 = .ok (.iload_n 2, 1) := by decide +kernel
theorem fwA_6 : decode fwA 6 = .ok (.invokevirtual 22, 3) := by decide +kernel
theorem fwA_9 : decode fwA 9 = .ok (.ireturn, 1) := by decide +kernel
def fwB : ByteArray := ⟨#[0x2a, 0xb4, 0x00, 0x0f, 0x1b, 0x1c, 0xb8, 0x00, 0x17, 0xac]⟩
theorem fwB_0 : decode fwB 0 = .ok (.aload_n 0, 1) := by decide +kernel
theorem fwB_1 : decode fwB 1 = .ok (.getfield 15, 3) := by decide +kernel
theorem fwB_4 : decode fwB 4 = .ok (.iload_n 1, 1) := by decide +kernel
theorem fwB_5 : decode fwB 5 = .ok (.iload_n 2, 1) := by decide +kernel
theorem fwB_6 : decode fwB 6 = .ok (.invokestatic 23, 3) := by decide +kernel
theorem fwB_9 : decode fwB 9 = .ok (.ireturn, 1) := by decide +kernel
def fwC : ByteArray := ⟨#[0x2a, 0xb4, 0x00, 0x11, 0x2a, 0xb4, 0x00, 0x13, 0x1b, 0x1c, 0xb6, 0x00, 0x1b, 0xac]⟩
theorem fwC_0 : decode fwC 0 = .ok (.aload_n 0, 1) := by decide +kernel
theorem fwC_1 : decode fwC 1 = .ok (.getfield 17, 3) := by decide +kernel
theorem fwC_4 : decode fwC 4 = .ok (.aload_n 0, 1) := by decide +kernel
theorem fwC_5 : decode fwC 5 = .ok (.getfield 19, 3) := by decide +kernel
theorem fwC_8 : decode fwC 8 = .ok (.iload_n 1, 1) := by decide +kernel
theorem fwC_9 : decode fwC 9 = .ok (.iload_n 2, 1) := by decide +kernel
theorem fwC_10 : decode fwC 10 = .ok (.invokevirtual 27, 3) := by decide +kernel
theorem fwC_13 : decode fwC 13 = .ok (.ireturn, 1) := by decide +kernel
def sg1 : Lambda.Shape := ({ iface := "LineDispatch$Before", name := "is", sam := ({ parameters := [Jvm.ClassFile.FieldType.int, Jvm.ClassFile.FieldType.int], returnType := (Option.some Jvm.ClassFile.FieldType.boolean) } : Jvm.ClassFile.MethodDescriptor), captured := [(Jvm.ClassFile.FieldType.object "LineDispatch")], kind := 5, implClass := "LineDispatch", implName := "lambda$rule$0", implDesc := ({ parameters := [Jvm.ClassFile.FieldType.int, Jvm.ClassFile.FieldType.int], returnType := (Option.some Jvm.ClassFile.FieldType.boolean) } : Jvm.ClassFile.MethodDescriptor), implItf := false, inst := ({ parameters := [Jvm.ClassFile.FieldType.int, Jvm.ClassFile.FieldType.int], returnType := (Option.some Jvm.ClassFile.FieldType.boolean) } : Jvm.ClassFile.MethodDescriptor) } : Jvm.Lambda.Shape)
theorem sg1_is : siteWord_1_1 = .lambdaSite ({ cls := "LineDispatch", name := "rule", desc := "(I)I" } : Jvm.MethodName) 78 162 sg1 := rfl
def lD1 : ClassFile := (sg1.file "LineDispatch").getD { minorVersion := 0, majorVersion := 0, constantPool := #[], accessFlags := 0, thisClass := 0, superClass := 0, interfaces := #[], fields := #[], methods := #[], attributes := #[] }
def lF1 : Method := ((layoutMethods lD1).bind (·[1]?)).getD default
def lL1 : Array Field × Array FieldType × Array FieldType := (layoutFields lD1 0).getD (#[], #[], #[])
theorem lD1_is : sg1.file "LineDispatch" = some lD1 := by
  have h : (sg1.file "LineDispatch").isSome = true := by decide +kernel
  obtain ⟨x, hx⟩ := Option.isSome_iff_exists.mp h
  simp [lD1, hx]
theorem lF1_is : ∀ ms, layoutMethods lD1 = some ms → ms[1]? = some lF1 := by
  intro ms hms
  have h : ((layoutMethods lD1).bind (·[1]?)).isSome = true := by decide +kernel
  obtain ⟨x, hx⟩ := Option.isSome_iff_exists.mp h
  have hf : lF1 = x := by simp [lF1, hx]
  rw [hms] at hx
  rw [hf]
  exact hx
theorem lL1_is : layoutFields lD1 0 = some lL1 := by
  have h : (layoutFields lD1 0).isSome = true := by decide +kernel
  obtain ⟨x, hx⟩ := Option.isSome_iff_exists.mp h
  simp [lL1, hx]
theorem lc1 : (lF1.code.map fun c => (c.code.data, c.maxLocals)) = some (fwA.data, 3) := by decide +kernel
theorem lf1 : (lF1.accessFlags, lF1.name, lF1.sig.returnType) = (0x0001, "is", some FieldType.boolean) := by decide +kernel
theorem lm1 : lD1.constantPool[22]? = some (.methodref 19 21) ∧ lD1.constantPool.className? 19 = some "LineDispatch" ∧ lD1.constantPool.nameAndType? 21 = some ("lambda$rule$0", "(II)Z") := by decide +kernel
theorem lk1 : lD1.constantPool[19]? = some (.class_ 18) ∧ lD1.constantPool.string? 18 = some "LineDispatch" ∧ 19 ≠ lD1.thisClass := by decide +kernel
theorem lg1_0 : lD1.constantPool[15]? = some (.fieldref 2 14) ∧ lD1.constantPool.nameAndType? 14 = some ("arg$1", "LLineDispatch;") ∧ lL1.1.findIdx? (·.name == "arg$1") = some 0 ∧ (lL1.1[0]?).map (fun f => (f.isStatic, f.slot)) = some (false, 0) := by decide +kernel
theorem lt1 : lL1.2.1 = #[.object "LineDispatch"] := by decide +kernel
theorem made1 {e : Setting} {vm : Vm} {d c : ClassId} {dk : Class} (hd : vm.classes[d]? = some dk) (hname : dk.name = "LineDispatch") (h : Lambda.isMade e vm d sg1 c = true) (hO : ∀ o ok, vm.findClass "java/lang/Object" = some o → vm.classes[o]? = some ok → ok.instanceTypes.size = 0) :
    ∃ (k tk : Class) (file : ClassFile) (methk : Method) (ck : Code) (toy : ClassId) (t : MethodId) (g0 : Field), vm.classes[c]? = some k ∧ k.name = "LineDispatch$$Lambda" ∧ k.cf = some file ∧ file.constantPool = lD1.constantPool ∧
      vm.method? ⟨c, 1⟩ = some methk ∧ methk.code = some ck ∧ ck.code = fwA ∧ ck.maxLocals = 3 ∧ methk.locks = false ∧ methk.accessFlags = 0x0001 ∧ methk.sig.returnType = some .boolean ∧
      vm.findClass "LineDispatch" = some toy ∧ vm.classes[toy]? = some tk ∧ tk.isInterface = false ∧ ((methodIn toy "lambda$rule$0" "(II)Z" tk.isInterface none).ask e vm).1 = .ok t ∧
      vm.methodReady c 22 t ∧ vm.classReady c 19 toy ∧ vm.fieldReady c 15 c g0 ∧ g0.isStatic = false ∧ g0.slot = 0 ∧ k.instanceTypes = #[.object "LineDispatch"] ∧ k.kind = .ordinary := by
  obtain ⟨dk', k, ok, tk, file, cf, object, iface, toy, lay, methods, target, found, hd', hk, hfile, hcf, hobj, -, hok, hlay, hms, ht, htk, hg, -, hrec, -, -, -, hitf, hpool, hmeth, hfields, hty, hres, -⟩ := Lambda.isMade_spec h
  cases hd.symm.trans hd'
  rw [hname, lD1_is] at hcf
  cases hcf
  have hok0 : ok.instanceTypes = #[] := Array.eq_empty_of_size_eq_zero (hO object ok hobj hok)
  rw [hO object ok hobj hok, lL1_is] at hlay
  cases hlay
  obtain ⟨b, hb, hsame⟩ := hmeth 1 lF1 (lF1_is methods hms)
  simp only [Lambda.sameMethod, Bool.and_eq_true, decide_eq_true_eq] at hsame
  obtain ⟨⟨hn, -, hsig, hfl⟩, hcode⟩ := hsame
  have fc := lc1
  have ff := lf1
  simp only [Prod.mk.injEq] at ff
  obtain ⟨g0, hg0, hp0⟩ := Option.map_eq_some_iff.mp lg1_0.2.2.2
  simp only [Prod.mk.injEq] at hp0
  cases hfc : lF1.code with
  | none => rw [hfc] at fc; cases fc
  | some x =>
    cases hbc : b.code with
    | none => simp [hfc, hbc] at hcode
    | some y =>
      simp only [hfc, hbc, Bool.and_eq_true, decide_eq_true_eq] at hcode
      simp only [hfc, Option.map_some, Option.some.injEq, Prod.mk.injEq] at fc
      refine ⟨k, tk, file, b, y, toy, target, g0, hk, by rw [hrec.1, hname]; rfl, hfile, hpool.2.1, by simp [Vm.method?, hk, hb], hbc, ?_, by rw [← hcode.1.1.1.1.2.1]; exact fc.2, ?_, by rw [← hfl]; exact ff.1, by rw [← hsig]; exact ff.2.2, ht, htk, hitf, hg,
        ⟨k, hk, hres 22 _ (Lambda.resolvedOf_method lm1.1 lm1.2.1 ht htk lm1.2.2 hg)⟩, ⟨k, hk, hres 19 _ (Lambda.resolvedOf_class lk1.1 lk1.2.2 lk1.2.1 ht)⟩, ⟨k, 0, k, hk, hres 15 _ (Lambda.resolvedOf_field lg1_0.1 lg1_0.2.1 lg1_0.2.2.1), hk, hfields 0 _ hg0⟩, hp0.1, hp0.2, by rw [hty.1, hok0, lt1]; rfl, hrec.2.1⟩
      · rw [← hcode.1.1.1.1.2.2]
        exact ByteArray.ext fc.1
      · simp [Method.locks, Method.isSynchronized, ← hfl, ff.1, hasFlag, Acc.synchronized]
def sg2 : Lambda.Shape := ({ iface := "LineDispatch$Before", name := "is", sam := ({ parameters := [Jvm.ClassFile.FieldType.int, Jvm.ClassFile.FieldType.int], returnType := (Option.some Jvm.ClassFile.FieldType.boolean) } : Jvm.ClassFile.MethodDescriptor), captured := [(Jvm.ClassFile.FieldType.object "LineDispatch")], kind := 5, implClass := "LineDispatch", implName := "lambda$rule$1", implDesc := ({ parameters := [Jvm.ClassFile.FieldType.int, Jvm.ClassFile.FieldType.int], returnType := (Option.some Jvm.ClassFile.FieldType.boolean) } : Jvm.ClassFile.MethodDescriptor), implItf := false, inst := ({ parameters := [Jvm.ClassFile.FieldType.int, Jvm.ClassFile.FieldType.int], returnType := (Option.some Jvm.ClassFile.FieldType.boolean) } : Jvm.ClassFile.MethodDescriptor) } : Jvm.Lambda.Shape)
theorem sg2_is : siteWord_1_2 = .lambdaSite ({ cls := "LineDispatch", name := "rule", desc := "(I)I" } : Jvm.MethodName) 89 169 sg2 := rfl
def lD2 : ClassFile := (sg2.file "LineDispatch").getD { minorVersion := 0, majorVersion := 0, constantPool := #[], accessFlags := 0, thisClass := 0, superClass := 0, interfaces := #[], fields := #[], methods := #[], attributes := #[] }
def lF2 : Method := ((layoutMethods lD2).bind (·[1]?)).getD default
def lL2 : Array Field × Array FieldType × Array FieldType := (layoutFields lD2 0).getD (#[], #[], #[])
theorem lD2_is : sg2.file "LineDispatch" = some lD2 := by
  have h : (sg2.file "LineDispatch").isSome = true := by decide +kernel
  obtain ⟨x, hx⟩ := Option.isSome_iff_exists.mp h
  simp [lD2, hx]
theorem lF2_is : ∀ ms, layoutMethods lD2 = some ms → ms[1]? = some lF2 := by
  intro ms hms
  have h : ((layoutMethods lD2).bind (·[1]?)).isSome = true := by decide +kernel
  obtain ⟨x, hx⟩ := Option.isSome_iff_exists.mp h
  have hf : lF2 = x := by simp [lF2, hx]
  rw [hms] at hx
  rw [hf]
  exact hx
theorem lL2_is : layoutFields lD2 0 = some lL2 := by
  have h : (layoutFields lD2 0).isSome = true := by decide +kernel
  obtain ⟨x, hx⟩ := Option.isSome_iff_exists.mp h
  simp [lL2, hx]
theorem lc2 : (lF2.code.map fun c => (c.code.data, c.maxLocals)) = some (fwA.data, 3) := by decide +kernel
theorem lf2 : (lF2.accessFlags, lF2.name, lF2.sig.returnType) = (0x0001, "is", some FieldType.boolean) := by decide +kernel
theorem lm2 : lD2.constantPool[22]? = some (.methodref 19 21) ∧ lD2.constantPool.className? 19 = some "LineDispatch" ∧ lD2.constantPool.nameAndType? 21 = some ("lambda$rule$1", "(II)Z") := by decide +kernel
theorem lk2 : lD2.constantPool[19]? = some (.class_ 18) ∧ lD2.constantPool.string? 18 = some "LineDispatch" ∧ 19 ≠ lD2.thisClass := by decide +kernel
theorem lg2_0 : lD2.constantPool[15]? = some (.fieldref 2 14) ∧ lD2.constantPool.nameAndType? 14 = some ("arg$1", "LLineDispatch;") ∧ lL2.1.findIdx? (·.name == "arg$1") = some 0 ∧ (lL2.1[0]?).map (fun f => (f.isStatic, f.slot)) = some (false, 0) := by decide +kernel
theorem lt2 : lL2.2.1 = #[.object "LineDispatch"] := by decide +kernel
theorem made2 {e : Setting} {vm : Vm} {d c : ClassId} {dk : Class} (hd : vm.classes[d]? = some dk) (hname : dk.name = "LineDispatch") (h : Lambda.isMade e vm d sg2 c = true) (hO : ∀ o ok, vm.findClass "java/lang/Object" = some o → vm.classes[o]? = some ok → ok.instanceTypes.size = 0) :
    ∃ (k tk : Class) (file : ClassFile) (methk : Method) (ck : Code) (toy : ClassId) (t : MethodId) (g0 : Field), vm.classes[c]? = some k ∧ k.name = "LineDispatch$$Lambda" ∧ k.cf = some file ∧ file.constantPool = lD2.constantPool ∧
      vm.method? ⟨c, 1⟩ = some methk ∧ methk.code = some ck ∧ ck.code = fwA ∧ ck.maxLocals = 3 ∧ methk.locks = false ∧ methk.accessFlags = 0x0001 ∧ methk.sig.returnType = some .boolean ∧
      vm.findClass "LineDispatch" = some toy ∧ vm.classes[toy]? = some tk ∧ tk.isInterface = false ∧ ((methodIn toy "lambda$rule$1" "(II)Z" tk.isInterface none).ask e vm).1 = .ok t ∧
      vm.methodReady c 22 t ∧ vm.classReady c 19 toy ∧ vm.fieldReady c 15 c g0 ∧ g0.isStatic = false ∧ g0.slot = 0 ∧ k.instanceTypes = #[.object "LineDispatch"] ∧ k.kind = .ordinary := by
  obtain ⟨dk', k, ok, tk, file, cf, object, iface, toy, lay, methods, target, found, hd', hk, hfile, hcf, hobj, -, hok, hlay, hms, ht, htk, hg, -, hrec, -, -, -, hitf, hpool, hmeth, hfields, hty, hres, -⟩ := Lambda.isMade_spec h
  cases hd.symm.trans hd'
  rw [hname, lD2_is] at hcf
  cases hcf
  have hok0 : ok.instanceTypes = #[] := Array.eq_empty_of_size_eq_zero (hO object ok hobj hok)
  rw [hO object ok hobj hok, lL2_is] at hlay
  cases hlay
  obtain ⟨b, hb, hsame⟩ := hmeth 1 lF2 (lF2_is methods hms)
  simp only [Lambda.sameMethod, Bool.and_eq_true, decide_eq_true_eq] at hsame
  obtain ⟨⟨hn, -, hsig, hfl⟩, hcode⟩ := hsame
  have fc := lc2
  have ff := lf2
  simp only [Prod.mk.injEq] at ff
  obtain ⟨g0, hg0, hp0⟩ := Option.map_eq_some_iff.mp lg2_0.2.2.2
  simp only [Prod.mk.injEq] at hp0
  cases hfc : lF2.code with
  | none => rw [hfc] at fc; cases fc
  | some x =>
    cases hbc : b.code with
    | none => simp [hfc, hbc] at hcode
    | some y =>
      simp only [hfc, hbc, Bool.and_eq_true, decide_eq_true_eq] at hcode
      simp only [hfc, Option.map_some, Option.some.injEq, Prod.mk.injEq] at fc
      refine ⟨k, tk, file, b, y, toy, target, g0, hk, by rw [hrec.1, hname]; rfl, hfile, hpool.2.1, by simp [Vm.method?, hk, hb], hbc, ?_, by rw [← hcode.1.1.1.1.2.1]; exact fc.2, ?_, by rw [← hfl]; exact ff.1, by rw [← hsig]; exact ff.2.2, ht, htk, hitf, hg,
        ⟨k, hk, hres 22 _ (Lambda.resolvedOf_method lm2.1 lm2.2.1 ht htk lm2.2.2 hg)⟩, ⟨k, hk, hres 19 _ (Lambda.resolvedOf_class lk2.1 lk2.2.2 lk2.2.1 ht)⟩, ⟨k, 0, k, hk, hres 15 _ (Lambda.resolvedOf_field lg2_0.1 lg2_0.2.1 lg2_0.2.2.1), hk, hfields 0 _ hg0⟩, hp0.1, hp0.2, by rw [hty.1, hok0, lt2]; rfl, hrec.2.1⟩
      · rw [← hcode.1.1.1.1.2.2]
        exact ByteArray.ext fc.1
      · simp [Method.locks, Method.isSynchronized, ← hfl, ff.1, hasFlag, Acc.synchronized]
def sg3 : Lambda.Shape := ({ iface := "LineDispatch$Before", name := "is", sam := ({ parameters := [Jvm.ClassFile.FieldType.int, Jvm.ClassFile.FieldType.int], returnType := (Option.some Jvm.ClassFile.FieldType.boolean) } : Jvm.ClassFile.MethodDescriptor), captured := [(Jvm.ClassFile.FieldType.object "LineDispatch")], kind := 5, implClass := "LineDispatch", implName := "lambda$rule$2", implDesc := ({ parameters := [Jvm.ClassFile.FieldType.int, Jvm.ClassFile.FieldType.int], returnType := (Option.some Jvm.ClassFile.FieldType.boolean) } : Jvm.ClassFile.MethodDescriptor), implItf := false, inst := ({ parameters := [Jvm.ClassFile.FieldType.int, Jvm.ClassFile.FieldType.int], returnType := (Option.some Jvm.ClassFile.FieldType.boolean) } : Jvm.ClassFile.MethodDescriptor) } : Jvm.Lambda.Shape)
theorem sg3_is : siteWord_1_3 = .lambdaSite ({ cls := "LineDispatch", name := "rule", desc := "(I)I" } : Jvm.MethodName) 128 179 sg3 := rfl
def lD3 : ClassFile := (sg3.file "LineDispatch").getD { minorVersion := 0, majorVersion := 0, constantPool := #[], accessFlags := 0, thisClass := 0, superClass := 0, interfaces := #[], fields := #[], methods := #[], attributes := #[] }
def lF3 : Method := ((layoutMethods lD3).bind (·[1]?)).getD default
def lL3 : Array Field × Array FieldType × Array FieldType := (layoutFields lD3 0).getD (#[], #[], #[])
theorem lD3_is : sg3.file "LineDispatch" = some lD3 := by
  have h : (sg3.file "LineDispatch").isSome = true := by decide +kernel
  obtain ⟨x, hx⟩ := Option.isSome_iff_exists.mp h
  simp [lD3, hx]
theorem lF3_is : ∀ ms, layoutMethods lD3 = some ms → ms[1]? = some lF3 := by
  intro ms hms
  have h : ((layoutMethods lD3).bind (·[1]?)).isSome = true := by decide +kernel
  obtain ⟨x, hx⟩ := Option.isSome_iff_exists.mp h
  have hf : lF3 = x := by simp [lF3, hx]
  rw [hms] at hx
  rw [hf]
  exact hx
theorem lL3_is : layoutFields lD3 0 = some lL3 := by
  have h : (layoutFields lD3 0).isSome = true := by decide +kernel
  obtain ⟨x, hx⟩ := Option.isSome_iff_exists.mp h
  simp [lL3, hx]
theorem lc3 : (lF3.code.map fun c => (c.code.data, c.maxLocals)) = some (fwA.data, 3) := by decide +kernel
theorem lf3 : (lF3.accessFlags, lF3.name, lF3.sig.returnType) = (0x0001, "is", some FieldType.boolean) := by decide +kernel
theorem lm3 : lD3.constantPool[22]? = some (.methodref 19 21) ∧ lD3.constantPool.className? 19 = some "LineDispatch" ∧ lD3.constantPool.nameAndType? 21 = some ("lambda$rule$2", "(II)Z") := by decide +kernel
theorem lk3 : lD3.constantPool[19]? = some (.class_ 18) ∧ lD3.constantPool.string? 18 = some "LineDispatch" ∧ 19 ≠ lD3.thisClass := by decide +kernel
theorem lg3_0 : lD3.constantPool[15]? = some (.fieldref 2 14) ∧ lD3.constantPool.nameAndType? 14 = some ("arg$1", "LLineDispatch;") ∧ lL3.1.findIdx? (·.name == "arg$1") = some 0 ∧ (lL3.1[0]?).map (fun f => (f.isStatic, f.slot)) = some (false, 0) := by decide +kernel
theorem lt3 : lL3.2.1 = #[.object "LineDispatch"] := by decide +kernel
theorem made3 {e : Setting} {vm : Vm} {d c : ClassId} {dk : Class} (hd : vm.classes[d]? = some dk) (hname : dk.name = "LineDispatch") (h : Lambda.isMade e vm d sg3 c = true) (hO : ∀ o ok, vm.findClass "java/lang/Object" = some o → vm.classes[o]? = some ok → ok.instanceTypes.size = 0) :
    ∃ (k tk : Class) (file : ClassFile) (methk : Method) (ck : Code) (toy : ClassId) (t : MethodId) (g0 : Field), vm.classes[c]? = some k ∧ k.name = "LineDispatch$$Lambda" ∧ k.cf = some file ∧ file.constantPool = lD3.constantPool ∧
      vm.method? ⟨c, 1⟩ = some methk ∧ methk.code = some ck ∧ ck.code = fwA ∧ ck.maxLocals = 3 ∧ methk.locks = false ∧ methk.accessFlags = 0x0001 ∧ methk.sig.returnType = some .boolean ∧
      vm.findClass "LineDispatch" = some toy ∧ vm.classes[toy]? = some tk ∧ tk.isInterface = false ∧ ((methodIn toy "lambda$rule$2" "(II)Z" tk.isInterface none).ask e vm).1 = .ok t ∧
      vm.methodReady c 22 t ∧ vm.classReady c 19 toy ∧ vm.fieldReady c 15 c g0 ∧ g0.isStatic = false ∧ g0.slot = 0 ∧ k.instanceTypes = #[.object "LineDispatch"] ∧ k.kind = .ordinary := by
  obtain ⟨dk', k, ok, tk, file, cf, object, iface, toy, lay, methods, target, found, hd', hk, hfile, hcf, hobj, -, hok, hlay, hms, ht, htk, hg, -, hrec, -, -, -, hitf, hpool, hmeth, hfields, hty, hres, -⟩ := Lambda.isMade_spec h
  cases hd.symm.trans hd'
  rw [hname, lD3_is] at hcf
  cases hcf
  have hok0 : ok.instanceTypes = #[] := Array.eq_empty_of_size_eq_zero (hO object ok hobj hok)
  rw [hO object ok hobj hok, lL3_is] at hlay
  cases hlay
  obtain ⟨b, hb, hsame⟩ := hmeth 1 lF3 (lF3_is methods hms)
  simp only [Lambda.sameMethod, Bool.and_eq_true, decide_eq_true_eq] at hsame
  obtain ⟨⟨hn, -, hsig, hfl⟩, hcode⟩ := hsame
  have fc := lc3
  have ff := lf3
  simp only [Prod.mk.injEq] at ff
  obtain ⟨g0, hg0, hp0⟩ := Option.map_eq_some_iff.mp lg3_0.2.2.2
  simp only [Prod.mk.injEq] at hp0
  cases hfc : lF3.code with
  | none => rw [hfc] at fc; cases fc
  | some x =>
    cases hbc : b.code with
    | none => simp [hfc, hbc] at hcode
    | some y =>
      simp only [hfc, hbc, Bool.and_eq_true, decide_eq_true_eq] at hcode
      simp only [hfc, Option.map_some, Option.some.injEq, Prod.mk.injEq] at fc
      refine ⟨k, tk, file, b, y, toy, target, g0, hk, by rw [hrec.1, hname]; rfl, hfile, hpool.2.1, by simp [Vm.method?, hk, hb], hbc, ?_, by rw [← hcode.1.1.1.1.2.1]; exact fc.2, ?_, by rw [← hfl]; exact ff.1, by rw [← hsig]; exact ff.2.2, ht, htk, hitf, hg,
        ⟨k, hk, hres 22 _ (Lambda.resolvedOf_method lm3.1 lm3.2.1 ht htk lm3.2.2 hg)⟩, ⟨k, hk, hres 19 _ (Lambda.resolvedOf_class lk3.1 lk3.2.2 lk3.2.1 ht)⟩, ⟨k, 0, k, hk, hres 15 _ (Lambda.resolvedOf_field lg3_0.1 lg3_0.2.1 lg3_0.2.2.1), hk, hfields 0 _ hg0⟩, hp0.1, hp0.2, by rw [hty.1, hok0, lt3]; rfl, hrec.2.1⟩
      · rw [← hcode.1.1.1.1.2.2]
        exact ByteArray.ext fc.1
      · simp [Method.locks, Method.isSynchronized, ← hfl, ff.1, hasFlag, Acc.synchronized]
def sg4 : Lambda.Shape := ({ iface := "LineDispatch$Before", name := "is", sam := ({ parameters := [Jvm.ClassFile.FieldType.int, Jvm.ClassFile.FieldType.int], returnType := (Option.some Jvm.ClassFile.FieldType.boolean) } : Jvm.ClassFile.MethodDescriptor), captured := [(Jvm.ClassFile.FieldType.object "LineDispatch"), Jvm.ClassFile.FieldType.int], kind := 5, implClass := "LineDispatch", implName := "lambda$place$3", implDesc := ({ parameters := [Jvm.ClassFile.FieldType.int, Jvm.ClassFile.FieldType.int, Jvm.ClassFile.FieldType.int], returnType := (Option.some Jvm.ClassFile.FieldType.boolean) } : Jvm.ClassFile.MethodDescriptor), implItf := false, inst := ({ parameters := [Jvm.ClassFile.FieldType.int, Jvm.ClassFile.FieldType.int], returnType := (Option.some Jvm.ClassFile.FieldType.boolean) } : Jvm.ClassFile.MethodDescriptor) } : Jvm.Lambda.Shape)
theorem sg4_is : siteWord_1_4 = .lambdaSite ({ cls := "LineDispatch", name := "place", desc := "(II)I" } : Jvm.MethodName) 93 190 sg4 := rfl
def lD4 : ClassFile := (sg4.file "LineDispatch").getD { minorVersion := 0, majorVersion := 0, constantPool := #[], accessFlags := 0, thisClass := 0, superClass := 0, interfaces := #[], fields := #[], methods := #[], attributes := #[] }
def lF4 : Method := ((layoutMethods lD4).bind (·[1]?)).getD default
def lL4 : Array Field × Array FieldType × Array FieldType := (layoutFields lD4 0).getD (#[], #[], #[])
theorem lD4_is : sg4.file "LineDispatch" = some lD4 := by
  have h : (sg4.file "LineDispatch").isSome = true := by decide +kernel
  obtain ⟨x, hx⟩ := Option.isSome_iff_exists.mp h
  simp [lD4, hx]
theorem lF4_is : ∀ ms, layoutMethods lD4 = some ms → ms[1]? = some lF4 := by
  intro ms hms
  have h : ((layoutMethods lD4).bind (·[1]?)).isSome = true := by decide +kernel
  obtain ⟨x, hx⟩ := Option.isSome_iff_exists.mp h
  have hf : lF4 = x := by simp [lF4, hx]
  rw [hms] at hx
  rw [hf]
  exact hx
theorem lL4_is : layoutFields lD4 0 = some lL4 := by
  have h : (layoutFields lD4 0).isSome = true := by decide +kernel
  obtain ⟨x, hx⟩ := Option.isSome_iff_exists.mp h
  simp [lL4, hx]
theorem lc4 : (lF4.code.map fun c => (c.code.data, c.maxLocals)) = some (fwC.data, 3) := by decide +kernel
theorem lf4 : (lF4.accessFlags, lF4.name, lF4.sig.returnType) = (0x0001, "is", some FieldType.boolean) := by decide +kernel
theorem lm4 : lD4.constantPool[27]? = some (.methodref 23 26) ∧ lD4.constantPool.className? 23 = some "LineDispatch" ∧ lD4.constantPool.nameAndType? 26 = some ("lambda$place$3", "(III)Z") := by decide +kernel
theorem lk4 : lD4.constantPool[23]? = some (.class_ 22) ∧ lD4.constantPool.string? 22 = some "LineDispatch" ∧ 23 ≠ lD4.thisClass := by decide +kernel
theorem lg4_0 : lD4.constantPool[17]? = some (.fieldref 2 16) ∧ lD4.constantPool.nameAndType? 16 = some ("arg$1", "LLineDispatch;") ∧ lL4.1.findIdx? (·.name == "arg$1") = some 0 ∧ (lL4.1[0]?).map (fun f => (f.isStatic, f.slot)) = some (false, 0) := by decide +kernel
theorem lg4_1 : lD4.constantPool[19]? = some (.fieldref 2 18) ∧ lD4.constantPool.nameAndType? 18 = some ("arg$2", "I") ∧ lL4.1.findIdx? (·.name == "arg$2") = some 1 ∧ (lL4.1[1]?).map (fun f => (f.isStatic, f.slot)) = some (false, 1) := by decide +kernel
theorem lt4 : lL4.2.1 = #[.object "LineDispatch", .int] := by decide +kernel
theorem made4 {e : Setting} {vm : Vm} {d c : ClassId} {dk : Class} (hd : vm.classes[d]? = some dk) (hname : dk.name = "LineDispatch") (h : Lambda.isMade e vm d sg4 c = true) (hO : ∀ o ok, vm.findClass "java/lang/Object" = some o → vm.classes[o]? = some ok → ok.instanceTypes.size = 0) :
    ∃ (k tk : Class) (file : ClassFile) (methk : Method) (ck : Code) (toy : ClassId) (t : MethodId) (g0 : Field) (g1 : Field), vm.classes[c]? = some k ∧ k.name = "LineDispatch$$Lambda" ∧ k.cf = some file ∧ file.constantPool = lD4.constantPool ∧
      vm.method? ⟨c, 1⟩ = some methk ∧ methk.code = some ck ∧ ck.code = fwC ∧ ck.maxLocals = 3 ∧ methk.locks = false ∧ methk.accessFlags = 0x0001 ∧ methk.sig.returnType = some .boolean ∧
      vm.findClass "LineDispatch" = some toy ∧ vm.classes[toy]? = some tk ∧ tk.isInterface = false ∧ ((methodIn toy "lambda$place$3" "(III)Z" tk.isInterface none).ask e vm).1 = .ok t ∧
      vm.methodReady c 27 t ∧ vm.classReady c 23 toy ∧ vm.fieldReady c 17 c g0 ∧ g0.isStatic = false ∧ g0.slot = 0 ∧ vm.fieldReady c 19 c g1 ∧ g1.isStatic = false ∧ g1.slot = 1 ∧ k.instanceTypes = #[.object "LineDispatch", .int] ∧ k.kind = .ordinary := by
  obtain ⟨dk', k, ok, tk, file, cf, object, iface, toy, lay, methods, target, found, hd', hk, hfile, hcf, hobj, -, hok, hlay, hms, ht, htk, hg, -, hrec, -, -, -, hitf, hpool, hmeth, hfields, hty, hres, -⟩ := Lambda.isMade_spec h
  cases hd.symm.trans hd'
  rw [hname, lD4_is] at hcf
  cases hcf
  have hok0 : ok.instanceTypes = #[] := Array.eq_empty_of_size_eq_zero (hO object ok hobj hok)
  rw [hO object ok hobj hok, lL4_is] at hlay
  cases hlay
  obtain ⟨b, hb, hsame⟩ := hmeth 1 lF4 (lF4_is methods hms)
  simp only [Lambda.sameMethod, Bool.and_eq_true, decide_eq_true_eq] at hsame
  obtain ⟨⟨hn, -, hsig, hfl⟩, hcode⟩ := hsame
  have fc := lc4
  have ff := lf4
  simp only [Prod.mk.injEq] at ff
  obtain ⟨g0, hg0, hp0⟩ := Option.map_eq_some_iff.mp lg4_0.2.2.2
  simp only [Prod.mk.injEq] at hp0
  obtain ⟨g1, hg1, hp1⟩ := Option.map_eq_some_iff.mp lg4_1.2.2.2
  simp only [Prod.mk.injEq] at hp1
  cases hfc : lF4.code with
  | none => rw [hfc] at fc; cases fc
  | some x =>
    cases hbc : b.code with
    | none => simp [hfc, hbc] at hcode
    | some y =>
      simp only [hfc, hbc, Bool.and_eq_true, decide_eq_true_eq] at hcode
      simp only [hfc, Option.map_some, Option.some.injEq, Prod.mk.injEq] at fc
      refine ⟨k, tk, file, b, y, toy, target, g0, g1, hk, by rw [hrec.1, hname]; rfl, hfile, hpool.2.1, by simp [Vm.method?, hk, hb], hbc, ?_, by rw [← hcode.1.1.1.1.2.1]; exact fc.2, ?_, by rw [← hfl]; exact ff.1, by rw [← hsig]; exact ff.2.2, ht, htk, hitf, hg,
        ⟨k, hk, hres 27 _ (Lambda.resolvedOf_method lm4.1 lm4.2.1 ht htk lm4.2.2 hg)⟩, ⟨k, hk, hres 23 _ (Lambda.resolvedOf_class lk4.1 lk4.2.2 lk4.2.1 ht)⟩, ⟨k, 0, k, hk, hres 17 _ (Lambda.resolvedOf_field lg4_0.1 lg4_0.2.1 lg4_0.2.2.1), hk, hfields 0 _ hg0⟩, hp0.1, hp0.2, ⟨k, 1, k, hk, hres 19 _ (Lambda.resolvedOf_field lg4_1.1 lg4_1.2.1 lg4_1.2.2.1), hk, hfields 1 _ hg1⟩, hp1.1, hp1.2, by rw [hty.1, hok0, lt4]; rfl, hrec.2.1⟩
      · rw [← hcode.1.1.1.1.2.2]
        exact ByteArray.ext fc.1
      · simp [Method.locks, Method.isSynchronized, ← hfl, ff.1, hasFlag, Acc.synchronized]
def sg5 : Lambda.Shape := ({ iface := "LineDispatch$Before", name := "is", sam := ({ parameters := [Jvm.ClassFile.FieldType.int, Jvm.ClassFile.FieldType.int], returnType := (Option.some Jvm.ClassFile.FieldType.boolean) } : Jvm.ClassFile.MethodDescriptor), captured := [(Jvm.ClassFile.FieldType.object "LineDispatch")], kind := 5, implClass := "LineDispatch", implName := "isLess", implDesc := ({ parameters := [Jvm.ClassFile.FieldType.int, Jvm.ClassFile.FieldType.int], returnType := (Option.some Jvm.ClassFile.FieldType.boolean) } : Jvm.ClassFile.MethodDescriptor), implItf := false, inst := ({ parameters := [Jvm.ClassFile.FieldType.int, Jvm.ClassFile.FieldType.int], returnType := (Option.some Jvm.ClassFile.FieldType.boolean) } : Jvm.ClassFile.MethodDescriptor) } : Jvm.Lambda.Shape)
theorem sg5_is : siteWord_1_5 = .lambdaSite ({ cls := "LineDispatch", name := "beforeBy", desc := "(LLineDispatch$Line;I)LLineDispatch$Before;" } : Jvm.MethodName) 29 228 sg5 := rfl
def lD5 : ClassFile := (sg5.file "LineDispatch").getD { minorVersion := 0, majorVersion := 0, constantPool := #[], accessFlags := 0, thisClass := 0, superClass := 0, interfaces := #[], fields := #[], methods := #[], attributes := #[] }
def lF5 : Method := ((layoutMethods lD5).bind (·[1]?)).getD default
def lL5 : Array Field × Array FieldType × Array FieldType := (layoutFields lD5 0).getD (#[], #[], #[])
theorem lD5_is : sg5.file "LineDispatch" = some lD5 := by
  have h : (sg5.file "LineDispatch").isSome = true := by decide +kernel
  obtain ⟨x, hx⟩ := Option.isSome_iff_exists.mp h
  simp [lD5, hx]
theorem lF5_is : ∀ ms, layoutMethods lD5 = some ms → ms[1]? = some lF5 := by
  intro ms hms
  have h : ((layoutMethods lD5).bind (·[1]?)).isSome = true := by decide +kernel
  obtain ⟨x, hx⟩ := Option.isSome_iff_exists.mp h
  have hf : lF5 = x := by simp [lF5, hx]
  rw [hms] at hx
  rw [hf]
  exact hx
theorem lL5_is : layoutFields lD5 0 = some lL5 := by
  have h : (layoutFields lD5 0).isSome = true := by decide +kernel
  obtain ⟨x, hx⟩ := Option.isSome_iff_exists.mp h
  simp [lL5, hx]
theorem lc5 : (lF5.code.map fun c => (c.code.data, c.maxLocals)) = some (fwA.data, 3) := by decide +kernel
theorem lf5 : (lF5.accessFlags, lF5.name, lF5.sig.returnType) = (0x0001, "is", some FieldType.boolean) := by decide +kernel
theorem lm5 : lD5.constantPool[22]? = some (.methodref 19 21) ∧ lD5.constantPool.className? 19 = some "LineDispatch" ∧ lD5.constantPool.nameAndType? 21 = some ("isLess", "(II)Z") := by decide +kernel
theorem lk5 : lD5.constantPool[19]? = some (.class_ 18) ∧ lD5.constantPool.string? 18 = some "LineDispatch" ∧ 19 ≠ lD5.thisClass := by decide +kernel
theorem lg5_0 : lD5.constantPool[15]? = some (.fieldref 2 14) ∧ lD5.constantPool.nameAndType? 14 = some ("arg$1", "LLineDispatch;") ∧ lL5.1.findIdx? (·.name == "arg$1") = some 0 ∧ (lL5.1[0]?).map (fun f => (f.isStatic, f.slot)) = some (false, 0) := by decide +kernel
theorem lt5 : lL5.2.1 = #[.object "LineDispatch"] := by decide +kernel
theorem made5 {e : Setting} {vm : Vm} {d c : ClassId} {dk : Class} (hd : vm.classes[d]? = some dk) (hname : dk.name = "LineDispatch") (h : Lambda.isMade e vm d sg5 c = true) (hO : ∀ o ok, vm.findClass "java/lang/Object" = some o → vm.classes[o]? = some ok → ok.instanceTypes.size = 0) :
    ∃ (k tk : Class) (file : ClassFile) (methk : Method) (ck : Code) (toy : ClassId) (t : MethodId) (g0 : Field), vm.classes[c]? = some k ∧ k.name = "LineDispatch$$Lambda" ∧ k.cf = some file ∧ file.constantPool = lD5.constantPool ∧
      vm.method? ⟨c, 1⟩ = some methk ∧ methk.code = some ck ∧ ck.code = fwA ∧ ck.maxLocals = 3 ∧ methk.locks = false ∧ methk.accessFlags = 0x0001 ∧ methk.sig.returnType = some .boolean ∧
      vm.findClass "LineDispatch" = some toy ∧ vm.classes[toy]? = some tk ∧ tk.isInterface = false ∧ ((methodIn toy "isLess" "(II)Z" tk.isInterface none).ask e vm).1 = .ok t ∧
      vm.methodReady c 22 t ∧ vm.classReady c 19 toy ∧ vm.fieldReady c 15 c g0 ∧ g0.isStatic = false ∧ g0.slot = 0 ∧ k.instanceTypes = #[.object "LineDispatch"] ∧ k.kind = .ordinary := by
  obtain ⟨dk', k, ok, tk, file, cf, object, iface, toy, lay, methods, target, found, hd', hk, hfile, hcf, hobj, -, hok, hlay, hms, ht, htk, hg, -, hrec, -, -, -, hitf, hpool, hmeth, hfields, hty, hres, -⟩ := Lambda.isMade_spec h
  cases hd.symm.trans hd'
  rw [hname, lD5_is] at hcf
  cases hcf
  have hok0 : ok.instanceTypes = #[] := Array.eq_empty_of_size_eq_zero (hO object ok hobj hok)
  rw [hO object ok hobj hok, lL5_is] at hlay
  cases hlay
  obtain ⟨b, hb, hsame⟩ := hmeth 1 lF5 (lF5_is methods hms)
  simp only [Lambda.sameMethod, Bool.and_eq_true, decide_eq_true_eq] at hsame
  obtain ⟨⟨hn, -, hsig, hfl⟩, hcode⟩ := hsame
  have fc := lc5
  have ff := lf5
  simp only [Prod.mk.injEq] at ff
  obtain ⟨g0, hg0, hp0⟩ := Option.map_eq_some_iff.mp lg5_0.2.2.2
  simp only [Prod.mk.injEq] at hp0
  cases hfc : lF5.code with
  | none => rw [hfc] at fc; cases fc
  | some x =>
    cases hbc : b.code with
    | none => simp [hfc, hbc] at hcode
    | some y =>
      simp only [hfc, hbc, Bool.and_eq_true, decide_eq_true_eq] at hcode
      simp only [hfc, Option.map_some, Option.some.injEq, Prod.mk.injEq] at fc
      refine ⟨k, tk, file, b, y, toy, target, g0, hk, by rw [hrec.1, hname]; rfl, hfile, hpool.2.1, by simp [Vm.method?, hk, hb], hbc, ?_, by rw [← hcode.1.1.1.1.2.1]; exact fc.2, ?_, by rw [← hfl]; exact ff.1, by rw [← hsig]; exact ff.2.2, ht, htk, hitf, hg,
        ⟨k, hk, hres 22 _ (Lambda.resolvedOf_method lm5.1 lm5.2.1 ht htk lm5.2.2 hg)⟩, ⟨k, hk, hres 19 _ (Lambda.resolvedOf_class lk5.1 lk5.2.2 lk5.2.1 ht)⟩, ⟨k, 0, k, hk, hres 15 _ (Lambda.resolvedOf_field lg5_0.1 lg5_0.2.1 lg5_0.2.2.1), hk, hfields 0 _ hg0⟩, hp0.1, hp0.2, by rw [hty.1, hok0, lt5]; rfl, hrec.2.1⟩
      · rw [← hcode.1.1.1.1.2.2]
        exact ByteArray.ext fc.1
      · simp [Method.locks, Method.isSynchronized, ← hfl, ff.1, hasFlag, Acc.synchronized]
def sg6 : Lambda.Shape := ({ iface := "LineDispatch$Before", name := "is", sam := ({ parameters := [Jvm.ClassFile.FieldType.int, Jvm.ClassFile.FieldType.int], returnType := (Option.some Jvm.ClassFile.FieldType.boolean) } : Jvm.ClassFile.MethodDescriptor), captured := [(Jvm.ClassFile.FieldType.object "LineDispatch$Line")], kind := 6, implClass := "LineDispatch", implName := "lambda$beforeBy$4", implDesc := ({ parameters := [(Jvm.ClassFile.FieldType.object "LineDispatch$Line"), Jvm.ClassFile.FieldType.int, Jvm.ClassFile.FieldType.int], returnType := (Option.some Jvm.ClassFile.FieldType.boolean) } : Jvm.ClassFile.MethodDescriptor), implItf := false, inst := ({ parameters := [Jvm.ClassFile.FieldType.int, Jvm.ClassFile.FieldType.int], returnType := (Option.some Jvm.ClassFile.FieldType.boolean) } : Jvm.ClassFile.MethodDescriptor) } : Jvm.Lambda.Shape)
theorem sg6_is : siteWord_1_6 = .lambdaSite ({ cls := "LineDispatch", name := "beforeBy", desc := "(LLineDispatch$Line;I)LLineDispatch$Before;" } : Jvm.MethodName) 36 229 sg6 := rfl
def lD6 : ClassFile := (sg6.file "LineDispatch").getD { minorVersion := 0, majorVersion := 0, constantPool := #[], accessFlags := 0, thisClass := 0, superClass := 0, interfaces := #[], fields := #[], methods := #[], attributes := #[] }
def lF6 : Method := ((layoutMethods lD6).bind (·[1]?)).getD default
def lL6 : Array Field × Array FieldType × Array FieldType := (layoutFields lD6 0).getD (#[], #[], #[])
theorem lD6_is : sg6.file "LineDispatch" = some lD6 := by
  have h : (sg6.file "LineDispatch").isSome = true := by decide +kernel
  obtain ⟨x, hx⟩ := Option.isSome_iff_exists.mp h
  simp [lD6, hx]
theorem lF6_is : ∀ ms, layoutMethods lD6 = some ms → ms[1]? = some lF6 := by
  intro ms hms
  have h : ((layoutMethods lD6).bind (·[1]?)).isSome = true := by decide +kernel
  obtain ⟨x, hx⟩ := Option.isSome_iff_exists.mp h
  have hf : lF6 = x := by simp [lF6, hx]
  rw [hms] at hx
  rw [hf]
  exact hx
theorem lL6_is : layoutFields lD6 0 = some lL6 := by
  have h : (layoutFields lD6 0).isSome = true := by decide +kernel
  obtain ⟨x, hx⟩ := Option.isSome_iff_exists.mp h
  simp [lL6, hx]
theorem lc6 : (lF6.code.map fun c => (c.code.data, c.maxLocals)) = some (fwB.data, 3) := by decide +kernel
theorem lf6 : (lF6.accessFlags, lF6.name, lF6.sig.returnType) = (0x0001, "is", some FieldType.boolean) := by decide +kernel
theorem lm6 : lD6.constantPool[23]? = some (.methodref 19 22) ∧ lD6.constantPool.className? 19 = some "LineDispatch" ∧ lD6.constantPool.nameAndType? 22 = some ("lambda$beforeBy$4", "(LLineDispatch$Line;II)Z") := by decide +kernel
theorem lk6 : lD6.constantPool[19]? = some (.class_ 18) ∧ lD6.constantPool.string? 18 = some "LineDispatch" ∧ 19 ≠ lD6.thisClass := by decide +kernel
theorem lg6_0 : lD6.constantPool[15]? = some (.fieldref 2 14) ∧ lD6.constantPool.nameAndType? 14 = some ("arg$1", "LLineDispatch$Line;") ∧ lL6.1.findIdx? (·.name == "arg$1") = some 0 ∧ (lL6.1[0]?).map (fun f => (f.isStatic, f.slot)) = some (false, 0) := by decide +kernel
theorem lt6 : lL6.2.1 = #[.object "LineDispatch$Line"] := by decide +kernel
theorem made6 {e : Setting} {vm : Vm} {d c : ClassId} {dk : Class} (hd : vm.classes[d]? = some dk) (hname : dk.name = "LineDispatch") (h : Lambda.isMade e vm d sg6 c = true) (hO : ∀ o ok, vm.findClass "java/lang/Object" = some o → vm.classes[o]? = some ok → ok.instanceTypes.size = 0) :
    ∃ (k tk : Class) (file : ClassFile) (methk : Method) (ck : Code) (toy : ClassId) (t : MethodId) (g0 : Field), vm.classes[c]? = some k ∧ k.name = "LineDispatch$$Lambda" ∧ k.cf = some file ∧ file.constantPool = lD6.constantPool ∧
      vm.method? ⟨c, 1⟩ = some methk ∧ methk.code = some ck ∧ ck.code = fwB ∧ ck.maxLocals = 3 ∧ methk.locks = false ∧ methk.accessFlags = 0x0001 ∧ methk.sig.returnType = some .boolean ∧
      vm.findClass "LineDispatch" = some toy ∧ vm.classes[toy]? = some tk ∧ tk.isInterface = false ∧ ((methodIn toy "lambda$beforeBy$4" "(LLineDispatch$Line;II)Z" tk.isInterface none).ask e vm).1 = .ok t ∧
      vm.methodReady c 23 t ∧ vm.classReady c 19 toy ∧ vm.fieldReady c 15 c g0 ∧ g0.isStatic = false ∧ g0.slot = 0 ∧ k.instanceTypes = #[.object "LineDispatch$Line"] ∧ k.kind = .ordinary := by
  obtain ⟨dk', k, ok, tk, file, cf, object, iface, toy, lay, methods, target, found, hd', hk, hfile, hcf, hobj, -, hok, hlay, hms, ht, htk, hg, -, hrec, -, -, -, hitf, hpool, hmeth, hfields, hty, hres, -⟩ := Lambda.isMade_spec h
  cases hd.symm.trans hd'
  rw [hname, lD6_is] at hcf
  cases hcf
  have hok0 : ok.instanceTypes = #[] := Array.eq_empty_of_size_eq_zero (hO object ok hobj hok)
  rw [hO object ok hobj hok, lL6_is] at hlay
  cases hlay
  obtain ⟨b, hb, hsame⟩ := hmeth 1 lF6 (lF6_is methods hms)
  simp only [Lambda.sameMethod, Bool.and_eq_true, decide_eq_true_eq] at hsame
  obtain ⟨⟨hn, -, hsig, hfl⟩, hcode⟩ := hsame
  have fc := lc6
  have ff := lf6
  simp only [Prod.mk.injEq] at ff
  obtain ⟨g0, hg0, hp0⟩ := Option.map_eq_some_iff.mp lg6_0.2.2.2
  simp only [Prod.mk.injEq] at hp0
  cases hfc : lF6.code with
  | none => rw [hfc] at fc; cases fc
  | some x =>
    cases hbc : b.code with
    | none => simp [hfc, hbc] at hcode
    | some y =>
      simp only [hfc, hbc, Bool.and_eq_true, decide_eq_true_eq] at hcode
      simp only [hfc, Option.map_some, Option.some.injEq, Prod.mk.injEq] at fc
      refine ⟨k, tk, file, b, y, toy, target, g0, hk, by rw [hrec.1, hname]; rfl, hfile, hpool.2.1, by simp [Vm.method?, hk, hb], hbc, ?_, by rw [← hcode.1.1.1.1.2.1]; exact fc.2, ?_, by rw [← hfl]; exact ff.1, by rw [← hsig]; exact ff.2.2, ht, htk, hitf, hg,
        ⟨k, hk, hres 23 _ (Lambda.resolvedOf_method lm6.1 lm6.2.1 ht htk lm6.2.2 hg)⟩, ⟨k, hk, hres 19 _ (Lambda.resolvedOf_class lk6.1 lk6.2.2 lk6.2.1 ht)⟩, ⟨k, 0, k, hk, hres 15 _ (Lambda.resolvedOf_field lg6_0.1 lg6_0.2.1 lg6_0.2.2.1), hk, hfields 0 _ hg0⟩, hp0.1, hp0.2, by rw [hty.1, hok0, lt6]; rfl, hrec.2.1⟩
      · rw [← hcode.1.1.1.1.2.2]
        exact ByteArray.ext fc.1
      · simp [Method.locks, Method.isSynchronized, ← hfl, ff.1, hasFlag, Acc.synchronized]
def sg7 : Lambda.Shape := ({ iface := "LineDispatch$Before", name := "is", sam := ({ parameters := [Jvm.ClassFile.FieldType.int, Jvm.ClassFile.FieldType.int], returnType := (Option.some Jvm.ClassFile.FieldType.boolean) } : Jvm.ClassFile.MethodDescriptor), captured := [(Jvm.ClassFile.FieldType.object "LineDispatch$Line")], kind := 6, implClass := "LineDispatch", implName := "lambda$beforeBy$5", implDesc := ({ parameters := [(Jvm.ClassFile.FieldType.object "LineDispatch$Line"), Jvm.ClassFile.FieldType.int, Jvm.ClassFile.FieldType.int], returnType := (Option.some Jvm.ClassFile.FieldType.boolean) } : Jvm.ClassFile.MethodDescriptor), implItf := false, inst := ({ parameters := [Jvm.ClassFile.FieldType.int, Jvm.ClassFile.FieldType.int], returnType := (Option.some Jvm.ClassFile.FieldType.boolean) } : Jvm.ClassFile.MethodDescriptor) } : Jvm.Lambda.Shape)
theorem sg7_is : siteWord_1_7 = .lambdaSite ({ cls := "LineDispatch", name := "beforeBy", desc := "(LLineDispatch$Line;I)LLineDispatch$Before;" } : Jvm.MethodName) 43 232 sg7 := rfl
def lD7 : ClassFile := (sg7.file "LineDispatch").getD { minorVersion := 0, majorVersion := 0, constantPool := #[], accessFlags := 0, thisClass := 0, superClass := 0, interfaces := #[], fields := #[], methods := #[], attributes := #[] }
def lF7 : Method := ((layoutMethods lD7).bind (·[1]?)).getD default
def lL7 : Array Field × Array FieldType × Array FieldType := (layoutFields lD7 0).getD (#[], #[], #[])
theorem lD7_is : sg7.file "LineDispatch" = some lD7 := by
  have h : (sg7.file "LineDispatch").isSome = true := by decide +kernel
  obtain ⟨x, hx⟩ := Option.isSome_iff_exists.mp h
  simp [lD7, hx]
theorem lF7_is : ∀ ms, layoutMethods lD7 = some ms → ms[1]? = some lF7 := by
  intro ms hms
  have h : ((layoutMethods lD7).bind (·[1]?)).isSome = true := by decide +kernel
  obtain ⟨x, hx⟩ := Option.isSome_iff_exists.mp h
  have hf : lF7 = x := by simp [lF7, hx]
  rw [hms] at hx
  rw [hf]
  exact hx
theorem lL7_is : layoutFields lD7 0 = some lL7 := by
  have h : (layoutFields lD7 0).isSome = true := by decide +kernel
  obtain ⟨x, hx⟩ := Option.isSome_iff_exists.mp h
  simp [lL7, hx]
theorem lc7 : (lF7.code.map fun c => (c.code.data, c.maxLocals)) = some (fwB.data, 3) := by decide +kernel
theorem lf7 : (lF7.accessFlags, lF7.name, lF7.sig.returnType) = (0x0001, "is", some FieldType.boolean) := by decide +kernel
theorem lm7 : lD7.constantPool[23]? = some (.methodref 19 22) ∧ lD7.constantPool.className? 19 = some "LineDispatch" ∧ lD7.constantPool.nameAndType? 22 = some ("lambda$beforeBy$5", "(LLineDispatch$Line;II)Z") := by decide +kernel
theorem lk7 : lD7.constantPool[19]? = some (.class_ 18) ∧ lD7.constantPool.string? 18 = some "LineDispatch" ∧ 19 ≠ lD7.thisClass := by decide +kernel
theorem lg7_0 : lD7.constantPool[15]? = some (.fieldref 2 14) ∧ lD7.constantPool.nameAndType? 14 = some ("arg$1", "LLineDispatch$Line;") ∧ lL7.1.findIdx? (·.name == "arg$1") = some 0 ∧ (lL7.1[0]?).map (fun f => (f.isStatic, f.slot)) = some (false, 0) := by decide +kernel
theorem lt7 : lL7.2.1 = #[.object "LineDispatch$Line"] := by decide +kernel
theorem made7 {e : Setting} {vm : Vm} {d c : ClassId} {dk : Class} (hd : vm.classes[d]? = some dk) (hname : dk.name = "LineDispatch") (h : Lambda.isMade e vm d sg7 c = true) (hO : ∀ o ok, vm.findClass "java/lang/Object" = some o → vm.classes[o]? = some ok → ok.instanceTypes.size = 0) :
    ∃ (k tk : Class) (file : ClassFile) (methk : Method) (ck : Code) (toy : ClassId) (t : MethodId) (g0 : Field), vm.classes[c]? = some k ∧ k.name = "LineDispatch$$Lambda" ∧ k.cf = some file ∧ file.constantPool = lD7.constantPool ∧
      vm.method? ⟨c, 1⟩ = some methk ∧ methk.code = some ck ∧ ck.code = fwB ∧ ck.maxLocals = 3 ∧ methk.locks = false ∧ methk.accessFlags = 0x0001 ∧ methk.sig.returnType = some .boolean ∧
      vm.findClass "LineDispatch" = some toy ∧ vm.classes[toy]? = some tk ∧ tk.isInterface = false ∧ ((methodIn toy "lambda$beforeBy$5" "(LLineDispatch$Line;II)Z" tk.isInterface none).ask e vm).1 = .ok t ∧
      vm.methodReady c 23 t ∧ vm.classReady c 19 toy ∧ vm.fieldReady c 15 c g0 ∧ g0.isStatic = false ∧ g0.slot = 0 ∧ k.instanceTypes = #[.object "LineDispatch$Line"] ∧ k.kind = .ordinary := by
  obtain ⟨dk', k, ok, tk, file, cf, object, iface, toy, lay, methods, target, found, hd', hk, hfile, hcf, hobj, -, hok, hlay, hms, ht, htk, hg, -, hrec, -, -, -, hitf, hpool, hmeth, hfields, hty, hres, -⟩ := Lambda.isMade_spec h
  cases hd.symm.trans hd'
  rw [hname, lD7_is] at hcf
  cases hcf
  have hok0 : ok.instanceTypes = #[] := Array.eq_empty_of_size_eq_zero (hO object ok hobj hok)
  rw [hO object ok hobj hok, lL7_is] at hlay
  cases hlay
  obtain ⟨b, hb, hsame⟩ := hmeth 1 lF7 (lF7_is methods hms)
  simp only [Lambda.sameMethod, Bool.and_eq_true, decide_eq_true_eq] at hsame
  obtain ⟨⟨hn, -, hsig, hfl⟩, hcode⟩ := hsame
  have fc := lc7
  have ff := lf7
  simp only [Prod.mk.injEq] at ff
  obtain ⟨g0, hg0, hp0⟩ := Option.map_eq_some_iff.mp lg7_0.2.2.2
  simp only [Prod.mk.injEq] at hp0
  cases hfc : lF7.code with
  | none => rw [hfc] at fc; cases fc
  | some x =>
    cases hbc : b.code with
    | none => simp [hfc, hbc] at hcode
    | some y =>
      simp only [hfc, hbc, Bool.and_eq_true, decide_eq_true_eq] at hcode
      simp only [hfc, Option.map_some, Option.some.injEq, Prod.mk.injEq] at fc
      refine ⟨k, tk, file, b, y, toy, target, g0, hk, by rw [hrec.1, hname]; rfl, hfile, hpool.2.1, by simp [Vm.method?, hk, hb], hbc, ?_, by rw [← hcode.1.1.1.1.2.1]; exact fc.2, ?_, by rw [← hfl]; exact ff.1, by rw [← hsig]; exact ff.2.2, ht, htk, hitf, hg,
        ⟨k, hk, hres 23 _ (Lambda.resolvedOf_method lm7.1 lm7.2.1 ht htk lm7.2.2 hg)⟩, ⟨k, hk, hres 19 _ (Lambda.resolvedOf_class lk7.1 lk7.2.2 lk7.2.1 ht)⟩, ⟨k, 0, k, hk, hres 15 _ (Lambda.resolvedOf_field lg7_0.1 lg7_0.2.1 lg7_0.2.2.1), hk, hfields 0 _ hg0⟩, hp0.1, hp0.2, by rw [hty.1, hok0, lt7]; rfl, hrec.2.1⟩
      · rw [← hcode.1.1.1.1.2.2]
        exact ByteArray.ext fc.1
      · simp [Method.locks, Method.isSynchronized, ← hfl, ff.1, hasFlag, Acc.synchronized]
