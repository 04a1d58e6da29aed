/-! LAMBDAS 2: the written classes, calls of their objects -/
set_option maxRecDepth 100000
def ltEmpty : ClassFile := { minorVersion := 0, majorVersion := 0, constantPool := #[], accessFlags := 0, thisClass := 0, superClass := 0, interfaces := #[], fields := #[], methods := #[], attributes := #[] }
def ltObj (vm : Vm) : Prop := ∀ o ok, vm.findClass "java/lang/Object" = some o → vm.classes[o]? = some ok → ok.instanceTypes.size = 0
def ltC0 : ByteArray := ⟨#[0x2a, 0xb4, 0x00, 0x11, 0x2a, 0xb4, 0x00, 0x13, 0x1b, 0xb6, 0x00, 0x1b, 0xac]⟩
theorem ltd0_0 : decode ltC0 0 = .ok (.aload_n 0, 1) := by decide +kernel
theorem ltd0_1 : decode ltC0 1 = .ok (.getfield 17, 3) := by decide +kernel
theorem ltd0_4 : decode ltC0 4 = .ok (.aload_n 0, 1) := by decide +kernel
theorem ltd0_5 : decode ltC0 5 = .ok (.getfield 19, 3) := by decide +kernel
theorem ltd0_8 : decode ltC0 8 = .ok (.iload_n 1, 1) := by decide +kernel
theorem ltd0_9 : decode ltC0 9 = .ok (.invokevirtual 27, 3) := by decide +kernel
theorem ltd0_12 : decode ltC0 12 = .ok (.ireturn, 1) := by decide +kernel
def ltD0 : ClassFile := (Jvm.Lambda.Shape.file ltSh0 "LayeredCharters$Charter").getD ltEmpty
def ltF0 : Method := ((layoutMethods ltD0).bind (·[1]?)).getD default
def ltL0 : Array Field × Array FieldType × Array FieldType := (layoutFields ltD0 0).getD (#[], #[], #[])
theorem lt_file0 : Jvm.Lambda.Shape.file ltSh0 "LayeredCharters$Charter" = some ltD0 := by
  have h : (Jvm.Lambda.Shape.file ltSh0 "LayeredCharters$Charter").isSome = true := by decide +kernel
  obtain ⟨x, hx⟩ := Option.isSome_iff_exists.mp h
  simp [ltD0, hx]
theorem lt_second0 : ∀ ms, layoutMethods ltD0 = some ms → ms[1]? = some ltF0 := by
  intro ms hms
  have h : ((layoutMethods ltD0).bind (·[1]?)).isSome = true := by decide +kernel
  obtain ⟨x, hx⟩ := Option.isSome_iff_exists.mp h
  have hf : ltF0 = x := by simp [ltF0, hx]
  rw [hms] at hx
  rw [hf]
  exact hx
theorem lt_laid0 : layoutFields ltD0 0 = some ltL0 := by
  have h : (layoutFields ltD0 0).isSome = true := by decide +kernel
  obtain ⟨x, hx⟩ := Option.isSome_iff_exists.mp h
  simp [ltL0, hx]
theorem lt_fcode0 : (ltF0.code.map fun c => (c.code.data, c.maxLocals)) = some (ltC0.data, 2) := by decide +kernel
theorem lt_fflags0 : (ltF0.accessFlags, ltF0.name, ltF0.sig.returnType) = (0x0001, "of", some FieldType.boolean) := by decide +kernel
theorem lt_eM0 : ltD0.constantPool[27]? = some (.methodref 23 26) ∧ ltD0.constantPool.className? 23 = some "LayeredCharters$Charter" ∧ ltD0.constantPool.nameAndType? 26 = some ("lambda$odds$0", "(II)Z") := by decide +kernel
theorem lt_eC0 : ltD0.constantPool[23]? = some (.class_ 22) ∧ ltD0.constantPool.string? 22 = some "LayeredCharters$Charter" ∧ 23 ≠ ltD0.thisClass := by decide +kernel
theorem lt_eF0_0 : ltD0.constantPool[17]? = some (.fieldref 2 16) ∧ ltD0.constantPool.nameAndType? 16 = some ("arg$1", "LLayeredCharters$Charter;") ∧ ltL0.1.findIdx? (·.name == "arg$1") = some 0 ∧ (ltL0.1[0]?).map (fun f => (f.isStatic, f.slot)) = some (false, 0) := by decide +kernel
theorem lt_eF0_1 : ltD0.constantPool[19]? = some (.fieldref 2 18) ∧ ltD0.constantPool.nameAndType? 18 = some ("arg$2", "I") ∧ ltL0.1.findIdx? (·.name == "arg$2") = some 1 ∧ (ltL0.1[1]?).map (fun f => (f.isStatic, f.slot)) = some (false, 1) := by decide +kernel
theorem lt_made0 {e : Setting} {vm : Vm} {d c : ClassId} {dk : Class} (hd : vm.classes[d]? = some dk) (hname : dk.name = "LayeredCharters$Charter") (h : Jvm.Lambda.isMade e vm d ltSh0 c = true) (hO : ltObj vm) :
    ∃ (k tk : Class) (file : ClassFile) (methk : Method) (ck : Code) (toy : ClassId) (t : MethodId) (f0 : Field) (f1 : Field),
      vm.classes[c]? = some k ∧ k.name = "LayeredCharters$Charter$$Lambda" ∧ k.cf = some file ∧ file.constantPool = ltD0.constantPool ∧
      vm.method? ⟨c, 1⟩ = some methk ∧ methk.code = some ck ∧ ck.code = ltC0 ∧ ck.maxLocals = 2 ∧ methk.locks = false ∧ methk.accessFlags = 0x0001 ∧ methk.sig.returnType = some .boolean ∧
      vm.findClass "LayeredCharters$Charter" = some toy ∧ vm.classes[toy]? = some tk ∧ tk.isInterface = false ∧ ((methodIn toy "lambda$odds$0" "(II)Z" tk.isInterface none).ask e vm).1 = .ok t ∧
      vm.methodReady c 27 t ∧ vm.classReady c 23 toy ∧ vm.fieldReady c 17 c f0 ∧ f0.isStatic = false ∧ f0.slot = 0 ∧ vm.fieldReady c 19 c f1 ∧ f1.isStatic = false ∧ f1.slot = 1 := by
  obtain ⟨dk', k, ok, tk, file, cf, object, iface, toy, lay, methods, target, found, hd', hk, hfile, hcf, hobj, -, hok, hlay, hms, ht, htk, hg, -, hrec, -, -, -, hitf, hpool, hmeth, hfields, -, hres, -⟩ := Jvm.Lambda.isMade_spec h
  cases hd.symm.trans hd'
  rw [hname, lt_file0] at hcf
  cases hcf
  rw [hO object ok hobj hok, lt_laid0] at hlay
  cases hlay
  obtain ⟨b, hb, hsame⟩ := hmeth 1 ltF0 (lt_second0 methods hms)
  simp only [Jvm.Lambda.sameMethod, Bool.and_eq_true, decide_eq_true_eq] at hsame
  obtain ⟨⟨hn, -, hsig, hfl⟩, hcode⟩ := hsame
  have fc := lt_fcode0
  have ff := lt_fflags0
  simp only [Prod.mk.injEq] at ff
  obtain ⟨g0, hg0, hp0⟩ := Option.map_eq_some_iff.mp lt_eF0_0.2.2.2
  simp only [Prod.mk.injEq] at hp0
  obtain ⟨g1, hg1, hp1⟩ := Option.map_eq_some_iff.mp lt_eF0_1.2.2.2
  simp only [Prod.mk.injEq] at hp1
  cases hfc : ltF0.code with
  | none => rw [hfc] at fc; cases fc
  | some x =>
    cases hbc : b.code with
    | none => simp [hfc, hbc] at hcode
    | some y =>
      simp only [hfc, hbc, Bool.and_eq_true, decide_eq_true_eq] at hcode
      simp only [hfc, Option.map_some, Option.some.injEq, Prod.mk.injEq] at fc
      refine ⟨k, tk, file, b, y, toy, target, g0, g1, hk, by rw [hrec.1, hname]; rfl, hfile, hpool.2.1, by simp [Vm.method?, hk, hb], hbc, ?_, by rw [← hcode.1.1.1.1.2.1]; exact fc.2, ?_, by rw [← hfl]; exact ff.1, by rw [← hsig]; exact ff.2.2, ht, htk, hitf, hg,
        ⟨k, hk, hres 27 _ (Jvm.Lambda.resolvedOf_method lt_eM0.1 lt_eM0.2.1 ht htk lt_eM0.2.2 hg)⟩, ⟨k, hk, hres 23 _ (Jvm.Lambda.resolvedOf_class lt_eC0.1 lt_eC0.2.2 lt_eC0.2.1 ht)⟩,
        ⟨k, 0, k, hk, hres 17 _ (Jvm.Lambda.resolvedOf_field lt_eF0_0.1 lt_eF0_0.2.1 lt_eF0_0.2.2.1), hk, hfields 0 _ hg0⟩, hp0.1, hp0.2,
        ⟨k, 1, k, hk, hres 19 _ (Jvm.Lambda.resolvedOf_field lt_eF0_1.1 lt_eF0_1.2.1 lt_eF0_1.2.2.1), hk, hfields 1 _ hg1⟩, hp1.1, hp1.2⟩
      · rw [← hcode.1.1.1.1.2.2]
        exact ByteArray.ext fc.1
      · simp [Method.locks, Method.isSynchronized, ← hfl, ff.1, hasFlag, Acc.synchronized]
def ltC1 : ByteArray := ⟨#[0x2a, 0xb4, 0x00, 0x11, 0x2a, 0xb4, 0x00, 0x13, 0x1b, 0xb8, 0x00, 0x1b, 0xac]⟩
theorem ltd1_0 : decode ltC1 0 = .ok (.aload_n 0, 1) := by decide +kernel
theorem ltd1_1 : decode ltC1 1 = .ok (.getfield 17, 3) := by decide +kernel
theorem ltd1_4 : decode ltC1 4 = .ok (.aload_n 0, 1) := by decide +kernel
theorem ltd1_5 : decode ltC1 5 = .ok (.getfield 19, 3) := by decide +kernel
theorem ltd1_8 : decode ltC1 8 = .ok (.iload_n 1, 1) := by decide +kernel
theorem ltd1_9 : decode ltC1 9 = .ok (.invokestatic 27, 3) := by decide +kernel
theorem ltd1_12 : decode ltC1 12 = .ok (.ireturn, 1) := by decide +kernel
def ltD1 : ClassFile := (Jvm.Lambda.Shape.file ltSh1 "LayeredCharters").getD ltEmpty
def ltF1 : Method := ((layoutMethods ltD1).bind (·[1]?)).getD default
def ltL1 : Array Field × Array FieldType × Array FieldType := (layoutFields ltD1 0).getD (#[], #[], #[])
theorem lt_file1 : Jvm.Lambda.Shape.file ltSh1 "LayeredCharters" = some ltD1 := by
  have h : (Jvm.Lambda.Shape.file ltSh1 "LayeredCharters").isSome = true := by decide +kernel
  obtain ⟨x, hx⟩ := Option.isSome_iff_exists.mp h
  simp [ltD1, hx]
theorem lt_second1 : ∀ ms, layoutMethods ltD1 = some ms → ms[1]? = some ltF1 := by
  intro ms hms
  have h : ((layoutMethods ltD1).bind (·[1]?)).isSome = true := by decide +kernel
  obtain ⟨x, hx⟩ := Option.isSome_iff_exists.mp h
  have hf : ltF1 = x := by simp [ltF1, hx]
  rw [hms] at hx
  rw [hf]
  exact hx
theorem lt_laid1 : layoutFields ltD1 0 = some ltL1 := by
  have h : (layoutFields ltD1 0).isSome = true := by decide +kernel
  obtain ⟨x, hx⟩ := Option.isSome_iff_exists.mp h
  simp [ltL1, hx]
theorem lt_fcode1 : (ltF1.code.map fun c => (c.code.data, c.maxLocals)) = some (ltC1.data, 2) := by decide +kernel
theorem lt_fflags1 : (ltF1.accessFlags, ltF1.name, ltF1.sig.returnType) = (0x0001, "of", some FieldType.boolean) := by decide +kernel
theorem lt_eM1 : ltD1.constantPool[27]? = some (.methodref 23 26) ∧ ltD1.constantPool.className? 23 = some "LayeredCharters" ∧ ltD1.constantPool.nameAndType? 26 = some ("lambda$count$0", "(LLayeredCharters$Charter;II)Z") := by decide +kernel
theorem lt_eC1 : ltD1.constantPool[23]? = some (.class_ 22) ∧ ltD1.constantPool.string? 22 = some "LayeredCharters" ∧ 23 ≠ ltD1.thisClass := by decide +kernel
theorem lt_eF1_0 : ltD1.constantPool[17]? = some (.fieldref 2 16) ∧ ltD1.constantPool.nameAndType? 16 = some ("arg$1", "LLayeredCharters$Charter;") ∧ ltL1.1.findIdx? (·.name == "arg$1") = some 0 ∧ (ltL1.1[0]?).map (fun f => (f.isStatic, f.slot)) = some (false, 0) := by decide +kernel
theorem lt_eF1_1 : ltD1.constantPool[19]? = some (.fieldref 2 18) ∧ ltD1.constantPool.nameAndType? 18 = some ("arg$2", "I") ∧ ltL1.1.findIdx? (·.name == "arg$2") = some 1 ∧ (ltL1.1[1]?).map (fun f => (f.isStatic, f.slot)) = some (false, 1) := by decide +kernel
theorem lt_made1 {e : Setting} {vm : Vm} {d c : ClassId} {dk : Class} (hd : vm.classes[d]? = some dk) (hname : dk.name = "LayeredCharters") (h : Jvm.Lambda.isMade e vm d ltSh1 c = true) (hO : ltObj vm) :
    ∃ (k tk : Class) (file : ClassFile) (methk : Method) (ck : Code) (toy : ClassId) (t : MethodId) (f0 : Field) (f1 : Field),
      vm.classes[c]? = some k ∧ k.name = "LayeredCharters$$Lambda" ∧ k.cf = some file ∧ file.constantPool = ltD1.constantPool ∧
      vm.method? ⟨c, 1⟩ = some methk ∧ methk.code = some ck ∧ ck.code = ltC1 ∧ ck.maxLocals = 2 ∧ methk.locks = false ∧ methk.accessFlags = 0x0001 ∧ methk.sig.returnType = some .boolean ∧
      vm.findClass "LayeredCharters" = some toy ∧ vm.classes[toy]? = some tk ∧ tk.isInterface = false ∧ ((methodIn toy "lambda$count$0" "(LLayeredCharters$Charter;II)Z" tk.isInterface none).ask e vm).1 = .ok t ∧
      vm.methodReady c 27 t ∧ vm.classReady c 23 toy ∧ vm.fieldReady c 17 c f0 ∧ f0.isStatic = false ∧ f0.slot = 0 ∧ vm.fieldReady c 19 c f1 ∧ f1.isStatic = false ∧ f1.slot = 1 := by
  obtain ⟨dk', k, ok, tk, file, cf, object, iface, toy, lay, methods, target, found, hd', hk, hfile, hcf, hobj, -, hok, hlay, hms, ht, htk, hg, -, hrec, -, -, -, hitf, hpool, hmeth, hfields, -, hres, -⟩ := Jvm.Lambda.isMade_spec h
  cases hd.symm.trans hd'
  rw [hname, lt_file1] at hcf
  cases hcf
  rw [hO object ok hobj hok, lt_laid1] at hlay
  cases hlay
  obtain ⟨b, hb, hsame⟩ := hmeth 1 ltF1 (lt_second1 methods hms)
  simp only [Jvm.Lambda.sameMethod, Bool.and_eq_true, decide_eq_true_eq] at hsame
  obtain ⟨⟨hn, -, hsig, hfl⟩, hcode⟩ := hsame
  have fc := lt_fcode1
  have ff := lt_fflags1
  simp only [Prod.mk.injEq] at ff
  obtain ⟨g0, hg0, hp0⟩ := Option.map_eq_some_iff.mp lt_eF1_0.2.2.2
  simp only [Prod.mk.injEq] at hp0
  obtain ⟨g1, hg1, hp1⟩ := Option.map_eq_some_iff.mp lt_eF1_1.2.2.2
  simp only [Prod.mk.injEq] at hp1
  cases hfc : ltF1.code with
  | none => rw [hfc] at fc; cases fc
  | some x =>
    cases hbc : b.code with
    | none => simp [hfc, hbc] at hcode
    | some y =>
      simp only [hfc, hbc, Bool.and_eq_true, decide_eq_true_eq] at hcode
      simp only [hfc, Option.map_some, Option.some.injEq, Prod.mk.injEq] at fc
      refine ⟨k, tk, file, b, y, toy, target, g0, g1, hk, by rw [hrec.1, hname]; rfl, hfile, hpool.2.1, by simp [Vm.method?, hk, hb], hbc, ?_, by rw [← hcode.1.1.1.1.2.1]; exact fc.2, ?_, by rw [← hfl]; exact ff.1, by rw [← hsig]; exact ff.2.2, ht, htk, hitf, hg,
        ⟨k, hk, hres 27 _ (Jvm.Lambda.resolvedOf_method lt_eM1.1 lt_eM1.2.1 ht htk lt_eM1.2.2 hg)⟩, ⟨k, hk, hres 23 _ (Jvm.Lambda.resolvedOf_class lt_eC1.1 lt_eC1.2.2 lt_eC1.2.1 ht)⟩,
        ⟨k, 0, k, hk, hres 17 _ (Jvm.Lambda.resolvedOf_field lt_eF1_0.1 lt_eF1_0.2.1 lt_eF1_0.2.2.1), hk, hfields 0 _ hg0⟩, hp0.1, hp0.2,
        ⟨k, 1, k, hk, hres 19 _ (Jvm.Lambda.resolvedOf_field lt_eF1_1.1 lt_eF1_1.2.1 lt_eF1_1.2.2.1), hk, hfields 1 _ hg1⟩, hp1.1, hp1.2⟩
      · rw [← hcode.1.1.1.1.2.2]
        exact ByteArray.ext fc.1
      · simp [Method.locks, Method.isSynchronized, ← hfl, ff.1, hasFlag, Acc.synchronized]
def ltC2 : ByteArray := ⟨#[0x2a, 0xb4, 0x00, 0x0f, 0x1b, 0xb8, 0x00, 0x17, 0xac]⟩
theorem ltd2_0 : decode ltC2 0 = .ok (.aload_n 0, 1) := by decide +kernel
theorem ltd2_1 : decode ltC2 1 = .ok (.getfield 15, 3) := by decide +kernel
theorem ltd2_4 : decode ltC2 4 = .ok (.iload_n 1, 1) := by decide +kernel
theorem ltd2_5 : decode ltC2 5 = .ok (.invokestatic 23, 3) := by decide +kernel
theorem ltd2_8 : decode ltC2 8 = .ok (.ireturn, 1) := by decide +kernel
def ltD2 : ClassFile := (Jvm.Lambda.Shape.file ltSh2 "LayeredCharters").getD ltEmpty
def ltF2 : Method := ((layoutMethods ltD2).bind (·[1]?)).getD default
def ltL2 : Array Field × Array FieldType × Array FieldType := (layoutFields ltD2 0).getD (#[], #[], #[])
theorem lt_file2 : Jvm.Lambda.Shape.file ltSh2 "LayeredCharters" = some ltD2 := by
  have h : (Jvm.Lambda.Shape.file ltSh2 "LayeredCharters").isSome = true := by decide +kernel
  obtain ⟨x, hx⟩ := Option.isSome_iff_exists.mp h
  simp [ltD2, hx]
theorem lt_second2 : ∀ ms, layoutMethods ltD2 = some ms → ms[1]? = some ltF2 := by
  intro ms hms
  have h : ((layoutMethods ltD2).bind (·[1]?)).isSome = true := by decide +kernel
  obtain ⟨x, hx⟩ := Option.isSome_iff_exists.mp h
  have hf : ltF2 = x := by simp [ltF2, hx]
  rw [hms] at hx
  rw [hf]
  exact hx
theorem lt_laid2 : layoutFields ltD2 0 = some ltL2 := by
  have h : (layoutFields ltD2 0).isSome = true := by decide +kernel
  obtain ⟨x, hx⟩ := Option.isSome_iff_exists.mp h
  simp [ltL2, hx]
theorem lt_fcode2 : (ltF2.code.map fun c => (c.code.data, c.maxLocals)) = some (ltC2.data, 2) := by decide +kernel
theorem lt_fflags2 : (ltF2.accessFlags, ltF2.name, ltF2.sig.returnType) = (0x0001, "of", some FieldType.boolean) := by decide +kernel
theorem lt_eM2 : ltD2.constantPool[23]? = some (.methodref 19 22) ∧ ltD2.constantPool.className? 19 = some "LayeredCharters" ∧ ltD2.constantPool.nameAndType? 22 = some ("lambda$count$1", "(LLayeredCharters$Charter;I)Z") := by decide +kernel
theorem lt_eC2 : ltD2.constantPool[19]? = some (.class_ 18) ∧ ltD2.constantPool.string? 18 = some "LayeredCharters" ∧ 19 ≠ ltD2.thisClass := by decide +kernel
theorem lt_eF2_0 : ltD2.constantPool[15]? = some (.fieldref 2 14) ∧ ltD2.constantPool.nameAndType? 14 = some ("arg$1", "LLayeredCharters$Charter;") ∧ ltL2.1.findIdx? (·.name == "arg$1") = some 0 ∧ (ltL2.1[0]?).map (fun f => (f.isStatic, f.slot)) = some (false, 0) := by decide +kernel
theorem lt_made2 {e : Setting} {vm : Vm} {d c : ClassId} {dk : Class} (hd : vm.classes[d]? = some dk) (hname : dk.name = "LayeredCharters") (h : Jvm.Lambda.isMade e vm d ltSh2 c = true) (hO : ltObj vm) :
    ∃ (k tk : Class) (file : ClassFile) (methk : Method) (ck : Code) (toy : ClassId) (t : MethodId) (f0 : Field),
      vm.classes[c]? = some k ∧ k.name = "LayeredCharters$$Lambda" ∧ k.cf = some file ∧ file.constantPool = ltD2.constantPool ∧
      vm.method? ⟨c, 1⟩ = some methk ∧ methk.code = some ck ∧ ck.code = ltC2 ∧ ck.maxLocals = 2 ∧ methk.locks = false ∧ methk.accessFlags = 0x0001 ∧ methk.sig.returnType = some .boolean ∧
      vm.findClass "LayeredCharters" = some toy ∧ vm.classes[toy]? = some tk ∧ tk.isInterface = false ∧ ((methodIn toy "lambda$count$1" "(LLayeredCharters$Charter;I)Z" tk.isInterface none).ask e vm).1 = .ok t ∧
      vm.methodReady c 23 t ∧ vm.classReady c 19 toy ∧ vm.fieldReady c 15 c f0 ∧ f0.isStatic = false ∧ f0.slot = 0 := by
  obtain ⟨dk', k, ok, tk, file, cf, object, iface, toy, lay, methods, target, found, hd', hk, hfile, hcf, hobj, -, hok, hlay, hms, ht, htk, hg, -, hrec, -, -, -, hitf, hpool, hmeth, hfields, -, hres, -⟩ := Jvm.Lambda.isMade_spec h
  cases hd.symm.trans hd'
  rw [hname, lt_file2] at hcf
  cases hcf
  rw [hO object ok hobj hok, lt_laid2] at hlay
  cases hlay
  obtain ⟨b, hb, hsame⟩ := hmeth 1 ltF2 (lt_second2 methods hms)
  simp only [Jvm.Lambda.sameMethod, Bool.and_eq_true, decide_eq_true_eq] at hsame
  obtain ⟨⟨hn, -, hsig, hfl⟩, hcode⟩ := hsame
  have fc := lt_fcode2
  have ff := lt_fflags2
  simp only [Prod.mk.injEq] at ff
  obtain ⟨g0, hg0, hp0⟩ := Option.map_eq_some_iff.mp lt_eF2_0.2.2.2
  simp only [Prod.mk.injEq] at hp0
  cases hfc : ltF2.code with
  | none => rw [hfc] at fc; cases fc
  | some x =>
    cases hbc : b.code with
    | none => simp [hfc, hbc] at hcode
    | some y =>
      simp only [hfc, hbc, Bool.and_eq_true, decide_eq_true_eq] at hcode
      simp only [hfc, Option.map_some, Option.some.injEq, Prod.mk.injEq] at fc
      refine ⟨k, tk, file, b, y, toy, target, g0, hk, by rw [hrec.1, hname]; rfl, hfile, hpool.2.1, by simp [Vm.method?, hk, hb], hbc, ?_, by rw [← hcode.1.1.1.1.2.1]; exact fc.2, ?_, by rw [← hfl]; exact ff.1, by rw [← hsig]; exact ff.2.2, ht, htk, hitf, hg,
        ⟨k, hk, hres 23 _ (Jvm.Lambda.resolvedOf_method lt_eM2.1 lt_eM2.2.1 ht htk lt_eM2.2.2 hg)⟩, ⟨k, hk, hres 19 _ (Jvm.Lambda.resolvedOf_class lt_eC2.1 lt_eC2.2.2 lt_eC2.2.1 ht)⟩,
        ⟨k, 0, k, hk, hres 15 _ (Jvm.Lambda.resolvedOf_field lt_eF2_0.1 lt_eF2_0.2.1 lt_eF2_0.2.2.1), hk, hfields 0 _ hg0⟩, hp0.1, hp0.2⟩
      · rw [← hcode.1.1.1.1.2.2]
        exact ByteArray.ext fc.1
      · simp [Method.locks, Method.isSynchronized, ← hfl, ff.1, hasFlag, Acc.synchronized]
