/-! the lambda of fits -/
set_option maxRecDepth 100000
def lamD : ClassFile := (lamS.file "Encores").getD { minorVersion := 0, majorVersion := 0, constantPool := #[], accessFlags := 0, thisClass := 0, superClass := 0, interfaces := #[], fields := #[], methods := #[], attributes := #[] }
def lamF : Method := ((layoutMethods lamD).bind (·[1]?)).getD default
def lamY : Array Field × Array FieldType × Array FieldType := (layoutFields lamD 0).getD (#[], #[], #[])
def lamB : ByteArray := ⟨#[0x2a, 0xb4, 0x00, 0x11, 0x2a, 0xb4, 0x00, 0x13, 0x1b, 0xb6, 0x00, 0x1b, 0xac]⟩
theorem ld_0 : decode lamB 0 = .ok (.aload_n 0, 1) := by decide +kernel
theorem ld_1 : decode lamB 1 = .ok (.getfield 17, 3) := by decide +kernel
theorem ld_4 : decode lamB 4 = .ok (.aload_n 0, 1) := by decide +kernel
theorem ld_5 : decode lamB 5 = .ok (.getfield 19, 3) := by decide +kernel
theorem ld_8 : decode lamB 8 = .ok (.iload_n 1, 1) := by decide +kernel
theorem ld_9 : decode lamB 9 = .ok (.invokevirtual 27, 3) := by decide +kernel
theorem ld_12 : decode lamB 12 = .ok (.ireturn, 1) := by decide +kernel
theorem lam_file : lamS.file "Encores" = some lamD := by
  have h : (lamS.file "Encores").isSome = true := by decide +kernel
  obtain ⟨x, hx⟩ := Option.isSome_iff_exists.mp h
  simp [lamD, hx]
theorem lam_second : ∀ ms, layoutMethods lamD = some ms → ms[1]? = some lamF := by
  intro ms hms
  have h : ((layoutMethods lamD).bind (·[1]?)).isSome = true := by decide +kernel
  obtain ⟨x, hx⟩ := Option.isSome_iff_exists.mp h
  have hf : lamF = x := by simp [lamF, hx]
  rw [hms] at hx
  rw [hf]
  exact hx
theorem lam_laid : layoutFields lamD 0 = some lamY := by
  have h : (layoutFields lamD 0).isSome = true := by decide +kernel
  obtain ⟨x, hx⟩ := Option.isSome_iff_exists.mp h
  simp [lamY, hx]
theorem lam_code : (lamF.code.map fun c => (c.code.data, c.maxLocals)) = some (lamB.data, 2) := by decide +kernel
theorem lam_flags : (lamF.accessFlags, lamF.name, lamF.sig.returnType) = (0x0001, "of", some FieldType.int) := by decide +kernel
theorem lam_M : lamD.constantPool[27]? = some (.methodref 23 26) ∧ lamD.constantPool.className? 23 = some "Encores" ∧ lamD.constantPool.nameAndType? 26 = some ("lambda$fits$0", "(II)I") := by decide +kernel
theorem lam_C : lamD.constantPool[23]? = some (.class_ 22) ∧ lamD.constantPool.string? 22 = some "Encores" ∧ 23 ≠ lamD.thisClass := by decide +kernel
theorem lam_F0 : lamD.constantPool[17]? = some (.fieldref 2 16) ∧ lamD.constantPool.nameAndType? 16 = some ("arg$1", "LEncores;") ∧ lamY.1.findIdx? (·.name == "arg$1") = some 0 ∧ (lamY.1[0]?).map (fun f => (f.isStatic, f.slot)) = some (false, 0) := by decide +kernel
theorem lam_F1 : lamD.constantPool[19]? = some (.fieldref 2 18) ∧ lamD.constantPool.nameAndType? 18 = some ("arg$2", "I") ∧ lamY.1.findIdx? (·.name == "arg$2") = some 1 ∧ (lamY.1[1]?).map (fun f => (f.isStatic, f.slot)) = some (false, 1) := by decide +kernel
theorem lam_T : lamY.2.1 = #[.object "Encores", .int] := by decide +kernel
theorem lam_sam : lamS.sam.toString = "(I)I" := by decide +kernel
theorem lam_facts {vm : Vm} {d c : ClassId} {dk : Class} (hd : vm.classes[d]? = some dk) (hname : dk.name = "Encores") (h : Jvm.Lambda.isMade { classPath := fun _ => none } vm d lamS c = true)
    (hO : ∀ o ok, vm.findClass "java/lang/Object" = some o → vm.classes[o]? = some ok → ok.instanceTypes.size = 0) :
    ∃ (k tk : Class) (file : ClassFile) (methk : Method) (ck : Code) (toy : ClassId) (t : MethodId) (f0 : Field) (f1 : Field),
      (vm.classes[c]? = some k ∧ k.name = "Encores$$Lambda" ∧ k.cf = some file ∧ file.constantPool = lamD.constantPool) ∧
      (vm.method? ⟨c, 1⟩ = some methk ∧ methk.code = some ck ∧ ck.code = lamB ∧ ck.maxLocals = 2 ∧ methk.locks = false ∧ methk.accessFlags = 0x0001 ∧ methk.sig.returnType = some .int) ∧
      (vm.findClass "Encores" = some toy ∧ vm.classes[toy]? = some tk ∧ tk.isInterface = false ∧ ((methodIn toy "lambda$fits$0" "(II)I" tk.isInterface none).ask { classPath := fun _ => none } vm).1 = .ok t) ∧
      (vm.methodReady c 27 t ∧ vm.classReady c 23 toy) ∧ (vm.fieldReady c 17 c f0 ∧ f0.isStatic = false ∧ f0.slot = 0) ∧ (vm.fieldReady c 19 c f1 ∧ f1.isStatic = false ∧ f1.slot = 1) ∧ k.kind = .ordinary ∧ k.instanceTypes = #[.object "Encores", .int] := by
  obtain ⟨dk', k, ok, tk, file, cf, object, iface, toy, lay, methods, target, found, hd', hk, hfile, hcf, hobj, -, hok, hlay, hms, ht, htk, hg, -, hrec, -, -, -, hitf, hpool, hmeth, hfields, hity, hres, -⟩ := Jvm.Lambda.isMade_spec h
  cases hd.symm.trans hd'
  rw [hname, lam_file] at hcf
  cases hcf
  have hO0 := hO object ok hobj hok
  rw [hO0, lam_laid] at hlay
  cases hlay
  obtain ⟨b, hb, hsame⟩ := hmeth 1 lamF (lam_second methods hms)
  simp only [Jvm.Lambda.sameMethod, Bool.and_eq_true, decide_eq_true_eq] at hsame
  obtain ⟨⟨hn, -, hsig, hfl⟩, hcode⟩ := hsame
  have fc := lam_code
  have ff := lam_flags
  simp only [Prod.mk.injEq] at ff
  obtain ⟨g0, hg0, hp0⟩ := Option.map_eq_some_iff.mp lam_F0.2.2.2
  simp only [Prod.mk.injEq] at hp0
  obtain ⟨g1, hg1, hp1⟩ := Option.map_eq_some_iff.mp lam_F1.2.2.2
  simp only [Prod.mk.injEq] at hp1
  cases hfc : lamF.code with
  | none => rw [hfc] at fc; cases fc
  | some x =>
    cases hbc : b.code with
    | none => simp [hfc, hbc] at hcode
    | some y =>
      simp only [hfc, hbc, Bool.and_eq_true, decide_eq_true_eq] at hcode
      simp only [hfc, Option.map_some, Option.some.injEq, Prod.mk.injEq] at fc
      refine ⟨k, tk, file, b, y, toy, target, g0, g1, ⟨hk, by rw [hrec.1, hname]; rfl, hfile, hpool.2.1⟩, ⟨by simp [Vm.method?, hk, hb], hbc, ?_, by rw [← hcode.1.1.1.1.2.1]; exact fc.2, ?_, by rw [← hfl]; exact ff.1, by rw [← hsig]; exact ff.2.2⟩, ⟨ht, htk, hitf.trans rfl, hg⟩,
        ⟨⟨k, hk, hres 27 _ (Jvm.Lambda.resolvedOf_method lam_M.1 lam_M.2.1 ht htk lam_M.2.2 hg)⟩, ⟨k, hk, hres 23 _ (Jvm.Lambda.resolvedOf_class lam_C.1 lam_C.2.2 lam_C.2.1 ht)⟩⟩,
        ⟨⟨k, 0, k, hk, hres 17 _ (Jvm.Lambda.resolvedOf_field lam_F0.1 lam_F0.2.1 lam_F0.2.2.1), hk, hfields 0 _ hg0⟩, hp0.1, hp0.2⟩,
        ⟨⟨k, 1, k, hk, hres 19 _ (Jvm.Lambda.resolvedOf_field lam_F1.1 lam_F1.2.1 lam_F1.2.2.1), hk, hfields 1 _ hg1⟩, hp1.1, hp1.2⟩, hrec.2.1, ?_⟩
      · rw [← hcode.1.1.1.1.2.2]
        exact ByteArray.ext fc.1
      · simp [Method.locks, Method.isSynchronized, ← hfl, ff.1, hasFlag, Acc.synchronized]
      · rw [hity.1, Array.eq_empty_of_size_eq_zero hO0, lam_T]; rfl
