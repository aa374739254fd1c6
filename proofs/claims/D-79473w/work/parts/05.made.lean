set_option maxRecDepth 100000
/-- what a made class bears: its own method, the target, the fields; of the tables alone -/
def MdAt (y : MethodName) (cc : ByteArray) (mi : Nat) (fi : List Nat) (tys : Array FieldType) (cK : ClassId) (U : State) : Prop :=
  ∃ (kK tk : Class) (file : ClassFile.ClassFile) (methk : Method) (ck : Code) (toy : ClassId) (t : MethodId) (ci nt : Nat), U.vm.classes[cK]? = some kK ∧ kK.cf = some file ∧ kK.kind = .ordinary ∧ plainName kK.name = true ∧ file.constantPool[mi]? = some (.methodref ci nt) ∧ file.constantPool.nameAndType? nt = some (y.name, y.desc) ∧
    U.vm.method? ⟨cK, 1⟩ = some methk ∧ methk.code = some ck ∧ ck.code = cc ∧ ck.maxLocals = 2 ∧ methk.locks = false ∧ methk.accessFlags = 0x0001 ∧ methk.sig.returnType = some .int ∧ ck.exceptionTable = #[] ∧
    U.vm.findClass y.cls = some toy ∧ U.vm.classes[toy]? = some tk ∧ ((methodIn toy y.name y.desc tk.isInterface none).ask { classPath := fun _ => none } U.vm).1 = .ok t ∧ U.vm.methodReady cK mi t ∧ U.vm.classReady cK ci toy ∧
    (∀ i f, fi[i]? = some f → ∃ g : Field, U.vm.fieldReady cK f cK g ∧ g.isStatic = false ∧ g.slot = i) ∧ kK.instanceTypes = tys
def Lm1_σ : Lambda.Shape := { iface := "BrookWeirs$Deed", name := "done", sam := ⟨[.object "BrookWeirs$Brook"], some .int⟩, captured := [], kind := 6, implClass := "BrookWeirs", implName := "lambda$day$5", implDesc := ⟨[.object "BrookWeirs$Brook"], some .int⟩, implItf := false, inst := ⟨[.object "BrookWeirs$Brook"], some .int⟩ }
def Lm1_xN : MethodName := ⟨"BrookWeirs", "day", "()I"⟩
def Lm1_tN : MethodName := ⟨"BrookWeirs", "lambda$day$5", "(LBrookWeirs$Brook;)I"⟩
def Lm1_fwd : ByteArray := ⟨#[43, 184, 0, 17, 172]⟩
def Lm1_DD : ClassFile.ClassFile := (Lm1_σ.file "BrookWeirs").getD { minorVersion := 0, majorVersion := 0, constantPool := #[], accessFlags := 0, thisClass := 0, superClass := 0, interfaces := #[], fields := #[], methods := #[], attributes := #[] }
def Lm1_forwarder : Method := ((layoutMethods Lm1_DD).bind (·[1]?)).getD default
def Lm1_laid : Array Field × Array ClassFile.FieldType × Array ClassFile.FieldType := (layoutFields Lm1_DD 0).getD (#[], #[], #[])
theorem Lm1_file_is : Lm1_σ.file "BrookWeirs" = some Lm1_DD := by
  have h : (Lm1_σ.file "BrookWeirs").isSome = true := by decide +kernel
  obtain ⟨x, hx⟩ := Option.isSome_iff_exists.mp h
  simp [Lm1_DD, hx]
theorem Lm1_second_is : ∀ ms, layoutMethods Lm1_DD = some ms → ms[1]? = some Lm1_forwarder := by
  intro ms hms
  have h : ((layoutMethods Lm1_DD).bind (·[1]?)).isSome = true := by decide +kernel
  obtain ⟨x, hx⟩ := Option.isSome_iff_exists.mp h
  have hf : Lm1_forwarder = x := by simp [Lm1_forwarder, hx]
  rw [hms] at hx
  rw [hf]
  exact hx
theorem Lm1_laid_is : layoutFields Lm1_DD 0 = some Lm1_laid := by
  have h : (layoutFields Lm1_DD 0).isSome = true := by decide +kernel
  obtain ⟨x, hx⟩ := Option.isSome_iff_exists.mp h
  simp [Lm1_laid, hx]
theorem Lm1_f_code : (Lm1_forwarder.code.map fun c => (c.code.data, c.maxLocals)) = some (Lm1_fwd.data, 2) := by decide +kernel
theorem Lm1_f_flags : (Lm1_forwarder.accessFlags, Lm1_forwarder.name, Lm1_forwarder.sig.returnType) = (0x0001, "done", (some .int : Option ClassFile.FieldType)) := by decide +kernel
theorem Lm1_eM : Lm1_DD.constantPool[17]? = some (.methodref 14 16) ∧ Lm1_DD.constantPool.className? 14 = some Lm1_tN.cls ∧ Lm1_DD.constantPool.nameAndType? 16 = some (Lm1_tN.name, Lm1_tN.desc) := by decide +kernel
theorem Lm1_eC : Lm1_DD.constantPool[14]? = some (.class_ 13) ∧ Lm1_DD.constantPool.string? 13 = some Lm1_tN.cls ∧ 14 ≠ Lm1_DD.thisClass := by decide +kernel
theorem Lm1_laid_types : Lm1_laid.2.1 = #[] := by decide +kernel
theorem Lm1_made {lk : Linked} {cK : ClassId} {U : State} (h0 : LmAt Lm1_σ Lm1_xN 1 249 cK lk U) (hO : ∀ o ok, U.vm.findClass "java/lang/Object" = some o → U.vm.classes[o]? = some ok → ok.instanceTypes.size = 0) : MdAt Lm1_tN Lm1_fwd 17 [] #[] cK U := by
  obtain ⟨m0, k0, cf0, i0, p0, hm0, hk0, hcf0, hsh0, hf0, h, hcan⟩ := h0
  obtain ⟨k0', hk0', hname⟩ := className_of_methodNamed hm0
  cases hk0.symm.trans hk0'
  obtain ⟨dk', k, ok, tk, file, cf, object, iface, toy, lay, methods, target, found, hd', hk, hfile, hcf, hobj, -, hok, hlay, hms, ht, htk, hg, -, hrec, -, -, -, hitf, hpool, hmeth, hfields, hty, hres, -⟩ := Lambda.isMade_spec h
  cases hk0.symm.trans hd'
  rw [hname] at hcf
  cases Lm1_file_is.symm.trans hcf
  have hok0 : ok.instanceTypes = #[] := Array.eq_empty_of_size_eq_zero (hO object ok hobj hok)
  rw [hO object ok hobj hok, Lm1_laid_is] at hlay
  cases hlay
  obtain ⟨b, hb, hsame⟩ := hmeth 1 Lm1_forwarder (Lm1_second_is methods hms)
  obtain ⟨hn, -, hsig, hfl, ca, cb, hca, hcb, -, hl, hcd, het⟩ := Lambda.sameMethod_spec hsame
  have fc := Lm1_f_code
  have ff := Lm1_f_flags
  simp only [Prod.mk.injEq] at ff
  simp only [hca, Option.map_some, Option.some.injEq, Prod.mk.injEq] at fc
  have hcls0 : U.vm.findClass Lm1_tN.cls = some toy := ht
  have hg' : ((methodIn toy Lm1_tN.name Lm1_tN.desc tk.isInterface none).ask { classPath := fun _ => none } U.vm).1 = .ok target := by
    have e1 : Lm1_σ.implDesc.toString = Lm1_tN.desc := by decide +kernel
    rw [← e1]
    exact hg
  refine ⟨k, tk, file, b, cb, toy, target, 14, 16, hk, hfile, hrec.2.1, by rw [hrec.1, hname]; decide, by rw [hpool.2.1]; exact Lm1_eM.1, by rw [hpool.2.1]; exact Lm1_eM.2.2, by simp [Vm.method?, hk, hb], hcb, by rw [hcd]; exact ByteArray.ext fc.1, by rw [hl]; exact fc.2,
    by simp [Method.locks, Method.isSynchronized, hfl, ff.1, hasFlag, Acc.synchronized], by rw [hfl]; exact ff.1, by rw [hsig]; exact ff.2.2, het, hcls0, htk, hg',
    ⟨k, hk, hres 17 _ (Lambda.resolvedOf_method Lm1_eM.1 Lm1_eM.2.1 ht htk Lm1_eM.2.2 hg')⟩, ⟨k, hk, hres 14 _ (Lambda.resolvedOf_class Lm1_eC.1 Lm1_eC.2.2 Lm1_eC.2.1 ht)⟩, ?_, by rw [hty.1, hok0, Lm1_laid_types]; rfl⟩
  intro i f hf
  match i, hf with
  | _ + 0, hf => simp at hf
def Lm2_σ : Lambda.Shape := { iface := "BrookWeirs$Deed", name := "done", sam := ⟨[.object "BrookWeirs$Brook"], some .int⟩, captured := [.int, .int, .int], kind := 6, implClass := "BrookWeirs", implName := "lambda$pool$0", implDesc := ⟨[.int, .int, .int, .object "BrookWeirs$Brook"], some .int⟩, implItf := false, inst := ⟨[.object "BrookWeirs$Brook"], some .int⟩ }
def Lm2_xN : MethodName := ⟨"BrookWeirs", "pool", "(III)I"⟩
def Lm2_tN : MethodName := ⟨"BrookWeirs", "lambda$pool$0", "(IIILBrookWeirs$Brook;)I"⟩
def Lm2_fwd : ByteArray := ⟨#[42, 180, 0, 17, 42, 180, 0, 19, 42, 180, 0, 21, 43, 184, 0, 29, 172]⟩
def Lm2_DD : ClassFile.ClassFile := (Lm2_σ.file "BrookWeirs").getD { minorVersion := 0, majorVersion := 0, constantPool := #[], accessFlags := 0, thisClass := 0, superClass := 0, interfaces := #[], fields := #[], methods := #[], attributes := #[] }
def Lm2_forwarder : Method := ((layoutMethods Lm2_DD).bind (·[1]?)).getD default
def Lm2_laid : Array Field × Array ClassFile.FieldType × Array ClassFile.FieldType := (layoutFields Lm2_DD 0).getD (#[], #[], #[])
theorem Lm2_file_is : Lm2_σ.file "BrookWeirs" = some Lm2_DD := by
  have h : (Lm2_σ.file "BrookWeirs").isSome = true := by decide +kernel
  obtain ⟨x, hx⟩ := Option.isSome_iff_exists.mp h
  simp [Lm2_DD, hx]
theorem Lm2_second_is : ∀ ms, layoutMethods Lm2_DD = some ms → ms[1]? = some Lm2_forwarder := by
  intro ms hms
  have h : ((layoutMethods Lm2_DD).bind (·[1]?)).isSome = true := by decide +kernel
  obtain ⟨x, hx⟩ := Option.isSome_iff_exists.mp h
  have hf : Lm2_forwarder = x := by simp [Lm2_forwarder, hx]
  rw [hms] at hx
  rw [hf]
  exact hx
theorem Lm2_laid_is : layoutFields Lm2_DD 0 = some Lm2_laid := by
  have h : (layoutFields Lm2_DD 0).isSome = true := by decide +kernel
  obtain ⟨x, hx⟩ := Option.isSome_iff_exists.mp h
  simp [Lm2_laid, hx]
theorem Lm2_f_code : (Lm2_forwarder.code.map fun c => (c.code.data, c.maxLocals)) = some (Lm2_fwd.data, 2) := by decide +kernel
theorem Lm2_f_flags : (Lm2_forwarder.accessFlags, Lm2_forwarder.name, Lm2_forwarder.sig.returnType) = (0x0001, "done", (some .int : Option ClassFile.FieldType)) := by decide +kernel
theorem Lm2_eM : Lm2_DD.constantPool[29]? = some (.methodref 25 28) ∧ Lm2_DD.constantPool.className? 25 = some Lm2_tN.cls ∧ Lm2_DD.constantPool.nameAndType? 28 = some (Lm2_tN.name, Lm2_tN.desc) := by decide +kernel
theorem Lm2_eC : Lm2_DD.constantPool[25]? = some (.class_ 24) ∧ Lm2_DD.constantPool.string? 24 = some Lm2_tN.cls ∧ 25 ≠ Lm2_DD.thisClass := by decide +kernel
theorem Lm2_eF0 : Lm2_DD.constantPool[17]? = some (.fieldref 2 16) ∧ Lm2_DD.constantPool.nameAndType? 16 = some ("arg$1", "I") ∧ Lm2_laid.1.findIdx? (·.name == "arg$1") = some 0 ∧ (Lm2_laid.1[0]?).map (fun f => (f.isStatic, f.slot)) = some (false, 0) := by decide +kernel
theorem Lm2_eF1 : Lm2_DD.constantPool[19]? = some (.fieldref 2 18) ∧ Lm2_DD.constantPool.nameAndType? 18 = some ("arg$2", "I") ∧ Lm2_laid.1.findIdx? (·.name == "arg$2") = some 1 ∧ (Lm2_laid.1[1]?).map (fun f => (f.isStatic, f.slot)) = some (false, 1) := by decide +kernel
theorem Lm2_eF2 : Lm2_DD.constantPool[21]? = some (.fieldref 2 20) ∧ Lm2_DD.constantPool.nameAndType? 20 = some ("arg$3", "I") ∧ Lm2_laid.1.findIdx? (·.name == "arg$3") = some 2 ∧ (Lm2_laid.1[2]?).map (fun f => (f.isStatic, f.slot)) = some (false, 2) := by decide +kernel
theorem Lm2_laid_types : Lm2_laid.2.1 = #[.int, .int, .int] := by decide +kernel
theorem Lm2_made {lk : Linked} {cK : ClassId} {U : State} (h0 : LmAt Lm2_σ Lm2_xN 42 120 cK lk U) (hO : ∀ o ok, U.vm.findClass "java/lang/Object" = some o → U.vm.classes[o]? = some ok → ok.instanceTypes.size = 0) : MdAt Lm2_tN Lm2_fwd 29 [17, 19, 21] #[.int, .int, .int] cK U := by
  obtain ⟨m0, k0, cf0, i0, p0, hm0, hk0, hcf0, hsh0, hf0, h, hcan⟩ := h0
  obtain ⟨k0', hk0', hname⟩ := className_of_methodNamed hm0
  cases hk0.symm.trans hk0'
  obtain ⟨dk', k, ok, tk, file, cf, object, iface, toy, lay, methods, target, found, hd', hk, hfile, hcf, hobj, -, hok, hlay, hms, ht, htk, hg, -, hrec, -, -, -, hitf, hpool, hmeth, hfields, hty, hres, -⟩ := Lambda.isMade_spec h
  cases hk0.symm.trans hd'
  rw [hname] at hcf
  cases Lm2_file_is.symm.trans hcf
  have hok0 : ok.instanceTypes = #[] := Array.eq_empty_of_size_eq_zero (hO object ok hobj hok)
  rw [hO object ok hobj hok, Lm2_laid_is] at hlay
  cases hlay
  obtain ⟨b, hb, hsame⟩ := hmeth 1 Lm2_forwarder (Lm2_second_is methods hms)
  obtain ⟨hn, -, hsig, hfl, ca, cb, hca, hcb, -, hl, hcd, het⟩ := Lambda.sameMethod_spec hsame
  have fc := Lm2_f_code
  have ff := Lm2_f_flags
  simp only [Prod.mk.injEq] at ff
  simp only [hca, Option.map_some, Option.some.injEq, Prod.mk.injEq] at fc
  obtain ⟨g0, hg0, hp0⟩ := Option.map_eq_some_iff.mp Lm2_eF0.2.2.2
  simp only [Prod.mk.injEq] at hp0
  obtain ⟨g1, hg1, hp1⟩ := Option.map_eq_some_iff.mp Lm2_eF1.2.2.2
  simp only [Prod.mk.injEq] at hp1
  obtain ⟨g2, hg2, hp2⟩ := Option.map_eq_some_iff.mp Lm2_eF2.2.2.2
  simp only [Prod.mk.injEq] at hp2
  have hcls0 : U.vm.findClass Lm2_tN.cls = some toy := ht
  have hg' : ((methodIn toy Lm2_tN.name Lm2_tN.desc tk.isInterface none).ask { classPath := fun _ => none } U.vm).1 = .ok target := by
    have e1 : Lm2_σ.implDesc.toString = Lm2_tN.desc := by decide +kernel
    rw [← e1]
    exact hg
  refine ⟨k, tk, file, b, cb, toy, target, 25, 28, hk, hfile, hrec.2.1, by rw [hrec.1, hname]; decide, by rw [hpool.2.1]; exact Lm2_eM.1, by rw [hpool.2.1]; exact Lm2_eM.2.2, by simp [Vm.method?, hk, hb], hcb, by rw [hcd]; exact ByteArray.ext fc.1, by rw [hl]; exact fc.2,
    by simp [Method.locks, Method.isSynchronized, hfl, ff.1, hasFlag, Acc.synchronized], by rw [hfl]; exact ff.1, by rw [hsig]; exact ff.2.2, het, hcls0, htk, hg',
    ⟨k, hk, hres 29 _ (Lambda.resolvedOf_method Lm2_eM.1 Lm2_eM.2.1 ht htk Lm2_eM.2.2 hg')⟩, ⟨k, hk, hres 25 _ (Lambda.resolvedOf_class Lm2_eC.1 Lm2_eC.2.2 Lm2_eC.2.1 ht)⟩, ?_, by rw [hty.1, hok0, Lm2_laid_types]; rfl⟩
  intro i f hf
  match i, hf with
  | 0, hf =>
    cases hf
    exact ⟨g0, ⟨k, 0, k, hk, hres 17 _ (Lambda.resolvedOf_field Lm2_eF0.1 Lm2_eF0.2.1 Lm2_eF0.2.2.1), hk, hfields 0 _ hg0⟩, hp0.1, hp0.2⟩
  | 1, hf =>
    cases hf
    exact ⟨g1, ⟨k, 1, k, hk, hres 19 _ (Lambda.resolvedOf_field Lm2_eF1.1 Lm2_eF1.2.1 Lm2_eF1.2.2.1), hk, hfields 1 _ hg1⟩, hp1.1, hp1.2⟩
  | 2, hf =>
    cases hf
    exact ⟨g2, ⟨k, 2, k, hk, hres 21 _ (Lambda.resolvedOf_field Lm2_eF2.1 Lm2_eF2.2.1 Lm2_eF2.2.2.1), hk, hfields 2 _ hg2⟩, hp2.1, hp2.2⟩
  | _ + 3, hf => simp at hf
def Lm3_σ : Lambda.Shape := { iface := "BrookWeirs$Deed", name := "done", sam := ⟨[.object "BrookWeirs$Brook"], some .int⟩, captured := [.int, .int], kind := 6, implClass := "BrookWeirs", implName := "lambda$boards$1", implDesc := ⟨[.int, .int, .object "BrookWeirs$Brook"], some .int⟩, implItf := false, inst := ⟨[.object "BrookWeirs$Brook"], some .int⟩ }
def Lm3_xN : MethodName := ⟨"BrookWeirs", "boards", "(II)I"⟩
def Lm3_tN : MethodName := ⟨"BrookWeirs", "lambda$boards$1", "(IILBrookWeirs$Brook;)I"⟩
def Lm3_fwd : ByteArray := ⟨#[42, 180, 0, 16, 42, 180, 0, 18, 43, 184, 0, 26, 172]⟩
def Lm3_DD : ClassFile.ClassFile := (Lm3_σ.file "BrookWeirs").getD { minorVersion := 0, majorVersion := 0, constantPool := #[], accessFlags := 0, thisClass := 0, superClass := 0, interfaces := #[], fields := #[], methods := #[], attributes := #[] }
def Lm3_forwarder : Method := ((layoutMethods Lm3_DD).bind (·[1]?)).getD default
def Lm3_laid : Array Field × Array ClassFile.FieldType × Array ClassFile.FieldType := (layoutFields Lm3_DD 0).getD (#[], #[], #[])
theorem Lm3_file_is : Lm3_σ.file "BrookWeirs" = some Lm3_DD := by
  have h : (Lm3_σ.file "BrookWeirs").isSome = true := by decide +kernel
  obtain ⟨x, hx⟩ := Option.isSome_iff_exists.mp h
  simp [Lm3_DD, hx]
theorem Lm3_second_is : ∀ ms, layoutMethods Lm3_DD = some ms → ms[1]? = some Lm3_forwarder := by
  intro ms hms
  have h : ((layoutMethods Lm3_DD).bind (·[1]?)).isSome = true := by decide +kernel
  obtain ⟨x, hx⟩ := Option.isSome_iff_exists.mp h
  have hf : Lm3_forwarder = x := by simp [Lm3_forwarder, hx]
  rw [hms] at hx
  rw [hf]
  exact hx
theorem Lm3_laid_is : layoutFields Lm3_DD 0 = some Lm3_laid := by
  have h : (layoutFields Lm3_DD 0).isSome = true := by decide +kernel
  obtain ⟨x, hx⟩ := Option.isSome_iff_exists.mp h
  simp [Lm3_laid, hx]
theorem Lm3_f_code : (Lm3_forwarder.code.map fun c => (c.code.data, c.maxLocals)) = some (Lm3_fwd.data, 2) := by decide +kernel
theorem Lm3_f_flags : (Lm3_forwarder.accessFlags, Lm3_forwarder.name, Lm3_forwarder.sig.returnType) = (0x0001, "done", (some .int : Option ClassFile.FieldType)) := by decide +kernel
theorem Lm3_eM : Lm3_DD.constantPool[26]? = some (.methodref 22 25) ∧ Lm3_DD.constantPool.className? 22 = some Lm3_tN.cls ∧ Lm3_DD.constantPool.nameAndType? 25 = some (Lm3_tN.name, Lm3_tN.desc) := by decide +kernel
theorem Lm3_eC : Lm3_DD.constantPool[22]? = some (.class_ 21) ∧ Lm3_DD.constantPool.string? 21 = some Lm3_tN.cls ∧ 22 ≠ Lm3_DD.thisClass := by decide +kernel
theorem Lm3_eF0 : Lm3_DD.constantPool[16]? = some (.fieldref 2 15) ∧ Lm3_DD.constantPool.nameAndType? 15 = some ("arg$1", "I") ∧ Lm3_laid.1.findIdx? (·.name == "arg$1") = some 0 ∧ (Lm3_laid.1[0]?).map (fun f => (f.isStatic, f.slot)) = some (false, 0) := by decide +kernel
theorem Lm3_eF1 : Lm3_DD.constantPool[18]? = some (.fieldref 2 17) ∧ Lm3_DD.constantPool.nameAndType? 17 = some ("arg$2", "I") ∧ Lm3_laid.1.findIdx? (·.name == "arg$2") = some 1 ∧ (Lm3_laid.1[1]?).map (fun f => (f.isStatic, f.slot)) = some (false, 1) := by decide +kernel
theorem Lm3_laid_types : Lm3_laid.2.1 = #[.int, .int] := by decide +kernel
theorem Lm3_made {lk : Linked} {cK : ClassId} {U : State} (h0 : LmAt Lm3_σ Lm3_xN 3 127 cK lk U) (hO : ∀ o ok, U.vm.findClass "java/lang/Object" = some o → U.vm.classes[o]? = some ok → ok.instanceTypes.size = 0) : MdAt Lm3_tN Lm3_fwd 26 [16, 18] #[.int, .int] cK U := by
  obtain ⟨m0, k0, cf0, i0, p0, hm0, hk0, hcf0, hsh0, hf0, h, hcan⟩ := h0
  obtain ⟨k0', hk0', hname⟩ := className_of_methodNamed hm0
  cases hk0.symm.trans hk0'
  obtain ⟨dk', k, ok, tk, file, cf, object, iface, toy, lay, methods, target, found, hd', hk, hfile, hcf, hobj, -, hok, hlay, hms, ht, htk, hg, -, hrec, -, -, -, hitf, hpool, hmeth, hfields, hty, hres, -⟩ := Lambda.isMade_spec h
  cases hk0.symm.trans hd'
  rw [hname] at hcf
  cases Lm3_file_is.symm.trans hcf
  have hok0 : ok.instanceTypes = #[] := Array.eq_empty_of_size_eq_zero (hO object ok hobj hok)
  rw [hO object ok hobj hok, Lm3_laid_is] at hlay
  cases hlay
  obtain ⟨b, hb, hsame⟩ := hmeth 1 Lm3_forwarder (Lm3_second_is methods hms)
  obtain ⟨hn, -, hsig, hfl, ca, cb, hca, hcb, -, hl, hcd, het⟩ := Lambda.sameMethod_spec hsame
  have fc := Lm3_f_code
  have ff := Lm3_f_flags
  simp only [Prod.mk.injEq] at ff
  simp only [hca, Option.map_some, Option.some.injEq, Prod.mk.injEq] at fc
  obtain ⟨g0, hg0, hp0⟩ := Option.map_eq_some_iff.mp Lm3_eF0.2.2.2
  simp only [Prod.mk.injEq] at hp0
  obtain ⟨g1, hg1, hp1⟩ := Option.map_eq_some_iff.mp Lm3_eF1.2.2.2
  simp only [Prod.mk.injEq] at hp1
  have hcls0 : U.vm.findClass Lm3_tN.cls = some toy := ht
  have hg' : ((methodIn toy Lm3_tN.name Lm3_tN.desc tk.isInterface none).ask { classPath := fun _ => none } U.vm).1 = .ok target := by
    have e1 : Lm3_σ.implDesc.toString = Lm3_tN.desc := by decide +kernel
    rw [← e1]
    exact hg
  refine ⟨k, tk, file, b, cb, toy, target, 22, 25, hk, hfile, hrec.2.1, by rw [hrec.1, hname]; decide, by rw [hpool.2.1]; exact Lm3_eM.1, by rw [hpool.2.1]; exact Lm3_eM.2.2, by simp [Vm.method?, hk, hb], hcb, by rw [hcd]; exact ByteArray.ext fc.1, by rw [hl]; exact fc.2,
    by simp [Method.locks, Method.isSynchronized, hfl, ff.1, hasFlag, Acc.synchronized], by rw [hfl]; exact ff.1, by rw [hsig]; exact ff.2.2, het, hcls0, htk, hg',
    ⟨k, hk, hres 26 _ (Lambda.resolvedOf_method Lm3_eM.1 Lm3_eM.2.1 ht htk Lm3_eM.2.2 hg')⟩, ⟨k, hk, hres 22 _ (Lambda.resolvedOf_class Lm3_eC.1 Lm3_eC.2.2 Lm3_eC.2.1 ht)⟩, ?_, by rw [hty.1, hok0, Lm3_laid_types]; rfl⟩
  intro i f hf
  match i, hf with
  | 0, hf =>
    cases hf
    exact ⟨g0, ⟨k, 0, k, hk, hres 16 _ (Lambda.resolvedOf_field Lm3_eF0.1 Lm3_eF0.2.1 Lm3_eF0.2.2.1), hk, hfields 0 _ hg0⟩, hp0.1, hp0.2⟩
  | 1, hf =>
    cases hf
    exact ⟨g1, ⟨k, 1, k, hk, hres 18 _ (Lambda.resolvedOf_field Lm3_eF1.1 Lm3_eF1.2.1 Lm3_eF1.2.2.1), hk, hfields 1 _ hg1⟩, hp1.1, hp1.2⟩
  | _ + 2, hf => simp at hf
def Lm4_σ : Lambda.Shape := { iface := "BrookWeirs$Deed", name := "done", sam := ⟨[.object "BrookWeirs$Brook"], some .int⟩, captured := [.int, .boolean, .boolean], kind := 6, implClass := "BrookWeirs", implName := "lambda$latch$2", implDesc := ⟨[.int, .boolean, .boolean, .object "BrookWeirs$Brook"], some .int⟩, implItf := false, inst := ⟨[.object "BrookWeirs$Brook"], some .int⟩ }
def Lm4_xN : MethodName := ⟨"BrookWeirs", "latch", "(IZZ)Z"⟩
def Lm4_tN : MethodName := ⟨"BrookWeirs", "lambda$latch$2", "(IZZLBrookWeirs$Brook;)I"⟩
def Lm4_fwd : ByteArray := ⟨#[42, 180, 0, 18, 42, 180, 0, 20, 42, 180, 0, 22, 43, 184, 0, 30, 172]⟩
def Lm4_DD : ClassFile.ClassFile := (Lm4_σ.file "BrookWeirs").getD { minorVersion := 0, majorVersion := 0, constantPool := #[], accessFlags := 0, thisClass := 0, superClass := 0, interfaces := #[], fields := #[], methods := #[], attributes := #[] }
def Lm4_forwarder : Method := ((layoutMethods Lm4_DD).bind (·[1]?)).getD default
def Lm4_laid : Array Field × Array ClassFile.FieldType × Array ClassFile.FieldType := (layoutFields Lm4_DD 0).getD (#[], #[], #[])
theorem Lm4_file_is : Lm4_σ.file "BrookWeirs" = some Lm4_DD := by
  have h : (Lm4_σ.file "BrookWeirs").isSome = true := by decide +kernel
  obtain ⟨x, hx⟩ := Option.isSome_iff_exists.mp h
  simp [Lm4_DD, hx]
theorem Lm4_second_is : ∀ ms, layoutMethods Lm4_DD = some ms → ms[1]? = some Lm4_forwarder := by
  intro ms hms
  have h : ((layoutMethods Lm4_DD).bind (·[1]?)).isSome = true := by decide +kernel
  obtain ⟨x, hx⟩ := Option.isSome_iff_exists.mp h
  have hf : Lm4_forwarder = x := by simp [Lm4_forwarder, hx]
  rw [hms] at hx
  rw [hf]
  exact hx
theorem Lm4_laid_is : layoutFields Lm4_DD 0 = some Lm4_laid := by
  have h : (layoutFields Lm4_DD 0).isSome = true := by decide +kernel
  obtain ⟨x, hx⟩ := Option.isSome_iff_exists.mp h
  simp [Lm4_laid, hx]
theorem Lm4_f_code : (Lm4_forwarder.code.map fun c => (c.code.data, c.maxLocals)) = some (Lm4_fwd.data, 2) := by decide +kernel
theorem Lm4_f_flags : (Lm4_forwarder.accessFlags, Lm4_forwarder.name, Lm4_forwarder.sig.returnType) = (0x0001, "done", (some .int : Option ClassFile.FieldType)) := by decide +kernel
theorem Lm4_eM : Lm4_DD.constantPool[30]? = some (.methodref 26 29) ∧ Lm4_DD.constantPool.className? 26 = some Lm4_tN.cls ∧ Lm4_DD.constantPool.nameAndType? 29 = some (Lm4_tN.name, Lm4_tN.desc) := by decide +kernel
theorem Lm4_eC : Lm4_DD.constantPool[26]? = some (.class_ 25) ∧ Lm4_DD.constantPool.string? 25 = some Lm4_tN.cls ∧ 26 ≠ Lm4_DD.thisClass := by decide +kernel
theorem Lm4_eF0 : Lm4_DD.constantPool[18]? = some (.fieldref 2 17) ∧ Lm4_DD.constantPool.nameAndType? 17 = some ("arg$1", "I") ∧ Lm4_laid.1.findIdx? (·.name == "arg$1") = some 0 ∧ (Lm4_laid.1[0]?).map (fun f => (f.isStatic, f.slot)) = some (false, 0) := by decide +kernel
theorem Lm4_eF1 : Lm4_DD.constantPool[20]? = some (.fieldref 2 19) ∧ Lm4_DD.constantPool.nameAndType? 19 = some ("arg$2", "Z") ∧ Lm4_laid.1.findIdx? (·.name == "arg$2") = some 1 ∧ (Lm4_laid.1[1]?).map (fun f => (f.isStatic, f.slot)) = some (false, 1) := by decide +kernel
theorem Lm4_eF2 : Lm4_DD.constantPool[22]? = some (.fieldref 2 21) ∧ Lm4_DD.constantPool.nameAndType? 21 = some ("arg$3", "Z") ∧ Lm4_laid.1.findIdx? (·.name == "arg$3") = some 2 ∧ (Lm4_laid.1[2]?).map (fun f => (f.isStatic, f.slot)) = some (false, 2) := by decide +kernel
theorem Lm4_laid_types : Lm4_laid.2.1 = #[.int, .boolean, .boolean] := by decide +kernel
theorem Lm4_made {lk : Linked} {cK : ClassId} {U : State} (h0 : LmAt Lm4_σ Lm4_xN 4 145 cK lk U) (hO : ∀ o ok, U.vm.findClass "java/lang/Object" = some o → U.vm.classes[o]? = some ok → ok.instanceTypes.size = 0) : MdAt Lm4_tN Lm4_fwd 30 [18, 20, 22] #[.int, .boolean, .boolean] cK U := by
  obtain ⟨m0, k0, cf0, i0, p0, hm0, hk0, hcf0, hsh0, hf0, h, hcan⟩ := h0
  obtain ⟨k0', hk0', hname⟩ := className_of_methodNamed hm0
  cases hk0.symm.trans hk0'
  obtain ⟨dk', k, ok, tk, file, cf, object, iface, toy, lay, methods, target, found, hd', hk, hfile, hcf, hobj, -, hok, hlay, hms, ht, htk, hg, -, hrec, -, -, -, hitf, hpool, hmeth, hfields, hty, hres, -⟩ := Lambda.isMade_spec h
  cases hk0.symm.trans hd'
  rw [hname] at hcf
  cases Lm4_file_is.symm.trans hcf
  have hok0 : ok.instanceTypes = #[] := Array.eq_empty_of_size_eq_zero (hO object ok hobj hok)
  rw [hO object ok hobj hok, Lm4_laid_is] at hlay
  cases hlay
  obtain ⟨b, hb, hsame⟩ := hmeth 1 Lm4_forwarder (Lm4_second_is methods hms)
  obtain ⟨hn, -, hsig, hfl, ca, cb, hca, hcb, -, hl, hcd, het⟩ := Lambda.sameMethod_spec hsame
  have fc := Lm4_f_code
  have ff := Lm4_f_flags
  simp only [Prod.mk.injEq] at ff
  simp only [hca, Option.map_some, Option.some.injEq, Prod.mk.injEq] at fc
  obtain ⟨g0, hg0, hp0⟩ := Option.map_eq_some_iff.mp Lm4_eF0.2.2.2
  simp only [Prod.mk.injEq] at hp0
  obtain ⟨g1, hg1, hp1⟩ := Option.map_eq_some_iff.mp Lm4_eF1.2.2.2
  simp only [Prod.mk.injEq] at hp1
  obtain ⟨g2, hg2, hp2⟩ := Option.map_eq_some_iff.mp Lm4_eF2.2.2.2
  simp only [Prod.mk.injEq] at hp2
  have hcls0 : U.vm.findClass Lm4_tN.cls = some toy := ht
  have hg' : ((methodIn toy Lm4_tN.name Lm4_tN.desc tk.isInterface none).ask { classPath := fun _ => none } U.vm).1 = .ok target := by
    have e1 : Lm4_σ.implDesc.toString = Lm4_tN.desc := by decide +kernel
    rw [← e1]
    exact hg
  refine ⟨k, tk, file, b, cb, toy, target, 26, 29, hk, hfile, hrec.2.1, by rw [hrec.1, hname]; decide, by rw [hpool.2.1]; exact Lm4_eM.1, by rw [hpool.2.1]; exact Lm4_eM.2.2, by simp [Vm.method?, hk, hb], hcb, by rw [hcd]; exact ByteArray.ext fc.1, by rw [hl]; exact fc.2,
    by simp [Method.locks, Method.isSynchronized, hfl, ff.1, hasFlag, Acc.synchronized], by rw [hfl]; exact ff.1, by rw [hsig]; exact ff.2.2, het, hcls0, htk, hg',
    ⟨k, hk, hres 30 _ (Lambda.resolvedOf_method Lm4_eM.1 Lm4_eM.2.1 ht htk Lm4_eM.2.2 hg')⟩, ⟨k, hk, hres 26 _ (Lambda.resolvedOf_class Lm4_eC.1 Lm4_eC.2.2 Lm4_eC.2.1 ht)⟩, ?_, by rw [hty.1, hok0, Lm4_laid_types]; rfl⟩
  intro i f hf
  match i, hf with
  | 0, hf =>
    cases hf
    exact ⟨g0, ⟨k, 0, k, hk, hres 18 _ (Lambda.resolvedOf_field Lm4_eF0.1 Lm4_eF0.2.1 Lm4_eF0.2.2.1), hk, hfields 0 _ hg0⟩, hp0.1, hp0.2⟩
  | 1, hf =>
    cases hf
    exact ⟨g1, ⟨k, 1, k, hk, hres 20 _ (Lambda.resolvedOf_field Lm4_eF1.1 Lm4_eF1.2.1 Lm4_eF1.2.2.1), hk, hfields 1 _ hg1⟩, hp1.1, hp1.2⟩
  | 2, hf =>
    cases hf
    exact ⟨g2, ⟨k, 2, k, hk, hres 22 _ (Lambda.resolvedOf_field Lm4_eF2.1 Lm4_eF2.2.1 Lm4_eF2.2.2.1), hk, hfields 2 _ hg2⟩, hp2.1, hp2.2⟩
  | _ + 3, hf => simp at hf
def Lm5_σ : Lambda.Shape := { iface := "BrookWeirs$Deed", name := "done", sam := ⟨[.object "BrookWeirs$Brook"], some .int⟩, captured := [.int, .int], kind := 6, implClass := "BrookWeirs", implName := "lambda$lay$3", implDesc := ⟨[.int, .int, .object "BrookWeirs$Brook"], some .int⟩, implItf := false, inst := ⟨[.object "BrookWeirs$Brook"], some .int⟩ }
def Lm5_xN : MethodName := ⟨"BrookWeirs", "lay", "(II)I"⟩
def Lm5_tN : MethodName := ⟨"BrookWeirs", "lambda$lay$3", "(IILBrookWeirs$Brook;)I"⟩
def Lm5_fwd : ByteArray := ⟨#[42, 180, 0, 16, 42, 180, 0, 18, 43, 184, 0, 26, 172]⟩
def Lm5_DD : ClassFile.ClassFile := (Lm5_σ.file "BrookWeirs").getD { minorVersion := 0, majorVersion := 0, constantPool := #[], accessFlags := 0, thisClass := 0, superClass := 0, interfaces := #[], fields := #[], methods := #[], attributes := #[] }
def Lm5_forwarder : Method := ((layoutMethods Lm5_DD).bind (·[1]?)).getD default
def Lm5_laid : Array Field × Array ClassFile.FieldType × Array ClassFile.FieldType := (layoutFields Lm5_DD 0).getD (#[], #[], #[])
theorem Lm5_file_is : Lm5_σ.file "BrookWeirs" = some Lm5_DD := by
  have h : (Lm5_σ.file "BrookWeirs").isSome = true := by decide +kernel
  obtain ⟨x, hx⟩ := Option.isSome_iff_exists.mp h
  simp [Lm5_DD, hx]
theorem Lm5_second_is : ∀ ms, layoutMethods Lm5_DD = some ms → ms[1]? = some Lm5_forwarder := by
  intro ms hms
  have h : ((layoutMethods Lm5_DD).bind (·[1]?)).isSome = true := by decide +kernel
  obtain ⟨x, hx⟩ := Option.isSome_iff_exists.mp h
  have hf : Lm5_forwarder = x := by simp [Lm5_forwarder, hx]
  rw [hms] at hx
  rw [hf]
  exact hx
theorem Lm5_laid_is : layoutFields Lm5_DD 0 = some Lm5_laid := by
  have h : (layoutFields Lm5_DD 0).isSome = true := by decide +kernel
  obtain ⟨x, hx⟩ := Option.isSome_iff_exists.mp h
  simp [Lm5_laid, hx]
theorem Lm5_f_code : (Lm5_forwarder.code.map fun c => (c.code.data, c.maxLocals)) = some (Lm5_fwd.data, 2) := by decide +kernel
theorem Lm5_f_flags : (Lm5_forwarder.accessFlags, Lm5_forwarder.name, Lm5_forwarder.sig.returnType) = (0x0001, "done", (some .int : Option ClassFile.FieldType)) := by decide +kernel
theorem Lm5_eM : Lm5_DD.constantPool[26]? = some (.methodref 22 25) ∧ Lm5_DD.constantPool.className? 22 = some Lm5_tN.cls ∧ Lm5_DD.constantPool.nameAndType? 25 = some (Lm5_tN.name, Lm5_tN.desc) := by decide +kernel
theorem Lm5_eC : Lm5_DD.constantPool[22]? = some (.class_ 21) ∧ Lm5_DD.constantPool.string? 21 = some Lm5_tN.cls ∧ 22 ≠ Lm5_DD.thisClass := by decide +kernel
theorem Lm5_eF0 : Lm5_DD.constantPool[16]? = some (.fieldref 2 15) ∧ Lm5_DD.constantPool.nameAndType? 15 = some ("arg$1", "I") ∧ Lm5_laid.1.findIdx? (·.name == "arg$1") = some 0 ∧ (Lm5_laid.1[0]?).map (fun f => (f.isStatic, f.slot)) = some (false, 0) := by decide +kernel
theorem Lm5_eF1 : Lm5_DD.constantPool[18]? = some (.fieldref 2 17) ∧ Lm5_DD.constantPool.nameAndType? 17 = some ("arg$2", "I") ∧ Lm5_laid.1.findIdx? (·.name == "arg$2") = some 1 ∧ (Lm5_laid.1[1]?).map (fun f => (f.isStatic, f.slot)) = some (false, 1) := by decide +kernel
theorem Lm5_laid_types : Lm5_laid.2.1 = #[.int, .int] := by decide +kernel
theorem Lm5_made {lk : Linked} {cK : ClassId} {U : State} (h0 : LmAt Lm5_σ Lm5_xN 3 151 cK lk U) (hO : ∀ o ok, U.vm.findClass "java/lang/Object" = some o → U.vm.classes[o]? = some ok → ok.instanceTypes.size = 0) : MdAt Lm5_tN Lm5_fwd 26 [16, 18] #[.int, .int] cK U := by
  obtain ⟨m0, k0, cf0, i0, p0, hm0, hk0, hcf0, hsh0, hf0, h, hcan⟩ := h0
  obtain ⟨k0', hk0', hname⟩ := className_of_methodNamed hm0
  cases hk0.symm.trans hk0'
  obtain ⟨dk', k, ok, tk, file, cf, object, iface, toy, lay, methods, target, found, hd', hk, hfile, hcf, hobj, -, hok, hlay, hms, ht, htk, hg, -, hrec, -, -, -, hitf, hpool, hmeth, hfields, hty, hres, -⟩ := Lambda.isMade_spec h
  cases hk0.symm.trans hd'
  rw [hname] at hcf
  cases Lm5_file_is.symm.trans hcf
  have hok0 : ok.instanceTypes = #[] := Array.eq_empty_of_size_eq_zero (hO object ok hobj hok)
  rw [hO object ok hobj hok, Lm5_laid_is] at hlay
  cases hlay
  obtain ⟨b, hb, hsame⟩ := hmeth 1 Lm5_forwarder (Lm5_second_is methods hms)
  obtain ⟨hn, -, hsig, hfl, ca, cb, hca, hcb, -, hl, hcd, het⟩ := Lambda.sameMethod_spec hsame
  have fc := Lm5_f_code
  have ff := Lm5_f_flags
  simp only [Prod.mk.injEq] at ff
  simp only [hca, Option.map_some, Option.some.injEq, Prod.mk.injEq] at fc
  obtain ⟨g0, hg0, hp0⟩ := Option.map_eq_some_iff.mp Lm5_eF0.2.2.2
  simp only [Prod.mk.injEq] at hp0
  obtain ⟨g1, hg1, hp1⟩ := Option.map_eq_some_iff.mp Lm5_eF1.2.2.2
  simp only [Prod.mk.injEq] at hp1
  have hcls0 : U.vm.findClass Lm5_tN.cls = some toy := ht
  have hg' : ((methodIn toy Lm5_tN.name Lm5_tN.desc tk.isInterface none).ask { classPath := fun _ => none } U.vm).1 = .ok target := by
    have e1 : Lm5_σ.implDesc.toString = Lm5_tN.desc := by decide +kernel
    rw [← e1]
    exact hg
  refine ⟨k, tk, file, b, cb, toy, target, 22, 25, hk, hfile, hrec.2.1, by rw [hrec.1, hname]; decide, by rw [hpool.2.1]; exact Lm5_eM.1, by rw [hpool.2.1]; exact Lm5_eM.2.2, by simp [Vm.method?, hk, hb], hcb, by rw [hcd]; exact ByteArray.ext fc.1, by rw [hl]; exact fc.2,
    by simp [Method.locks, Method.isSynchronized, hfl, ff.1, hasFlag, Acc.synchronized], by rw [hfl]; exact ff.1, by rw [hsig]; exact ff.2.2, het, hcls0, htk, hg',
    ⟨k, hk, hres 26 _ (Lambda.resolvedOf_method Lm5_eM.1 Lm5_eM.2.1 ht htk Lm5_eM.2.2 hg')⟩, ⟨k, hk, hres 22 _ (Lambda.resolvedOf_class Lm5_eC.1 Lm5_eC.2.2 Lm5_eC.2.1 ht)⟩, ?_, by rw [hty.1, hok0, Lm5_laid_types]; rfl⟩
  intro i f hf
  match i, hf with
  | 0, hf =>
    cases hf
    exact ⟨g0, ⟨k, 0, k, hk, hres 16 _ (Lambda.resolvedOf_field Lm5_eF0.1 Lm5_eF0.2.1 Lm5_eF0.2.2.1), hk, hfields 0 _ hg0⟩, hp0.1, hp0.2⟩
  | 1, hf =>
    cases hf
    exact ⟨g1, ⟨k, 1, k, hk, hres 18 _ (Lambda.resolvedOf_field Lm5_eF1.1 Lm5_eF1.2.1 Lm5_eF1.2.2.1), hk, hfields 1 _ hg1⟩, hp1.1, hp1.2⟩
  | _ + 2, hf => simp at hf
def Lm6_σ : Lambda.Shape := { iface := "BrookWeirs$Deed", name := "done", sam := ⟨[.object "BrookWeirs$Brook"], some .int⟩, captured := [.int], kind := 6, implClass := "BrookWeirs", implName := "lambda$tell$4", implDesc := ⟨[.int, .object "BrookWeirs$Brook"], some .int⟩, implItf := false, inst := ⟨[.object "BrookWeirs$Brook"], some .int⟩ }
def Lm6_xN : MethodName := ⟨"BrookWeirs", "tell", "(I)I"⟩
def Lm6_tN : MethodName := ⟨"BrookWeirs", "lambda$tell$4", "(ILBrookWeirs$Brook;)I"⟩
def Lm6_fwd : ByteArray := ⟨#[42, 180, 0, 15, 43, 184, 0, 23, 172]⟩
def Lm6_DD : ClassFile.ClassFile := (Lm6_σ.file "BrookWeirs").getD { minorVersion := 0, majorVersion := 0, constantPool := #[], accessFlags := 0, thisClass := 0, superClass := 0, interfaces := #[], fields := #[], methods := #[], attributes := #[] }
def Lm6_forwarder : Method := ((layoutMethods Lm6_DD).bind (·[1]?)).getD default
def Lm6_laid : Array Field × Array ClassFile.FieldType × Array ClassFile.FieldType := (layoutFields Lm6_DD 0).getD (#[], #[], #[])
theorem Lm6_file_is : Lm6_σ.file "BrookWeirs" = some Lm6_DD := by
  have h : (Lm6_σ.file "BrookWeirs").isSome = true := by decide +kernel
  obtain ⟨x, hx⟩ := Option.isSome_iff_exists.mp h
  simp [Lm6_DD, hx]
theorem Lm6_second_is : ∀ ms, layoutMethods Lm6_DD = some ms → ms[1]? = some Lm6_forwarder := by
  intro ms hms
  have h : ((layoutMethods Lm6_DD).bind (·[1]?)).isSome = true := by decide +kernel
  obtain ⟨x, hx⟩ := Option.isSome_iff_exists.mp h
  have hf : Lm6_forwarder = x := by simp [Lm6_forwarder, hx]
  rw [hms] at hx
  rw [hf]
  exact hx
theorem Lm6_laid_is : layoutFields Lm6_DD 0 = some Lm6_laid := by
  have h : (layoutFields Lm6_DD 0).isSome = true := by decide +kernel
  obtain ⟨x, hx⟩ := Option.isSome_iff_exists.mp h
  simp [Lm6_laid, hx]
theorem Lm6_f_code : (Lm6_forwarder.code.map fun c => (c.code.data, c.maxLocals)) = some (Lm6_fwd.data, 2) := by decide +kernel
theorem Lm6_f_flags : (Lm6_forwarder.accessFlags, Lm6_forwarder.name, Lm6_forwarder.sig.returnType) = (0x0001, "done", (some .int : Option ClassFile.FieldType)) := by decide +kernel
theorem Lm6_eM : Lm6_DD.constantPool[23]? = some (.methodref 19 22) ∧ Lm6_DD.constantPool.className? 19 = some Lm6_tN.cls ∧ Lm6_DD.constantPool.nameAndType? 22 = some (Lm6_tN.name, Lm6_tN.desc) := by decide +kernel
theorem Lm6_eC : Lm6_DD.constantPool[19]? = some (.class_ 18) ∧ Lm6_DD.constantPool.string? 18 = some Lm6_tN.cls ∧ 19 ≠ Lm6_DD.thisClass := by decide +kernel
theorem Lm6_eF0 : Lm6_DD.constantPool[15]? = some (.fieldref 2 14) ∧ Lm6_DD.constantPool.nameAndType? 14 = some ("arg$1", "I") ∧ Lm6_laid.1.findIdx? (·.name == "arg$1") = some 0 ∧ (Lm6_laid.1[0]?).map (fun f => (f.isStatic, f.slot)) = some (false, 0) := by decide +kernel
theorem Lm6_laid_types : Lm6_laid.2.1 = #[.int] := by decide +kernel
theorem Lm6_made {lk : Linked} {cK : ClassId} {U : State} (h0 : LmAt Lm6_σ Lm6_xN 2 240 cK lk U) (hO : ∀ o ok, U.vm.findClass "java/lang/Object" = some o → U.vm.classes[o]? = some ok → ok.instanceTypes.size = 0) : MdAt Lm6_tN Lm6_fwd 23 [15] #[.int] cK U := by
  obtain ⟨m0, k0, cf0, i0, p0, hm0, hk0, hcf0, hsh0, hf0, h, hcan⟩ := h0
  obtain ⟨k0', hk0', hname⟩ := className_of_methodNamed hm0
  cases hk0.symm.trans hk0'
  obtain ⟨dk', k, ok, tk, file, cf, object, iface, toy, lay, methods, target, found, hd', hk, hfile, hcf, hobj, -, hok, hlay, hms, ht, htk, hg, -, hrec, -, -, -, hitf, hpool, hmeth, hfields, hty, hres, -⟩ := Lambda.isMade_spec h
  cases hk0.symm.trans hd'
  rw [hname] at hcf
  cases Lm6_file_is.symm.trans hcf
  have hok0 : ok.instanceTypes = #[] := Array.eq_empty_of_size_eq_zero (hO object ok hobj hok)
  rw [hO object ok hobj hok, Lm6_laid_is] at hlay
  cases hlay
  obtain ⟨b, hb, hsame⟩ := hmeth 1 Lm6_forwarder (Lm6_second_is methods hms)
  obtain ⟨hn, -, hsig, hfl, ca, cb, hca, hcb, -, hl, hcd, het⟩ := Lambda.sameMethod_spec hsame
  have fc := Lm6_f_code
  have ff := Lm6_f_flags
  simp only [Prod.mk.injEq] at ff
  simp only [hca, Option.map_some, Option.some.injEq, Prod.mk.injEq] at fc
  obtain ⟨g0, hg0, hp0⟩ := Option.map_eq_some_iff.mp Lm6_eF0.2.2.2
  simp only [Prod.mk.injEq] at hp0
  have hcls0 : U.vm.findClass Lm6_tN.cls = some toy := ht
  have hg' : ((methodIn toy Lm6_tN.name Lm6_tN.desc tk.isInterface none).ask { classPath := fun _ => none } U.vm).1 = .ok target := by
    have e1 : Lm6_σ.implDesc.toString = Lm6_tN.desc := by decide +kernel
    rw [← e1]
    exact hg
  refine ⟨k, tk, file, b, cb, toy, target, 19, 22, hk, hfile, hrec.2.1, by rw [hrec.1, hname]; decide, by rw [hpool.2.1]; exact Lm6_eM.1, by rw [hpool.2.1]; exact Lm6_eM.2.2, by simp [Vm.method?, hk, hb], hcb, by rw [hcd]; exact ByteArray.ext fc.1, by rw [hl]; exact fc.2,
    by simp [Method.locks, Method.isSynchronized, hfl, ff.1, hasFlag, Acc.synchronized], by rw [hfl]; exact ff.1, by rw [hsig]; exact ff.2.2, het, hcls0, htk, hg',
    ⟨k, hk, hres 23 _ (Lambda.resolvedOf_method Lm6_eM.1 Lm6_eM.2.1 ht htk Lm6_eM.2.2 hg')⟩, ⟨k, hk, hres 19 _ (Lambda.resolvedOf_class Lm6_eC.1 Lm6_eC.2.2 Lm6_eC.2.1 ht)⟩, ?_, by rw [hty.1, hok0, Lm6_laid_types]; rfl⟩
  intro i f hf
  match i, hf with
  | 0, hf =>
    cases hf
    exact ⟨g0, ⟨k, 0, k, hk, hres 15 _ (Lambda.resolvedOf_field Lm6_eF0.1 Lm6_eF0.2.1 Lm6_eF0.2.2.1), hk, hfields 0 _ hg0⟩, hp0.1, hp0.2⟩
  | _ + 1, hf => simp at hf
def Lm7_σ : Lambda.Shape := { iface := "BrookWeirs$Deed", name := "done", sam := ⟨[.object "BrookWeirs$Brook"], some .int⟩, captured := [], kind := 6, implClass := "BrookWeirs", implName := "lambda$season$6", implDesc := ⟨[.object "BrookWeirs$Brook"], some .int⟩, implItf := false, inst := ⟨[.object "BrookWeirs$Brook"], some .int⟩ }
def Lm7_xN : MethodName := ⟨"BrookWeirs", "season", "()I"⟩
def Lm7_tN : MethodName := ⟨"BrookWeirs", "lambda$season$6", "(LBrookWeirs$Brook;)I"⟩
def Lm7_fwd : ByteArray := ⟨#[43, 184, 0, 17, 172]⟩
def Lm7_DD : ClassFile.ClassFile := (Lm7_σ.file "BrookWeirs").getD { minorVersion := 0, majorVersion := 0, constantPool := #[], accessFlags := 0, thisClass := 0, superClass := 0, interfaces := #[], fields := #[], methods := #[], attributes := #[] }
def Lm7_forwarder : Method := ((layoutMethods Lm7_DD).bind (·[1]?)).getD default
def Lm7_laid : Array Field × Array ClassFile.FieldType × Array ClassFile.FieldType := (layoutFields Lm7_DD 0).getD (#[], #[], #[])
theorem Lm7_file_is : Lm7_σ.file "BrookWeirs" = some Lm7_DD := by
  have h : (Lm7_σ.file "BrookWeirs").isSome = true := by decide +kernel
  obtain ⟨x, hx⟩ := Option.isSome_iff_exists.mp h
  simp [Lm7_DD, hx]
theorem Lm7_second_is : ∀ ms, layoutMethods Lm7_DD = some ms → ms[1]? = some Lm7_forwarder := by
  intro ms hms
  have h : ((layoutMethods Lm7_DD).bind (·[1]?)).isSome = true := by decide +kernel
  obtain ⟨x, hx⟩ := Option.isSome_iff_exists.mp h
  have hf : Lm7_forwarder = x := by simp [Lm7_forwarder, hx]
  rw [hms] at hx
  rw [hf]
  exact hx
theorem Lm7_laid_is : layoutFields Lm7_DD 0 = some Lm7_laid := by
  have h : (layoutFields Lm7_DD 0).isSome = true := by decide +kernel
  obtain ⟨x, hx⟩ := Option.isSome_iff_exists.mp h
  simp [Lm7_laid, hx]
theorem Lm7_f_code : (Lm7_forwarder.code.map fun c => (c.code.data, c.maxLocals)) = some (Lm7_fwd.data, 2) := by decide +kernel
theorem Lm7_f_flags : (Lm7_forwarder.accessFlags, Lm7_forwarder.name, Lm7_forwarder.sig.returnType) = (0x0001, "done", (some .int : Option ClassFile.FieldType)) := by decide +kernel
theorem Lm7_eM : Lm7_DD.constantPool[17]? = some (.methodref 14 16) ∧ Lm7_DD.constantPool.className? 14 = some Lm7_tN.cls ∧ Lm7_DD.constantPool.nameAndType? 16 = some (Lm7_tN.name, Lm7_tN.desc) := by decide +kernel
theorem Lm7_eC : Lm7_DD.constantPool[14]? = some (.class_ 13) ∧ Lm7_DD.constantPool.string? 13 = some Lm7_tN.cls ∧ 14 ≠ Lm7_DD.thisClass := by decide +kernel
theorem Lm7_laid_types : Lm7_laid.2.1 = #[] := by decide +kernel
theorem Lm7_made {lk : Linked} {cK : ClassId} {U : State} (h0 : LmAt Lm7_σ Lm7_xN 1 252 cK lk U) (hO : ∀ o ok, U.vm.findClass "java/lang/Object" = some o → U.vm.classes[o]? = some ok → ok.instanceTypes.size = 0) : MdAt Lm7_tN Lm7_fwd 17 [] #[] cK U := by
  obtain ⟨m0, k0, cf0, i0, p0, hm0, hk0, hcf0, hsh0, hf0, h, hcan⟩ := h0
  obtain ⟨k0', hk0', hname⟩ := className_of_methodNamed hm0
  cases hk0.symm.trans hk0'
  obtain ⟨dk', k, ok, tk, file, cf, object, iface, toy, lay, methods, target, found, hd', hk, hfile, hcf, hobj, -, hok, hlay, hms, ht, htk, hg, -, hrec, -, -, -, hitf, hpool, hmeth, hfields, hty, hres, -⟩ := Lambda.isMade_spec h
  cases hk0.symm.trans hd'
  rw [hname] at hcf
  cases Lm7_file_is.symm.trans hcf
  have hok0 : ok.instanceTypes = #[] := Array.eq_empty_of_size_eq_zero (hO object ok hobj hok)
  rw [hO object ok hobj hok, Lm7_laid_is] at hlay
  cases hlay
  obtain ⟨b, hb, hsame⟩ := hmeth 1 Lm7_forwarder (Lm7_second_is methods hms)
  obtain ⟨hn, -, hsig, hfl, ca, cb, hca, hcb, -, hl, hcd, het⟩ := Lambda.sameMethod_spec hsame
  have fc := Lm7_f_code
  have ff := Lm7_f_flags
  simp only [Prod.mk.injEq] at ff
  simp only [hca, Option.map_some, Option.some.injEq, Prod.mk.injEq] at fc
  have hcls0 : U.vm.findClass Lm7_tN.cls = some toy := ht
  have hg' : ((methodIn toy Lm7_tN.name Lm7_tN.desc tk.isInterface none).ask { classPath := fun _ => none } U.vm).1 = .ok target := by
    have e1 : Lm7_σ.implDesc.toString = Lm7_tN.desc := by decide +kernel
    rw [← e1]
    exact hg
  refine ⟨k, tk, file, b, cb, toy, target, 14, 16, hk, hfile, hrec.2.1, by rw [hrec.1, hname]; decide, by rw [hpool.2.1]; exact Lm7_eM.1, by rw [hpool.2.1]; exact Lm7_eM.2.2, by simp [Vm.method?, hk, hb], hcb, by rw [hcd]; exact ByteArray.ext fc.1, by rw [hl]; exact fc.2,
    by simp [Method.locks, Method.isSynchronized, hfl, ff.1, hasFlag, Acc.synchronized], by rw [hfl]; exact ff.1, by rw [hsig]; exact ff.2.2, het, hcls0, htk, hg',
    ⟨k, hk, hres 17 _ (Lambda.resolvedOf_method Lm7_eM.1 Lm7_eM.2.1 ht htk Lm7_eM.2.2 hg')⟩, ⟨k, hk, hres 14 _ (Lambda.resolvedOf_class Lm7_eC.1 Lm7_eC.2.2 Lm7_eC.2.1 ht)⟩, ?_, by rw [hty.1, hok0, Lm7_laid_types]; rfl⟩
  intro i f hf
  match i, hf with
  | _ + 0, hf => simp at hf
def Lm8_σ : Lambda.Shape := { iface := "BrookWeirs$Deed", name := "done", sam := ⟨[.object "BrookWeirs$Brook"], some .int⟩, captured := [.object "BrookWeirs$Side", .int], kind := 6, implClass := "BrookWeirs", implName := "lambda$choose$7", implDesc := ⟨[.object "BrookWeirs$Side", .int, .object "BrookWeirs$Brook"], some .int⟩, implItf := false, inst := ⟨[.object "BrookWeirs$Brook"], some .int⟩ }
def Lm8_xN : MethodName := ⟨"BrookWeirs", "choose", "(ZI)I"⟩
def Lm8_tN : MethodName := ⟨"BrookWeirs", "lambda$choose$7", "(LBrookWeirs$Side;ILBrookWeirs$Brook;)I"⟩
def Lm8_fwd : ByteArray := ⟨#[42, 180, 0, 17, 42, 180, 0, 19, 43, 184, 0, 27, 172]⟩
def Lm8_DD : ClassFile.ClassFile := (Lm8_σ.file "BrookWeirs").getD { minorVersion := 0, majorVersion := 0, constantPool := #[], accessFlags := 0, thisClass := 0, superClass := 0, interfaces := #[], fields := #[], methods := #[], attributes := #[] }
def Lm8_forwarder : Method := ((layoutMethods Lm8_DD).bind (·[1]?)).getD default
def Lm8_laid : Array Field × Array ClassFile.FieldType × Array ClassFile.FieldType := (layoutFields Lm8_DD 0).getD (#[], #[], #[])
theorem Lm8_file_is : Lm8_σ.file "BrookWeirs" = some Lm8_DD := by
  have h : (Lm8_σ.file "BrookWeirs").isSome = true := by decide +kernel
  obtain ⟨x, hx⟩ := Option.isSome_iff_exists.mp h
  simp [Lm8_DD, hx]
theorem Lm8_second_is : ∀ ms, layoutMethods Lm8_DD = some ms → ms[1]? = some Lm8_forwarder := by
  intro ms hms
  have h : ((layoutMethods Lm8_DD).bind (·[1]?)).isSome = true := by decide +kernel
  obtain ⟨x, hx⟩ := Option.isSome_iff_exists.mp h
  have hf : Lm8_forwarder = x := by simp [Lm8_forwarder, hx]
  rw [hms] at hx
  rw [hf]
  exact hx
theorem Lm8_laid_is : layoutFields Lm8_DD 0 = some Lm8_laid := by
  have h : (layoutFields Lm8_DD 0).isSome = true := by decide +kernel
  obtain ⟨x, hx⟩ := Option.isSome_iff_exists.mp h
  simp [Lm8_laid, hx]
theorem Lm8_f_code : (Lm8_forwarder.code.map fun c => (c.code.data, c.maxLocals)) = some (Lm8_fwd.data, 2) := by decide +kernel
theorem Lm8_f_flags : (Lm8_forwarder.accessFlags, Lm8_forwarder.name, Lm8_forwarder.sig.returnType) = (0x0001, "done", (some .int : Option ClassFile.FieldType)) := by decide +kernel
theorem Lm8_eM : Lm8_DD.constantPool[27]? = some (.methodref 23 26) ∧ Lm8_DD.constantPool.className? 23 = some Lm8_tN.cls ∧ Lm8_DD.constantPool.nameAndType? 26 = some (Lm8_tN.name, Lm8_tN.desc) := by decide +kernel
theorem Lm8_eC : Lm8_DD.constantPool[23]? = some (.class_ 22) ∧ Lm8_DD.constantPool.string? 22 = some Lm8_tN.cls ∧ 23 ≠ Lm8_DD.thisClass := by decide +kernel
theorem Lm8_eF0 : Lm8_DD.constantPool[17]? = some (.fieldref 2 16) ∧ Lm8_DD.constantPool.nameAndType? 16 = some ("arg$1", "LBrookWeirs$Side;") ∧ Lm8_laid.1.findIdx? (·.name == "arg$1") = some 0 ∧ (Lm8_laid.1[0]?).map (fun f => (f.isStatic, f.slot)) = some (false, 0) := by decide +kernel
theorem Lm8_eF1 : Lm8_DD.constantPool[19]? = some (.fieldref 2 18) ∧ Lm8_DD.constantPool.nameAndType? 18 = some ("arg$2", "I") ∧ Lm8_laid.1.findIdx? (·.name == "arg$2") = some 1 ∧ (Lm8_laid.1[1]?).map (fun f => (f.isStatic, f.slot)) = some (false, 1) := by decide +kernel
theorem Lm8_laid_types : Lm8_laid.2.1 = #[.object "BrookWeirs$Side", .int] := by decide +kernel
theorem Lm8_made {lk : Linked} {cK : ClassId} {U : State} (h0 : LmAt Lm8_σ Lm8_xN 10 285 cK lk U) (hO : ∀ o ok, U.vm.findClass "java/lang/Object" = some o → U.vm.classes[o]? = some ok → ok.instanceTypes.size = 0) : MdAt Lm8_tN Lm8_fwd 27 [17, 19] #[.object "BrookWeirs$Side", .int] cK U := by
  obtain ⟨m0, k0, cf0, i0, p0, hm0, hk0, hcf0, hsh0, hf0, h, hcan⟩ := h0
  obtain ⟨k0', hk0', hname⟩ := className_of_methodNamed hm0
  cases hk0.symm.trans hk0'
  obtain ⟨dk', k, ok, tk, file, cf, object, iface, toy, lay, methods, target, found, hd', hk, hfile, hcf, hobj, -, hok, hlay, hms, ht, htk, hg, -, hrec, -, -, -, hitf, hpool, hmeth, hfields, hty, hres, -⟩ := Lambda.isMade_spec h
  cases hk0.symm.trans hd'
  rw [hname] at hcf
  cases Lm8_file_is.symm.trans hcf
  have hok0 : ok.instanceTypes = #[] := Array.eq_empty_of_size_eq_zero (hO object ok hobj hok)
  rw [hO object ok hobj hok, Lm8_laid_is] at hlay
  cases hlay
  obtain ⟨b, hb, hsame⟩ := hmeth 1 Lm8_forwarder (Lm8_second_is methods hms)
  obtain ⟨hn, -, hsig, hfl, ca, cb, hca, hcb, -, hl, hcd, het⟩ := Lambda.sameMethod_spec hsame
  have fc := Lm8_f_code
  have ff := Lm8_f_flags
  simp only [Prod.mk.injEq] at ff
  simp only [hca, Option.map_some, Option.some.injEq, Prod.mk.injEq] at fc
  obtain ⟨g0, hg0, hp0⟩ := Option.map_eq_some_iff.mp Lm8_eF0.2.2.2
  simp only [Prod.mk.injEq] at hp0
  obtain ⟨g1, hg1, hp1⟩ := Option.map_eq_some_iff.mp Lm8_eF1.2.2.2
  simp only [Prod.mk.injEq] at hp1
  have hcls0 : U.vm.findClass Lm8_tN.cls = some toy := ht
  have hg' : ((methodIn toy Lm8_tN.name Lm8_tN.desc tk.isInterface none).ask { classPath := fun _ => none } U.vm).1 = .ok target := by
    have e1 : Lm8_σ.implDesc.toString = Lm8_tN.desc := by decide +kernel
    rw [← e1]
    exact hg
  refine ⟨k, tk, file, b, cb, toy, target, 23, 26, hk, hfile, hrec.2.1, by rw [hrec.1, hname]; decide, by rw [hpool.2.1]; exact Lm8_eM.1, by rw [hpool.2.1]; exact Lm8_eM.2.2, by simp [Vm.method?, hk, hb], hcb, by rw [hcd]; exact ByteArray.ext fc.1, by rw [hl]; exact fc.2,
    by simp [Method.locks, Method.isSynchronized, hfl, ff.1, hasFlag, Acc.synchronized], by rw [hfl]; exact ff.1, by rw [hsig]; exact ff.2.2, het, hcls0, htk, hg',
    ⟨k, hk, hres 27 _ (Lambda.resolvedOf_method Lm8_eM.1 Lm8_eM.2.1 ht htk Lm8_eM.2.2 hg')⟩, ⟨k, hk, hres 23 _ (Lambda.resolvedOf_class Lm8_eC.1 Lm8_eC.2.2 Lm8_eC.2.1 ht)⟩, ?_, by rw [hty.1, hok0, Lm8_laid_types]; rfl⟩
  intro i f hf
  match i, hf with
  | 0, hf =>
    cases hf
    exact ⟨g0, ⟨k, 0, k, hk, hres 17 _ (Lambda.resolvedOf_field Lm8_eF0.1 Lm8_eF0.2.1 Lm8_eF0.2.2.1), hk, hfields 0 _ hg0⟩, hp0.1, hp0.2⟩
  | 1, hf =>
    cases hf
    exact ⟨g1, ⟨k, 1, k, hk, hres 19 _ (Lambda.resolvedOf_field Lm8_eF1.1 Lm8_eF1.2.1 Lm8_eF1.2.2.1), hk, hfields 1 _ hg1⟩, hp1.1, hp1.2⟩
  | _ + 2, hf => simp at hf
def Lm9_σ : Lambda.Shape := { iface := "BrookWeirs$Deed", name := "done", sam := ⟨[.object "BrookWeirs$Brook"], some .int⟩, captured := [.int], kind := 6, implClass := "BrookWeirs$Parser", implName := "lambda$item$3", implDesc := ⟨[.int, .object "BrookWeirs$Brook"], some .int⟩, implItf := false, inst := ⟨[.object "BrookWeirs$Brook"], some .int⟩ }
def Lm9_xN : MethodName := ⟨"BrookWeirs$Parser", "item", "()LBrookWeirs$Deed;"⟩
def Lm9_tN : MethodName := ⟨"BrookWeirs$Parser", "lambda$item$3", "(ILBrookWeirs$Brook;)I"⟩
def Lm9_fwd : ByteArray := ⟨#[42, 180, 0, 15, 43, 184, 0, 23, 172]⟩
def Lm9_DD : ClassFile.ClassFile := (Lm9_σ.file "BrookWeirs$Parser").getD { minorVersion := 0, majorVersion := 0, constantPool := #[], accessFlags := 0, thisClass := 0, superClass := 0, interfaces := #[], fields := #[], methods := #[], attributes := #[] }
def Lm9_forwarder : Method := ((layoutMethods Lm9_DD).bind (·[1]?)).getD default
def Lm9_laid : Array Field × Array ClassFile.FieldType × Array ClassFile.FieldType := (layoutFields Lm9_DD 0).getD (#[], #[], #[])
theorem Lm9_file_is : Lm9_σ.file "BrookWeirs$Parser" = some Lm9_DD := by
  have h : (Lm9_σ.file "BrookWeirs$Parser").isSome = true := by decide +kernel
  obtain ⟨x, hx⟩ := Option.isSome_iff_exists.mp h
  simp [Lm9_DD, hx]
theorem Lm9_second_is : ∀ ms, layoutMethods Lm9_DD = some ms → ms[1]? = some Lm9_forwarder := by
  intro ms hms
  have h : ((layoutMethods Lm9_DD).bind (·[1]?)).isSome = true := by decide +kernel
  obtain ⟨x, hx⟩ := Option.isSome_iff_exists.mp h
  have hf : Lm9_forwarder = x := by simp [Lm9_forwarder, hx]
  rw [hms] at hx
  rw [hf]
  exact hx
theorem Lm9_laid_is : layoutFields Lm9_DD 0 = some Lm9_laid := by
  have h : (layoutFields Lm9_DD 0).isSome = true := by decide +kernel
  obtain ⟨x, hx⟩ := Option.isSome_iff_exists.mp h
  simp [Lm9_laid, hx]
theorem Lm9_f_code : (Lm9_forwarder.code.map fun c => (c.code.data, c.maxLocals)) = some (Lm9_fwd.data, 2) := by decide +kernel
theorem Lm9_f_flags : (Lm9_forwarder.accessFlags, Lm9_forwarder.name, Lm9_forwarder.sig.returnType) = (0x0001, "done", (some .int : Option ClassFile.FieldType)) := by decide +kernel
theorem Lm9_eM : Lm9_DD.constantPool[23]? = some (.methodref 19 22) ∧ Lm9_DD.constantPool.className? 19 = some Lm9_tN.cls ∧ Lm9_DD.constantPool.nameAndType? 22 = some (Lm9_tN.name, Lm9_tN.desc) := by decide +kernel
theorem Lm9_eC : Lm9_DD.constantPool[19]? = some (.class_ 18) ∧ Lm9_DD.constantPool.string? 18 = some Lm9_tN.cls ∧ 19 ≠ Lm9_DD.thisClass := by decide +kernel
theorem Lm9_eF0 : Lm9_DD.constantPool[15]? = some (.fieldref 2 14) ∧ Lm9_DD.constantPool.nameAndType? 14 = some ("arg$1", "I") ∧ Lm9_laid.1.findIdx? (·.name == "arg$1") = some 0 ∧ (Lm9_laid.1[0]?).map (fun f => (f.isStatic, f.slot)) = some (false, 0) := by decide +kernel
theorem Lm9_laid_types : Lm9_laid.2.1 = #[.int] := by decide +kernel
theorem Lm9_made {lk : Linked} {cK : ClassId} {U : State} (h0 : LmAt Lm9_σ Lm9_xN 15 68 cK lk U) (hO : ∀ o ok, U.vm.findClass "java/lang/Object" = some o → U.vm.classes[o]? = some ok → ok.instanceTypes.size = 0) : MdAt Lm9_tN Lm9_fwd 23 [15] #[.int] cK U := by
  obtain ⟨m0, k0, cf0, i0, p0, hm0, hk0, hcf0, hsh0, hf0, h, hcan⟩ := h0
  obtain ⟨k0', hk0', hname⟩ := className_of_methodNamed hm0
  cases hk0.symm.trans hk0'
  obtain ⟨dk', k, ok, tk, file, cf, object, iface, toy, lay, methods, target, found, hd', hk, hfile, hcf, hobj, -, hok, hlay, hms, ht, htk, hg, -, hrec, -, -, -, hitf, hpool, hmeth, hfields, hty, hres, -⟩ := Lambda.isMade_spec h
  cases hk0.symm.trans hd'
  rw [hname] at hcf
  cases Lm9_file_is.symm.trans hcf
  have hok0 : ok.instanceTypes = #[] := Array.eq_empty_of_size_eq_zero (hO object ok hobj hok)
  rw [hO object ok hobj hok, Lm9_laid_is] at hlay
  cases hlay
  obtain ⟨b, hb, hsame⟩ := hmeth 1 Lm9_forwarder (Lm9_second_is methods hms)
  obtain ⟨hn, -, hsig, hfl, ca, cb, hca, hcb, -, hl, hcd, het⟩ := Lambda.sameMethod_spec hsame
  have fc := Lm9_f_code
  have ff := Lm9_f_flags
  simp only [Prod.mk.injEq] at ff
  simp only [hca, Option.map_some, Option.some.injEq, Prod.mk.injEq] at fc
  obtain ⟨g0, hg0, hp0⟩ := Option.map_eq_some_iff.mp Lm9_eF0.2.2.2
  simp only [Prod.mk.injEq] at hp0
  have hcls0 : U.vm.findClass Lm9_tN.cls = some toy := ht
  have hg' : ((methodIn toy Lm9_tN.name Lm9_tN.desc tk.isInterface none).ask { classPath := fun _ => none } U.vm).1 = .ok target := by
    have e1 : Lm9_σ.implDesc.toString = Lm9_tN.desc := by decide +kernel
    rw [← e1]
    exact hg
  refine ⟨k, tk, file, b, cb, toy, target, 19, 22, hk, hfile, hrec.2.1, by rw [hrec.1, hname]; decide, by rw [hpool.2.1]; exact Lm9_eM.1, by rw [hpool.2.1]; exact Lm9_eM.2.2, by simp [Vm.method?, hk, hb], hcb, by rw [hcd]; exact ByteArray.ext fc.1, by rw [hl]; exact fc.2,
    by simp [Method.locks, Method.isSynchronized, hfl, ff.1, hasFlag, Acc.synchronized], by rw [hfl]; exact ff.1, by rw [hsig]; exact ff.2.2, het, hcls0, htk, hg',
    ⟨k, hk, hres 23 _ (Lambda.resolvedOf_method Lm9_eM.1 Lm9_eM.2.1 ht htk Lm9_eM.2.2 hg')⟩, ⟨k, hk, hres 19 _ (Lambda.resolvedOf_class Lm9_eC.1 Lm9_eC.2.2 Lm9_eC.2.1 ht)⟩, ?_, by rw [hty.1, hok0, Lm9_laid_types]; rfl⟩
  intro i f hf
  match i, hf with
  | 0, hf =>
    cases hf
    exact ⟨g0, ⟨k, 0, k, hk, hres 15 _ (Lambda.resolvedOf_field Lm9_eF0.1 Lm9_eF0.2.1 Lm9_eF0.2.2.1), hk, hfields 0 _ hg0⟩, hp0.1, hp0.2⟩
  | _ + 1, hf => simp at hf
def Lm10_σ : Lambda.Shape := { iface := "BrookWeirs$Deed", name := "done", sam := ⟨[.object "BrookWeirs$Brook"], some .int⟩, captured := [], kind := 6, implClass := "BrookWeirs$Parser", implName := "lambda$item$4", implDesc := ⟨[.object "BrookWeirs$Brook"], some .int⟩, implItf := false, inst := ⟨[.object "BrookWeirs$Brook"], some .int⟩ }
def Lm10_xN : MethodName := ⟨"BrookWeirs$Parser", "item", "()LBrookWeirs$Deed;"⟩
def Lm10_tN : MethodName := ⟨"BrookWeirs$Parser", "lambda$item$4", "(LBrookWeirs$Brook;)I"⟩
def Lm10_fwd : ByteArray := ⟨#[43, 184, 0, 17, 172]⟩
def Lm10_DD : ClassFile.ClassFile := (Lm10_σ.file "BrookWeirs$Parser").getD { minorVersion := 0, majorVersion := 0, constantPool := #[], accessFlags := 0, thisClass := 0, superClass := 0, interfaces := #[], fields := #[], methods := #[], attributes := #[] }
def Lm10_forwarder : Method := ((layoutMethods Lm10_DD).bind (·[1]?)).getD default
def Lm10_laid : Array Field × Array ClassFile.FieldType × Array ClassFile.FieldType := (layoutFields Lm10_DD 0).getD (#[], #[], #[])
theorem Lm10_file_is : Lm10_σ.file "BrookWeirs$Parser" = some Lm10_DD := by
  have h : (Lm10_σ.file "BrookWeirs$Parser").isSome = true := by decide +kernel
  obtain ⟨x, hx⟩ := Option.isSome_iff_exists.mp h
  simp [Lm10_DD, hx]
theorem Lm10_second_is : ∀ ms, layoutMethods Lm10_DD = some ms → ms[1]? = some Lm10_forwarder := by
  intro ms hms
  have h : ((layoutMethods Lm10_DD).bind (·[1]?)).isSome = true := by decide +kernel
  obtain ⟨x, hx⟩ := Option.isSome_iff_exists.mp h
  have hf : Lm10_forwarder = x := by simp [Lm10_forwarder, hx]
  rw [hms] at hx
  rw [hf]
  exact hx
theorem Lm10_laid_is : layoutFields Lm10_DD 0 = some Lm10_laid := by
  have h : (layoutFields Lm10_DD 0).isSome = true := by decide +kernel
  obtain ⟨x, hx⟩ := Option.isSome_iff_exists.mp h
  simp [Lm10_laid, hx]
theorem Lm10_f_code : (Lm10_forwarder.code.map fun c => (c.code.data, c.maxLocals)) = some (Lm10_fwd.data, 2) := by decide +kernel
theorem Lm10_f_flags : (Lm10_forwarder.accessFlags, Lm10_forwarder.name, Lm10_forwarder.sig.returnType) = (0x0001, "done", (some .int : Option ClassFile.FieldType)) := by decide +kernel
theorem Lm10_eM : Lm10_DD.constantPool[17]? = some (.methodref 14 16) ∧ Lm10_DD.constantPool.className? 14 = some Lm10_tN.cls ∧ Lm10_DD.constantPool.nameAndType? 16 = some (Lm10_tN.name, Lm10_tN.desc) := by decide +kernel
theorem Lm10_eC : Lm10_DD.constantPool[14]? = some (.class_ 13) ∧ Lm10_DD.constantPool.string? 13 = some Lm10_tN.cls ∧ 14 ≠ Lm10_DD.thisClass := by decide +kernel
theorem Lm10_laid_types : Lm10_laid.2.1 = #[] := by decide +kernel
theorem Lm10_made {lk : Linked} {cK : ClassId} {U : State} (h0 : LmAt Lm10_σ Lm10_xN 30 71 cK lk U) (hO : ∀ o ok, U.vm.findClass "java/lang/Object" = some o → U.vm.classes[o]? = some ok → ok.instanceTypes.size = 0) : MdAt Lm10_tN Lm10_fwd 17 [] #[] cK U := by
  obtain ⟨m0, k0, cf0, i0, p0, hm0, hk0, hcf0, hsh0, hf0, h, hcan⟩ := h0
  obtain ⟨k0', hk0', hname⟩ := className_of_methodNamed hm0
  cases hk0.symm.trans hk0'
  obtain ⟨dk', k, ok, tk, file, cf, object, iface, toy, lay, methods, target, found, hd', hk, hfile, hcf, hobj, -, hok, hlay, hms, ht, htk, hg, -, hrec, -, -, -, hitf, hpool, hmeth, hfields, hty, hres, -⟩ := Lambda.isMade_spec h
  cases hk0.symm.trans hd'
  rw [hname] at hcf
  cases Lm10_file_is.symm.trans hcf
  have hok0 : ok.instanceTypes = #[] := Array.eq_empty_of_size_eq_zero (hO object ok hobj hok)
  rw [hO object ok hobj hok, Lm10_laid_is] at hlay
  cases hlay
  obtain ⟨b, hb, hsame⟩ := hmeth 1 Lm10_forwarder (Lm10_second_is methods hms)
  obtain ⟨hn, -, hsig, hfl, ca, cb, hca, hcb, -, hl, hcd, het⟩ := Lambda.sameMethod_spec hsame
  have fc := Lm10_f_code
  have ff := Lm10_f_flags
  simp only [Prod.mk.injEq] at ff
  simp only [hca, Option.map_some, Option.some.injEq, Prod.mk.injEq] at fc
  have hcls0 : U.vm.findClass Lm10_tN.cls = some toy := ht
  have hg' : ((methodIn toy Lm10_tN.name Lm10_tN.desc tk.isInterface none).ask { classPath := fun _ => none } U.vm).1 = .ok target := by
    have e1 : Lm10_σ.implDesc.toString = Lm10_tN.desc := by decide +kernel
    rw [← e1]
    exact hg
  refine ⟨k, tk, file, b, cb, toy, target, 14, 16, hk, hfile, hrec.2.1, by rw [hrec.1, hname]; decide, by rw [hpool.2.1]; exact Lm10_eM.1, by rw [hpool.2.1]; exact Lm10_eM.2.2, by simp [Vm.method?, hk, hb], hcb, by rw [hcd]; exact ByteArray.ext fc.1, by rw [hl]; exact fc.2,
    by simp [Method.locks, Method.isSynchronized, hfl, ff.1, hasFlag, Acc.synchronized], by rw [hfl]; exact ff.1, by rw [hsig]; exact ff.2.2, het, hcls0, htk, hg',
    ⟨k, hk, hres 17 _ (Lambda.resolvedOf_method Lm10_eM.1 Lm10_eM.2.1 ht htk Lm10_eM.2.2 hg')⟩, ⟨k, hk, hres 14 _ (Lambda.resolvedOf_class Lm10_eC.1 Lm10_eC.2.2 Lm10_eC.2.1 ht)⟩, ?_, by rw [hty.1, hok0, Lm10_laid_types]; rfl⟩
  intro i f hf
  match i, hf with
  | _ + 0, hf => simp at hf
def Lm11_σ : Lambda.Shape := { iface := "BrookWeirs$Deed", name := "done", sam := ⟨[.object "BrookWeirs$Brook"], some .int⟩, captured := [.int, .int], kind := 6, implClass := "BrookWeirs$Parser", implName := "lambda$boards$1", implDesc := ⟨[.int, .int, .object "BrookWeirs$Brook"], some .int⟩, implItf := false, inst := ⟨[.object "BrookWeirs$Brook"], some .int⟩ }
def Lm11_xN : MethodName := ⟨"BrookWeirs$Parser", "boards", "()LBrookWeirs$Deed;"⟩
def Lm11_tN : MethodName := ⟨"BrookWeirs$Parser", "lambda$boards$1", "(IILBrookWeirs$Brook;)I"⟩
def Lm11_fwd : ByteArray := ⟨#[42, 180, 0, 16, 42, 180, 0, 18, 43, 184, 0, 26, 172]⟩
def Lm11_DD : ClassFile.ClassFile := (Lm11_σ.file "BrookWeirs$Parser").getD { minorVersion := 0, majorVersion := 0, constantPool := #[], accessFlags := 0, thisClass := 0, superClass := 0, interfaces := #[], fields := #[], methods := #[], attributes := #[] }
def Lm11_forwarder : Method := ((layoutMethods Lm11_DD).bind (·[1]?)).getD default
def Lm11_laid : Array Field × Array ClassFile.FieldType × Array ClassFile.FieldType := (layoutFields Lm11_DD 0).getD (#[], #[], #[])
theorem Lm11_file_is : Lm11_σ.file "BrookWeirs$Parser" = some Lm11_DD := by
  have h : (Lm11_σ.file "BrookWeirs$Parser").isSome = true := by decide +kernel
  obtain ⟨x, hx⟩ := Option.isSome_iff_exists.mp h
  simp [Lm11_DD, hx]
theorem Lm11_second_is : ∀ ms, layoutMethods Lm11_DD = some ms → ms[1]? = some Lm11_forwarder := by
  intro ms hms
  have h : ((layoutMethods Lm11_DD).bind (·[1]?)).isSome = true := by decide +kernel
  obtain ⟨x, hx⟩ := Option.isSome_iff_exists.mp h
  have hf : Lm11_forwarder = x := by simp [Lm11_forwarder, hx]
  rw [hms] at hx
  rw [hf]
  exact hx
theorem Lm11_laid_is : layoutFields Lm11_DD 0 = some Lm11_laid := by
  have h : (layoutFields Lm11_DD 0).isSome = true := by decide +kernel
  obtain ⟨x, hx⟩ := Option.isSome_iff_exists.mp h
  simp [Lm11_laid, hx]
theorem Lm11_f_code : (Lm11_forwarder.code.map fun c => (c.code.data, c.maxLocals)) = some (Lm11_fwd.data, 2) := by decide +kernel
theorem Lm11_f_flags : (Lm11_forwarder.accessFlags, Lm11_forwarder.name, Lm11_forwarder.sig.returnType) = (0x0001, "done", (some .int : Option ClassFile.FieldType)) := by decide +kernel
theorem Lm11_eM : Lm11_DD.constantPool[26]? = some (.methodref 22 25) ∧ Lm11_DD.constantPool.className? 22 = some Lm11_tN.cls ∧ Lm11_DD.constantPool.nameAndType? 25 = some (Lm11_tN.name, Lm11_tN.desc) := by decide +kernel
theorem Lm11_eC : Lm11_DD.constantPool[22]? = some (.class_ 21) ∧ Lm11_DD.constantPool.string? 21 = some Lm11_tN.cls ∧ 22 ≠ Lm11_DD.thisClass := by decide +kernel
theorem Lm11_eF0 : Lm11_DD.constantPool[16]? = some (.fieldref 2 15) ∧ Lm11_DD.constantPool.nameAndType? 15 = some ("arg$1", "I") ∧ Lm11_laid.1.findIdx? (·.name == "arg$1") = some 0 ∧ (Lm11_laid.1[0]?).map (fun f => (f.isStatic, f.slot)) = some (false, 0) := by decide +kernel
theorem Lm11_eF1 : Lm11_DD.constantPool[18]? = some (.fieldref 2 17) ∧ Lm11_DD.constantPool.nameAndType? 17 = some ("arg$2", "I") ∧ Lm11_laid.1.findIdx? (·.name == "arg$2") = some 1 ∧ (Lm11_laid.1[1]?).map (fun f => (f.isStatic, f.slot)) = some (false, 1) := by decide +kernel
theorem Lm11_laid_types : Lm11_laid.2.1 = #[.int, .int] := by decide +kernel
theorem Lm11_made {lk : Linked} {cK : ClassId} {U : State} (h0 : LmAt Lm11_σ Lm11_xN 21 57 cK lk U) (hO : ∀ o ok, U.vm.findClass "java/lang/Object" = some o → U.vm.classes[o]? = some ok → ok.instanceTypes.size = 0) : MdAt Lm11_tN Lm11_fwd 26 [16, 18] #[.int, .int] cK U := by
  obtain ⟨m0, k0, cf0, i0, p0, hm0, hk0, hcf0, hsh0, hf0, h, hcan⟩ := h0
  obtain ⟨k0', hk0', hname⟩ := className_of_methodNamed hm0
  cases hk0.symm.trans hk0'
  obtain ⟨dk', k, ok, tk, file, cf, object, iface, toy, lay, methods, target, found, hd', hk, hfile, hcf, hobj, -, hok, hlay, hms, ht, htk, hg, -, hrec, -, -, -, hitf, hpool, hmeth, hfields, hty, hres, -⟩ := Lambda.isMade_spec h
  cases hk0.symm.trans hd'
  rw [hname] at hcf
  cases Lm11_file_is.symm.trans hcf
  have hok0 : ok.instanceTypes = #[] := Array.eq_empty_of_size_eq_zero (hO object ok hobj hok)
  rw [hO object ok hobj hok, Lm11_laid_is] at hlay
  cases hlay
  obtain ⟨b, hb, hsame⟩ := hmeth 1 Lm11_forwarder (Lm11_second_is methods hms)
  obtain ⟨hn, -, hsig, hfl, ca, cb, hca, hcb, -, hl, hcd, het⟩ := Lambda.sameMethod_spec hsame
  have fc := Lm11_f_code
  have ff := Lm11_f_flags
  simp only [Prod.mk.injEq] at ff
  simp only [hca, Option.map_some, Option.some.injEq, Prod.mk.injEq] at fc
  obtain ⟨g0, hg0, hp0⟩ := Option.map_eq_some_iff.mp Lm11_eF0.2.2.2
  simp only [Prod.mk.injEq] at hp0
  obtain ⟨g1, hg1, hp1⟩ := Option.map_eq_some_iff.mp Lm11_eF1.2.2.2
  simp only [Prod.mk.injEq] at hp1
  have hcls0 : U.vm.findClass Lm11_tN.cls = some toy := ht
  have hg' : ((methodIn toy Lm11_tN.name Lm11_tN.desc tk.isInterface none).ask { classPath := fun _ => none } U.vm).1 = .ok target := by
    have e1 : Lm11_σ.implDesc.toString = Lm11_tN.desc := by decide +kernel
    rw [← e1]
    exact hg
  refine ⟨k, tk, file, b, cb, toy, target, 22, 25, hk, hfile, hrec.2.1, by rw [hrec.1, hname]; decide, by rw [hpool.2.1]; exact Lm11_eM.1, by rw [hpool.2.1]; exact Lm11_eM.2.2, by simp [Vm.method?, hk, hb], hcb, by rw [hcd]; exact ByteArray.ext fc.1, by rw [hl]; exact fc.2,
    by simp [Method.locks, Method.isSynchronized, hfl, ff.1, hasFlag, Acc.synchronized], by rw [hfl]; exact ff.1, by rw [hsig]; exact ff.2.2, het, hcls0, htk, hg',
    ⟨k, hk, hres 26 _ (Lambda.resolvedOf_method Lm11_eM.1 Lm11_eM.2.1 ht htk Lm11_eM.2.2 hg')⟩, ⟨k, hk, hres 22 _ (Lambda.resolvedOf_class Lm11_eC.1 Lm11_eC.2.2 Lm11_eC.2.1 ht)⟩, ?_, by rw [hty.1, hok0, Lm11_laid_types]; rfl⟩
  intro i f hf
  match i, hf with
  | 0, hf =>
    cases hf
    exact ⟨g0, ⟨k, 0, k, hk, hres 16 _ (Lambda.resolvedOf_field Lm11_eF0.1 Lm11_eF0.2.1 Lm11_eF0.2.2.1), hk, hfields 0 _ hg0⟩, hp0.1, hp0.2⟩
  | 1, hf =>
    cases hf
    exact ⟨g1, ⟨k, 1, k, hk, hres 18 _ (Lambda.resolvedOf_field Lm11_eF1.1 Lm11_eF1.2.1 Lm11_eF1.2.2.1), hk, hfields 1 _ hg1⟩, hp1.1, hp1.2⟩
  | _ + 2, hf => simp at hf
def Lm12_σ : Lambda.Shape := { iface := "BrookWeirs$Deed", name := "done", sam := ⟨[.object "BrookWeirs$Brook"], some .int⟩, captured := [.int, .int], kind := 6, implClass := "BrookWeirs$Parser", implName := "lambda$eggs$2", implDesc := ⟨[.int, .int, .object "BrookWeirs$Brook"], some .int⟩, implItf := false, inst := ⟨[.object "BrookWeirs$Brook"], some .int⟩ }
def Lm12_xN : MethodName := ⟨"BrookWeirs$Parser", "eggs", "()LBrookWeirs$Deed;"⟩
def Lm12_tN : MethodName := ⟨"BrookWeirs$Parser", "lambda$eggs$2", "(IILBrookWeirs$Brook;)I"⟩
def Lm12_fwd : ByteArray := ⟨#[42, 180, 0, 16, 42, 180, 0, 18, 43, 184, 0, 26, 172]⟩
def Lm12_DD : ClassFile.ClassFile := (Lm12_σ.file "BrookWeirs$Parser").getD { minorVersion := 0, majorVersion := 0, constantPool := #[], accessFlags := 0, thisClass := 0, superClass := 0, interfaces := #[], fields := #[], methods := #[], attributes := #[] }
def Lm12_forwarder : Method := ((layoutMethods Lm12_DD).bind (·[1]?)).getD default
def Lm12_laid : Array Field × Array ClassFile.FieldType × Array ClassFile.FieldType := (layoutFields Lm12_DD 0).getD (#[], #[], #[])
theorem Lm12_file_is : Lm12_σ.file "BrookWeirs$Parser" = some Lm12_DD := by
  have h : (Lm12_σ.file "BrookWeirs$Parser").isSome = true := by decide +kernel
  obtain ⟨x, hx⟩ := Option.isSome_iff_exists.mp h
  simp [Lm12_DD, hx]
theorem Lm12_second_is : ∀ ms, layoutMethods Lm12_DD = some ms → ms[1]? = some Lm12_forwarder := by
  intro ms hms
  have h : ((layoutMethods Lm12_DD).bind (·[1]?)).isSome = true := by decide +kernel
  obtain ⟨x, hx⟩ := Option.isSome_iff_exists.mp h
  have hf : Lm12_forwarder = x := by simp [Lm12_forwarder, hx]
  rw [hms] at hx
  rw [hf]
  exact hx
theorem Lm12_laid_is : layoutFields Lm12_DD 0 = some Lm12_laid := by
  have h : (layoutFields Lm12_DD 0).isSome = true := by decide +kernel
  obtain ⟨x, hx⟩ := Option.isSome_iff_exists.mp h
  simp [Lm12_laid, hx]
theorem Lm12_f_code : (Lm12_forwarder.code.map fun c => (c.code.data, c.maxLocals)) = some (Lm12_fwd.data, 2) := by decide +kernel
theorem Lm12_f_flags : (Lm12_forwarder.accessFlags, Lm12_forwarder.name, Lm12_forwarder.sig.returnType) = (0x0001, "done", (some .int : Option ClassFile.FieldType)) := by decide +kernel
theorem Lm12_eM : Lm12_DD.constantPool[26]? = some (.methodref 22 25) ∧ Lm12_DD.constantPool.className? 22 = some Lm12_tN.cls ∧ Lm12_DD.constantPool.nameAndType? 25 = some (Lm12_tN.name, Lm12_tN.desc) := by decide +kernel
theorem Lm12_eC : Lm12_DD.constantPool[22]? = some (.class_ 21) ∧ Lm12_DD.constantPool.string? 21 = some Lm12_tN.cls ∧ 22 ≠ Lm12_DD.thisClass := by decide +kernel
theorem Lm12_eF0 : Lm12_DD.constantPool[16]? = some (.fieldref 2 15) ∧ Lm12_DD.constantPool.nameAndType? 15 = some ("arg$1", "I") ∧ Lm12_laid.1.findIdx? (·.name == "arg$1") = some 0 ∧ (Lm12_laid.1[0]?).map (fun f => (f.isStatic, f.slot)) = some (false, 0) := by decide +kernel
theorem Lm12_eF1 : Lm12_DD.constantPool[18]? = some (.fieldref 2 17) ∧ Lm12_DD.constantPool.nameAndType? 17 = some ("arg$2", "I") ∧ Lm12_laid.1.findIdx? (·.name == "arg$2") = some 1 ∧ (Lm12_laid.1[1]?).map (fun f => (f.isStatic, f.slot)) = some (false, 1) := by decide +kernel
theorem Lm12_laid_types : Lm12_laid.2.1 = #[.int, .int] := by decide +kernel
theorem Lm12_made {lk : Linked} {cK : ClassId} {U : State} (h0 : LmAt Lm12_σ Lm12_xN 21 63 cK lk U) (hO : ∀ o ok, U.vm.findClass "java/lang/Object" = some o → U.vm.classes[o]? = some ok → ok.instanceTypes.size = 0) : MdAt Lm12_tN Lm12_fwd 26 [16, 18] #[.int, .int] cK U := by
  obtain ⟨m0, k0, cf0, i0, p0, hm0, hk0, hcf0, hsh0, hf0, h, hcan⟩ := h0
  obtain ⟨k0', hk0', hname⟩ := className_of_methodNamed hm0
  cases hk0.symm.trans hk0'
  obtain ⟨dk', k, ok, tk, file, cf, object, iface, toy, lay, methods, target, found, hd', hk, hfile, hcf, hobj, -, hok, hlay, hms, ht, htk, hg, -, hrec, -, -, -, hitf, hpool, hmeth, hfields, hty, hres, -⟩ := Lambda.isMade_spec h
  cases hk0.symm.trans hd'
  rw [hname] at hcf
  cases Lm12_file_is.symm.trans hcf
  have hok0 : ok.instanceTypes = #[] := Array.eq_empty_of_size_eq_zero (hO object ok hobj hok)
  rw [hO object ok hobj hok, Lm12_laid_is] at hlay
  cases hlay
  obtain ⟨b, hb, hsame⟩ := hmeth 1 Lm12_forwarder (Lm12_second_is methods hms)
  obtain ⟨hn, -, hsig, hfl, ca, cb, hca, hcb, -, hl, hcd, het⟩ := Lambda.sameMethod_spec hsame
  have fc := Lm12_f_code
  have ff := Lm12_f_flags
  simp only [Prod.mk.injEq] at ff
  simp only [hca, Option.map_some, Option.some.injEq, Prod.mk.injEq] at fc
  obtain ⟨g0, hg0, hp0⟩ := Option.map_eq_some_iff.mp Lm12_eF0.2.2.2
  simp only [Prod.mk.injEq] at hp0
  obtain ⟨g1, hg1, hp1⟩ := Option.map_eq_some_iff.mp Lm12_eF1.2.2.2
  simp only [Prod.mk.injEq] at hp1
  have hcls0 : U.vm.findClass Lm12_tN.cls = some toy := ht
  have hg' : ((methodIn toy Lm12_tN.name Lm12_tN.desc tk.isInterface none).ask { classPath := fun _ => none } U.vm).1 = .ok target := by
    have e1 : Lm12_σ.implDesc.toString = Lm12_tN.desc := by decide +kernel
    rw [← e1]
    exact hg
  refine ⟨k, tk, file, b, cb, toy, target, 22, 25, hk, hfile, hrec.2.1, by rw [hrec.1, hname]; decide, by rw [hpool.2.1]; exact Lm12_eM.1, by rw [hpool.2.1]; exact Lm12_eM.2.2, by simp [Vm.method?, hk, hb], hcb, by rw [hcd]; exact ByteArray.ext fc.1, by rw [hl]; exact fc.2,
    by simp [Method.locks, Method.isSynchronized, hfl, ff.1, hasFlag, Acc.synchronized], by rw [hfl]; exact ff.1, by rw [hsig]; exact ff.2.2, het, hcls0, htk, hg',
    ⟨k, hk, hres 26 _ (Lambda.resolvedOf_method Lm12_eM.1 Lm12_eM.2.1 ht htk Lm12_eM.2.2 hg')⟩, ⟨k, hk, hres 22 _ (Lambda.resolvedOf_class Lm12_eC.1 Lm12_eC.2.2 Lm12_eC.2.1 ht)⟩, ?_, by rw [hty.1, hok0, Lm12_laid_types]; rfl⟩
  intro i f hf
  match i, hf with
  | 0, hf =>
    cases hf
    exact ⟨g0, ⟨k, 0, k, hk, hres 16 _ (Lambda.resolvedOf_field Lm12_eF0.1 Lm12_eF0.2.1 Lm12_eF0.2.2.1), hk, hfields 0 _ hg0⟩, hp0.1, hp0.2⟩
  | 1, hf =>
    cases hf
    exact ⟨g1, ⟨k, 1, k, hk, hres 18 _ (Lambda.resolvedOf_field Lm12_eF1.1 Lm12_eF1.2.1 Lm12_eF1.2.2.1), hk, hfields 1 _ hg1⟩, hp1.1, hp1.2⟩
  | _ + 2, hf => simp at hf
def Lm13_σ : Lambda.Shape := { iface := "BrookWeirs$Deed", name := "done", sam := ⟨[.object "BrookWeirs$Brook"], some .int⟩, captured := [.int, .boolean, .boolean], kind := 6, implClass := "BrookWeirs$Parser", implName := "lambda$latch$0", implDesc := ⟨[.int, .boolean, .boolean, .object "BrookWeirs$Brook"], some .int⟩, implItf := false, inst := ⟨[.object "BrookWeirs$Brook"], some .int⟩ }
def Lm13_xN : MethodName := ⟨"BrookWeirs$Parser", "latch", "(Z)LBrookWeirs$Deed;"⟩
def Lm13_tN : MethodName := ⟨"BrookWeirs$Parser", "lambda$latch$0", "(IZZLBrookWeirs$Brook;)I"⟩
def Lm13_fwd : ByteArray := ⟨#[42, 180, 0, 18, 42, 180, 0, 20, 42, 180, 0, 22, 43, 184, 0, 30, 172]⟩
def Lm13_DD : ClassFile.ClassFile := (Lm13_σ.file "BrookWeirs$Parser").getD { minorVersion := 0, majorVersion := 0, constantPool := #[], accessFlags := 0, thisClass := 0, superClass := 0, interfaces := #[], fields := #[], methods := #[], attributes := #[] }
def Lm13_forwarder : Method := ((layoutMethods Lm13_DD).bind (·[1]?)).getD default
def Lm13_laid : Array Field × Array ClassFile.FieldType × Array ClassFile.FieldType := (layoutFields Lm13_DD 0).getD (#[], #[], #[])
theorem Lm13_file_is : Lm13_σ.file "BrookWeirs$Parser" = some Lm13_DD := by
  have h : (Lm13_σ.file "BrookWeirs$Parser").isSome = true := by decide +kernel
  obtain ⟨x, hx⟩ := Option.isSome_iff_exists.mp h
  simp [Lm13_DD, hx]
theorem Lm13_second_is : ∀ ms, layoutMethods Lm13_DD = some ms → ms[1]? = some Lm13_forwarder := by
  intro ms hms
  have h : ((layoutMethods Lm13_DD).bind (·[1]?)).isSome = true := by decide +kernel
  obtain ⟨x, hx⟩ := Option.isSome_iff_exists.mp h
  have hf : Lm13_forwarder = x := by simp [Lm13_forwarder, hx]
  rw [hms] at hx
  rw [hf]
  exact hx
theorem Lm13_laid_is : layoutFields Lm13_DD 0 = some Lm13_laid := by
  have h : (layoutFields Lm13_DD 0).isSome = true := by decide +kernel
  obtain ⟨x, hx⟩ := Option.isSome_iff_exists.mp h
  simp [Lm13_laid, hx]
theorem Lm13_f_code : (Lm13_forwarder.code.map fun c => (c.code.data, c.maxLocals)) = some (Lm13_fwd.data, 2) := by decide +kernel
theorem Lm13_f_flags : (Lm13_forwarder.accessFlags, Lm13_forwarder.name, Lm13_forwarder.sig.returnType) = (0x0001, "done", (some .int : Option ClassFile.FieldType)) := by decide +kernel
theorem Lm13_eM : Lm13_DD.constantPool[30]? = some (.methodref 26 29) ∧ Lm13_DD.constantPool.className? 26 = some Lm13_tN.cls ∧ Lm13_DD.constantPool.nameAndType? 29 = some (Lm13_tN.name, Lm13_tN.desc) := by decide +kernel
theorem Lm13_eC : Lm13_DD.constantPool[26]? = some (.class_ 25) ∧ Lm13_DD.constantPool.string? 25 = some Lm13_tN.cls ∧ 26 ≠ Lm13_DD.thisClass := by decide +kernel
theorem Lm13_eF0 : Lm13_DD.constantPool[18]? = some (.fieldref 2 17) ∧ Lm13_DD.constantPool.nameAndType? 17 = some ("arg$1", "I") ∧ Lm13_laid.1.findIdx? (·.name == "arg$1") = some 0 ∧ (Lm13_laid.1[0]?).map (fun f => (f.isStatic, f.slot)) = some (false, 0) := by decide +kernel
theorem Lm13_eF1 : Lm13_DD.constantPool[20]? = some (.fieldref 2 19) ∧ Lm13_DD.constantPool.nameAndType? 19 = some ("arg$2", "Z") ∧ Lm13_laid.1.findIdx? (·.name == "arg$2") = some 1 ∧ (Lm13_laid.1[1]?).map (fun f => (f.isStatic, f.slot)) = some (false, 1) := by decide +kernel
theorem Lm13_eF2 : Lm13_DD.constantPool[22]? = some (.fieldref 2 21) ∧ Lm13_DD.constantPool.nameAndType? 21 = some ("arg$3", "Z") ∧ Lm13_laid.1.findIdx? (·.name == "arg$3") = some 2 ∧ (Lm13_laid.1[2]?).map (fun f => (f.isStatic, f.slot)) = some (false, 2) := by decide +kernel
theorem Lm13_laid_types : Lm13_laid.2.1 = #[.int, .boolean, .boolean] := by decide +kernel
theorem Lm13_made {lk : Linked} {cK : ClassId} {U : State} (h0 : LmAt Lm13_σ Lm13_xN 42 53 cK lk U) (hO : ∀ o ok, U.vm.findClass "java/lang/Object" = some o → U.vm.classes[o]? = some ok → ok.instanceTypes.size = 0) : MdAt Lm13_tN Lm13_fwd 30 [18, 20, 22] #[.int, .boolean, .boolean] cK U := by
  obtain ⟨m0, k0, cf0, i0, p0, hm0, hk0, hcf0, hsh0, hf0, h, hcan⟩ := h0
  obtain ⟨k0', hk0', hname⟩ := className_of_methodNamed hm0
  cases hk0.symm.trans hk0'
  obtain ⟨dk', k, ok, tk, file, cf, object, iface, toy, lay, methods, target, found, hd', hk, hfile, hcf, hobj, -, hok, hlay, hms, ht, htk, hg, -, hrec, -, -, -, hitf, hpool, hmeth, hfields, hty, hres, -⟩ := Lambda.isMade_spec h
  cases hk0.symm.trans hd'
  rw [hname] at hcf
  cases Lm13_file_is.symm.trans hcf
  have hok0 : ok.instanceTypes = #[] := Array.eq_empty_of_size_eq_zero (hO object ok hobj hok)
  rw [hO object ok hobj hok, Lm13_laid_is] at hlay
  cases hlay
  obtain ⟨b, hb, hsame⟩ := hmeth 1 Lm13_forwarder (Lm13_second_is methods hms)
  obtain ⟨hn, -, hsig, hfl, ca, cb, hca, hcb, -, hl, hcd, het⟩ := Lambda.sameMethod_spec hsame
  have fc := Lm13_f_code
  have ff := Lm13_f_flags
  simp only [Prod.mk.injEq] at ff
  simp only [hca, Option.map_some, Option.some.injEq, Prod.mk.injEq] at fc
  obtain ⟨g0, hg0, hp0⟩ := Option.map_eq_some_iff.mp Lm13_eF0.2.2.2
  simp only [Prod.mk.injEq] at hp0
  obtain ⟨g1, hg1, hp1⟩ := Option.map_eq_some_iff.mp Lm13_eF1.2.2.2
  simp only [Prod.mk.injEq] at hp1
  obtain ⟨g2, hg2, hp2⟩ := Option.map_eq_some_iff.mp Lm13_eF2.2.2.2
  simp only [Prod.mk.injEq] at hp2
  have hcls0 : U.vm.findClass Lm13_tN.cls = some toy := ht
  have hg' : ((methodIn toy Lm13_tN.name Lm13_tN.desc tk.isInterface none).ask { classPath := fun _ => none } U.vm).1 = .ok target := by
    have e1 : Lm13_σ.implDesc.toString = Lm13_tN.desc := by decide +kernel
    rw [← e1]
    exact hg
  refine ⟨k, tk, file, b, cb, toy, target, 26, 29, hk, hfile, hrec.2.1, by rw [hrec.1, hname]; decide, by rw [hpool.2.1]; exact Lm13_eM.1, by rw [hpool.2.1]; exact Lm13_eM.2.2, by simp [Vm.method?, hk, hb], hcb, by rw [hcd]; exact ByteArray.ext fc.1, by rw [hl]; exact fc.2,
    by simp [Method.locks, Method.isSynchronized, hfl, ff.1, hasFlag, Acc.synchronized], by rw [hfl]; exact ff.1, by rw [hsig]; exact ff.2.2, het, hcls0, htk, hg',
    ⟨k, hk, hres 30 _ (Lambda.resolvedOf_method Lm13_eM.1 Lm13_eM.2.1 ht htk Lm13_eM.2.2 hg')⟩, ⟨k, hk, hres 26 _ (Lambda.resolvedOf_class Lm13_eC.1 Lm13_eC.2.2 Lm13_eC.2.1 ht)⟩, ?_, by rw [hty.1, hok0, Lm13_laid_types]; rfl⟩
  intro i f hf
  match i, hf with
  | 0, hf =>
    cases hf
    exact ⟨g0, ⟨k, 0, k, hk, hres 18 _ (Lambda.resolvedOf_field Lm13_eF0.1 Lm13_eF0.2.1 Lm13_eF0.2.2.1), hk, hfields 0 _ hg0⟩, hp0.1, hp0.2⟩
  | 1, hf =>
    cases hf
    exact ⟨g1, ⟨k, 1, k, hk, hres 20 _ (Lambda.resolvedOf_field Lm13_eF1.1 Lm13_eF1.2.1 Lm13_eF1.2.2.1), hk, hfields 1 _ hg1⟩, hp1.1, hp1.2⟩
  | 2, hf =>
    cases hf
    exact ⟨g2, ⟨k, 2, k, hk, hres 22 _ (Lambda.resolvedOf_field Lm13_eF2.1 Lm13_eF2.2.1 Lm13_eF2.2.2.1), hk, hfields 2 _ hg2⟩, hp2.1, hp2.2⟩
  | _ + 3, hf => simp at hf
