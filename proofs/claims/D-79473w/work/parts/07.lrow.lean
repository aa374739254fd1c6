set_option maxRecDepth 100000
set_option maxHeartbeats 4000000 in
theorem lw_run0 {p : Program} {l : Launch} {e : Env} {R : Room} {s : State} {m : MethodId} {args : Array Value} {below : List Frame} {meth : Method} {c : Code} {H : Heap} {locs : List Loc} {cells slots : Nat} {cc : ByteArray} {nL : Nat} {own : String} {index count : Nat} (hx : p.tables.exec = Jvm.exec) (hb : c.code = cc) (hml : c.maxLocals = nL) (hown : s.vm.findClass own = some m.cls) (hts : ∀ w ∈ lw_all, w.before args s = true) (hDN : vDN s) (hOb : Cond.instantiable "java/lang/Object" 0 ∈ lw_all)
    {σ : Lambda.Shape} {x0 y : MethodName} {pc0 ix0 : Nat} {cK : ClassId} {lk : Linked} {cc2 : ByteArray} {mi  : Nat} {tys : Array ClassFile.FieldType} (hLm : LmAt σ x0 pc0 ix0 cK lk s) (hmd : ∀ U, LmAt σ x0 pc0 ix0 cK lk U → (∀ o ok, U.vm.findClass "java/lang/Object" = some o → U.vm.classes[o]? = some ok → ok.instanceTypes.size = 0) → MdAt y cc2 mi [] tys cK U) (hσ : σ.iface = doneN.cls ∧ σ.name = doneN.name ∧ σ.sam.toString = doneN.desc) (d0 : decode cc2 0 = .ok (.aload_n 1, 1)) (d1 : decode cc2 1 = .ok (.invokestatic mi, 3)) (d4 : decode cc2 4 = .ok (.ireturn, 1))
    (hq1 : Cond.methodLink own index doneN ∈ lw_all) {bytes : ByteArray} {maxL : Nat} (hq3 : Cond.static y ∈ lw_all) (hq4 : Cond.initialized y.cls ∈ lw_all) (hq5 : Cond.code y bytes maxL (some .int) ∈ lw_all) (hy : (y.cls ≠ "java/lang/invoke/MethodHandle" ∧ y.cls ≠ "java/lang/invoke/VarHandle") ∧ (parseMethodDescriptor y.desc).map (fun d => d.parameters.length) = some 1)
    {q b : Addr} {cellK : Cell}  (hcell : H[q]? = some cellK) (hcls : cellK.cls = cK) (hvmK : cellK.vm = .none)
    {rm : Room} {Pc : Array Value → State → Prop} {Qc : Array Value → State → Outcome → State → Prop} {XC : String → Addr → State → State → Prop} {mc ms : Nat} {free : Addr → Prop} (hM : vx_Met l y (ws_ y bytes maxL (some .int)) rm Pc Qc XC mc ms free) (hbl : FrameBlind Pc)
    (hQi : ∀ a st v t, Qc a st (.returned v) t → ∃ r : Int32, v = some (.int r)) (hrm : rm.cells = mc ∧ rm.slots = ms ∧ rm.frames + 2 ≤ R.frames ∧ 29 + (maxL + 11) + rm.locals ≤ R.locals) (hcs : cells + mc ≤ R.cells ∧ slots + ms ≤ R.slots)
    (hPc : ∀ U : State, U.heap = H → s.WarmedH U.vm → Pc [.ref b].toArray U) {g : JFrame} {rest : List Value} (hg : g.method = m) (hsize : g.locals.size = nL) (hstack : g.stack = .ref b :: .ref q :: rest) (hW : 2 * g.monitorRoom + (rest.map fun v => v.category).sum ≤ 8) (hdg : decode cc g.pc = .ok (.invokeinterface index count, 5)) :
    vx_Run5 p l e R s m args below meth c H locs cells slots mc ms g rest (Qc [.ref b].toArray) XC free := by
  intro T hT X
  obtain ⟨hdecl, hface⟩ := hDN
  have hdecl : (Cond.declares doneN).before args s = true := va_any rfl hdecl
  have hface : (Cond.interfaceMethod doneN.cls doneN.cls doneN.name doneN.desc).before args s = true := va_any rfl hface
  obtain ⟨r0, r, hn, hrm0, hstR, hsigR⟩ := Cond.declares_spec hdecl
  obtain ⟨cL, kL, r1, hcL, hkL, hiL, hfoundL, hn1⟩ := Cond.interfaceMethod_spec hface
  cases hn.symm.trans hn1
  have hr0cls : r0.cls = cL := Option.some.inj ((findClass_of_methodNamed hn).symm.trans hcL)
  obtain ⟨hnameR, hdescR⟩ := name_of_methodNamed hn hrm0
  have hO : ∀ U : State, s.WarmedH U.vm → ∀ o ok, U.vm.findClass "java/lang/Object" = some o → U.vm.classes[o]? = some ok → ok.instanceTypes.size = 0 := by
    intro U hU o ok ho hok
    obtain ⟨cO, kO, hfO, hkO, -, -, -, hsz⟩ := Cond.instantiable_spec (hts _ hOb)
    rw [hU.alike.findClass] at ho
    cases hfO.symm.trans ho
    obtain ⟨k', hk', he⟩ := hU.alike.2.2 _ _ hkO
    cases hok.symm.trans hk'
    rw [he]
    exact hsz
  have hLs := hLm
  obtain ⟨m0, k0, cf0, i0, p0, hm0, hk0, hcf0, hsh0, hf0, hmade, hcan⟩ := hLs
  obtain ⟨-, kc, -, -, -, -, -, iface', -, -, -, -, found, -, hkc, -, -, -, hi', -, -, -, -, -, -, hfound', -, -, -, -, -, -, -, -, -, -, hsel⟩ := Lambda.isMade_spec hmade
  rw [hσ.1] at hi'
  rw [hσ.2.1, hσ.2.2] at hfound'
  cases hcL.symm.trans hi'
  have hfr : found = r0 := by
    have h1 := hfoundL
    simp only [State.methodFound?, hcL, hkL, hiL, Option.bind_eq_bind, Option.bind_some] at h1
    rw [hfound'] at h1
    exact Option.some.inj h1
  subst hfr
  obtain ⟨i2, hi2, hasg, hway⟩ := State.lambdaCallable_spec hcan
  rw [hσ.1] at hi2
  cases hcL.symm.trans hi2
  rw [hσ.2.1, hσ.2.2] at hway
  have hselP : selectMethod e.platform s.vm cellK.cls found = .method ⟨cK, 1⟩ := by rw [hcls, Launch.admits_selectMethod X.admits]; exact hsel
  obtain ⟨-, -, -, methS, -, -, -, -, -, -, -, -, -, -, -, hmS, -, -, -, -, hflS, -⟩ := hmd s hLm (hO s (State.WarmedH.refl s))
  have hxN : doneN.cls ≠ "java/lang/invoke/MethodHandle" ∧ doneN.cls ≠ "java/lang/invoke/VarHandle" := by decide
  obtain ⟨vm', X1, hstep⟩ := X.invokeinterface hx hown (hts _ hq1) hn hrm0 hstR (by rw [hr0cls]; exact hkL) hiL hxN (a := q) (cell := cellK) (kcell := kc) (by rw [hT]; exact hcell)
    (fun z h => by rw [hvmK] at h; cases h) (by rw [hcls]; exact hkc) (by rw [hr0cls, hcls]; exact hasg) hselP hmS (by rw [hcls, hnameR, hdescR]; exact hway) (by rw [hflS]; decide) (by simp [Method.isAbstract, hflS, hasFlag, Acc.abstract]) (g := g) hg (argsL := [.ref b]) (rest := rest) (by
      have h1 : parseMethodDescriptor doneN.desc = some r.sig := hsigR
      have h2 : (parseMethodDescriptor doneN.desc).map (fun d => d.parameters.length) = some 1 := by decide +kernel
      rw [h1] at h2
      exact (Option.some.inj h2).symm) hstack (by rw [hb]; exact hdg)
  have hWm : s.WarmedH (T.setVm vm').vm := X1.warmed
  have hLm1 := LmAt.warm hWm hLm
  obtain ⟨kK, tk, file, methk, ck, toy, t, ci, nt, hkK, hfile, hkind, hplain, hM9, hnt9, hmk, hck, hbytes, hmlK, hlkK, hflK, hretK, hxt, htoy, htk, hlook, hready, hclsR, hflds, -⟩ := hmd _ hLm1 (hO _ hWm)
  have hcodeT : (Cond.code y bytes maxL (some .int)).before args (T.setVm vm') = true := word_at hWm (lw_meth hq5 _ (List.mem_cons_self ..)).2 (hts _ hq5)
  have hstT : (Cond.static y).before args (T.setVm vm') = true := word_at hWm (Or.inl (by first | rfl | simp [Cond.onTables, Cond.keeps, Cond.steady])) (hts _ hq3)
  have hiniT : (Cond.initialized y.cls).before args (T.setVm vm') = true := word_at hWm (Or.inl (by first | rfl | simp [Cond.onTables, Cond.keeps, Cond.steady])) (hts _ hq4)
  cases hnB : (T.setVm vm').methodNamed? y with
  | none => simp [Cond.before, Cond.holds, Cond.value, hnB] at hcodeT
  | some mB =>
  obtain ⟨methB, cB, hmB, -, -, -, -, -, -, hsigB⟩ := Cond.code_spec hnB hcodeT
  have hstaticB : methB.isStatic = true := Cond.static_spec hnB hmB hstT
  have hfT : (T.setVm vm').vm.findClass y.cls = some mB.cls := findClass_of_methodNamed hnB
  cases htoy.symm.trans hfT
  have hinitK : tk.init = .initialized := Cond.initialized_spec hfT htk hiniT
  obtain ⟨kT', hkT', hnameT⟩ := className_of_methodNamed hnB
  cases htk.symm.trans hkT'
  have htB : t = mB := by
    have h1 : (T.setVm vm').methodFound? y.cls y.name y.desc = some mB := State.methodFound?_of_named hnB hy.1
    simp only [State.methodFound?, hfT, htk, Option.bind_eq_bind, Option.bind_some] at h1
    rw [hlook] at h1
    exact Option.some.inj h1
  subst htB
  have hsp : ∀ z : Method, signaturePolymorphic tk z = false := fun z => by simp [signaturePolymorphic, hnameT, hy.1.1, hy.1.2]
  obtain ⟨b9, hmem⟩ := memberRef_ask' (e := e) (vm := (T.setVm vm').vm) (d := cK) (index := mi) hkK hfile (Or.inl hM9) hnt9
  have href : plainRef (T.setVm vm') e cK mi := ⟨ci, _, _, b9, t.cls, tk, hmem, hclsR, htk, by simp [hsp]⟩
  have hpar : 1 = methB.sig.parameters.length := by
    have h2 := hy.2
    rw [hsigB] at h2
    exact (Option.some.inj h2).symm
  have hhT : (T.setVm vm').heap = H := hT
  rcases lam_call0 X1 hx (g := { g with stack := rest }) hg (hsize.trans hml.symm) (by rw [hb]; exact hdg) hmk hck hbytes hmlK hlkK (fun k hk => by cases hkK.symm.trans hk; rw [hplain]; rfl) hretK hxt d0 d1 d4 (q := q) (b := b) (cellK := cellK) (by rw [hhT]; exact hcell) (by rw [hvmK]; intro h; cases h)  href hready htk hmB (hsp _) hstaticB hinitK hpar hnB hM hbl hrm.1 hrm.2.1
    (fun w hw a' U hU => word_at (hWm.trans hU) (lw_meth hq5 w hw).2 (hts _ (lw_meth hq5 w hw).1)) (List.mem_cons_self ..) (fun a' U hU => word_at (hWm.trans hU) (Or.inl (by first | rfl | simp [Cond.onTables, Cond.keeps, Cond.steady])) (hts _ hq4)) hQi hW hrm.2.2.1 (by have := hrm.2.2.2; omega) hcs.1 hcs.2 (fun U hU hv => hPc U (hU.trans hhT) (by rw [hv]; exact hWm)) with ⟨r9, st₀, t1, T', L, q1, Y, q2, q3, q4, q5, q6⟩ | ⟨z, st₀, t1, T', L, E, ce, q1, Y, q2, q3, q4, q5, q6, q7, q8, q9⟩
  · exact Or.inl ⟨some (.int r9), st₀, t1, T', L, q1.trans hhT, Y, q2, q3, q4, q5, fun target h => hstep _ (fun acts => (q6 acts).trans h)⟩
  · exact Or.inr ⟨z, st₀, t1, T', L, E, ce, q1.trans hhT, Y, q2, q3, q4, q5, q6, q7, by rw [hWm.alike.findClass] at q8; exact q8, hstep _ q9⟩
set_option maxHeartbeats 4000000 in
theorem lw_run1 {p : Program} {l : Launch} {e : Env} {R : Room} {s : State} {m : MethodId} {args : Array Value} {below : List Frame} {meth : Method} {c : Code} {H : Heap} {locs : List Loc} {cells slots : Nat} {cc : ByteArray} {nL : Nat} {own : String} {index count : Nat} (hx : p.tables.exec = Jvm.exec) (hb : c.code = cc) (hml : c.maxLocals = nL) (hown : s.vm.findClass own = some m.cls) (hts : ∀ w ∈ lw_all, w.before args s = true) (hDN : vDN s) (hOb : Cond.instantiable "java/lang/Object" 0 ∈ lw_all)
    {σ : Lambda.Shape} {x0 y : MethodName} {pc0 ix0 : Nat} {cK : ClassId} {lk : Linked} {cc2 : ByteArray} {mi f0 : Nat} {tys : Array ClassFile.FieldType} (hLm : LmAt σ x0 pc0 ix0 cK lk s) (hmd : ∀ U, LmAt σ x0 pc0 ix0 cK lk U → (∀ o ok, U.vm.findClass "java/lang/Object" = some o → U.vm.classes[o]? = some ok → ok.instanceTypes.size = 0) → MdAt y cc2 mi [f0] tys cK U) (hσ : σ.iface = doneN.cls ∧ σ.name = doneN.name ∧ σ.sam.toString = doneN.desc) (d0 : decode cc2 0 = .ok (.aload_n 0, 1)) (d1 : decode cc2 1 = .ok (.getfield f0, 3)) (d4 : decode cc2 4 = .ok (.aload_n 1, 1)) (d5 : decode cc2 5 = .ok (.invokestatic mi, 3)) (d8 : decode cc2 8 = .ok (.ireturn, 1))
    (hq1 : Cond.methodLink own index doneN ∈ lw_all) {bytes : ByteArray} {maxL : Nat} (hq3 : Cond.static y ∈ lw_all) (hq4 : Cond.initialized y.cls ∈ lw_all) (hq5 : Cond.code y bytes maxL (some .int) ∈ lw_all) (hy : (y.cls ≠ "java/lang/invoke/MethodHandle" ∧ y.cls ≠ "java/lang/invoke/VarHandle") ∧ (parseMethodDescriptor y.desc).map (fun d => d.parameters.length) = some 2)
    {q b : Addr} {cellK : Cell} {v0 : Value} (hcell : H[q]? = some cellK) (hcls : cellK.cls = cK) (hvmK : cellK.vm = .none) (hv0 : cellK.slots[0]? = some v0)
    {rm : Room} {Pc : Array Value → State → Prop} {Qc : Array Value → State → Outcome → State → Prop} {XC : String → Addr → State → State → Prop} {mc ms : Nat} {free : Addr → Prop} (hM : vx_Met l y (ws_ y bytes maxL (some .int)) rm Pc Qc XC mc ms free) (hbl : FrameBlind Pc)
    (hQi : ∀ a st v t, Qc a st (.returned v) t → ∃ r : Int32, v = some (.int r)) (hrm : rm.cells = mc ∧ rm.slots = ms ∧ rm.frames + 2 ≤ R.frames ∧ 29 + (maxL + 11) + rm.locals ≤ R.locals) (hcs : cells + mc ≤ R.cells ∧ slots + ms ≤ R.slots)
    (hPc : ∀ U : State, U.heap = H → s.WarmedH U.vm → Pc [v0, .ref b].toArray U) {g : JFrame} {rest : List Value} (hg : g.method = m) (hsize : g.locals.size = nL) (hstack : g.stack = .ref b :: .ref q :: rest) (hW : 2 * g.monitorRoom + (rest.map fun v => v.category).sum ≤ 8) (hdg : decode cc g.pc = .ok (.invokeinterface index count, 5)) :
    vx_Run5 p l e R s m args below meth c H locs cells slots mc ms g rest (Qc [v0, .ref b].toArray) XC free := by
  intro T hT X
  obtain ⟨hdecl, hface⟩ := hDN
  have hdecl : (Cond.declares doneN).before args s = true := va_any rfl hdecl
  have hface : (Cond.interfaceMethod doneN.cls doneN.cls doneN.name doneN.desc).before args s = true := va_any rfl hface
  obtain ⟨r0, r, hn, hrm0, hstR, hsigR⟩ := Cond.declares_spec hdecl
  obtain ⟨cL, kL, r1, hcL, hkL, hiL, hfoundL, hn1⟩ := Cond.interfaceMethod_spec hface
  cases hn.symm.trans hn1
  have hr0cls : r0.cls = cL := Option.some.inj ((findClass_of_methodNamed hn).symm.trans hcL)
  obtain ⟨hnameR, hdescR⟩ := name_of_methodNamed hn hrm0
  have hO : ∀ U : State, s.WarmedH U.vm → ∀ o ok, U.vm.findClass "java/lang/Object" = some o → U.vm.classes[o]? = some ok → ok.instanceTypes.size = 0 := by
    intro U hU o ok ho hok
    obtain ⟨cO, kO, hfO, hkO, -, -, -, hsz⟩ := Cond.instantiable_spec (hts _ hOb)
    rw [hU.alike.findClass] at ho
    cases hfO.symm.trans ho
    obtain ⟨k', hk', he⟩ := hU.alike.2.2 _ _ hkO
    cases hok.symm.trans hk'
    rw [he]
    exact hsz
  have hLs := hLm
  obtain ⟨m0, k0, cf0, i0, p0, hm0, hk0, hcf0, hsh0, hf0, hmade, hcan⟩ := hLs
  obtain ⟨-, kc, -, -, -, -, -, iface', -, -, -, -, found, -, hkc, -, -, -, hi', -, -, -, -, -, -, hfound', -, -, -, -, -, -, -, -, -, -, hsel⟩ := Lambda.isMade_spec hmade
  rw [hσ.1] at hi'
  rw [hσ.2.1, hσ.2.2] at hfound'
  cases hcL.symm.trans hi'
  have hfr : found = r0 := by
    have h1 := hfoundL
    simp only [State.methodFound?, hcL, hkL, hiL, Option.bind_eq_bind, Option.bind_some] at h1
    rw [hfound'] at h1
    exact Option.some.inj h1
  subst hfr
  obtain ⟨i2, hi2, hasg, hway⟩ := State.lambdaCallable_spec hcan
  rw [hσ.1] at hi2
  cases hcL.symm.trans hi2
  rw [hσ.2.1, hσ.2.2] at hway
  have hselP : selectMethod e.platform s.vm cellK.cls found = .method ⟨cK, 1⟩ := by rw [hcls, Launch.admits_selectMethod X.admits]; exact hsel
  obtain ⟨-, -, -, methS, -, -, -, -, -, -, -, -, -, -, -, hmS, -, -, -, -, hflS, -⟩ := hmd s hLm (hO s (State.WarmedH.refl s))
  have hxN : doneN.cls ≠ "java/lang/invoke/MethodHandle" ∧ doneN.cls ≠ "java/lang/invoke/VarHandle" := by decide
  obtain ⟨vm', X1, hstep⟩ := X.invokeinterface hx hown (hts _ hq1) hn hrm0 hstR (by rw [hr0cls]; exact hkL) hiL hxN (a := q) (cell := cellK) (kcell := kc) (by rw [hT]; exact hcell)
    (fun z h => by rw [hvmK] at h; cases h) (by rw [hcls]; exact hkc) (by rw [hr0cls, hcls]; exact hasg) hselP hmS (by rw [hcls, hnameR, hdescR]; exact hway) (by rw [hflS]; decide) (by simp [Method.isAbstract, hflS, hasFlag, Acc.abstract]) (g := g) hg (argsL := [.ref b]) (rest := rest) (by
      have h1 : parseMethodDescriptor doneN.desc = some r.sig := hsigR
      have h2 : (parseMethodDescriptor doneN.desc).map (fun d => d.parameters.length) = some 1 := by decide +kernel
      rw [h1] at h2
      exact (Option.some.inj h2).symm) hstack (by rw [hb]; exact hdg)
  have hWm : s.WarmedH (T.setVm vm').vm := X1.warmed
  have hLm1 := LmAt.warm hWm hLm
  obtain ⟨kK, tk, file, methk, ck, toy, t, ci, nt, hkK, hfile, hkind, hplain, hM9, hnt9, hmk, hck, hbytes, hmlK, hlkK, hflK, hretK, hxt, htoy, htk, hlook, hready, hclsR, hflds, -⟩ := hmd _ hLm1 (hO _ hWm)
  obtain ⟨g0, hf0, hs0, hp0⟩ := hflds 0 f0 rfl
  have hcodeT : (Cond.code y bytes maxL (some .int)).before args (T.setVm vm') = true := word_at hWm (lw_meth hq5 _ (List.mem_cons_self ..)).2 (hts _ hq5)
  have hstT : (Cond.static y).before args (T.setVm vm') = true := word_at hWm (Or.inl (by first | rfl | simp [Cond.onTables, Cond.keeps, Cond.steady])) (hts _ hq3)
  have hiniT : (Cond.initialized y.cls).before args (T.setVm vm') = true := word_at hWm (Or.inl (by first | rfl | simp [Cond.onTables, Cond.keeps, Cond.steady])) (hts _ hq4)
  cases hnB : (T.setVm vm').methodNamed? y with
  | none => simp [Cond.before, Cond.holds, Cond.value, hnB] at hcodeT
  | some mB =>
  obtain ⟨methB, cB, hmB, -, -, -, -, -, -, hsigB⟩ := Cond.code_spec hnB hcodeT
  have hstaticB : methB.isStatic = true := Cond.static_spec hnB hmB hstT
  have hfT : (T.setVm vm').vm.findClass y.cls = some mB.cls := findClass_of_methodNamed hnB
  cases htoy.symm.trans hfT
  have hinitK : tk.init = .initialized := Cond.initialized_spec hfT htk hiniT
  obtain ⟨kT', hkT', hnameT⟩ := className_of_methodNamed hnB
  cases htk.symm.trans hkT'
  have htB : t = mB := by
    have h1 : (T.setVm vm').methodFound? y.cls y.name y.desc = some mB := State.methodFound?_of_named hnB hy.1
    simp only [State.methodFound?, hfT, htk, Option.bind_eq_bind, Option.bind_some] at h1
    rw [hlook] at h1
    exact Option.some.inj h1
  subst htB
  have hsp : ∀ z : Method, signaturePolymorphic tk z = false := fun z => by simp [signaturePolymorphic, hnameT, hy.1.1, hy.1.2]
  obtain ⟨b9, hmem⟩ := memberRef_ask' (e := e) (vm := (T.setVm vm').vm) (d := cK) (index := mi) hkK hfile (Or.inl hM9) hnt9
  have href : plainRef (T.setVm vm') e cK mi := ⟨ci, _, _, b9, t.cls, tk, hmem, hclsR, htk, by simp [hsp]⟩
  have hpar : 2 = methB.sig.parameters.length := by
    have h2 := hy.2
    rw [hsigB] at h2
    exact (Option.some.inj h2).symm
  have hhT : (T.setVm vm').heap = H := hT
  rcases lam_call1 X1 hx (g := { g with stack := rest }) hg (hsize.trans hml.symm) (by rw [hb]; exact hdg) hmk hck hbytes hmlK hlkK (fun k hk => by cases hkK.symm.trans hk; rw [hplain]; rfl) hretK hxt d0 d1 d4 d5 d8 (q := q) (b := b) (cellK := cellK) (by rw [hhT]; exact hcell) (by rw [hvmK]; intro h; cases h) hf0 hs0 (by rw [hp0]; exact hv0) href hready htk hmB (hsp _) hstaticB hinitK hpar hnB hM hbl hrm.1 hrm.2.1
    (fun w hw a' U hU => word_at (hWm.trans hU) (lw_meth hq5 w hw).2 (hts _ (lw_meth hq5 w hw).1)) (List.mem_cons_self ..) (fun a' U hU => word_at (hWm.trans hU) (Or.inl (by first | rfl | simp [Cond.onTables, Cond.keeps, Cond.steady])) (hts _ hq4)) hQi hW hrm.2.2.1 (by have := hrm.2.2.2; omega) hcs.1 hcs.2 (fun U hU hv => hPc U (hU.trans hhT) (by rw [hv]; exact hWm)) with ⟨r9, st₀, t1, T', L, q1, Y, q2, q3, q4, q5, q6⟩ | ⟨z, st₀, t1, T', L, E, ce, q1, Y, q2, q3, q4, q5, q6, q7, q8, q9⟩
  · exact Or.inl ⟨some (.int r9), st₀, t1, T', L, q1.trans hhT, Y, q2, q3, q4, q5, fun target h => hstep _ (fun acts => (q6 acts).trans h)⟩
  · exact Or.inr ⟨z, st₀, t1, T', L, E, ce, q1.trans hhT, Y, q2, q3, q4, q5, q6, q7, by rw [hWm.alike.findClass] at q8; exact q8, hstep _ q9⟩
set_option maxHeartbeats 4000000 in
theorem lw_run2 {p : Program} {l : Launch} {e : Env} {R : Room} {s : State} {m : MethodId} {args : Array Value} {below : List Frame} {meth : Method} {c : Code} {H : Heap} {locs : List Loc} {cells slots : Nat} {cc : ByteArray} {nL : Nat} {own : String} {index count : Nat} (hx : p.tables.exec = Jvm.exec) (hb : c.code = cc) (hml : c.maxLocals = nL) (hown : s.vm.findClass own = some m.cls) (hts : ∀ w ∈ lw_all, w.before args s = true) (hDN : vDN s) (hOb : Cond.instantiable "java/lang/Object" 0 ∈ lw_all)
    {σ : Lambda.Shape} {x0 y : MethodName} {pc0 ix0 : Nat} {cK : ClassId} {lk : Linked} {cc2 : ByteArray} {mi f0 f1 : Nat} {tys : Array ClassFile.FieldType} (hLm : LmAt σ x0 pc0 ix0 cK lk s) (hmd : ∀ U, LmAt σ x0 pc0 ix0 cK lk U → (∀ o ok, U.vm.findClass "java/lang/Object" = some o → U.vm.classes[o]? = some ok → ok.instanceTypes.size = 0) → MdAt y cc2 mi [f0, f1] tys cK U) (hσ : σ.iface = doneN.cls ∧ σ.name = doneN.name ∧ σ.sam.toString = doneN.desc) (d0 : decode cc2 0 = .ok (.aload_n 0, 1)) (d1 : decode cc2 1 = .ok (.getfield f0, 3)) (d4 : decode cc2 4 = .ok (.aload_n 0, 1)) (d5 : decode cc2 5 = .ok (.getfield f1, 3)) (d8 : decode cc2 8 = .ok (.aload_n 1, 1)) (d9 : decode cc2 9 = .ok (.invokestatic mi, 3)) (d12 : decode cc2 12 = .ok (.ireturn, 1))
    (hq1 : Cond.methodLink own index doneN ∈ lw_all) {bytes : ByteArray} {maxL : Nat} (hq3 : Cond.static y ∈ lw_all) (hq4 : Cond.initialized y.cls ∈ lw_all) (hq5 : Cond.code y bytes maxL (some .int) ∈ lw_all) (hy : (y.cls ≠ "java/lang/invoke/MethodHandle" ∧ y.cls ≠ "java/lang/invoke/VarHandle") ∧ (parseMethodDescriptor y.desc).map (fun d => d.parameters.length) = some 3)
    {q b : Addr} {cellK : Cell} {v0 v1 : Value} (hcell : H[q]? = some cellK) (hcls : cellK.cls = cK) (hvmK : cellK.vm = .none) (hv0 : cellK.slots[0]? = some v0) (hv1 : cellK.slots[1]? = some v1)
    {rm : Room} {Pc : Array Value → State → Prop} {Qc : Array Value → State → Outcome → State → Prop} {XC : String → Addr → State → State → Prop} {mc ms : Nat} {free : Addr → Prop} (hM : vx_Met l y (ws_ y bytes maxL (some .int)) rm Pc Qc XC mc ms free) (hbl : FrameBlind Pc)
    (hQi : ∀ a st v t, Qc a st (.returned v) t → ∃ r : Int32, v = some (.int r)) (hrm : rm.cells = mc ∧ rm.slots = ms ∧ rm.frames + 2 ≤ R.frames ∧ 29 + (maxL + 11) + rm.locals ≤ R.locals) (hcs : cells + mc ≤ R.cells ∧ slots + ms ≤ R.slots)
    (hPc : ∀ U : State, U.heap = H → s.WarmedH U.vm → Pc [v0, v1, .ref b].toArray U) {g : JFrame} {rest : List Value} (hg : g.method = m) (hsize : g.locals.size = nL) (hstack : g.stack = .ref b :: .ref q :: rest) (hW : 2 * g.monitorRoom + (rest.map fun v => v.category).sum ≤ 8) (hdg : decode cc g.pc = .ok (.invokeinterface index count, 5)) :
    vx_Run5 p l e R s m args below meth c H locs cells slots mc ms g rest (Qc [v0, v1, .ref b].toArray) XC free := by
  intro T hT X
  obtain ⟨hdecl, hface⟩ := hDN
  have hdecl : (Cond.declares doneN).before args s = true := va_any rfl hdecl
  have hface : (Cond.interfaceMethod doneN.cls doneN.cls doneN.name doneN.desc).before args s = true := va_any rfl hface
  obtain ⟨r0, r, hn, hrm0, hstR, hsigR⟩ := Cond.declares_spec hdecl
  obtain ⟨cL, kL, r1, hcL, hkL, hiL, hfoundL, hn1⟩ := Cond.interfaceMethod_spec hface
  cases hn.symm.trans hn1
  have hr0cls : r0.cls = cL := Option.some.inj ((findClass_of_methodNamed hn).symm.trans hcL)
  obtain ⟨hnameR, hdescR⟩ := name_of_methodNamed hn hrm0
  have hO : ∀ U : State, s.WarmedH U.vm → ∀ o ok, U.vm.findClass "java/lang/Object" = some o → U.vm.classes[o]? = some ok → ok.instanceTypes.size = 0 := by
    intro U hU o ok ho hok
    obtain ⟨cO, kO, hfO, hkO, -, -, -, hsz⟩ := Cond.instantiable_spec (hts _ hOb)
    rw [hU.alike.findClass] at ho
    cases hfO.symm.trans ho
    obtain ⟨k', hk', he⟩ := hU.alike.2.2 _ _ hkO
    cases hok.symm.trans hk'
    rw [he]
    exact hsz
  have hLs := hLm
  obtain ⟨m0, k0, cf0, i0, p0, hm0, hk0, hcf0, hsh0, hf0, hmade, hcan⟩ := hLs
  obtain ⟨-, kc, -, -, -, -, -, iface', -, -, -, -, found, -, hkc, -, -, -, hi', -, -, -, -, -, -, hfound', -, -, -, -, -, -, -, -, -, -, hsel⟩ := Lambda.isMade_spec hmade
  rw [hσ.1] at hi'
  rw [hσ.2.1, hσ.2.2] at hfound'
  cases hcL.symm.trans hi'
  have hfr : found = r0 := by
    have h1 := hfoundL
    simp only [State.methodFound?, hcL, hkL, hiL, Option.bind_eq_bind, Option.bind_some] at h1
    rw [hfound'] at h1
    exact Option.some.inj h1
  subst hfr
  obtain ⟨i2, hi2, hasg, hway⟩ := State.lambdaCallable_spec hcan
  rw [hσ.1] at hi2
  cases hcL.symm.trans hi2
  rw [hσ.2.1, hσ.2.2] at hway
  have hselP : selectMethod e.platform s.vm cellK.cls found = .method ⟨cK, 1⟩ := by rw [hcls, Launch.admits_selectMethod X.admits]; exact hsel
  obtain ⟨-, -, -, methS, -, -, -, -, -, -, -, -, -, -, -, hmS, -, -, -, -, hflS, -⟩ := hmd s hLm (hO s (State.WarmedH.refl s))
  have hxN : doneN.cls ≠ "java/lang/invoke/MethodHandle" ∧ doneN.cls ≠ "java/lang/invoke/VarHandle" := by decide
  obtain ⟨vm', X1, hstep⟩ := X.invokeinterface hx hown (hts _ hq1) hn hrm0 hstR (by rw [hr0cls]; exact hkL) hiL hxN (a := q) (cell := cellK) (kcell := kc) (by rw [hT]; exact hcell)
    (fun z h => by rw [hvmK] at h; cases h) (by rw [hcls]; exact hkc) (by rw [hr0cls, hcls]; exact hasg) hselP hmS (by rw [hcls, hnameR, hdescR]; exact hway) (by rw [hflS]; decide) (by simp [Method.isAbstract, hflS, hasFlag, Acc.abstract]) (g := g) hg (argsL := [.ref b]) (rest := rest) (by
      have h1 : parseMethodDescriptor doneN.desc = some r.sig := hsigR
      have h2 : (parseMethodDescriptor doneN.desc).map (fun d => d.parameters.length) = some 1 := by decide +kernel
      rw [h1] at h2
      exact (Option.some.inj h2).symm) hstack (by rw [hb]; exact hdg)
  have hWm : s.WarmedH (T.setVm vm').vm := X1.warmed
  have hLm1 := LmAt.warm hWm hLm
  obtain ⟨kK, tk, file, methk, ck, toy, t, ci, nt, hkK, hfile, hkind, hplain, hM9, hnt9, hmk, hck, hbytes, hmlK, hlkK, hflK, hretK, hxt, htoy, htk, hlook, hready, hclsR, hflds, -⟩ := hmd _ hLm1 (hO _ hWm)
  obtain ⟨g0, hf0, hs0, hp0⟩ := hflds 0 f0 rfl
  obtain ⟨g1, hf1, hs1, hp1⟩ := hflds 1 f1 rfl
  have hcodeT : (Cond.code y bytes maxL (some .int)).before args (T.setVm vm') = true := word_at hWm (lw_meth hq5 _ (List.mem_cons_self ..)).2 (hts _ hq5)
  have hstT : (Cond.static y).before args (T.setVm vm') = true := word_at hWm (Or.inl (by first | rfl | simp [Cond.onTables, Cond.keeps, Cond.steady])) (hts _ hq3)
  have hiniT : (Cond.initialized y.cls).before args (T.setVm vm') = true := word_at hWm (Or.inl (by first | rfl | simp [Cond.onTables, Cond.keeps, Cond.steady])) (hts _ hq4)
  cases hnB : (T.setVm vm').methodNamed? y with
  | none => simp [Cond.before, Cond.holds, Cond.value, hnB] at hcodeT
  | some mB =>
  obtain ⟨methB, cB, hmB, -, -, -, -, -, -, hsigB⟩ := Cond.code_spec hnB hcodeT
  have hstaticB : methB.isStatic = true := Cond.static_spec hnB hmB hstT
  have hfT : (T.setVm vm').vm.findClass y.cls = some mB.cls := findClass_of_methodNamed hnB
  cases htoy.symm.trans hfT
  have hinitK : tk.init = .initialized := Cond.initialized_spec hfT htk hiniT
  obtain ⟨kT', hkT', hnameT⟩ := className_of_methodNamed hnB
  cases htk.symm.trans hkT'
  have htB : t = mB := by
    have h1 : (T.setVm vm').methodFound? y.cls y.name y.desc = some mB := State.methodFound?_of_named hnB hy.1
    simp only [State.methodFound?, hfT, htk, Option.bind_eq_bind, Option.bind_some] at h1
    rw [hlook] at h1
    exact Option.some.inj h1
  subst htB
  have hsp : ∀ z : Method, signaturePolymorphic tk z = false := fun z => by simp [signaturePolymorphic, hnameT, hy.1.1, hy.1.2]
  obtain ⟨b9, hmem⟩ := memberRef_ask' (e := e) (vm := (T.setVm vm').vm) (d := cK) (index := mi) hkK hfile (Or.inl hM9) hnt9
  have href : plainRef (T.setVm vm') e cK mi := ⟨ci, _, _, b9, t.cls, tk, hmem, hclsR, htk, by simp [hsp]⟩
  have hpar : 3 = methB.sig.parameters.length := by
    have h2 := hy.2
    rw [hsigB] at h2
    exact (Option.some.inj h2).symm
  have hhT : (T.setVm vm').heap = H := hT
  rcases lam_call2 X1 hx (g := { g with stack := rest }) hg (hsize.trans hml.symm) (by rw [hb]; exact hdg) hmk hck hbytes hmlK hlkK (fun k hk => by cases hkK.symm.trans hk; rw [hplain]; rfl) hretK hxt d0 d1 d4 d5 d8 d9 d12 (q := q) (b := b) (cellK := cellK) (by rw [hhT]; exact hcell) (by rw [hvmK]; intro h; cases h) hf0 hs0 (by rw [hp0]; exact hv0) hf1 hs1 (by rw [hp1]; exact hv1) href hready htk hmB (hsp _) hstaticB hinitK hpar hnB hM hbl hrm.1 hrm.2.1
    (fun w hw a' U hU => word_at (hWm.trans hU) (lw_meth hq5 w hw).2 (hts _ (lw_meth hq5 w hw).1)) (List.mem_cons_self ..) (fun a' U hU => word_at (hWm.trans hU) (Or.inl (by first | rfl | simp [Cond.onTables, Cond.keeps, Cond.steady])) (hts _ hq4)) hQi hW hrm.2.2.1 (by have := hrm.2.2.2; omega) hcs.1 hcs.2 (fun U hU hv => hPc U (hU.trans hhT) (by rw [hv]; exact hWm)) with ⟨r9, st₀, t1, T', L, q1, Y, q2, q3, q4, q5, q6⟩ | ⟨z, st₀, t1, T', L, E, ce, q1, Y, q2, q3, q4, q5, q6, q7, q8, q9⟩
  · exact Or.inl ⟨some (.int r9), st₀, t1, T', L, q1.trans hhT, Y, q2, q3, q4, q5, fun target h => hstep _ (fun acts => (q6 acts).trans h)⟩
  · exact Or.inr ⟨z, st₀, t1, T', L, E, ce, q1.trans hhT, Y, q2, q3, q4, q5, q6, q7, by rw [hWm.alike.findClass] at q8; exact q8, hstep _ q9⟩
set_option maxHeartbeats 4000000 in
theorem lw_run3 {p : Program} {l : Launch} {e : Env} {R : Room} {s : State} {m : MethodId} {args : Array Value} {below : List Frame} {meth : Method} {c : Code} {H : Heap} {locs : List Loc} {cells slots : Nat} {cc : ByteArray} {nL : Nat} {own : String} {index count : Nat} (hx : p.tables.exec = Jvm.exec) (hb : c.code = cc) (hml : c.maxLocals = nL) (hown : s.vm.findClass own = some m.cls) (hts : ∀ w ∈ lw_all, w.before args s = true) (hDN : vDN s) (hOb : Cond.instantiable "java/lang/Object" 0 ∈ lw_all)
    {σ : Lambda.Shape} {x0 y : MethodName} {pc0 ix0 : Nat} {cK : ClassId} {lk : Linked} {cc2 : ByteArray} {mi f0 f1 f2 : Nat} {tys : Array ClassFile.FieldType} (hLm : LmAt σ x0 pc0 ix0 cK lk s) (hmd : ∀ U, LmAt σ x0 pc0 ix0 cK lk U → (∀ o ok, U.vm.findClass "java/lang/Object" = some o → U.vm.classes[o]? = some ok → ok.instanceTypes.size = 0) → MdAt y cc2 mi [f0, f1, f2] tys cK U) (hσ : σ.iface = doneN.cls ∧ σ.name = doneN.name ∧ σ.sam.toString = doneN.desc) (d0 : decode cc2 0 = .ok (.aload_n 0, 1)) (d1 : decode cc2 1 = .ok (.getfield f0, 3)) (d4 : decode cc2 4 = .ok (.aload_n 0, 1)) (d5 : decode cc2 5 = .ok (.getfield f1, 3)) (d8 : decode cc2 8 = .ok (.aload_n 0, 1)) (d9 : decode cc2 9 = .ok (.getfield f2, 3)) (d12 : decode cc2 12 = .ok (.aload_n 1, 1)) (d13 : decode cc2 13 = .ok (.invokestatic mi, 3)) (d16 : decode cc2 16 = .ok (.ireturn, 1))
    (hq1 : Cond.methodLink own index doneN ∈ lw_all) {bytes : ByteArray} {maxL : Nat} (hq3 : Cond.static y ∈ lw_all) (hq4 : Cond.initialized y.cls ∈ lw_all) (hq5 : Cond.code y bytes maxL (some .int) ∈ lw_all) (hy : (y.cls ≠ "java/lang/invoke/MethodHandle" ∧ y.cls ≠ "java/lang/invoke/VarHandle") ∧ (parseMethodDescriptor y.desc).map (fun d => d.parameters.length) = some 4)
    {q b : Addr} {cellK : Cell} {v0 v1 v2 : Value} (hcell : H[q]? = some cellK) (hcls : cellK.cls = cK) (hvmK : cellK.vm = .none) (hv0 : cellK.slots[0]? = some v0) (hv1 : cellK.slots[1]? = some v1) (hv2 : cellK.slots[2]? = some v2)
    {rm : Room} {Pc : Array Value → State → Prop} {Qc : Array Value → State → Outcome → State → Prop} {XC : String → Addr → State → State → Prop} {mc ms : Nat} {free : Addr → Prop} (hM : vx_Met l y (ws_ y bytes maxL (some .int)) rm Pc Qc XC mc ms free) (hbl : FrameBlind Pc)
    (hQi : ∀ a st v t, Qc a st (.returned v) t → ∃ r : Int32, v = some (.int r)) (hrm : rm.cells = mc ∧ rm.slots = ms ∧ rm.frames + 2 ≤ R.frames ∧ 29 + (maxL + 11) + rm.locals ≤ R.locals) (hcs : cells + mc ≤ R.cells ∧ slots + ms ≤ R.slots)
    (hPc : ∀ U : State, U.heap = H → s.WarmedH U.vm → Pc [v0, v1, v2, .ref b].toArray U) {g : JFrame} {rest : List Value} (hg : g.method = m) (hsize : g.locals.size = nL) (hstack : g.stack = .ref b :: .ref q :: rest) (hW : 2 * g.monitorRoom + (rest.map fun v => v.category).sum ≤ 8) (hdg : decode cc g.pc = .ok (.invokeinterface index count, 5)) :
    vx_Run5 p l e R s m args below meth c H locs cells slots mc ms g rest (Qc [v0, v1, v2, .ref b].toArray) XC free := by
  intro T hT X
  obtain ⟨hdecl, hface⟩ := hDN
  have hdecl : (Cond.declares doneN).before args s = true := va_any rfl hdecl
  have hface : (Cond.interfaceMethod doneN.cls doneN.cls doneN.name doneN.desc).before args s = true := va_any rfl hface
  obtain ⟨r0, r, hn, hrm0, hstR, hsigR⟩ := Cond.declares_spec hdecl
  obtain ⟨cL, kL, r1, hcL, hkL, hiL, hfoundL, hn1⟩ := Cond.interfaceMethod_spec hface
  cases hn.symm.trans hn1
  have hr0cls : r0.cls = cL := Option.some.inj ((findClass_of_methodNamed hn).symm.trans hcL)
  obtain ⟨hnameR, hdescR⟩ := name_of_methodNamed hn hrm0
  have hO : ∀ U : State, s.WarmedH U.vm → ∀ o ok, U.vm.findClass "java/lang/Object" = some o → U.vm.classes[o]? = some ok → ok.instanceTypes.size = 0 := by
    intro U hU o ok ho hok
    obtain ⟨cO, kO, hfO, hkO, -, -, -, hsz⟩ := Cond.instantiable_spec (hts _ hOb)
    rw [hU.alike.findClass] at ho
    cases hfO.symm.trans ho
    obtain ⟨k', hk', he⟩ := hU.alike.2.2 _ _ hkO
    cases hok.symm.trans hk'
    rw [he]
    exact hsz
  have hLs := hLm
  obtain ⟨m0, k0, cf0, i0, p0, hm0, hk0, hcf0, hsh0, hf0, hmade, hcan⟩ := hLs
  obtain ⟨-, kc, -, -, -, -, -, iface', -, -, -, -, found, -, hkc, -, -, -, hi', -, -, -, -, -, -, hfound', -, -, -, -, -, -, -, -, -, -, hsel⟩ := Lambda.isMade_spec hmade
  rw [hσ.1] at hi'
  rw [hσ.2.1, hσ.2.2] at hfound'
  cases hcL.symm.trans hi'
  have hfr : found = r0 := by
    have h1 := hfoundL
    simp only [State.methodFound?, hcL, hkL, hiL, Option.bind_eq_bind, Option.bind_some] at h1
    rw [hfound'] at h1
    exact Option.some.inj h1
  subst hfr
  obtain ⟨i2, hi2, hasg, hway⟩ := State.lambdaCallable_spec hcan
  rw [hσ.1] at hi2
  cases hcL.symm.trans hi2
  rw [hσ.2.1, hσ.2.2] at hway
  have hselP : selectMethod e.platform s.vm cellK.cls found = .method ⟨cK, 1⟩ := by rw [hcls, Launch.admits_selectMethod X.admits]; exact hsel
  obtain ⟨-, -, -, methS, -, -, -, -, -, -, -, -, -, -, -, hmS, -, -, -, -, hflS, -⟩ := hmd s hLm (hO s (State.WarmedH.refl s))
  have hxN : doneN.cls ≠ "java/lang/invoke/MethodHandle" ∧ doneN.cls ≠ "java/lang/invoke/VarHandle" := by decide
  obtain ⟨vm', X1, hstep⟩ := X.invokeinterface hx hown (hts _ hq1) hn hrm0 hstR (by rw [hr0cls]; exact hkL) hiL hxN (a := q) (cell := cellK) (kcell := kc) (by rw [hT]; exact hcell)
    (fun z h => by rw [hvmK] at h; cases h) (by rw [hcls]; exact hkc) (by rw [hr0cls, hcls]; exact hasg) hselP hmS (by rw [hcls, hnameR, hdescR]; exact hway) (by rw [hflS]; decide) (by simp [Method.isAbstract, hflS, hasFlag, Acc.abstract]) (g := g) hg (argsL := [.ref b]) (rest := rest) (by
      have h1 : parseMethodDescriptor doneN.desc = some r.sig := hsigR
      have h2 : (parseMethodDescriptor doneN.desc).map (fun d => d.parameters.length) = some 1 := by decide +kernel
      rw [h1] at h2
      exact (Option.some.inj h2).symm) hstack (by rw [hb]; exact hdg)
  have hWm : s.WarmedH (T.setVm vm').vm := X1.warmed
  have hLm1 := LmAt.warm hWm hLm
  obtain ⟨kK, tk, file, methk, ck, toy, t, ci, nt, hkK, hfile, hkind, hplain, hM9, hnt9, hmk, hck, hbytes, hmlK, hlkK, hflK, hretK, hxt, htoy, htk, hlook, hready, hclsR, hflds, -⟩ := hmd _ hLm1 (hO _ hWm)
  obtain ⟨g0, hf0, hs0, hp0⟩ := hflds 0 f0 rfl
  obtain ⟨g1, hf1, hs1, hp1⟩ := hflds 1 f1 rfl
  obtain ⟨g2, hf2, hs2, hp2⟩ := hflds 2 f2 rfl
  have hcodeT : (Cond.code y bytes maxL (some .int)).before args (T.setVm vm') = true := word_at hWm (lw_meth hq5 _ (List.mem_cons_self ..)).2 (hts _ hq5)
  have hstT : (Cond.static y).before args (T.setVm vm') = true := word_at hWm (Or.inl (by first | rfl | simp [Cond.onTables, Cond.keeps, Cond.steady])) (hts _ hq3)
  have hiniT : (Cond.initialized y.cls).before args (T.setVm vm') = true := word_at hWm (Or.inl (by first | rfl | simp [Cond.onTables, Cond.keeps, Cond.steady])) (hts _ hq4)
  cases hnB : (T.setVm vm').methodNamed? y with
  | none => simp [Cond.before, Cond.holds, Cond.value, hnB] at hcodeT
  | some mB =>
  obtain ⟨methB, cB, hmB, -, -, -, -, -, -, hsigB⟩ := Cond.code_spec hnB hcodeT
  have hstaticB : methB.isStatic = true := Cond.static_spec hnB hmB hstT
  have hfT : (T.setVm vm').vm.findClass y.cls = some mB.cls := findClass_of_methodNamed hnB
  cases htoy.symm.trans hfT
  have hinitK : tk.init = .initialized := Cond.initialized_spec hfT htk hiniT
  obtain ⟨kT', hkT', hnameT⟩ := className_of_methodNamed hnB
  cases htk.symm.trans hkT'
  have htB : t = mB := by
    have h1 : (T.setVm vm').methodFound? y.cls y.name y.desc = some mB := State.methodFound?_of_named hnB hy.1
    simp only [State.methodFound?, hfT, htk, Option.bind_eq_bind, Option.bind_some] at h1
    rw [hlook] at h1
    exact Option.some.inj h1
  subst htB
  have hsp : ∀ z : Method, signaturePolymorphic tk z = false := fun z => by simp [signaturePolymorphic, hnameT, hy.1.1, hy.1.2]
  obtain ⟨b9, hmem⟩ := memberRef_ask' (e := e) (vm := (T.setVm vm').vm) (d := cK) (index := mi) hkK hfile (Or.inl hM9) hnt9
  have href : plainRef (T.setVm vm') e cK mi := ⟨ci, _, _, b9, t.cls, tk, hmem, hclsR, htk, by simp [hsp]⟩
  have hpar : 4 = methB.sig.parameters.length := by
    have h2 := hy.2
    rw [hsigB] at h2
    exact (Option.some.inj h2).symm
  have hhT : (T.setVm vm').heap = H := hT
  rcases lam_call3 X1 hx (g := { g with stack := rest }) hg (hsize.trans hml.symm) (by rw [hb]; exact hdg) hmk hck hbytes hmlK hlkK (fun k hk => by cases hkK.symm.trans hk; rw [hplain]; rfl) hretK hxt d0 d1 d4 d5 d8 d9 d12 d13 d16 (q := q) (b := b) (cellK := cellK) (by rw [hhT]; exact hcell) (by rw [hvmK]; intro h; cases h) hf0 hs0 (by rw [hp0]; exact hv0) hf1 hs1 (by rw [hp1]; exact hv1) hf2 hs2 (by rw [hp2]; exact hv2) href hready htk hmB (hsp _) hstaticB hinitK hpar hnB hM hbl hrm.1 hrm.2.1
    (fun w hw a' U hU => word_at (hWm.trans hU) (lw_meth hq5 w hw).2 (hts _ (lw_meth hq5 w hw).1)) (List.mem_cons_self ..) (fun a' U hU => word_at (hWm.trans hU) (Or.inl (by first | rfl | simp [Cond.onTables, Cond.keeps, Cond.steady])) (hts _ hq4)) hQi hW hrm.2.2.1 (by have := hrm.2.2.2; omega) hcs.1 hcs.2 (fun U hU hv => hPc U (hU.trans hhT) (by rw [hv]; exact hWm)) with ⟨r9, st₀, t1, T', L, q1, Y, q2, q3, q4, q5, q6⟩ | ⟨z, st₀, t1, T', L, E, ce, q1, Y, q2, q3, q4, q5, q6, q7, q8, q9⟩
  · exact Or.inl ⟨some (.int r9), st₀, t1, T', L, q1.trans hhT, Y, q2, q3, q4, q5, fun target h => hstep _ (fun acts => (q6 acts).trans h)⟩
  · exact Or.inr ⟨z, st₀, t1, T', L, E, ce, q1.trans hhT, Y, q2, q3, q4, q5, q6, q7, by rw [hWm.alike.findClass] at q8; exact q8, hstep _ q9⟩
def vNm (x : vC) (y : MethodName) : Prop :=
  match x with
  | (_, _, _, _, s, m, _, _, _, _, _, _, _, _) => s.methodNamed? y = some m
theorem Cxi.ofN {l : Launch} {D : va_G} {y : MethodName} {cc : ByteArray} {maxL : Nat} {rt : FieldType} {rm : Room} {av : List Value} {S : Type} {w0 : va_W} {w1 : S → va_W} {Qi : Int32 → S → Prop} {X : String → S → Prop} {Y : String → Int32 → S → Prop} {mc ms : Nat} (hy : plainName y.cls = true) (hn : (lg_sl av).length ≤ maxL)
    (h : ∀ x : vC, vF x l D y.cls cc rm maxL (some rt) → vXi x w1 Qi X Y mc ms → vN x → vNm x y → vV x 0 0 w0 (lv_args 0 av) 0 []) : Cxi l D y cc maxL rt rm av w0 w1 Qi X Y mc ms := by
  intro sz
  refine vx_ofW (cc := cc) (maxL := maxL) (ret := (some rt)) hy rfl ?_
  intro p e s m args below meth c s₁ B hml hnt hv
  obtain ⟨rfl, hsz, hP, hE, hD0, hZ⟩ := hv
  have hts := atoms_spec (ws := ws_ y cc maxL (some rt)) B.pre
  have hts : ∀ w ∈ lw_all, w.before _ s = true := fun w h => hts w (List.mem_cons_of_mem _ h)
  have hown : s.vm.findClass y.cls = some m.cls := findClass_of_methodNamed B.named
  subst hsz
  have hD := hD0.self (sz := s.heap.size)
  have hA : ∀ q : Nat, s.heap.size ≤ q → va_A w0 s.heap.size q := fun q h => Or.inr h
  have hl := lv_entry av (n := maxL) hn
  rw [lg_entry_eq]
  exact h (p, l, e, (headSpec (ws_ y cc maxL (some rt)) rm).room, s, m, av.toArray, below, meth, c, _, D, va_A w0 s.heap.size, maxL)
    ⟨rfl, rfl, rfl, rfl, B.exec, B.bytes, hml, hown, hts, hA, B.notSynchronized, B.returns, hE, hZ⟩ rfl hnt B.named s.heap [] _ hP hD va_S.rf hl
theorem Cxr.ofN {l : Launch} {D : va_G} {y : MethodName} {cc : ByteArray} {maxL : Nat} {rt : FieldType} {rm : Room} {av : List Value} {S : Type} {w0 : va_W} {w1 : S → va_W} {ad : S → Nat} {Qi : S → Prop} {X : String → S → Prop} {Y : String → Int32 → S → Prop} {mc ms : Nat} (hy : plainName y.cls = true) (hn : (lg_sl av).length ≤ maxL)
    (h : ∀ x : vC, vF x l D y.cls cc rm maxL (some rt) → vXr x w1 ad Qi X Y mc ms → vN x → vNm x y → vV x 0 0 w0 (lv_args 0 av) 0 []) : Cxr l D y cc maxL rt rm av w0 w1 ad Qi X Y mc ms := by
  intro sz
  refine vx_ofW (cc := cc) (maxL := maxL) (ret := (some rt)) hy rfl ?_
  intro p e s m args below meth c s₁ B hml hnt hv
  obtain ⟨rfl, hsz, hP, hE, hD0, hZ⟩ := hv
  have hts := atoms_spec (ws := ws_ y cc maxL (some rt)) B.pre
  have hts : ∀ w ∈ lw_all, w.before _ s = true := fun w h => hts w (List.mem_cons_of_mem _ h)
  have hown : s.vm.findClass y.cls = some m.cls := findClass_of_methodNamed B.named
  subst hsz
  have hD := hD0.self (sz := s.heap.size)
  have hA : ∀ q : Nat, s.heap.size ≤ q → va_A w0 s.heap.size q := fun q h => Or.inr h
  have hl := lv_entry av (n := maxL) hn
  rw [lg_entry_eq]
  exact h (p, l, e, (headSpec (ws_ y cc maxL (some rt)) rm).room, s, m, av.toArray, below, meth, c, _, D, va_A w0 s.heap.size, maxL)
    ⟨rfl, rfl, rfl, rfl, B.exec, B.bytes, hml, hown, hts, hA, B.notSynchronized, B.returns, hE, hZ⟩ rfl hnt B.named s.heap [] _ hP hD va_S.rf hl
theorem v_lamC {x : vC} {l : Launch} {D : va_G} {own : String} {cc : ByteArray} {rm : Room} {nL : Nat} {rt : Option FieldType} {k n : Nat} {ws : va_W} {lv : List (Nat × Value)} {st : List Value} {σ : Lambda.Shape} {x0 : MethodName} {ix : Nat} {cK : ClassId} {a : Addr} (pc : Nat) (hF : vF x l D own cc rm nL rt) (hNm : vNm x x0) (hLm : ∀ U, vLS D U → LmAt σ x0 pc ix cK (.constant a) U) (hlo : (st.map fun v => v.category).sum + 3072 ≤ rm.locals) (hd : decode cc pc = .ok (.invokedynamic ix, 5))
    (kk : vV x k n ws lv (pc + 5) (.ref a :: st)) : vV x k n ws lv pc st := by
  obtain ⟨p, l, e, R, s, m, args, below, meth, c, Q, D, A, nL⟩ := x
  obtain ⟨rfl, rfl, rfl, rfl, hx, hb, hml, hown, hts, hA, hlocks, hret, hE, hZ⟩ := hF
  intro H locs ls hP hD hS hl T hT X
  obtain ⟨t2, a1, b1⟩ := kk H locs ls hP hD hS hl T hT X
  obtain ⟨m0, k0, cf0, i0, p0, hm0, hk0, hcf0, hsh0, hf0, hmade, hcan⟩ := hLm s hE.2.2.2.1
  have hNm : s.methodNamed? x0 = some m := hNm
  cases hNm.symm.trans hm0
  refine ⟨t2, X.lambdaConstant hx (g := F0 m pc ls st) rfl (hl.1.trans hml.symm) (by rw [hb]; exact hd) hk0 hf0 ?_ a1, b1⟩
  rw [X.admits.platform]
  have h9 : (F0 m pc ls st).monitorRoom = 0 := rfl
  have h8 : (F0 m pc ls st).stack = st := rfl
  rw [h9, h8]
  show 2 * 0 + _ + 3072 ≤ _
  omega
theorem hlt' {H : Heap} {a : Nat} {ca : Cell} (h : H[a]? = some ca) : a < H.size := (Array.getElem?_eq_some_iff.mp h).1
theorem vP_one {D : va_G} {cl : List vw_C} {q : Nat} {cA : ClassId} {a : vp_A} {H : Heap} (h : H[q]? = some (vp_cell cA a)) : va_P D cl [(q, .inl (cA, a))] H := by
  intro k x hx
  match k, hx with
  | 0, hx =>
    cases hx
    exact h
  | _ + 1, hx => simp at hx
set_option maxHeartbeats 1000000 in
theorem v_lam1 {x : vC} {l : Launch} {D : va_G} {own : String} {cc : ByteArray} {rm : Room} {nL : Nat} {rt : Option FieldType} {k n : Nat} {ws : va_W} {lv : List (Nat × Value)} {st : List Value} {σ : Lambda.Shape} {x0 y : MethodName} {ix mi f0 : Nat} {cK : ClassId} {cc2 : ByteArray} {t0 : FieldType} {a0 : Value} {b0 : Int32} (pc : Nat) (hF : vF x l D own cc rm nL rt) (hNm : vNm x x0) (hLm : ∀ U, vLS D U → LmAt σ x0 pc ix cK (.makes cK) U) (hmd : ∀ U, LmAt σ x0 pc ix cK (.makes cK) U → (∀ o ok, U.vm.findClass "java/lang/Object" = some o → U.vm.classes[o]? = some ok → ok.instanceTypes.size = 0) → MdAt y cc2 mi [f0] #[t0] cK U) (hσ : σ.captured.length = 1) (ht0 : t0 = .int ∨ (t0 = .boolean ∧ (b0 = 0 ∨ b0 = 1))) (hn0 : narrow t0 a0 = .int b0)
    (hlo : (((a0 :: st) : List Value).map fun v => v.category).sum + 3072 ≤ rm.locals) (hcs : k + 1 ≤ rm.cells ∧ n + 1 ≤ rm.slots) (hd : decode cc pc = .ok (.invokedynamic ix, 5))
    (kk : ∀ q : Nat, vV x (k + 1) (n + 1) (ws ++ [(q, .inl (cK, 1, .inl (fun j => ([b0] : List Int32).getD j 0)))]) lv (pc + 5) (.ref q :: st)) : vV x k n ws lv pc (a0 :: st) := by
  obtain ⟨p, l, e, R, s, m, args, below, meth, c, Q, D, A, nL⟩ := x
  obtain ⟨rfl, rfl, rfl, rfl, hx, hb, hml, hown, hts, hA, hlocks, hret, hE, hZ⟩ := hF
  intro H locs ls hP hD hS hl T hT X
  have hLs := hLm s hE.2.2.2.1
  have hO : ∀ o ok, s.vm.findClass "java/lang/Object" = some o → s.vm.classes[o]? = some ok → ok.instanceTypes.size = 0 := by
    intro o ok ho hok
    obtain ⟨cO, kO, hfO, hkO, -, -, -, hsz⟩ := Cond.instantiable_spec (hts _ q2368)
    cases hfO.symm.trans ho
    cases hok.symm.trans hkO
    exact hsz
  obtain ⟨kK, tk, file, methk, ck, toy, t, ci, nt, hkK, hfile, hkind, -, -, -, -, -, -, -, -, -, -, -, -, -, -, -, -, -, hty⟩ := hmd s hLs hO
  obtain ⟨m0, k0, cf0, i0, p0, hm0, hk0, hcf0, hsh0, hf0, hmade, hcan⟩ := hLs
  have hNm : s.methodNamed? x0 = some m := hNm
  cases hNm.symm.trans hm0
  obtain ⟨bsm, nt1, name, desc, site, hc1, hnt1, hsite, hpar⟩ := shapeOf_inv hsh0
  have hslotsE : ((kK.instanceTypes.toList.zip ([a0] : List Value)).map fun (t, v) => narrow t v) = [.int b0] := by
    rw [hty]
    simp [hn0]
  have hcellE : ({ cls := cK, slots := ([.int b0] : List Value).toArray, vm := .none } : Cell) = vp_cell cK (1, .inl (fun j => ([b0] : List Int32).getD j 0)) := by
    rw [vp_cell_i]
    simp [arrV, Array.ofFn_succ]
  obtain ⟨X₁, st1⟩ := X.lambdaMakes hx (g := F0 m pc ls (a0 :: st)) rfl (hl.1.trans hml.symm) (by rw [hb]; exact hd) (vals := [a0]) (rest := st) hk0 hf0 hcf0 hc1 hnt1 (parseLong_of_parse hsite) (by rw [hpar, hσ]; rfl) rfl hkK
    (by
      rw [X.admits.platform]
      have h9 : (F0 m pc ls (a0 :: st)).monitorRoom = 0 := rfl
      have h8 : (F0 m pc ls (a0 :: st)).stack = a0 :: st := rfl
      rw [h9, h8]
      show 2 * 0 + _ + 3072 ≤ _
      omega) hcs.1 (by rw [hslotsE]; exact hcs.2) (fun i v hv => by
    rw [hslotsE] at hv
    match i, hv with
    | 0, hv => rcases ht0 with h | ⟨h, h7⟩ <;> (simp at hv; subst hv; simp_all [State.fitsSlot, State.slotType?, fits])
    | _ + 1, hv => simp at hv)
  rw [hslotsE, hcellE] at X₁ st1
  have hlt : ∀ {a : Addr} {ca : Cell}, H[a]? = some ca → a < H.size := fun {a ca} h => (Array.getElem?_eq_some_iff.mp h).1
  have hold : ∀ a : Nat, a < H.size → (T.pushCell (vp_cell cK (1, .inl (fun j => ([b0] : List Int32).getD j 0)))).heap[a]? = H[a]? := fun a h => by
    rw [State.heap_pushCell_of_lt _ _ (by rw [hT]; exact h), hT]
  have hnew : (T.pushCell (vp_cell cK (1, .inl (fun j => ([b0] : List Int32).getD j 0)))).heap[H.size]? = some (vp_cell cK (1, .inl (fun j => ([b0] : List Int32).getD j 0))) := by
    rw [← hT]
    exact State.heap_pushCell_size _ _
  have hsz : H.size ≤ (T.pushCell (vp_cell cK (1, .inl (fun j => ([b0] : List Int32).getD j 0)))).heap.size := Nat.le_of_lt (hlt' hnew)
  rw [hT] at st1
  obtain ⟨t2, a1, b1⟩ := kk H.size _ locs ls ((hP.kept fun k x hx => hold x.1 ((hP k x hx).lt)).app (vP_one hnew)) (hD.push hP rfl (hA _ hS.1)) ⟨Nat.le_trans hS.1 hsz, fun x h1 h2 => (hold x (Nat.lt_of_lt_of_le h1 hS.1)).trans (hS.2.1 x h1 h2), hS.2.2⟩ hl _ rfl X₁
  exact ⟨t2, st1 _ a1, b1⟩
set_option maxHeartbeats 1000000 in
theorem v_lam2 {x : vC} {l : Launch} {D : va_G} {own : String} {cc : ByteArray} {rm : Room} {nL : Nat} {rt : Option FieldType} {k n : Nat} {ws : va_W} {lv : List (Nat × Value)} {st : List Value} {σ : Lambda.Shape} {x0 y : MethodName} {ix mi f0 f1 : Nat} {cK : ClassId} {cc2 : ByteArray} {t0 t1 : FieldType} {a0 a1 : Value} {b0 b1 : Int32} (pc : Nat) (hF : vF x l D own cc rm nL rt) (hNm : vNm x x0) (hLm : ∀ U, vLS D U → LmAt σ x0 pc ix cK (.makes cK) U) (hmd : ∀ U, LmAt σ x0 pc ix cK (.makes cK) U → (∀ o ok, U.vm.findClass "java/lang/Object" = some o → U.vm.classes[o]? = some ok → ok.instanceTypes.size = 0) → MdAt y cc2 mi [f0, f1] #[t0, t1] cK U) (hσ : σ.captured.length = 2) (ht0 : t0 = .int ∨ (t0 = .boolean ∧ (b0 = 0 ∨ b0 = 1))) (ht1 : t1 = .int ∨ (t1 = .boolean ∧ (b1 = 0 ∨ b1 = 1))) (hn0 : narrow t0 a0 = .int b0) (hn1 : narrow t1 a1 = .int b1)
    (hlo : (((a1 :: a0 :: st) : List Value).map fun v => v.category).sum + 3072 ≤ rm.locals) (hcs : k + 1 ≤ rm.cells ∧ n + 2 ≤ rm.slots) (hd : decode cc pc = .ok (.invokedynamic ix, 5))
    (kk : ∀ q : Nat, vV x (k + 1) (n + 2) (ws ++ [(q, .inl (cK, 2, .inl (fun j => ([b0, b1] : List Int32).getD j 0)))]) lv (pc + 5) (.ref q :: st)) : vV x k n ws lv pc (a1 :: a0 :: st) := by
  obtain ⟨p, l, e, R, s, m, args, below, meth, c, Q, D, A, nL⟩ := x
  obtain ⟨rfl, rfl, rfl, rfl, hx, hb, hml, hown, hts, hA, hlocks, hret, hE, hZ⟩ := hF
  intro H locs ls hP hD hS hl T hT X
  have hLs := hLm s hE.2.2.2.1
  have hO : ∀ o ok, s.vm.findClass "java/lang/Object" = some o → s.vm.classes[o]? = some ok → ok.instanceTypes.size = 0 := by
    intro o ok ho hok
    obtain ⟨cO, kO, hfO, hkO, -, -, -, hsz⟩ := Cond.instantiable_spec (hts _ q2368)
    cases hfO.symm.trans ho
    cases hok.symm.trans hkO
    exact hsz
  obtain ⟨kK, tk, file, methk, ck, toy, t, ci, nt, hkK, hfile, hkind, -, -, -, -, -, -, -, -, -, -, -, -, -, -, -, -, -, hty⟩ := hmd s hLs hO
  obtain ⟨m0, k0, cf0, i0, p0, hm0, hk0, hcf0, hsh0, hf0, hmade, hcan⟩ := hLs
  have hNm : s.methodNamed? x0 = some m := hNm
  cases hNm.symm.trans hm0
  obtain ⟨bsm, nt1, name, desc, site, hc1, hnt1, hsite, hpar⟩ := shapeOf_inv hsh0
  have hslotsE : ((kK.instanceTypes.toList.zip ([a0, a1] : List Value)).map fun (t, v) => narrow t v) = [.int b0, .int b1] := by
    rw [hty]
    simp [hn0, hn1]
  have hcellE : ({ cls := cK, slots := ([.int b0, .int b1] : List Value).toArray, vm := .none } : Cell) = vp_cell cK (2, .inl (fun j => ([b0, b1] : List Int32).getD j 0)) := by
    rw [vp_cell_i]
    simp [arrV, Array.ofFn_succ]
  obtain ⟨X₁, st1⟩ := X.lambdaMakes hx (g := F0 m pc ls (a1 :: a0 :: st)) rfl (hl.1.trans hml.symm) (by rw [hb]; exact hd) (vals := [a0, a1]) (rest := st) hk0 hf0 hcf0 hc1 hnt1 (parseLong_of_parse hsite) (by rw [hpar, hσ]; rfl) rfl hkK
    (by
      rw [X.admits.platform]
      have h9 : (F0 m pc ls (a1 :: a0 :: st)).monitorRoom = 0 := rfl
      have h8 : (F0 m pc ls (a1 :: a0 :: st)).stack = a1 :: a0 :: st := rfl
      rw [h9, h8]
      show 2 * 0 + _ + 3072 ≤ _
      omega) hcs.1 (by rw [hslotsE]; exact hcs.2) (fun i v hv => by
    rw [hslotsE] at hv
    match i, hv with
    | 0, hv => rcases ht0 with h | ⟨h, h7⟩ <;> (simp at hv; subst hv; simp_all [State.fitsSlot, State.slotType?, fits])
    | 1, hv => rcases ht1 with h | ⟨h, h7⟩ <;> (simp at hv; subst hv; simp_all [State.fitsSlot, State.slotType?, fits])
    | _ + 2, hv => simp at hv)
  rw [hslotsE, hcellE] at X₁ st1
  have hlt : ∀ {a : Addr} {ca : Cell}, H[a]? = some ca → a < H.size := fun {a ca} h => (Array.getElem?_eq_some_iff.mp h).1
  have hold : ∀ a : Nat, a < H.size → (T.pushCell (vp_cell cK (2, .inl (fun j => ([b0, b1] : List Int32).getD j 0)))).heap[a]? = H[a]? := fun a h => by
    rw [State.heap_pushCell_of_lt _ _ (by rw [hT]; exact h), hT]
  have hnew : (T.pushCell (vp_cell cK (2, .inl (fun j => ([b0, b1] : List Int32).getD j 0)))).heap[H.size]? = some (vp_cell cK (2, .inl (fun j => ([b0, b1] : List Int32).getD j 0))) := by
    rw [← hT]
    exact State.heap_pushCell_size _ _
  have hsz : H.size ≤ (T.pushCell (vp_cell cK (2, .inl (fun j => ([b0, b1] : List Int32).getD j 0)))).heap.size := Nat.le_of_lt (hlt' hnew)
  rw [hT] at st1
  obtain ⟨t2, a1, b1⟩ := kk H.size _ locs ls ((hP.kept fun k x hx => hold x.1 ((hP k x hx).lt)).app (vP_one hnew)) (hD.push hP rfl (hA _ hS.1)) ⟨Nat.le_trans hS.1 hsz, fun x h1 h2 => (hold x (Nat.lt_of_lt_of_le h1 hS.1)).trans (hS.2.1 x h1 h2), hS.2.2⟩ hl _ rfl X₁
  exact ⟨t2, st1 _ a1, b1⟩
set_option maxHeartbeats 1000000 in
theorem v_lam3 {x : vC} {l : Launch} {D : va_G} {own : String} {cc : ByteArray} {rm : Room} {nL : Nat} {rt : Option FieldType} {k n : Nat} {ws : va_W} {lv : List (Nat × Value)} {st : List Value} {σ : Lambda.Shape} {x0 y : MethodName} {ix mi f0 f1 f2 : Nat} {cK : ClassId} {cc2 : ByteArray} {t0 t1 t2 : FieldType} {a0 a1 a2 : Value} {b0 b1 b2 : Int32} (pc : Nat) (hF : vF x l D own cc rm nL rt) (hNm : vNm x x0) (hLm : ∀ U, vLS D U → LmAt σ x0 pc ix cK (.makes cK) U) (hmd : ∀ U, LmAt σ x0 pc ix cK (.makes cK) U → (∀ o ok, U.vm.findClass "java/lang/Object" = some o → U.vm.classes[o]? = some ok → ok.instanceTypes.size = 0) → MdAt y cc2 mi [f0, f1, f2] #[t0, t1, t2] cK U) (hσ : σ.captured.length = 3) (ht0 : t0 = .int ∨ (t0 = .boolean ∧ (b0 = 0 ∨ b0 = 1))) (ht1 : t1 = .int ∨ (t1 = .boolean ∧ (b1 = 0 ∨ b1 = 1))) (ht2 : t2 = .int ∨ (t2 = .boolean ∧ (b2 = 0 ∨ b2 = 1))) (hn0 : narrow t0 a0 = .int b0) (hn1 : narrow t1 a1 = .int b1) (hn2 : narrow t2 a2 = .int b2)
    (hlo : (((a2 :: a1 :: a0 :: st) : List Value).map fun v => v.category).sum + 3072 ≤ rm.locals) (hcs : k + 1 ≤ rm.cells ∧ n + 3 ≤ rm.slots) (hd : decode cc pc = .ok (.invokedynamic ix, 5))
    (kk : ∀ q : Nat, vV x (k + 1) (n + 3) (ws ++ [(q, .inl (cK, 3, .inl (fun j => ([b0, b1, b2] : List Int32).getD j 0)))]) lv (pc + 5) (.ref q :: st)) : vV x k n ws lv pc (a2 :: a1 :: a0 :: st) := by
  obtain ⟨p, l, e, R, s, m, args, below, meth, c, Q, D, A, nL⟩ := x
  obtain ⟨rfl, rfl, rfl, rfl, hx, hb, hml, hown, hts, hA, hlocks, hret, hE, hZ⟩ := hF
  intro H locs ls hP hD hS hl T hT X
  have hLs := hLm s hE.2.2.2.1
  have hO : ∀ o ok, s.vm.findClass "java/lang/Object" = some o → s.vm.classes[o]? = some ok → ok.instanceTypes.size = 0 := by
    intro o ok ho hok
    obtain ⟨cO, kO, hfO, hkO, -, -, -, hsz⟩ := Cond.instantiable_spec (hts _ q2368)
    cases hfO.symm.trans ho
    cases hok.symm.trans hkO
    exact hsz
  obtain ⟨kK, tk, file, methk, ck, toy, t, ci, nt, hkK, hfile, hkind, -, -, -, -, -, -, -, -, -, -, -, -, -, -, -, -, -, hty⟩ := hmd s hLs hO
  obtain ⟨m0, k0, cf0, i0, p0, hm0, hk0, hcf0, hsh0, hf0, hmade, hcan⟩ := hLs
  have hNm : s.methodNamed? x0 = some m := hNm
  cases hNm.symm.trans hm0
  obtain ⟨bsm, nt1, name, desc, site, hc1, hnt1, hsite, hpar⟩ := shapeOf_inv hsh0
  have hslotsE : ((kK.instanceTypes.toList.zip ([a0, a1, a2] : List Value)).map fun (t, v) => narrow t v) = [.int b0, .int b1, .int b2] := by
    rw [hty]
    simp [hn0, hn1, hn2]
  have hcellE : ({ cls := cK, slots := ([.int b0, .int b1, .int b2] : List Value).toArray, vm := .none } : Cell) = vp_cell cK (3, .inl (fun j => ([b0, b1, b2] : List Int32).getD j 0)) := by
    rw [vp_cell_i]
    simp [arrV, Array.ofFn_succ]
  obtain ⟨X₁, st1⟩ := X.lambdaMakes hx (g := F0 m pc ls (a2 :: a1 :: a0 :: st)) rfl (hl.1.trans hml.symm) (by rw [hb]; exact hd) (vals := [a0, a1, a2]) (rest := st) hk0 hf0 hcf0 hc1 hnt1 (parseLong_of_parse hsite) (by rw [hpar, hσ]; rfl) rfl hkK
    (by
      rw [X.admits.platform]
      have h9 : (F0 m pc ls (a2 :: a1 :: a0 :: st)).monitorRoom = 0 := rfl
      have h8 : (F0 m pc ls (a2 :: a1 :: a0 :: st)).stack = a2 :: a1 :: a0 :: st := rfl
      rw [h9, h8]
      show 2 * 0 + _ + 3072 ≤ _
      omega) hcs.1 (by rw [hslotsE]; exact hcs.2) (fun i v hv => by
    rw [hslotsE] at hv
    match i, hv with
    | 0, hv => rcases ht0 with h | ⟨h, h7⟩ <;> (simp at hv; subst hv; simp_all [State.fitsSlot, State.slotType?, fits])
    | 1, hv => rcases ht1 with h | ⟨h, h7⟩ <;> (simp at hv; subst hv; simp_all [State.fitsSlot, State.slotType?, fits])
    | 2, hv => rcases ht2 with h | ⟨h, h7⟩ <;> (simp at hv; subst hv; simp_all [State.fitsSlot, State.slotType?, fits])
    | _ + 3, hv => simp at hv)
  rw [hslotsE, hcellE] at X₁ st1
  have hlt : ∀ {a : Addr} {ca : Cell}, H[a]? = some ca → a < H.size := fun {a ca} h => (Array.getElem?_eq_some_iff.mp h).1
  have hold : ∀ a : Nat, a < H.size → (T.pushCell (vp_cell cK (3, .inl (fun j => ([b0, b1, b2] : List Int32).getD j 0)))).heap[a]? = H[a]? := fun a h => by
    rw [State.heap_pushCell_of_lt _ _ (by rw [hT]; exact h), hT]
  have hnew : (T.pushCell (vp_cell cK (3, .inl (fun j => ([b0, b1, b2] : List Int32).getD j 0)))).heap[H.size]? = some (vp_cell cK (3, .inl (fun j => ([b0, b1, b2] : List Int32).getD j 0))) := by
    rw [← hT]
    exact State.heap_pushCell_size _ _
  have hsz : H.size ≤ (T.pushCell (vp_cell cK (3, .inl (fun j => ([b0, b1, b2] : List Int32).getD j 0)))).heap.size := Nat.le_of_lt (hlt' hnew)
  rw [hT] at st1
  obtain ⟨t2, a1, b1⟩ := kk H.size _ locs ls ((hP.kept fun k x hx => hold x.1 ((hP k x hx).lt)).app (vP_one hnew)) (hD.push hP rfl (hA _ hS.1)) ⟨Nat.le_trans hS.1 hsz, fun x h1 h2 => (hold x (Nat.lt_of_lt_of_le h1 hS.1)).trans (hS.2.1 x h1 h2), hS.2.2⟩ hl _ rfl X₁
  exact ⟨t2, st1 _ a1, b1⟩
set_option maxHeartbeats 1000000 in
theorem v_callL0i {x : vC} {l : Launch} {D : va_G} {own : String} {cc : ByteArray} {rm : Room} {nL : Nat} {rt : Option FieldType} {k n : Nat} {ws : va_W} {lv : List (Nat × Value)} {st : List Value} {S : Type} {σ : Lambda.Shape} {x0 y : MethodName} {pc0 ix0 : Nat} {cK : ClassId} {lk : Linked} {cc2 : ByteArray} {mi  : Nat} {tys : Array ClassFile.FieldType} {idx count maxL mc ms : Nat} {bytes : ByteArray} {rm2 : Room} {b q : Nat} {cellK : Cell}  {w0 wr : va_W} {w1 : S → va_W} {Q2 : Int32 → S → Prop} {X2 : String → S → Prop} {Y2 : String → Int32 → S → Prop} (pc : Nat) (hF : vF x l D own cc rm nL rt)
    (hLm : ∀ U, vLS D U → LmAt σ x0 pc0 ix0 cK lk U) (hmd : ∀ U, LmAt σ x0 pc0 ix0 cK lk U → (∀ o ok, U.vm.findClass "java/lang/Object" = some o → U.vm.classes[o]? = some ok → ok.instanceTypes.size = 0) → MdAt y cc2 mi [] tys cK U) (hσ : σ.iface = doneN.cls ∧ σ.name = doneN.name ∧ σ.sam.toString = doneN.desc) (d0 : decode cc2 0 = .ok (.aload_n 1, 1)) (d1 : decode cc2 1 = .ok (.invokestatic mi, 3)) (d4 : decode cc2 4 = .ok (.ireturn, 1))
    (hM : Cxi l D y bytes maxL .int rm2 [.ref b] w0 w1 Q2 X2 Y2 mc ms) (hp : ws.Perm (w0 ++ wr)) (hcell : ∀ A U H, va_P D cl0 ws H → vZA D A U H → H[q]? = some cellK) (hcls : cellK.cls = cK) (hvmK : cellK.vm = .none)
    (hq1 : Cond.methodLink own idx doneN ∈ lw_all) (hq3 : Cond.static y ∈ lw_all) (hq4 : Cond.initialized y.cls ∈ lw_all) (hq5 : Cond.code y bytes maxL (some .int) ∈ lw_all) (hy : (y.cls ≠ "java/lang/invoke/MethodHandle" ∧ y.cls ≠ "java/lang/invoke/VarHandle") ∧ (parseMethodDescriptor y.desc).map (fun d => d.parameters.length) = some 1)
    (hrm : rm2.cells = mc ∧ rm2.slots = ms ∧ rm2.frames + 2 ≤ rm.frames ∧ 29 + (maxL + 11) + rm2.locals ≤ rm.locals) (hst : (st.map fun v => v.category).sum ≤ 8) (hcs : k + mc ≤ rm.cells ∧ n + ms ≤ rm.slots) (hd : decode cc pc = .ok (.invokeinterface idx count, 5))
    (kx : ∀ (E : String) (q : Nat) (u : S), X2 E u → vT x (k + mc) (n + ms) (w1 u ++ wr) lv pc st E q)
    (ky : ∀ (E : String) (q ci : Nat) (r : Int32) (u : S), Y2 E r u → vPay E ci → vT x (k + mc) (n + ms) ((q, .inr (ci, rfF r)) :: (w1 u ++ wr)) lv pc st E q)
    (kk : ∀ (r : Int32) (u : S), Q2 r u → vV x (k + mc) (n + ms) (w1 u ++ wr) lv (pc + 5) (.int r :: st)) : vV x k n ws lv pc (.ref b :: .ref q :: st) := by
  obtain ⟨p, l, e, R, s, m, args, below, meth, c, Q, D, A, nL⟩ := x
  obtain ⟨rfl, rfl, rfl, rfl, hx, hb, hml, hown, hts, hA, hlocks, hret, hE, hZ⟩ := hF
  intro H locs ls hP hD hS hl
  have hP0 := hP
  have hP := vP_perm hp hP
  have hD := vD_perm hp hD
  have hPc : va_P D cl0 w0 H := vP_left hP
  have hDc : va_D A w0 := vD_left hD
  have hFc : ∀ q, va_A w0 H.size q → A q := vfree hDc hS hA
  refine vx_callFi (lw_run0 hx hb hml hown hts hE.2.2.2.1.1 q2368 (hLm s hE.2.2.2.1) hmd hσ d0 d1 d4 hq1 hq3 hq4 hq5 hy (hcell A s H hP0 (hZ.kept hS.2.1)) hcls hvmK  (hM H.size) (fun a U g mk q => by obtain ⟨q0, q1, qP, qK, qD, qZ⟩ := q; exact ⟨q0, q1, qP, qK.blind, qD, vZA.moved (u := U) (U := U.calling g mk a) (Vm.Alike.refl U.vm) qZ⟩) (fun a st v t hq => by obtain ⟨⟨r, u, h9, -⟩, -⟩ := hq; cases h9; exact ⟨r, rfl⟩) hrm hcs (fun U hU hW => ⟨rfl, by rw [hU], by rw [hU]; exact hPc, hE.warm hW, hDc.weaken (fun _ _ _ _ => trivial), by rw [hU]; exact vZA.moved hW.alike ((hZ.kept hS.2.1).narrow hFc)⟩) rfl hl.1 rfl (lv_room hst) hd) hS (fun q _ h => hFc q h) hFc (fun q _ h => hFc q h) (fun E ce q9 u t H1 locs ht hvm _ hB hz1 hk1 hS hce hcv hcl => ?_) (fun r u t H1 locs ht hvm hw1 hB hz1 hk1 hS => ?_)
  · obtain ⟨u, o⟩ := u
    cases o with
    | none =>
      obtain ⟨hX9, hP1, hD1⟩ := hB
      rw [ht] at hP1
      obtain ⟨hP, hD⟩ := vjoin hP hD hk1 hFc hP1 hD1
      exact kx E q9 u hX9 H1 locs ls ce hP hD hS hl hce hcv hcl
    | some cr =>
      obtain ⟨ci1, r1⟩ := cr
      obtain ⟨hX9, hy9, hP1, hD1⟩ := hB
      rw [ht] at hP1
      obtain ⟨hP, hD⟩ := vjoin hP hD hk1 hFc hP1 hD1
      exact ky E q9 ci1 r1 u hX9 hy9 H1 locs ls ce hP hD hS hl hce hcv hcl
  · obtain ⟨hP1, hD1⟩ := hB
    rw [ht] at hP1
    obtain ⟨hP, hD⟩ := vjoin hP hD hk1 hFc hP1 hD1
    exact kk r u hw1 H1 locs ls hP hD hS hl
set_option maxHeartbeats 1000000 in
theorem v_callL1i {x : vC} {l : Launch} {D : va_G} {own : String} {cc : ByteArray} {rm : Room} {nL : Nat} {rt : Option FieldType} {k n : Nat} {ws : va_W} {lv : List (Nat × Value)} {st : List Value} {S : Type} {σ : Lambda.Shape} {x0 y : MethodName} {pc0 ix0 : Nat} {cK : ClassId} {lk : Linked} {cc2 : ByteArray} {mi f0 : Nat} {tys : Array ClassFile.FieldType} {idx count maxL mc ms : Nat} {bytes : ByteArray} {rm2 : Room} {b q : Nat} {cellK : Cell} {v0 : Value} {w0 wr : va_W} {w1 : S → va_W} {Q2 : Int32 → S → Prop} {X2 : String → S → Prop} {Y2 : String → Int32 → S → Prop} (pc : Nat) (hF : vF x l D own cc rm nL rt)
    (hLm : ∀ U, vLS D U → LmAt σ x0 pc0 ix0 cK lk U) (hmd : ∀ U, LmAt σ x0 pc0 ix0 cK lk U → (∀ o ok, U.vm.findClass "java/lang/Object" = some o → U.vm.classes[o]? = some ok → ok.instanceTypes.size = 0) → MdAt y cc2 mi [f0] tys cK U) (hσ : σ.iface = doneN.cls ∧ σ.name = doneN.name ∧ σ.sam.toString = doneN.desc) (d0 : decode cc2 0 = .ok (.aload_n 0, 1)) (d1 : decode cc2 1 = .ok (.getfield f0, 3)) (d4 : decode cc2 4 = .ok (.aload_n 1, 1)) (d5 : decode cc2 5 = .ok (.invokestatic mi, 3)) (d8 : decode cc2 8 = .ok (.ireturn, 1))
    (hM : Cxi l D y bytes maxL .int rm2 [v0, .ref b] w0 w1 Q2 X2 Y2 mc ms) (hp : ws.Perm (w0 ++ wr)) (hcell : ∀ A U H, va_P D cl0 ws H → vZA D A U H → H[q]? = some cellK) (hcls : cellK.cls = cK) (hvmK : cellK.vm = .none) (hv0 : cellK.slots[0]? = some v0)
    (hq1 : Cond.methodLink own idx doneN ∈ lw_all) (hq3 : Cond.static y ∈ lw_all) (hq4 : Cond.initialized y.cls ∈ lw_all) (hq5 : Cond.code y bytes maxL (some .int) ∈ lw_all) (hy : (y.cls ≠ "java/lang/invoke/MethodHandle" ∧ y.cls ≠ "java/lang/invoke/VarHandle") ∧ (parseMethodDescriptor y.desc).map (fun d => d.parameters.length) = some 2)
    (hrm : rm2.cells = mc ∧ rm2.slots = ms ∧ rm2.frames + 2 ≤ rm.frames ∧ 29 + (maxL + 11) + rm2.locals ≤ rm.locals) (hst : (st.map fun v => v.category).sum ≤ 8) (hcs : k + mc ≤ rm.cells ∧ n + ms ≤ rm.slots) (hd : decode cc pc = .ok (.invokeinterface idx count, 5))
    (kx : ∀ (E : String) (q : Nat) (u : S), X2 E u → vT x (k + mc) (n + ms) (w1 u ++ wr) lv pc st E q)
    (ky : ∀ (E : String) (q ci : Nat) (r : Int32) (u : S), Y2 E r u → vPay E ci → vT x (k + mc) (n + ms) ((q, .inr (ci, rfF r)) :: (w1 u ++ wr)) lv pc st E q)
    (kk : ∀ (r : Int32) (u : S), Q2 r u → vV x (k + mc) (n + ms) (w1 u ++ wr) lv (pc + 5) (.int r :: st)) : vV x k n ws lv pc (.ref b :: .ref q :: st) := by
  obtain ⟨p, l, e, R, s, m, args, below, meth, c, Q, D, A, nL⟩ := x
  obtain ⟨rfl, rfl, rfl, rfl, hx, hb, hml, hown, hts, hA, hlocks, hret, hE, hZ⟩ := hF
  intro H locs ls hP hD hS hl
  have hP0 := hP
  have hP := vP_perm hp hP
  have hD := vD_perm hp hD
  have hPc : va_P D cl0 w0 H := vP_left hP
  have hDc : va_D A w0 := vD_left hD
  have hFc : ∀ q, va_A w0 H.size q → A q := vfree hDc hS hA
  refine vx_callFi (lw_run1 hx hb hml hown hts hE.2.2.2.1.1 q2368 (hLm s hE.2.2.2.1) hmd hσ d0 d1 d4 d5 d8 hq1 hq3 hq4 hq5 hy (hcell A s H hP0 (hZ.kept hS.2.1)) hcls hvmK hv0 (hM H.size) (fun a U g mk q => by obtain ⟨q0, q1, qP, qK, qD, qZ⟩ := q; exact ⟨q0, q1, qP, qK.blind, qD, vZA.moved (u := U) (U := U.calling g mk a) (Vm.Alike.refl U.vm) qZ⟩) (fun a st v t hq => by obtain ⟨⟨r, u, h9, -⟩, -⟩ := hq; cases h9; exact ⟨r, rfl⟩) hrm hcs (fun U hU hW => ⟨rfl, by rw [hU], by rw [hU]; exact hPc, hE.warm hW, hDc.weaken (fun _ _ _ _ => trivial), by rw [hU]; exact vZA.moved hW.alike ((hZ.kept hS.2.1).narrow hFc)⟩) rfl hl.1 rfl (lv_room hst) hd) hS (fun q _ h => hFc q h) hFc (fun q _ h => hFc q h) (fun E ce q9 u t H1 locs ht hvm _ hB hz1 hk1 hS hce hcv hcl => ?_) (fun r u t H1 locs ht hvm hw1 hB hz1 hk1 hS => ?_)
  · obtain ⟨u, o⟩ := u
    cases o with
    | none =>
      obtain ⟨hX9, hP1, hD1⟩ := hB
      rw [ht] at hP1
      obtain ⟨hP, hD⟩ := vjoin hP hD hk1 hFc hP1 hD1
      exact kx E q9 u hX9 H1 locs ls ce hP hD hS hl hce hcv hcl
    | some cr =>
      obtain ⟨ci1, r1⟩ := cr
      obtain ⟨hX9, hy9, hP1, hD1⟩ := hB
      rw [ht] at hP1
      obtain ⟨hP, hD⟩ := vjoin hP hD hk1 hFc hP1 hD1
      exact ky E q9 ci1 r1 u hX9 hy9 H1 locs ls ce hP hD hS hl hce hcv hcl
  · obtain ⟨hP1, hD1⟩ := hB
    rw [ht] at hP1
    obtain ⟨hP, hD⟩ := vjoin hP hD hk1 hFc hP1 hD1
    exact kk r u hw1 H1 locs ls hP hD hS hl
set_option maxHeartbeats 1000000 in
theorem v_callL2i {x : vC} {l : Launch} {D : va_G} {own : String} {cc : ByteArray} {rm : Room} {nL : Nat} {rt : Option FieldType} {k n : Nat} {ws : va_W} {lv : List (Nat × Value)} {st : List Value} {S : Type} {σ : Lambda.Shape} {x0 y : MethodName} {pc0 ix0 : Nat} {cK : ClassId} {lk : Linked} {cc2 : ByteArray} {mi f0 f1 : Nat} {tys : Array ClassFile.FieldType} {idx count maxL mc ms : Nat} {bytes : ByteArray} {rm2 : Room} {b q : Nat} {cellK : Cell} {v0 v1 : Value} {w0 wr : va_W} {w1 : S → va_W} {Q2 : Int32 → S → Prop} {X2 : String → S → Prop} {Y2 : String → Int32 → S → Prop} (pc : Nat) (hF : vF x l D own cc rm nL rt)
    (hLm : ∀ U, vLS D U → LmAt σ x0 pc0 ix0 cK lk U) (hmd : ∀ U, LmAt σ x0 pc0 ix0 cK lk U → (∀ o ok, U.vm.findClass "java/lang/Object" = some o → U.vm.classes[o]? = some ok → ok.instanceTypes.size = 0) → MdAt y cc2 mi [f0, f1] tys cK U) (hσ : σ.iface = doneN.cls ∧ σ.name = doneN.name ∧ σ.sam.toString = doneN.desc) (d0 : decode cc2 0 = .ok (.aload_n 0, 1)) (d1 : decode cc2 1 = .ok (.getfield f0, 3)) (d4 : decode cc2 4 = .ok (.aload_n 0, 1)) (d5 : decode cc2 5 = .ok (.getfield f1, 3)) (d8 : decode cc2 8 = .ok (.aload_n 1, 1)) (d9 : decode cc2 9 = .ok (.invokestatic mi, 3)) (d12 : decode cc2 12 = .ok (.ireturn, 1))
    (hM : Cxi l D y bytes maxL .int rm2 [v0, v1, .ref b] w0 w1 Q2 X2 Y2 mc ms) (hp : ws.Perm (w0 ++ wr)) (hcell : ∀ A U H, va_P D cl0 ws H → vZA D A U H → H[q]? = some cellK) (hcls : cellK.cls = cK) (hvmK : cellK.vm = .none) (hv0 : cellK.slots[0]? = some v0) (hv1 : cellK.slots[1]? = some v1)
    (hq1 : Cond.methodLink own idx doneN ∈ lw_all) (hq3 : Cond.static y ∈ lw_all) (hq4 : Cond.initialized y.cls ∈ lw_all) (hq5 : Cond.code y bytes maxL (some .int) ∈ lw_all) (hy : (y.cls ≠ "java/lang/invoke/MethodHandle" ∧ y.cls ≠ "java/lang/invoke/VarHandle") ∧ (parseMethodDescriptor y.desc).map (fun d => d.parameters.length) = some 3)
    (hrm : rm2.cells = mc ∧ rm2.slots = ms ∧ rm2.frames + 2 ≤ rm.frames ∧ 29 + (maxL + 11) + rm2.locals ≤ rm.locals) (hst : (st.map fun v => v.category).sum ≤ 8) (hcs : k + mc ≤ rm.cells ∧ n + ms ≤ rm.slots) (hd : decode cc pc = .ok (.invokeinterface idx count, 5))
    (kx : ∀ (E : String) (q : Nat) (u : S), X2 E u → vT x (k + mc) (n + ms) (w1 u ++ wr) lv pc st E q)
    (ky : ∀ (E : String) (q ci : Nat) (r : Int32) (u : S), Y2 E r u → vPay E ci → vT x (k + mc) (n + ms) ((q, .inr (ci, rfF r)) :: (w1 u ++ wr)) lv pc st E q)
    (kk : ∀ (r : Int32) (u : S), Q2 r u → vV x (k + mc) (n + ms) (w1 u ++ wr) lv (pc + 5) (.int r :: st)) : vV x k n ws lv pc (.ref b :: .ref q :: st) := by
  obtain ⟨p, l, e, R, s, m, args, below, meth, c, Q, D, A, nL⟩ := x
  obtain ⟨rfl, rfl, rfl, rfl, hx, hb, hml, hown, hts, hA, hlocks, hret, hE, hZ⟩ := hF
  intro H locs ls hP hD hS hl
  have hP0 := hP
  have hP := vP_perm hp hP
  have hD := vD_perm hp hD
  have hPc : va_P D cl0 w0 H := vP_left hP
  have hDc : va_D A w0 := vD_left hD
  have hFc : ∀ q, va_A w0 H.size q → A q := vfree hDc hS hA
  refine vx_callFi (lw_run2 hx hb hml hown hts hE.2.2.2.1.1 q2368 (hLm s hE.2.2.2.1) hmd hσ d0 d1 d4 d5 d8 d9 d12 hq1 hq3 hq4 hq5 hy (hcell A s H hP0 (hZ.kept hS.2.1)) hcls hvmK hv0 hv1 (hM H.size) (fun a U g mk q => by obtain ⟨q0, q1, qP, qK, qD, qZ⟩ := q; exact ⟨q0, q1, qP, qK.blind, qD, vZA.moved (u := U) (U := U.calling g mk a) (Vm.Alike.refl U.vm) qZ⟩) (fun a st v t hq => by obtain ⟨⟨r, u, h9, -⟩, -⟩ := hq; cases h9; exact ⟨r, rfl⟩) hrm hcs (fun U hU hW => ⟨rfl, by rw [hU], by rw [hU]; exact hPc, hE.warm hW, hDc.weaken (fun _ _ _ _ => trivial), by rw [hU]; exact vZA.moved hW.alike ((hZ.kept hS.2.1).narrow hFc)⟩) rfl hl.1 rfl (lv_room hst) hd) hS (fun q _ h => hFc q h) hFc (fun q _ h => hFc q h) (fun E ce q9 u t H1 locs ht hvm _ hB hz1 hk1 hS hce hcv hcl => ?_) (fun r u t H1 locs ht hvm hw1 hB hz1 hk1 hS => ?_)
  · obtain ⟨u, o⟩ := u
    cases o with
    | none =>
      obtain ⟨hX9, hP1, hD1⟩ := hB
      rw [ht] at hP1
      obtain ⟨hP, hD⟩ := vjoin hP hD hk1 hFc hP1 hD1
      exact kx E q9 u hX9 H1 locs ls ce hP hD hS hl hce hcv hcl
    | some cr =>
      obtain ⟨ci1, r1⟩ := cr
      obtain ⟨hX9, hy9, hP1, hD1⟩ := hB
      rw [ht] at hP1
      obtain ⟨hP, hD⟩ := vjoin hP hD hk1 hFc hP1 hD1
      exact ky E q9 ci1 r1 u hX9 hy9 H1 locs ls ce hP hD hS hl hce hcv hcl
  · obtain ⟨hP1, hD1⟩ := hB
    rw [ht] at hP1
    obtain ⟨hP, hD⟩ := vjoin hP hD hk1 hFc hP1 hD1
    exact kk r u hw1 H1 locs ls hP hD hS hl
set_option maxHeartbeats 1000000 in
theorem v_callL3i {x : vC} {l : Launch} {D : va_G} {own : String} {cc : ByteArray} {rm : Room} {nL : Nat} {rt : Option FieldType} {k n : Nat} {ws : va_W} {lv : List (Nat × Value)} {st : List Value} {S : Type} {σ : Lambda.Shape} {x0 y : MethodName} {pc0 ix0 : Nat} {cK : ClassId} {lk : Linked} {cc2 : ByteArray} {mi f0 f1 f2 : Nat} {tys : Array ClassFile.FieldType} {idx count maxL mc ms : Nat} {bytes : ByteArray} {rm2 : Room} {b q : Nat} {cellK : Cell} {v0 v1 v2 : Value} {w0 wr : va_W} {w1 : S → va_W} {Q2 : Int32 → S → Prop} {X2 : String → S → Prop} {Y2 : String → Int32 → S → Prop} (pc : Nat) (hF : vF x l D own cc rm nL rt)
    (hLm : ∀ U, vLS D U → LmAt σ x0 pc0 ix0 cK lk U) (hmd : ∀ U, LmAt σ x0 pc0 ix0 cK lk U → (∀ o ok, U.vm.findClass "java/lang/Object" = some o → U.vm.classes[o]? = some ok → ok.instanceTypes.size = 0) → MdAt y cc2 mi [f0, f1, f2] tys cK U) (hσ : σ.iface = doneN.cls ∧ σ.name = doneN.name ∧ σ.sam.toString = doneN.desc) (d0 : decode cc2 0 = .ok (.aload_n 0, 1)) (d1 : decode cc2 1 = .ok (.getfield f0, 3)) (d4 : decode cc2 4 = .ok (.aload_n 0, 1)) (d5 : decode cc2 5 = .ok (.getfield f1, 3)) (d8 : decode cc2 8 = .ok (.aload_n 0, 1)) (d9 : decode cc2 9 = .ok (.getfield f2, 3)) (d12 : decode cc2 12 = .ok (.aload_n 1, 1)) (d13 : decode cc2 13 = .ok (.invokestatic mi, 3)) (d16 : decode cc2 16 = .ok (.ireturn, 1))
    (hM : Cxi l D y bytes maxL .int rm2 [v0, v1, v2, .ref b] w0 w1 Q2 X2 Y2 mc ms) (hp : ws.Perm (w0 ++ wr)) (hcell : ∀ A U H, va_P D cl0 ws H → vZA D A U H → H[q]? = some cellK) (hcls : cellK.cls = cK) (hvmK : cellK.vm = .none) (hv0 : cellK.slots[0]? = some v0) (hv1 : cellK.slots[1]? = some v1) (hv2 : cellK.slots[2]? = some v2)
    (hq1 : Cond.methodLink own idx doneN ∈ lw_all) (hq3 : Cond.static y ∈ lw_all) (hq4 : Cond.initialized y.cls ∈ lw_all) (hq5 : Cond.code y bytes maxL (some .int) ∈ lw_all) (hy : (y.cls ≠ "java/lang/invoke/MethodHandle" ∧ y.cls ≠ "java/lang/invoke/VarHandle") ∧ (parseMethodDescriptor y.desc).map (fun d => d.parameters.length) = some 4)
    (hrm : rm2.cells = mc ∧ rm2.slots = ms ∧ rm2.frames + 2 ≤ rm.frames ∧ 29 + (maxL + 11) + rm2.locals ≤ rm.locals) (hst : (st.map fun v => v.category).sum ≤ 8) (hcs : k + mc ≤ rm.cells ∧ n + ms ≤ rm.slots) (hd : decode cc pc = .ok (.invokeinterface idx count, 5))
    (kx : ∀ (E : String) (q : Nat) (u : S), X2 E u → vT x (k + mc) (n + ms) (w1 u ++ wr) lv pc st E q)
    (ky : ∀ (E : String) (q ci : Nat) (r : Int32) (u : S), Y2 E r u → vPay E ci → vT x (k + mc) (n + ms) ((q, .inr (ci, rfF r)) :: (w1 u ++ wr)) lv pc st E q)
    (kk : ∀ (r : Int32) (u : S), Q2 r u → vV x (k + mc) (n + ms) (w1 u ++ wr) lv (pc + 5) (.int r :: st)) : vV x k n ws lv pc (.ref b :: .ref q :: st) := by
  obtain ⟨p, l, e, R, s, m, args, below, meth, c, Q, D, A, nL⟩ := x
  obtain ⟨rfl, rfl, rfl, rfl, hx, hb, hml, hown, hts, hA, hlocks, hret, hE, hZ⟩ := hF
  intro H locs ls hP hD hS hl
  have hP0 := hP
  have hP := vP_perm hp hP
  have hD := vD_perm hp hD
  have hPc : va_P D cl0 w0 H := vP_left hP
  have hDc : va_D A w0 := vD_left hD
  have hFc : ∀ q, va_A w0 H.size q → A q := vfree hDc hS hA
  refine vx_callFi (lw_run3 hx hb hml hown hts hE.2.2.2.1.1 q2368 (hLm s hE.2.2.2.1) hmd hσ d0 d1 d4 d5 d8 d9 d12 d13 d16 hq1 hq3 hq4 hq5 hy (hcell A s H hP0 (hZ.kept hS.2.1)) hcls hvmK hv0 hv1 hv2 (hM H.size) (fun a U g mk q => by obtain ⟨q0, q1, qP, qK, qD, qZ⟩ := q; exact ⟨q0, q1, qP, qK.blind, qD, vZA.moved (u := U) (U := U.calling g mk a) (Vm.Alike.refl U.vm) qZ⟩) (fun a st v t hq => by obtain ⟨⟨r, u, h9, -⟩, -⟩ := hq; cases h9; exact ⟨r, rfl⟩) hrm hcs (fun U hU hW => ⟨rfl, by rw [hU], by rw [hU]; exact hPc, hE.warm hW, hDc.weaken (fun _ _ _ _ => trivial), by rw [hU]; exact vZA.moved hW.alike ((hZ.kept hS.2.1).narrow hFc)⟩) rfl hl.1 rfl (lv_room hst) hd) hS (fun q _ h => hFc q h) hFc (fun q _ h => hFc q h) (fun E ce q9 u t H1 locs ht hvm _ hB hz1 hk1 hS hce hcv hcl => ?_) (fun r u t H1 locs ht hvm hw1 hB hz1 hk1 hS => ?_)
  · obtain ⟨u, o⟩ := u
    cases o with
    | none =>
      obtain ⟨hX9, hP1, hD1⟩ := hB
      rw [ht] at hP1
      obtain ⟨hP, hD⟩ := vjoin hP hD hk1 hFc hP1 hD1
      exact kx E q9 u hX9 H1 locs ls ce hP hD hS hl hce hcv hcl
    | some cr =>
      obtain ⟨ci1, r1⟩ := cr
      obtain ⟨hX9, hy9, hP1, hD1⟩ := hB
      rw [ht] at hP1
      obtain ⟨hP, hD⟩ := vjoin hP hD hk1 hFc hP1 hD1
      exact ky E q9 ci1 r1 u hX9 hy9 H1 locs ls ce hP hD hS hl hce hcv hcl
  · obtain ⟨hP1, hD1⟩ := hB
    rw [ht] at hP1
    obtain ⟨hP, hD⟩ := vjoin hP hD hk1 hFc hP1 hD1
    exact kk r u hw1 H1 locs ls hP hD hS hl
theorem sel_priv {args : Array Value} {s : State} {C : String} {y : MethodName} {c : ClassId} {b : ByteArray} {L : Nat} {r : Option FieldType} (hC : s.vm.findClass C = some c) (hp : (Cond.privateMethod y).before args s = true) (hc : (Cond.code y b L r).before args s = true) (hk : ∃ c k, s.vm.findClass y.cls = some c ∧ s.vm.classes[c]? = some k ∧ k.isInterface = false) (hy : y.cls ≠ "java/lang/invoke/MethodHandle" ∧ y.cls ≠ "java/lang/invoke/VarHandle") : (Cond.selects C y y).before args s = true := by
  have hpriv := Cond.privateMethod_at hp
  obtain ⟨c2, k2, h1, h2, h3⟩ := hk
  cases hnB : s.methodNamed? y with
  | none => simp [Cond.before, Cond.holds, Cond.value, hnB] at hc
  | some mB =>
  obtain ⟨methB, cB, hmB, -⟩ := Cond.code_spec hnB hc
  have hf := State.methodFound?_of_named hnB hy
  have hcl := findClass_of_methodNamed hnB
  cases h1.symm.trans hcl
  have hpr := hpriv mB methB hnB hmB
  have hsel : selectMethod {} s.vm c mB = .method mB := by
    unfold selectMethod
    simp [hmB, hpr]
  simp [Cond.before, Cond.holds, Cond.value, hC, hf, hnB, hsel, h2, h3]
/-- the named method is there, and is its class's own -/
def vUx (s : State) (x : MethodName) : Prop := (∀ args, (Cond.sameMethod x.cls x.cls x.name x.desc).before args s = true) ∧ va_Decl s x
theorem vUx.found {s : State} {x : MethodName} (hx : x.cls ≠ "java/lang/invoke/MethodHandle" ∧ x.cls ≠ "java/lang/invoke/VarHandle") (hi : ∃ c k, s.vm.findClass x.cls = some c ∧ s.vm.classes[c]? = some k ∧ k.isInterface = false) (h : va_Decl s x) : vUx s x := by
  refine ⟨fun args => ?_, h⟩
  obtain ⟨r0, r, hn, -⟩ := h
  obtain ⟨c, k, hc, hk, hi⟩ := hi
  have hf := State.methodFound?_of_named hn hx
  have hc2 := findClass_of_methodNamed hn
  cases hc.symm.trans hc2
  simp [Cond.before, Cond.holds, Cond.value, hf, hn, hc, hk, hi]
theorem vUx.of1 {s : State} {x : MethodName} {args : Array Value} (hx : x.cls ≠ "java/lang/invoke/MethodHandle" ∧ x.cls ≠ "java/lang/invoke/VarHandle") (hi : ∃ c k, s.vm.findClass x.cls = some c ∧ s.vm.classes[c]? = some k ∧ k.isInterface = false) (h : (Cond.declares x).before args s = true) : vUx s x := vUx.found hx hi (Cond.declares_spec h)
theorem vUx.of2 {s : State} {x : MethodName} {args : Array Value} {b : ByteArray} {m : Nat} {ret : Option FieldType} (hx : x.cls ≠ "java/lang/invoke/MethodHandle" ∧ x.cls ≠ "java/lang/invoke/VarHandle") (hI : ∃ c k, s.vm.findClass x.cls = some c ∧ s.vm.classes[c]? = some k ∧ k.isInterface = false) (hi : (Cond.instanceMethod x).before args s = true) (hc : (Cond.code x b m ret).before args s = true) : vUx s x := vUx.found hx hI (va_Decl.of hi hc)
theorem v_callUi {x : vC} {l : Launch} {D : va_G} {own : String} {cc : ByteArray} {rm : Room} {nL : Nat} {rt : Option FieldType} {k n : Nat} {ws : va_W} {lv : List (Nat × Value)} {st : List Value} {S : Type} {idx maxL mc ms : Nat} {x0 y : MethodName} {C : String} {bytes : ByteArray} {rt2 : FieldType} {rm2 : Room} {As : List Value} {b : Nat} {w0 wr : va_W} {w1 : S → va_W} {Q2 : Int32 → S → Prop} (pc : Nat) (hF : vF x l D own cc rm nL rt) (hM : Cti l D y bytes maxL rt2 rm2 (.ref b :: As) w0 w1 Q2 mc ms) (hp : ws.Perm (w0 ++ wr)) (hrv : ∃ (q0 ci : Nat) (fs : List Value) (T : u_T) (N : Nat), w0[q0]? = some (b, .inr (ci, fs)) ∧ cl0[ci]? = some (C, T, N)) (hq1 : Cond.methodLink own idx x0 ∈ lw_all) (hq2 : Cond.instanceMethod y ∈ lw_all) (hux : ∀ s args, (∀ w ∈ lw_all, w.before args s = true) → vEN D s → vUx s x0) (hsel : ∀ s args, (∀ w ∈ lw_all, w.before args s = true) → vEN D s → (Cond.selects C x0 y).before args s = true) (hq4 : Cond.initialized y.cls ∈ lw_all) (hq5 : Cond.code y bytes maxL (some rt2) ∈ lw_all) (hds : x0.cls ≠ "java/lang/invoke/MethodHandle" ∧ x0.cls ≠ "java/lang/invoke/VarHandle" ∧ (parseMethodDescriptor x0.desc).map (fun d => d.parameters.length) = some As.length)
    (hrm : rm2.cells = mc ∧ rm2.slots = ms ∧ rm2.frames + 1 ≤ rm.frames ∧ 8 + (maxL + 11) + rm2.locals ≤ rm.locals) (hst : (st.map fun v => v.category).sum ≤ 8) (hcs : k + mc ≤ rm.cells ∧ n + ms ≤ rm.slots) (hd : decode cc pc = .ok (.invokevirtual idx, 3))
    (kk : ∀ (r : Int32) (u : S), Q2 r u → vV x (k + mc) (n + ms) (w1 u ++ wr) lv (pc + 3) (.int r :: st)) : vV x k n ws lv pc (As.reverse ++ .ref b :: st) := by
  obtain ⟨q9, ci9, fs9, T9, N9, he9, hc9⟩ := hrv
  obtain ⟨p, l, e, R, s, m, args, below, meth, c, Q, D, A, nL⟩ := x
  obtain ⟨rfl, rfl, rfl, rfl, hx, hb, hml, hown, hts, hA, hlocks, hret, hE, hZ⟩ := hF
  intro H locs ls hP hD hS hl
  have hP := vP_perm hp hP
  have hD := vD_perm hp hD
  have hPc : va_P D cl0 w0 H := vP_left hP
  have hDc : va_D A w0 := vD_left hD
  have hFc : ∀ q, va_A w0 H.size q → A q := vfree hDc hS hA
  refine va_calli (va_runU (owner := x0.cls) (x := x0) (C := C) (n := As.length) (bytes := bytes) (maxL := maxL) (ret := (some rt2)) (ws := ws_ y bytes maxL (some rt2)) (rm := rm2) (As := As) (rest := st) (b := b) ⟨hx, hb, hml, hown, hts⟩ (hM H.size) ⟨⟨hrm.1, hrm.2.1, hrm.2.2.1, hrm.2.2.2, fun w hw a' U hU => word_at hU (lw_meth hq5 w hw).2 (hts _ (lw_meth hq5 w hw).1), List.mem_cons_self ..⟩, hts _ hq5, hts _ hq4, ⟨hds.1, hds.2.1⟩, fun sig h => by have h2 := hds.2.2; rw [h] at h2; exact (Option.some.inj h2).symm, hts _ hq1, (hux s args hts hE).1 args, (hux s args hts hE).2, hsel s args hts hE, hts _ hq2⟩ ⟨fun a U g mk q => by obtain ⟨q0, q1, qP, qK, qD, qZ⟩ := q; exact ⟨q0, q1, qP, qK.blind, qD, vZA.moved (u := U) (U := U.calling g mk a) (Vm.Alike.refl U.vm) qZ⟩, va_recv hE.1 hPc (ci := ci9) (q0 := q9) hc9 he9, fun U hU hW => ⟨rfl, by rw [hU], by rw [hU]; exact hPc, hE.warm hW, hDc.weaken (fun _ _ _ _ => trivial), by rw [hU]; exact vZA.moved hW.alike ((hZ.kept hS.2.1).narrow hFc)⟩⟩ rfl rfl hl.1 rfl (lv_room hst) hd hcs) hS (fun q _ h => hFc q h) hFc (fun r u t H1 locs ht hvm hw1 hB hz1 hk1 hS => ?_)
  obtain ⟨hP1, hD1⟩ := hB
  rw [ht] at hP1
  obtain ⟨hP, hD⟩ := vjoin hP hD hk1 hFc hP1 hD1
  exact kk r u hw1 H1 locs ls hP hD hS hl
theorem v_callUv {x : vC} {l : Launch} {D : va_G} {own : String} {cc : ByteArray} {rm : Room} {nL : Nat} {rt : Option FieldType} {k n : Nat} {ws : va_W} {lv : List (Nat × Value)} {st : List Value} {S : Type} {idx maxL mc ms : Nat} {x0 y : MethodName} {C : String} {bytes : ByteArray} {rm2 : Room} {As : List Value} {b : Nat} {w0 wr : va_W} {w1 : S → va_W} {Q2 : S → Prop} (pc : Nat) (hF : vF x l D own cc rm nL rt) (hM : Ctv l D y bytes maxL rm2 (.ref b :: As) w0 w1 Q2 mc ms) (hp : ws.Perm (w0 ++ wr)) (hrv : ∃ (q0 ci : Nat) (fs : List Value) (T : u_T) (N : Nat), w0[q0]? = some (b, .inr (ci, fs)) ∧ cl0[ci]? = some (C, T, N)) (hq1 : Cond.methodLink own idx x0 ∈ lw_all) (hq2 : Cond.instanceMethod y ∈ lw_all) (hux : ∀ s args, (∀ w ∈ lw_all, w.before args s = true) → vEN D s → vUx s x0) (hsel : ∀ s args, (∀ w ∈ lw_all, w.before args s = true) → vEN D s → (Cond.selects C x0 y).before args s = true) (hq4 : Cond.initialized y.cls ∈ lw_all) (hq5 : Cond.code y bytes maxL none ∈ lw_all) (hds : x0.cls ≠ "java/lang/invoke/MethodHandle" ∧ x0.cls ≠ "java/lang/invoke/VarHandle" ∧ (parseMethodDescriptor x0.desc).map (fun d => d.parameters.length) = some As.length)
    (hrm : rm2.cells = mc ∧ rm2.slots = ms ∧ rm2.frames + 1 ≤ rm.frames ∧ 8 + (maxL + 11) + rm2.locals ≤ rm.locals) (hst : (st.map fun v => v.category).sum ≤ 8) (hcs : k + mc ≤ rm.cells ∧ n + ms ≤ rm.slots) (hd : decode cc pc = .ok (.invokevirtual idx, 3))
    (kk : ∀ (u : S), Q2 u → vV x (k + mc) (n + ms) (w1 u ++ wr) lv (pc + 3) st) : vV x k n ws lv pc (As.reverse ++ .ref b :: st) := by
  obtain ⟨q9, ci9, fs9, T9, N9, he9, hc9⟩ := hrv
  obtain ⟨p, l, e, R, s, m, args, below, meth, c, Q, D, A, nL⟩ := x
  obtain ⟨rfl, rfl, rfl, rfl, hx, hb, hml, hown, hts, hA, hlocks, hret, hE, hZ⟩ := hF
  intro H locs ls hP hD hS hl
  have hP := vP_perm hp hP
  have hD := vD_perm hp hD
  have hPc : va_P D cl0 w0 H := vP_left hP
  have hDc : va_D A w0 := vD_left hD
  have hFc : ∀ q, va_A w0 H.size q → A q := vfree hDc hS hA
  refine va_callv (va_runU (owner := x0.cls) (x := x0) (C := C) (n := As.length) (bytes := bytes) (maxL := maxL) (ret := none) (ws := ws_ y bytes maxL none) (rm := rm2) (As := As) (rest := st) (b := b) ⟨hx, hb, hml, hown, hts⟩ (hM H.size) ⟨⟨hrm.1, hrm.2.1, hrm.2.2.1, hrm.2.2.2, fun w hw a' U hU => word_at hU (lw_meth hq5 w hw).2 (hts _ (lw_meth hq5 w hw).1), List.mem_cons_self ..⟩, hts _ hq5, hts _ hq4, ⟨hds.1, hds.2.1⟩, fun sig h => by have h2 := hds.2.2; rw [h] at h2; exact (Option.some.inj h2).symm, hts _ hq1, (hux s args hts hE).1 args, (hux s args hts hE).2, hsel s args hts hE, hts _ hq2⟩ ⟨fun a U g mk q => by obtain ⟨q0, q1, qP, qK, qD, qZ⟩ := q; exact ⟨q0, q1, qP, qK.blind, qD, vZA.moved (u := U) (U := U.calling g mk a) (Vm.Alike.refl U.vm) qZ⟩, va_recv hE.1 hPc (ci := ci9) (q0 := q9) hc9 he9, fun U hU hW => ⟨rfl, by rw [hU], by rw [hU]; exact hPc, hE.warm hW, hDc.weaken (fun _ _ _ _ => trivial), by rw [hU]; exact vZA.moved hW.alike ((hZ.kept hS.2.1).narrow hFc)⟩⟩ rfl rfl hl.1 rfl (lv_room hst) hd hcs) hS (fun q _ h => hFc q h) hFc (fun u t H1 locs ht hvm hw1 hB hz1 hk1 hS => ?_)
  obtain ⟨hP1, hD1⟩ := hB
  rw [ht] at hP1
  obtain ⟨hP, hD⟩ := vjoin hP hD hk1 hFc hP1 hD1
  exact kk u hw1 H1 locs ls hP hD hS hl
theorem v_callUr {x : vC} {l : Launch} {D : va_G} {own : String} {cc : ByteArray} {rm : Room} {nL : Nat} {rt : Option FieldType} {k n : Nat} {ws : va_W} {lv : List (Nat × Value)} {st : List Value} {S : Type} {idx maxL mc ms : Nat} {x0 y : MethodName} {C : String} {bytes : ByteArray} {rt2 : FieldType} {rm2 : Room} {As : List Value} {b : Nat} {w0 wr : va_W} {w1 : S → va_W} {ad : S → Nat} {Q2 : S → Prop} (pc : Nat) (hF : vF x l D own cc rm nL rt) (hM : Ctr l D y bytes maxL rt2 rm2 (.ref b :: As) w0 w1 ad Q2 mc ms) (hp : ws.Perm (w0 ++ wr)) (hrv : ∃ (q0 ci : Nat) (fs : List Value) (T : u_T) (N : Nat), w0[q0]? = some (b, .inr (ci, fs)) ∧ cl0[ci]? = some (C, T, N)) (hq1 : Cond.methodLink own idx x0 ∈ lw_all) (hq2 : Cond.instanceMethod y ∈ lw_all) (hux : ∀ s args, (∀ w ∈ lw_all, w.before args s = true) → vEN D s → vUx s x0) (hsel : ∀ s args, (∀ w ∈ lw_all, w.before args s = true) → vEN D s → (Cond.selects C x0 y).before args s = true) (hq4 : Cond.initialized y.cls ∈ lw_all) (hq5 : Cond.code y bytes maxL (some rt2) ∈ lw_all) (hds : x0.cls ≠ "java/lang/invoke/MethodHandle" ∧ x0.cls ≠ "java/lang/invoke/VarHandle" ∧ (parseMethodDescriptor x0.desc).map (fun d => d.parameters.length) = some As.length)
    (hrm : rm2.cells = mc ∧ rm2.slots = ms ∧ rm2.frames + 1 ≤ rm.frames ∧ 8 + (maxL + 11) + rm2.locals ≤ rm.locals) (hst : (st.map fun v => v.category).sum ≤ 8) (hcs : k + mc ≤ rm.cells ∧ n + ms ≤ rm.slots) (hd : decode cc pc = .ok (.invokevirtual idx, 3))
    (kk : ∀ (u : S), Q2 u → vV x (k + mc) (n + ms) (w1 u ++ wr) lv (pc + 3) (.ref (ad u) :: st)) : vV x k n ws lv pc (As.reverse ++ .ref b :: st) := by
  obtain ⟨q9, ci9, fs9, T9, N9, he9, hc9⟩ := hrv
  obtain ⟨p, l, e, R, s, m, args, below, meth, c, Q, D, A, nL⟩ := x
  obtain ⟨rfl, rfl, rfl, rfl, hx, hb, hml, hown, hts, hA, hlocks, hret, hE, hZ⟩ := hF
  intro H locs ls hP hD hS hl
  have hP := vP_perm hp hP
  have hD := vD_perm hp hD
  have hPc : va_P D cl0 w0 H := vP_left hP
  have hDc : va_D A w0 := vD_left hD
  have hFc : ∀ q, va_A w0 H.size q → A q := vfree hDc hS hA
  refine va_callr (va_runU (owner := x0.cls) (x := x0) (C := C) (n := As.length) (bytes := bytes) (maxL := maxL) (ret := (some rt2)) (ws := ws_ y bytes maxL (some rt2)) (rm := rm2) (As := As) (rest := st) (b := b) ⟨hx, hb, hml, hown, hts⟩ (hM H.size) ⟨⟨hrm.1, hrm.2.1, hrm.2.2.1, hrm.2.2.2, fun w hw a' U hU => word_at hU (lw_meth hq5 w hw).2 (hts _ (lw_meth hq5 w hw).1), List.mem_cons_self ..⟩, hts _ hq5, hts _ hq4, ⟨hds.1, hds.2.1⟩, fun sig h => by have h2 := hds.2.2; rw [h] at h2; exact (Option.some.inj h2).symm, hts _ hq1, (hux s args hts hE).1 args, (hux s args hts hE).2, hsel s args hts hE, hts _ hq2⟩ ⟨fun a U g mk q => by obtain ⟨q0, q1, qP, qK, qD, qZ⟩ := q; exact ⟨q0, q1, qP, qK.blind, qD, vZA.moved (u := U) (U := U.calling g mk a) (Vm.Alike.refl U.vm) qZ⟩, va_recv hE.1 hPc (ci := ci9) (q0 := q9) hc9 he9, fun U hU hW => ⟨rfl, by rw [hU], by rw [hU]; exact hPc, hE.warm hW, hDc.weaken (fun _ _ _ _ => trivial), by rw [hU]; exact vZA.moved hW.alike ((hZ.kept hS.2.1).narrow hFc)⟩⟩ rfl rfl hl.1 rfl (lv_room hst) hd hcs) hS (fun q _ h => hFc q h) hFc (fun u a9 t H1 locs ht hvm hw1 hB hz1 hk1 hS => ?_)
  obtain ⟨rfl, hP1, hD1⟩ := hB
  rw [ht] at hP1
  obtain ⟨hP, hD⟩ := vjoin hP hD hk1 hFc hP1 hD1
  exact kk u hw1 H1 locs ls hP hD hS hl
