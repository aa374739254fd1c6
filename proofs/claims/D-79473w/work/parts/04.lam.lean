set_option maxRecDepth 100000
/-- a linked lambda site, by the tables alone -/
def LmAt (σ : Lambda.Shape) (x : MethodName) (pc index : Nat) (cK : ClassId) (lk : Linked) (U : State) : Prop :=
  ∃ (m : MethodId) (k : Class) (cf : ClassFile.ClassFile) (i0 p0 : Nat), U.methodNamed? x = some m ∧ U.vm.classes[m.cls]? = some k ∧ k.cf = some cf ∧ Lambda.shapeOf? cf index = some σ ∧ (k.callSites.find? fun y => y.1 == m.idx && y.2.1 == pc) = some (i0, p0, lk) ∧ Lambda.isMade { classPath := fun _ => none } U.vm m.cls σ cK = true ∧ U.lambdaCallable σ cK = true
theorem LmAt.warm {σ : Lambda.Shape} {x : MethodName} {pc index : Nat} {cK : ClassId} {lk : Linked} {s U : State} (hW : s.WarmedH U.vm) (h : LmAt σ x pc index cK lk s) : LmAt σ x pc index cK lk U := by
  obtain ⟨m, k, cf, i0, p0, hm, hk, hcf, hsh, hf, hmade, hcan⟩ := h
  obtain ⟨k', hk', he⟩ := hW.alike.2.2 _ _ hk
  have hm' : U.methodNamed? x = some m := by
    have := State.methodNamed?_setVm (s := s) hW.alike x
    rw [hm] at this
    exact this
  have hcan' : U.lambdaCallable σ cK = true := by
    have hA := hW.alike
    simp only [State.lambdaCallable, hA.findClass, hA.assignable, hA.superclasses, hA.declaredIn] at hcan ⊢
    exact hcan
  exact ⟨m, k', cf, i0, p0, hm', hk', by rw [he]; exact hcf, hsh, by rw [he]; exact hf, Lambda.isMade_warmer hW hmade, hcan'⟩
theorem LmAt.same {σ : Lambda.Shape} {x : MethodName} {pc index : Nat} {cK : ClassId} {lk : Linked} {s U : State} (hv : U.vm = s.vm) (h : LmAt σ x pc index cK lk s) : LmAt σ x pc index cK lk U := h.warm (U := U) (by rw [hv]; exact State.WarmedH.refl s)
theorem Steps_weak {tb : Tables} {e : Env} {mid below : List Frame} {a b : State} (h : Steps tb e (mid ++ below) a b) : Steps tb e below a b := by
  obtain ⟨n, hn, w⟩ := h
  exact ⟨n, hn, fun k hk => (w k hk).weaken⟩
theorem sh_arr {α : Type} {x : Array Nat} {f : Nat → Nat → Nat → Option α} {r : α} (h : Lambda.shapeOf?.match_15 (fun _ => Option α) x f (fun _ => none) = some r) : ∃ u v w, f u v w = some r := by
  obtain ⟨l⟩ := x
  match l, h with
  | [], h => cases h
  | [_], h => cases h
  | [_, _], h => cases h
  | [u, v, w], h => exact ⟨u, v, w, h⟩
  | _ :: _ :: _ :: _ :: _, h => cases h
theorem sh_ty {α : Type} {x : Option ClassFile.CpInfo} {f : Nat → Option α} {r : α} (h : Lambda.shapeOf?.match_9 (fun _ => Option α) x f (fun _ => none) = some r) : ∃ u, f u = some r := by
  split at h
  · exact ⟨_, h⟩
  · cases h
theorem sh_mh {α : Type} {x : Option ClassFile.CpInfo} {f : Nat → Nat → Option α} {r : α} (h : Lambda.shapeOf?.match_12 (fun _ => Option α) x f (fun _ => none) = some r) : ∃ u v, f u v = some r := by
  split at h
  · exact ⟨_, _, h⟩
  · cases h
theorem sh_re {α : Type} {x : Option FieldType} {f : String → Option α} {r : α} (h : Lambda.shapeOf?.match_6 (fun _ => Option α) x f (fun _ => none) = some r) : ∃ u, f u = some r := by
  split at h
  · exact ⟨_, h⟩
  · cases h
theorem sh_bs {α : Type} {x : Option ClassFile.CpInfo} {f : Nat → Option α} {r : α} (h : Lambda.shapeOf?.match_17 (fun _ => Option α) x f (fun _ => none) = some r) : ∃ u, f u = some r := by
  split at h
  · exact ⟨_, h⟩
  · cases h
theorem sh_id {α : Type} {x : Option ClassFile.CpInfo} {f : Nat → Nat → Option α} {r : α} (h : Lambda.shapeOf?.match_19 (fun _ => Option α) x f (fun _ => none) = some r) : ∃ u v, x = some (.invokeDynamic u v) ∧ f u v = some r := by
  split at h
  · exact ⟨_, _, rfl, h⟩
  · cases h
theorem shapeOf_inv {cf : ClassFile.ClassFile} {index : Nat} {σ : Lambda.Shape} (h : Lambda.shapeOf? cf index = some σ) : ∃ b nt name desc site, cf.constantPool[index]? = some (.invokeDynamic b nt) ∧ cf.constantPool.nameAndType? nt = some (name, desc) ∧ parseMethodDescriptor desc = some site ∧ site.parameters = σ.captured := by
  unfold Lambda.shapeOf? at h
  obtain ⟨b, nt, hc, h⟩ := sh_id h
  obtain ⟨_, -, h⟩ := Option.bind_eq_some_iff.mp h
  obtain ⟨_, -, h⟩ := Option.bind_eq_some_iff.mp h
  obtain ⟨_, h⟩ := sh_bs h
  obtain ⟨_, -, h⟩ := Option.bind_eq_some_iff.mp h
  obtain ⟨_, _, _, h⟩ := sh_arr h
  obtain ⟨_, h⟩ := sh_ty h
  obtain ⟨_, _, h⟩ := sh_mh h
  obtain ⟨_, h⟩ := sh_ty h
  obtain ⟨⟨name, desc⟩, hnt, h⟩ := Option.bind_eq_some_iff.mp h
  obtain ⟨site, hsite, h⟩ := Option.bind_eq_some_iff.mp h
  obtain ⟨_, h⟩ := sh_re h
  obtain ⟨⟨_, _, _, _⟩, -, h⟩ := Option.bind_eq_some_iff.mp h
  obtain ⟨_, -, h⟩ := Option.bind_eq_some_iff.mp h
  obtain ⟨_, -, h⟩ := Option.bind_eq_some_iff.mp h
  obtain ⟨_, -, h⟩ := Option.bind_eq_some_iff.mp h
  obtain ⟨_, -, h⟩ := Option.bind_eq_some_iff.mp h
  obtain ⟨_, -, h⟩ := Option.bind_eq_some_iff.mp h
  cases h
  exact ⟨b, nt, name, desc, site, hc, hnt, hsite, rfl⟩
set_option maxHeartbeats 4000000 in
theorem lam_call0 {p : Program} {l : Launch} {e : Env} {R : Room} {s : State} {m : MethodId} {args : Array Value} {below : List Frame} {meth : Method} {c : Code} {T : State} {locs : List Loc} {cells slots : Nat} (X : Stand p l e R s m args below meth c T locs cells slots) (hexec : p.tables.exec = Jvm.exec) {g : JFrame} (hg : g.method = m) (hsize : g.locals.size = c.maxLocals) {ig : Instr} {len : Nat} (hdg : decode c.code g.pc = .ok (ig, len))
    {cK : ClassId} {methk : Method} {ck : Code} {cc : ByteArray} {mi  : Nat} (hmk : T.vm.method? ⟨cK, 1⟩ = some methk) (hck : methk.code = some ck) (hbytes : ck.code = cc) (hml : ck.maxLocals = 2) (hlk : methk.locks = false) (hpk : T.plainMethod ⟨cK, 1⟩) (hretk : methk.sig.returnType = some .int) (hnt : ck.exceptionTable = #[]) (d0 : decode cc 0 = .ok (.aload_n 1, 1)) (d1 : decode cc 1 = .ok (.invokestatic mi, 3)) (d4 : decode cc 4 = .ok (.ireturn, 1))
    {q b : Addr} {cellK : Cell}  (hcellK : T.heap[q]? = some cellK) (hknown : cellK.vm ≠ .unknown)
    {t : MethodId} {kt : Class} {metht : Method} (href : plainRef T e cK mi) (hready : T.vm.methodReady cK mi t) (hkt : T.vm.classes[t.cls]? = some kt) (hmt : T.vm.method? t = some metht) (hpoly : signaturePolymorphic kt metht = false) (hstatic : metht.isStatic = true) (hinit : kt.init = .initialized) (hpar : 1 = metht.sig.parameters.length)
    {y : MethodName} (hyn : T.methodNamed? y = some t) {ws : List Cond} {rm : Room} {Pc : Array Value → State → Prop} {Qc : Array Value → State → Outcome → State → Prop} {XC : String → Addr → State → State → Prop} {mc ms : Nat} {free : Addr → Prop} {bytes : ByteArray} {maxL : Nat} {ret : Option FieldType}
    (hM : vx_Met l y ws rm Pc Qc XC mc ms free) (hbl : FrameBlind Pc) (hrc : rm.cells = mc) (hrs : rm.slots = ms) (hws : ∀ w ∈ ws, ∀ a' U, T.WarmedH U.vm → w.before a' U = true) (hcw : Cond.code y bytes maxL ret ∈ ws) (hini : ∀ a' U, T.WarmedH U.vm → (Cond.initialized y.cls).before a' U = true)
    (hQi : ∀ a st v t, Qc a st (.returned v) t → ∃ r : Int32, v = some (.int r))
    (hW : 2 * g.monitorRoom + (g.stack.map fun v => v.category).sum ≤ 8) (hfr : rm.frames + 2 ≤ R.frames) (hlo : 8 + 13 + (8 + (maxL + 11) + rm.locals) ≤ R.locals) (hcells : cells + mc ≤ R.cells) (hslots : slots + ms ≤ R.slots)
    (hPc : ∀ U : State, U.heap = T.heap → U.vm = T.vm → Pc [.ref b].toArray U) :
    (∃ (r : Int32) (st₀ t1 T' : State) (L : List Loc), st₀.heap = T.heap ∧ Stand p l e R s m args below meth c T' (locs ++ L) (cells + mc) (slots + ms) ∧ (∀ z ∈ L, free z.base) ∧ T'.heap = t1.heap ∧ T'.vm = t1.vm ∧ Qc [.ref b].toArray st₀ (.returned (some (.int r))) t1 ∧
      ∀ acts, Steps p.tables e below (doInvoke e (T.setTop g) acts ⟨cK, 1⟩ #[.ref q, .ref b]).1 (T'.setTop { g with pc := g.pc + len, stack := .int r :: g.stack })) ∨
    (∃ (z : Addr) (st₀ t1 T' : State) (L : List Loc) (E : String) (ce : Cell), st₀.heap = T.heap ∧ Stand p l e R s m args below meth c T' (locs ++ L) (cells + mc) (slots + ms) ∧ (∀ z ∈ L, free z.base) ∧ T'.heap = t1.heap ∧ T'.vm = t1.vm ∧ XC E z st₀ t1 ∧ t1.heap[z]? = some ce ∧ ce.vm = .none ∧ T.vm.findClass E = some ce.cls ∧
      ∀ acts, Steps p.tables e below (doInvoke e (T.setTop g) acts ⟨cK, 1⟩ #[.ref q, .ref b]).1 ((T'.setTop g).pushFrame (.throwing z))) := by
  obtain ⟨Y₀, hin⟩ := X.into hg hsize hdg #[.ref q, .ref b] (R' := { frames := rm.frames + 1, cells := mc, slots := ms, locals := 8 + (maxL + 11) + rm.locals }) hmk hck hlk hpk hfr (by rw [hml]; show 2 * g.monitorRoom + (g.stack.map fun v => v.category).sum + (2 + 11) + (8 + (maxL + 11) + rm.locals) ≤ R.locals; omega) hcells hslots
  generalize hU : (T.setTop g).pushFrame (.java (entryFrame ⟨cK, 1⟩ #[.ref q, .ref b] ck.maxLocals)) = U at Y₀ hin
  have hvm : U.vm = T.vm := by rw [← hU]; rfl
  have hheap : U.heap = T.heap := by rw [← hU]; rfl
  have hs : U.topJava?.isSome := Y₀.here.top
  have hK : vx_Back l _ p e (.java g :: below) (T.calling g ⟨cK, 1⟩ #[.ref q, .ref b]) #[.ref q, .ref b] y 3 8 (PreOf _ mc ms Pc) (PostOf Qc mc ms free) (vx_Post XC mc ms free) :=
    vx_back (R := { frames := rm.frames + 1, cells := mc, slots := ms, locals := 8 + (maxL + 11) + rm.locals }) (bytes := bytes) (maxL := maxL) (ret := ret) hM hbl hrc hrs (Nat.le_refl _) (Nat.le_refl _) (fun w hw a' V hV => hws w hw a' V hV) hcw (fun a' V hV => hini a' V hV)
  have hnU : U.methodNamed? y = some t := by
    have := State.methodNamed?_setVm (s := T) (vm' := U.vm) (by rw [hvm]; exact Vm.Alike.refl _) y
    rw [hyn] at this
    exact this
  have hloc : entryFrame ⟨cK, 1⟩ #[.ref q, .ref b] ck.maxLocals = { method := ⟨cK, 1⟩, pc := 0, locals := #[.val (.ref q), .val (.ref b)], stack := [], locked := none } := by rw [hml]; rfl
  have go : ∀ tg, Steps p.tables e (.java g :: below) (doInvoke e (U.setTop { method := ⟨cK, 1⟩, pc := 1, locals := #[.val (.ref q), .val (.ref b)], stack := [], locked := none }) [] t [.ref b].toArray).1 tg → Steps p.tables e (.java g :: below) (U.setTop (entryFrame ⟨cK, 1⟩ #[.ref q, .ref b] ck.maxLocals)) tg := by
    intro tg htg
    rw [hloc]
    jvm_step Y₀.here [hexec, hbytes, d0, Value.isRef]
    jvm_step Y₀.here [hexec, hbytes, d1, invokestatic.wp_ready (e := e) (s := U) (m := t) (k := kt) (meth := metht) (args := [.ref b]) (rest := []) (f := { method := ⟨cK, 1⟩, pc := 1, locals := #[.val (.ref q), .val (.ref b)], stack := [.ref b], locked := none }) hs (by rw [← hU]; exact href) (by rw [hvm]; exact hready) (by rw [hvm]; exact hkt) (by rw [hvm]; exact hmt) hpoly hstatic hinit hpar rfl]
    intro acts
    rw [doInvoke_state]
    exact htg
  rcases hK ⟨cK, 1⟩ methk ck ⟨U, [], 0, 0⟩ { method := ⟨cK, 1⟩, pc := 1, locals := #[.val (.ref q), .val (.ref b)], stack := [], locked := none } (.invokestatic mi) t [.ref b].toArray Y₀ rfl (by rw [hml]; rfl) (by rw [hbytes]; exact d1) (Nat.le_of_ble_eq_true rfl) hnU ⟨Nat.le_of_eq (Nat.zero_add _), Nat.le_of_eq (Nat.zero_add _), hPc U hheap hvm⟩ with ⟨v, ⟨U', l2, c2, s2⟩, Y', ⟨g', mk', t1, L, e1, e2, hq, h1, hL, h2, h3⟩, st⟩ | ⟨z, ⟨U', l2, c2, s2⟩, Y', ⟨g', mk', t1, L, E, ce, e1, e2, hq, hce, hcv, hcl, h1, hL, h2, h3⟩, st⟩
  · dsimp only [Pt.U, Pt.locs, Pt.cells, Pt.slots] at Y' e1 e2 h1 h2 h3 st hq
    subst h1; subst h2; subst h3
    obtain ⟨r, rfl⟩ := hQi _ _ _ _ hq
    obtain ⟨fs, hleave, -, hended, hWe, hsame⟩ := Y'.leave (v := some (.int r)) (fun h => by rw [hretk] at h; cases h) hlk
    obtain ⟨T', X', hW', -, ht⟩ := X.outOf hg hdg hended hWe hsame
    have hT'h : T'.heap = U'.heap := by
      have := congrArg State.heap ht
      exact this.symm
    have hT'v : T'.vm = U'.vm := by
      have := congrArg State.vm ht
      exact this.symm
    refine Or.inl ⟨r, _, t1, T', l2, ?_, ?_, hL, hT'h.trans e1, hT'v.trans e2, hq, fun acts => ?_⟩
    · exact hheap
    · rw [Nat.zero_add, Nat.zero_add] at X'
      exact X'
    · rw [hin acts]
      show Steps p.tables e below _ (T'.setTop { g with pc := g.pc + len, stack := (some (Value.int r)).toList ++ g.stack })
      rw [← ht]
      refine Steps_weak (mid := [.java g]) (go _ (st.trans ?_))
      show Steps p.tables e (.java g :: below) (U'.setTop { method := ⟨cK, 1⟩, pc := 4, locals := #[.val (.ref q), .val (.ref b)], stack := [.int r], locked := none }) _
      jvm_step Y'.here [Y'.here.top, hexec, hbytes, d4, (show U'.vm.method? ⟨cK, 1⟩ = some methk from Y'.method'), hretk, narrow]
      intro acts''
      rw [hleave { method := ⟨cK, 1⟩, pc := 4, locals := #[.val (.ref q), .val (.ref b)], stack := [], locked := none } acts'' rfl rfl rfl]
      exact Steps.refl _
  · dsimp only [Pt.U, Pt.locs, Pt.cells, Pt.slots] at Y' e1 e2 h1 h2 h3 st hq hcl
    subst h1; subst h2; subst h3
    obtain ⟨st1, -, hended, hWe, hsame⟩ := Y'.leaveThrown z (g := { method := ⟨cK, 1⟩, pc := 1, locals := #[.val (.ref q), .val (.ref b)], stack := [], locked := none }) rfl rfl rfl (by rw [hnt]; intro x hx; cases hx) hlk
    obtain ⟨T', X', hW', -, ht⟩ := X.outOfThrown hg hended hWe hsame
    have hT'h : T'.heap = U'.heap := by
      have := congrArg State.heap ht
      exact this.symm
    have hT'v : T'.vm = U'.vm := by
      have := congrArg State.vm ht
      exact this.symm
    refine Or.inr ⟨z, _, t1, T', l2, E, ce, ?_, ?_, hL, hT'h.trans e1, hT'v.trans e2, hq, hce, hcv, ?_, fun acts => ?_⟩
    · exact hheap
    · rw [Nat.zero_add, Nat.zero_add] at X'
      exact X'
    · rw [hvm] at hcl
      exact hcl
    · rw [hin acts, ← ht]
      exact Steps_weak (mid := [.java g]) (go _ (st.trans st1))
set_option maxHeartbeats 4000000 in
theorem lam_call1 {p : Program} {l : Launch} {e : Env} {R : Room} {s : State} {m : MethodId} {args : Array Value} {below : List Frame} {meth : Method} {c : Code} {T : State} {locs : List Loc} {cells slots : Nat} (X : Stand p l e R s m args below meth c T locs cells slots) (hexec : p.tables.exec = Jvm.exec) {g : JFrame} (hg : g.method = m) (hsize : g.locals.size = c.maxLocals) {ig : Instr} {len : Nat} (hdg : decode c.code g.pc = .ok (ig, len))
    {cK : ClassId} {methk : Method} {ck : Code} {cc : ByteArray} {mi f0 : Nat} (hmk : T.vm.method? ⟨cK, 1⟩ = some methk) (hck : methk.code = some ck) (hbytes : ck.code = cc) (hml : ck.maxLocals = 2) (hlk : methk.locks = false) (hpk : T.plainMethod ⟨cK, 1⟩) (hretk : methk.sig.returnType = some .int) (hnt : ck.exceptionTable = #[]) (d0 : decode cc 0 = .ok (.aload_n 0, 1)) (d1 : decode cc 1 = .ok (.getfield f0, 3)) (d4 : decode cc 4 = .ok (.aload_n 1, 1)) (d5 : decode cc 5 = .ok (.invokestatic mi, 3)) (d8 : decode cc 8 = .ok (.ireturn, 1))
    {q b : Addr} {cellK : Cell} {v0 : Value} {g0 : Field} (hcellK : T.heap[q]? = some cellK) (hknown : cellK.vm ≠ .unknown) (hf0 : T.vm.fieldReady cK f0 cK g0) (hs0 : g0.isStatic = false) (hv0 : cellK.slots[g0.slot]? = some v0)
    {t : MethodId} {kt : Class} {metht : Method} (href : plainRef T e cK mi) (hready : T.vm.methodReady cK mi t) (hkt : T.vm.classes[t.cls]? = some kt) (hmt : T.vm.method? t = some metht) (hpoly : signaturePolymorphic kt metht = false) (hstatic : metht.isStatic = true) (hinit : kt.init = .initialized) (hpar : 2 = metht.sig.parameters.length)
    {y : MethodName} (hyn : T.methodNamed? y = some t) {ws : List Cond} {rm : Room} {Pc : Array Value → State → Prop} {Qc : Array Value → State → Outcome → State → Prop} {XC : String → Addr → State → State → Prop} {mc ms : Nat} {free : Addr → Prop} {bytes : ByteArray} {maxL : Nat} {ret : Option FieldType}
    (hM : vx_Met l y ws rm Pc Qc XC mc ms free) (hbl : FrameBlind Pc) (hrc : rm.cells = mc) (hrs : rm.slots = ms) (hws : ∀ w ∈ ws, ∀ a' U, T.WarmedH U.vm → w.before a' U = true) (hcw : Cond.code y bytes maxL ret ∈ ws) (hini : ∀ a' U, T.WarmedH U.vm → (Cond.initialized y.cls).before a' U = true)
    (hQi : ∀ a st v t, Qc a st (.returned v) t → ∃ r : Int32, v = some (.int r))
    (hW : 2 * g.monitorRoom + (g.stack.map fun v => v.category).sum ≤ 8) (hfr : rm.frames + 2 ≤ R.frames) (hlo : 8 + 13 + (8 + (maxL + 11) + rm.locals) ≤ R.locals) (hcells : cells + mc ≤ R.cells) (hslots : slots + ms ≤ R.slots)
    (hPc : ∀ U : State, U.heap = T.heap → U.vm = T.vm → Pc [v0, .ref b].toArray U) :
    (∃ (r : Int32) (st₀ t1 T' : State) (L : List Loc), st₀.heap = T.heap ∧ Stand p l e R s m args below meth c T' (locs ++ L) (cells + mc) (slots + ms) ∧ (∀ z ∈ L, free z.base) ∧ T'.heap = t1.heap ∧ T'.vm = t1.vm ∧ Qc [v0, .ref b].toArray st₀ (.returned (some (.int r))) t1 ∧
      ∀ acts, Steps p.tables e below (doInvoke e (T.setTop g) acts ⟨cK, 1⟩ #[.ref q, .ref b]).1 (T'.setTop { g with pc := g.pc + len, stack := .int r :: g.stack })) ∨
    (∃ (z : Addr) (st₀ t1 T' : State) (L : List Loc) (E : String) (ce : Cell), st₀.heap = T.heap ∧ Stand p l e R s m args below meth c T' (locs ++ L) (cells + mc) (slots + ms) ∧ (∀ z ∈ L, free z.base) ∧ T'.heap = t1.heap ∧ T'.vm = t1.vm ∧ XC E z st₀ t1 ∧ t1.heap[z]? = some ce ∧ ce.vm = .none ∧ T.vm.findClass E = some ce.cls ∧
      ∀ acts, Steps p.tables e below (doInvoke e (T.setTop g) acts ⟨cK, 1⟩ #[.ref q, .ref b]).1 ((T'.setTop g).pushFrame (.throwing z))) := by
  obtain ⟨Y₀, hin⟩ := X.into hg hsize hdg #[.ref q, .ref b] (R' := { frames := rm.frames + 1, cells := mc, slots := ms, locals := 8 + (maxL + 11) + rm.locals }) hmk hck hlk hpk hfr (by rw [hml]; show 2 * g.monitorRoom + (g.stack.map fun v => v.category).sum + (2 + 11) + (8 + (maxL + 11) + rm.locals) ≤ R.locals; omega) hcells hslots
  generalize hU : (T.setTop g).pushFrame (.java (entryFrame ⟨cK, 1⟩ #[.ref q, .ref b] ck.maxLocals)) = U at Y₀ hin
  have hvm : U.vm = T.vm := by rw [← hU]; rfl
  have hheap : U.heap = T.heap := by rw [← hU]; rfl
  have hs : U.topJava?.isSome := Y₀.here.top
  have hK : vx_Back l _ p e (.java g :: below) (T.calling g ⟨cK, 1⟩ #[.ref q, .ref b]) #[.ref q, .ref b] y 3 8 (PreOf _ mc ms Pc) (PostOf Qc mc ms free) (vx_Post XC mc ms free) :=
    vx_back (R := { frames := rm.frames + 1, cells := mc, slots := ms, locals := 8 + (maxL + 11) + rm.locals }) (bytes := bytes) (maxL := maxL) (ret := ret) hM hbl hrc hrs (Nat.le_refl _) (Nat.le_refl _) (fun w hw a' V hV => hws w hw a' V hV) hcw (fun a' V hV => hini a' V hV)
  have hnU : U.methodNamed? y = some t := by
    have := State.methodNamed?_setVm (s := T) (vm' := U.vm) (by rw [hvm]; exact Vm.Alike.refl _) y
    rw [hyn] at this
    exact this
  have hloc : entryFrame ⟨cK, 1⟩ #[.ref q, .ref b] ck.maxLocals = { method := ⟨cK, 1⟩, pc := 0, locals := #[.val (.ref q), .val (.ref b)], stack := [], locked := none } := by rw [hml]; rfl
  have go : ∀ tg, Steps p.tables e (.java g :: below) (doInvoke e (U.setTop { method := ⟨cK, 1⟩, pc := 5, locals := #[.val (.ref q), .val (.ref b)], stack := [], locked := none }) [] t [v0, .ref b].toArray).1 tg → Steps p.tables e (.java g :: below) (U.setTop (entryFrame ⟨cK, 1⟩ #[.ref q, .ref b] ck.maxLocals)) tg := by
    intro tg htg
    rw [hloc]
    jvm_step Y₀.here [hexec, hbytes, d0, Value.isRef]
    jvm_step Y₀.here [hexec, hbytes, d1, getfield.wp_ready (e := e) (s := U) (c := cK) (field := g0) (a := q) (rest := []) (cell := cellK) (v := v0) (f := { method := ⟨cK, 1⟩, pc := 1, locals := #[.val (.ref q), .val (.ref b)], stack := .ref q :: [], locked := none }) hs (by rw [hvm]; exact hf0) hs0 rfl (by rw [hheap]; exact hcellK) hknown hv0]
    jvm_step Y₀.here [hexec, hbytes, d4, Value.isRef]
    jvm_step Y₀.here [hexec, hbytes, d5, invokestatic.wp_ready (e := e) (s := U) (m := t) (k := kt) (meth := metht) (args := [v0, .ref b]) (rest := []) (f := { method := ⟨cK, 1⟩, pc := 5, locals := #[.val (.ref q), .val (.ref b)], stack := [.ref b, v0], locked := none }) hs (by rw [← hU]; exact href) (by rw [hvm]; exact hready) (by rw [hvm]; exact hkt) (by rw [hvm]; exact hmt) hpoly hstatic hinit hpar rfl]
    intro acts
    rw [doInvoke_state]
    exact htg
  rcases hK ⟨cK, 1⟩ methk ck ⟨U, [], 0, 0⟩ { method := ⟨cK, 1⟩, pc := 5, locals := #[.val (.ref q), .val (.ref b)], stack := [], locked := none } (.invokestatic mi) t [v0, .ref b].toArray Y₀ rfl (by rw [hml]; rfl) (by rw [hbytes]; exact d5) (Nat.le_of_ble_eq_true rfl) hnU ⟨Nat.le_of_eq (Nat.zero_add _), Nat.le_of_eq (Nat.zero_add _), hPc U hheap hvm⟩ with ⟨v, ⟨U', l2, c2, s2⟩, Y', ⟨g', mk', t1, L, e1, e2, hq, h1, hL, h2, h3⟩, st⟩ | ⟨z, ⟨U', l2, c2, s2⟩, Y', ⟨g', mk', t1, L, E, ce, e1, e2, hq, hce, hcv, hcl, h1, hL, h2, h3⟩, st⟩
  · dsimp only [Pt.U, Pt.locs, Pt.cells, Pt.slots] at Y' e1 e2 h1 h2 h3 st hq
    subst h1; subst h2; subst h3
    obtain ⟨r, rfl⟩ := hQi _ _ _ _ hq
    obtain ⟨fs, hleave, -, hended, hWe, hsame⟩ := Y'.leave (v := some (.int r)) (fun h => by rw [hretk] at h; cases h) hlk
    obtain ⟨T', X', hW', -, ht⟩ := X.outOf hg hdg hended hWe hsame
    have hT'h : T'.heap = U'.heap := by
      have := congrArg State.heap ht
      exact this.symm
    have hT'v : T'.vm = U'.vm := by
      have := congrArg State.vm ht
      exact this.symm
    refine Or.inl ⟨r, _, t1, T', l2, ?_, ?_, hL, hT'h.trans e1, hT'v.trans e2, hq, fun acts => ?_⟩
    · exact hheap
    · rw [Nat.zero_add, Nat.zero_add] at X'
      exact X'
    · rw [hin acts]
      show Steps p.tables e below _ (T'.setTop { g with pc := g.pc + len, stack := (some (Value.int r)).toList ++ g.stack })
      rw [← ht]
      refine Steps_weak (mid := [.java g]) (go _ (st.trans ?_))
      show Steps p.tables e (.java g :: below) (U'.setTop { method := ⟨cK, 1⟩, pc := 8, locals := #[.val (.ref q), .val (.ref b)], stack := [.int r], locked := none }) _
      jvm_step Y'.here [Y'.here.top, hexec, hbytes, d8, (show U'.vm.method? ⟨cK, 1⟩ = some methk from Y'.method'), hretk, narrow]
      intro acts''
      rw [hleave { method := ⟨cK, 1⟩, pc := 8, locals := #[.val (.ref q), .val (.ref b)], stack := [], locked := none } acts'' rfl rfl rfl]
      exact Steps.refl _
  · dsimp only [Pt.U, Pt.locs, Pt.cells, Pt.slots] at Y' e1 e2 h1 h2 h3 st hq hcl
    subst h1; subst h2; subst h3
    obtain ⟨st1, -, hended, hWe, hsame⟩ := Y'.leaveThrown z (g := { method := ⟨cK, 1⟩, pc := 5, locals := #[.val (.ref q), .val (.ref b)], stack := [], locked := none }) rfl rfl rfl (by rw [hnt]; intro x hx; cases hx) hlk
    obtain ⟨T', X', hW', -, ht⟩ := X.outOfThrown hg hended hWe hsame
    have hT'h : T'.heap = U'.heap := by
      have := congrArg State.heap ht
      exact this.symm
    have hT'v : T'.vm = U'.vm := by
      have := congrArg State.vm ht
      exact this.symm
    refine Or.inr ⟨z, _, t1, T', l2, E, ce, ?_, ?_, hL, hT'h.trans e1, hT'v.trans e2, hq, hce, hcv, ?_, fun acts => ?_⟩
    · exact hheap
    · rw [Nat.zero_add, Nat.zero_add] at X'
      exact X'
    · rw [hvm] at hcl
      exact hcl
    · rw [hin acts, ← ht]
      exact Steps_weak (mid := [.java g]) (go _ (st.trans st1))
set_option maxHeartbeats 4000000 in
theorem lam_call2 {p : Program} {l : Launch} {e : Env} {R : Room} {s : State} {m : MethodId} {args : Array Value} {below : List Frame} {meth : Method} {c : Code} {T : State} {locs : List Loc} {cells slots : Nat} (X : Stand p l e R s m args below meth c T locs cells slots) (hexec : p.tables.exec = Jvm.exec) {g : JFrame} (hg : g.method = m) (hsize : g.locals.size = c.maxLocals) {ig : Instr} {len : Nat} (hdg : decode c.code g.pc = .ok (ig, len))
    {cK : ClassId} {methk : Method} {ck : Code} {cc : ByteArray} {mi f0 f1 : Nat} (hmk : T.vm.method? ⟨cK, 1⟩ = some methk) (hck : methk.code = some ck) (hbytes : ck.code = cc) (hml : ck.maxLocals = 2) (hlk : methk.locks = false) (hpk : T.plainMethod ⟨cK, 1⟩) (hretk : methk.sig.returnType = some .int) (hnt : ck.exceptionTable = #[]) (d0 : decode cc 0 = .ok (.aload_n 0, 1)) (d1 : decode cc 1 = .ok (.getfield f0, 3)) (d4 : decode cc 4 = .ok (.aload_n 0, 1)) (d5 : decode cc 5 = .ok (.getfield f1, 3)) (d8 : decode cc 8 = .ok (.aload_n 1, 1)) (d9 : decode cc 9 = .ok (.invokestatic mi, 3)) (d12 : decode cc 12 = .ok (.ireturn, 1))
    {q b : Addr} {cellK : Cell} {v0 v1 : Value} {g0 g1 : Field} (hcellK : T.heap[q]? = some cellK) (hknown : cellK.vm ≠ .unknown) (hf0 : T.vm.fieldReady cK f0 cK g0) (hs0 : g0.isStatic = false) (hv0 : cellK.slots[g0.slot]? = some v0) (hf1 : T.vm.fieldReady cK f1 cK g1) (hs1 : g1.isStatic = false) (hv1 : cellK.slots[g1.slot]? = some v1)
    {t : MethodId} {kt : Class} {metht : Method} (href : plainRef T e cK mi) (hready : T.vm.methodReady cK mi t) (hkt : T.vm.classes[t.cls]? = some kt) (hmt : T.vm.method? t = some metht) (hpoly : signaturePolymorphic kt metht = false) (hstatic : metht.isStatic = true) (hinit : kt.init = .initialized) (hpar : 3 = metht.sig.parameters.length)
    {y : MethodName} (hyn : T.methodNamed? y = some t) {ws : List Cond} {rm : Room} {Pc : Array Value → State → Prop} {Qc : Array Value → State → Outcome → State → Prop} {XC : String → Addr → State → State → Prop} {mc ms : Nat} {free : Addr → Prop} {bytes : ByteArray} {maxL : Nat} {ret : Option FieldType}
    (hM : vx_Met l y ws rm Pc Qc XC mc ms free) (hbl : FrameBlind Pc) (hrc : rm.cells = mc) (hrs : rm.slots = ms) (hws : ∀ w ∈ ws, ∀ a' U, T.WarmedH U.vm → w.before a' U = true) (hcw : Cond.code y bytes maxL ret ∈ ws) (hini : ∀ a' U, T.WarmedH U.vm → (Cond.initialized y.cls).before a' U = true)
    (hQi : ∀ a st v t, Qc a st (.returned v) t → ∃ r : Int32, v = some (.int r))
    (hW : 2 * g.monitorRoom + (g.stack.map fun v => v.category).sum ≤ 8) (hfr : rm.frames + 2 ≤ R.frames) (hlo : 8 + 13 + (8 + (maxL + 11) + rm.locals) ≤ R.locals) (hcells : cells + mc ≤ R.cells) (hslots : slots + ms ≤ R.slots)
    (hPc : ∀ U : State, U.heap = T.heap → U.vm = T.vm → Pc [v0, v1, .ref b].toArray U) :
    (∃ (r : Int32) (st₀ t1 T' : State) (L : List Loc), st₀.heap = T.heap ∧ Stand p l e R s m args below meth c T' (locs ++ L) (cells + mc) (slots + ms) ∧ (∀ z ∈ L, free z.base) ∧ T'.heap = t1.heap ∧ T'.vm = t1.vm ∧ Qc [v0, v1, .ref b].toArray st₀ (.returned (some (.int r))) t1 ∧
      ∀ acts, Steps p.tables e below (doInvoke e (T.setTop g) acts ⟨cK, 1⟩ #[.ref q, .ref b]).1 (T'.setTop { g with pc := g.pc + len, stack := .int r :: g.stack })) ∨
    (∃ (z : Addr) (st₀ t1 T' : State) (L : List Loc) (E : String) (ce : Cell), st₀.heap = T.heap ∧ Stand p l e R s m args below meth c T' (locs ++ L) (cells + mc) (slots + ms) ∧ (∀ z ∈ L, free z.base) ∧ T'.heap = t1.heap ∧ T'.vm = t1.vm ∧ XC E z st₀ t1 ∧ t1.heap[z]? = some ce ∧ ce.vm = .none ∧ T.vm.findClass E = some ce.cls ∧
      ∀ acts, Steps p.tables e below (doInvoke e (T.setTop g) acts ⟨cK, 1⟩ #[.ref q, .ref b]).1 ((T'.setTop g).pushFrame (.throwing z))) := by
  obtain ⟨Y₀, hin⟩ := X.into hg hsize hdg #[.ref q, .ref b] (R' := { frames := rm.frames + 1, cells := mc, slots := ms, locals := 8 + (maxL + 11) + rm.locals }) hmk hck hlk hpk hfr (by rw [hml]; show 2 * g.monitorRoom + (g.stack.map fun v => v.category).sum + (2 + 11) + (8 + (maxL + 11) + rm.locals) ≤ R.locals; omega) hcells hslots
  generalize hU : (T.setTop g).pushFrame (.java (entryFrame ⟨cK, 1⟩ #[.ref q, .ref b] ck.maxLocals)) = U at Y₀ hin
  have hvm : U.vm = T.vm := by rw [← hU]; rfl
  have hheap : U.heap = T.heap := by rw [← hU]; rfl
  have hs : U.topJava?.isSome := Y₀.here.top
  have hK : vx_Back l _ p e (.java g :: below) (T.calling g ⟨cK, 1⟩ #[.ref q, .ref b]) #[.ref q, .ref b] y 3 8 (PreOf _ mc ms Pc) (PostOf Qc mc ms free) (vx_Post XC mc ms free) :=
    vx_back (R := { frames := rm.frames + 1, cells := mc, slots := ms, locals := 8 + (maxL + 11) + rm.locals }) (bytes := bytes) (maxL := maxL) (ret := ret) hM hbl hrc hrs (Nat.le_refl _) (Nat.le_refl _) (fun w hw a' V hV => hws w hw a' V hV) hcw (fun a' V hV => hini a' V hV)
  have hnU : U.methodNamed? y = some t := by
    have := State.methodNamed?_setVm (s := T) (vm' := U.vm) (by rw [hvm]; exact Vm.Alike.refl _) y
    rw [hyn] at this
    exact this
  have hloc : entryFrame ⟨cK, 1⟩ #[.ref q, .ref b] ck.maxLocals = { method := ⟨cK, 1⟩, pc := 0, locals := #[.val (.ref q), .val (.ref b)], stack := [], locked := none } := by rw [hml]; rfl
  have go : ∀ tg, Steps p.tables e (.java g :: below) (doInvoke e (U.setTop { method := ⟨cK, 1⟩, pc := 9, locals := #[.val (.ref q), .val (.ref b)], stack := [], locked := none }) [] t [v0, v1, .ref b].toArray).1 tg → Steps p.tables e (.java g :: below) (U.setTop (entryFrame ⟨cK, 1⟩ #[.ref q, .ref b] ck.maxLocals)) tg := by
    intro tg htg
    rw [hloc]
    jvm_step Y₀.here [hexec, hbytes, d0, Value.isRef]
    jvm_step Y₀.here [hexec, hbytes, d1, getfield.wp_ready (e := e) (s := U) (c := cK) (field := g0) (a := q) (rest := []) (cell := cellK) (v := v0) (f := { method := ⟨cK, 1⟩, pc := 1, locals := #[.val (.ref q), .val (.ref b)], stack := .ref q :: [], locked := none }) hs (by rw [hvm]; exact hf0) hs0 rfl (by rw [hheap]; exact hcellK) hknown hv0]
    jvm_step Y₀.here [hexec, hbytes, d4, Value.isRef]
    jvm_step Y₀.here [hexec, hbytes, d5, getfield.wp_ready (e := e) (s := U) (c := cK) (field := g1) (a := q) (rest := [v0]) (cell := cellK) (v := v1) (f := { method := ⟨cK, 1⟩, pc := 5, locals := #[.val (.ref q), .val (.ref b)], stack := .ref q :: [v0], locked := none }) hs (by rw [hvm]; exact hf1) hs1 rfl (by rw [hheap]; exact hcellK) hknown hv1]
    jvm_step Y₀.here [hexec, hbytes, d8, Value.isRef]
    jvm_step Y₀.here [hexec, hbytes, d9, invokestatic.wp_ready (e := e) (s := U) (m := t) (k := kt) (meth := metht) (args := [v0, v1, .ref b]) (rest := []) (f := { method := ⟨cK, 1⟩, pc := 9, locals := #[.val (.ref q), .val (.ref b)], stack := [.ref b, v1, v0], locked := none }) hs (by rw [← hU]; exact href) (by rw [hvm]; exact hready) (by rw [hvm]; exact hkt) (by rw [hvm]; exact hmt) hpoly hstatic hinit hpar rfl]
    intro acts
    rw [doInvoke_state]
    exact htg
  rcases hK ⟨cK, 1⟩ methk ck ⟨U, [], 0, 0⟩ { method := ⟨cK, 1⟩, pc := 9, locals := #[.val (.ref q), .val (.ref b)], stack := [], locked := none } (.invokestatic mi) t [v0, v1, .ref b].toArray Y₀ rfl (by rw [hml]; rfl) (by rw [hbytes]; exact d9) (Nat.le_of_ble_eq_true rfl) hnU ⟨Nat.le_of_eq (Nat.zero_add _), Nat.le_of_eq (Nat.zero_add _), hPc U hheap hvm⟩ with ⟨v, ⟨U', l2, c2, s2⟩, Y', ⟨g', mk', t1, L, e1, e2, hq, h1, hL, h2, h3⟩, st⟩ | ⟨z, ⟨U', l2, c2, s2⟩, Y', ⟨g', mk', t1, L, E, ce, e1, e2, hq, hce, hcv, hcl, h1, hL, h2, h3⟩, st⟩
  · dsimp only [Pt.U, Pt.locs, Pt.cells, Pt.slots] at Y' e1 e2 h1 h2 h3 st hq
    subst h1; subst h2; subst h3
    obtain ⟨r, rfl⟩ := hQi _ _ _ _ hq
    obtain ⟨fs, hleave, -, hended, hWe, hsame⟩ := Y'.leave (v := some (.int r)) (fun h => by rw [hretk] at h; cases h) hlk
    obtain ⟨T', X', hW', -, ht⟩ := X.outOf hg hdg hended hWe hsame
    have hT'h : T'.heap = U'.heap := by
      have := congrArg State.heap ht
      exact this.symm
    have hT'v : T'.vm = U'.vm := by
      have := congrArg State.vm ht
      exact this.symm
    refine Or.inl ⟨r, _, t1, T', l2, ?_, ?_, hL, hT'h.trans e1, hT'v.trans e2, hq, fun acts => ?_⟩
    · exact hheap
    · rw [Nat.zero_add, Nat.zero_add] at X'
      exact X'
    · rw [hin acts]
      show Steps p.tables e below _ (T'.setTop { g with pc := g.pc + len, stack := (some (Value.int r)).toList ++ g.stack })
      rw [← ht]
      refine Steps_weak (mid := [.java g]) (go _ (st.trans ?_))
      show Steps p.tables e (.java g :: below) (U'.setTop { method := ⟨cK, 1⟩, pc := 12, locals := #[.val (.ref q), .val (.ref b)], stack := [.int r], locked := none }) _
      jvm_step Y'.here [Y'.here.top, hexec, hbytes, d12, (show U'.vm.method? ⟨cK, 1⟩ = some methk from Y'.method'), hretk, narrow]
      intro acts''
      rw [hleave { method := ⟨cK, 1⟩, pc := 12, locals := #[.val (.ref q), .val (.ref b)], stack := [], locked := none } acts'' rfl rfl rfl]
      exact Steps.refl _
  · dsimp only [Pt.U, Pt.locs, Pt.cells, Pt.slots] at Y' e1 e2 h1 h2 h3 st hq hcl
    subst h1; subst h2; subst h3
    obtain ⟨st1, -, hended, hWe, hsame⟩ := Y'.leaveThrown z (g := { method := ⟨cK, 1⟩, pc := 9, locals := #[.val (.ref q), .val (.ref b)], stack := [], locked := none }) rfl rfl rfl (by rw [hnt]; intro x hx; cases hx) hlk
    obtain ⟨T', X', hW', -, ht⟩ := X.outOfThrown hg hended hWe hsame
    have hT'h : T'.heap = U'.heap := by
      have := congrArg State.heap ht
      exact this.symm
    have hT'v : T'.vm = U'.vm := by
      have := congrArg State.vm ht
      exact this.symm
    refine Or.inr ⟨z, _, t1, T', l2, E, ce, ?_, ?_, hL, hT'h.trans e1, hT'v.trans e2, hq, hce, hcv, ?_, fun acts => ?_⟩
    · exact hheap
    · rw [Nat.zero_add, Nat.zero_add] at X'
      exact X'
    · rw [hvm] at hcl
      exact hcl
    · rw [hin acts, ← ht]
      exact Steps_weak (mid := [.java g]) (go _ (st.trans st1))
set_option maxHeartbeats 4000000 in
theorem lam_call3 {p : Program} {l : Launch} {e : Env} {R : Room} {s : State} {m : MethodId} {args : Array Value} {below : List Frame} {meth : Method} {c : Code} {T : State} {locs : List Loc} {cells slots : Nat} (X : Stand p l e R s m args below meth c T locs cells slots) (hexec : p.tables.exec = Jvm.exec) {g : JFrame} (hg : g.method = m) (hsize : g.locals.size = c.maxLocals) {ig : Instr} {len : Nat} (hdg : decode c.code g.pc = .ok (ig, len))
    {cK : ClassId} {methk : Method} {ck : Code} {cc : ByteArray} {mi f0 f1 f2 : Nat} (hmk : T.vm.method? ⟨cK, 1⟩ = some methk) (hck : methk.code = some ck) (hbytes : ck.code = cc) (hml : ck.maxLocals = 2) (hlk : methk.locks = false) (hpk : T.plainMethod ⟨cK, 1⟩) (hretk : methk.sig.returnType = some .int) (hnt : ck.exceptionTable = #[]) (d0 : decode cc 0 = .ok (.aload_n 0, 1)) (d1 : decode cc 1 = .ok (.getfield f0, 3)) (d4 : decode cc 4 = .ok (.aload_n 0, 1)) (d5 : decode cc 5 = .ok (.getfield f1, 3)) (d8 : decode cc 8 = .ok (.aload_n 0, 1)) (d9 : decode cc 9 = .ok (.getfield f2, 3)) (d12 : decode cc 12 = .ok (.aload_n 1, 1)) (d13 : decode cc 13 = .ok (.invokestatic mi, 3)) (d16 : decode cc 16 = .ok (.ireturn, 1))
    {q b : Addr} {cellK : Cell} {v0 v1 v2 : Value} {g0 g1 g2 : Field} (hcellK : T.heap[q]? = some cellK) (hknown : cellK.vm ≠ .unknown) (hf0 : T.vm.fieldReady cK f0 cK g0) (hs0 : g0.isStatic = false) (hv0 : cellK.slots[g0.slot]? = some v0) (hf1 : T.vm.fieldReady cK f1 cK g1) (hs1 : g1.isStatic = false) (hv1 : cellK.slots[g1.slot]? = some v1) (hf2 : T.vm.fieldReady cK f2 cK g2) (hs2 : g2.isStatic = false) (hv2 : cellK.slots[g2.slot]? = some v2)
    {t : MethodId} {kt : Class} {metht : Method} (href : plainRef T e cK mi) (hready : T.vm.methodReady cK mi t) (hkt : T.vm.classes[t.cls]? = some kt) (hmt : T.vm.method? t = some metht) (hpoly : signaturePolymorphic kt metht = false) (hstatic : metht.isStatic = true) (hinit : kt.init = .initialized) (hpar : 4 = metht.sig.parameters.length)
    {y : MethodName} (hyn : T.methodNamed? y = some t) {ws : List Cond} {rm : Room} {Pc : Array Value → State → Prop} {Qc : Array Value → State → Outcome → State → Prop} {XC : String → Addr → State → State → Prop} {mc ms : Nat} {free : Addr → Prop} {bytes : ByteArray} {maxL : Nat} {ret : Option FieldType}
    (hM : vx_Met l y ws rm Pc Qc XC mc ms free) (hbl : FrameBlind Pc) (hrc : rm.cells = mc) (hrs : rm.slots = ms) (hws : ∀ w ∈ ws, ∀ a' U, T.WarmedH U.vm → w.before a' U = true) (hcw : Cond.code y bytes maxL ret ∈ ws) (hini : ∀ a' U, T.WarmedH U.vm → (Cond.initialized y.cls).before a' U = true)
    (hQi : ∀ a st v t, Qc a st (.returned v) t → ∃ r : Int32, v = some (.int r))
    (hW : 2 * g.monitorRoom + (g.stack.map fun v => v.category).sum ≤ 8) (hfr : rm.frames + 2 ≤ R.frames) (hlo : 8 + 13 + (8 + (maxL + 11) + rm.locals) ≤ R.locals) (hcells : cells + mc ≤ R.cells) (hslots : slots + ms ≤ R.slots)
    (hPc : ∀ U : State, U.heap = T.heap → U.vm = T.vm → Pc [v0, v1, v2, .ref b].toArray U) :
    (∃ (r : Int32) (st₀ t1 T' : State) (L : List Loc), st₀.heap = T.heap ∧ Stand p l e R s m args below meth c T' (locs ++ L) (cells + mc) (slots + ms) ∧ (∀ z ∈ L, free z.base) ∧ T'.heap = t1.heap ∧ T'.vm = t1.vm ∧ Qc [v0, v1, v2, .ref b].toArray st₀ (.returned (some (.int r))) t1 ∧
      ∀ acts, Steps p.tables e below (doInvoke e (T.setTop g) acts ⟨cK, 1⟩ #[.ref q, .ref b]).1 (T'.setTop { g with pc := g.pc + len, stack := .int r :: g.stack })) ∨
    (∃ (z : Addr) (st₀ t1 T' : State) (L : List Loc) (E : String) (ce : Cell), st₀.heap = T.heap ∧ Stand p l e R s m args below meth c T' (locs ++ L) (cells + mc) (slots + ms) ∧ (∀ z ∈ L, free z.base) ∧ T'.heap = t1.heap ∧ T'.vm = t1.vm ∧ XC E z st₀ t1 ∧ t1.heap[z]? = some ce ∧ ce.vm = .none ∧ T.vm.findClass E = some ce.cls ∧
      ∀ acts, Steps p.tables e below (doInvoke e (T.setTop g) acts ⟨cK, 1⟩ #[.ref q, .ref b]).1 ((T'.setTop g).pushFrame (.throwing z))) := by
  obtain ⟨Y₀, hin⟩ := X.into hg hsize hdg #[.ref q, .ref b] (R' := { frames := rm.frames + 1, cells := mc, slots := ms, locals := 8 + (maxL + 11) + rm.locals }) hmk hck hlk hpk hfr (by rw [hml]; show 2 * g.monitorRoom + (g.stack.map fun v => v.category).sum + (2 + 11) + (8 + (maxL + 11) + rm.locals) ≤ R.locals; omega) hcells hslots
  generalize hU : (T.setTop g).pushFrame (.java (entryFrame ⟨cK, 1⟩ #[.ref q, .ref b] ck.maxLocals)) = U at Y₀ hin
  have hvm : U.vm = T.vm := by rw [← hU]; rfl
  have hheap : U.heap = T.heap := by rw [← hU]; rfl
  have hs : U.topJava?.isSome := Y₀.here.top
  have hK : vx_Back l _ p e (.java g :: below) (T.calling g ⟨cK, 1⟩ #[.ref q, .ref b]) #[.ref q, .ref b] y 3 8 (PreOf _ mc ms Pc) (PostOf Qc mc ms free) (vx_Post XC mc ms free) :=
    vx_back (R := { frames := rm.frames + 1, cells := mc, slots := ms, locals := 8 + (maxL + 11) + rm.locals }) (bytes := bytes) (maxL := maxL) (ret := ret) hM hbl hrc hrs (Nat.le_refl _) (Nat.le_refl _) (fun w hw a' V hV => hws w hw a' V hV) hcw (fun a' V hV => hini a' V hV)
  have hnU : U.methodNamed? y = some t := by
    have := State.methodNamed?_setVm (s := T) (vm' := U.vm) (by rw [hvm]; exact Vm.Alike.refl _) y
    rw [hyn] at this
    exact this
  have hloc : entryFrame ⟨cK, 1⟩ #[.ref q, .ref b] ck.maxLocals = { method := ⟨cK, 1⟩, pc := 0, locals := #[.val (.ref q), .val (.ref b)], stack := [], locked := none } := by rw [hml]; rfl
  have go : ∀ tg, Steps p.tables e (.java g :: below) (doInvoke e (U.setTop { method := ⟨cK, 1⟩, pc := 13, locals := #[.val (.ref q), .val (.ref b)], stack := [], locked := none }) [] t [v0, v1, v2, .ref b].toArray).1 tg → Steps p.tables e (.java g :: below) (U.setTop (entryFrame ⟨cK, 1⟩ #[.ref q, .ref b] ck.maxLocals)) tg := by
    intro tg htg
    rw [hloc]
    jvm_step Y₀.here [hexec, hbytes, d0, Value.isRef]
    jvm_step Y₀.here [hexec, hbytes, d1, getfield.wp_ready (e := e) (s := U) (c := cK) (field := g0) (a := q) (rest := []) (cell := cellK) (v := v0) (f := { method := ⟨cK, 1⟩, pc := 1, locals := #[.val (.ref q), .val (.ref b)], stack := .ref q :: [], locked := none }) hs (by rw [hvm]; exact hf0) hs0 rfl (by rw [hheap]; exact hcellK) hknown hv0]
    jvm_step Y₀.here [hexec, hbytes, d4, Value.isRef]
    jvm_step Y₀.here [hexec, hbytes, d5, getfield.wp_ready (e := e) (s := U) (c := cK) (field := g1) (a := q) (rest := [v0]) (cell := cellK) (v := v1) (f := { method := ⟨cK, 1⟩, pc := 5, locals := #[.val (.ref q), .val (.ref b)], stack := .ref q :: [v0], locked := none }) hs (by rw [hvm]; exact hf1) hs1 rfl (by rw [hheap]; exact hcellK) hknown hv1]
    jvm_step Y₀.here [hexec, hbytes, d8, Value.isRef]
    jvm_step Y₀.here [hexec, hbytes, d9, getfield.wp_ready (e := e) (s := U) (c := cK) (field := g2) (a := q) (rest := [v1, v0]) (cell := cellK) (v := v2) (f := { method := ⟨cK, 1⟩, pc := 9, locals := #[.val (.ref q), .val (.ref b)], stack := .ref q :: [v1, v0], locked := none }) hs (by rw [hvm]; exact hf2) hs2 rfl (by rw [hheap]; exact hcellK) hknown hv2]
    jvm_step Y₀.here [hexec, hbytes, d12, Value.isRef]
    jvm_step Y₀.here [hexec, hbytes, d13, invokestatic.wp_ready (e := e) (s := U) (m := t) (k := kt) (meth := metht) (args := [v0, v1, v2, .ref b]) (rest := []) (f := { method := ⟨cK, 1⟩, pc := 13, locals := #[.val (.ref q), .val (.ref b)], stack := [.ref b, v2, v1, v0], locked := none }) hs (by rw [← hU]; exact href) (by rw [hvm]; exact hready) (by rw [hvm]; exact hkt) (by rw [hvm]; exact hmt) hpoly hstatic hinit hpar rfl]
    intro acts
    rw [doInvoke_state]
    exact htg
  rcases hK ⟨cK, 1⟩ methk ck ⟨U, [], 0, 0⟩ { method := ⟨cK, 1⟩, pc := 13, locals := #[.val (.ref q), .val (.ref b)], stack := [], locked := none } (.invokestatic mi) t [v0, v1, v2, .ref b].toArray Y₀ rfl (by rw [hml]; rfl) (by rw [hbytes]; exact d13) (Nat.le_of_ble_eq_true rfl) hnU ⟨Nat.le_of_eq (Nat.zero_add _), Nat.le_of_eq (Nat.zero_add _), hPc U hheap hvm⟩ with ⟨v, ⟨U', l2, c2, s2⟩, Y', ⟨g', mk', t1, L, e1, e2, hq, h1, hL, h2, h3⟩, st⟩ | ⟨z, ⟨U', l2, c2, s2⟩, Y', ⟨g', mk', t1, L, E, ce, e1, e2, hq, hce, hcv, hcl, h1, hL, h2, h3⟩, st⟩
  · dsimp only [Pt.U, Pt.locs, Pt.cells, Pt.slots] at Y' e1 e2 h1 h2 h3 st hq
    subst h1; subst h2; subst h3
    obtain ⟨r, rfl⟩ := hQi _ _ _ _ hq
    obtain ⟨fs, hleave, -, hended, hWe, hsame⟩ := Y'.leave (v := some (.int r)) (fun h => by rw [hretk] at h; cases h) hlk
    obtain ⟨T', X', hW', -, ht⟩ := X.outOf hg hdg hended hWe hsame
    have hT'h : T'.heap = U'.heap := by
      have := congrArg State.heap ht
      exact this.symm
    have hT'v : T'.vm = U'.vm := by
      have := congrArg State.vm ht
      exact this.symm
    refine Or.inl ⟨r, _, t1, T', l2, ?_, ?_, hL, hT'h.trans e1, hT'v.trans e2, hq, fun acts => ?_⟩
    · exact hheap
    · rw [Nat.zero_add, Nat.zero_add] at X'
      exact X'
    · rw [hin acts]
      show Steps p.tables e below _ (T'.setTop { g with pc := g.pc + len, stack := (some (Value.int r)).toList ++ g.stack })
      rw [← ht]
      refine Steps_weak (mid := [.java g]) (go _ (st.trans ?_))
      show Steps p.tables e (.java g :: below) (U'.setTop { method := ⟨cK, 1⟩, pc := 16, locals := #[.val (.ref q), .val (.ref b)], stack := [.int r], locked := none }) _
      jvm_step Y'.here [Y'.here.top, hexec, hbytes, d16, (show U'.vm.method? ⟨cK, 1⟩ = some methk from Y'.method'), hretk, narrow]
      intro acts''
      rw [hleave { method := ⟨cK, 1⟩, pc := 16, locals := #[.val (.ref q), .val (.ref b)], stack := [], locked := none } acts'' rfl rfl rfl]
      exact Steps.refl _
  · dsimp only [Pt.U, Pt.locs, Pt.cells, Pt.slots] at Y' e1 e2 h1 h2 h3 st hq hcl
    subst h1; subst h2; subst h3
    obtain ⟨st1, -, hended, hWe, hsame⟩ := Y'.leaveThrown z (g := { method := ⟨cK, 1⟩, pc := 13, locals := #[.val (.ref q), .val (.ref b)], stack := [], locked := none }) rfl rfl rfl (by rw [hnt]; intro x hx; cases hx) hlk
    obtain ⟨T', X', hW', -, ht⟩ := X.outOfThrown hg hended hWe hsame
    have hT'h : T'.heap = U'.heap := by
      have := congrArg State.heap ht
      exact this.symm
    have hT'v : T'.vm = U'.vm := by
      have := congrArg State.vm ht
      exact this.symm
    refine Or.inr ⟨z, _, t1, T', l2, E, ce, ?_, ?_, hL, hT'h.trans e1, hT'v.trans e2, hq, hce, hcv, ?_, fun acts => ?_⟩
    · exact hheap
    · rw [Nat.zero_add, Nat.zero_add] at X'
      exact X'
    · rw [hvm] at hcl
      exact hcl
    · rw [hin acts, ← ht]
      exact Steps_weak (mid := [.java g]) (go _ (st.trans st1))
