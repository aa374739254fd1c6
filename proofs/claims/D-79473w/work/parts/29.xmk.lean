set_option maxRecDepth 100000
set_option maxHeartbeats 2000000 in
theorem xm_ctor {p : Program} {l : Launch} {e : Env} {R : Room} {s : State} {m₀ : MethodId} {args : Array Value} {below : List Frame} {meth : Method} {c : Code} {W : State} {locs : List Loc} {cells slots : Nat} (X : Stand p l e R s m₀ args below meth c W locs cells slots) (hexec : p.tables.exec = Jvm.exec) (htr : e.platform.stackTraces = false) {own cls : String} {names : List String} {ic : Nat}
    (hown : s.vm.findClass own = some m₀.cls) (hcls : Bundle.fit cls = true) (hnames : ∀ n ∈ names, Bundle.fit n = true)
    (h : ∀ a ∈ Bundle.ownAtoms0 own ic cls names, a.before args s = true)
    {A : Nat → Prop} (hU9 : vx_L Bundle.tN "UNASSIGNED_STACK" Bundle.steD A s s.heap) (hlocs : ∀ x ∈ locs, A x.base)
    {a : Addr} {cX : ClassId} {kX : Class} (hfoundX : s.vm.findClass cls = some cX) (hkX : s.vm.classes[cX]? = some kX) (hcell : W.heap[a]? = some (freshCell cX kX)) (hnew : s.heap.size ≤ a)
    {g : JFrame} (hg : g.method = m₀) (hsize : g.locals.size = c.maxLocals) {rest : List Value} (hstack : g.stack = .ref a :: .ref a :: rest)
    (hd6 : decode c.code g.pc = .ok (.invokespecial ic, 3))
    (hRframes : names.length + 3 < R.frames) (hRlocals : 2 * g.monitorRoom + ((Value.ref a :: rest).map fun v => v.category).sum + (13 * (names.length + 1) + 41) ≤ R.locals) :
    ∃ (vm' : Vm) (ce : Cell) (L : List Loc), Stand p l e R s m₀ args below meth c ((W.setVm vm').setCell a ce) (locs ++ L) cells slots ∧ (∀ z ∈ L, z.base = a) ∧ ce.vm = .none ∧ s.vm.findClass cls = some ce.cls ∧
      ∀ target, Steps p.tables e below (((W.setVm vm').setCell a ce).setTop { g with pc := g.pc + 3, stack := .ref a :: rest }) target → Steps p.tables e below (W.setTop g) target := by
  have howns : e.platform.frameOwnsMonitors = true := by rw [X.admits.platform]
  have hfin : e.platform.finalization = false := by rw [X.admits.platform]
  have hpl : e.platform.magicAccessors = ({} : Platform).magicAccessors := by rw [X.admits.platform]
  have a' : ∀ x, x ∈ Bundle.ownAtoms0 own ic cls names → x.holds args s none s [] = true := fun x hx => h x hx
  obtain ⟨T, Z, L, LZ, Y⟩ := ThrowableC.of_atoms (args := args) howns hfin hpl (fun x hx => h x (by simp [Bundle.ownAtoms0, hx]))
  obtain ⟨P1, Ps, hlen, L1, hL, hP1m, hlink1, hlink⟩ := Bundle.chain0 (args := args) hpl Y.init0 names cls hcls hnames (fun x hx => h x (by simp [Bundle.ownAtoms0, hx]))
  have hfound : s.vm.findClass cls = some P1.m.cls := findClass_of_methodNamed hP1m
  cases Option.some.inj (hfoundX.symm.trans hfound)
  obtain ⟨c1, kX', hc1, hk, hord, -, -, hn6⟩ := Cond.instantiable_spec (a' (.instantiable cls 6) (by simp [Bundle.ownAtoms0]))
  cases Option.some.inj (hc1.symm.trans hfound)
  cases Option.some.inj (hkX.symm.trans hk)
  have hsel0 : selectMethod e.platform s.vm P1.m.cls T.fill0 = .method T.fill0 := by
    obtain ⟨c2, r2, m2, q1, q2, q3, q4, -⟩ := Cond.selects_spec (a' (.selects cls Bundle.tFill0 Bundle.tFill0) (by simp [Bundle.ownAtoms0]))
    cases Option.some.inj (q1.symm.trans hfound)
    cases Option.some.inj (q2.symm.trans (State.methodFound?_of_named Y.fill0 (by decide)))
    cases Option.some.inj (q3.symm.trans Y.fill0)
    rw [Launch.admits_selectMethod X.admits]; exact q4
  have hselF : selectMethod e.platform s.vm P1.m.cls T.fill = .method T.fill := by
    obtain ⟨c2, r2, m2, q1, q2, q3, q4, -⟩ := Cond.selects_spec (a' (.selects cls Bundle.tFill Bundle.tFill) (by simp [Bundle.ownAtoms0]))
    cases Option.some.inj (q1.symm.trans hfound)
    cases Option.some.inj (q2.symm.trans (State.methodFound?_of_named Y.fill (by decide)))
    cases Option.some.inj (q3.symm.trans Y.fill)
    rw [Launch.admits_selectMethod X.admits]; exact q4
  obtain ⟨cellS0, hcS0, hiss⟩ := Y.statics
  obtain ⟨u0, hu0⟩ := Cond.staticRefV Y.unassigned L.unassignedStatic L.statics hcS0 hiss (a' (.isRef (.static Bundle.tN "UNASSIGNED_STACK" Bundle.steD)) (by simp [Bundle.ownAtoms0]))
  obtain ⟨sen, hsen⟩ := Cond.staticRefV Y.sentinel L.sentinelStatic L.statics hcS0 hiss (a' (.isRef (.static Bundle.tN "SUPPRESSED_SENTINEL" Bundle.listD)) (by simp [Bundle.ownAtoms0]))
  obtain ⟨ci198, i198, fB, hk198, hg198, ha198, hsB, -, hnB, htB, hffB⟩ := Cond.ownField (t := .object "java/lang/Object") Y.found L.cls (by decide +kernel) (a' (.fieldLink Bundle.tN 198 Bundle.tN "backtrace" "Ljava/lang/Object;") (by simp [Bundle.ownAtoms0])) (a' (.lays Bundle.tN Bundle.tN "backtrace" "Ljava/lang/Object;") (by simp [Bundle.ownAtoms0])) e.platform hpl
  obtain ⟨cellS, hcS', heS, -, hkeep⟩ := X.same.2.2.2.2.2 T.aS cellS0 hcS0
  have hcellS : W.heap[T.aS]? = some cellS := hcS'
  have hout' : ∀ i, (⟨T.aS, i⟩ : Loc) ∉ locs := fun i hmem => by
    obtain ⟨c9, k9, i9, f9, a9, cell9, q1, q2, q3, q4, q5, q6, q7, q8, q9, q10⟩ := hU9
    cases q2.symm.trans Y.unassigned
    cases q4.symm.trans L.statics
    exact q10 (hlocs _ hmem)
  have hknownS : cellS.vm ≠ .unknown := by
    rw [heS]; intro hu
    rw [show cellS0.vm = .unknown from hu] at hiss
    cases hiss
  have hneS : T.aS ≠ a := Nat.ne_of_lt (Nat.lt_of_lt_of_le (Array.getElem?_eq_some_iff.mp hcS0).1 hnew)
  obtain ⟨iM, hffM⟩ := Y.msg
  obtain ⟨tyC, dC, hdC, hdnC⟩ := Cond.laysAt hfound hk Y.cause (a' (.lays cls Bundle.tN "cause" "Ljava/lang/Throwable;") (by simp [Bundle.ownAtoms0]))
  obtain ⟨tyS, dS, hdS, hdnS⟩ := Cond.laysAt hfound hk Y.stack (a' (.lays cls Bundle.tN "stackTrace" Bundle.steD) (by simp [Bundle.ownAtoms0]))
  obtain ⟨tyP, dP, hdP, hdnP⟩ := Cond.laysAt hfound hk Y.supp (a' (.lays cls Bundle.tN "suppressedExceptions" Bundle.listD) (by simp [Bundle.ownAtoms0]))
  obtain ⟨tyB, dB, hdB, hdnB⟩ := Cond.laysAt hfound hk hffB (a' (.lays cls Bundle.tN "backtrace" "Ljava/lang/Object;") (by simp [Bundle.ownAtoms0]))
  have bC := Cond.laysApart hdB hdC hdnB hdnC (by rw [hnB, Y.causeName]; decide)
  have bS := Cond.laysApart hdB hdS hdnB hdnS (by rw [hnB, Y.stackName]; decide)
  have bP := Cond.laysApart hdB hdP hdnB hdnP (by rw [hnB, Y.suppName]; decide)
  have hskip : SkipFacts T e.platform s (fun u => u) u0 ((preparedCellV T.toThrowableT (freshCell P1.m.cls kX) a u0 sen).withEntry W.cur) :=
    ⟨{ ci198 := ci198, i198 := i198, fBack := fB }, ⟨hk198, hg198, ha198, hsB⟩, by
      have := fresh_default (c := P1.m.cls) tyB
      rw [htB] at this
      simpa [preparedCellV, Cell.setSlot, Cell.withEntry, Array.getElem?_setIfInBounds, bC, bS, bP, bC.symm, bS.symm, bP.symm, defaultValue] using this, fun _ _ => rfl⟩
  obtain ⟨tm, methC, cdC, kC, vm₁, hnC, -, -, -, -, -, -, -, hW₁, st1⟩ := Steps.initCold (tb := p.tables) (e := e) (below := below) (s := s) (U := W) X.here hexec X.warmed hpl hown (t := Bundle.init0 cls) rfl rfl (Bundle.fit_spec hcls).2
    (a' (.methodLink own ic (Bundle.init0 cls)) (by simp [Bundle.ownAtoms0])) (h (.instanceMethod (Bundle.init0 cls)) (by cases names <;> simp [Bundle.ownAtoms0, Bundle.chain0Atoms, Bundle.passAtoms])) (bytes := Bundle.five) (maxL := 1) (h (.code (Bundle.init0 cls) Bundle.five 1 none) (by cases names <;> simp [Bundle.ownAtoms0, Bundle.chain0Atoms, Bundle.passAtoms]))
    (f := g) hg (a := a) (rest := .ref a :: rest) hstack hd6
  cases Option.some.inj (hnC.symm.trans hP1m)
  have X₁ := X.noted hW₁
  obtain ⟨vm₂, X₂, st2⟩ := X₁.ctorPlainOffV hexec (g := { g with stack := .ref a :: rest }) hg hsize T L Z LZ (P1 :: Ps)
    (fun P hP => by rcases List.mem_cons.mp hP with rfl | hP; exact L1; exact hL P hP) ⟨hlink1, hlink⟩ (u0 := u0) (sen := sen) (self := a) (cell := freshCell P1.m.cls kX) (cellS := cellS)
    hcell (fun _ => by simp) (by simp) rfl rfl hsel0 hselF hcellS hneS hknownS (by rw [hkeep _ (hout' _)]; exact hu0) (by rw [hkeep _ (hout' _)]; exact hsen)
    (Takes.of_laid hk hord tyC (by rw [Y.causeType]; rfl)) (Takes.of_laid hk hord tyS (by rw [Y.stackType]; exact fits_refV_array _ u0)) (Takes.of_laid hk hord tyP (by rw [Y.suppType]; exact fits_refV_object _ sen)) Y.objLocals hskip htr [] hd6
    (by simp only [List.length_cons, hlen]; omega) (by simp only [List.length_cons, hlen]; exact hRlocals)
  refine ⟨vm₂, _, _, X₂, ?_, rfl, hfound, fun target ht => st1 _ (fun acts => ?_)⟩
  · intro z hz
    simp only [List.mem_cons, List.not_mem_nil, or_false] at hz
    rcases hz with rfl | rfl | rfl | rfl <;> rfl
  · rw [doInvoke_state]
    exact st2 _ ht
set_option maxHeartbeats 1000000 in
/-- 'new E(); dup; invokespecial E.<init>()': the new exception lies behind the heap -/
theorem xm_make {p : Program} {l : Launch} {e : Env} {R : Room} {s : State} {m : MethodId} {args : Array Value} {below : List Frame} {meth : Method} {c : Code} {H : Heap} {locs : List Loc} {cells slots : Nat} {Q : State → Prop} {ls : Array Slot} {rest : List Value} {cc : ByteArray} {pc : Nat} (hexec : p.tables.exec = Jvm.exec) (hb : c.code = cc) (hl : l.stackTraces = false) {own cls : String} {names : List String} {ik ic : Nat} {A : Nat → Prop}
    (hown : s.vm.findClass own = some m.cls) (hcls : Bundle.fit cls = true) (hnames : ∀ n ∈ names, Bundle.fit n = true)
    (hk : (Cond.classLink own ik cls).before args s = true) (hini : (Cond.initialized cls).before args s = true) (hat : ∀ w ∈ vx_at0 own ic cls names, w.before args s = true)
    (hU : vx_Zq Bundle.tN "UNASSIGNED_STACK" Bundle.steD A s s.heap) (hN : vx_Zq Bundle.tN "SUPPRESSED_SENTINEL" Bundle.listD A s s.heap) (hS : va_S A s.heap H locs) (hA : ∀ q, s.heap.size ≤ q → A q) (hsize : ls.size = c.maxLocals)
    (d0 : decode cc pc = .ok (.new ik, 3)) (d3 : decode cc (pc + 3) = .ok (.dup, 1)) (d4 : decode cc (pc + 4) = .ok (.invokespecial ic, 3))
    (hRframes : names.length + 3 < R.frames) (hRlocals : (rest.map fun v => v.category).sum + (13 * (names.length + 1) + 42) ≤ R.locals) (hRcells : cells + 1 ≤ R.cells) (hRslots : slots + 6 ≤ R.slots)
    (kk : ∀ (q9 : Addr) (ce : Cell) (H1 : Heap) (locs1 : List Loc), H.size ≤ H1.size → (∀ q : Nat, q < H.size → H1[q]? = H[q]?) → va_S A s.heap H1 locs1 → H1[q9]? = some ce → ce.vm = .none → s.vm.findClass cls = some ce.cls → W p l e R s m args below meth c H1 locs1 (cells + 1) (slots + 6) Q (F0 m (pc + 7) ls (.ref q9 :: rest))) :
    W p l e R s m args below meth c H locs cells slots Q (F0 m pc ls rest) := by
  intro T hT X
  have htr : e.platform.stackTraces = false := (show e.platform.stackTraces = l.stackTraces by rw [X.admits.platform]).trans hl
  have h : ∀ w ∈ Bundle.ownAtoms0 own ic cls names, w.before args s = true := vx_own hat (vx_isRefq hU.1) (vx_isRefq hN.1) hU.2.word hN.2.word
  have hins : (Cond.instantiable cls 6).before args s = true := h _ (by simp [Bundle.ownAtoms0])
  obtain ⟨vm₁, cX, kX, hfX, hkX, -, -, X₁, st1⟩ := X.newCold hexec (own := own) (C := cls) (index := ik) (n := 6) hown hk hins hini
    (g := F0 m pc ls rest) rfl (by rw [hb]; exact d0) hRcells hRslots
  generalize hT1 : (T.setVm vm₁).pushCell { cls := cX, slots := kX.instanceTypes.map defaultValue, vm := .none } = T1 at X₁ st1
  have hcat : (Value.ref T.heap.size).category = 1 := rfl
  have hcellA : T1.heap[T.heap.size]? = some (freshCell cX kX) := by rw [← hT1]; exact State.heap_pushCell_size _ _
  have d3' : decode c.code (pc + 3) = .ok (.dup, 1) := by rw [hb]; exact d3
  have hold : ∀ q : Nat, q < H.size → T1.heap[q]? = H[q]? := fun q hq => by
    rw [← hT1, State.heap_pushCell_of_lt _ _ (by show q < T.heap.size; rw [hT]; exact hq)]
    show T.heap[q]? = H[q]?
    rw [hT]
  have hlt : T.heap.size < T1.heap.size := (Array.getElem?_eq_some_iff.mp hcellA).1
  obtain ⟨vm', ce, L, X₂, hLb, hv, hcl, st2⟩ := xm_ctor X₁ hexec htr (own := own) (cls := cls) (names := names) (ic := ic) hown hcls hnames h hU.2 hS.2.2 hfX hkX hcellA (by rw [hT]; exact hS.1)
    (g := { method := m, pc := pc + 4, locals := ls, stack := .ref T.heap.size :: .ref T.heap.size :: rest, locked := none }) rfl hsize (rest := rest) rfl
    (by rw [hb]; exact d4) hRframes (by simp only [List.map_cons, List.sum_cons, hcat]; omega)
  have hTs : T.heap.size = H.size := by rw [hT]
  have hset : ∀ q : Nat, q ≠ T.heap.size → ((T1.setVm vm').setCell T.heap.size ce).heap[q]? = T1.heap[q]? := fun q hq => by
    show (T1.heap.setIfInBounds T.heap.size ce)[q]? = T1.heap[q]?
    simp [Array.getElem?_setIfInBounds, Ne.symm hq]
  have hself : ((T1.setVm vm').setCell T.heap.size ce).heap[T.heap.size]? = some ce := by
    show (T1.heap.setIfInBounds T.heap.size ce)[T.heap.size]? = some ce
    simp [Array.getElem?_setIfInBounds, hlt]
  have hsz : ((T1.setVm vm').setCell T.heap.size ce).heap.size = T1.heap.size := by
    show (T1.heap.setIfInBounds T.heap.size ce).size = T1.heap.size
    simp
  have hk9 : ∀ q : Nat, q < H.size → ((T1.setVm vm').setCell T.heap.size ce).heap[q]? = H[q]? := fun q hq => by
    rw [hset q (by omega)]
    exact hold q hq
  obtain ⟨t2, a1, b1⟩ := kk T.heap.size ce ((T1.setVm vm').setCell T.heap.size ce).heap (locs ++ L) (by rw [hsz]; omega) hk9
    ⟨Nat.le_trans hS.1 (by rw [hsz]; omega), fun q g1 g2 => by rw [hk9 q (Nat.lt_of_lt_of_le g1 hS.1)]; exact hS.2.1 q g1 g2, fun z hz => by
      rcases List.mem_append.mp hz with h1 | h1
      · exact hS.2.2 z h1
      · rw [hLb z h1]
        exact hA _ (by rw [hTs]; exact hS.1)⟩ hself hv hcl _ rfl X₂
  refine ⟨t2, ?_, b1⟩
  refine st1 _ ?_
  show Steps p.tables e below (T1.setTop { method := m, pc := pc + 3, locals := ls, stack := .ref T.heap.size :: rest, locked := none }) _
  jvm_step X₁.here [X₁.here.top, hexec, d3', Value.category]
  exact st2 _ a1
/-- a method that hands a new exception of class E back -/
def vRe {S : Type} (x : vC) (w1 : S → va_W) (E : String) (Qi : S → Prop) (mc ms : Nat) : Prop :=
  match x with
  | (_, _, _, _, s, _, args, below, _, _, Q, D, A, _) => Q = MQ below (va_Qr Qi (fun u a t => (∃ ce : Cell, t.heap[a]? = some ce ∧ ce.vm = .none ∧ t.vm.findClass E = some ce.cls) ∧ va_P D cl0 (w1 u) t.heap ∧ va_D A (w1 u)) A) args s mc ms A
def Cte (l : Launch) (D : va_G) (y : MethodName) (cc : ByteArray) (maxL : Nat) (rt : FieldType) (rm : Room) (av : List Value) {S : Type} (w0 : va_W) (w1 : S → va_W) (E : String) (Q : S → Prop) (mc ms : Nat) : Prop :=
  ∀ sz, Met l y (ws_ y cc maxL (some rt)) rm (vPc D av w0 sz) (va_Qr Q (fun u a t => (∃ ce : Cell, t.heap[a]? = some ce ∧ ce.vm = .none ∧ t.vm.findClass E = some ce.cls) ∧ va_P D cl0 (w1 u) t.heap ∧ va_D (va_A w0 sz) (w1 u)) (va_A w0 sz)) mc ms (va_A w0 sz)
theorem Cte.of {l : Launch} {D : va_G} {y : MethodName} {cc : ByteArray} {maxL : Nat} {rt : FieldType} {rm : Room} {av : List Value} {S : Type} {w0 : va_W} {w1 : S → va_W} {E : String} {Q : S → Prop} {mc ms : Nat} (hy : plainName y.cls = true) (hn : (lg_sl av).length ≤ maxL)
    (h : ∀ x : vC, vF x l D y.cls cc rm maxL (some rt) → vRe x w1 E Q mc ms → vV x 0 0 w0 (lv_args 0 av) 0 []) : Cte l D y cc maxL rt rm av w0 w1 E Q mc ms := by
  intro sz
  refine Met.ofW (cc := cc) (maxL := maxL) (ret := (some rt)) hy rfl ?_
  intro p e s m args below meth c s₁ B hml hv
  obtain ⟨rfl, hsz, hP, hE, hD0, hZ⟩ := hv
  have hts := atoms_spec (ws := ws_ y cc maxL (some rt)) B.pre
  have hts : ∀ w ∈ lw_all, w.before _ s = true := fun w h => hts w (List.mem_cons_of_mem _ h)
  have hown : s.vm.findClass y.cls = some m.cls := findClass_of_methodNamed B.named
  subst hsz
  have hD := hD0.self (sz := s.heap.size)
  have hA : ∀ q : Nat, s.heap.size ≤ q → va_A w0 s.heap.size q := fun q h => Or.inr h
  have hl := lv_entry av (n := maxL) hn
  rw [lg_entry_eq]
  exact h (p, l, e, (headSpec (ws_ y cc maxL (some rt)) rm).room, s, m, av.toArray, below, meth, c, _, D, va_A w0 s.heap.size, maxL)
    ⟨rfl, rfl, rfl, rfl, B.exec, B.bytes, hml, hown, hts, hA, B.notSynchronized, B.returns, hE, hZ⟩ rfl s.heap [] _ hP hD va_S.rf hl
/-- the body is a constructor's -/
theorem v_newret {x : vC} {l : Launch} {D : va_G} {own : String} {cc : ByteArray} {rm : Room} {nL : Nat} {ty : FieldType} {k n : Nat} {lv : List (Nat × Value)} {S : Type} {w1 : S → va_W} {Qi : S → Prop} {mc ms : Nat} {u : S} {cls : String} {names : List String} {ik ic : Nat} {ps : List Nat} (pc : Nat) (hF : vF x l D own cc rm nL (some ty)) (hty : (∃ n, ty = .object n) ∨ ∃ t, ty = .array t) (hR : vRe x w1 cls Qi mc ms) (hl : l.stackTraces = false) (hcls : Bundle.fit cls = true) (hnames : ∀ n ∈ names, Bundle.fit n = true) (hq1 : Cond.classLink own ik cls ∈ lw_all) (hq2 : Cond.initialized cls ∈ lw_all) (hat : vx_at0 own ic cls names = ps.filterMap (fun i => lw_tbl[i]?)) (hat2 : (vx_at0 own ic cls names).all (fun w => goodWord w || nwOk w) = true)
    (d0 : decode cc pc = .ok (.new ik, 3)) (d3 : decode cc (pc + 3) = .ok (.dup, 1)) (d4 : decode cc (pc + 4) = .ok (.invokespecial ic, 3)) (d7 : decode cc (pc + 7) = .ok (.areturn, 1)) (hrm : names.length + 3 < rm.frames ∧ 13 * (names.length + 1) + 42 ≤ rm.locals) (hcs : k + 1 ≤ rm.cells ∧ n + 6 ≤ rm.slots) (hk : k + 1 ≤ mc) (hn : n + 6 ≤ ms) (h : Qi u) : vV x k n (w1 u) lv pc [] := by
  obtain ⟨p, l, e, R, s, m, args, below, meth, c, Q, D, A, nL⟩ := x
  obtain ⟨rfl, rfl, rfl, rfl, hx, hb, hml, hown, hts, hA, hlocks, hret, hE, hZ⟩ := hF
  intro H locs ls hP hD hS hl9
  have hR : Q = _ := hR
  subst hR
  refine xm_make hx hb hl hown hcls hnames (hts _ hq1) (hts _ hq2) (v_at hts hE.2.1 hat hat2) hZ.1.1 hZ.1.2 hS hA (hl9.1.trans hml.symm) d0 d3 d4 hrm.1 (by simpa using hrm.2) hcs.1 hcs.2 (fun q9 ce H1 locs1 hz hk9 hS1 hce hv hcl => ?_)
  exact W.widen hk hn (W.aret hx hb hret hty (Or.inr ⟨_, rfl⟩) (fun t ht hW => ⟨⟨u, q9, rfl, h, ⟨ce, by rw [ht]; exact hce, hv, by first | (rw [hW.findClass]; exact hcl) | (rw [hW.alike.findClass]; exact hcl)⟩, by rw [ht]; exact hP.kept (fun j q hq => hk9 q.1 (hP j q hq).lt), hD⟩, hS1.F ht⟩) hS1.2.2 d7 hlocks)
theorem v_callVe {x : vC} {l : Launch} {D : va_G} {own : String} {cc : ByteArray} {rm : Room} {nL : Nat} {rt : Option FieldType} {k n : Nat} {ws : va_W} {lv : List (Nat × Value)} {st : List Value} {S : Type} {idx maxL mc ms : Nat} {y : MethodName} {bytes : ByteArray} {rt2 : FieldType} {rm2 : Room} {As : List Value} {b : Nat} {w0 wr : va_W} {w1 : S → va_W} {E : String} {Q2 : S → Prop} (pc : Nat) (hF : vF x l D own cc rm nL rt) (hM : Cte l D y bytes maxL rt2 rm2 (.ref b :: As) w0 w1 E Q2 mc ms) (hp : ws.Perm (w0 ++ wr)) (hrv : ∃ (q0 ci : Nat) (fs : List Value) (T : u_T) (N : Nat), w0[q0]? = some (b, .inr (ci, fs)) ∧ cl0[ci]? = some (y.cls, T, N)) (hq1 : Cond.methodLink own idx y ∈ lw_all) (hq2 : Cond.instanceMethod y ∈ lw_all) (hq3 : Cond.selects y.cls y y ∈ lw_all) (hq4 : Cond.initialized y.cls ∈ lw_all) (hq5 : Cond.code y bytes maxL (some rt2) ∈ lw_all) (hds : y.cls = y.cls ∧ y.cls ≠ "java/lang/invoke/MethodHandle" ∧ y.cls ≠ "java/lang/invoke/VarHandle" ∧ (parseMethodDescriptor y.desc).map (fun d => d.parameters.length) = some As.length)
    (hrm : rm2.cells = mc ∧ rm2.slots = ms ∧ rm2.frames + 1 ≤ rm.frames ∧ 8 + (maxL + 11) + rm2.locals ≤ rm.locals) (hst : (st.map fun v => v.category).sum ≤ 8) (hcs : k + mc ≤ rm.cells ∧ n + ms ≤ rm.slots) (hd : decode cc pc = .ok (.invokevirtual idx, 3))
    (hd3 : decode cc (pc + 3) = .ok (.athrow, 1)) (kk : ∀ (q : Nat) (u : S), Q2 u → vT x (k + mc) (n + ms) (w1 u ++ wr) lv (pc + 3) st E q) : vV x k n ws lv pc (As.reverse ++ .ref b :: st) := by
  obtain ⟨q9, ci9, fs9, T9, N9, he9, hc9⟩ := hrv
  obtain ⟨p, l, e, R, s, m, args, below, meth, c, Q, D, A, nL⟩ := x
  obtain ⟨rfl, rfl, rfl, rfl, hx, hb, hml, hown, hts, hA, hlocks, hret, hE, hZ⟩ := hF
  intro H locs ls hP hD hS hl
  have hP := vP_perm hp hP
  have hD := vD_perm hp hD
  have hPc : va_P D cl0 w0 H := vP_left hP
  have hDc : va_D A w0 := vD_left hD
  have hFc : ∀ q, va_A w0 H.size q → A q := vfree hDc hS hA
  refine va_callr (va_runV (As := As) (rest := st) (b := b) ⟨hx, hb, hml, hown, hts⟩ (hM H.size) (cwV As.length hts (lw_V hq1 hq2 hq3 hq4 hq5) rfl hrm.1 hrm.2.1 hds hrm.2.2) ⟨fun a U g mk q => by obtain ⟨q0, q1, qP, qK, qD, qZ⟩ := q; exact ⟨q0, q1, qP, qK.blind, qD, vZA.moved (u := U) (U := U.calling g mk a) (Vm.Alike.refl U.vm) qZ⟩, va_recv hE.1 hPc (ci := ci9) (q0 := q9) hc9 he9, fun U hU hW => ⟨rfl, by rw [hU], by rw [hU]; exact hPc, hE.warm hW, hDc.weaken (fun _ _ _ _ => trivial), by rw [hU]; exact vZA.moved hW.alike ((hZ.kept hS.2.1).narrow hFc)⟩⟩ rfl rfl hl.1 rfl (lv_room hst) hd hcs) hS (fun q _ h => hFc q h) hFc (fun u a9 t H1 locs ht hvm hw1 hB hz1 hk1 hS => ?_)
  obtain ⟨⟨ce, hce, hcv, hcl⟩, hP1, hD1⟩ := hB
  rw [ht] at hP1 hce
  obtain ⟨hP, hD⟩ := vjoin hP hD hk1 hFc hP1 hD1
  exact vx_athrow hx hb hd3 (kk a9 u hw1 H1 locs ls ce hP hD hS hl hce hcv (by rw [← hvm.findClass]; exact hcl))
