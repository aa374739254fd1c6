set_option maxRecDepth 100000
def vHs (x : vC) (hh : List (Nat × Nat × Nat × Nat)) : Prop :=
  match x with
  | (_, _, _, _, _, _, _, _, _, c, _, _, _, _) => c.exceptionTable.toList = tableOf hh
/-- an entry of the table lets E by -/
def vPass (own E : String) (pc : Nat) (z : Nat × Nat × Nat × Nat) : Prop := (pc < z.1 ∨ z.2.1 ≤ pc) ∨ (z.2.2.2 ≠ 0 ∧ ∃ nm : String, Cond.classLink own z.2.2.2 nm ∈ lw_all ∧ (E, nm) ∈ nc0)
theorem covers_no {z : Nat × Nat × Nat × Nat} {pc : Nat} (h : pc < z.1 ∨ z.2.1 ≤ pc) : covers ⟨z.1, z.2.1, z.2.2.1, z.2.2.2⟩ pc = false := by
  unfold covers
  simp
  omega
theorem vPass_one {s : State} {args : Array Value} {D : va_G} {own E : String} {pc : Nat} {z : Nat × Nat × Nat × Nat} (hts : ∀ w ∈ lw_all, w.before args s = true) (hE : vEN D s) (h : vPass own E pc z) : covers ⟨z.1, z.2.1, z.2.2.1, z.2.2.2⟩ pc = false ∨ (z.2.2.2 ≠ 0 ∧ ∃ nm : String, (Cond.classLink own z.2.2.2 nm).before args s = true ∧ va_Nc E nm s) := by
  rcases h with h | ⟨h0, nm, h1, h2⟩
  · exact Or.inl (covers_no h)
  · exact Or.inr ⟨h0, nm, hts _ h1, hE.2.2.2.2.2.2.1 _ h2⟩
theorem vPass_tab {s : State} {args : Array Value} {D : va_G} {own E : String} {pc : Nat} {c : Code} {hh : List (Nat × Nat × Nat × Nat)} (hts : ∀ w ∈ lw_all, w.before args s = true) (hE : vEN D s) (hH : c.exceptionTable.toList = tableOf hh) (h : ∀ z ∈ hh, vPass own E pc z) : ∀ z ∈ c.exceptionTable.toList, covers z pc = false ∨ (z.catchType ≠ 0 ∧ ∃ nm : String, (Cond.classLink own z.catchType nm).before args s = true ∧ va_Nc E nm s) := by
  intro z hz
  rw [hH] at hz
  unfold tableOf at hz
  obtain ⟨y, hy, rfl⟩ := List.mem_map.mp hz
  exact vPass_one hts hE (h y hy)
theorem vPass_nil {own E : String} {pc : Nat} : ∀ z ∈ ([] : List (Nat × Nat × Nat × Nat)), vPass own E pc z := fun z h => nomatch h
theorem vPass_cons {own E : String} {pc : Nat} {z : Nat × Nat × Nat × Nat} {l : List (Nat × Nat × Nat × Nat)} (h : vPass own E pc z) (t : ∀ y ∈ l, vPass own E pc y) : ∀ y ∈ z :: l, vPass own E pc y := fun y hy => by
  rcases List.mem_cons.mp hy with rfl | hy
  · exact h
  · exact t y hy
def CxiW (l : Launch) (D : va_G) (y : MethodName) (cc : ByteArray) (maxL : Nat) (hh : List (Nat × Nat × Nat × Nat)) (rt : FieldType) (rm : Room) (av : List Value) {S : Type} (w0 : va_W) (w1 : S → va_W) (Qi : Int32 → S → Prop) (X : String → S → Prop) (Y : String → Int32 → S → Prop) (mc ms : Nat) : Prop :=
  ∀ sz, vx_Met l y (wsW_ y cc maxL (some rt) hh) rm (vPc D av w0 sz) (va_Qi Qi (fun u t => va_P D cl0 (w1 u) t.heap ∧ va_D (va_A w0 sz) (w1 u)) (va_A w0 sz)) (vXC D w1 X Y (va_A w0 sz)) mc ms (va_A w0 sz)
theorem CxiW.of {l : Launch} {D : va_G} {y : MethodName} {cc : ByteArray} {maxL : Nat} {hh : List (Nat × Nat × Nat × Nat)} {rt : FieldType} {rm : Room} {av : List Value} {S : Type} {w0 : va_W} {w1 : S → va_W} {Qi : Int32 → S → Prop} {X : String → S → Prop} {Y : String → Int32 → S → Prop} {mc ms : Nat} (hy : plainName y.cls = true) (hn : (lg_sl av).length ≤ maxL)
    (h : ∀ x : vC, vF x l D y.cls cc rm maxL (some rt) → vXi x w1 Qi X Y mc ms → vHs x hh → vV x 0 0 w0 (lv_args 0 av) 0 []) : CxiW l D y cc maxL hh rt rm av w0 w1 Qi X Y mc ms := by
  intro sz
  refine vx_ofWH (hh := hh) (cc := cc) (maxL := maxL) (ret := (some rt)) hy rfl ?_
  intro p e s m args below meth c s₁ B hml hv
  obtain ⟨rfl, hsz, hP, hE, hD0, hZ⟩ := hv
  have hts := atoms_spec (ws := wsW_ y cc maxL (some rt) hh) B.pre
  have hts : ∀ w ∈ lw_all, w.before _ s = true := fun w h => hts w (List.mem_cons_of_mem _ h)
  have hown : s.vm.findClass y.cls = some m.cls := findClass_of_methodNamed B.named
  subst hsz
  have hD := hD0.self (sz := s.heap.size)
  have hA : ∀ q : Nat, s.heap.size ≤ q → va_A w0 s.heap.size q := fun q h => Or.inr h
  have hl := lv_entry av (n := maxL) hn
  rw [lg_entry_eq]
  exact h (p, l, e, (headSpec (wsW_ y cc maxL (some rt) hh) rm).room, s, m, av.toArray, below, meth, c, _, D, va_A w0 s.heap.size, maxL)
    ⟨rfl, rfl, rfl, rfl, B.exec, B.bytes, hml, hown, hts, hA, B.notSynchronized, B.returns, hE, hZ⟩ rfl (vx_table (x := y) B (atoms_spec B.pre _ (List.mem_cons_self ..))) s.heap [] _ hP hD va_S.rf hl
theorem v_outHi {x : vC} {l : Launch} {D : va_G} {own : String} {cc : ByteArray} {rm : Room} {nL : Nat} {rt : Option FieldType} {k n : Nat} {lv : List (Nat × Value)} {st : List Value} {S : Type} {w1 : S → va_W} {Qi : Int32 → S → Prop} {X : String → S → Prop} {Y : String → Int32 → S → Prop} {mc ms : Nat} {u : S} {hh : List (Nat × Nat × Nat × Nat)} {E : String} {q pc : Nat} (hF : vF x l D own cc rm nL rt) (hR : vXi x w1 Qi X Y mc ms) (hH : vHs x hh) (hps : ∀ z ∈ hh, vPass own E pc z) (hk : k ≤ mc) (hn : n ≤ ms) (h : X E u) : vT x k n (w1 u) lv pc st E q := by
  obtain ⟨p, l, e, R, s, m, args, below, meth, c, Q, D, A, nL⟩ := x
  obtain ⟨rfl, rfl, rfl, rfl, hx, hb, hml, hown, hts, hA, hlocks, hret, hE, hZ⟩ := hF
  intro H locs ls ce hP hD hS hl h1 h2 h3
  have hR : Q = _ := hR
  subst hR
  exact vx_outP hown hlocks (vPass_tab hts hE hH hps) h1 h2 h3 (fun t ht hv => ⟨(u, none), trivial, ⟨h, by rw [ht]; exact hP, hD⟩, hS.F ht⟩) hS.2.2 hk hn
theorem v_outHYi {x : vC} {l : Launch} {D : va_G} {own : String} {cc : ByteArray} {rm : Room} {nL : Nat} {rt : Option FieldType} {k n : Nat} {lv : List (Nat × Value)} {st : List Value} {S : Type} {w1 : S → va_W} {Qi : Int32 → S → Prop} {X : String → S → Prop} {Y : String → Int32 → S → Prop} {mc ms : Nat} {u : S} {hh : List (Nat × Nat × Nat × Nat)} {E : String} {q pc ci : Nat} {r : Int32} (hF : vF x l D own cc rm nL rt) (hR : vXi x w1 Qi X Y mc ms) (hH : vHs x hh) (hps : ∀ z ∈ hh, vPass own E pc z) (hk : k ≤ mc) (hn : n ≤ ms) (hy : vPay E ci) (h : Y E r u) : vT x k n ((q, .inr (ci, rfF r)) :: w1 u) lv pc st E q := by
  obtain ⟨p, l, e, R, s, m, args, below, meth, c, Q, D, A, nL⟩ := x
  obtain ⟨rfl, rfl, rfl, rfl, hx, hb, hml, hown, hts, hA, hlocks, hret, hE, hZ⟩ := hF
  intro H locs ls ce hP hD hS hl h1 h2 h3
  have hR : Q = _ := hR
  subst hR
  exact vx_outP hown hlocks (vPass_tab hts hE hH hps) h1 h2 h3 (fun t ht hv => ⟨(u, some (ci, r)), trivial, ⟨h, hy, by rw [ht]; exact hP, hD⟩, hS.F ht⟩) hS.2.2 hk hn
/-- new E; dup; invokespecial E.<init>(); athrow -/
def CxvW (l : Launch) (D : va_G) (y : MethodName) (cc : ByteArray) (maxL : Nat) (hh : List (Nat × Nat × Nat × Nat)) (rm : Room) (av : List Value) {S : Type} (w0 : va_W) (w1 : S → va_W) (Qi : S → Prop) (X : String → S → Prop) (Y : String → Int32 → S → Prop) (mc ms : Nat) : Prop :=
  ∀ sz, vx_Met l y (wsW_ y cc maxL none hh) rm (vPc D av w0 sz) (va_Qv Qi (fun u t => va_P D cl0 (w1 u) t.heap ∧ va_D (va_A w0 sz) (w1 u)) (va_A w0 sz)) (vXC D w1 X Y (va_A w0 sz)) mc ms (va_A w0 sz)
theorem CxvW.of {l : Launch} {D : va_G} {y : MethodName} {cc : ByteArray} {maxL : Nat} {hh : List (Nat × Nat × Nat × Nat)} {rm : Room} {av : List Value} {S : Type} {w0 : va_W} {w1 : S → va_W} {Qi : S → Prop} {X : String → S → Prop} {Y : String → Int32 → S → Prop} {mc ms : Nat} (hy : plainName y.cls = true) (hn : (lg_sl av).length ≤ maxL)
    (h : ∀ x : vC, vF x l D y.cls cc rm maxL none → vXv x w1 Qi X Y mc ms → vHs x hh → vV x 0 0 w0 (lv_args 0 av) 0 []) : CxvW l D y cc maxL hh rm av w0 w1 Qi X Y mc ms := by
  intro sz
  refine vx_ofWH (hh := hh) (cc := cc) (maxL := maxL) (ret := none) hy rfl ?_
  intro p e s m args below meth c s₁ B hml hv
  obtain ⟨rfl, hsz, hP, hE, hD0, hZ⟩ := hv
  have hts := atoms_spec (ws := wsW_ y cc maxL none hh) B.pre
  have hts : ∀ w ∈ lw_all, w.before _ s = true := fun w h => hts w (List.mem_cons_of_mem _ h)
  have hown : s.vm.findClass y.cls = some m.cls := findClass_of_methodNamed B.named
  subst hsz
  have hD := hD0.self (sz := s.heap.size)
  have hA : ∀ q : Nat, s.heap.size ≤ q → va_A w0 s.heap.size q := fun q h => Or.inr h
  have hl := lv_entry av (n := maxL) hn
  rw [lg_entry_eq]
  exact h (p, l, e, (headSpec (wsW_ y cc maxL none hh) rm).room, s, m, av.toArray, below, meth, c, _, D, va_A w0 s.heap.size, maxL)
    ⟨rfl, rfl, rfl, rfl, B.exec, B.bytes, hml, hown, hts, hA, B.notSynchronized, B.returns, hE, hZ⟩ rfl (vx_table (x := y) B (atoms_spec B.pre _ (List.mem_cons_self ..))) s.heap [] _ hP hD va_S.rf hl
theorem v_outHv {x : vC} {l : Launch} {D : va_G} {own : String} {cc : ByteArray} {rm : Room} {nL : Nat} {rt : Option FieldType} {k n : Nat} {lv : List (Nat × Value)} {st : List Value} {S : Type} {w1 : S → va_W} {Qi : S → Prop} {X : String → S → Prop} {Y : String → Int32 → S → Prop} {mc ms : Nat} {u : S} {hh : List (Nat × Nat × Nat × Nat)} {E : String} {q pc : Nat} (hF : vF x l D own cc rm nL rt) (hR : vXv x w1 Qi X Y mc ms) (hH : vHs x hh) (hps : ∀ z ∈ hh, vPass own E pc z) (hk : k ≤ mc) (hn : n ≤ ms) (h : X E u) : vT x k n (w1 u) lv pc st E q := by
  obtain ⟨p, l, e, R, s, m, args, below, meth, c, Q, D, A, nL⟩ := x
  obtain ⟨rfl, rfl, rfl, rfl, hx, hb, hml, hown, hts, hA, hlocks, hret, hE, hZ⟩ := hF
  intro H locs ls ce hP hD hS hl h1 h2 h3
  have hR : Q = _ := hR
  subst hR
  exact vx_outP hown hlocks (vPass_tab hts hE hH hps) h1 h2 h3 (fun t ht hv => ⟨(u, none), trivial, ⟨h, by rw [ht]; exact hP, hD⟩, hS.F ht⟩) hS.2.2 hk hn
theorem v_outHYv {x : vC} {l : Launch} {D : va_G} {own : String} {cc : ByteArray} {rm : Room} {nL : Nat} {rt : Option FieldType} {k n : Nat} {lv : List (Nat × Value)} {st : List Value} {S : Type} {w1 : S → va_W} {Qi : S → Prop} {X : String → S → Prop} {Y : String → Int32 → S → Prop} {mc ms : Nat} {u : S} {hh : List (Nat × Nat × Nat × Nat)} {E : String} {q pc ci : Nat} {r : Int32} (hF : vF x l D own cc rm nL rt) (hR : vXv x w1 Qi X Y mc ms) (hH : vHs x hh) (hps : ∀ z ∈ hh, vPass own E pc z) (hk : k ≤ mc) (hn : n ≤ ms) (hy : vPay E ci) (h : Y E r u) : vT x k n ((q, .inr (ci, rfF r)) :: w1 u) lv pc st E q := by
  obtain ⟨p, l, e, R, s, m, args, below, meth, c, Q, D, A, nL⟩ := x
  obtain ⟨rfl, rfl, rfl, rfl, hx, hb, hml, hown, hts, hA, hlocks, hret, hE, hZ⟩ := hF
  intro H locs ls ce hP hD hS hl h1 h2 h3
  have hR : Q = _ := hR
  subst hR
  exact vx_outP hown hlocks (vPass_tab hts hE hH hps) h1 h2 h3 (fun t ht hv => ⟨(u, some (ci, r)), trivial, ⟨h, hy, by rw [ht]; exact hP, hD⟩, hS.F ht⟩) hS.2.2 hk hn
/-- new E; dup; invokespecial E.<init>(); athrow -/
def CxrW (l : Launch) (D : va_G) (y : MethodName) (cc : ByteArray) (maxL : Nat) (hh : List (Nat × Nat × Nat × Nat)) (rt : FieldType) (rm : Room) (av : List Value) {S : Type} (w0 : va_W) (w1 : S → va_W) (ad : S → Nat) (Qi : S → Prop) (X : String → S → Prop) (Y : String → Int32 → S → Prop) (mc ms : Nat) : Prop :=
  ∀ sz, vx_Met l y (wsW_ y cc maxL (some rt) hh) rm (vPc D av w0 sz) (va_Qr Qi (fun u a t => a = ad u ∧ va_P D cl0 (w1 u) t.heap ∧ va_D (va_A w0 sz) (w1 u)) (va_A w0 sz)) (vXC D w1 X Y (va_A w0 sz)) mc ms (va_A w0 sz)
theorem CxrW.of {l : Launch} {D : va_G} {y : MethodName} {cc : ByteArray} {maxL : Nat} {hh : List (Nat × Nat × Nat × Nat)} {rt : FieldType} {rm : Room} {av : List Value} {S : Type} {w0 : va_W} {w1 : S → va_W} {ad : S → Nat} {Qi : S → Prop} {X : String → S → Prop} {Y : String → Int32 → S → Prop} {mc ms : Nat} (hy : plainName y.cls = true) (hn : (lg_sl av).length ≤ maxL)
    (h : ∀ x : vC, vF x l D y.cls cc rm maxL (some rt) → vXr x w1 ad Qi X Y mc ms → vHs x hh → vV x 0 0 w0 (lv_args 0 av) 0 []) : CxrW l D y cc maxL hh rt rm av w0 w1 ad Qi X Y mc ms := by
  intro sz
  refine vx_ofWH (hh := hh) (cc := cc) (maxL := maxL) (ret := (some rt)) hy rfl ?_
  intro p e s m args below meth c s₁ B hml hv
  obtain ⟨rfl, hsz, hP, hE, hD0, hZ⟩ := hv
  have hts := atoms_spec (ws := wsW_ y cc maxL (some rt) hh) B.pre
  have hts : ∀ w ∈ lw_all, w.before _ s = true := fun w h => hts w (List.mem_cons_of_mem _ h)
  have hown : s.vm.findClass y.cls = some m.cls := findClass_of_methodNamed B.named
  subst hsz
  have hD := hD0.self (sz := s.heap.size)
  have hA : ∀ q : Nat, s.heap.size ≤ q → va_A w0 s.heap.size q := fun q h => Or.inr h
  have hl := lv_entry av (n := maxL) hn
  rw [lg_entry_eq]
  exact h (p, l, e, (headSpec (wsW_ y cc maxL (some rt) hh) rm).room, s, m, av.toArray, below, meth, c, _, D, va_A w0 s.heap.size, maxL)
    ⟨rfl, rfl, rfl, rfl, B.exec, B.bytes, hml, hown, hts, hA, B.notSynchronized, B.returns, hE, hZ⟩ rfl (vx_table (x := y) B (atoms_spec B.pre _ (List.mem_cons_self ..))) s.heap [] _ hP hD va_S.rf hl
theorem v_outHr {x : vC} {l : Launch} {D : va_G} {own : String} {cc : ByteArray} {rm : Room} {nL : Nat} {rt : Option FieldType} {k n : Nat} {lv : List (Nat × Value)} {st : List Value} {S : Type} {w1 : S → va_W} {ad : S → Nat} {Qi : S → Prop} {X : String → S → Prop} {Y : String → Int32 → S → Prop} {mc ms : Nat} {u : S} {hh : List (Nat × Nat × Nat × Nat)} {E : String} {q pc : Nat} (hF : vF x l D own cc rm nL rt) (hR : vXr x w1 ad Qi X Y mc ms) (hH : vHs x hh) (hps : ∀ z ∈ hh, vPass own E pc z) (hk : k ≤ mc) (hn : n ≤ ms) (h : X E u) : vT x k n (w1 u) lv pc st E q := by
  obtain ⟨p, l, e, R, s, m, args, below, meth, c, Q, D, A, nL⟩ := x
  obtain ⟨rfl, rfl, rfl, rfl, hx, hb, hml, hown, hts, hA, hlocks, hret, hE, hZ⟩ := hF
  intro H locs ls ce hP hD hS hl h1 h2 h3
  have hR : Q = _ := hR
  subst hR
  exact vx_outP hown hlocks (vPass_tab hts hE hH hps) h1 h2 h3 (fun t ht hv => ⟨(u, none), trivial, ⟨h, by rw [ht]; exact hP, hD⟩, hS.F ht⟩) hS.2.2 hk hn
theorem v_outHYr {x : vC} {l : Launch} {D : va_G} {own : String} {cc : ByteArray} {rm : Room} {nL : Nat} {rt : Option FieldType} {k n : Nat} {lv : List (Nat × Value)} {st : List Value} {S : Type} {w1 : S → va_W} {ad : S → Nat} {Qi : S → Prop} {X : String → S → Prop} {Y : String → Int32 → S → Prop} {mc ms : Nat} {u : S} {hh : List (Nat × Nat × Nat × Nat)} {E : String} {q pc ci : Nat} {r : Int32} (hF : vF x l D own cc rm nL rt) (hR : vXr x w1 ad Qi X Y mc ms) (hH : vHs x hh) (hps : ∀ z ∈ hh, vPass own E pc z) (hk : k ≤ mc) (hn : n ≤ ms) (hy : vPay E ci) (h : Y E r u) : vT x k n ((q, .inr (ci, rfF r)) :: w1 u) lv pc st E q := by
  obtain ⟨p, l, e, R, s, m, args, below, meth, c, Q, D, A, nL⟩ := x
  obtain ⟨rfl, rfl, rfl, rfl, hx, hb, hml, hown, hts, hA, hlocks, hret, hE, hZ⟩ := hF
  intro H locs ls ce hP hD hS hl h1 h2 h3
  have hR : Q = _ := hR
  subst hR
  exact vx_outP hown hlocks (vPass_tab hts hE hH hps) h1 h2 h3 (fun t ht hv => ⟨(u, some (ci, r)), trivial, ⟨h, hy, by rw [ht]; exact hP, hD⟩, hS.F ht⟩) hS.2.2 hk hn
/-- new E; dup; invokespecial E.<init>(); athrow -/
theorem v_catch {x : vC} {l : Launch} {D : va_G} {own : String} {cc : ByteArray} {rm : Room} {nL : Nat} {rt : Option FieldType} {k n : Nat} {ws : va_W} {lv : List (Nat × Value)} {st : List Value} {E nm : String} {q pc : Nat} (hF : vF x l D own cc rm nL rt) (pre suf : List (Nat × Nat × Nat × Nat)) {b9 e9 hd ct : Nat} (hH : vHs x (pre ++ (b9, e9, hd, ct) :: suf)) (hps : ∀ z ∈ pre, vPass own E pc z) (hc : b9 ≤ pc ∧ pc < e9) (h0 : ct ≠ 0) (hq : Cond.classLink own ct nm ∈ lw_all) (hca : Cond.castable E nm ∈ lw_tbl)
    (kk : vV x k n ws lv hd [.ref q]) : vT x k n ws lv pc st E q := by
  obtain ⟨p, l, e, R, s, m, args, below, meth, c, Q, D, A, nL⟩ := x
  obtain ⟨rfl, rfl, rfl, rfl, hx, hb, hml, hown, hts, hA, hlocks, hret, hE, hZ⟩ := hF
  intro H locs ls ce hP hD hS hl h1 h2 h3
  have hH : c.exceptionTable.toList = tableOf _ := hH
  refine vx_catch hown (tableOf pre) ⟨b9, e9, hd, ct⟩ (tableOf suf) (by rw [hH]; simp [tableOf]) ?_ (by unfold covers; simp; omega) h0 (hts _ hq) (va_Nw.use rfl (hE.2.1 _ hca rfl)) h1 h2 h3 (kk H locs ls hP hD hS hl)
  intro z hz
  unfold tableOf at hz
  obtain ⟨y, hy, rfl⟩ := List.mem_map.mp hz
  exact vPass_one hts hE (hps y hy)
theorem v_callXVWi {x : vC} {l : Launch} {D : va_G} {own : String} {cc : ByteArray} {rm : Room} {nL : Nat} {rt : Option FieldType} {k n : Nat} {ws : va_W} {lv : List (Nat × Value)} {st : List Value} {S : Type} {idx maxL mc ms : Nat} {hh : List (Nat × Nat × Nat × Nat)} {y : MethodName} {bytes : ByteArray} {rt2 : FieldType} {rm2 : Room} {As : List Value} {b : Nat} {w0 wr : va_W} {w1 : S → va_W} {Q2 : Int32 → S → Prop} {X2 : String → S → Prop} {Y2 : String → Int32 → S → Prop} (pc : Nat) (hF : vF x l D own cc rm nL rt) (hM : CxiW l D y bytes maxL hh rt2 rm2 (.ref b :: As) w0 w1 Q2 X2 Y2 mc ms) (hp : ws.Perm (w0 ++ wr)) (hrv : ∃ (q0 ci : Nat) (fs : List Value) (T : u_T) (N : Nat), w0[q0]? = some (b, .inr (ci, fs)) ∧ cl0[ci]? = some (y.cls, T, N)) (hq1 : Cond.methodLink own idx y ∈ lw_all) (hq2 : Cond.instanceMethod y ∈ lw_all) (hq3 : Cond.selects y.cls y y ∈ lw_all) (hq4 : Cond.initialized y.cls ∈ lw_all) (hq5 : Cond.codeWith y bytes maxL (some rt2) hh ∈ lw_all) (hds : y.cls = y.cls ∧ y.cls ≠ "java/lang/invoke/MethodHandle" ∧ y.cls ≠ "java/lang/invoke/VarHandle" ∧ (parseMethodDescriptor y.desc).map (fun d => d.parameters.length) = some As.length)
    (hrm : rm2.cells = mc ∧ rm2.slots = ms ∧ rm2.frames + 1 ≤ rm.frames ∧ 8 + (maxL + 11) + rm2.locals ≤ rm.locals) (hst : (st.map fun v => v.category).sum ≤ 8) (hcs : k + mc ≤ rm.cells ∧ n + ms ≤ rm.slots) (hd : decode cc pc = .ok (.invokevirtual idx, 3))
    (kx : ∀ (E : String) (q : Nat) (u : S), X2 E u → vT x (k + mc) (n + ms) (w1 u ++ wr) lv pc st E q)
    (ky : ∀ (E : String) (q ci : Nat) (r : Int32) (u : S), Y2 E r u → vPay E ci → vT x (k + mc) (n + ms) ((q, .inr (ci, rfF r)) :: (w1 u ++ wr)) lv pc st E q)
    (kk : ∀ (r : Int32) (u : S), Q2 r u → vV x (k + mc) (n + ms) (w1 u ++ wr) lv (pc + 3) (.int r :: st)) : vV x k n ws lv pc (As.reverse ++ .ref b :: st) := by
  obtain ⟨q9, ci9, fs9, T9, N9, he9, hc9⟩ := hrv
  obtain ⟨p, l, e, R, s, m, args, below, meth, c, Q, D, A, nL⟩ := x
  obtain ⟨rfl, rfl, rfl, rfl, hx, hb, hml, hown, hts, hA, hlocks, hret, hE, hZ⟩ := hF
  intro H locs ls hP hD hS hl
  have hP := vP_perm hp hP
  have hD := vD_perm hp hD
  have hPc : va_P D cl0 w0 H := vP_left hP
  have hDc : va_D A w0 := vD_left hD
  have hFc : ∀ q, va_A w0 H.size q → A q := vfree hDc hS hA
  refine vx_calli (vx_runVX (As := As) (rest := st) (b := b) ⟨hx, hb, hml, hown, hts⟩ (hM H.size) (vx_cwVW As.length hts (lw_VW hq1 hq2 hq3 hq4 hq5) rfl hrm.1 hrm.2.1 hds hrm.2.2) ⟨fun a U g mk q => by obtain ⟨q0, q1, qP, qK, qD, qZ⟩ := q; exact ⟨q0, q1, qP, qK.blind, qD, vZA.moved (u := U) (U := U.calling g mk a) (Vm.Alike.refl U.vm) qZ⟩, va_recv hE.1 hPc (ci := ci9) (q0 := q9) hc9 he9, fun U hU hW => ⟨rfl, by rw [hU], by rw [hU]; exact hPc, hE.warm hW, hDc.weaken (fun _ _ _ _ => trivial), by rw [hU]; exact vZA.moved hW.alike ((hZ.kept hS.2.1).narrow hFc)⟩⟩ rfl rfl hl.1 rfl (lv_room hst) hd hcs) hS (fun q _ h => hFc q h) hFc (fun q _ h => hFc q h) (fun E ce q9 u t H1 locs ht hvm _ hB hz1 hk1 hS hce hcv hcl => ?_) (fun r u t H1 locs ht hvm hw1 hB hz1 hk1 hS => ?_)
  · obtain ⟨u, o⟩ := u
    cases o with
    | none =>
      obtain ⟨hX9, hP1, hD1⟩ := hB
      rw [ht] at hP1
      obtain ⟨hP, hD⟩ := vjoin hP hD hk1 hFc hP1 hD1
      exact kx E q9 u hX9 H1 locs ls ce hP hD hS hl hce hcv hcl
    | some cr =>
      obtain ⟨ci1, r1⟩ := cr
      obtain ⟨hX9, hy9, hP1, hD1⟩ := hB
      rw [ht] at hP1
      obtain ⟨hP, hD⟩ := vjoin hP hD hk1 hFc hP1 hD1
      exact ky E q9 ci1 r1 u hX9 hy9 H1 locs ls ce hP hD hS hl hce hcv hcl
  · obtain ⟨hP1, hD1⟩ := hB
    rw [ht] at hP1
    obtain ⟨hP, hD⟩ := vjoin hP hD hk1 hFc hP1 hD1
    exact kk r u hw1 H1 locs ls hP hD hS hl
theorem v_callXSWi {x : vC} {l : Launch} {D : va_G} {own : String} {cc : ByteArray} {rm : Room} {nL : Nat} {rt : Option FieldType} {k n : Nat} {ws : va_W} {lv : List (Nat × Value)} {st : List Value} {S : Type} {idx maxL mc ms : Nat} {hh : List (Nat × Nat × Nat × Nat)} {y : MethodName} {bytes : ByteArray} {rt2 : FieldType} {rm2 : Room} {As : List Value} {w0 wr : va_W} {w1 : S → va_W} {Q2 : Int32 → S → Prop} {X2 : String → S → Prop} {Y2 : String → Int32 → S → Prop} (pc : Nat) (hF : vF x l D own cc rm nL rt) (hM : CxiW l D y bytes maxL hh rt2 rm2 As w0 w1 Q2 X2 Y2 mc ms) (hp : ws.Perm (w0 ++ wr)) (hq1 : Cond.methodLink own idx y ∈ lw_all) (hq2 : Cond.static y ∈ lw_all) (hq3 : Cond.initialized y.cls ∈ lw_all) (hq5 : Cond.codeWith y bytes maxL (some rt2) hh ∈ lw_all) (hds : y.cls = y.cls ∧ y.cls ≠ "java/lang/invoke/MethodHandle" ∧ y.cls ≠ "java/lang/invoke/VarHandle" ∧ (parseMethodDescriptor y.desc).map (fun d => d.parameters.length) = some As.length)
    (hrm : rm2.cells = mc ∧ rm2.slots = ms ∧ rm2.frames + 1 ≤ rm.frames ∧ 8 + (maxL + 11) + rm2.locals ≤ rm.locals) (hst : (st.map fun v => v.category).sum ≤ 8) (hcs : k + mc ≤ rm.cells ∧ n + ms ≤ rm.slots) (hd : decode cc pc = .ok (.invokestatic idx, 3))
    (kx : ∀ (E : String) (q : Nat) (u : S), X2 E u → vT x (k + mc) (n + ms) (w1 u ++ wr) lv pc st E q)
    (ky : ∀ (E : String) (q ci : Nat) (r : Int32) (u : S), Y2 E r u → vPay E ci → vT x (k + mc) (n + ms) ((q, .inr (ci, rfF r)) :: (w1 u ++ wr)) lv pc st E q)
    (kk : ∀ (r : Int32) (u : S), Q2 r u → vV x (k + mc) (n + ms) (w1 u ++ wr) lv (pc + 3) (.int r :: st)) : vV x k n ws lv pc (As.reverse ++ st) := by
  obtain ⟨p, l, e, R, s, m, args, below, meth, c, Q, D, A, nL⟩ := x
  obtain ⟨rfl, rfl, rfl, rfl, hx, hb, hml, hown, hts, hA, hlocks, hret, hE, hZ⟩ := hF
  intro H locs ls hP hD hS hl
  have hP := vP_perm hp hP
  have hD := vD_perm hp hD
  have hPc : va_P D cl0 w0 H := vP_left hP
  have hDc : va_D A w0 := vD_left hD
  have hFc : ∀ q, va_A w0 H.size q → A q := vfree hDc hS hA
  refine vx_calli (vx_runSX (As := As) (rest := st) ⟨hx, hb, hml, hown, hts⟩ (hM H.size) (vx_cwSW As.length hts (lw_SW hq1 hq2 hq3 hq5) rfl hrm.1 hrm.2.1 hds.2 hrm.2.2) ⟨fun a U g mk q => by obtain ⟨q0, q1, qP, qK, qD, qZ⟩ := q; exact ⟨q0, q1, qP, qK.blind, qD, vZA.moved (u := U) (U := U.calling g mk a) (Vm.Alike.refl U.vm) qZ⟩, fun U hU hW => ⟨rfl, by rw [hU], by rw [hU]; exact hPc, hE.warm hW, hDc.weaken (fun _ _ _ _ => trivial), by rw [hU]; exact vZA.moved hW.alike ((hZ.kept hS.2.1).narrow hFc)⟩⟩ rfl rfl hl.1 rfl (lv_room hst) hd hcs) hS (fun q _ h => hFc q h) hFc (fun q _ h => hFc q h) (fun E ce q9 u t H1 locs ht hvm _ hB hz1 hk1 hS hce hcv hcl => ?_) (fun r u t H1 locs ht hvm hw1 hB hz1 hk1 hS => ?_)
  · obtain ⟨u, o⟩ := u
    cases o with
    | none =>
      obtain ⟨hX9, hP1, hD1⟩ := hB
      rw [ht] at hP1
      obtain ⟨hP, hD⟩ := vjoin hP hD hk1 hFc hP1 hD1
      exact kx E q9 u hX9 H1 locs ls ce hP hD hS hl hce hcv hcl
    | some cr =>
      obtain ⟨ci1, r1⟩ := cr
      obtain ⟨hX9, hy9, hP1, hD1⟩ := hB
      rw [ht] at hP1
      obtain ⟨hP, hD⟩ := vjoin hP hD hk1 hFc hP1 hD1
      exact ky E q9 ci1 r1 u hX9 hy9 H1 locs ls ce hP hD hS hl hce hcv hcl
  · obtain ⟨hP1, hD1⟩ := hB
    rw [ht] at hP1
    obtain ⟨hP, hD⟩ := vjoin hP hD hk1 hFc hP1 hD1
    exact kk r u hw1 H1 locs ls hP hD hS hl
theorem v_callXVWv {x : vC} {l : Launch} {D : va_G} {own : String} {cc : ByteArray} {rm : Room} {nL : Nat} {rt : Option FieldType} {k n : Nat} {ws : va_W} {lv : List (Nat × Value)} {st : List Value} {S : Type} {idx maxL mc ms : Nat} {hh : List (Nat × Nat × Nat × Nat)} {y : MethodName} {bytes : ByteArray} {rm2 : Room} {As : List Value} {b : Nat} {w0 wr : va_W} {w1 : S → va_W} {Q2 : S → Prop} {X2 : String → S → Prop} {Y2 : String → Int32 → S → Prop} (pc : Nat) (hF : vF x l D own cc rm nL rt) (hM : CxvW l D y bytes maxL hh rm2 (.ref b :: As) w0 w1 Q2 X2 Y2 mc ms) (hp : ws.Perm (w0 ++ wr)) (hrv : ∃ (q0 ci : Nat) (fs : List Value) (T : u_T) (N : Nat), w0[q0]? = some (b, .inr (ci, fs)) ∧ cl0[ci]? = some (y.cls, T, N)) (hq1 : Cond.methodLink own idx y ∈ lw_all) (hq2 : Cond.instanceMethod y ∈ lw_all) (hq3 : Cond.selects y.cls y y ∈ lw_all) (hq4 : Cond.initialized y.cls ∈ lw_all) (hq5 : Cond.codeWith y bytes maxL none hh ∈ lw_all) (hds : y.cls = y.cls ∧ y.cls ≠ "java/lang/invoke/MethodHandle" ∧ y.cls ≠ "java/lang/invoke/VarHandle" ∧ (parseMethodDescriptor y.desc).map (fun d => d.parameters.length) = some As.length)
    (hrm : rm2.cells = mc ∧ rm2.slots = ms ∧ rm2.frames + 1 ≤ rm.frames ∧ 8 + (maxL + 11) + rm2.locals ≤ rm.locals) (hst : (st.map fun v => v.category).sum ≤ 8) (hcs : k + mc ≤ rm.cells ∧ n + ms ≤ rm.slots) (hd : decode cc pc = .ok (.invokevirtual idx, 3))
    (kx : ∀ (E : String) (q : Nat) (u : S), X2 E u → vT x (k + mc) (n + ms) (w1 u ++ wr) lv pc st E q)
    (ky : ∀ (E : String) (q ci : Nat) (r : Int32) (u : S), Y2 E r u → vPay E ci → vT x (k + mc) (n + ms) ((q, .inr (ci, rfF r)) :: (w1 u ++ wr)) lv pc st E q)
    (kk : ∀ (u : S), Q2 u → vV x (k + mc) (n + ms) (w1 u ++ wr) lv (pc + 3) st) : vV x k n ws lv pc (As.reverse ++ .ref b :: st) := by
  obtain ⟨q9, ci9, fs9, T9, N9, he9, hc9⟩ := hrv
  obtain ⟨p, l, e, R, s, m, args, below, meth, c, Q, D, A, nL⟩ := x
  obtain ⟨rfl, rfl, rfl, rfl, hx, hb, hml, hown, hts, hA, hlocks, hret, hE, hZ⟩ := hF
  intro H locs ls hP hD hS hl
  have hP := vP_perm hp hP
  have hD := vD_perm hp hD
  have hPc : va_P D cl0 w0 H := vP_left hP
  have hDc : va_D A w0 := vD_left hD
  have hFc : ∀ q, va_A w0 H.size q → A q := vfree hDc hS hA
  refine vx_callv (vx_runVX (As := As) (rest := st) (b := b) ⟨hx, hb, hml, hown, hts⟩ (hM H.size) (vx_cwVW As.length hts (lw_VW hq1 hq2 hq3 hq4 hq5) rfl hrm.1 hrm.2.1 hds hrm.2.2) ⟨fun a U g mk q => by obtain ⟨q0, q1, qP, qK, qD, qZ⟩ := q; exact ⟨q0, q1, qP, qK.blind, qD, vZA.moved (u := U) (U := U.calling g mk a) (Vm.Alike.refl U.vm) qZ⟩, va_recv hE.1 hPc (ci := ci9) (q0 := q9) hc9 he9, fun U hU hW => ⟨rfl, by rw [hU], by rw [hU]; exact hPc, hE.warm hW, hDc.weaken (fun _ _ _ _ => trivial), by rw [hU]; exact vZA.moved hW.alike ((hZ.kept hS.2.1).narrow hFc)⟩⟩ rfl rfl hl.1 rfl (lv_room hst) hd hcs) hS (fun q _ h => hFc q h) hFc (fun q _ h => hFc q h) (fun E ce q9 u t H1 locs ht hvm _ hB hz1 hk1 hS hce hcv hcl => ?_) (fun u t H1 locs ht hvm hw1 hB hz1 hk1 hS => ?_)
  · obtain ⟨u, o⟩ := u
    cases o with
    | none =>
      obtain ⟨hX9, hP1, hD1⟩ := hB
      rw [ht] at hP1
      obtain ⟨hP, hD⟩ := vjoin hP hD hk1 hFc hP1 hD1
      exact kx E q9 u hX9 H1 locs ls ce hP hD hS hl hce hcv hcl
    | some cr =>
      obtain ⟨ci1, r1⟩ := cr
      obtain ⟨hX9, hy9, hP1, hD1⟩ := hB
      rw [ht] at hP1
      obtain ⟨hP, hD⟩ := vjoin hP hD hk1 hFc hP1 hD1
      exact ky E q9 ci1 r1 u hX9 hy9 H1 locs ls ce hP hD hS hl hce hcv hcl
  · obtain ⟨hP1, hD1⟩ := hB
    rw [ht] at hP1
    obtain ⟨hP, hD⟩ := vjoin hP hD hk1 hFc hP1 hD1
    exact kk u hw1 H1 locs ls hP hD hS hl
theorem v_callXSWv {x : vC} {l : Launch} {D : va_G} {own : String} {cc : ByteArray} {rm : Room} {nL : Nat} {rt : Option FieldType} {k n : Nat} {ws : va_W} {lv : List (Nat × Value)} {st : List Value} {S : Type} {idx maxL mc ms : Nat} {hh : List (Nat × Nat × Nat × Nat)} {y : MethodName} {bytes : ByteArray} {rm2 : Room} {As : List Value} {w0 wr : va_W} {w1 : S → va_W} {Q2 : S → Prop} {X2 : String → S → Prop} {Y2 : String → Int32 → S → Prop} (pc : Nat) (hF : vF x l D own cc rm nL rt) (hM : CxvW l D y bytes maxL hh rm2 As w0 w1 Q2 X2 Y2 mc ms) (hp : ws.Perm (w0 ++ wr)) (hq1 : Cond.methodLink own idx y ∈ lw_all) (hq2 : Cond.static y ∈ lw_all) (hq3 : Cond.initialized y.cls ∈ lw_all) (hq5 : Cond.codeWith y bytes maxL none hh ∈ lw_all) (hds : y.cls = y.cls ∧ y.cls ≠ "java/lang/invoke/MethodHandle" ∧ y.cls ≠ "java/lang/invoke/VarHandle" ∧ (parseMethodDescriptor y.desc).map (fun d => d.parameters.length) = some As.length)
    (hrm : rm2.cells = mc ∧ rm2.slots = ms ∧ rm2.frames + 1 ≤ rm.frames ∧ 8 + (maxL + 11) + rm2.locals ≤ rm.locals) (hst : (st.map fun v => v.category).sum ≤ 8) (hcs : k + mc ≤ rm.cells ∧ n + ms ≤ rm.slots) (hd : decode cc pc = .ok (.invokestatic idx, 3))
    (kx : ∀ (E : String) (q : Nat) (u : S), X2 E u → vT x (k + mc) (n + ms) (w1 u ++ wr) lv pc st E q)
    (ky : ∀ (E : String) (q ci : Nat) (r : Int32) (u : S), Y2 E r u → vPay E ci → vT x (k + mc) (n + ms) ((q, .inr (ci, rfF r)) :: (w1 u ++ wr)) lv pc st E q)
    (kk : ∀ (u : S), Q2 u → vV x (k + mc) (n + ms) (w1 u ++ wr) lv (pc + 3) st) : vV x k n ws lv pc (As.reverse ++ st) := by
  obtain ⟨p, l, e, R, s, m, args, below, meth, c, Q, D, A, nL⟩ := x
  obtain ⟨rfl, rfl, rfl, rfl, hx, hb, hml, hown, hts, hA, hlocks, hret, hE, hZ⟩ := hF
  intro H locs ls hP hD hS hl
  have hP := vP_perm hp hP
  have hD := vD_perm hp hD
  have hPc : va_P D cl0 w0 H := vP_left hP
  have hDc : va_D A w0 := vD_left hD
  have hFc : ∀ q, va_A w0 H.size q → A q := vfree hDc hS hA
  refine vx_callv (vx_runSX (As := As) (rest := st) ⟨hx, hb, hml, hown, hts⟩ (hM H.size) (vx_cwSW As.length hts (lw_SW hq1 hq2 hq3 hq5) rfl hrm.1 hrm.2.1 hds.2 hrm.2.2) ⟨fun a U g mk q => by obtain ⟨q0, q1, qP, qK, qD, qZ⟩ := q; exact ⟨q0, q1, qP, qK.blind, qD, vZA.moved (u := U) (U := U.calling g mk a) (Vm.Alike.refl U.vm) qZ⟩, fun U hU hW => ⟨rfl, by rw [hU], by rw [hU]; exact hPc, hE.warm hW, hDc.weaken (fun _ _ _ _ => trivial), by rw [hU]; exact vZA.moved hW.alike ((hZ.kept hS.2.1).narrow hFc)⟩⟩ rfl rfl hl.1 rfl (lv_room hst) hd hcs) hS (fun q _ h => hFc q h) hFc (fun q _ h => hFc q h) (fun E ce q9 u t H1 locs ht hvm _ hB hz1 hk1 hS hce hcv hcl => ?_) (fun u t H1 locs ht hvm hw1 hB hz1 hk1 hS => ?_)
  · obtain ⟨u, o⟩ := u
    cases o with
    | none =>
      obtain ⟨hX9, hP1, hD1⟩ := hB
      rw [ht] at hP1
      obtain ⟨hP, hD⟩ := vjoin hP hD hk1 hFc hP1 hD1
      exact kx E q9 u hX9 H1 locs ls ce hP hD hS hl hce hcv hcl
    | some cr =>
      obtain ⟨ci1, r1⟩ := cr
      obtain ⟨hX9, hy9, hP1, hD1⟩ := hB
      rw [ht] at hP1
      obtain ⟨hP, hD⟩ := vjoin hP hD hk1 hFc hP1 hD1
      exact ky E q9 ci1 r1 u hX9 hy9 H1 locs ls ce hP hD hS hl hce hcv hcl
  · obtain ⟨hP1, hD1⟩ := hB
    rw [ht] at hP1
    obtain ⟨hP, hD⟩ := vjoin hP hD hk1 hFc hP1 hD1
    exact kk u hw1 H1 locs ls hP hD hS hl
theorem v_callXVWr {x : vC} {l : Launch} {D : va_G} {own : String} {cc : ByteArray} {rm : Room} {nL : Nat} {rt : Option FieldType} {k n : Nat} {ws : va_W} {lv : List (Nat × Value)} {st : List Value} {S : Type} {idx maxL mc ms : Nat} {hh : List (Nat × Nat × Nat × Nat)} {y : MethodName} {bytes : ByteArray} {rt2 : FieldType} {rm2 : Room} {As : List Value} {b : Nat} {w0 wr : va_W} {w1 : S → va_W} {ad : S → Nat} {Q2 : S → Prop} {X2 : String → S → Prop} {Y2 : String → Int32 → S → Prop} (pc : Nat) (hF : vF x l D own cc rm nL rt) (hM : CxrW l D y bytes maxL hh rt2 rm2 (.ref b :: As) w0 w1 ad Q2 X2 Y2 mc ms) (hp : ws.Perm (w0 ++ wr)) (hrv : ∃ (q0 ci : Nat) (fs : List Value) (T : u_T) (N : Nat), w0[q0]? = some (b, .inr (ci, fs)) ∧ cl0[ci]? = some (y.cls, T, N)) (hq1 : Cond.methodLink own idx y ∈ lw_all) (hq2 : Cond.instanceMethod y ∈ lw_all) (hq3 : Cond.selects y.cls y y ∈ lw_all) (hq4 : Cond.initialized y.cls ∈ lw_all) (hq5 : Cond.codeWith y bytes maxL (some rt2) hh ∈ lw_all) (hds : y.cls = y.cls ∧ y.cls ≠ "java/lang/invoke/MethodHandle" ∧ y.cls ≠ "java/lang/invoke/VarHandle" ∧ (parseMethodDescriptor y.desc).map (fun d => d.parameters.length) = some As.length)
    (hrm : rm2.cells = mc ∧ rm2.slots = ms ∧ rm2.frames + 1 ≤ rm.frames ∧ 8 + (maxL + 11) + rm2.locals ≤ rm.locals) (hst : (st.map fun v => v.category).sum ≤ 8) (hcs : k + mc ≤ rm.cells ∧ n + ms ≤ rm.slots) (hd : decode cc pc = .ok (.invokevirtual idx, 3))
    (kx : ∀ (E : String) (q : Nat) (u : S), X2 E u → vT x (k + mc) (n + ms) (w1 u ++ wr) lv pc st E q)
    (ky : ∀ (E : String) (q ci : Nat) (r : Int32) (u : S), Y2 E r u → vPay E ci → vT x (k + mc) (n + ms) ((q, .inr (ci, rfF r)) :: (w1 u ++ wr)) lv pc st E q)
    (kk : ∀ (u : S), Q2 u → vV x (k + mc) (n + ms) (w1 u ++ wr) lv (pc + 3) (.ref (ad u) :: st)) : vV x k n ws lv pc (As.reverse ++ .ref b :: st) := by
  obtain ⟨q9, ci9, fs9, T9, N9, he9, hc9⟩ := hrv
  obtain ⟨p, l, e, R, s, m, args, below, meth, c, Q, D, A, nL⟩ := x
  obtain ⟨rfl, rfl, rfl, rfl, hx, hb, hml, hown, hts, hA, hlocks, hret, hE, hZ⟩ := hF
  intro H locs ls hP hD hS hl
  have hP := vP_perm hp hP
  have hD := vD_perm hp hD
  have hPc : va_P D cl0 w0 H := vP_left hP
  have hDc : va_D A w0 := vD_left hD
  have hFc : ∀ q, va_A w0 H.size q → A q := vfree hDc hS hA
  refine vx_callr (vx_runVX (As := As) (rest := st) (b := b) ⟨hx, hb, hml, hown, hts⟩ (hM H.size) (vx_cwVW As.length hts (lw_VW hq1 hq2 hq3 hq4 hq5) rfl hrm.1 hrm.2.1 hds hrm.2.2) ⟨fun a U g mk q => by obtain ⟨q0, q1, qP, qK, qD, qZ⟩ := q; exact ⟨q0, q1, qP, qK.blind, qD, vZA.moved (u := U) (U := U.calling g mk a) (Vm.Alike.refl U.vm) qZ⟩, va_recv hE.1 hPc (ci := ci9) (q0 := q9) hc9 he9, fun U hU hW => ⟨rfl, by rw [hU], by rw [hU]; exact hPc, hE.warm hW, hDc.weaken (fun _ _ _ _ => trivial), by rw [hU]; exact vZA.moved hW.alike ((hZ.kept hS.2.1).narrow hFc)⟩⟩ rfl rfl hl.1 rfl (lv_room hst) hd hcs) hS (fun q _ h => hFc q h) hFc (fun q _ h => hFc q h) (fun E ce q9 u t H1 locs ht hvm _ hB hz1 hk1 hS hce hcv hcl => ?_) (fun u a9 t H1 locs ht hvm hw1 hB hz1 hk1 hS => ?_)
  · obtain ⟨u, o⟩ := u
    cases o with
    | none =>
      obtain ⟨hX9, hP1, hD1⟩ := hB
      rw [ht] at hP1
      obtain ⟨hP, hD⟩ := vjoin hP hD hk1 hFc hP1 hD1
      exact kx E q9 u hX9 H1 locs ls ce hP hD hS hl hce hcv hcl
    | some cr =>
      obtain ⟨ci1, r1⟩ := cr
      obtain ⟨hX9, hy9, hP1, hD1⟩ := hB
      rw [ht] at hP1
      obtain ⟨hP, hD⟩ := vjoin hP hD hk1 hFc hP1 hD1
      exact ky E q9 ci1 r1 u hX9 hy9 H1 locs ls ce hP hD hS hl hce hcv hcl
  · obtain ⟨rfl, hP1, hD1⟩ := hB
    rw [ht] at hP1
    obtain ⟨hP, hD⟩ := vjoin hP hD hk1 hFc hP1 hD1
    exact kk u hw1 H1 locs ls hP hD hS hl
theorem v_callXSWr {x : vC} {l : Launch} {D : va_G} {own : String} {cc : ByteArray} {rm : Room} {nL : Nat} {rt : Option FieldType} {k n : Nat} {ws : va_W} {lv : List (Nat × Value)} {st : List Value} {S : Type} {idx maxL mc ms : Nat} {hh : List (Nat × Nat × Nat × Nat)} {y : MethodName} {bytes : ByteArray} {rt2 : FieldType} {rm2 : Room} {As : List Value} {w0 wr : va_W} {w1 : S → va_W} {ad : S → Nat} {Q2 : S → Prop} {X2 : String → S → Prop} {Y2 : String → Int32 → S → Prop} (pc : Nat) (hF : vF x l D own cc rm nL rt) (hM : CxrW l D y bytes maxL hh rt2 rm2 As w0 w1 ad Q2 X2 Y2 mc ms) (hp : ws.Perm (w0 ++ wr)) (hq1 : Cond.methodLink own idx y ∈ lw_all) (hq2 : Cond.static y ∈ lw_all) (hq3 : Cond.initialized y.cls ∈ lw_all) (hq5 : Cond.codeWith y bytes maxL (some rt2) hh ∈ lw_all) (hds : y.cls = y.cls ∧ y.cls ≠ "java/lang/invoke/MethodHandle" ∧ y.cls ≠ "java/lang/invoke/VarHandle" ∧ (parseMethodDescriptor y.desc).map (fun d => d.parameters.length) = some As.length)
    (hrm : rm2.cells = mc ∧ rm2.slots = ms ∧ rm2.frames + 1 ≤ rm.frames ∧ 8 + (maxL + 11) + rm2.locals ≤ rm.locals) (hst : (st.map fun v => v.category).sum ≤ 8) (hcs : k + mc ≤ rm.cells ∧ n + ms ≤ rm.slots) (hd : decode cc pc = .ok (.invokestatic idx, 3))
    (kx : ∀ (E : String) (q : Nat) (u : S), X2 E u → vT x (k + mc) (n + ms) (w1 u ++ wr) lv pc st E q)
    (ky : ∀ (E : String) (q ci : Nat) (r : Int32) (u : S), Y2 E r u → vPay E ci → vT x (k + mc) (n + ms) ((q, .inr (ci, rfF r)) :: (w1 u ++ wr)) lv pc st E q)
    (kk : ∀ (u : S), Q2 u → vV x (k + mc) (n + ms) (w1 u ++ wr) lv (pc + 3) (.ref (ad u) :: st)) : vV x k n ws lv pc (As.reverse ++ st) := by
  obtain ⟨p, l, e, R, s, m, args, below, meth, c, Q, D, A, nL⟩ := x
  obtain ⟨rfl, rfl, rfl, rfl, hx, hb, hml, hown, hts, hA, hlocks, hret, hE, hZ⟩ := hF
  intro H locs ls hP hD hS hl
  have hP := vP_perm hp hP
  have hD := vD_perm hp hD
  have hPc : va_P D cl0 w0 H := vP_left hP
  have hDc : va_D A w0 := vD_left hD
  have hFc : ∀ q, va_A w0 H.size q → A q := vfree hDc hS hA
  refine vx_callr (vx_runSX (As := As) (rest := st) ⟨hx, hb, hml, hown, hts⟩ (hM H.size) (vx_cwSW As.length hts (lw_SW hq1 hq2 hq3 hq5) rfl hrm.1 hrm.2.1 hds.2 hrm.2.2) ⟨fun a U g mk q => by obtain ⟨q0, q1, qP, qK, qD, qZ⟩ := q; exact ⟨q0, q1, qP, qK.blind, qD, vZA.moved (u := U) (U := U.calling g mk a) (Vm.Alike.refl U.vm) qZ⟩, fun U hU hW => ⟨rfl, by rw [hU], by rw [hU]; exact hPc, hE.warm hW, hDc.weaken (fun _ _ _ _ => trivial), by rw [hU]; exact vZA.moved hW.alike ((hZ.kept hS.2.1).narrow hFc)⟩⟩ rfl rfl hl.1 rfl (lv_room hst) hd hcs) hS (fun q _ h => hFc q h) hFc (fun q _ h => hFc q h) (fun E ce q9 u t H1 locs ht hvm _ hB hz1 hk1 hS hce hcv hcl => ?_) (fun u a9 t H1 locs ht hvm hw1 hB hz1 hk1 hS => ?_)
  · obtain ⟨u, o⟩ := u
    cases o with
    | none =>
      obtain ⟨hX9, hP1, hD1⟩ := hB
      rw [ht] at hP1
      obtain ⟨hP, hD⟩ := vjoin hP hD hk1 hFc hP1 hD1
      exact kx E q9 u hX9 H1 locs ls ce hP hD hS hl hce hcv hcl
    | some cr =>
      obtain ⟨ci1, r1⟩ := cr
      obtain ⟨hX9, hy9, hP1, hD1⟩ := hB
      rw [ht] at hP1
      obtain ⟨hP, hD⟩ := vjoin hP hD hk1 hFc hP1 hD1
      exact ky E q9 ci1 r1 u hX9 hy9 H1 locs ls ce hP hD hS hl hce hcv hcl
  · obtain ⟨rfl, hP1, hD1⟩ := hB
    rw [ht] at hP1
    obtain ⟨hP, hD⟩ := vjoin hP hD hk1 hFc hP1 hD1
    exact kk u hw1 H1 locs ls hP hD hS hl
