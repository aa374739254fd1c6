set_option maxRecDepth 100000
/-- an object that an array of Objects may hold -/
def vRO (U : State) (H : Heap) (v : Nat) : Prop := ∃ (cellV : Cell) (kC : Class), H[v]? = some cellV ∧ cellV.vm.isStatics = false ∧ U.vm.classes[cellV.cls]? = some kC ∧ ∀ comp, U.vm.findClass "java/lang/Object" = some comp → U.vm.assignable cellV.cls comp = true
abbrev vROw (D : va_G) (ws : va_W) (v : Nat) : Prop := ∀ (A : Nat → Prop) (U : State) (args : Array Value) (H : Heap), (∀ w ∈ lw_all, w.before args U = true) → vEN D U → va_P D cl0 ws H → vZA D A U H → vRO U H v
theorem vROw.perm {D : va_G} {ws ws' : va_W} {v : Nat} (hp : ws'.Perm ws) (h : vROw D ws v) : vROw D ws' v := fun A U args H h1 h2 h3 h4 => h A U args H h1 h2 (vP_perm hp h3) h4
theorem vROw.app {D : va_G} {w wr : va_W} {v : Nat} (h : vROw D w v) : vROw D (w ++ wr) v := fun A U args H h1 h2 h3 h4 => h A U args H h1 h2 (vP_left h3) h4
theorem vROw.appr {D : va_G} {w wr : va_W} {v : Nat} (h : vROw D wr v) : vROw D (w ++ wr) v := fun A U args H h1 h2 h3 h4 => h A U args H h1 h2 (vP_right h3) h4
theorem made_asg {σ : Lambda.Shape} {x0 : MethodName} {pc ix : Nat} {cK : ClassId} {lk : Linked} {U : State} {args : Array Value} (h : LmAt σ x0 pc ix cK lk U) (hI : (Cond.instantiable "java/lang/Object" 0).before args U = true) : (∃ kC, U.vm.classes[cK]? = some kC) ∧ ∀ comp, U.vm.findClass "java/lang/Object" = some comp → U.vm.assignable cK comp = true := by
  obtain ⟨m0, k0, cf0, i0, p0, hm0, hk0, hcf0, hsh0, hf0, hmade, hcan⟩ := h
  obtain ⟨dk, k, ok, tk, file, cf, object, iface, t, lay, methods, target, found, q1, q2, q3, q4, q5, q6, q7, q8, q9, q10, q11, q12, q13, ⟨q14, q15, q16, q17, q18, q19⟩, -⟩ := Lambda.isMade_spec hmade
  obtain ⟨cO, kO, hfO, hkO, hord, hint, -, -⟩ := Cond.instantiable_spec hI
  cases hfO.symm.trans q5
  refine ⟨⟨k, q2⟩, fun comp hc => ?_⟩
  cases hc.symm.trans hfO
  have hint : kO.isInterface = false := by
    cases h9 : kO.isInterface with
    | false => rfl
    | true => rw [h9] at hint; cases hint
  have hlt : 0 < U.vm.classes.size := Nat.lt_of_le_of_lt (Nat.zero_le _) (Array.getElem?_eq_some_iff.mp q2).1
  obtain ⟨z, hz⟩ : ∃ z, U.vm.classes.size = z + 1 := ⟨U.vm.classes.size - 1, by omega⟩
  have hsub : U.vm.isSubclass cK object = true := by
    simp [Vm.isSubclass, Vm.isSubclassAux, hz, q2, q17]
  show Vm.assignableAux U.vm (255 + 1) cK object = true
  rw [Vm.assignableAux]
  simp [q2, hkO, q15, hord, hint, hsub]
theorem v_aastD {x : vC} {l : Launch} {D : va_G} {own : String} {cc : ByteArray} {rm : Room} {nL : Nat} {rt : Option FieldType} {k n : Nat} {ws : va_W} {lv : List (Nat × Value)} {st : List Value} {b len v : Nat} {f : Nat → Option Nat} {i : Int32} (ws1 : va_W) (pc : Nat) (hF : vF x l D own cc rm nL rt) (q0 : Nat) (ha : ws[q0]? = some (b, .inl (dO_ D, len, .inr (.inr (.inr (.inr f)))))) (hz : vROw D ws v) (hi : vp_in i len) (hw : ws.set q0 (b, .inl (dO_ D, len, .inr (.inr (.inr (.inr (va_up f i.toNatClampNeg (some v))))))) = ws1) (hd : decode cc pc = .ok (.aastore, 1))
    (kk : vV x k n ws1 lv (pc + 1) st) : vV x k n ws lv pc (.ref v :: .int i :: .ref b :: st) := by
  subst hw
  obtain ⟨p, l, e, R, s, m, args, below, meth, c, Q, D, A, nL⟩ := x
  obtain ⟨rfl, rfl, rfl, rfl, hx, hb, hml, hown, hts, hA, hlocks, hret, hE, hZ⟩ := hF
  intro H locs ls hP hD hS hl
  have hlt : i.toNatClampNeg < len := Nat.not_le.mp fun q => hi (Or.inr q)
  have h0 : ¬ i < 0 := fun q => hi (Or.inl q)
  obtain ⟨cellV, kC, g1, g3, hkC, hasg⟩ := hz A s args H hts hE hP (hZ.kept hS.2.1)
  obtain ⟨kA, comp, k1, k2, k3, -⟩ := (hE.1.2 5 _ rfl).2
  obtain ⟨kE, hkE, -⟩ := Vm.findClass_spec k3
  refine W.aast hx hb (hP q0 _ ha) (fun q h => by cases h) (fun h => by cases h) k1 k2 rfl hkE ⟨h0, by show _ < (arrV _ _ _).slots.size; rw [arrV_size]; exact hlt⟩ g1 (fun q h => by rw [h] at g3; cases g3) hkC (hasg _ k3) rfl rfl hd fun H1 e z oq => ?_
  refine kk H1 _ ls (hP.set hD ha ?_ oq) (hD.set ha) (hS.put z oq (hD.2 q0 _ ha)) hl
  show H1[b]? = some (vp_cell _ _)
  rw [e]
  rw [vp_cell_q, vp_cell_q, arrV_store]
  congr 2
  funext q
  by_cases hq : q = i.toNatClampNeg
  · subst hq
    simp [updV, va_up, va_rf]
  · simp [updV, va_up, hq]
theorem v_getR {x : vC} {l : Launch} {D : va_G} {own : String} {cc : ByteArray} {rm : Room} {nL : Nat} {rt : Option FieldType} {k n : Nat} {ws : va_W} {lv : List (Nat × Value)} {st : List Value} {C ref : String} {T : u_T} {N ci idx b : Nat} {fs : List Value} {v : Value} (pc : Nat) (hF : vF x l D own cc rm nL rt) (hin : ∀ w ∈ u_ws C T N, w ∈ lw_all) (q0 : Nat) (he : ws[q0]? = some (b, .inr (ci, fs))) (hc : cl0[ci]? = some (C, T, N)) (kf : Nat) (hk : kf < N) (hq : Cond.fieldLink own idx ref (T kf).2.1 (T kf).2.2.1 ∈ lw_all) (hsf : Cond.sameField ref (T kf).1 (T kf).2.1 (T kf).2.2.1 ∈ lw_all) (hv : fs[kf]? = some v) (hd : decode cc pc = .ok (.getfield idx, 3))
    (kk : vV x k n ws lv (pc + 3) (v :: st)) : vV x k n ws lv pc (.ref b :: st) := by
  obtain ⟨p, l, e, R, s, m, args, below, meth, c, Q, D, A, nL⟩ := x
  obtain ⟨rfl, rfl, rfl, rfl, hx, hb, hml, hown, hts, hA, hlocks, hret, hE, hZ⟩ := hF
  intro H locs ls hP hD hS hl
  exact va_get (D := D) (ci := ci) (v := v) (C := C) (T := T) (N := N) hx hb hts hin hown hE.1 hP q0 he hc kf hk (hts _ hq) (u_same (hts _ hsf)) hv hd (kk H locs ls hP hD hS hl)
theorem v_putR {x : vC} {l : Launch} {D : va_G} {own : String} {cc : ByteArray} {rm : Room} {nL : Nat} {rt : Option FieldType} {k n : Nat} {ws : va_W} {lv : List (Nat × Value)} {st : List Value} {C ref : String} {T : u_T} {N ci idx b : Nat} {fs : List Value} {v : Value} {ty0 : Nat → FieldType} {ty : FieldType} (ws1 : va_W) (pc : Nat) (hF : vF x l D own cc rm nL rt) (hin : ∀ w ∈ u_ws C T N, w ∈ lw_all) (hty : ∀ k, k < N → parseFieldDescriptor (T k).2.2.1 = some (ty0 k)) (hnm : ∀ a, a < N → ∀ b, b < N → a ≠ b → (T a).2.1 ≠ (T b).2.1) (q0 : Nat) (he : ws[q0]? = some (b, .inr (ci, fs))) (hc : cl0[ci]? = some (C, T, N)) (kf : Nat) (hk : kf < N) (hq : Cond.fieldLink own idx ref (T kf).2.1 (T kf).2.2.1 ∈ lw_all) (hsf : Cond.sameField ref (T kf).1 (T kf).2.1 (T kf).2.2.1 ∈ lw_all) (hfin : (T kf).2.2.2 = false) (hty1 : ty0 kf = ty) (hn : narrow ty v = v) (hfit : fits ty v = true) (hlen : kf < fs.length) (hw : ws.set q0 (b, .inr (ci, fs.set kf v)) = ws1) (hd : decode cc pc = .ok (.putfield idx, 3))
    (kk : vV x k n ws1 lv (pc + 3) st) : vV x k n ws lv pc (v :: .ref b :: st) := by
  subst hw
  obtain ⟨p, l, e, R, s, m, args, below, meth, c, Q, D, A, nL⟩ := x
  obtain ⟨rfl, rfl, rfl, rfl, hx, hb, hml, hown, hts, hA, hlocks, hret, hE, hZ⟩ := hF
  intro H locs ls hP hD hS hl
  exact va_put (D := D) (ci := ci) (v := v) (ty := ty) (C := C) (T := T) (N := N) hx hb hts hin ty0 hty hnm hown hE.1 hP hD hS q0 he hc kf hk (hts _ hq) (u_same (hts _ hsf)) hfin (by rw [hty kf hk, hty1]) hn hfit hlen hd (fun H locs hP hD hS => kk H locs ls hP hD hS hl)
theorem vo_copyq {p : Program} {l : Launch} {e : Env} {R : Room} {s : State} {m : MethodId} {args : Array Value} {below : List Frame} {meth : Method} {c : Code} {H : Heap} {locs : List Loc} {cells slots : Nat} {Q : State → Prop} {pc : Nat} {ls : Array Slot} {rest : List Value} {D : va_G} {cl : List vw_C} {A : Nat → Prop} {a : Nat} {tys : List (ClassId × FieldType)} {ws : va_W} {H0 : Heap} {cc : ByteArray} (hexec : p.tables.exec = Jvm.exec) (hb : c.code = cc) (hml : c.maxLocals = ls.size) {own : String} {index : Nat} (hown : s.vm.findClass own = some m.cls) (hlink : (Cond.methodLink own index arraycopyName).before args s = true) (hnat : (Cond.native arraycopyName).before args s = true) (hstat : (Cond.static arraycopyName).before args s = true) (hini : (Cond.initialized "java/lang/System").before args s = true)
    (hK : va_K D cl tys s) (hP : va_P D cl ws H) (hD : va_D A ws) (hS : va_S A H0 H locs) (q0 q1 t0 t1 : Nat) {a0 : Nat} {c0 c1 : ClassId} {n0 n1 : Nat} {f g : Nat → Option Nat} {E0 : String} (ha0 : ws[q0]? = some (a0, .inl (c0, n0, .inr (.inr (.inr (.inr f)))))) (ha1 : ws[q1]? = some (a, .inl (c1, n1, .inr (.inr (.inr (.inr g)))))) (ht0 : tys[t0]? = some (c0, .object E0)) (ht1 : tys[t1]? = some (c1, .object "java/lang/Object"))
    {sp dp n : Int32} (h1 : ¬ sp < 0) (h2 : ¬ dp < 0) (h3 : ¬ n < 0) (h4 : sp.toNatClampNeg + n.toNatClampNeg ≤ n0) (h5 : dp.toNatClampNeg + n.toNatClampNeg ≤ n1) (hel : ∀ i : Nat, i < n.toNatClampNeg → ∀ y : Nat, f (sp.toNatClampNeg + i) = some y → vRO s H y)
    (hframes : 1 ≤ R.frames) (hlocals : (rest.map fun v => v.category).sum + (nativeFrameWords "java/lang/System" "arraycopy" 5 + 11) ≤ R.locals) (hdg : decode cc pc = .ok (.invokestatic index, 3))
    (kk : ∀ (H1 : Heap) (locs1 : List Loc), va_P D cl (ws.set q1 (a, .inl (c1, n1, .inr (.inr (.inr (.inr (va_cpy f g sp.toNatClampNeg dp.toNatClampNeg n.toNatClampNeg))))))) H1 → va_D A (ws.set q1 (a, .inl (c1, n1, .inr (.inr (.inr (.inr (va_cpy f g sp.toNatClampNeg dp.toNatClampNeg n.toNatClampNeg))))))) → va_S A H0 H1 locs1 → W p l e R s m args below meth c H1 locs1 cells slots Q (F0 m (pc + 3) ls rest)) : W p l e R s m args below meth c H locs cells slots Q (F0 m pc ls (.int n :: .int dp :: .ref a :: .int sp :: .ref a0 :: rest)) := by
  have nn : ∀ z : Int32, ¬ z < 0 → z.toInt = (z.toNatClampNeg : Int) := by
    intro z hz
    have hz0 : (0 : Int) ≤ z.toInt := by
      have := Int32.not_lt.mp hz
      simpa using Int32.le_iff_toInt_le.mp this
    show z.toInt = ((z.toInt.toNat : Nat) : Int)
    omega
  intro T hT X
  have hc0 : H[a0]? = some (vp_cell c0 (n0, .inr (.inr (.inr (.inr f))))) := hP q0 _ ha0
  have hc1 : H[a]? = some (vp_cell c1 (n1, .inr (.inr (.inr (.inr g))))) := hP q1 _ ha1
  obtain ⟨-, k0, hk0, cm0, hkk0⟩ := (hK.2 t0 _ ht0).1 n0 (fun j => va_rf (f j))
  obtain ⟨-, k1, hk1, cm1, hkk1⟩ := (hK.2 t1 _ ht1).1 n1 (fun j => va_rf (g j))
  obtain ⟨vm', X', step⟩ := X.arraycopy hexec hown hlink hnat hstat hini (src := a0) (dst := a) (cs := vp_cell c0 (n0, .inr (.inr (.inr (.inr f))))) (cd := vp_cell c1 (n1, .inr (.inr (.inr (.inr g))))) (srcPos := sp) (destPos := dp) (n := n) (by rw [hT]; exact hc0) (by rw [hT]; exact hc1)
    (fun _ h => by cases h) (fun _ h => by cases h) (fun h => by cases h) (fun h => by cases h) hk0 hk1 hkk0 hkk1 rfl h1 h2 h3
    (by rw [nn sp h1, nn n h3]; show ¬ _ > ((arrV c0 n0 (fun j => va_rf (f j))).slots.size : Int); rw [arrV_size]; omega)
    (by rw [nn dp h2, nn n h3]; show ¬ _ > ((arrV c1 n1 (fun j => va_rf (g j))).slots.size : Int); rw [arrV_size]; omega)
    (fun vm₁ hal i hi => by
      have e : (vp_cell c0 (n0, .inr (.inr (.inr (.inr f))))).slots.getD (sp.toNatClampNeg + i) .null = va_rf (f (sp.toNatClampNeg + i)) := by
        show (arrV c0 n0 (fun j => va_rf (f j))).slots.getD _ _ = _
        rw [Array.getD_eq_getD_getElem?, arrV_read _ _ (by omega)]
        rfl
      rw [e]
      cases hy : f (sp.toNatClampNeg + i) with
      | none => exact ⟨rfl, trivial⟩
      | some y =>
        obtain ⟨cellV, kC, g1, g2, hkC, g3⟩ := hel i hi y hy
        obtain ⟨kA, comp, r1, r2, r3, -⟩ := (hK.2 t1 _ ht1).2
        cases hk1.symm.trans r1
        cases hkk1.symm.trans r2
        obtain ⟨kE, hkE, -⟩ := Vm.findClass_spec r3
        obtain ⟨kC', hkC', -⟩ := hal.2.2 _ _ hkC
        obtain ⟨kE', hkE', -⟩ := hal.2.2 _ _ hkE
        refine ⟨rfl, cellV, (show T.heap[y]? = some cellV by rw [hT]; exact g1), (fun q h => by rw [h] at g2; cases g2), ⟨kC', hkC'⟩, ?_, ?_⟩
        · exact ⟨kE', hkE'⟩
        · show vm₁.assignable _ _ = true
          rw [hal.assignable]
          exact g3 _ r3)
    (g := F0 m pc ls (.int n :: .int dp :: .ref a :: .int sp :: .ref a0 :: rest)) rfl (by rw [hml]) (rest := rest) rfl (by rw [hb]; exact hdg) hframes (by show 2 * 0 + _ + _ ≤ _; omega)
  have e1 : copied (vp_cell c0 (n0, .inr (.inr (.inr (.inr f))))) (vp_cell c1 (n1, .inr (.inr (.inr (.inr g))))) sp dp n = vp_cell c1 (n1, .inr (.inr (.inr (.inr (va_cpy f g sp.toNatClampNeg dp.toNatClampNeg n.toNatClampNeg))))) := by
    rw [vp_cell_q, vp_cell_q, vp_cell_q]
    exact va_copied (fun z => va_rf z) c0 c1 f g h4
  rw [e1] at X' step
  have hl : a < H.size := (Array.getElem?_eq_some_iff.mp hc1).1
  have hheap : ((T.setVm vm').setCell a (vp_cell c1 (n1, .inr (.inr (.inr (.inr (va_cpy f g sp.toNatClampNeg dp.toNatClampNeg n.toNatClampNeg))))))).heap = H.setIfInBounds a (vp_cell c1 (n1, .inr (.inr (.inr (.inr (va_cpy f g sp.toNatClampNeg dp.toNatClampNeg n.toNatClampNeg)))))) := by rw [← hT]; rfl
  have oq : ∀ q : Nat, q ≠ a → (H.setIfInBounds a (vp_cell c1 (n1, .inr (.inr (.inr (.inr (va_cpy f g sp.toNatClampNeg dp.toNatClampNeg n.toNatClampNeg)))))))[q]? = H[q]? := fun q hq => by simp [Array.getElem?_setIfInBounds, Ne.symm hq]
  obtain ⟨t, a1, b1⟩ := kk _ _ (hP.set hD ha1 (show (H.setIfInBounds a _)[a]? = some _ by simp [Array.getElem?_setIfInBounds, hl]) oq) (hD.set ha1) ⟨by simp; exact hS.1, fun q g1 g2 => by
      rw [oq q (fun e => g2 (by rw [e]; exact hD.2 q1 _ ha1))]
      exact hS.2.1 q g1 g2, fun q hq => by
      rcases List.mem_append.mp hq with h | h
      · exact hS.2.2 q h
      · obtain ⟨z, -, hz⟩ := List.mem_map.mp h
        rw [← hz]
        exact hD.2 q1 _ ha1⟩ _ hheap X'
  exact ⟨t, step t a1, b1⟩
theorem v_copyO {x : vC} {l : Launch} {D : va_G} {own : String} {cc : ByteArray} {rm : Room} {nL : Nat} {rt : Option FieldType} {k n : Nat} {ws : va_W} {lv : List (Nat × Value)} {st : List Value} {idx b0 b1 n0 n1 : Nat} {f g : Nat → Option Nat} {sp dp ct : Int32} (ws1 : va_W) (pc : Nat) (hF : vF x l D own cc rm nL rt) (hq : Cond.methodLink own idx arraycopyName ∈ lw_all) (q0 q1 : Nat) (ha0 : ws[q0]? = some (b0, .inl (dO_ D, n0, .inr (.inr (.inr (.inr f)))))) (ha1 : ws[q1]? = some (b1, .inl (dO_ D, n1, .inr (.inr (.inr (.inr g)))))) (hel : ∀ i : Nat, i < ct.toNatClampNeg → ∀ y : Nat, f (sp.toNatClampNeg + i) = some y → vROw D ws y) (h1 : ¬ sp < 0) (h2 : ¬ dp < 0) (h3 : ¬ ct < 0) (h4 : sp.toNatClampNeg + ct.toNatClampNeg ≤ n0) (h5 : dp.toNatClampNeg + ct.toNatClampNeg ≤ n1) (hfr : 1 ≤ rm.frames) (hlo : (st.map fun v => v.category).sum + (nativeFrameWords "java/lang/System" "arraycopy" 5 + 11) ≤ rm.locals) (hw : ws.set q1 (b1, .inl (dO_ D, n1, .inr (.inr (.inr (.inr (va_cpy f g sp.toNatClampNeg dp.toNatClampNeg ct.toNatClampNeg)))))) = ws1) (hd : decode cc pc = .ok (.invokestatic idx, 3))
    (kk : vV x k n ws1 lv (pc + 3) st) : vV x k n ws lv pc (.int ct :: .int dp :: .ref b1 :: .int sp :: .ref b0 :: st) := by
  subst hw
  obtain ⟨p, l, e, R, s, m, args, below, meth, c, Q, D, A, nL⟩ := x
  obtain ⟨rfl, rfl, rfl, rfl, hx, hb, hml, hown, hts, hA, hlocks, hret, hE, hZ⟩ := hF
  intro H locs ls hP hD hS hl
  exact vo_copyq hx hb (hml.trans hl.1.symm) hown (hts _ hq) (hts _ q_native) (hts _ q_static) (hts _ q_inisys) hE.1 hP hD hS q0 q1 5 5 ha0 ha1 rfl rfl h1 h2 h3 h4 h5 (fun i hi y hy => hel i hi y hy A s args H hts hE hP (hZ.kept hS.2.1)) hfr hlo hd (fun H locs hP hD hS => kk H locs ls hP hD hS hl)
/-- a new array of Objects, of at most M -/
theorem v_anewM {x : vC} {l : Launch} {D : va_G} {own : String} {cc : ByteArray} {rm : Room} {nL : Nat} {rt : Option FieldType} {k n : Nat} {ws : va_W} {lv : List (Nat × Value)} {st : List Value} {idx : Nat} {sz : Int32} (M : Nat) (pc : Nat) (hF : vF x l D own cc rm nL rt) (hq : Cond.classLink own idx "java/lang/Object" ∈ lw_all) (hq2 : Cond.arrayOver (.object "java/lang/Object") ∈ lw_tbl) (hn0 : ¬ sz < 0) (hN : sz.toNatClampNeg ≤ M) (hM : M * 4 ≤ 536870912) (hcs : k + 1 ≤ rm.cells ∧ n + M ≤ rm.slots) (hd : decode cc pc = .ok (.anewarray idx, 3))
    (kk : ∀ q : Nat, vV x (k + 1) (n + M) (ws ++ [(q, .inl (dO_ D, sz.toNatClampNeg, .inr (.inr (.inr (.inr (fun _ => none))))))]) lv (pc + 3) (.ref q :: st)) : vV x k n ws lv pc (.int sz :: st) := by
  obtain ⟨p, l, e, R, s, m, args, below, meth, c, Q, D, A, nL⟩ := x
  obtain ⟨rfl, rfl, rfl, rfl, hx, hb, hml, hown, hts, hA, hlocks, hret, hE, hZ⟩ := hF
  intro H locs ls hP hD hS hl
  refine va_newq (N' := sz.toNatClampNeg) hx hb hown (hts _ hq) (show va_AO "java/lang/Object" s from hE.2.1 _ hq2 rfl) hE.1 hP hD hS hA hn0 rfl (Nat.le_trans (Nat.mul_le_mul_right _ hN) hM) hcs.1 (Nat.le_trans (Nat.add_le_add_left hN _) hcs.2) hd (fun q cA H hK hP hD hS => ?_)
  have h1 := (hK.2 6 (cA, .object "java/lang/Object") rfl).2
  have h2 := (hE.1.2 5 (dO_ D, .object "java/lang/Object") rfl).2
  obtain ⟨_, _, -, -, -, h1⟩ := h1
  obtain ⟨_, _, -, -, -, h2⟩ := h2
  have e9 : cA = dO_ D := Option.some.inj (h1.symm.trans h2)
  subst e9
  exact W.widen (Nat.le_refl _) (Nat.add_le_add_left hN _) (kk q H locs ls hP hD hS hl)
theorem v_acmpS_eq {x : vC} {l : Launch} {D : va_G} {own : String} {cc : ByteArray} {rm : Room} {nL : Nat} {rt : Option FieldType} {k n : Nat} {ws : va_W} {lv : List (Nat × Value)} {st : List Value} {off : Int} {b : Nat} (pc tgt : Nat) (hF : vF x l D own cc rm nL rt) (hd : decode cc pc = .ok (.if_acmp .eq off, 3)) (ht : (pc : Int) + off = (tgt : Int)) (kk : vV x k n ws lv tgt st) : vV x k n ws lv pc (.ref b :: .ref b :: st) := by
  obtain ⟨p, l, e, R, s, m, args, below, meth, c, Q, D, A, nL⟩ := x
  obtain ⟨rfl, rfl, rfl, rfl, hx, hb, hml, hown, hts, hA, hlocks, hret, hE, hZ⟩ := hF
  intro H locs ls hP hD hS hl
  exact lv_acmp_eq (rx := some b) (ry := some b) hx hb hd ht (fun _ => kk H locs ls hP hD hS hl) (fun h => absurd rfl h)
theorem v_acmpS_ne {x : vC} {l : Launch} {D : va_G} {own : String} {cc : ByteArray} {rm : Room} {nL : Nat} {rt : Option FieldType} {k n : Nat} {ws : va_W} {lv : List (Nat × Value)} {st : List Value} {off : Int} {b : Nat} (pc tgt : Nat) (hF : vF x l D own cc rm nL rt) (hd : decode cc pc = .ok (.if_acmp .ne off, 3)) (ht : (pc : Int) + off = (tgt : Int)) (kk : vV x k n ws lv (pc + 3) st) : vV x k n ws lv pc (.ref b :: .ref b :: st) := by
  obtain ⟨p, l, e, R, s, m, args, below, meth, c, Q, D, A, nL⟩ := x
  obtain ⟨rfl, rfl, rfl, rfl, hx, hb, hml, hown, hts, hA, hlocks, hret, hE, hZ⟩ := hF
  intro H locs ls hP hD hS hl
  exact lv_acmp_ne (rx := some b) (ry := some b) hx hb hd ht (fun h => absurd rfl h) (fun _ => kk H locs ls hP hD hS hl)
theorem v_tlen0 {x : vC} {l : Launch} {D : va_G} {own : String} {cc : ByteArray} {rm : Room} {nL : Nat} {rt : Option FieldType} {k n : Nat} {ws : va_W} {lv : List (Nat × Value)} {st : List Value} (pc : Nat) (hF : vF x l D own cc rm nL rt) (hd : decode cc pc = .ok (.arraylength, 1)) (kk : vV x k n ws lv (pc + 1) (.int 0 :: st)) : vV x k n ws lv pc (.ref (D.2 1002 0) :: st) := by
  obtain ⟨p, l, e, R, s, m, args, below, meth, c, Q, D, A, nL⟩ := x
  obtain ⟨rfl, rfl, rfl, rfl, hx, hb, hml, hown, hts, hA, hlocks, hret, hE, hZ⟩ := hF
  intro H locs ls hP hD hS hl
  exact va_tlen hx hb hZ.2.2.2.1.2 hS (by decide) hd (kk H locs ls hP hD hS hl)
theorem v_getC {x : vC} {l : Launch} {D : va_G} {own : String} {cc : ByteArray} {rm : Room} {nL : Nat} {rt : Option FieldType} {k n : Nat} {ws : va_W} {lv : List (Nat × Value)} {st : List Value} {idx b len : Nat} {f : Nat → Option Nat} (pc : Nat) (hF : vF x l D own cc rm nL rt) (q0 : Nat) (ha : ws[q0]? = some (b, .inl (dO_ D, len, .inr (.inr (.inr (.inr f)))))) (hq : Cond.methodLink own idx ⟨"java/lang/Object", "getClass", "()Ljava/lang/Class;"⟩ ∈ lw_all) (hq1 : Cond.declares ⟨"java/lang/Object", "getClass", "()Ljava/lang/Class;"⟩ ∈ lw_tbl) (hq2 : Cond.selects "[Ljava/lang/Object;" ⟨"java/lang/Object", "getClass", "()Ljava/lang/Class;"⟩ ⟨"java/lang/Object", "getClass", "()Ljava/lang/Class;"⟩ ∈ lw_all) (hq3 : Cond.instanceMethod ⟨"java/lang/Object", "getClass", "()Ljava/lang/Class;"⟩ ∈ lw_all) (hq4 : Cond.native ⟨"java/lang/Object", "getClass", "()Ljava/lang/Class;"⟩ ∈ lw_all) (hfr : 1 ≤ rm.frames) (hlo : (st.map fun v => v.category).sum + 14 ≤ rm.locals) (hd : decode cc pc = .ok (.invokevirtual idx, 3))
    (kk : vV x k n ws lv (pc + 3) (.ref (D.2 1007 0) :: st)) : vV x k n ws lv pc (.ref b :: st) := by
  obtain ⟨p, l, e, R, s, m, args, below, meth, c, Q, D, A, nL⟩ := x
  obtain ⟨rfl, rfl, rfl, rfl, hx, hb, hml, hown, hts, hA, hlocks, hret, hE, hZ⟩ := hF
  intro H locs ls hP hD hS hl
  exact va_getC hx hb (hml.trans hl.1.symm) hown (hts _ hq) (va_Nw.use rfl (hE.2.1 _ hq1 rfl)) (hts _ hq2) (hts _ hq3) (hts _ hq4) hE.2.2.2.2.2.2.2 ⟨_, hP q0 _ ha, rfl, va_nmO (hE.1.2 5 _ rfl).2 (by decide)⟩ hfr hlo hd (kk H locs ls hP hD hS hl)
theorem v_ldcM {x : vC} {l : Launch} {D : va_G} {own : String} {cc : ByteArray} {rm : Room} {nL : Nat} {rt : Option FieldType} {k n : Nat} {ws : va_W} {lv : List (Nat × Value)} {st : List Value} {idx : Nat} (pc : Nat) (hF : vF x l D own cc rm nL rt) (hq : Cond.classLink own idx "[Ljava/lang/Object;" ∈ lw_all) (hd : decode cc pc = .ok (.ldc idx, 2))
    (kk : vV x k n ws lv (pc + 2) (.ref (D.2 1007 0) :: st)) : vV x k n ws lv pc st := by
  obtain ⟨p, l, e, R, s, m, args, below, meth, c, Q, D, A, nL⟩ := x
  obtain ⟨rfl, rfl, rfl, rfl, hx, hb, hml, hown, hts, hA, hlocks, hret, hE, hZ⟩ := hF
  intro H locs ls hP hD hS hl
  exact va_ldcM hx hb hown (hts _ hq) hE.2.2.2.2.2.2.2 hd (kk H locs ls hP hD hS hl)
def vDOw (D : va_G) (ws : va_W) (v : Nat) : Prop := ∀ (A : Nat → Prop) (U : State) (H : Heap), vEN D U → va_P D cl0 ws H → vZA D A U H → ∃ (ce : Cell) (i : ClassId), H[v]? = some ce ∧ ce.vm.isStatics = false ∧ U.vm.findClass "BrookWeirs$Deed" = some i ∧ U.vm.assignable ce.cls i = true
theorem vDOw.app {D : va_G} {w wr : va_W} {v : Nat} (h : vDOw D w v) : vDOw D (w ++ wr) v := fun A U H h1 h2 h3 => h A U H h1 (vP_left h2) h3
theorem vDOw.appr {D : va_G} {w wr : va_W} {v : Nat} (h : vDOw D wr v) : vDOw D (w ++ wr) v := fun A U H h1 h2 h3 => h A U H h1 (vP_right h2) h3
theorem made_deed {σ : Lambda.Shape} {x0 : MethodName} {pc ix : Nat} {cK : ClassId} {lk : Linked} {U : State} (h : LmAt σ x0 pc ix cK lk U) (hσ : σ.iface = "BrookWeirs$Deed") : ∃ i, U.vm.findClass "BrookWeirs$Deed" = some i ∧ U.vm.assignable cK i = true := by
  obtain ⟨m0, k0, cf0, i0, p0, hm0, hk0, hcf0, hsh0, hf0, hmade, hcan⟩ := h
  obtain ⟨i, h1, h2, -⟩ := State.lambdaCallable_spec hcan
  rw [hσ] at h1
  exact ⟨i, h1, h2⟩
theorem v_castD {x : vC} {l : Launch} {D : va_G} {own : String} {cc : ByteArray} {rm : Room} {nL : Nat} {rt : Option FieldType} {k n : Nat} {ws : va_W} {lv : List (Nat × Value)} {st : List Value} {idx b : Nat} (pc : Nat) (hF : vF x l D own cc rm nL rt) (hz : vDOw D ws b) (hq : Cond.classLink own idx "BrookWeirs$Deed" ∈ lw_all) (hd : decode cc pc = .ok (.checkcast idx, 3))
    (kk : vV x k n ws lv (pc + 3) (.ref b :: st)) : vV x k n ws lv pc (.ref b :: st) := by
  obtain ⟨p, l, e, R, s, m, args, below, meth, c, Q, D, A, nL⟩ := x
  obtain ⟨rfl, rfl, rfl, rfl, hx, hb, hml, hown, hts, hA, hlocks, hret, hE, hZ⟩ := hF
  intro H locs ls hP hD hS hl T hT X
  obtain ⟨ce, i, h1, h2, h3, h4⟩ := hz A s H hE hP (hZ.kept hS.2.1)
  obtain ⟨vm', X', st9⟩ := X.checkcastYes hx hown (hts _ hq) (by rw [hT]; exact h1) h2 h3 h4 (g := F0 m pc ls (.ref b :: st)) rfl rfl (by rw [hb]; exact hd)
  obtain ⟨t, a1, b1⟩ := kk H locs ls hP hD hS hl (T.setVm vm') hT X'
  exact ⟨t, st9 t a1, b1⟩
def vXq {S : Type} (x : vC) (w1 : S → va_W) (ad : S → Option Nat) (Qi : S → Prop) (X : String → S → Prop) (Y : String → Int32 → S → Prop) (mc ms : Nat) : Prop :=
  match x with
  | (_, _, _, _, s, _, args, below, _, _, Q, D, A, _) => Q = vx_MQ below (va_Qq (fun r u => r = ad u ∧ Qi u) (fun u t => va_P D cl0 (w1 u) t.heap ∧ va_D A (w1 u)) A) (vXC D w1 X Y A) args s mc ms A
def CxqW (l : Launch) (D : va_G) (y : MethodName) (cc : ByteArray) (maxL : Nat) (hh : List (Nat × Nat × Nat × Nat)) (rt : FieldType) (rm : Room) (av : List Value) {S : Type} (w0 : va_W) (w1 : S → va_W) (ad : S → Option Nat) (Qi : S → Prop) (X : String → S → Prop) (Y : String → Int32 → S → Prop) (mc ms : Nat) : Prop :=
  ∀ sz, vx_Met l y (wsW_ y cc maxL (some rt) hh) rm (vPc D av w0 sz) (va_Qq (fun r u => r = ad u ∧ Qi u) (fun u t => va_P D cl0 (w1 u) t.heap ∧ va_D (va_A w0 sz) (w1 u)) (va_A w0 sz)) (vXC D w1 X Y (va_A w0 sz)) mc ms (va_A w0 sz)
theorem CxqW.of {l : Launch} {D : va_G} {y : MethodName} {cc : ByteArray} {maxL : Nat} {hh : List (Nat × Nat × Nat × Nat)} {rt : FieldType} {rm : Room} {av : List Value} {S : Type} {w0 : va_W} {w1 : S → va_W} {ad : S → Option Nat} {Qi : S → Prop} {X : String → S → Prop} {Y : String → Int32 → S → Prop} {mc ms : Nat} (hy : plainName y.cls = true) (hn : (lg_sl av).length ≤ maxL)
    (h : ∀ x : vC, vF x l D y.cls cc rm maxL (some rt) → vXq x w1 ad Qi X Y mc ms → vHs x hh → vV x 0 0 w0 (lv_args 0 av) 0 []) : CxqW l D y cc maxL hh rt rm av w0 w1 ad Qi X Y mc ms := by
  intro sz
  refine vx_ofWH (hh := hh) (cc := cc) (maxL := maxL) (ret := (some rt)) hy rfl ?_
  intro p e s m args below meth c s₁ B hml hv
  obtain ⟨rfl, hsz, hP, hE, hD0, hZ⟩ := hv
  have hts := atoms_spec (ws := wsW_ y cc maxL (some rt) hh) B.pre
  have hts : ∀ w ∈ lw_all, w.before _ s = true := fun w h => hts w (List.mem_cons_of_mem _ h)
  have hown : s.vm.findClass y.cls = some m.cls := findClass_of_methodNamed B.named
  subst hsz
  have hD := hD0.self (sz := s.heap.size)
  have hA : ∀ q : Nat, s.heap.size ≤ q → va_A w0 s.heap.size q := fun q h => Or.inr h
  have hl := lv_entry av (n := maxL) hn
  rw [lg_entry_eq]
  exact h (p, l, e, (headSpec (wsW_ y cc maxL (some rt) hh) rm).room, s, m, av.toArray, below, meth, c, _, D, va_A w0 s.heap.size, maxL)
    ⟨rfl, rfl, rfl, rfl, B.exec, B.bytes, hml, hown, hts, hA, B.notSynchronized, B.returns, hE, hZ⟩ rfl (vx_table (x := y) B (atoms_spec B.pre _ (List.mem_cons_self ..))) s.heap [] _ hP hD va_S.rf hl
theorem v_aretXq {x : vC} {l : Launch} {D : va_G} {own : String} {cc : ByteArray} {rm : Room} {nL : Nat} {ty : FieldType} {k n : Nat} {lv : List (Nat × Value)} {S : Type} {w1 : S → va_W} {ad : S → Option Nat} {Qi : S → Prop} {X : String → S → Prop} {Y : String → Int32 → S → Prop} {mc ms : Nat} {u : S} {r : Option Nat} (pc : Nat) (hF : vF x l D own cc rm nL (some ty)) (hty : (∃ n, ty = .object n) ∨ ∃ t, ty = .array t) (hR : vXq x w1 ad Qi X Y mc ms) (hk : k ≤ mc) (hn : n ≤ ms) (hd : decode cc pc = .ok (.areturn, 1)) (hb1 : r = ad u) (h : Qi u) : vV x k n (w1 u) lv pc [va_rf r] := by
  subst hb1
  obtain ⟨p, l, e, R, s, m, args, below, meth, c, Q, D, A, nL⟩ := x
  obtain ⟨rfl, rfl, rfl, rfl, hx, hb, hml, hown, hts, hA, hlocks, hret, hE, hZ⟩ := hF
  intro H locs ls hP hD hS hl
  have hR : Q = _ := hR
  subst hR
  exact v_retX hk hn (W.aret hx hb hret hty (va_rf_or _) (fun t ht hW => ⟨⟨ad u, u, rfl, ⟨rfl, h⟩, by rw [ht]; exact hP, hD⟩, hS.F ht⟩) hS.2.2 hd hlocks)
theorem v_callXVWq {x : vC} {l : Launch} {D : va_G} {own : String} {cc : ByteArray} {rm : Room} {nL : Nat} {rt : Option FieldType} {k n : Nat} {ws : va_W} {lv : List (Nat × Value)} {st : List Value} {S : Type} {idx maxL mc ms : Nat} {hh : List (Nat × Nat × Nat × Nat)} {y : MethodName} {bytes : ByteArray} {rt2 : FieldType} {rm2 : Room} {As : List Value} {b : Nat} {w0 wr : va_W} {w1 : S → va_W} {ad : S → Option Nat} {Q2 : S → Prop} {X2 : String → S → Prop} {Y2 : String → Int32 → S → Prop} (pc : Nat) (hF : vF x l D own cc rm nL rt) (hM : CxqW l D y bytes maxL hh rt2 rm2 (.ref b :: As) w0 w1 ad Q2 X2 Y2 mc ms) (hp : ws.Perm (w0 ++ wr)) (hrv : ∃ (q0 ci : Nat) (fs : List Value) (T : u_T) (N : Nat), w0[q0]? = some (b, .inr (ci, fs)) ∧ cl0[ci]? = some (y.cls, T, N)) (hq1 : Cond.methodLink own idx y ∈ lw_all) (hq2 : Cond.instanceMethod y ∈ lw_all) (hq3 : Cond.selects y.cls y y ∈ lw_all) (hq4 : Cond.initialized y.cls ∈ lw_all) (hq5 : Cond.codeWith y bytes maxL (some rt2) hh ∈ lw_all) (hds : y.cls = y.cls ∧ y.cls ≠ "java/lang/invoke/MethodHandle" ∧ y.cls ≠ "java/lang/invoke/VarHandle" ∧ (parseMethodDescriptor y.desc).map (fun d => d.parameters.length) = some As.length)
    (hrm : rm2.cells = mc ∧ rm2.slots = ms ∧ rm2.frames + 1 ≤ rm.frames ∧ 8 + (maxL + 11) + rm2.locals ≤ rm.locals) (hst : (st.map fun v => v.category).sum ≤ 8) (hcs : k + mc ≤ rm.cells ∧ n + ms ≤ rm.slots) (hd : decode cc pc = .ok (.invokevirtual idx, 3))
    (kx : ∀ (E : String) (q : Nat) (u : S), X2 E u → vT x (k + mc) (n + ms) (w1 u ++ wr) lv pc st E q)
    (ky : ∀ (E : String) (q ci : Nat) (r : Int32) (u : S), Y2 E r u → vPay E ci → vT x (k + mc) (n + ms) ((q, .inr (ci, rfF r)) :: (w1 u ++ wr)) lv pc st E q)
    (kk : ∀ (u : S), Q2 u → vV x (k + mc) (n + ms) (w1 u ++ wr) lv (pc + 3) (va_rf (ad u) :: st)) : vV x k n ws lv pc (As.reverse ++ .ref b :: st) := by
  obtain ⟨q9, ci9, fs9, T9, N9, he9, hc9⟩ := hrv
  obtain ⟨p, l, e, R, s, m, args, below, meth, c, Q, D, A, nL⟩ := x
  obtain ⟨rfl, rfl, rfl, rfl, hx, hb, hml, hown, hts, hA, hlocks, hret, hE, hZ⟩ := hF
  intro H locs ls hP hD hS hl
  have hP := vP_perm hp hP
  have hD := vD_perm hp hD
  have hPc : va_P D cl0 w0 H := vP_left hP
  have hDc : va_D A w0 := vD_left hD
  have hFc : ∀ q, va_A w0 H.size q → A q := vfree hDc hS hA
  refine vx_callq (vx_runVX (As := As) (rest := st) (b := b) ⟨hx, hb, hml, hown, hts⟩ (hM H.size) (vx_cwVW As.length hts (lw_VW hq1 hq2 hq3 hq4 hq5) rfl hrm.1 hrm.2.1 hds hrm.2.2) ⟨fun a U g mk q => by obtain ⟨q0, q1, qP, qK, qD, qZ⟩ := q; exact ⟨q0, q1, qP, qK.blind, qD, vZA.moved (u := U) (U := U.calling g mk a) (Vm.Alike.refl U.vm) qZ⟩, va_recv hE.1 hPc (ci := ci9) (q0 := q9) hc9 he9, fun U hU hW => ⟨rfl, by rw [hU], by rw [hU]; exact hPc, hE.warm hW, hDc.weaken (fun _ _ _ _ => trivial), by rw [hU]; exact vZA.moved hW.alike ((hZ.kept hS.2.1).narrow hFc)⟩⟩ rfl rfl hl.1 rfl (lv_room hst) hd hcs) hS (fun q _ h => hFc q h) hFc (fun q _ h => hFc q h) (fun E ce q9 u t H1 locs ht hvm _ hB hz1 hk1 hS hce hcv hcl => ?_) (fun r9 u t H1 locs ht hvm hw1 hB hz1 hk1 hS => ?_)
  · obtain ⟨u, o⟩ := u
    cases o with
    | none =>
      obtain ⟨hX9, hP1, hD1⟩ := hB
      rw [ht] at hP1
      obtain ⟨hP, hD⟩ := vjoin hP hD hk1 hFc hP1 hD1
      exact kx E q9 u hX9 H1 locs ls ce hP hD hS hl hce hcv hcl
    | some cr =>
      obtain ⟨ci1, r1⟩ := cr
      obtain ⟨hX9, hy9, hP1, hD1⟩ := hB
      rw [ht] at hP1
      obtain ⟨hP, hD⟩ := vjoin hP hD hk1 hFc hP1 hD1
      exact ky E q9 ci1 r1 u hX9 hy9 H1 locs ls ce hP hD hS hl hce hcv hcl
  · obtain ⟨rfl, hw1⟩ := hw1
    obtain ⟨hP1, hD1⟩ := hB
    rw [ht] at hP1
    obtain ⟨hP, hD⟩ := vjoin hP hD hk1 hFc hP1 hD1
    exact kk u hw1 H1 locs ls hP hD hS hl
