set_option maxRecDepth 100000
theorem v_bast {x : vC} {l : Launch} {D : va_G} {own : String} {cc : ByteArray} {rm : Room} {nL : Nat} {rt : Option FieldType} {k n : Nat} {ws : va_W} {lv : List (Nat × Value)} {st : List Value} {b len : Nat} {f : Nat → Int32} {i v : Int32} (ws1 : va_W) (pc : Nat) (hF : vF x l D own cc rm nL rt) (q0 : Nat) (ha : ws[q0]? = some (b, .inl (dB_ D, len, .inl f))) (hi : vp_in i len) (hw : ws.set q0 (b, .inl (dB_ D, len, .inl (upd f i.toNatClampNeg (vp_nar .byte v)))) = ws1) (hd : decode cc pc = .ok (.bastore, 1))
    (kk : vV x k n ws1 lv (pc + 1) st) : vV x k n ws lv pc (.int v :: .int i :: .ref b :: st) := by
  subst hw
  obtain ⟨p, l, e, R, s, m, args, below, meth, c, Q, D, A, nL⟩ := x
  obtain ⟨rfl, rfl, rfl, rfl, hx, hb, hml, hown, hts, hA, hlocks, hret, hE, hZ⟩ := hF
  intro H locs ls hP hD hS hl
  exact va_bast hx hb hE.1 hP hD hS q0 4 ha rfl hi hd (fun H locs hP hD hS => kk H locs ls hP hD hS hl)
theorem v_copyb {x : vC} {l : Launch} {D : va_G} {own : String} {cc : ByteArray} {rm : Room} {nL : Nat} {rt : Option FieldType} {k n : Nat} {ws : va_W} {lv : List (Nat × Value)} {st : List Value} {idx b0 b1 n0 n1 : Nat} {f g : Nat → Int32} {sp dp ct : Int32} (ws1 : va_W) (pc : Nat) (hF : vF x l D own cc rm nL rt) (hq : Cond.methodLink own idx arraycopyName ∈ lw_all) (q0 q1 : Nat) (ha0 : ws[q0]? = some (b0, .inl (dB_ D, n0, .inl f))) (ha1 : ws[q1]? = some (b1, .inl (dB_ D, n1, .inl g))) (hfit : ∀ j, fits .byte (.int (f j)) = true) (h1 : ¬ sp < 0) (h2 : ¬ dp < 0) (h3 : ¬ ct < 0) (h4 : sp.toNatClampNeg + ct.toNatClampNeg ≤ n0) (h5 : dp.toNatClampNeg + ct.toNatClampNeg ≤ n1) (hfr : 1 ≤ rm.frames) (hlo : (st.map fun v => v.category).sum + (nativeFrameWords "java/lang/System" "arraycopy" 5 + 11) ≤ rm.locals) (hw : ws.set q1 (b1, .inl (dB_ D, n1, .inl (va_cpy f g sp.toNatClampNeg dp.toNatClampNeg ct.toNatClampNeg))) = ws1) (hd : decode cc pc = .ok (.invokestatic idx, 3))
    (kk : vV x k n ws1 lv (pc + 3) st) : vV x k n ws lv pc (.int ct :: .int dp :: .ref b1 :: .int sp :: .ref b0 :: st) := by
  subst hw
  obtain ⟨p, l, e, R, s, m, args, below, meth, c, Q, D, A, nL⟩ := x
  obtain ⟨rfl, rfl, rfl, rfl, hx, hb, hml, hown, hts, hA, hlocks, hret, hE, hZ⟩ := hF
  intro H locs ls hP hD hS hl
  exact va_copyi hx hb (hml.trans hl.1.symm) hown (hts _ hq) (hts _ q_native) (hts _ q_static) (hts _ q_inisys) hE.1 hP hD hS q0 q1 4 4 ha0 ha1 rfl rfl rfl h1 h2 h3 h4 h5 (fun _ _ => hfit _) hfr hlo hd (fun H locs hP hD hS => kk H locs ls hP hD hS hl)
/-- a new array of bytes, of at most M -/
theorem v_newabM {x : vC} {l : Launch} {D : va_G} {own : String} {cc : ByteArray} {rm : Room} {nL : Nat} {rt : Option FieldType} {k n : Nat} {ws : va_W} {lv : List (Nat × Value)} {st : List Value} {sz : Int32} (M : Nat) (pc : Nat) (hF : vF x l D own cc rm nL rt) (hq : Cond.arrayClass (newarray.typeOf .byte) ∈ lw_all) (hn0 : ¬ sz < 0) (hN : sz.toNatClampNeg ≤ M) (hM : M * componentBytes .byte ≤ 536870912) (hcs : k + 1 ≤ rm.cells ∧ n + M ≤ rm.slots) (hd : decode cc pc = .ok (.newarray .byte, 2))
    (kk : ∀ q : Nat, vV x (k + 1) (n + M) (ws ++ [(q, .inl (dB_ D, sz.toNatClampNeg, .inl (fun _ => 0)))]) lv (pc + 2) (.ref q :: st)) : vV x k n ws lv pc (.int sz :: st) :=
  v_newab (N := sz.toNatClampNeg) pc hF hq hn0 rfl (Nat.le_trans (Nat.mul_le_mul_right _ hN) hM) ⟨hcs.1, Nat.le_trans (Nat.add_le_add_left hN _) hcs.2⟩ hd (fun q => v_widen (Nat.le_refl _) (Nat.add_le_add_left hN _) (kk q))
theorem asb_cls {s : State} {args : Array Value} (hts : ∀ w ∈ lw_all, w.before args s = true) : ∃ c k, s.vm.findClass "java/lang/AbstractStringBuilder" = some c ∧ s.vm.classes[c]? = some k ∧ k.isInterface = false := by
  obtain ⟨c, r, m, h1, h2, h3, h4, mk, h5, h6⟩ := Cond.selects_spec (hts _ q1440)
  exact ⟨m.cls, mk, findClass_of_methodNamed h3, h5, h6⟩
theorem v_callS1i {x : vC} {l : Launch} {D : va_G} {own : String} {cc : ByteArray} {rm : Room} {nL : Nat} {rt : Option FieldType} {k n : Nat} {ws : va_W} {lv : List (Nat × Value)} {st : List Value} {S : Type} {idx maxL mc ms : Nat} {y : MethodName} {C : String} {bytes : ByteArray} {rt2 : FieldType} {rm2 : Room} {As : List Value} {b : Nat} {w0 wr : va_W} {w1 : S → va_W} {Q2 : Int32 → S → Prop} (pc : Nat) (hF : vF x l D own cc rm nL rt) (hM : Cti l D y bytes maxL rt2 rm2 (.ref b :: As) w0 w1 Q2 mc ms) (hp : ws.Perm (w0 ++ wr)) (hrv : ∃ (q0 ci : Nat) (fs : List Value) (T : u_T) (N : Nat), w0[q0]? = some (b, .inr (ci, fs)) ∧ cl0[ci]? = some (C, T, N)) (hq1 : Cond.methodLink own idx y ∈ lw_all) (hsm : Cond.sameMethod y.cls y.cls y.name y.desc ∈ lw_all) (hsu : Cond.superclass own y.cls ∈ lw_all) (hq2 : Cond.instanceMethod y ∈ lw_all) (hq4 : Cond.initialized y.cls ∈ lw_all) (hq5 : Cond.code y bytes maxL (some rt2) ∈ lw_all) (hds : y.name ≠ "<init>" ∧ (parseMethodDescriptor y.desc).map (fun d => d.parameters.length) = some As.length)
    (hrm : rm2.cells = mc ∧ rm2.slots = ms ∧ rm2.frames + 1 ≤ rm.frames ∧ 8 + (maxL + 11) + rm2.locals ≤ rm.locals) (hst : (st.map fun v => v.category).sum ≤ 8) (hcs : k + mc ≤ rm.cells ∧ n + ms ≤ rm.slots) (hd : decode cc pc = .ok (.invokespecial idx, 3))
    (kk : ∀ (r : Int32) (u : S), Q2 r u → vV x (k + mc) (n + ms) (w1 u ++ wr) lv (pc + 3) (.int r :: st)) : vV x k n ws lv pc (As.reverse ++ .ref b :: st) := by
  obtain ⟨q9, ci9, fs9, T9, N9, he9, hc9⟩ := hrv
  obtain ⟨p, l, e, R, s, m, args, below, meth, c, Q, D, A, nL⟩ := x
  obtain ⟨rfl, rfl, rfl, rfl, hx, hb, hml, hown, hts, hA, hlocks, hret, hE, hZ⟩ := hF
  intro H locs ls hP hD hS hl
  have hP := vP_perm hp hP
  have hD := vD_perm hp hD
  have hPc : va_P D cl0 w0 H := vP_left hP
  have hDc : va_D A w0 := vD_left hD
  have hFc : ∀ q, va_A w0 H.size q → A q := vfree hDc hS hA
  refine va_calli (va_runSU (y := y) (C := C) (As := As) (rest := st) (b := b) (hE.1.1 ci9 _ hc9).2 ⟨hx, hb, hml, hown, hts⟩ (hM H.size) ⟨⟨hrm.1, hrm.2.1, hrm.2.2.1, hrm.2.2.2, fun w hw a' U hU => word_at hU (lw_meth hq5 w hw).2 (hts _ (lw_meth hq5 w hw).1), List.mem_cons_self ..⟩, hts _ hq1, hts _ hsm, hts _ hsu, hts _ hq2, hts _ hq4, hts _ hq5, hds.1, fun sig h => by have h2 := hds.2; rw [h] at h2; exact (Option.some.inj h2).symm⟩ ⟨fun a U g mk q => by obtain ⟨q0, q1, qP, qK, qD, qZ⟩ := q; exact ⟨q0, q1, qP, qK.blind, qD, vZA.moved (u := U) (U := U.calling g mk a) (Vm.Alike.refl U.vm) qZ⟩, va_recv hE.1 hPc (ci := ci9) (q0 := q9) hc9 he9, fun U hU hW => ⟨rfl, by rw [hU], by rw [hU]; exact hPc, hE.warm hW, hDc.weaken (fun _ _ _ _ => trivial), by rw [hU]; exact vZA.moved hW.alike ((hZ.kept hS.2.1).narrow hFc)⟩⟩ rfl rfl hl.1 rfl (lv_room hst) hd hcs) hS (fun q _ h => hFc q h) hFc (fun r u t H1 locs ht hvm hw1 hB hz1 hk1 hS => ?_)
  obtain ⟨hP1, hD1⟩ := hB
  rw [ht] at hP1
  obtain ⟨hP, hD⟩ := vjoin hP hD hk1 hFc hP1 hD1
  exact kk r u hw1 H1 locs ls hP hD hS hl
theorem v_callS1v {x : vC} {l : Launch} {D : va_G} {own : String} {cc : ByteArray} {rm : Room} {nL : Nat} {rt : Option FieldType} {k n : Nat} {ws : va_W} {lv : List (Nat × Value)} {st : List Value} {S : Type} {idx maxL mc ms : Nat} {y : MethodName} {C : String} {bytes : ByteArray} {rm2 : Room} {As : List Value} {b : Nat} {w0 wr : va_W} {w1 : S → va_W} {Q2 : S → Prop} (pc : Nat) (hF : vF x l D own cc rm nL rt) (hM : Ctv l D y bytes maxL rm2 (.ref b :: As) w0 w1 Q2 mc ms) (hp : ws.Perm (w0 ++ wr)) (hrv : ∃ (q0 ci : Nat) (fs : List Value) (T : u_T) (N : Nat), w0[q0]? = some (b, .inr (ci, fs)) ∧ cl0[ci]? = some (C, T, N)) (hq1 : Cond.methodLink own idx y ∈ lw_all) (hsm : Cond.sameMethod y.cls y.cls y.name y.desc ∈ lw_all) (hsu : Cond.superclass own y.cls ∈ lw_all) (hq2 : Cond.instanceMethod y ∈ lw_all) (hq4 : Cond.initialized y.cls ∈ lw_all) (hq5 : Cond.code y bytes maxL none ∈ lw_all) (hds : y.name ≠ "<init>" ∧ (parseMethodDescriptor y.desc).map (fun d => d.parameters.length) = some As.length)
    (hrm : rm2.cells = mc ∧ rm2.slots = ms ∧ rm2.frames + 1 ≤ rm.frames ∧ 8 + (maxL + 11) + rm2.locals ≤ rm.locals) (hst : (st.map fun v => v.category).sum ≤ 8) (hcs : k + mc ≤ rm.cells ∧ n + ms ≤ rm.slots) (hd : decode cc pc = .ok (.invokespecial idx, 3))
    (kk : ∀ (u : S), Q2 u → vV x (k + mc) (n + ms) (w1 u ++ wr) lv (pc + 3) st) : vV x k n ws lv pc (As.reverse ++ .ref b :: st) := by
  obtain ⟨q9, ci9, fs9, T9, N9, he9, hc9⟩ := hrv
  obtain ⟨p, l, e, R, s, m, args, below, meth, c, Q, D, A, nL⟩ := x
  obtain ⟨rfl, rfl, rfl, rfl, hx, hb, hml, hown, hts, hA, hlocks, hret, hE, hZ⟩ := hF
  intro H locs ls hP hD hS hl
  have hP := vP_perm hp hP
  have hD := vD_perm hp hD
  have hPc : va_P D cl0 w0 H := vP_left hP
  have hDc : va_D A w0 := vD_left hD
  have hFc : ∀ q, va_A w0 H.size q → A q := vfree hDc hS hA
  refine va_callv (va_runSU (y := y) (C := C) (As := As) (rest := st) (b := b) (hE.1.1 ci9 _ hc9).2 ⟨hx, hb, hml, hown, hts⟩ (hM H.size) ⟨⟨hrm.1, hrm.2.1, hrm.2.2.1, hrm.2.2.2, fun w hw a' U hU => word_at hU (lw_meth hq5 w hw).2 (hts _ (lw_meth hq5 w hw).1), List.mem_cons_self ..⟩, hts _ hq1, hts _ hsm, hts _ hsu, hts _ hq2, hts _ hq4, hts _ hq5, hds.1, fun sig h => by have h2 := hds.2; rw [h] at h2; exact (Option.some.inj h2).symm⟩ ⟨fun a U g mk q => by obtain ⟨q0, q1, qP, qK, qD, qZ⟩ := q; exact ⟨q0, q1, qP, qK.blind, qD, vZA.moved (u := U) (U := U.calling g mk a) (Vm.Alike.refl U.vm) qZ⟩, va_recv hE.1 hPc (ci := ci9) (q0 := q9) hc9 he9, fun U hU hW => ⟨rfl, by rw [hU], by rw [hU]; exact hPc, hE.warm hW, hDc.weaken (fun _ _ _ _ => trivial), by rw [hU]; exact vZA.moved hW.alike ((hZ.kept hS.2.1).narrow hFc)⟩⟩ rfl rfl hl.1 rfl (lv_room hst) hd hcs) hS (fun q _ h => hFc q h) hFc (fun u t H1 locs ht hvm hw1 hB hz1 hk1 hS => ?_)
  obtain ⟨hP1, hD1⟩ := hB
  rw [ht] at hP1
  obtain ⟨hP, hD⟩ := vjoin hP hD hk1 hFc hP1 hD1
  exact kk u hw1 H1 locs ls hP hD hS hl
theorem v_callS1r {x : vC} {l : Launch} {D : va_G} {own : String} {cc : ByteArray} {rm : Room} {nL : Nat} {rt : Option FieldType} {k n : Nat} {ws : va_W} {lv : List (Nat × Value)} {st : List Value} {S : Type} {idx maxL mc ms : Nat} {y : MethodName} {C : String} {bytes : ByteArray} {rt2 : FieldType} {rm2 : Room} {As : List Value} {b : Nat} {w0 wr : va_W} {w1 : S → va_W} {ad : S → Nat} {Q2 : S → Prop} (pc : Nat) (hF : vF x l D own cc rm nL rt) (hM : Ctr l D y bytes maxL rt2 rm2 (.ref b :: As) w0 w1 ad Q2 mc ms) (hp : ws.Perm (w0 ++ wr)) (hrv : ∃ (q0 ci : Nat) (fs : List Value) (T : u_T) (N : Nat), w0[q0]? = some (b, .inr (ci, fs)) ∧ cl0[ci]? = some (C, T, N)) (hq1 : Cond.methodLink own idx y ∈ lw_all) (hsm : Cond.sameMethod y.cls y.cls y.name y.desc ∈ lw_all) (hsu : Cond.superclass own y.cls ∈ lw_all) (hq2 : Cond.instanceMethod y ∈ lw_all) (hq4 : Cond.initialized y.cls ∈ lw_all) (hq5 : Cond.code y bytes maxL (some rt2) ∈ lw_all) (hds : y.name ≠ "<init>" ∧ (parseMethodDescriptor y.desc).map (fun d => d.parameters.length) = some As.length)
    (hrm : rm2.cells = mc ∧ rm2.slots = ms ∧ rm2.frames + 1 ≤ rm.frames ∧ 8 + (maxL + 11) + rm2.locals ≤ rm.locals) (hst : (st.map fun v => v.category).sum ≤ 8) (hcs : k + mc ≤ rm.cells ∧ n + ms ≤ rm.slots) (hd : decode cc pc = .ok (.invokespecial idx, 3))
    (kk : ∀ (u : S), Q2 u → vV x (k + mc) (n + ms) (w1 u ++ wr) lv (pc + 3) (.ref (ad u) :: st)) : vV x k n ws lv pc (As.reverse ++ .ref b :: st) := by
  obtain ⟨q9, ci9, fs9, T9, N9, he9, hc9⟩ := hrv
  obtain ⟨p, l, e, R, s, m, args, below, meth, c, Q, D, A, nL⟩ := x
  obtain ⟨rfl, rfl, rfl, rfl, hx, hb, hml, hown, hts, hA, hlocks, hret, hE, hZ⟩ := hF
  intro H locs ls hP hD hS hl
  have hP := vP_perm hp hP
  have hD := vD_perm hp hD
  have hPc : va_P D cl0 w0 H := vP_left hP
  have hDc : va_D A w0 := vD_left hD
  have hFc : ∀ q, va_A w0 H.size q → A q := vfree hDc hS hA
  refine va_callr (va_runSU (y := y) (C := C) (As := As) (rest := st) (b := b) (hE.1.1 ci9 _ hc9).2 ⟨hx, hb, hml, hown, hts⟩ (hM H.size) ⟨⟨hrm.1, hrm.2.1, hrm.2.2.1, hrm.2.2.2, fun w hw a' U hU => word_at hU (lw_meth hq5 w hw).2 (hts _ (lw_meth hq5 w hw).1), List.mem_cons_self ..⟩, hts _ hq1, hts _ hsm, hts _ hsu, hts _ hq2, hts _ hq4, hts _ hq5, hds.1, fun sig h => by have h2 := hds.2; rw [h] at h2; exact (Option.some.inj h2).symm⟩ ⟨fun a U g mk q => by obtain ⟨q0, q1, qP, qK, qD, qZ⟩ := q; exact ⟨q0, q1, qP, qK.blind, qD, vZA.moved (u := U) (U := U.calling g mk a) (Vm.Alike.refl U.vm) qZ⟩, va_recv hE.1 hPc (ci := ci9) (q0 := q9) hc9 he9, fun U hU hW => ⟨rfl, by rw [hU], by rw [hU]; exact hPc, hE.warm hW, hDc.weaken (fun _ _ _ _ => trivial), by rw [hU]; exact vZA.moved hW.alike ((hZ.kept hS.2.1).narrow hFc)⟩⟩ rfl rfl hl.1 rfl (lv_room hst) hd hcs) hS (fun q _ h => hFc q h) hFc (fun u a9 t H1 locs ht hvm hw1 hB hz1 hk1 hS => ?_)
  obtain ⟨rfl, hP1, hD1⟩ := hB
  rw [ht] at hP1
  obtain ⟨hP, hD⟩ := vjoin hP hD hk1 hFc hP1 hD1
  exact kk u hw1 H1 locs ls hP hD hS hl
