set_option maxRecDepth 100000
theorem v_castW {x : vC} {l : Launch} {D : va_G} {own : String} {cc : ByteArray} {rm : Room} {nL : Nat} {rt : Option FieldType} {k n : Nat} {ws : va_W} {lv : List (Nat × Value)} {st : List Value} {C : String} {T : u_T} {N ci idx b : Nat} {fs : List Value} {nm : String} (pc : Nat) (hF : vF x l D own cc rm nL rt) (q0 : Nat) (he : ws[q0]? = some (b, .inr (ci, fs))) (hc : cl0[ci]? = some (C, T, N)) (hq : Cond.classLink own idx nm ∈ lw_all) (hca : Cond.castable C nm ∈ lw_tbl) (hd : decode cc pc = .ok (.checkcast idx, 3))
    (kk : vV x k n ws lv (pc + 3) (.ref b :: st)) : vV x k n ws lv pc (.ref b :: st) := by
  obtain ⟨p, l, e, R, s, m, args, below, meth, c, Q, D, A, nL⟩ := x
  obtain ⟨rfl, rfl, rfl, rfl, hx, hb, hml, hown, hts, hA, hlocks, hret, hE, hZ⟩ := hF
  intro H locs ls hP hD hS hl
  exact va_castY hx hb hown (hts _ hq) (hE.2.1 _ hca rfl) (va_recv hE.1 hP (ci := ci) (q0 := q0) hc he) hd (kk H locs ls hP hD hS hl)
theorem v_castS {x : vC} {l : Launch} {D : va_G} {own : String} {cc : ByteArray} {rm : Room} {nL : Nat} {rt : Option FieldType} {k n : Nat} {ws : va_W} {lv : List (Nat × Value)} {st : List Value} {C : String} {T : u_T} {N ci idx b : Nat} {fs : List Value} (pc : Nat) (hF : vF x l D own cc rm nL rt) (q0 : Nat) (he : ws[q0]? = some (b, .inr (ci, fs))) (hc : cl0[ci]? = some (C, T, N)) (hq : Cond.classLink own idx C ∈ lw_all) (hd : decode cc pc = .ok (.checkcast idx, 3))
    (kk : vV x k n ws lv (pc + 3) (.ref b :: st)) : vV x k n ws lv pc (.ref b :: st) := by
  obtain ⟨p, l, e, R, s, m, args, below, meth, c, Q, D, A, nL⟩ := x
  obtain ⟨rfl, rfl, rfl, rfl, hx, hb, hml, hown, hts, hA, hlocks, hret, hE, hZ⟩ := hF
  intro H locs ls hP hD hS hl
  exact va_castS hx hb hown (hts _ hq) (hE.1.1 ci _ hc).2 (va_recv hE.1 hP (ci := ci) (q0 := q0) hc he) hd (kk H locs ls hP hD hS hl)
theorem v_callFi {x : vC} {l : Launch} {D : va_G} {own : String} {cc : ByteArray} {rm : Room} {nL : Nat} {rt : Option FieldType} {k n : Nat} {ws : va_W} {lv : List (Nat × Value)} {st : List Value} {S : Type} {idx maxL mc ms : Nat} {x0 y : MethodName} {C : String} {count : Nat} {bytes : ByteArray} {rt2 : FieldType} {rm2 : Room} {As : List Value} {b : Nat} {w0 wr : va_W} {w1 : S → va_W} {Q2 : Int32 → S → Prop} (pc : Nat) (hF : vF x l D own cc rm nL rt) (hM : Cti l D y bytes maxL rt2 rm2 (.ref b :: As) w0 w1 Q2 mc ms) (hp : ws.Perm (w0 ++ wr)) (hrv : ∃ (q0 ci : Nat) (fs : List Value) (T : u_T) (N : Nat), w0[q0]? = some (b, .inr (ci, fs)) ∧ cl0[ci]? = some (C, T, N)) (hfw : (C, x0, y) ∈ fw0) (hq1 : Cond.methodLink own idx x0 ∈ lw_all) (hq2 : Cond.instanceMethod y ∈ lw_all) (hq3 : Cond.selects C x0 y ∈ lw_all) (hq4 : Cond.initialized y.cls ∈ lw_all) (hq5 : Cond.code y bytes maxL (some rt2) ∈ lw_all) (hds : x0.cls ≠ "java/lang/invoke/MethodHandle" ∧ x0.cls ≠ "java/lang/invoke/VarHandle" ∧ (parseMethodDescriptor x0.desc).map (fun d => d.parameters.length) = some As.length)
    (hrm : rm2.cells = mc ∧ rm2.slots = ms ∧ rm2.frames + 1 ≤ rm.frames ∧ 8 + (maxL + 11) + rm2.locals ≤ rm.locals) (hst : (st.map fun v => v.category).sum ≤ 8) (hcs : k + mc ≤ rm.cells ∧ n + ms ≤ rm.slots) (hd : decode cc pc = .ok (.invokeinterface idx count, 5))
    (kk : ∀ (r : Int32) (u : S), Q2 r u → vV x (k + mc) (n + ms) (w1 u ++ wr) lv (pc + 5) (.int r :: st)) : vV x k n ws lv pc (As.reverse ++ .ref b :: st) := by
  obtain ⟨q9, ci9, fs9, T9, N9, he9, hc9⟩ := hrv
  obtain ⟨p, l, e, R, s, m, args, below, meth, c, Q, D, A, nL⟩ := x
  obtain ⟨rfl, rfl, rfl, rfl, hx, hb, hml, hown, hts, hA, hlocks, hret, hE, hZ⟩ := hF
  intro H locs ls hP hD hS hl
  have hP := vP_perm hp hP
  have hD := vD_perm hp hD
  have hPc : va_P D cl0 w0 H := vP_left hP
  have hDc : va_D A w0 := vD_left hD
  have hFc : ∀ q, va_A w0 H.size q → A q := vfree hDc hS hA
  refine va_callFi (va_runF (x := x0) (y := y) (C := C) (As := As) (rest := st) (b := b) (hE.1.1 ci9 _ hc9).2 ⟨hx, hb, hml, hown, hts⟩ (hM H.size) ⟨⟨hrm.1, hrm.2.1, hrm.2.2.1, hrm.2.2.2, fun w hw a' U hU => word_at hU (lw_meth hq5 w hw).2 (hts _ (lw_meth hq5 w hw).1), List.mem_cons_self ..⟩, hts _ hq1, va_any rfl (hE.2.2.1 _ hfw).2.1, va_any rfl (hE.2.2.1 _ hfw).2.2.1, hts _ hq3, hts _ hq2, va_any rfl (hE.2.2.1 _ hfw).2.2.2.1, va_any rfl (hE.2.2.1 _ hfw).2.2.2.2.1, va_any rfl (hE.2.2.1 _ hfw).2.2.2.2.2, hts _ hq4, hts _ hq5, ⟨hds.1, hds.2.1⟩, fun sig h => by have h2 := hds.2.2; rw [h] at h2; exact (Option.some.inj h2).symm⟩ ⟨fun a U g mk q => by obtain ⟨q0, q1, qP, qK, qD, qZ⟩ := q; exact ⟨q0, q1, qP, qK.blind, qD, vZA.moved (u := U) (U := U.calling g mk a) (Vm.Alike.refl U.vm) qZ⟩, va_recv hE.1 hPc (ci := ci9) (q0 := q9) hc9 he9, fun U hU hW => ⟨rfl, by rw [hU], by rw [hU]; exact hPc, hE.warm hW, hDc.weaken (fun _ _ _ _ => trivial), by rw [hU]; exact vZA.moved hW.alike ((hZ.kept hS.2.1).narrow hFc)⟩⟩ rfl rfl hl.1 rfl (lv_room hst) hd hcs) hS (fun q _ h => hFc q h) hFc (fun r u t H1 locs ht hvm hw1 hB hz1 hk1 hS => ?_)
  obtain ⟨hP1, hD1⟩ := hB
  rw [ht] at hP1
  obtain ⟨hP, hD⟩ := vjoin hP hD hk1 hFc hP1 hD1
  exact kk r u hw1 H1 locs ls hP hD hS hl
theorem v_callFv {x : vC} {l : Launch} {D : va_G} {own : String} {cc : ByteArray} {rm : Room} {nL : Nat} {rt : Option FieldType} {k n : Nat} {ws : va_W} {lv : List (Nat × Value)} {st : List Value} {S : Type} {idx maxL mc ms : Nat} {x0 y : MethodName} {C : String} {count : Nat} {bytes : ByteArray} {rm2 : Room} {As : List Value} {b : Nat} {w0 wr : va_W} {w1 : S → va_W} {Q2 : S → Prop} (pc : Nat) (hF : vF x l D own cc rm nL rt) (hM : Ctv l D y bytes maxL rm2 (.ref b :: As) w0 w1 Q2 mc ms) (hp : ws.Perm (w0 ++ wr)) (hrv : ∃ (q0 ci : Nat) (fs : List Value) (T : u_T) (N : Nat), w0[q0]? = some (b, .inr (ci, fs)) ∧ cl0[ci]? = some (C, T, N)) (hfw : (C, x0, y) ∈ fw0) (hq1 : Cond.methodLink own idx x0 ∈ lw_all) (hq2 : Cond.instanceMethod y ∈ lw_all) (hq3 : Cond.selects C x0 y ∈ lw_all) (hq4 : Cond.initialized y.cls ∈ lw_all) (hq5 : Cond.code y bytes maxL none ∈ lw_all) (hds : x0.cls ≠ "java/lang/invoke/MethodHandle" ∧ x0.cls ≠ "java/lang/invoke/VarHandle" ∧ (parseMethodDescriptor x0.desc).map (fun d => d.parameters.length) = some As.length)
    (hrm : rm2.cells = mc ∧ rm2.slots = ms ∧ rm2.frames + 1 ≤ rm.frames ∧ 8 + (maxL + 11) + rm2.locals ≤ rm.locals) (hst : (st.map fun v => v.category).sum ≤ 8) (hcs : k + mc ≤ rm.cells ∧ n + ms ≤ rm.slots) (hd : decode cc pc = .ok (.invokeinterface idx count, 5))
    (kk : ∀ (u : S), Q2 u → vV x (k + mc) (n + ms) (w1 u ++ wr) lv (pc + 5) st) : vV x k n ws lv pc (As.reverse ++ .ref b :: st) := by
  obtain ⟨q9, ci9, fs9, T9, N9, he9, hc9⟩ := hrv
  obtain ⟨p, l, e, R, s, m, args, below, meth, c, Q, D, A, nL⟩ := x
  obtain ⟨rfl, rfl, rfl, rfl, hx, hb, hml, hown, hts, hA, hlocks, hret, hE, hZ⟩ := hF
  intro H locs ls hP hD hS hl
  have hP := vP_perm hp hP
  have hD := vD_perm hp hD
  have hPc : va_P D cl0 w0 H := vP_left hP
  have hDc : va_D A w0 := vD_left hD
  have hFc : ∀ q, va_A w0 H.size q → A q := vfree hDc hS hA
  refine va_callFv (va_runF (x := x0) (y := y) (C := C) (As := As) (rest := st) (b := b) (hE.1.1 ci9 _ hc9).2 ⟨hx, hb, hml, hown, hts⟩ (hM H.size) ⟨⟨hrm.1, hrm.2.1, hrm.2.2.1, hrm.2.2.2, fun w hw a' U hU => word_at hU (lw_meth hq5 w hw).2 (hts _ (lw_meth hq5 w hw).1), List.mem_cons_self ..⟩, hts _ hq1, va_any rfl (hE.2.2.1 _ hfw).2.1, va_any rfl (hE.2.2.1 _ hfw).2.2.1, hts _ hq3, hts _ hq2, va_any rfl (hE.2.2.1 _ hfw).2.2.2.1, va_any rfl (hE.2.2.1 _ hfw).2.2.2.2.1, va_any rfl (hE.2.2.1 _ hfw).2.2.2.2.2, hts _ hq4, hts _ hq5, ⟨hds.1, hds.2.1⟩, fun sig h => by have h2 := hds.2.2; rw [h] at h2; exact (Option.some.inj h2).symm⟩ ⟨fun a U g mk q => by obtain ⟨q0, q1, qP, qK, qD, qZ⟩ := q; exact ⟨q0, q1, qP, qK.blind, qD, vZA.moved (u := U) (U := U.calling g mk a) (Vm.Alike.refl U.vm) qZ⟩, va_recv hE.1 hPc (ci := ci9) (q0 := q9) hc9 he9, fun U hU hW => ⟨rfl, by rw [hU], by rw [hU]; exact hPc, hE.warm hW, hDc.weaken (fun _ _ _ _ => trivial), by rw [hU]; exact vZA.moved hW.alike ((hZ.kept hS.2.1).narrow hFc)⟩⟩ rfl rfl hl.1 rfl (lv_room hst) hd hcs) hS (fun q _ h => hFc q h) hFc (fun u t H1 locs ht hvm hw1 hB hz1 hk1 hS => ?_)
  obtain ⟨hP1, hD1⟩ := hB
  rw [ht] at hP1
  obtain ⟨hP, hD⟩ := vjoin hP hD hk1 hFc hP1 hD1
  exact kk u hw1 H1 locs ls hP hD hS hl
theorem v_callFr {x : vC} {l : Launch} {D : va_G} {own : String} {cc : ByteArray} {rm : Room} {nL : Nat} {rt : Option FieldType} {k n : Nat} {ws : va_W} {lv : List (Nat × Value)} {st : List Value} {S : Type} {idx maxL mc ms : Nat} {x0 y : MethodName} {C : String} {count : Nat} {bytes : ByteArray} {rt2 : FieldType} {rm2 : Room} {As : List Value} {b : Nat} {w0 wr : va_W} {w1 : S → va_W} {ad : S → Nat} {Q2 : S → Prop} (pc : Nat) (hF : vF x l D own cc rm nL rt) (hM : Ctr l D y bytes maxL rt2 rm2 (.ref b :: As) w0 w1 ad Q2 mc ms) (hp : ws.Perm (w0 ++ wr)) (hrv : ∃ (q0 ci : Nat) (fs : List Value) (T : u_T) (N : Nat), w0[q0]? = some (b, .inr (ci, fs)) ∧ cl0[ci]? = some (C, T, N)) (hfw : (C, x0, y) ∈ fw0) (hq1 : Cond.methodLink own idx x0 ∈ lw_all) (hq2 : Cond.instanceMethod y ∈ lw_all) (hq3 : Cond.selects C x0 y ∈ lw_all) (hq4 : Cond.initialized y.cls ∈ lw_all) (hq5 : Cond.code y bytes maxL (some rt2) ∈ lw_all) (hds : x0.cls ≠ "java/lang/invoke/MethodHandle" ∧ x0.cls ≠ "java/lang/invoke/VarHandle" ∧ (parseMethodDescriptor x0.desc).map (fun d => d.parameters.length) = some As.length)
    (hrm : rm2.cells = mc ∧ rm2.slots = ms ∧ rm2.frames + 1 ≤ rm.frames ∧ 8 + (maxL + 11) + rm2.locals ≤ rm.locals) (hst : (st.map fun v => v.category).sum ≤ 8) (hcs : k + mc ≤ rm.cells ∧ n + ms ≤ rm.slots) (hd : decode cc pc = .ok (.invokeinterface idx count, 5))
    (kk : ∀ (u : S), Q2 u → vV x (k + mc) (n + ms) (w1 u ++ wr) lv (pc + 5) (.ref (ad u) :: st)) : vV x k n ws lv pc (As.reverse ++ .ref b :: st) := by
  obtain ⟨q9, ci9, fs9, T9, N9, he9, hc9⟩ := hrv
  obtain ⟨p, l, e, R, s, m, args, below, meth, c, Q, D, A, nL⟩ := x
  obtain ⟨rfl, rfl, rfl, rfl, hx, hb, hml, hown, hts, hA, hlocks, hret, hE, hZ⟩ := hF
  intro H locs ls hP hD hS hl
  have hP := vP_perm hp hP
  have hD := vD_perm hp hD
  have hPc : va_P D cl0 w0 H := vP_left hP
  have hDc : va_D A w0 := vD_left hD
  have hFc : ∀ q, va_A w0 H.size q → A q := vfree hDc hS hA
  refine va_callFr (va_runF (x := x0) (y := y) (C := C) (As := As) (rest := st) (b := b) (hE.1.1 ci9 _ hc9).2 ⟨hx, hb, hml, hown, hts⟩ (hM H.size) ⟨⟨hrm.1, hrm.2.1, hrm.2.2.1, hrm.2.2.2, fun w hw a' U hU => word_at hU (lw_meth hq5 w hw).2 (hts _ (lw_meth hq5 w hw).1), List.mem_cons_self ..⟩, hts _ hq1, va_any rfl (hE.2.2.1 _ hfw).2.1, va_any rfl (hE.2.2.1 _ hfw).2.2.1, hts _ hq3, hts _ hq2, va_any rfl (hE.2.2.1 _ hfw).2.2.2.1, va_any rfl (hE.2.2.1 _ hfw).2.2.2.2.1, va_any rfl (hE.2.2.1 _ hfw).2.2.2.2.2, hts _ hq4, hts _ hq5, ⟨hds.1, hds.2.1⟩, fun sig h => by have h2 := hds.2.2; rw [h] at h2; exact (Option.some.inj h2).symm⟩ ⟨fun a U g mk q => by obtain ⟨q0, q1, qP, qK, qD, qZ⟩ := q; exact ⟨q0, q1, qP, qK.blind, qD, vZA.moved (u := U) (U := U.calling g mk a) (Vm.Alike.refl U.vm) qZ⟩, va_recv hE.1 hPc (ci := ci9) (q0 := q9) hc9 he9, fun U hU hW => ⟨rfl, by rw [hU], by rw [hU]; exact hPc, hE.warm hW, hDc.weaken (fun _ _ _ _ => trivial), by rw [hU]; exact vZA.moved hW.alike ((hZ.kept hS.2.1).narrow hFc)⟩⟩ rfl rfl hl.1 rfl (lv_room hst) hd hcs) hS (fun q _ h => hFc q h) hFc (fun u a9 t H1 locs ht hvm hw1 hB hz1 hk1 hS => ?_)
  obtain ⟨rfl, hP1, hD1⟩ := hB
  rw [ht] at hP1
  obtain ⟨hP, hD⟩ := vjoin hP hD hk1 hFc hP1 hD1
  exact kk u hw1 H1 locs ls hP hD hS hl
theorem Cxi.noX {l : Launch} {D : va_G} {y : MethodName} {cc : ByteArray} {maxL : Nat} {rt : FieldType} {rm : Room} {av : List Value} {S : Type} {w0 : va_W} {w1 : S → va_W} {Q : Int32 → S → Prop} {mc ms : Nat} (h : Cxi l D y cc maxL rt rm av w0 w1 Q (fun _ _ => False) (fun _ _ _ => False) mc ms) : Cti l D y cc maxL rt rm av w0 w1 Q mc ms := by
  intro sz
  refine MetFree.mono (h sz) (fun a s hp => hp) (fun p e below s a hk => hk) ?_
  · intro a s o t _ hq
    rcases hq with hq | ⟨q, -, E, ce, L, ⟨u, -, hb, -⟩, -⟩
    · exact hq
    · obtain ⟨u, c⟩ := u
      cases c with
      | none => exact hb.1.elim
      | some c => exact hb.1.elim
theorem Cxr.noX {l : Launch} {D : va_G} {y : MethodName} {cc : ByteArray} {maxL : Nat} {rt : FieldType} {rm : Room} {av : List Value} {S : Type} {w0 : va_W} {w1 : S → va_W} {ad : S → Nat} {Q : S → Prop} {mc ms : Nat} (h : Cxr l D y cc maxL rt rm av w0 w1 ad Q (fun _ _ => False) (fun _ _ _ => False) mc ms) : Ctr l D y cc maxL rt rm av w0 w1 ad Q mc ms := by
  intro sz
  refine MetFree.mono (h sz) (fun a s hp => hp) (fun p e below s a hk => hk) ?_
  · intro a s o t _ hq
    rcases hq with hq | ⟨q, -, E, ce, L, ⟨u, -, hb, -⟩, -⟩
    · exact hq
    · obtain ⟨u, c⟩ := u
      cases c with
      | none => exact hb.1.elim
      | some c => exact hb.1.elim
theorem Cxv.noX {l : Launch} {D : va_G} {y : MethodName} {cc : ByteArray} {maxL : Nat} {rm : Room} {av : List Value} {S : Type} {w0 : va_W} {w1 : S → va_W} {Q : S → Prop} {mc ms : Nat} (h : Cxv l D y cc maxL rm av w0 w1 Q (fun _ _ => False) (fun _ _ _ => False) mc ms) : Ctv l D y cc maxL rm av w0 w1 Q mc ms := by
  intro sz
  refine MetFree.mono (h sz) (fun a s hp => hp) (fun p e below s a hk => hk) ?_
  · intro a s o t _ hq
    rcases hq with hq | ⟨q, -, E, ce, L, ⟨u, -, hb, -⟩, -⟩
    · exact hq
    · obtain ⟨u, c⟩ := u
      cases c with
      | none => exact hb.1.elim
      | some c => exact hb.1.elim
theorem v_caald {x : vC} {l : Launch} {D : va_G} {own : String} {cc : ByteArray} {rm : Room} {nL : Nat} {rt : Option FieldType} {k n : Nat} {ws : va_W} {lv : List (Nat × Value)} {st : List Value} {i : Int32} (pc : Nat) (hF : vF x l D own cc rm nL rt) (hi : vp_in i 256) (hd : decode cc pc = .ok (.aaload, 1))
    (kk : vV x k n ws lv (pc + 1) (.ref (D.2 1001 i.toNatClampNeg) :: st)) : vV x k n ws lv pc (.int i :: .ref (D.2 1000 0) :: st) := by
  obtain ⟨p, l, e, R, s, m, args, below, meth, c, Q, D, A, nL⟩ := x
  obtain ⟨rfl, rfl, rfl, rfl, hx, hb, hml, hown, hts, hA, hlocks, hret, hE, hZ⟩ := hF
  intro H locs ls hP hD hS hl
  exact vb_tq (v := .ref (D.2 1001 i.toNatClampNeg)) hx hb hZ.2.2.1.2.2.1 hS hi rfl hd (kk H locs ls hP hD hS hl)
theorem v_cget {x : vC} {l : Launch} {D : va_G} {own : String} {cc : ByteArray} {rm : Room} {nL : Nat} {rt : Option FieldType} {k n : Nat} {ws : va_W} {lv : List (Nat × Value)} {st : List Value} {idx k9 : Nat} (pc : Nat) (hF : vF x l D own cc rm nL rt) (hk9 : k9 < 256) (hq : Cond.fieldLink own idx "java/lang/Integer" "value" "I" ∈ lw_all) (hd : decode cc pc = .ok (.getfield idx, 3))
    (kk : vV x k n ws lv (pc + 3) (.int (vb_c k9) :: st)) : vV x k n ws lv pc (.ref (D.2 1001 k9) :: st) := by
  obtain ⟨p, l, e, R, s, m, args, below, meth, c, Q, D, A, nL⟩ := x
  obtain ⟨rfl, rfl, rfl, rfl, hx, hb, hml, hown, hts, hA, hlocks, hret, hE, hZ⟩ := hF
  intro H locs ls hP hD hS hl
  exact va_getX (i := k9) (v := fun k => .int (vb_c k)) (ad := D.2 1001) hx hb hZ.2.2.1.2.2.2.2 hk9 hS hown (hts _ hq) (fun _ h => h) hd (kk H locs ls hP hD hS hl)
theorem ds_J20_valueOf : yJ20_valueOf.cls = yJ20_valueOf.cls ∧ yJ20_valueOf.cls ≠ "java/lang/invoke/MethodHandle" ∧ yJ20_valueOf.cls ≠ "java/lang/invoke/VarHandle" ∧ (parseMethodDescriptor yJ20_valueOf.desc).map (fun d => d.parameters.length) = some 1 := by decide +kernel
theorem ds_J20_intValue : yJ20_intValue.cls = yJ20_intValue.cls ∧ yJ20_intValue.cls ≠ "java/lang/invoke/MethodHandle" ∧ yJ20_intValue.cls ≠ "java/lang/invoke/VarHandle" ∧ (parseMethodDescriptor yJ20_intValue.desc).map (fun d => d.parameters.length) = some 0 := by decide +kernel
def w_J20_valueOf (x0 : Int32) (Q : Unit → Prop) : Prop := (¬ x0 < -128 ∧ ¬ 127 < x0 ∧ vp_in (x0 + 128) 256) ∧ Q ()
set_option maxHeartbeats 1000000 in
theorem c_J20_valueOf (l : Launch) (D : va_G) (x0 : Int32) (Q : Unit → Prop) (h : w_J20_valueOf x0 Q) : Ctr l D yJ20_valueOf cJ20_valueOf 1 (.object "java/lang/Integer") (rmk 0 0 0 0) [.int x0] [] (fun _ : Unit => []) (fun _ => D.2 1001 (x0 + 128).toNatClampNeg) Q 0 0 := by
  refine Ctr.of (by decide) (Nat.le_of_ble_eq_true rfl) (fun x hF hR => ?_)
  replace hF : vF x l D "java/lang/Integer" cJ20_valueOf (rmk 0 0 0 0) 1 (some (.object "java/lang/Integer")) := hF
  obtain ⟨⟨h1, h2, h3⟩, h⟩ := h
  refine v_iload_n 0 hF dJ20_valueOf_0 rfl 0 rfl ?_
  refine v_bipush (v := -128) 1 hF dJ20_valueOf_1 (by decide) ?_
  refine v_icmp_lt 3 23 hF dJ20_valueOf_3 (by decide) (fun c => absurd c h1) (fun _ => ?_)
  refine v_iload_n 6 hF dJ20_valueOf_6 rfl 0 rfl ?_
  refine v_gets (v := .int 127) 7 hF (fun A U H hz => hz.2.2.1.1) q1126 dJ20_valueOf_7 ?_
  refine v_icmp_gt 10 23 hF dJ20_valueOf_10 (by decide) (fun c => absurd c h2) (fun _ => ?_)
  refine v_gets (v := .ref (D.2 1000 0)) 13 hF (fun A U H hz => hz.2.2.1.2.1) q1128 dJ20_valueOf_13 ?_
  refine v_iload_n 16 hF dJ20_valueOf_16 rfl 0 rfl ?_
  refine v_sipush (v := 128) 17 hF dJ20_valueOf_17 (by decide) ?_
  refine v_iadd 20 hF dJ20_valueOf_20 ?_
  refine v_caald 21 hF h3 dJ20_valueOf_21 ?_
  exact v_aret (u := ()) 22 hF (Or.inl ⟨_, rfl⟩) hR (Nat.zero_le _) (Nat.zero_le _) dJ20_valueOf_22 rfl h
theorem c_J20_intValue (l : Launch) (D : va_G) (k9 : Nat) (hk9 : k9 < 256) (Q : Int32 → Unit → Prop) (h : Q (vb_c k9) ()) : Cti l D yJ20_intValue cJ20_intValue 1 .int (rmk 0 0 0 0) [.ref (D.2 1001 k9)] [] (fun _ : Unit => []) Q 0 0 := by
  refine Cti.of (by decide) (Nat.le_of_ble_eq_true rfl) (fun x hF hR => ?_)
  replace hF : vF x l D "java/lang/Integer" cJ20_intValue (rmk 0 0 0 0) 1 (some .int) := hF
  refine v_aload_n 0 hF dJ20_intValue_0 rfl 0 rfl ?_
  refine v_cget 1 hF hk9 q1139 dJ20_intValue_1 ?_
  exact v_iret (u := ()) 4 hF hR (Nat.zero_le _) (Nat.zero_le _) dJ20_intValue_4 h
theorem v_callBi {x : vC} {l : Launch} {D : va_G} {own : String} {cc : ByteArray} {rm : Room} {nL : Nat} {rt : Option FieldType} {k n : Nat} {ws : va_W} {lv : List (Nat × Value)} {st : List Value} {S : Type} {idx maxL mc ms : Nat} {y : MethodName} {bytes : ByteArray} {rt2 : FieldType} {rm2 : Room} {As : List Value} {k9 : Nat} {w0 wr : va_W} {w1 : S → va_W} {Q2 : Int32 → S → Prop} (pc : Nat) (hF : vF x l D own cc rm nL rt) (hM : Cti l D y bytes maxL rt2 rm2 (.ref (D.2 1001 k9) :: As) w0 w1 Q2 mc ms) (hp : ws.Perm (w0 ++ wr)) (hk9 : k9 < 256) (hyc : y.cls = "java/lang/Integer") (hq1 : Cond.methodLink own idx y ∈ lw_all) (hq2 : Cond.instanceMethod y ∈ lw_all) (hq3 : Cond.selects y.cls y y ∈ lw_all) (hq4 : Cond.initialized y.cls ∈ lw_all) (hq5 : Cond.code y bytes maxL (some rt2) ∈ lw_all) (hds : y.cls = y.cls ∧ y.cls ≠ "java/lang/invoke/MethodHandle" ∧ y.cls ≠ "java/lang/invoke/VarHandle" ∧ (parseMethodDescriptor y.desc).map (fun d => d.parameters.length) = some As.length)
    (hrm : rm2.cells = mc ∧ rm2.slots = ms ∧ rm2.frames + 1 ≤ rm.frames ∧ 8 + (maxL + 11) + rm2.locals ≤ rm.locals) (hst : (st.map fun v => v.category).sum ≤ 8) (hcs : k + mc ≤ rm.cells ∧ n + ms ≤ rm.slots) (hd : decode cc pc = .ok (.invokevirtual idx, 3))
    (kk : ∀ (r : Int32) (u : S), Q2 r u → vV x (k + mc) (n + ms) (w1 u ++ wr) lv (pc + 3) (.int r :: st)) : vV x k n ws lv pc (As.reverse ++ .ref (D.2 1001 k9) :: st) := by
  obtain ⟨p, l, e, R, s, m, args, below, meth, c, Q, D, A, nL⟩ := x
  obtain ⟨rfl, rfl, rfl, rfl, hx, hb, hml, hown, hts, hA, hlocks, hret, hE, hZ⟩ := hF
  intro H locs ls hP hD hS hl
  have hP := vP_perm hp hP
  have hD := vD_perm hp hD
  have hPc : va_P D cl0 w0 H := vP_left hP
  have hDc : va_D A w0 := vD_left hD
  have hFc : ∀ q, va_A w0 H.size q → A q := vfree hDc hS hA
  refine va_calli (va_runV (As := As) (rest := st) (b := D.2 1001 k9) ⟨hx, hb, hml, hown, hts⟩ (hM H.size) (cwV As.length hts (lw_V hq1 hq2 hq3 hq4 hq5) rfl hrm.1 hrm.2.1 hds hrm.2.2) ⟨fun a U g mk q => by obtain ⟨q0, q1, qP, qK, qD, qZ⟩ := q; exact ⟨q0, q1, qP, qK.blind, qD, vZA.moved (u := U) (U := U.calling g mk a) (Vm.Alike.refl U.vm) qZ⟩, (by obtain ⟨c9, h1, h2, h3, -⟩ := (hZ.kept hS.2.1).2.2.1.2.2.2.1 k9 hk9; exact ⟨c9, h1, h2, hyc ▸ h3⟩), fun U hU hW => ⟨rfl, by rw [hU], by rw [hU]; exact hPc, hE.warm hW, hDc.weaken (fun _ _ _ _ => trivial), by rw [hU]; exact vZA.moved hW.alike ((hZ.kept hS.2.1).narrow hFc)⟩⟩ rfl rfl hl.1 rfl (lv_room hst) hd hcs) hS (fun q _ h => hFc q h) hFc (fun r u t H1 locs ht hvm hw1 hB hz1 hk1 hS => ?_)
  obtain ⟨hP1, hD1⟩ := hB
  rw [ht] at hP1
  obtain ⟨hP, hD⟩ := vjoin hP hD hk1 hFc hP1 hD1
  exact kk r u hw1 H1 locs ls hP hD hS hl
theorem v_castI {x : vC} {l : Launch} {D : va_G} {own : String} {cc : ByteArray} {rm : Room} {nL : Nat} {rt : Option FieldType} {k n : Nat} {ws : va_W} {lv : List (Nat × Value)} {st : List Value} {idx k9 : Nat} (pc : Nat) (hF : vF x l D own cc rm nL rt) (hk9 : k9 < 256) (hq : Cond.classLink own idx "java/lang/Integer" ∈ lw_all) (hd : decode cc pc = .ok (.checkcast idx, 3))
    (kk : vV x k n ws lv (pc + 3) (.ref (D.2 1001 k9) :: st)) : vV x k n ws lv pc (.ref (D.2 1001 k9) :: st) := by
  obtain ⟨p, l, e, R, s, m, args, below, meth, c, Q, D, A, nL⟩ := x
  obtain ⟨rfl, rfl, rfl, rfl, hx, hb, hml, hown, hts, hA, hlocks, hret, hE, hZ⟩ := hF
  intro H locs ls hP hD hS hl
  obtain ⟨c9, h1, h2, h3, -⟩ := (hZ.kept hS.2.1).2.2.1.2.2.2.1 k9 hk9
  exact va_castS hx hb hown (hts _ hq) (hE.1.1 15 _ rfl).2 ⟨c9, h1, h2, h3⟩ hd (kk H locs ls hP hD hS hl)
theorem va_runSU2 {p : Program} {l : Launch} {e : Env} {R : Room} {s : State} {m : MethodId} {args : Array Value} {below : List Frame} {meth : Method} {c : Code} {H : Heap} {locs : List Loc} {cells slots : Nat} {x0 y : MethodName} {bytes cc : ByteArray} {maxL nL mc ms n index : Nat} {ret : Option FieldType} {ws : List Cond} {rm : Room} {Pc : Array Value → State → Prop} {Qc : Array Value → State → Outcome → State → Prop} {free : Addr → Prop} {Ts : List Cond} {own C : String} {cC : ClassId} {b : Addr} {As rest : List Value} {g : JFrame}
    (hat : ClassAt s C cC) (S : CallFix p m c cc nL s args Ts own) (hM : Met l y ws rm Pc Qc mc ms free) (hbk : rm.cells = mc ∧ rm.slots = ms ∧ rm.frames + 1 ≤ R.frames ∧ 8 + (maxL + 11) + rm.locals ≤ R.locals ∧ (∀ w ∈ ws, ∀ (a' : Array Value) (U : State), s.WarmedH U.vm → w.before a' U = true) ∧ Cond.code y bytes maxL ret ∈ ws)
    (hlink : (Cond.methodLink own index x0).before args s = true) (hsame : (Cond.sameMethod x0.cls y.cls x0.name x0.desc).before args s = true) (hxy : x0.name = y.name ∧ x0.desc = y.desc) (hsup : (Cond.superclass own x0.cls).before args s = true) (hsup2 : (Cond.superclass x0.cls y.cls).before args s = true) (hinst : (Cond.instanceMethod y).before args s = true) (hini : (Cond.initialized y.cls).before args s = true) (hcode : (Cond.code y bytes maxL ret).before args s = true) (hno : y.name ≠ "<init>") (hlen : ∀ sig, parseMethodDescriptor y.desc = some sig → n = sig.parameters.length)
    (hp : PreV s H C b Pc As)
    (hg : g.method = m) (hn : As.length = n) (hsize : g.locals.size = nL) (hstack : g.stack = As.reverse ++ .ref b :: rest) (hW : 2 * g.monitorRoom + (rest.map fun v => v.category).sum ≤ 8) (hdg : decode cc g.pc = .ok (.invokespecial index, 3)) (hf : cells + mc ≤ R.cells ∧ slots + ms ≤ R.slots) :
    va_Run p l e R s m args below meth c H locs cells slots mc ms g rest (Qc (Value.ref b :: As).toArray) (free) := by
  obtain ⟨hrc, hrs, hfr, hlo, hws, hcw⟩ := hbk
  have hK : Back l R p e below s args y 3 8 (PreOf R mc ms Pc) (PostOf Qc mc ms free) := back_of (bytes := bytes) (maxL := maxL) (ret := ret) hM hp.1 hrc hrs hfr hlo hws hcw (fun a' U hW => word_at hW (Or.inl (by first | rfl | simp [Cond.onTables, Cond.keeps, Cond.steady])) hini)
  obtain ⟨hx, hb, hml, ho, -⟩ := S
  obtain ⟨-, ⟨cellB, hcB, hoB, hclB⟩, hPc⟩ := hp
  obtain ⟨hfc, kB, hkB, -⟩ := hat
  cases hfc.symm.trans hclB
  intro T hT X
  obtain ⟨mk, methM, hnamed, hmethM, hstM, habM⟩ := Cond.instanceMethod_spec hinst
  obtain ⟨methM', cM, hmethM', -, -, -, -, -, -, hsigM⟩ := Cond.code_spec hnamed hcode
  cases hmethM.symm.trans hmethM'
  obtain ⟨ps, dk, kp, hps, hdk, hkp, hsuper, -, -, hnid⟩ := Cond.superclass_spec ho hsup
  obtain ⟨ps2, dk2, kp2, hps2, hdk2, hkp2, hsuper2, -, -, -⟩ := Cond.superclass_spec hps hsup2
  have hn9 : s.methodNamed? ⟨y.cls, x0.name, x0.desc⟩ = some mk := by rw [hxy.1, hxy.2]; exact hnamed
  have hpm : ps2 = mk.cls := Option.some.inj (hps2.symm.trans (findClass_of_methodNamed hnamed))
  have hlt : 0 < s.vm.classes.size := Nat.lt_of_le_of_lt (Nat.zero_le _) (Array.getElem?_eq_some_iff.mp hdk).1
  have hsub : s.vm.isSubclass ps mk.cls = true := by
    rw [← hpm]
    obtain ⟨z, hz⟩ : ∃ z, s.vm.classes.size = z + 1 := ⟨s.vm.classes.size - 1, by omega⟩
    simp [Vm.isSubclass, Vm.isSubclassAux, hz, hdk2, hsuper2]
  obtain ⟨vm₁, X₁, hstep₁⟩ := X.invokespecialUp hx ho hlink hsame hn9 hmethM hstM habM (by rw [hxy.1]; exact hno) hdk hnid hps hsuper hsub (a := b) (cell := cellB) (by rw [hT]; exact hcB)
    (fun z h => by rw [h] at hoB; cases hoB) hkB (g := g) hg (argsL := As) (rest := rest) (hn.trans (hlen _ hsigM)) hstack (by rw [hb]; exact hdg)
  obtain ⟨v, ⟨U', l2, c2, s2⟩, X', ⟨g', mk', t, L, e1, e2, hq, h1, hL, h2, h3⟩, st⟩ := hK m meth c ⟨T.setVm vm₁, locs, cells, slots⟩ { g with stack := rest } (.invokespecial index) mk (Value.ref b :: As).toArray X₁ hg (hsize.trans hml.symm) (by rw [hb]; exact hdg) hW (X₁.named hnamed) ⟨hf.1, hf.2, hPc (T.setVm vm₁) hT X₁.warmed⟩
  dsimp only [Pt.U, Pt.locs, Pt.cells, Pt.slots] at X' e1 e2 h1 h2 h3 st
  subst h1; subst h2; subst h3
  exact ⟨v, (T.setVm vm₁).calling g' mk' (Value.ref b :: As).toArray, t, U', L, hT, X', hL, e1, e2, hq, fun target h => hstep₁ _ (by rw [doInvoke_state]; exact Steps.trans st h)⟩
theorem v_callSUi {x : vC} {l : Launch} {D : va_G} {own : String} {cc : ByteArray} {rm : Room} {nL : Nat} {rt : Option FieldType} {k n : Nat} {ws : va_W} {lv : List (Nat × Value)} {st : List Value} {S : Type} {idx maxL mc ms : Nat} {x0 y : MethodName} {C : String} {bytes : ByteArray} {rt2 : FieldType} {rm2 : Room} {As : List Value} {b : Nat} {w0 wr : va_W} {w1 : S → va_W} {Q2 : Int32 → S → Prop} (pc : Nat) (hF : vF x l D own cc rm nL rt) (hM : Cti l D y bytes maxL rt2 rm2 (.ref b :: As) w0 w1 Q2 mc ms) (hp : ws.Perm (w0 ++ wr)) (hrv : ∃ (q0 ci : Nat) (fs : List Value) (T : u_T) (N : Nat), w0[q0]? = some (b, .inr (ci, fs)) ∧ cl0[ci]? = some (C, T, N)) (hq1 : Cond.methodLink own idx x0 ∈ lw_all) (hsm : Cond.sameMethod x0.cls y.cls x0.name x0.desc ∈ lw_all) (hxy : x0.name = y.name ∧ x0.desc = y.desc) (hsu : Cond.superclass own x0.cls ∈ lw_all) (hsu2 : Cond.superclass x0.cls y.cls ∈ lw_all) (hq2 : Cond.instanceMethod y ∈ lw_all) (hq4 : Cond.initialized y.cls ∈ lw_all) (hq5 : Cond.code y bytes maxL (some rt2) ∈ lw_all) (hds : y.name ≠ "<init>" ∧ (parseMethodDescriptor y.desc).map (fun d => d.parameters.length) = some As.length)
    (hrm : rm2.cells = mc ∧ rm2.slots = ms ∧ rm2.frames + 1 ≤ rm.frames ∧ 8 + (maxL + 11) + rm2.locals ≤ rm.locals) (hst : (st.map fun v => v.category).sum ≤ 8) (hcs : k + mc ≤ rm.cells ∧ n + ms ≤ rm.slots) (hd : decode cc pc = .ok (.invokespecial idx, 3))
    (kk : ∀ (r : Int32) (u : S), Q2 r u → vV x (k + mc) (n + ms) (w1 u ++ wr) lv (pc + 3) (.int r :: st)) : vV x k n ws lv pc (As.reverse ++ .ref b :: st) := by
  obtain ⟨q9, ci9, fs9, T9, N9, he9, hc9⟩ := hrv
  obtain ⟨p, l, e, R, s, m, args, below, meth, c, Q, D, A, nL⟩ := x
  obtain ⟨rfl, rfl, rfl, rfl, hx, hb, hml, hown, hts, hA, hlocks, hret, hE, hZ⟩ := hF
  intro H locs ls hP hD hS hl
  have hP := vP_perm hp hP
  have hD := vD_perm hp hD
  have hPc : va_P D cl0 w0 H := vP_left hP
  have hDc : va_D A w0 := vD_left hD
  have hFc : ∀ q, va_A w0 H.size q → A q := vfree hDc hS hA
  refine va_calli (va_runSU2 (x0 := x0) (y := y) (C := C) (As := As) (rest := st) (b := b) (hE.1.1 ci9 _ hc9).2 ⟨hx, hb, hml, hown, hts⟩ (hM H.size) ⟨hrm.1, hrm.2.1, hrm.2.2.1, hrm.2.2.2, fun w hw a' U hU => word_at hU (lw_meth hq5 w hw).2 (hts _ (lw_meth hq5 w hw).1), List.mem_cons_self ..⟩ (hts _ hq1) (hts _ hsm) hxy (hts _ hsu) (hts _ hsu2) (hts _ hq2) (hts _ hq4) (hts _ hq5) hds.1 (fun sig h => by have h2 := hds.2; rw [h] at h2; exact (Option.some.inj h2).symm) ⟨fun a U g mk q => by obtain ⟨q0, q1, qP, qK, qD, qZ⟩ := q; exact ⟨q0, q1, qP, qK.blind, qD, vZA.moved (u := U) (U := U.calling g mk a) (Vm.Alike.refl U.vm) qZ⟩, va_recv hE.1 hPc (ci := ci9) (q0 := q9) hc9 he9, fun U hU hW => ⟨rfl, by rw [hU], by rw [hU]; exact hPc, hE.warm hW, hDc.weaken (fun _ _ _ _ => trivial), by rw [hU]; exact vZA.moved hW.alike ((hZ.kept hS.2.1).narrow hFc)⟩⟩ rfl rfl hl.1 rfl (lv_room hst) hd hcs) hS (fun q _ h => hFc q h) hFc (fun r u t H1 locs ht hvm hw1 hB hz1 hk1 hS => ?_)
  obtain ⟨hP1, hD1⟩ := hB
  rw [ht] at hP1
  obtain ⟨hP, hD⟩ := vjoin hP hD hk1 hFc hP1 hD1
  exact kk r u hw1 H1 locs ls hP hD hS hl
