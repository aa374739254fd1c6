set_option maxRecDepth 100000
def sLen (j : Nat) : Nat := ([6, 2] : List Nat).getD j 0
def sByt (j k : Nat) : Int32 := (([[114, 110, 98, 111, 115, 101], [102, 109]] : List (List Int32)).getD j []).getD k 0
theorem v_sval {x : vC} {l : Launch} {D : va_G} {own : String} {cc : ByteArray} {rm : Room} {nL : Nat} {rt : Option FieldType} {k n : Nat} {ws : va_W} {lv : List (Nat × Value)} {st : List Value} {idx j : Nat} (pc : Nat) (hF : vF x l D own cc rm nL rt) (hj : j < 2) (hq : Cond.fieldLink own idx "java/lang/String" "value" "[B" ∈ lw_all) (hd : decode cc pc = .ok (.getfield idx, 3))
    (kk : vV x k n ws lv (pc + 3) (.ref (D.2 1004 j) :: st)) : vV x k n ws lv pc (.ref (D.2 1003 j) :: st) := by
  obtain ⟨p, l, e, R, s, m, args, below, meth, c, Q, D, A, nL⟩ := x
  obtain ⟨rfl, rfl, rfl, rfl, hx, hb, hml, hown, hts, hA, hlocks, hret, hE, hZ⟩ := hF
  intro H locs ls hP hD hS hl
  exact vk_getf hx hb (hZ.2.2.2.2.2.1.1 j hj).2.2.1 hS hown (hts _ hq) (fun _ h => h) hd (kk H locs ls hP hD hS hl)
theorem v_scod {x : vC} {l : Launch} {D : va_G} {own : String} {cc : ByteArray} {rm : Room} {nL : Nat} {rt : Option FieldType} {k n : Nat} {ws : va_W} {lv : List (Nat × Value)} {st : List Value} {idx j : Nat} (pc : Nat) (hF : vF x l D own cc rm nL rt) (hj : j < 2) (hq : Cond.fieldLink own idx "java/lang/String" "coder" "B" ∈ lw_all) (hd : decode cc pc = .ok (.getfield idx, 3))
    (kk : vV x k n ws lv (pc + 3) (.int 0 :: st)) : vV x k n ws lv pc (.ref (D.2 1003 j) :: st) := by
  obtain ⟨p, l, e, R, s, m, args, below, meth, c, Q, D, A, nL⟩ := x
  obtain ⟨rfl, rfl, rfl, rfl, hx, hb, hml, hown, hts, hA, hlocks, hret, hE, hZ⟩ := hF
  intro H locs ls hP hD hS hl
  exact vk_getf hx hb (hZ.2.2.2.2.2.1.1 j hj).2.1 hS hown (hts _ hq) (fun _ h => h) hd (kk H locs ls hP hD hS hl)
theorem v_slen {x : vC} {l : Launch} {D : va_G} {own : String} {cc : ByteArray} {rm : Room} {nL : Nat} {rt : Option FieldType} {k n : Nat} {ws : va_W} {lv : List (Nat × Value)} {st : List Value} {j : Nat} (pc : Nat) (hF : vF x l D own cc rm nL rt) (hj : j < 2) (hd : decode cc pc = .ok (.arraylength, 1))
    (kk : vV x k n ws lv (pc + 1) (.int (Int32.ofNat (sLen j)) :: st)) : vV x k n ws lv pc (.ref (D.2 1004 j) :: st) := by
  obtain ⟨p, l, e, R, s, m, args, below, meth, c, Q, D, A, nL⟩ := x
  obtain ⟨rfl, rfl, rfl, rfl, hx, hb, hml, hown, hts, hA, hlocks, hret, hE, hZ⟩ := hF
  intro H locs ls hP hD hS hl
  exact va_tlen hx hb (hZ.2.2.2.2.2.1.1 j hj).2.2.2 hS rfl hd (kk H locs ls hP hD hS hl)
theorem v_sbald {x : vC} {l : Launch} {D : va_G} {own : String} {cc : ByteArray} {rm : Room} {nL : Nat} {rt : Option FieldType} {k n : Nat} {ws : va_W} {lv : List (Nat × Value)} {st : List Value} {j : Nat} {i : Int32} (pc : Nat) (hF : vF x l D own cc rm nL rt) (hj : j < 2) (hi : vp_in i (sLen j)) (hd : decode cc pc = .ok (.baload, 1))
    (kk : vV x k n ws lv (pc + 1) (.int (sByt j i.toNatClampNeg) :: st)) : vV x k n ws lv pc (.int i :: .ref (D.2 1004 j) :: st) := by
  obtain ⟨p, l, e, R, s, m, args, below, meth, c, Q, D, A, nL⟩ := x
  obtain ⟨rfl, rfl, rfl, rfl, hx, hb, hml, hown, hts, hA, hlocks, hret, hE, hZ⟩ := hF
  intro H locs ls hP hD hS hl
  exact va_tb (v := .int (sByt j i.toNatClampNeg)) hx hb (hZ.2.2.2.2.2.1.1 j hj).2.2.2 hS hi rfl hd (kk H locs ls hP hD hS hl)
theorem v_ldcS0 {x : vC} {l : Launch} {D : va_G} {own : String} {cc : ByteArray} {rm : Room} {nL : Nat} {rt : Option FieldType} {k n : Nat} {ws : va_W} {lv : List (Nat × Value)} {st : List Value} (pc : Nat) (hF : vF x l D own cc rm nL rt) (how : own = "BrookWeirsModel") (hd : decode cc pc = .ok (.ldc 210, 2))
    (kk : vV x k n ws lv (pc + 2) (.ref (D.2 1003 0) :: st)) : vV x k n ws lv pc st := by
  subst how
  obtain ⟨p, l, e, R, s, m, args, below, meth, c, Q, D, A, nL⟩ := x
  obtain ⟨rfl, rfl, rfl, rfl, hx, hb, hml, hown, hts, hA, hlocks, hret, hE, hZ⟩ := hF
  intro H locs ls hP hD hS hl
  exact va_ldcS hx hb hown hE.2.2.2.2.1 hd (kk H locs ls hP hD hS hl)
theorem v_ldcS1 {x : vC} {l : Launch} {D : va_G} {own : String} {cc : ByteArray} {rm : Room} {nL : Nat} {rt : Option FieldType} {k n : Nat} {ws : va_W} {lv : List (Nat × Value)} {st : List Value} (pc : Nat) (hF : vF x l D own cc rm nL rt) (how : own = "BrookWeirsModel") (hd : decode cc pc = .ok (.ldc 219, 2))
    (kk : vV x k n ws lv (pc + 2) (.ref (D.2 1003 1) :: st)) : vV x k n ws lv pc st := by
  subst how
  obtain ⟨p, l, e, R, s, m, args, below, meth, c, Q, D, A, nL⟩ := x
  obtain ⟨rfl, rfl, rfl, rfl, hx, hb, hml, hown, hts, hA, hlocks, hret, hE, hZ⟩ := hF
  intro H locs ls hP hD hS hl
  exact va_ldcS hx hb hown hE.2.2.2.2.2.1 hd (kk H locs ls hP hD hS hl)
theorem v_callKi {x : vC} {l : Launch} {D : va_G} {own : String} {cc : ByteArray} {rm : Room} {nL : Nat} {rt : Option FieldType} {k n : Nat} {ws : va_W} {lv : List (Nat × Value)} {st : List Value} {S : Type} {idx maxL mc ms : Nat} {y : MethodName} {bytes : ByteArray} {rt2 : FieldType} {rm2 : Room} {As : List Value} {j9 : Nat} {w0 wr : va_W} {w1 : S → va_W} {Q2 : Int32 → S → Prop} (pc : Nat) (hF : vF x l D own cc rm nL rt) (hM : Cti l D y bytes maxL rt2 rm2 (.ref (D.2 1003 j9) :: As) w0 w1 Q2 mc ms) (hp : ws.Perm (w0 ++ wr)) (hj9 : j9 < 2) (hyc : y.cls = "java/lang/String") (hq1 : Cond.methodLink own idx y ∈ lw_all) (hq2 : Cond.instanceMethod y ∈ lw_all) (hq3 : Cond.selects y.cls y y ∈ lw_all) (hq4 : Cond.initialized y.cls ∈ lw_all) (hq5 : Cond.code y bytes maxL (some rt2) ∈ lw_all) (hds : y.cls = y.cls ∧ y.cls ≠ "java/lang/invoke/MethodHandle" ∧ y.cls ≠ "java/lang/invoke/VarHandle" ∧ (parseMethodDescriptor y.desc).map (fun d => d.parameters.length) = some As.length)
    (hrm : rm2.cells = mc ∧ rm2.slots = ms ∧ rm2.frames + 1 ≤ rm.frames ∧ 8 + (maxL + 11) + rm2.locals ≤ rm.locals) (hst : (st.map fun v => v.category).sum ≤ 8) (hcs : k + mc ≤ rm.cells ∧ n + ms ≤ rm.slots) (hd : decode cc pc = .ok (.invokevirtual idx, 3))
    (kk : ∀ (r : Int32) (u : S), Q2 r u → vV x (k + mc) (n + ms) (w1 u ++ wr) lv (pc + 3) (.int r :: st)) : vV x k n ws lv pc (As.reverse ++ .ref (D.2 1003 j9) :: st) := by
  obtain ⟨p, l, e, R, s, m, args, below, meth, c, Q, D, A, nL⟩ := x
  obtain ⟨rfl, rfl, rfl, rfl, hx, hb, hml, hown, hts, hA, hlocks, hret, hE, hZ⟩ := hF
  intro H locs ls hP hD hS hl
  have hP := vP_perm hp hP
  have hD := vD_perm hp hD
  have hPc : va_P D cl0 w0 H := vP_left hP
  have hDc : va_D A w0 := vD_left hD
  have hFc : ∀ q, va_A w0 H.size q → A q := vfree hDc hS hA
  refine va_calli (va_runV (As := As) (rest := st) (b := D.2 1003 j9) ⟨hx, hb, hml, hown, hts⟩ (hM H.size) (cwV As.length hts (lw_V hq1 hq2 hq3 hq4 hq5) rfl hrm.1 hrm.2.1 hds hrm.2.2) ⟨fun a U g mk q => by obtain ⟨q0, q1, qP, qK, qD, qZ⟩ := q; exact ⟨q0, q1, qP, qK.blind, qD, vZA.moved (u := U) (U := U.calling g mk a) (Vm.Alike.refl U.vm) qZ⟩, (by obtain ⟨c9, h1, h2, h3⟩ := vk_recv hZ.2.2.2.2.2.1 hj9 hS; exact ⟨c9, h1, h2, hyc ▸ h3⟩), fun U hU hW => ⟨rfl, by rw [hU], by rw [hU]; exact hPc, hE.warm hW, hDc.weaken (fun _ _ _ _ => trivial), by rw [hU]; exact vZA.moved hW.alike ((hZ.kept hS.2.1).narrow hFc)⟩⟩ rfl rfl hl.1 rfl (lv_room hst) hd hcs) hS (fun q _ h => hFc q h) hFc (fun r u t H1 locs ht hvm hw1 hB hz1 hk1 hS => ?_)
  obtain ⟨hP1, hD1⟩ := hB
  rw [ht] at hP1
  obtain ⟨hP, hD⟩ := vjoin hP hD hk1 hFc hP1 hD1
  exact kk r u hw1 H1 locs ls hP hD hS hl
