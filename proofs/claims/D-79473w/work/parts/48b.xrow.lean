set_option maxRecDepth 100000
def lcmpV (x y : Int64) : Int32 := if x > y then 1 else if x == y then 0 else -1
theorem lv_lcmp {p : Program} {l : Launch} {e : Env} {R : Room} {s : State} {m : MethodId} {args : Array Value} {below : List Frame} {meth : Method} {c : Code} {H : Heap} {locs : List Loc} {cells slots : Nat} {Q : State → Prop} {pc : Nat} {ls : Array Slot} {rest : List Value} {cc : ByteArray} (hexec : p.tables.exec = Jvm.exec) (hb : c.code = cc) {x y : Int64} (hdg : decode cc pc = .ok (.lcmp, 1))
    (k : W p l e R s m args below meth c H locs cells slots Q (F0 m (pc + 1) ls (.int (lcmpV x y) :: rest))) : W p l e R s m args below meth c H locs cells slots Q (F0 m pc ls (.long y :: .long x :: rest)) := by
  intro T hT X
  obtain ⟨t, a, b⟩ := k T hT X
  refine ⟨t, ?_, b⟩
  unfold lcmpV at a
  by_cases h1 : x > y
  · rw [if_pos h1] at a
    jvm_step X.here [X.here.top, hexec, hb, hdg, Op.lcmp.sem, h1]
    exact a
  · rw [if_neg h1] at a
    by_cases h2 : (x == y) = true
    · rw [if_pos h2] at a
      jvm_step X.here [X.here.top, hexec, hb, hdg, Op.lcmp.sem, h1, h2]
      exact a
    · rw [if_neg h2] at a
      jvm_step X.here [X.here.top, hexec, hb, hdg, Op.lcmp.sem, h1, h2]
      exact a
theorem v_i2l {x : vC} {l : Launch} {D : va_G} {own : String} {cc : ByteArray} {rm : Room} {nL : Nat} {rt : Option FieldType} {k n : Nat} {ws : va_W} {lv : List (Nat × Value)} {st : List Value} {y : Int32} (pc : Nat) (hF : vF x l D own cc rm nL rt) (hd : decode cc pc = .ok (.i2l, 1))
    (kk : vV x k n ws lv (pc + 1) (.long y.toInt64 :: st)) : vV x k n ws lv pc (.int y :: st) := by
  obtain ⟨p, l, e, R, s, m, args, below, meth, c, Q, D, A, nL⟩ := x
  obtain ⟨rfl, rfl, rfl, rfl, hx, hb, hml, hown, hts, hA, hlocks, hret, hE, hZ⟩ := hF
  intro H locs ls hP hD hS hl
  exact lv_i2l hx hb hd rfl (kk H locs ls hP hD hS hl)
theorem v_lconst {x : vC} {l : Launch} {D : va_G} {own : String} {cc : ByteArray} {rm : Room} {nL : Nat} {rt : Option FieldType} {k n : Nat} {ws : va_W} {lv : List (Nat × Value)} {st : List Value} {q : Fin 2} {v : Int64} (pc : Nat) (hF : vF x l D own cc rm nL rt) (hd : decode cc pc = .ok (.lconst q, 1)) (hv : Int64.ofNat (q : Nat) = v)
    (kk : vV x k n ws lv (pc + 1) (.long v :: st)) : vV x k n ws lv pc (st) := by
  obtain ⟨p, l, e, R, s, m, args, below, meth, c, Q, D, A, nL⟩ := x
  obtain ⟨rfl, rfl, rfl, rfl, hx, hb, hml, hown, hts, hA, hlocks, hret, hE, hZ⟩ := hF
  intro H locs ls hP hD hS hl
  exact lv_lconst hx hb hd hv (kk H locs ls hP hD hS hl)
theorem v_lcmp {x : vC} {l : Launch} {D : va_G} {own : String} {cc : ByteArray} {rm : Room} {nL : Nat} {rt : Option FieldType} {k n : Nat} {ws : va_W} {lv : List (Nat × Value)} {st : List Value} {y z : Int64} (pc : Nat) (hF : vF x l D own cc rm nL rt) (hd : decode cc pc = .ok (.lcmp, 1))
    (kk : vV x k n ws lv (pc + 1) (.int (lcmpV y z) :: st)) : vV x k n ws lv pc (.long z :: .long y :: st) := by
  obtain ⟨p, l, e, R, s, m, args, below, meth, c, Q, D, A, nL⟩ := x
  obtain ⟨rfl, rfl, rfl, rfl, hx, hb, hml, hown, hts, hA, hlocks, hret, hE, hZ⟩ := hF
  intro H locs ls hP hD hS hl
  exact lv_lcmp hx hb hd (kk H locs ls hP hD hS hl)
theorem v_dcmp {x : vC} {l : Launch} {D : va_G} {own : String} {cc : ByteArray} {rm : Room} {nL : Nat} {rt : Option FieldType} {k n : Nat} {ws : va_W} {lv : List (Nat × Value)} {st : List Value} {y z : UInt64} {op : CmpOp} (pc : Nat) (hF : vF x l D own cc rm nL rt) (hd : decode cc pc = .ok (.dcmp op, 1))
    (kk : vV x k n ws lv (pc + 1) (.int (Op.cmpValue (FP.dcmp y z) op) :: st)) : vV x k n ws lv pc (.double z :: .double y :: st) := by
  obtain ⟨p, l, e, R, s, m, args, below, meth, c, Q, D, A, nL⟩ := x
  obtain ⟨rfl, rfl, rfl, rfl, hx, hb, hml, hown, hts, hA, hlocks, hret, hE, hZ⟩ := hF
  intro H locs ls hP hD hS hl
  exact lv_dcmp hx hb hd (kk H locs ls hP hD hS hl)
theorem v_fcmp {x : vC} {l : Launch} {D : va_G} {own : String} {cc : ByteArray} {rm : Room} {nL : Nat} {rt : Option FieldType} {k n : Nat} {ws : va_W} {lv : List (Nat × Value)} {st : List Value} {y z : UInt32} {op : CmpOp} (pc : Nat) (hF : vF x l D own cc rm nL rt) (hd : decode cc pc = .ok (.fcmp op, 1))
    (kk : vV x k n ws lv (pc + 1) (.int (Op.cmpValue (FP.fcmp y z) op) :: st)) : vV x k n ws lv pc (.float z :: .float y :: st) := by
  obtain ⟨p, l, e, R, s, m, args, below, meth, c, Q, D, A, nL⟩ := x
  obtain ⟨rfl, rfl, rfl, rfl, hx, hb, hml, hown, hts, hA, hlocks, hret, hE, hZ⟩ := hF
  intro H locs ls hP hD hS hl
  exact lv_fcmp hx hb hd (kk H locs ls hP hD hS hl)
theorem v_f2d {x : vC} {l : Launch} {D : va_G} {own : String} {cc : ByteArray} {rm : Room} {nL : Nat} {rt : Option FieldType} {k n : Nat} {ws : va_W} {lv : List (Nat × Value)} {st : List Value} {y : UInt32} (pc : Nat) (hF : vF x l D own cc rm nL rt) (hd : decode cc pc = .ok (.f2d, 1)) (hne : vf_n64 (FP.f2d y))
    (kk : vV x k n ws lv (pc + 1) (.double (FP.f2d y) :: st)) : vV x k n ws lv pc (.float y :: st) := by
  obtain ⟨p, l, e, R, s, m, args, below, meth, c, Q, D, A, nL⟩ := x
  obtain ⟨rfl, rfl, rfl, rfl, hx, hb, hml, hown, hts, hA, hlocks, hret, hE, hZ⟩ := hF
  intro H locs ls hP hD hS hl
  exact lv_f2d hx hb hd hne (kk H locs ls hP hD hS hl)
theorem v_dstore {x : vC} {l : Launch} {D : va_G} {own : String} {cc : ByteArray} {rm : Room} {nL : Nat} {rt : Option FieldType} {k n : Nat} {ws : va_W} {lv : List (Nat × Value)} {st : List Value} {i : Nat} {y : UInt64} (lv1 : List (Nat × Value)) (ks : List Nat) (pc : Nat) (hF : vF x l D own cc rm nL rt) (hd : decode cc pc = .ok (.dstore i, 2)) (hn : i + 1 < nL) (hl1 : lv_pick ((i, Value.double y) :: lv.filter (fun q => !(q.1 == i) && (!(q.1 == i + 1) && !(q.1 + 1 == i && q.2.category == 2)))) ks = lv1)
    (kk : vV x k n ws lv1 (pc + 2) st) : vV x k n ws lv pc (.double y :: st) := by
  obtain ⟨p, l, e, R, s, m, args, below, meth, c, Q, D, A, nL⟩ := x
  obtain ⟨rfl, rfl, rfl, rfl, hx, hb, hml, hown, hts, hA, hlocks, hret, hE, hZ⟩ := hF
  intro H locs ls hP hD hS hl
  exact lv_dstore hx hb hd hl hn rfl (fun ls hl => kk H locs ls hP hD hS (lv_sub hl ks hl1))
theorem v_last {x : vC} {l : Launch} {D : va_G} {own : String} {cc : ByteArray} {rm : Room} {nL : Nat} {rt : Option FieldType} {k n : Nat} {ws : va_W} {lv : List (Nat × Value)} {st : List Value} {b len : Nat} {f : Nat → Int64} {i : Int32} {v : Int64} (ws1 : va_W) (pc : Nat) (hF : vF x l D own cc rm nL rt) (q0 : Nat) (ha : ws[q0]? = some (b, .inl (dJ_ D, len, .inr (.inl f)))) (hi : vp_in i len) (hw : ws.set q0 (b, .inl (dJ_ D, len, .inr (.inl (vp_updL f i.toNatClampNeg v)))) = ws1) (hd : decode cc pc = .ok (.lastore, 1))
    (kk : vV x k n ws1 lv (pc + 1) st) : vV x k n ws lv pc (.long v :: .int i :: .ref b :: st) := by
  subst hw
  obtain ⟨p, l, e, R, s, m, args, below, meth, c, Q, D, A, nL⟩ := x
  obtain ⟨rfl, rfl, rfl, rfl, hx, hb, hml, hown, hts, hA, hlocks, hret, hE, hZ⟩ := hF
  intro H locs ls hP hD hS hl
  exact va_last hx hb hE.1 hP hD hS q0 1 ha rfl hi hd (fun H locs hP hD hS => kk H locs ls hP hD hS hl)
theorem v_dast {x : vC} {l : Launch} {D : va_G} {own : String} {cc : ByteArray} {rm : Room} {nL : Nat} {rt : Option FieldType} {k n : Nat} {ws : va_W} {lv : List (Nat × Value)} {st : List Value} {b len : Nat} {f : Nat → UInt64} {i : Int32} {v : UInt64} (ws1 : va_W) (pc : Nat) (hF : vF x l D own cc rm nL rt) (q0 : Nat) (ha : ws[q0]? = some (b, .inl (dD_ D, len, .inr (.inr (.inr (.inl f)))))) (hi : vp_in i len) (hw : ws.set q0 (b, .inl (dD_ D, len, .inr (.inr (.inr (.inl (vf_upd f i.toNatClampNeg v)))))) = ws1) (hd : decode cc pc = .ok (.dastore, 1))
    (kk : vV x k n ws1 lv (pc + 1) st) : vV x k n ws lv pc (.double v :: .int i :: .ref b :: st) := by
  subst hw
  obtain ⟨p, l, e, R, s, m, args, below, meth, c, Q, D, A, nL⟩ := x
  obtain ⟨rfl, rfl, rfl, rfl, hx, hb, hml, hown, hts, hA, hlocks, hret, hE, hZ⟩ := hF
  intro H locs ls hP hD hS hl
  exact va_dast hx hb hE.1 hP hD hS q0 2 ha rfl hi hd (fun H locs hP hD hS => kk H locs ls hP hD hS hl)
theorem v_lald {x : vC} {l : Launch} {D : va_G} {own : String} {cc : ByteArray} {rm : Room} {nL : Nat} {rt : Option FieldType} {k n : Nat} {ws : va_W} {lv : List (Nat × Value)} {st : List Value} {b len : Nat} {f : Nat → Int64} {i : Int32} (pc : Nat) (hF : vF x l D own cc rm nL rt) (q0 : Nat) (ha : ws[q0]? = some (b, .inl (dJ_ D, len, .inr (.inl f)))) (hi : vp_in i len) (hd : decode cc pc = .ok (.laload, 1))
    (kk : vV x k n ws lv (pc + 1) (.long (f i.toNatClampNeg) :: st)) : vV x k n ws lv pc (.int i :: .ref b :: st) := by
  obtain ⟨p, l, e, R, s, m, args, below, meth, c, Q, D, A, nL⟩ := x
  obtain ⟨rfl, rfl, rfl, rfl, hx, hb, hml, hown, hts, hA, hlocks, hret, hE, hZ⟩ := hF
  intro H locs ls hP hD hS hl
  exact va_lald hx hb hE.1 hP q0 1 ha rfl hi hd (kk H locs ls hP hD hS hl)
theorem v_dald {x : vC} {l : Launch} {D : va_G} {own : String} {cc : ByteArray} {rm : Room} {nL : Nat} {rt : Option FieldType} {k n : Nat} {ws : va_W} {lv : List (Nat × Value)} {st : List Value} {b len : Nat} {f : Nat → UInt64} {i : Int32} (pc : Nat) (hF : vF x l D own cc rm nL rt) (q0 : Nat) (ha : ws[q0]? = some (b, .inl (dD_ D, len, .inr (.inr (.inr (.inl f)))))) (hi : vp_in i len) (hd : decode cc pc = .ok (.daload, 1))
    (kk : vV x k n ws lv (pc + 1) (.double (f i.toNatClampNeg) :: st)) : vV x k n ws lv pc (.int i :: .ref b :: st) := by
  obtain ⟨p, l, e, R, s, m, args, below, meth, c, Q, D, A, nL⟩ := x
  obtain ⟨rfl, rfl, rfl, rfl, hx, hb, hml, hown, hts, hA, hlocks, hret, hE, hZ⟩ := hF
  intro H locs ls hP hD hS hl
  exact va_dald hx hb hE.1 hP q0 2 ha rfl hi hd (kk H locs ls hP hD hS hl)
def vScr (x : vC) (b N : Nat) (xs : Nat → Int32) : Prop :=
  match x with
  | (_, _, _, _, s, _, _, _, _, _, _, _, A, _) => va_X b N xs s s.heap ∧ b < s.heap.size ∧ ¬ A b
theorem v_sld {x : vC} {l : Launch} {D : va_G} {own : String} {cc : ByteArray} {rm : Room} {nL : Nat} {rt : Option FieldType} {k n : Nat} {ws : va_W} {lv : List (Nat × Value)} {st : List Value} {b N : Nat} {xs : Nat → Int32} {i : Int32} (pc : Nat) (hF : vF x l D own cc rm nL rt) (hX : vScr x b N xs) (hi : vp_in i N) (hd : decode cc pc = .ok (.iaload, 1))
    (kk : vV x k n ws lv (pc + 1) (.int (xs i.toNatClampNeg) :: st)) : vV x k n ws lv pc (.int i :: .ref b :: st) := by
  obtain ⟨p, l, e, R, s, m, args, below, meth, c, Q, D, A, nL⟩ := x
  obtain ⟨rfl, rfl, rfl, rfl, hx, hb, hml, hown, hts, hA, hlocks, hret, hE, hZ⟩ := hF
  intro H locs ls hP hD hS hl
  exact va_sld hx hb hX.1 hX.2.1 hX.2.2 hS hi hd (kk H locs ls hP hD hS hl)
theorem v_scrlen {x : vC} {l : Launch} {D : va_G} {own : String} {cc : ByteArray} {rm : Room} {nL : Nat} {rt : Option FieldType} {k n : Nat} {ws : va_W} {lv : List (Nat × Value)} {st : List Value} {b N : Nat} {xs : Nat → Int32} (pc : Nat) (hF : vF x l D own cc rm nL rt) (hX : vScr x b N xs) (hd : decode cc pc = .ok (.arraylength, 1))
    (kk : vV x k n ws lv (pc + 1) (.int (Int32.ofNat N) :: st)) : vV x k n ws lv pc (.ref b :: st) := by
  obtain ⟨p, l, e, R, s, m, args, below, meth, c, Q, D, A, nL⟩ := x
  obtain ⟨rfl, rfl, rfl, rfl, hx, hb, hml, hown, hts, hA, hlocks, hret, hE, hZ⟩ := hF
  intro H locs ls hP hD hS hl
  exact va_slen hx hb hX.1 hX.2.1 hX.2.2 hS hd (kk H locs ls hP hD hS hl)
