set_option maxRecDepth 100000
theorem v_getON {x : vC} {l : Launch} {D : va_G} {own : String} {cc : ByteArray} {rm : Room} {nL : Nat} {rt : Option FieldType} {k n : Nat} {ws : va_W} {lv : List (Nat × Value)} {st : List Value} {C : String} {T : u_T} {N ci idx b : Nat} {fs : List Value} {host : String} {v : Value} (pc : Nat) (hF : vF x l D own cc rm nL rt) (hin : ∀ w ∈ u_ws C T N, w ∈ lw_all) (q0 : Nat) (he : ws[q0]? = some (b, .inr (ci, fs))) (hc : cl0[ci]? = some (C, T, N)) (kf : Nat) (hk : kf < N) (hq : Cond.fieldLinkNest own idx (T kf).1 (T kf).2.1 (T kf).2.2.1 host ∈ lw_tbl) (hv : fs[kf]? = some v) (hd : decode cc pc = .ok (.getfield idx, 3))
    (kk : vV x k n ws lv (pc + 3) (v :: st)) : vV x k n ws lv pc (.ref b :: st) := by
  obtain ⟨p, l, e, R, s, m, args, below, meth, c, Q, D, A, nL⟩ := x
  obtain ⟨rfl, rfl, rfl, rfl, hx, hb, hml, hown, hts, hA, hlocks, hret, hE, hZ⟩ := hF
  intro H locs ls hP hD hS hl
  exact va_getN (D := D) (ci := ci) (v := v) (C := C) (T := T) (N := N) hx hb hts hin hown hE.1 hP q0 he hc kf hk (va_Nw.use rfl (hE.2.1 _ hq rfl)) (fun y h9 => h9) hv hd (kk H locs ls hP hD hS hl)
