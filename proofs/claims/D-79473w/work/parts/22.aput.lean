set_option maxRecDepth 100000
theorem findClass_named {vm : Vm} {n : String} {c : ClassId} {k : Class} (h : vm.findClass n = some c) (hk : vm.classes[c]? = some k) : k.name = n := by
  unfold Vm.findClass at h
  obtain ⟨hlt, hp, -⟩ := Array.findIdx?_eq_some_iff_getElem.mp h
  have e : vm.classes[c] = k := (Array.getElem?_eq_some_iff.mp hk).2
  simp only [e, Bool.and_eq_true, beq_iff_eq] at hp
  exact hp.1.1.1
theorem lf_name {args : Array Value} {s : State} {C O n d : String} (h : (Cond.laysFinal C O n d).before args s = true) {c i : Nat} {k : Class} {f : Field} (hi : s.fieldFound? O n d = some (c, k, i, f)) : ∃ a e, s.vm.findClass C = some a ∧ Jmm.declares? s.vm f.slot (a + 1) a = some e ∧ e.1.name = O := by
  obtain ⟨a, _, c', k', _, g, ha, _, hg, _, _, _, hc', _, e, he, hn, _⟩ := Cond.laysFinal_spec h
  cases hi.symm.trans hg
  exact ⟨a, e, ha, he, hn.trans (findClass_named hc' (State.fieldFound?_class hi))⟩
/-- fields of different names; or final ones of different classes -/
def nm2 (T : u_T) (N : Nat) : Prop := ∀ a, a < N → ∀ b, b < N → a ≠ b → (T a).2.1 ≠ (T b).2.1 ∨ ((T a).2.2.2 = true ∧ (T b).2.2.2 = true ∧ (T a).1 ≠ (T b).1)
theorem va_apart2 {D : va_G} {cl : List vw_C} {tys : List (ClassId × FieldType)} {s : State} {args : Array Value} {C : String} {T : u_T} {N ci : Nat} {Ts : List Cond} (hts : ∀ w ∈ Ts, w.before args s = true) (hin : ∀ w ∈ u_ws C T N, w ∈ Ts) (ty : Nat → FieldType) (hty : ∀ k, k < N → parseFieldDescriptor (T k).2.2.1 = some (ty k)) (hnm : nm2 T N) (hK : va_K D cl tys s) (hc : cl[ci]? = some (C, T, N)) : ∀ x y, x < N → y < N → x ≠ y → (D.2 ci) x ≠ (D.2 ci) y := by
  intro x y hx hy hne
  obtain ⟨hS, -⟩ := hK.1 ci _ hc
  obtain ⟨_, _, _, fa, hia, ea⟩ := hS x hx
  obtain ⟨_, _, _, fb, hib, eb⟩ := hS y hy
  rw [← ea, ← eb]
  rcases hnm x hx y hy hne with h | ⟨h1, h2, h3⟩
  · refine u_apart (u_lays hts hin hx) (u_lays hts hin hy) hia hib ?_
    rw [(State.fieldFound?_type hia (hty x hx)).1, (State.fieldFound?_type hib (hty y hy)).1]
    exact h
  · have l1 := hts _ (hin _ (u_in_lay hx))
    have l2 := hts _ (hin _ (u_in_lay hy))
    unfold u_lay at l1 l2
    rw [if_pos h1] at l1
    rw [if_pos h2] at l2
    obtain ⟨a, e, ha, he, hn⟩ := lf_name l1 hia
    obtain ⟨a', e', ha', he', hn'⟩ := lf_name l2 hib
    cases ha.symm.trans ha'
    intro hs
    rw [hs] at he
    cases he.symm.trans he'
    exact h3 (hn.symm.trans hn')
theorem v_putA {x : vC} {l : Launch} {D : va_G} {own : String} {cc : ByteArray} {rm : Room} {nL : Nat} {rt : Option FieldType} {k n : Nat} {ws : va_W} {lv : List (Nat × Value)} {st : List Value} {C : String} {T : u_T} {N ci idx b : Nat} {fs : List Value} {v : Value} {ty0 : Nat → FieldType} {ty : FieldType} (ws1 : va_W) (pc : Nat) (hF : vF x l D own cc rm nL rt) (hin : ∀ w ∈ u_ws C T N, w ∈ lw_all) (hty : ∀ k, k < N → parseFieldDescriptor (T k).2.2.1 = some (ty0 k)) (hnm : nm2 T N) (q0 : Nat) (he : ws[q0]? = some (b, .inr (ci, fs))) (hc : cl0[ci]? = some (C, T, N)) (kf : Nat) (hk : kf < N) (hq : Cond.fieldLink own idx (T kf).1 (T kf).2.1 (T kf).2.2.1 ∈ lw_all) (hfin : (T kf).2.2.2 = false) (hty1 : ty0 kf = ty) (hn : narrow ty v = v) (hfit : fits ty v = true) (hlen : kf < fs.length) (hw : ws.set q0 (b, .inr (ci, fs.set kf v)) = ws1) (hd : decode cc pc = .ok (.putfield idx, 3))
    (kk : vV x k n ws1 lv (pc + 3) st) : vV x k n ws lv pc (v :: .ref b :: st) := by
  subst hw
  obtain ⟨p, l, e, R, s, m, args, below, meth, c, Q, D, A, nL⟩ := x
  obtain ⟨rfl, rfl, rfl, rfl, hx, hb, hml, hown, hts, hA, hlocks, hret, hE, hZ⟩ := hF
  intro H locs ls hP hD hS hl
  have hap := va_apart2 hts hin ty0 hty hnm hE.1 hc
  obtain ⟨r, h1, cell, q1, q2, q3, q4⟩ := hP q0 _ he
  cases h1.symm.trans hc
  obtain ⟨hSl, hfc, kC, hkC, hkind⟩ := hE.1.1 ci _ hc
  obtain ⟨cf, kf', fi, f, hi, hsl⟩ := hSl kf hk
  have hlay := hts _ (hin _ (u_in_lay hk))
  unfold u_lay at hlay
  have hst := (u_facts hfc hkC (u_lays hts hin hk) hi).1
  have hd9 : parseFieldDescriptor (T kf).2.2.1 = some ty := by rw [hty kf hk, hty1]
  rw [if_neg (by rw [hfin]; decide)] at hlay
  have h6 := u_store hfc hkC hkind hlay hi hd9 hn hfit
  refine W.putK hx hb (f := f) ⟨hown, hts _ hq, ⟨_, _, _, hi⟩, hst⟩ (by rw [q2]; exact h6) q1 q3 (by rw [hsl]; exact k2_hasslot (q4 kf hk)) rfl rfl hd fun H' e1 e2 e3 => ?_
  rw [hsl] at e1 ⊢
  exact kk H' _ ls (hP.set hD he ⟨_, hc, t_OB.to (V := updV (vp_V fs) kf v) ⟨_, e1, q2, q3, t_set q4 hap hk v⟩ (fun j _ => vp_updV_set hlen v j)⟩ e3) (hD.set he) (hS.put e2 e3 (hD.2 q0 _ he)) hl
theorem v_putFA {x : vC} {l : Launch} {D : va_G} {own : String} {cc : ByteArray} {rm : Room} {nL : Nat} {rt : Option FieldType} {k n : Nat} {ws : va_W} {lv : List (Nat × Value)} {st : List Value} {C : String} {T : u_T} {N ci idx b : Nat} {fs : List Value} {v : Value} {ty0 : Nat → FieldType} {ty : FieldType} (ws1 : va_W) (pc : Nat) (hF : vF x l D own cc rm nL rt) (hini : vI x) (hin : ∀ w ∈ u_ws C T N, w ∈ lw_all) (hty : ∀ k, k < N → parseFieldDescriptor (T k).2.2.1 = some (ty0 k)) (hnm : nm2 T N) (q0 : Nat) (he : ws[q0]? = some (b, .inr (ci, fs))) (hc : cl0[ci]? = some (C, T, N)) (kf : Nat) (hk : kf < N) (hq : Cond.fieldLink own idx (T kf).1 (T kf).2.1 (T kf).2.2.1 ∈ lw_all) (hCo : (T kf).1 = own) (hfin : (T kf).2.2.2 = true) (hty1 : ty0 kf = ty) (hn : narrow ty v = v) (hfit : fits ty v = true) (hlen : kf < fs.length) (hw : ws.set q0 (b, .inr (ci, fs.set kf v)) = ws1) (hd : decode cc pc = .ok (.putfield idx, 3))
    (kk : vV x k n ws1 lv (pc + 3) st) : vV x k n ws lv pc (v :: .ref b :: st) := by
  subst hw
  obtain ⟨p, l, e, R, s, m, args, below, meth, c, Q, D, A, nL⟩ := x
  obtain ⟨rfl, rfl, rfl, rfl, hx, hb, hml, hown, hts, hA, hlocks, hret, hE, hZ⟩ := hF
  intro H locs ls hP hD hS hl
  have hap := va_apart2 hts hin ty0 hty hnm hE.1 hc
  obtain ⟨r, h1, cell, q1, q2, q3, q4⟩ := hP q0 _ he
  cases h1.symm.trans hc
  obtain ⟨hSl, hfc, kC, hkC, hkind⟩ := hE.1.1 ci _ hc
  obtain ⟨cf, kf', fi, f, hi, hsl⟩ := hSl kf hk
  have hlay := hts _ (hin _ (u_in_lay hk))
  unfold u_lay at hlay
  have hst := (u_facts hfc hkC (u_lays hts hin hk) hi).1
  have hd9 : parseFieldDescriptor (T kf).2.2.1 = some ty := by rw [hty kf hk, hty1]
  rw [if_pos hfin] at hlay
  have hcf : m.cls = cf := by
    obtain ⟨_, _, c', _, _, _, -, -, hf', -, -, -, hown2, -⟩ := Cond.laysFinal_spec hlay
    have e1 : c' = cf := by have := hi.symm.trans hf'; simp at this; exact this.1.symm
    rw [hCo] at hown2
    rw [← e1]; exact Option.some.inj (hown.symm.trans hown2)
  have h6 := u_fits hfc hkC hkind (Or.inr hlay) hi hd9 hn hfit
  refine W.putFinK hx hb hown (hts _ hq) hi hst hcf hini (by rw [q2]; exact h6) q1 q3 (by rw [hsl]; exact k2_hasslot (q4 kf hk)) rfl rfl hd fun H' e1 e2 e3 => ?_
  rw [hsl] at e1 ⊢
  exact kk H' _ ls (hP.set hD he ⟨_, hc, t_OB.to (V := updV (vp_V fs) kf v) ⟨_, e1, q2, q3, t_set q4 hap hk v⟩ (fun j _ => vp_updV_set hlen v j)⟩ e3) (hD.set he) (hS.put e2 e3 (hD.2 q0 _ he)) hl
theorem nm2X5 : nm2 TX5 4 := by unfold nm2; decide +kernel
theorem nm2X6 : nm2 TX6 4 := by unfold nm2; decide +kernel
theorem nm2X12 : nm2 TX12 6 := by unfold nm2; decide +kernel
