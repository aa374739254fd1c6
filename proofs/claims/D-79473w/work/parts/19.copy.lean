set_option maxRecDepth 100000
theorem ds_X3_init : yX3_init.cls = yX3_init.cls ∧ yX3_init.cls ≠ "java/lang/invoke/MethodHandle" ∧ yX3_init.cls ≠ "java/lang/invoke/VarHandle" ∧ (parseMethodDescriptor yX3_init.desc).map (fun d => d.parameters.length) = some 0 := by decide +kernel
theorem ds_X2_init : yX2_init.cls = yX2_init.cls ∧ yX2_init.cls ≠ "java/lang/invoke/MethodHandle" ∧ yX2_init.cls ≠ "java/lang/invoke/VarHandle" ∧ (parseMethodDescriptor yX2_init.desc).map (fun d => d.parameters.length) = some 0 := by decide +kernel
theorem ds_X3_become : yX3_become.cls = yX3_become.cls ∧ yX3_become.cls ≠ "java/lang/invoke/MethodHandle" ∧ yX3_become.cls ≠ "java/lang/invoke/VarHandle" ∧ (parseMethodDescriptor yX3_become.desc).map (fun d => d.parameters.length) = some 1 := by decide +kernel
theorem ds_X2_become : yX2_become.cls = yX2_become.cls ∧ yX2_become.cls ≠ "java/lang/invoke/MethodHandle" ∧ yX2_become.cls ≠ "java/lang/invoke/VarHandle" ∧ (parseMethodDescriptor yX2_become.desc).map (fun d => d.parameters.length) = some 1 := by decide +kernel
theorem ds_X1_copy : yX1_copy.cls = yX1_copy.cls ∧ yX1_copy.cls ≠ "java/lang/invoke/MethodHandle" ∧ yX1_copy.cls ≠ "java/lang/invoke/VarHandle" ∧ (parseMethodDescriptor yX1_copy.desc).map (fun d => d.parameters.length) = some 1 := by decide +kernel
/-- two numberings that agree in what a Brook's cells hold -/
def bkEq (σ τ : Nat → Nat → Int32) : Prop := (∀ r, r < 6 → ∀ j, j < 6 → σ r j = τ r j) ∧ (∀ j, j < 30 → σ 6 j = τ 6 j) ∧ (∀ r, 30 ≤ r → r < 34 → ∀ j, j < 12 → σ r j = τ r j) ∧ (∀ j, 8 ≤ j → j < 24 → σ 20 j = τ 20 j) ∧ σ 40 4 = τ 40 4
theorem bkEq.rf (σ : Nat → Nat → Int32) : bkEq σ σ := ⟨fun _ _ _ _ => rfl, fun _ _ => rfl, fun _ _ _ _ _ => rfl, fun _ _ _ => rfl, rfl⟩
theorem bkEq.sy {σ τ : Nat → Nat → Int32} (h : bkEq σ τ) : bkEq τ σ := ⟨fun r a j b => (h.1 r a j b).symm, fun j a => (h.2.1 j a).symm, fun r a b j c => (h.2.2.1 r a b j c).symm, fun j a b => (h.2.2.2.1 j a b).symm, h.2.2.2.2.symm⟩
theorem bkEq.tr {σ τ υ : Nat → Nat → Int32} (h : bkEq σ τ) (g : bkEq τ υ) : bkEq σ υ := ⟨fun r a j b => (h.1 r a j b).trans (g.1 r a j b), fun j a => (h.2.1 j a).trans (g.2.1 j a), fun r a b j c => (h.2.2.1 r a b j c).trans (g.2.2.1 r a b j c), fun j a b => (h.2.2.2.1 j a b).trans (g.2.2.2.1 j a b), h.2.2.2.2.trans g.2.2.2.2⟩
theorem arr_ext {c : ClassId} {n : Nat} {f g : Nat → Int32} (h : ∀ j, j < n → f j = g j) : vp_cell c (n, .inl f) = vp_cell c (n, .inl g) := by
  rw [vp_cell_i, vp_cell_i]
  have e : (Array.ofFn (n := n) fun j => Value.int (f j.val)) = Array.ofFn (n := n) fun j => Value.int (g j.val) := by
    congr 1
    funext j
    rw [h j.val j.isLt]
  unfold arrV
  rw [e]
/-- worlds of the same cells -/
def vSame (w w' : va_W) : Prop := w.map Prod.fst = w'.map Prod.fst ∧ ∀ (D : va_G) (H : Heap), va_P D cl0 w H → va_P D cl0 w' H
theorem vSame.cons {q : Nat × va_E} {w w' : va_W} (h : vSame w w') : vSame (q :: w) (q :: w') := by
  refine ⟨by rw [List.map_cons, List.map_cons, h.1], fun D H hP => ?_⟩
  intro j p hp
  cases j with
  | zero => cases hp; exact hP 0 _ rfl
  | succ j => exact h.2 D H (fun i r hr => hP (i + 1) r hr) j p hp
theorem vSame.arr {a : Nat} {c : ClassId} {n : Nat} {f g : Nat → Int32} {w w' : va_W} (e : ∀ j, j < n → f j = g j) (h : vSame w w') : vSame ((a, .inl (c, n, .inl f)) :: w) ((a, .inl (c, n, .inl g)) :: w') := by
  refine ⟨by rw [List.map_cons, List.map_cons, h.1], fun D H hP => ?_⟩
  intro j p hp
  cases j with
  | zero =>
    cases hp
    have h0 := hP 0 _ rfl
    show H[a]? = some (vp_cell c (n, .inl g))
    rw [← arr_ext e]
    exact h0
  | succ j => exact h.2 D H (fun i r hr => hP (i + 1) r hr) j p hp
theorem vSame.app {w w' u : va_W} (h : vSame w w') : vSame (w ++ u) (w' ++ u) := by
  refine ⟨by rw [List.map_append, List.map_append, h.1], fun D H hP => va_P.app (h.2 D H (vP_left hP)) (vP_right hP)⟩
theorem v_same {x : vC} {k n : Nat} {ws ws' : va_W} {lv : List (Nat × Value)} {st : List Value} {pc : Nat} (h : vSame ws ws') (kk : vV x k n ws' lv pc st) : vV x k n ws lv pc st := by
  obtain ⟨p, l, e, R, s, m, args, below, meth, c, Q, D, A, nL⟩ := x
  intro H locs ls hP hD hS hl
  refine kk H locs ls (h.2 D H hP) ?_ hS hl
  rw [vD_iff] at hD ⊢
  refine ⟨h.1 ▸ hD.1, fun q hq => ?_⟩
  have hm : q.1 ∈ ws.map Prod.fst := by rw [h.1]; exact List.mem_map.mpr ⟨q, hq, rfl⟩
  obtain ⟨q2, hq2, e2⟩ := List.mem_map.mp hm
  rw [← e2]
  exact hD.2 q2 hq2
theorem bk_same (D : va_G) (a : Nat → Nat) {σ τ : Nat → Nat → Int32} (h : bkEq σ τ) : vSame (bkW D a σ) (bkW D a τ) := by
  obtain ⟨h1, h2, h3, h4, h5⟩ := h
  have e0 : bkFB a σ = bkFB a τ := by
    unfold bkFB
    rw [h4 8 (by decide) (by decide), h4 9 (by decide) (by decide), h4 10 (by decide) (by decide), h4 11 (by decide) (by decide), h4 12 (by decide) (by decide), h4 13 (by decide) (by decide), h4 14 (by decide) (by decide), h4 15 (by decide) (by decide), h4 16 (by decide) (by decide), h4 17 (by decide) (by decide), h4 18 (by decide) (by decide), h4 19 (by decide) (by decide), h4 20 (by decide) (by decide), h4 21 (by decide) (by decide), h4 22 (by decide) (by decide), h4 23 (by decide) (by decide)]
  have e1 : bkFK a σ = bkFK a τ := by
    unfold bkFK
    rw [h5]
  unfold bkW
  rw [e0, e1]
  exact (vSame.arr (h1 0 (by decide)) (vSame.arr (h1 1 (by decide)) (vSame.arr (h1 2 (by decide)) (vSame.arr (h1 3 (by decide)) (vSame.arr (h1 4 (by decide)) (vSame.arr (h1 5 (by decide)) (vSame.arr h2 (vSame.cons (vSame.arr (h3 30 (by decide) (by decide)) (vSame.arr (h3 31 (by decide) (by decide)) (vSame.arr (h3 32 (by decide) (by decide)) (vSame.arr (h3 33 (by decide) (by decide)) ⟨rfl, fun D H h => h⟩)))))))))))).cons
/-- a new Clutches at q, its arrays at a 0 .. a 3 -/
def k0W (D : va_G) (q : Nat) (a : Nat → Nat) : va_W := [(q, .inr (7, [.ref (a 0), .ref (a 1), .ref (a 2), .ref (a 3), .int 0])), (a 0, .inl (dI_ D, 12, .inl (fun _ => 0))), (a 1, .inl (dI_ D, 12, .inl (fun _ => 0))), (a 2, .inl (dI_ D, 12, .inl (fun _ => 0))), (a 3, .inl (dI_ D, 12, .inl (fun _ => 0)))]
set_option maxHeartbeats 4000000 in
theorem c_X3_init (l : Launch) (D : va_G) (q : Nat) : Ctv l D yX3_init cX3_init 1 (rmk 1 4 48 64) [.ref q] [(q, .inr (7, [.null, .null, .null, .null, .int 0]))] (k0W D q) (fun _ => True) 4 48 := by
  refine Ctv.ofI rfl (by decide) (Nat.le_of_ble_eq_true rfl) (fun x hF hR hI => ?_)
  replace hF : vF x l D "BrookWeirs$Clutches" cX3_init (rmk 1 4 48 64) 1 none := hF
  refine v_aload_n 0 hF dX3_init_0 rfl 0 rfl ?_
  refine v_objInit 1 hF q134 q121 q122 dX3_init_1 (Nat.le_of_ble_eq_true rfl) (Nat.le_of_ble_eq_true rfl) ?_
  refine v_aload_n 4 hF dX3_init_4 rfl 0 rfl ?_
  refine v_bipush (v := 12) 5 hF dX3_init_5 (by decide) ?_
  refine v_newai (N := 12) 7 hF q164 (by decide) (by decide) (Nat.le_of_ble_eq_true rfl) ⟨Nat.le_of_ble_eq_true rfl, Nat.le_of_ble_eq_true rfl⟩ dX3_init_7 (fun q1 => ?_)
  refine v_putF ([(q, .inr (7, [.ref q1, .null, .null, .null, .int 0]))] ++ [(q1, .inl (dI_ D, 12, .inl (fun _ => 0)))]) 9 hF hI in_X3 tyX3_ok nmX3 0 rfl rfl 0 (Nat.le_of_ble_eq_true rfl) q135 rfl rfl rfl rfl rfl rfl (Nat.le_of_ble_eq_true rfl) rfl dX3_init_9 ?_
  refine v_aload_n 12 hF dX3_init_12 rfl 0 rfl ?_
  refine v_bipush (v := 12) 13 hF dX3_init_13 (by decide) ?_
  refine v_newai (N := 12) 15 hF q164 (by decide) (by decide) (Nat.le_of_ble_eq_true rfl) ⟨Nat.le_of_ble_eq_true rfl, Nat.le_of_ble_eq_true rfl⟩ dX3_init_15 (fun q2 => ?_)
  refine v_putF ([(q, .inr (7, [.ref q1, .ref q2, .null, .null, .int 0]))] ++ [(q1, .inl (dI_ D, 12, .inl (fun _ => 0)))] ++ [(q2, .inl (dI_ D, 12, .inl (fun _ => 0)))]) 17 hF hI in_X3 tyX3_ok nmX3 0 rfl rfl 1 (Nat.le_of_ble_eq_true rfl) q139 rfl rfl rfl rfl rfl rfl (Nat.le_of_ble_eq_true rfl) rfl dX3_init_17 ?_
  refine v_aload_n 20 hF dX3_init_20 rfl 0 rfl ?_
  refine v_bipush (v := 12) 21 hF dX3_init_21 (by decide) ?_
  refine v_newai (N := 12) 23 hF q164 (by decide) (by decide) (Nat.le_of_ble_eq_true rfl) ⟨Nat.le_of_ble_eq_true rfl, Nat.le_of_ble_eq_true rfl⟩ dX3_init_23 (fun q3 => ?_)
  refine v_putF ([(q, .inr (7, [.ref q1, .ref q2, .ref q3, .null, .int 0]))] ++ [(q1, .inl (dI_ D, 12, .inl (fun _ => 0)))] ++ [(q2, .inl (dI_ D, 12, .inl (fun _ => 0)))] ++ [(q3, .inl (dI_ D, 12, .inl (fun _ => 0)))]) 25 hF hI in_X3 tyX3_ok nmX3 0 rfl rfl 2 (Nat.le_of_ble_eq_true rfl) q143 rfl rfl rfl rfl rfl rfl (Nat.le_of_ble_eq_true rfl) rfl dX3_init_25 ?_
  refine v_aload_n 28 hF dX3_init_28 rfl 0 rfl ?_
  refine v_bipush (v := 12) 29 hF dX3_init_29 (by decide) ?_
  refine v_newai (N := 12) 31 hF q164 (by decide) (by decide) (Nat.le_of_ble_eq_true rfl) ⟨Nat.le_of_ble_eq_true rfl, Nat.le_of_ble_eq_true rfl⟩ dX3_init_31 (fun q4 => ?_)
  refine v_putF ([(q, .inr (7, [.ref q1, .ref q2, .ref q3, .ref q4, .int 0]))] ++ [(q1, .inl (dI_ D, 12, .inl (fun _ => 0)))] ++ [(q2, .inl (dI_ D, 12, .inl (fun _ => 0)))] ++ [(q3, .inl (dI_ D, 12, .inl (fun _ => 0)))] ++ [(q4, .inl (dI_ D, 12, .inl (fun _ => 0)))]) 33 hF hI in_X3 tyX3_ok nmX3 0 rfl rfl 3 (Nat.le_of_ble_eq_true rfl) q146 rfl rfl rfl rfl rfl rfl (Nat.le_of_ble_eq_true rfl) rfl dX3_init_33 ?_
  exact v_vret (w1 := k0W D q) (u := fun j => [q1, q2, q3, q4].getD j 0) 36 hF hR (Nat.le_of_ble_eq_true rfl) (Nat.le_of_ble_eq_true rfl) dX3_init_36 trivial
/-- a new Brook at q -/
def bkA (q : Nat) (a : Nat → Nat) : Nat → Nat := fun j => match j with
  | 0 => q
  | j + 1 => a j
def b0W (D : va_G) (q : Nat) (a : Nat → Nat) : va_W := bkW D (bkA q a) (fun _ _ => 0)
set_option maxHeartbeats 4000000 in
theorem c_X2_init (l : Launch) (D : va_G) (q : Nat) : Ctv l D yX2_init cX2_init 1 (rmk 2 12 119 84) [.ref q] [(q, .inr (6, [.null, .null, .null, .null, .null, .null, .null, .null, .int 0, .int 0, .int 0, .int 0, .int 0, .int 0, .int 0, .int 0, .int 0, .int 0, .int 0, .int 0, .int 0, .int 0, .int 0, .int 0]))] (b0W D q) (fun _ => True) 12 119 := by
  refine Ctv.ofI rfl (by decide) (Nat.le_of_ble_eq_true rfl) (fun x hF hR hI => ?_)
  replace hF : vF x l D "BrookWeirs$Brook" cX2_init (rmk 2 12 119 84) 1 none := hF
  refine v_aload_n 0 hF dX2_init_0 rfl 0 rfl ?_
  refine v_objInit 1 hF q128 q121 q122 dX2_init_1 (Nat.le_of_ble_eq_true rfl) (Nat.le_of_ble_eq_true rfl) ?_
  refine v_aload_n 4 hF dX2_init_4 rfl 0 rfl ?_
  refine v_bipush (v := 6) 5 hF dX2_init_5 (by decide) ?_
  refine v_newai (N := 6) 7 hF q164 (by decide) (by decide) (Nat.le_of_ble_eq_true rfl) ⟨Nat.le_of_ble_eq_true rfl, Nat.le_of_ble_eq_true rfl⟩ dX2_init_7 (fun q1 => ?_)
  refine v_putF ([(q, .inr (6, [.ref q1, .null, .null, .null, .null, .null, .null, .null, .int 0, .int 0, .int 0, .int 0, .int 0, .int 0, .int 0, .int 0, .int 0, .int 0, .int 0, .int 0, .int 0, .int 0, .int 0, .int 0]))] ++ [(q1, .inl (dI_ D, 6, .inl (fun _ => 0)))]) 9 hF hI in_X2 tyX2_ok nmX2 0 rfl rfl 0 (Nat.le_of_ble_eq_true rfl) q165 rfl rfl rfl rfl rfl rfl (Nat.le_of_ble_eq_true rfl) rfl dX2_init_9 ?_
  refine v_aload_n 12 hF dX2_init_12 rfl 0 rfl ?_
  refine v_bipush (v := 6) 13 hF dX2_init_13 (by decide) ?_
  refine v_newai (N := 6) 15 hF q164 (by decide) (by decide) (Nat.le_of_ble_eq_true rfl) ⟨Nat.le_of_ble_eq_true rfl, Nat.le_of_ble_eq_true rfl⟩ dX2_init_15 (fun q2 => ?_)
  refine v_putF ([(q, .inr (6, [.ref q1, .ref q2, .null, .null, .null, .null, .null, .null, .int 0, .int 0, .int 0, .int 0, .int 0, .int 0, .int 0, .int 0, .int 0, .int 0, .int 0, .int 0, .int 0, .int 0, .int 0, .int 0]))] ++ [(q1, .inl (dI_ D, 6, .inl (fun _ => 0)))] ++ [(q2, .inl (dI_ D, 6, .inl (fun _ => 0)))]) 17 hF hI in_X2 tyX2_ok nmX2 0 rfl rfl 1 (Nat.le_of_ble_eq_true rfl) q167 rfl rfl rfl rfl rfl rfl (Nat.le_of_ble_eq_true rfl) rfl dX2_init_17 ?_
  refine v_aload_n 20 hF dX2_init_20 rfl 0 rfl ?_
  refine v_bipush (v := 6) 21 hF dX2_init_21 (by decide) ?_
  refine v_newai (N := 6) 23 hF q164 (by decide) (by decide) (Nat.le_of_ble_eq_true rfl) ⟨Nat.le_of_ble_eq_true rfl, Nat.le_of_ble_eq_true rfl⟩ dX2_init_23 (fun q3 => ?_)
  refine v_putF ([(q, .inr (6, [.ref q1, .ref q2, .ref q3, .null, .null, .null, .null, .null, .int 0, .int 0, .int 0, .int 0, .int 0, .int 0, .int 0, .int 0, .int 0, .int 0, .int 0, .int 0, .int 0, .int 0, .int 0, .int 0]))] ++ [(q1, .inl (dI_ D, 6, .inl (fun _ => 0)))] ++ [(q2, .inl (dI_ D, 6, .inl (fun _ => 0)))] ++ [(q3, .inl (dI_ D, 6, .inl (fun _ => 0)))]) 25 hF hI in_X2 tyX2_ok nmX2 0 rfl rfl 2 (Nat.le_of_ble_eq_true rfl) q169 rfl rfl rfl rfl rfl rfl (Nat.le_of_ble_eq_true rfl) rfl dX2_init_25 ?_
  refine v_aload_n 28 hF dX2_init_28 rfl 0 rfl ?_
  refine v_bipush (v := 6) 29 hF dX2_init_29 (by decide) ?_
  refine v_newai (N := 6) 31 hF q164 (by decide) (by decide) (Nat.le_of_ble_eq_true rfl) ⟨Nat.le_of_ble_eq_true rfl, Nat.le_of_ble_eq_true rfl⟩ dX2_init_31 (fun q4 => ?_)
  refine v_putF ([(q, .inr (6, [.ref q1, .ref q2, .ref q3, .ref q4, .null, .null, .null, .null, .int 0, .int 0, .int 0, .int 0, .int 0, .int 0, .int 0, .int 0, .int 0, .int 0, .int 0, .int 0, .int 0, .int 0, .int 0, .int 0]))] ++ [(q1, .inl (dI_ D, 6, .inl (fun _ => 0)))] ++ [(q2, .inl (dI_ D, 6, .inl (fun _ => 0)))] ++ [(q3, .inl (dI_ D, 6, .inl (fun _ => 0)))] ++ [(q4, .inl (dI_ D, 6, .inl (fun _ => 0)))]) 33 hF hI in_X2 tyX2_ok nmX2 0 rfl rfl 3 (Nat.le_of_ble_eq_true rfl) q171 rfl rfl rfl rfl rfl rfl (Nat.le_of_ble_eq_true rfl) rfl dX2_init_33 ?_
  refine v_aload_n 36 hF dX2_init_36 rfl 0 rfl ?_
  refine v_bipush (v := 6) 37 hF dX2_init_37 (by decide) ?_
  refine v_newai (N := 6) 39 hF q164 (by decide) (by decide) (Nat.le_of_ble_eq_true rfl) ⟨Nat.le_of_ble_eq_true rfl, Nat.le_of_ble_eq_true rfl⟩ dX2_init_39 (fun q5 => ?_)
  refine v_putF ([(q, .inr (6, [.ref q1, .ref q2, .ref q3, .ref q4, .ref q5, .null, .null, .null, .int 0, .int 0, .int 0, .int 0, .int 0, .int 0, .int 0, .int 0, .int 0, .int 0, .int 0, .int 0, .int 0, .int 0, .int 0, .int 0]))] ++ [(q1, .inl (dI_ D, 6, .inl (fun _ => 0)))] ++ [(q2, .inl (dI_ D, 6, .inl (fun _ => 0)))] ++ [(q3, .inl (dI_ D, 6, .inl (fun _ => 0)))] ++ [(q4, .inl (dI_ D, 6, .inl (fun _ => 0)))] ++ [(q5, .inl (dI_ D, 6, .inl (fun _ => 0)))]) 41 hF hI in_X2 tyX2_ok nmX2 0 rfl rfl 4 (Nat.le_of_ble_eq_true rfl) q173 rfl rfl rfl rfl rfl rfl (Nat.le_of_ble_eq_true rfl) rfl dX2_init_41 ?_
  refine v_aload_n 44 hF dX2_init_44 rfl 0 rfl ?_
  refine v_bipush (v := 6) 45 hF dX2_init_45 (by decide) ?_
  refine v_newai (N := 6) 47 hF q164 (by decide) (by decide) (Nat.le_of_ble_eq_true rfl) ⟨Nat.le_of_ble_eq_true rfl, Nat.le_of_ble_eq_true rfl⟩ dX2_init_47 (fun q6 => ?_)
  refine v_putF ([(q, .inr (6, [.ref q1, .ref q2, .ref q3, .ref q4, .ref q5, .ref q6, .null, .null, .int 0, .int 0, .int 0, .int 0, .int 0, .int 0, .int 0, .int 0, .int 0, .int 0, .int 0, .int 0, .int 0, .int 0, .int 0, .int 0]))] ++ [(q1, .inl (dI_ D, 6, .inl (fun _ => 0)))] ++ [(q2, .inl (dI_ D, 6, .inl (fun _ => 0)))] ++ [(q3, .inl (dI_ D, 6, .inl (fun _ => 0)))] ++ [(q4, .inl (dI_ D, 6, .inl (fun _ => 0)))] ++ [(q5, .inl (dI_ D, 6, .inl (fun _ => 0)))] ++ [(q6, .inl (dI_ D, 6, .inl (fun _ => 0)))]) 49 hF hI in_X2 tyX2_ok nmX2 0 rfl rfl 5 (Nat.le_of_ble_eq_true rfl) q175 rfl rfl rfl rfl rfl rfl (Nat.le_of_ble_eq_true rfl) rfl dX2_init_49 ?_
  refine v_aload_n 52 hF dX2_init_52 rfl 0 rfl ?_
  refine v_bipush (v := 30) 53 hF dX2_init_53 (by decide) ?_
  refine v_newai (N := 30) 55 hF q164 (by decide) (by decide) (Nat.le_of_ble_eq_true rfl) ⟨Nat.le_of_ble_eq_true rfl, Nat.le_of_ble_eq_true rfl⟩ dX2_init_55 (fun q7 => ?_)
  refine v_putF ([(q, .inr (6, [.ref q1, .ref q2, .ref q3, .ref q4, .ref q5, .ref q6, .ref q7, .null, .int 0, .int 0, .int 0, .int 0, .int 0, .int 0, .int 0, .int 0, .int 0, .int 0, .int 0, .int 0, .int 0, .int 0, .int 0, .int 0]))] ++ [(q1, .inl (dI_ D, 6, .inl (fun _ => 0)))] ++ [(q2, .inl (dI_ D, 6, .inl (fun _ => 0)))] ++ [(q3, .inl (dI_ D, 6, .inl (fun _ => 0)))] ++ [(q4, .inl (dI_ D, 6, .inl (fun _ => 0)))] ++ [(q5, .inl (dI_ D, 6, .inl (fun _ => 0)))] ++ [(q6, .inl (dI_ D, 6, .inl (fun _ => 0)))] ++ [(q7, .inl (dI_ D, 30, .inl (fun _ => 0)))]) 57 hF hI in_X2 tyX2_ok nmX2 0 rfl rfl 6 (Nat.le_of_ble_eq_true rfl) q178 rfl rfl rfl rfl rfl rfl (Nat.le_of_ble_eq_true rfl) rfl dX2_init_57 ?_
  refine v_aload_n 60 hF dX2_init_60 rfl 0 rfl ?_
  refine v_new [.null, .null, .null, .null, .int 0] 61 hF in_X3 tyX3_ok q129 q130 q72 (ci := 7) rfl (fun j hj => by rcases (show j = 0 ∨ j = 1 ∨ j = 2 ∨ j = 3 ∨ j = 4 by omega) with rfl | rfl | rfl | rfl | rfl <;> rfl) ⟨Nat.le_of_ble_eq_true rfl, Nat.le_of_ble_eq_true rfl⟩ dX2_init_61 (fun q8 => ?_)
  refine v_dup 64 hF dX2_init_64 rfl ?_
  refine v_callINv (As := []) (wr := ([(q, .inr (6, [.ref q1, .ref q2, .ref q3, .ref q4, .ref q5, .ref q6, .ref q7, .null, .int 0, .int 0, .int 0, .int 0, .int 0, .int 0, .int 0, .int 0, .int 0, .int 0, .int 0, .int 0, .int 0, .int 0, .int 0, .int 0]))] ++ [(q1, .inl (dI_ D, 6, .inl (fun _ => 0)))] ++ [(q2, .inl (dI_ D, 6, .inl (fun _ => 0)))] ++ [(q3, .inl (dI_ D, 6, .inl (fun _ => 0)))] ++ [(q4, .inl (dI_ D, 6, .inl (fun _ => 0)))] ++ [(q5, .inl (dI_ D, 6, .inl (fun _ => 0)))] ++ [(q6, .inl (dI_ D, 6, .inl (fun _ => 0)))] ++ [(q7, .inl (dI_ D, 30, .inl (fun _ => 0)))])) 65 hF (c_X3_init l D q8) List.perm_append_comm rfl q131 q132 q72 q133 ds_X3_init ⟨rfl, rfl, Nat.le_of_ble_eq_true rfl, Nat.le_of_ble_eq_true rfl⟩ (Nat.le_of_ble_eq_true rfl) ⟨Nat.le_of_ble_eq_true rfl, Nat.le_of_ble_eq_true rfl⟩ dX2_init_65 (fun kq _ => ?_)
  refine v_putF ([(q8, .inr (7, [.ref (kq 0), .ref (kq 1), .ref (kq 2), .ref (kq 3), .int 0])), (kq 0, .inl (dI_ D, 12, .inl (fun _ => 0))), (kq 1, .inl (dI_ D, 12, .inl (fun _ => 0))), (kq 2, .inl (dI_ D, 12, .inl (fun _ => 0))), (kq 3, .inl (dI_ D, 12, .inl (fun _ => 0)))] ++ [(q, .inr (6, [.ref q1, .ref q2, .ref q3, .ref q4, .ref q5, .ref q6, .ref q7, .ref q8, .int 0, .int 0, .int 0, .int 0, .int 0, .int 0, .int 0, .int 0, .int 0, .int 0, .int 0, .int 0, .int 0, .int 0, .int 0, .int 0]))] ++ [(q1, .inl (dI_ D, 6, .inl (fun _ => 0)))] ++ [(q2, .inl (dI_ D, 6, .inl (fun _ => 0)))] ++ [(q3, .inl (dI_ D, 6, .inl (fun _ => 0)))] ++ [(q4, .inl (dI_ D, 6, .inl (fun _ => 0)))] ++ [(q5, .inl (dI_ D, 6, .inl (fun _ => 0)))] ++ [(q6, .inl (dI_ D, 6, .inl (fun _ => 0)))] ++ [(q7, .inl (dI_ D, 30, .inl (fun _ => 0)))]) 68 hF hI in_X2 tyX2_ok nmX2 5 rfl rfl 7 (Nat.le_of_ble_eq_true rfl) q180 rfl rfl rfl rfl rfl rfl (Nat.le_of_ble_eq_true rfl) rfl dX2_init_68 ?_
  refine v_perm (ws' := b0W D q (fun j => [q1, q2, q3, q4, q5, q6, q7, q8, kq 0, kq 1, kq 2, kq 3].getD j 0)) ?_ ?_
  · exact List.perm_append_comm (l₁ := k0W D q8 kq)
  · exact v_vret 71 hF hR (Nat.le_of_ble_eq_true rfl) (Nat.le_of_ble_eq_true rfl) dX2_init_71 trivial
/-- the clutches are the other's, all else stays -/
def bcK (σ τ υ : Nat → Nat → Int32) : Prop := (∀ r, r < 30 → υ r = σ r) ∧ (∀ r, 30 ≤ r → r < 34 → ∀ j, j < 12 → υ r j = τ r j) ∧ υ 40 4 = τ 40 4
theorem va_cpy0 {f g : Nat → Int32} {n j : Nat} (h : j < n) : va_cpy f g 0 0 n j = f j := by
  unfold va_cpy
  rw [if_pos ⟨Nat.zero_le _, by omega⟩]
  congr 1
  omega
theorem upR_ne {f : Nat → Nat → Int32} {r i : Nat} {g : Nat → Int32} (h : i ≠ r) : upR f r g i = f i := by
  unfold upR
  rw [show Nat.beq i r = false from Bool.eq_false_iff.mpr fun e => h (Nat.eq_of_beq_eq_true e)]
  rfl
theorem upR_eq {f : Nat → Nat → Int32} {r : Nat} {g : Nat → Int32} : upR f r g r = g := by
  unfold upR
  rw [show Nat.beq r r = true from Nat.beq_refl r]
  rfl
theorem bc_X3 (σ τ : Nat → Nat → Int32) : bcK σ τ (upN (upR (upR (upR (upR σ 30 (va_cpy (τ 30) (σ 30) 0 0 12)) 31 (va_cpy (τ 31) (σ 31) 0 0 12)) 32 (va_cpy (τ 32) (σ 32) 0 0 12)) 33 (va_cpy (τ 33) (σ 33) 0 0 12)) 40 4 (τ 40 4)) := by
  refine ⟨fun r h => ?_, fun r h1 h2 j hj => ?_, rfl⟩
  · unfold upN
    rw [upR_ne (by omega), upR_ne (by omega), upR_ne (by omega), upR_ne (by omega), upR_ne (by omega)]
  · rcases (show r = 30 ∨ r = 31 ∨ r = 32 ∨ r = 33 by omega) with rfl | rfl | rfl | rfl
    · exact va_cpy0 hj
    · exact va_cpy0 hj
    · exact va_cpy0 hj
    · exact va_cpy0 hj
set_option maxHeartbeats 4000000 in
theorem c_X3_become (l : Launch) (D : va_G) (a b : Nat → Nat) (σ τ : Nat → Nat → Int32) : Ctv l D yX3_become cX3_become 2 (rmk 1 0 0 64) [.ref (a 8), .ref (b 8)] (bkW D a σ ++ bkW D b τ) (fun u => bkW D a u ++ bkW D b τ) (bcK σ τ) 0 0 := by
  refine Ctv.of (by decide) (Nat.le_of_ble_eq_true rfl) (fun x hF hR => ?_)
  replace hF : vF x l D "BrookWeirs$Clutches" cX3_become (rmk 1 0 0 64) 2 none := hF
  refine v_aload_n 0 hF dX3_become_0 rfl 1 rfl ?_
  refine v_get 1 hF in_X3 21 rfl rfl 0 (Nat.le_of_ble_eq_true rfl) q135 rfl rfl dX3_become_1 ?_
  refine v_iconst (v := 0) 4 hF dX3_become_4 (by decide) ?_
  refine v_aload_n 5 hF dX3_become_5 rfl 0 rfl ?_
  refine v_get 6 hF in_X3 8 rfl rfl 0 (Nat.le_of_ble_eq_true rfl) q135 rfl rfl dX3_become_6 ?_
  refine v_iconst (v := 0) 9 hF dX3_become_9 (by decide) ?_
  refine v_bipush (v := 12) 10 hF dX3_become_10 (by decide) ?_
  obtain ⟨s1, es1⟩ : ∃ z : Nat → Nat → Int32, z = upR σ 30 (va_cpy (τ 30) (σ 30) (Int32.toNatClampNeg (0 : Int32)) (Int32.toNatClampNeg (0 : Int32)) (Int32.toNatClampNeg (12 : Int32))) := ⟨_, rfl⟩
  refine v_copyi (bkW D a s1 ++ bkW D b τ) 12 hF q499 q_native q_static q_inisys 22 9 rfl rfl (by decide) (by decide) (by decide) (by decide) (by decide) (Nat.le_of_ble_eq_true rfl) (Nat.le_of_ble_eq_true rfl) (by rw [es1]; rfl) dX3_become_12 ?_
  refine v_aload_n 15 hF dX3_become_15 rfl 1 rfl ?_
  refine v_get 16 hF in_X3 21 rfl rfl 1 (Nat.le_of_ble_eq_true rfl) q139 rfl rfl dX3_become_16 ?_
  refine v_iconst (v := 0) 19 hF dX3_become_19 (by decide) ?_
  refine v_aload_n 20 hF dX3_become_20 rfl 0 rfl ?_
  refine v_get 21 hF in_X3 8 rfl rfl 1 (Nat.le_of_ble_eq_true rfl) q139 rfl rfl dX3_become_21 ?_
  refine v_iconst (v := 0) 24 hF dX3_become_24 (by decide) ?_
  refine v_bipush (v := 12) 25 hF dX3_become_25 (by decide) ?_
  obtain ⟨s2, es2⟩ : ∃ z : Nat → Nat → Int32, z = upR s1 31 (va_cpy (τ 31) (s1 31) (Int32.toNatClampNeg (0 : Int32)) (Int32.toNatClampNeg (0 : Int32)) (Int32.toNatClampNeg (12 : Int32))) := ⟨_, rfl⟩
  refine v_copyi (bkW D a s2 ++ bkW D b τ) 27 hF q499 q_native q_static q_inisys 23 10 rfl rfl (by decide) (by decide) (by decide) (by decide) (by decide) (Nat.le_of_ble_eq_true rfl) (Nat.le_of_ble_eq_true rfl) (by rw [es2]; rfl) dX3_become_27 ?_
  refine v_aload_n 30 hF dX3_become_30 rfl 1 rfl ?_
  refine v_get 31 hF in_X3 21 rfl rfl 2 (Nat.le_of_ble_eq_true rfl) q143 rfl rfl dX3_become_31 ?_
  refine v_iconst (v := 0) 34 hF dX3_become_34 (by decide) ?_
  refine v_aload_n 35 hF dX3_become_35 rfl 0 rfl ?_
  refine v_get 36 hF in_X3 8 rfl rfl 2 (Nat.le_of_ble_eq_true rfl) q143 rfl rfl dX3_become_36 ?_
  refine v_iconst (v := 0) 39 hF dX3_become_39 (by decide) ?_
  refine v_bipush (v := 12) 40 hF dX3_become_40 (by decide) ?_
  obtain ⟨s3, es3⟩ : ∃ z : Nat → Nat → Int32, z = upR s2 32 (va_cpy (τ 32) (s2 32) (Int32.toNatClampNeg (0 : Int32)) (Int32.toNatClampNeg (0 : Int32)) (Int32.toNatClampNeg (12 : Int32))) := ⟨_, rfl⟩
  refine v_copyi (bkW D a s3 ++ bkW D b τ) 42 hF q499 q_native q_static q_inisys 24 11 rfl rfl (by decide) (by decide) (by decide) (by decide) (by decide) (Nat.le_of_ble_eq_true rfl) (Nat.le_of_ble_eq_true rfl) (by rw [es3]; rfl) dX3_become_42 ?_
  refine v_aload_n 45 hF dX3_become_45 rfl 1 rfl ?_
  refine v_get 46 hF in_X3 21 rfl rfl 3 (Nat.le_of_ble_eq_true rfl) q146 rfl rfl dX3_become_46 ?_
  refine v_iconst (v := 0) 49 hF dX3_become_49 (by decide) ?_
  refine v_aload_n 50 hF dX3_become_50 rfl 0 rfl ?_
  refine v_get 51 hF in_X3 8 rfl rfl 3 (Nat.le_of_ble_eq_true rfl) q146 rfl rfl dX3_become_51 ?_
  refine v_iconst (v := 0) 54 hF dX3_become_54 (by decide) ?_
  refine v_bipush (v := 12) 55 hF dX3_become_55 (by decide) ?_
  obtain ⟨s4, es4⟩ : ∃ z : Nat → Nat → Int32, z = upR s3 33 (va_cpy (τ 33) (s3 33) (Int32.toNatClampNeg (0 : Int32)) (Int32.toNatClampNeg (0 : Int32)) (Int32.toNatClampNeg (12 : Int32))) := ⟨_, rfl⟩
  refine v_copyi (bkW D a s4 ++ bkW D b τ) 57 hF q499 q_native q_static q_inisys 25 12 rfl rfl (by decide) (by decide) (by decide) (by decide) (by decide) (Nat.le_of_ble_eq_true rfl) (Nat.le_of_ble_eq_true rfl) (by rw [es4]; rfl) dX3_become_57 ?_
  refine v_aload_n 60 hF dX3_become_60 rfl 0 rfl ?_
  refine v_aload_n 61 hF dX3_become_61 rfl 1 rfl ?_
  refine v_get 62 hF in_X3 21 rfl rfl 4 (Nat.le_of_ble_eq_true rfl) q150 rfl rfl dX3_become_62 ?_
  obtain ⟨s5, es5⟩ : ∃ z : Nat → Nat → Int32, z = (upN s4 40 4 (τ 40 4)) := ⟨_, rfl⟩
  refine v_put (bkW D a s5 ++ bkW D b τ) 65 hF in_X3 tyX3_ok nmX3 8 rfl rfl 4 (Nat.le_of_ble_eq_true rfl) q150 rfl rfl rfl rfl rfl (Nat.le_of_ble_eq_true rfl) (by rw [es5]; rfl) dX3_become_65 ?_
  refine v_vret (w1 := fun u => bkW D a u ++ bkW D b τ) (u := s5) 68 hF hR (Nat.zero_le _) (Nat.zero_le _) dX3_become_68 ?_
  subst es1 es2 es3 es4 es5
  exact bc_X3 σ τ
theorem upN_ne {f : Nat → Nat → Int32} {r i k : Nat} {v : Int32} (h : i ≠ r) : upN f r k v i = f i := upR_ne h
theorem bc_X2 (σ τ υ : Nat → Nat → Int32) (h : bcK (upR (upR (upR (upR (upR (upR (upR σ 0 (va_cpy (τ 0) (σ 0) 0 0 6)) 1 (va_cpy (τ 1) (σ 1) 0 0 6)) 2 (va_cpy (τ 2) (σ 2) 0 0 6)) 3 (va_cpy (τ 3) (σ 3) 0 0 6)) 4 (va_cpy (τ 4) (σ 4) 0 0 6)) 5 (va_cpy (τ 5) (σ 5) 0 0 6)) 6 (va_cpy (τ 6) (σ 6) 0 0 30)) τ υ) : bkEq (upN (upN (upN (upN (upN (upN (upN (upN (upN (upN (upN (upN (upN (upN (upN (upN υ 20 8 (τ 20 8)) 20 9 (τ 20 9)) 20 10 (τ 20 10)) 20 11 (τ 20 11)) 20 12 (τ 20 12)) 20 13 (τ 20 13)) 20 14 (τ 20 14)) 20 15 (τ 20 15)) 20 16 (τ 20 16)) 20 17 (τ 20 17)) 20 18 (τ 20 18)) 20 19 (τ 20 19)) 20 20 (τ 20 20)) 20 21 (τ 20 21)) 20 22 (τ 20 22)) 20 23 (τ 20 23)) τ := by
  obtain ⟨h1, h2, h3⟩ := h
  refine ⟨fun r hr j hj => ?_, fun j hj => ?_, fun r g1 g2 j hj => ?_, fun j g1 g2 => ?_, ?_⟩
  · rw [upN_ne (by omega), upN_ne (by omega), upN_ne (by omega), upN_ne (by omega), upN_ne (by omega), upN_ne (by omega), upN_ne (by omega), upN_ne (by omega), upN_ne (by omega), upN_ne (by omega), upN_ne (by omega), upN_ne (by omega), upN_ne (by omega), upN_ne (by omega), upN_ne (by omega), upN_ne (by omega), h1 r (by omega)]
    rcases (show r = 0 ∨ r = 1 ∨ r = 2 ∨ r = 3 ∨ r = 4 ∨ r = 5 by omega) with rfl | rfl | rfl | rfl | rfl | rfl
    all_goals exact va_cpy0 hj
  · rw [upN_ne (by omega), upN_ne (by omega), upN_ne (by omega), upN_ne (by omega), upN_ne (by omega), upN_ne (by omega), upN_ne (by omega), upN_ne (by omega), upN_ne (by omega), upN_ne (by omega), upN_ne (by omega), upN_ne (by omega), upN_ne (by omega), upN_ne (by omega), upN_ne (by omega), upN_ne (by omega), h1 6 (by omega)]
    exact va_cpy0 hj
  · rw [upN_ne (by omega), upN_ne (by omega), upN_ne (by omega), upN_ne (by omega), upN_ne (by omega), upN_ne (by omega), upN_ne (by omega), upN_ne (by omega), upN_ne (by omega), upN_ne (by omega), upN_ne (by omega), upN_ne (by omega), upN_ne (by omega), upN_ne (by omega), upN_ne (by omega), upN_ne (by omega)]
    exact h2 r g1 g2 j hj
  · rcases (show j = 8 ∨ j = 9 ∨ j = 10 ∨ j = 11 ∨ j = 12 ∨ j = 13 ∨ j = 14 ∨ j = 15 ∨ j = 16 ∨ j = 17 ∨ j = 18 ∨ j = 19 ∨ j = 20 ∨ j = 21 ∨ j = 22 ∨ j = 23 by omega) with rfl | rfl | rfl | rfl | rfl | rfl | rfl | rfl | rfl | rfl | rfl | rfl | rfl | rfl | rfl | rfl
    all_goals rfl
  · exact h3
set_option maxHeartbeats 4000000 in
theorem c_X2_become (l : Launch) (D : va_G) (a b : Nat → Nat) (σ τ : Nat → Nat → Int32) : Ctr l D yX2_become cX2_become 2 (.object "BrookWeirs$Brook") (rmk 2 0 0 85) [.ref (a 0), .ref (b 0)] (bkW D a σ ++ bkW D b τ) (fun _ : Unit => bkW D a τ ++ bkW D b τ) (fun _ => a 0) (fun _ => True) 0 0 := by
  refine Ctr.of (by decide) (Nat.le_of_ble_eq_true rfl) (fun x hF hR => ?_)
  replace hF : vF x l D "BrookWeirs$Brook" cX2_become (rmk 2 0 0 85) 2 (some (.object "BrookWeirs$Brook")) := hF
  refine v_aload_n 0 hF dX2_become_0 rfl 1 rfl ?_
  refine v_get 1 hF in_X2 13 rfl rfl 0 (Nat.le_of_ble_eq_true rfl) q165 rfl rfl dX2_become_1 ?_
  refine v_iconst (v := 0) 4 hF dX2_become_4 (by decide) ?_
  refine v_aload_n 5 hF dX2_become_5 rfl 0 rfl ?_
  refine v_get 6 hF in_X2 0 rfl rfl 0 (Nat.le_of_ble_eq_true rfl) q165 rfl rfl dX2_become_6 ?_
  refine v_iconst (v := 0) 9 hF dX2_become_9 (by decide) ?_
  refine v_bipush (v := 6) 10 hF dX2_become_10 (by decide) ?_
  obtain ⟨s1, es1⟩ : ∃ z : Nat → Nat → Int32, z = upR σ 0 (va_cpy (τ 0) (σ 0) (Int32.toNatClampNeg (0 : Int32)) (Int32.toNatClampNeg (0 : Int32)) (Int32.toNatClampNeg (6 : Int32))) := ⟨_, rfl⟩
  refine v_copyi (bkW D a s1 ++ bkW D b τ) 12 hF q410 q_native q_static q_inisys 14 1 rfl rfl (by decide) (by decide) (by decide) (by decide) (by decide) (Nat.le_of_ble_eq_true rfl) (Nat.le_of_ble_eq_true rfl) (by rw [es1]; rfl) dX2_become_12 ?_
  refine v_aload_n 15 hF dX2_become_15 rfl 1 rfl ?_
  refine v_get 16 hF in_X2 13 rfl rfl 1 (Nat.le_of_ble_eq_true rfl) q167 rfl rfl dX2_become_16 ?_
  refine v_iconst (v := 0) 19 hF dX2_become_19 (by decide) ?_
  refine v_aload_n 20 hF dX2_become_20 rfl 0 rfl ?_
  refine v_get 21 hF in_X2 0 rfl rfl 1 (Nat.le_of_ble_eq_true rfl) q167 rfl rfl dX2_become_21 ?_
  refine v_iconst (v := 0) 24 hF dX2_become_24 (by decide) ?_
  refine v_bipush (v := 6) 25 hF dX2_become_25 (by decide) ?_
  obtain ⟨s2, es2⟩ : ∃ z : Nat → Nat → Int32, z = upR s1 1 (va_cpy (τ 1) (s1 1) (Int32.toNatClampNeg (0 : Int32)) (Int32.toNatClampNeg (0 : Int32)) (Int32.toNatClampNeg (6 : Int32))) := ⟨_, rfl⟩
  refine v_copyi (bkW D a s2 ++ bkW D b τ) 27 hF q410 q_native q_static q_inisys 15 2 rfl rfl (by decide) (by decide) (by decide) (by decide) (by decide) (Nat.le_of_ble_eq_true rfl) (Nat.le_of_ble_eq_true rfl) (by rw [es2]; rfl) dX2_become_27 ?_
  refine v_aload_n 30 hF dX2_become_30 rfl 1 rfl ?_
  refine v_get 31 hF in_X2 13 rfl rfl 2 (Nat.le_of_ble_eq_true rfl) q169 rfl rfl dX2_become_31 ?_
  refine v_iconst (v := 0) 34 hF dX2_become_34 (by decide) ?_
  refine v_aload_n 35 hF dX2_become_35 rfl 0 rfl ?_
  refine v_get 36 hF in_X2 0 rfl rfl 2 (Nat.le_of_ble_eq_true rfl) q169 rfl rfl dX2_become_36 ?_
  refine v_iconst (v := 0) 39 hF dX2_become_39 (by decide) ?_
  refine v_bipush (v := 6) 40 hF dX2_become_40 (by decide) ?_
  obtain ⟨s3, es3⟩ : ∃ z : Nat → Nat → Int32, z = upR s2 2 (va_cpy (τ 2) (s2 2) (Int32.toNatClampNeg (0 : Int32)) (Int32.toNatClampNeg (0 : Int32)) (Int32.toNatClampNeg (6 : Int32))) := ⟨_, rfl⟩
  refine v_copyi (bkW D a s3 ++ bkW D b τ) 42 hF q410 q_native q_static q_inisys 16 3 rfl rfl (by decide) (by decide) (by decide) (by decide) (by decide) (Nat.le_of_ble_eq_true rfl) (Nat.le_of_ble_eq_true rfl) (by rw [es3]; rfl) dX2_become_42 ?_
  refine v_aload_n 45 hF dX2_become_45 rfl 1 rfl ?_
  refine v_get 46 hF in_X2 13 rfl rfl 3 (Nat.le_of_ble_eq_true rfl) q171 rfl rfl dX2_become_46 ?_
  refine v_iconst (v := 0) 49 hF dX2_become_49 (by decide) ?_
  refine v_aload_n 50 hF dX2_become_50 rfl 0 rfl ?_
  refine v_get 51 hF in_X2 0 rfl rfl 3 (Nat.le_of_ble_eq_true rfl) q171 rfl rfl dX2_become_51 ?_
  refine v_iconst (v := 0) 54 hF dX2_become_54 (by decide) ?_
  refine v_bipush (v := 6) 55 hF dX2_become_55 (by decide) ?_
  obtain ⟨s4, es4⟩ : ∃ z : Nat → Nat → Int32, z = upR s3 3 (va_cpy (τ 3) (s3 3) (Int32.toNatClampNeg (0 : Int32)) (Int32.toNatClampNeg (0 : Int32)) (Int32.toNatClampNeg (6 : Int32))) := ⟨_, rfl⟩
  refine v_copyi (bkW D a s4 ++ bkW D b τ) 57 hF q410 q_native q_static q_inisys 17 4 rfl rfl (by decide) (by decide) (by decide) (by decide) (by decide) (Nat.le_of_ble_eq_true rfl) (Nat.le_of_ble_eq_true rfl) (by rw [es4]; rfl) dX2_become_57 ?_
  refine v_aload_n 60 hF dX2_become_60 rfl 1 rfl ?_
  refine v_get 61 hF in_X2 13 rfl rfl 4 (Nat.le_of_ble_eq_true rfl) q173 rfl rfl dX2_become_61 ?_
  refine v_iconst (v := 0) 64 hF dX2_become_64 (by decide) ?_
  refine v_aload_n 65 hF dX2_become_65 rfl 0 rfl ?_
  refine v_get 66 hF in_X2 0 rfl rfl 4 (Nat.le_of_ble_eq_true rfl) q173 rfl rfl dX2_become_66 ?_
  refine v_iconst (v := 0) 69 hF dX2_become_69 (by decide) ?_
  refine v_bipush (v := 6) 70 hF dX2_become_70 (by decide) ?_
  obtain ⟨s5, es5⟩ : ∃ z : Nat → Nat → Int32, z = upR s4 4 (va_cpy (τ 4) (s4 4) (Int32.toNatClampNeg (0 : Int32)) (Int32.toNatClampNeg (0 : Int32)) (Int32.toNatClampNeg (6 : Int32))) := ⟨_, rfl⟩
  refine v_copyi (bkW D a s5 ++ bkW D b τ) 72 hF q410 q_native q_static q_inisys 18 5 rfl rfl (by decide) (by decide) (by decide) (by decide) (by decide) (Nat.le_of_ble_eq_true rfl) (Nat.le_of_ble_eq_true rfl) (by rw [es5]; rfl) dX2_become_72 ?_
  refine v_aload_n 75 hF dX2_become_75 rfl 1 rfl ?_
  refine v_get 76 hF in_X2 13 rfl rfl 5 (Nat.le_of_ble_eq_true rfl) q175 rfl rfl dX2_become_76 ?_
  refine v_iconst (v := 0) 79 hF dX2_become_79 (by decide) ?_
  refine v_aload_n 80 hF dX2_become_80 rfl 0 rfl ?_
  refine v_get 81 hF in_X2 0 rfl rfl 5 (Nat.le_of_ble_eq_true rfl) q175 rfl rfl dX2_become_81 ?_
  refine v_iconst (v := 0) 84 hF dX2_become_84 (by decide) ?_
  refine v_bipush (v := 6) 85 hF dX2_become_85 (by decide) ?_
  obtain ⟨s6, es6⟩ : ∃ z : Nat → Nat → Int32, z = upR s5 5 (va_cpy (τ 5) (s5 5) (Int32.toNatClampNeg (0 : Int32)) (Int32.toNatClampNeg (0 : Int32)) (Int32.toNatClampNeg (6 : Int32))) := ⟨_, rfl⟩
  refine v_copyi (bkW D a s6 ++ bkW D b τ) 87 hF q410 q_native q_static q_inisys 19 6 rfl rfl (by decide) (by decide) (by decide) (by decide) (by decide) (Nat.le_of_ble_eq_true rfl) (Nat.le_of_ble_eq_true rfl) (by rw [es6]; rfl) dX2_become_87 ?_
  refine v_aload_n 90 hF dX2_become_90 rfl 1 rfl ?_
  refine v_get 91 hF in_X2 13 rfl rfl 6 (Nat.le_of_ble_eq_true rfl) q178 rfl rfl dX2_become_91 ?_
  refine v_iconst (v := 0) 94 hF dX2_become_94 (by decide) ?_
  refine v_aload_n 95 hF dX2_become_95 rfl 0 rfl ?_
  refine v_get 96 hF in_X2 0 rfl rfl 6 (Nat.le_of_ble_eq_true rfl) q178 rfl rfl dX2_become_96 ?_
  refine v_iconst (v := 0) 99 hF dX2_become_99 (by decide) ?_
  refine v_bipush (v := 30) 100 hF dX2_become_100 (by decide) ?_
  obtain ⟨s7, es7⟩ : ∃ z : Nat → Nat → Int32, z = upR s6 6 (va_cpy (τ 6) (s6 6) (Int32.toNatClampNeg (0 : Int32)) (Int32.toNatClampNeg (0 : Int32)) (Int32.toNatClampNeg (30 : Int32))) := ⟨_, rfl⟩
  refine v_copyi (bkW D a s7 ++ bkW D b τ) 102 hF q410 q_native q_static q_inisys 20 7 rfl rfl (by decide) (by decide) (by decide) (by decide) (by decide) (Nat.le_of_ble_eq_true rfl) (Nat.le_of_ble_eq_true rfl) (by rw [es7]; rfl) dX2_become_102 ?_
  refine v_aload_n 105 hF dX2_become_105 rfl 0 rfl ?_
  refine v_get 106 hF in_X2 0 rfl rfl 7 (Nat.le_of_ble_eq_true rfl) q180 rfl rfl dX2_become_106 ?_
  refine v_aload_n 109 hF dX2_become_109 rfl 1 rfl ?_
  refine v_get 110 hF in_X2 13 rfl rfl 7 (Nat.le_of_ble_eq_true rfl) q180 rfl rfl dX2_become_110 ?_
  refine v_callVv (As := [.ref (b 8)]) 113 hF (c_X3_become l D a b s7 τ) (v_perm0 _) ⟨8, 7, _, TX3, 5, rfl, rfl⟩ q495 q496 q497 q72 q498 ds_X3_become ⟨rfl, rfl, Nat.le_of_ble_eq_true rfl, Nat.le_of_ble_eq_true rfl⟩ (Nat.le_of_ble_eq_true rfl) ⟨Nat.zero_le _, Nat.zero_le _⟩ dX2_become_113 (fun s8 hs8 => ?_)
  refine v_eqw (ws1 := (bkW D a s8 ++ bkW D b τ)) (List.append_nil _).symm ?_
  refine v_aload_n 116 hF dX2_become_116 rfl 0 rfl ?_
  refine v_aload_n 117 hF dX2_become_117 rfl 1 rfl ?_
  refine v_get 118 hF in_X2 13 rfl rfl 8 (Nat.le_of_ble_eq_true rfl) q183 rfl rfl dX2_become_118 ?_
  obtain ⟨s9, es9⟩ : ∃ z : Nat → Nat → Int32, z = (upN s8 20 8 (τ 20 8)) := ⟨_, rfl⟩
  refine v_put (bkW D a s9 ++ bkW D b τ) 121 hF in_X2 tyX2_ok nmX2 0 rfl rfl 8 (Nat.le_of_ble_eq_true rfl) q183 rfl rfl rfl rfl rfl (Nat.le_of_ble_eq_true rfl) (by rw [es9]; rfl) dX2_become_121 ?_
  refine v_aload_n 124 hF dX2_become_124 rfl 0 rfl ?_
  refine v_aload_n 125 hF dX2_become_125 rfl 1 rfl ?_
  refine v_get 126 hF in_X2 13 rfl rfl 9 (Nat.le_of_ble_eq_true rfl) q186 rfl rfl dX2_become_126 ?_
  obtain ⟨s10, es10⟩ : ∃ z : Nat → Nat → Int32, z = (upN s9 20 9 (τ 20 9)) := ⟨_, rfl⟩
  refine v_put (bkW D a s10 ++ bkW D b τ) 129 hF in_X2 tyX2_ok nmX2 0 rfl rfl 9 (Nat.le_of_ble_eq_true rfl) q186 rfl rfl rfl rfl rfl (Nat.le_of_ble_eq_true rfl) (by rw [es10]; rfl) dX2_become_129 ?_
  refine v_aload_n 132 hF dX2_become_132 rfl 0 rfl ?_
  refine v_aload_n 133 hF dX2_become_133 rfl 1 rfl ?_
  refine v_get 134 hF in_X2 13 rfl rfl 10 (Nat.le_of_ble_eq_true rfl) q189 rfl rfl dX2_become_134 ?_
  obtain ⟨s11, es11⟩ : ∃ z : Nat → Nat → Int32, z = (upN s10 20 10 (τ 20 10)) := ⟨_, rfl⟩
  refine v_put (bkW D a s11 ++ bkW D b τ) 137 hF in_X2 tyX2_ok nmX2 0 rfl rfl 10 (Nat.le_of_ble_eq_true rfl) q189 rfl rfl rfl rfl rfl (Nat.le_of_ble_eq_true rfl) (by rw [es11]; rfl) dX2_become_137 ?_
  refine v_aload_n 140 hF dX2_become_140 rfl 0 rfl ?_
  refine v_aload_n 141 hF dX2_become_141 rfl 1 rfl ?_
  refine v_get 142 hF in_X2 13 rfl rfl 11 (Nat.le_of_ble_eq_true rfl) q192 rfl rfl dX2_become_142 ?_
  obtain ⟨s12, es12⟩ : ∃ z : Nat → Nat → Int32, z = (upN s11 20 11 (τ 20 11)) := ⟨_, rfl⟩
  refine v_put (bkW D a s12 ++ bkW D b τ) 145 hF in_X2 tyX2_ok nmX2 0 rfl rfl 11 (Nat.le_of_ble_eq_true rfl) q192 rfl rfl rfl rfl rfl (Nat.le_of_ble_eq_true rfl) (by rw [es12]; rfl) dX2_become_145 ?_
  refine v_aload_n 148 hF dX2_become_148 rfl 0 rfl ?_
  refine v_aload_n 149 hF dX2_become_149 rfl 1 rfl ?_
  refine v_get 150 hF in_X2 13 rfl rfl 12 (Nat.le_of_ble_eq_true rfl) q194 rfl rfl dX2_become_150 ?_
  obtain ⟨s13, es13⟩ : ∃ z : Nat → Nat → Int32, z = (upN s12 20 12 (τ 20 12)) := ⟨_, rfl⟩
  refine v_put (bkW D a s13 ++ bkW D b τ) 153 hF in_X2 tyX2_ok nmX2 0 rfl rfl 12 (Nat.le_of_ble_eq_true rfl) q194 rfl rfl rfl rfl rfl (Nat.le_of_ble_eq_true rfl) (by rw [es13]; rfl) dX2_become_153 ?_
  refine v_aload_n 156 hF dX2_become_156 rfl 0 rfl ?_
  refine v_aload_n 157 hF dX2_become_157 rfl 1 rfl ?_
  refine v_get 158 hF in_X2 13 rfl rfl 13 (Nat.le_of_ble_eq_true rfl) q196 rfl rfl dX2_become_158 ?_
  obtain ⟨s14, es14⟩ : ∃ z : Nat → Nat → Int32, z = (upN s13 20 13 (τ 20 13)) := ⟨_, rfl⟩
  refine v_put (bkW D a s14 ++ bkW D b τ) 161 hF in_X2 tyX2_ok nmX2 0 rfl rfl 13 (Nat.le_of_ble_eq_true rfl) q196 rfl rfl rfl rfl rfl (Nat.le_of_ble_eq_true rfl) (by rw [es14]; rfl) dX2_become_161 ?_
  refine v_aload_n 164 hF dX2_become_164 rfl 0 rfl ?_
  refine v_aload_n 165 hF dX2_become_165 rfl 1 rfl ?_
  refine v_get 166 hF in_X2 13 rfl rfl 14 (Nat.le_of_ble_eq_true rfl) q198 rfl rfl dX2_become_166 ?_
  obtain ⟨s15, es15⟩ : ∃ z : Nat → Nat → Int32, z = (upN s14 20 14 (τ 20 14)) := ⟨_, rfl⟩
  refine v_put (bkW D a s15 ++ bkW D b τ) 169 hF in_X2 tyX2_ok nmX2 0 rfl rfl 14 (Nat.le_of_ble_eq_true rfl) q198 rfl rfl rfl rfl rfl (Nat.le_of_ble_eq_true rfl) (by rw [es15]; rfl) dX2_become_169 ?_
  refine v_aload_n 172 hF dX2_become_172 rfl 0 rfl ?_
  refine v_aload_n 173 hF dX2_become_173 rfl 1 rfl ?_
  refine v_get 174 hF in_X2 13 rfl rfl 15 (Nat.le_of_ble_eq_true rfl) q200 rfl rfl dX2_become_174 ?_
  obtain ⟨s16, es16⟩ : ∃ z : Nat → Nat → Int32, z = (upN s15 20 15 (τ 20 15)) := ⟨_, rfl⟩
  refine v_put (bkW D a s16 ++ bkW D b τ) 177 hF in_X2 tyX2_ok nmX2 0 rfl rfl 15 (Nat.le_of_ble_eq_true rfl) q200 rfl rfl rfl rfl rfl (Nat.le_of_ble_eq_true rfl) (by rw [es16]; rfl) dX2_become_177 ?_
  refine v_aload_n 180 hF dX2_become_180 rfl 0 rfl ?_
  refine v_aload_n 181 hF dX2_become_181 rfl 1 rfl ?_
  refine v_get 182 hF in_X2 13 rfl rfl 16 (Nat.le_of_ble_eq_true rfl) q202 rfl rfl dX2_become_182 ?_
  obtain ⟨s17, es17⟩ : ∃ z : Nat → Nat → Int32, z = (upN s16 20 16 (τ 20 16)) := ⟨_, rfl⟩
  refine v_put (bkW D a s17 ++ bkW D b τ) 185 hF in_X2 tyX2_ok nmX2 0 rfl rfl 16 (Nat.le_of_ble_eq_true rfl) q202 rfl rfl rfl rfl rfl (Nat.le_of_ble_eq_true rfl) (by rw [es17]; rfl) dX2_become_185 ?_
  refine v_aload_n 188 hF dX2_become_188 rfl 0 rfl ?_
  refine v_aload_n 189 hF dX2_become_189 rfl 1 rfl ?_
  refine v_get 190 hF in_X2 13 rfl rfl 17 (Nat.le_of_ble_eq_true rfl) q204 rfl rfl dX2_become_190 ?_
  obtain ⟨s18, es18⟩ : ∃ z : Nat → Nat → Int32, z = (upN s17 20 17 (τ 20 17)) := ⟨_, rfl⟩
  refine v_put (bkW D a s18 ++ bkW D b τ) 193 hF in_X2 tyX2_ok nmX2 0 rfl rfl 17 (Nat.le_of_ble_eq_true rfl) q204 rfl rfl rfl rfl rfl (Nat.le_of_ble_eq_true rfl) (by rw [es18]; rfl) dX2_become_193 ?_
  refine v_aload_n 196 hF dX2_become_196 rfl 0 rfl ?_
  refine v_aload_n 197 hF dX2_become_197 rfl 1 rfl ?_
  refine v_get 198 hF in_X2 13 rfl rfl 18 (Nat.le_of_ble_eq_true rfl) q206 rfl rfl dX2_become_198 ?_
  obtain ⟨s19, es19⟩ : ∃ z : Nat → Nat → Int32, z = (upN s18 20 18 (τ 20 18)) := ⟨_, rfl⟩
  refine v_put (bkW D a s19 ++ bkW D b τ) 201 hF in_X2 tyX2_ok nmX2 0 rfl rfl 18 (Nat.le_of_ble_eq_true rfl) q206 rfl rfl rfl rfl rfl (Nat.le_of_ble_eq_true rfl) (by rw [es19]; rfl) dX2_become_201 ?_
  refine v_aload_n 204 hF dX2_become_204 rfl 0 rfl ?_
  refine v_aload_n 205 hF dX2_become_205 rfl 1 rfl ?_
  refine v_get 206 hF in_X2 13 rfl rfl 19 (Nat.le_of_ble_eq_true rfl) q209 rfl rfl dX2_become_206 ?_
  obtain ⟨s20, es20⟩ : ∃ z : Nat → Nat → Int32, z = (upN s19 20 19 (τ 20 19)) := ⟨_, rfl⟩
  refine v_put (bkW D a s20 ++ bkW D b τ) 209 hF in_X2 tyX2_ok nmX2 0 rfl rfl 19 (Nat.le_of_ble_eq_true rfl) q209 rfl rfl rfl rfl rfl (Nat.le_of_ble_eq_true rfl) (by rw [es20]; rfl) dX2_become_209 ?_
  refine v_aload_n 212 hF dX2_become_212 rfl 0 rfl ?_
  refine v_aload_n 213 hF dX2_become_213 rfl 1 rfl ?_
  refine v_get 214 hF in_X2 13 rfl rfl 20 (Nat.le_of_ble_eq_true rfl) q211 rfl rfl dX2_become_214 ?_
  obtain ⟨s21, es21⟩ : ∃ z : Nat → Nat → Int32, z = (upN s20 20 20 (τ 20 20)) := ⟨_, rfl⟩
  refine v_put (bkW D a s21 ++ bkW D b τ) 217 hF in_X2 tyX2_ok nmX2 0 rfl rfl 20 (Nat.le_of_ble_eq_true rfl) q211 rfl rfl rfl rfl rfl (Nat.le_of_ble_eq_true rfl) (by rw [es21]; rfl) dX2_become_217 ?_
  refine v_aload_n 220 hF dX2_become_220 rfl 0 rfl ?_
  refine v_aload_n 221 hF dX2_become_221 rfl 1 rfl ?_
  refine v_get 222 hF in_X2 13 rfl rfl 21 (Nat.le_of_ble_eq_true rfl) q213 rfl rfl dX2_become_222 ?_
  obtain ⟨s22, es22⟩ : ∃ z : Nat → Nat → Int32, z = (upN s21 20 21 (τ 20 21)) := ⟨_, rfl⟩
  refine v_put (bkW D a s22 ++ bkW D b τ) 225 hF in_X2 tyX2_ok nmX2 0 rfl rfl 21 (Nat.le_of_ble_eq_true rfl) q213 rfl rfl rfl rfl rfl (Nat.le_of_ble_eq_true rfl) (by rw [es22]; rfl) dX2_become_225 ?_
  refine v_aload_n 228 hF dX2_become_228 rfl 0 rfl ?_
  refine v_aload_n 229 hF dX2_become_229 rfl 1 rfl ?_
  refine v_get 230 hF in_X2 13 rfl rfl 22 (Nat.le_of_ble_eq_true rfl) q215 rfl rfl dX2_become_230 ?_
  obtain ⟨s23, es23⟩ : ∃ z : Nat → Nat → Int32, z = (upN s22 20 22 (τ 20 22)) := ⟨_, rfl⟩
  refine v_put (bkW D a s23 ++ bkW D b τ) 233 hF in_X2 tyX2_ok nmX2 0 rfl rfl 22 (Nat.le_of_ble_eq_true rfl) q215 rfl rfl rfl rfl rfl (Nat.le_of_ble_eq_true rfl) (by rw [es23]; rfl) dX2_become_233 ?_
  refine v_aload_n 236 hF dX2_become_236 rfl 0 rfl ?_
  refine v_aload_n 237 hF dX2_become_237 rfl 1 rfl ?_
  refine v_get 238 hF in_X2 13 rfl rfl 23 (Nat.le_of_ble_eq_true rfl) q217 rfl rfl dX2_become_238 ?_
  obtain ⟨s24, es24⟩ : ∃ z : Nat → Nat → Int32, z = (upN s23 20 23 (τ 20 23)) := ⟨_, rfl⟩
  refine v_put (bkW D a s24 ++ bkW D b τ) 241 hF in_X2 tyX2_ok nmX2 0 rfl rfl 23 (Nat.le_of_ble_eq_true rfl) q217 rfl rfl rfl rfl rfl (Nat.le_of_ble_eq_true rfl) (by rw [es24]; rfl) dX2_become_241 ?_
  refine v_aload_n 244 hF dX2_become_244 rfl 0 rfl ?_
  refine v_same (vSame.app (bk_same D a (τ := τ) ?_)) ?_
  · subst es1 es2 es3 es4 es5 es6 es7 es9 es10 es11 es12 es13 es14 es15 es16 es17 es18 es19 es20 es21 es22 es23 es24
    exact bc_X2 σ τ s8 hs8
  · exact v_aret (w1 := fun _ : Unit => bkW D a τ ++ bkW D b τ) (ad := fun _ => a 0) (u := ()) 245 hF (Or.inl ⟨_, rfl⟩) hR (Nat.zero_le _) (Nat.zero_le _) dX2_become_245 rfl trivial
set_option maxHeartbeats 4000000 in
theorem c_X1_copy (l : Launch) (D : va_G) (b : Nat → Nat) (τ : Nat → Nat → Int32) : Ctr l D yX1_copy cX1_copy 1 (.object "BrookWeirs$Brook") (rmk 3 13 143 106) [.ref (b 0)] (bkW D b τ) (fun a : Nat → Nat => bkW D a τ ++ bkW D b τ) (fun a => a 0) (fun _ => True) 13 143 := by
  refine Ctr.of (by decide) (Nat.le_of_ble_eq_true rfl) (fun x hF hR => ?_)
  replace hF : vF x l D "BrookWeirs" cX1_copy (rmk 3 13 143 106) 1 (some (.object "BrookWeirs$Brook")) := hF
  refine v_new [.null, .null, .null, .null, .null, .null, .null, .null, .int 0, .int 0, .int 0, .int 0, .int 0, .int 0, .int 0, .int 0, .int 0, .int 0, .int 0, .int 0, .int 0, .int 0, .int 0, .int 0] 0 hF in_X2 tyX2_ok q123 q124 q71 (ci := 6) rfl (fun j hj => by rcases (show j = 0 ∨ j = 1 ∨ j = 2 ∨ j = 3 ∨ j = 4 ∨ j = 5 ∨ j = 6 ∨ j = 7 ∨ j = 8 ∨ j = 9 ∨ j = 10 ∨ j = 11 ∨ j = 12 ∨ j = 13 ∨ j = 14 ∨ j = 15 ∨ j = 16 ∨ j = 17 ∨ j = 18 ∨ j = 19 ∨ j = 20 ∨ j = 21 ∨ j = 22 ∨ j = 23 by omega) with rfl | rfl | rfl | rfl | rfl | rfl | rfl | rfl | rfl | rfl | rfl | rfl | rfl | rfl | rfl | rfl | rfl | rfl | rfl | rfl | rfl | rfl | rfl | rfl <;> rfl) ⟨Nat.le_of_ble_eq_true rfl, Nat.le_of_ble_eq_true rfl⟩ dX1_copy_0 (fun q1 => ?_)
  refine v_dup 3 hF dX1_copy_3 rfl ?_
  refine v_callINv (As := []) (wr := bkW D b τ) 4 hF (c_X2_init l D q1) List.perm_append_comm rfl q125 q126 q71 q127 ds_X2_init ⟨rfl, rfl, Nat.le_of_ble_eq_true rfl, Nat.le_of_ble_eq_true rfl⟩ (Nat.le_of_ble_eq_true rfl) ⟨Nat.le_of_ble_eq_true rfl, Nat.le_of_ble_eq_true rfl⟩ dX1_copy_4 (fun qa _ => ?_)
  refine v_aload_n 7 hF dX1_copy_7 rfl 0 rfl ?_
  refine v_callVr (As := [.ref (b 0)]) (b := bkA q1 qa 0) 8 hF (c_X2_become l D (bkA q1 qa) b (fun _ _ => 0) τ) (v_perm0 _) ⟨0, 6, _, TX2, 24, rfl, rfl⟩ q491 q492 q493 q71 q494 ds_X2_become ⟨rfl, rfl, Nat.le_of_ble_eq_true rfl, Nat.le_of_ble_eq_true rfl⟩ (Nat.le_of_ble_eq_true rfl) ⟨Nat.le_of_ble_eq_true rfl, Nat.le_of_ble_eq_true rfl⟩ dX1_copy_8 (fun _ _ => ?_)
  refine v_eqw (ws1 := bkW D (bkA q1 qa) τ ++ bkW D b τ) (List.append_nil _).symm ?_
  exact v_aret (w1 := fun a : Nat → Nat => bkW D a τ ++ bkW D b τ) (ad := fun a => a 0) (u := bkA q1 qa) 11 hF (Or.inl ⟨_, rfl⟩) hR (Nat.le_of_ble_eq_true rfl) (Nat.le_of_ble_eq_true rfl) dX1_copy_11 rfl trivial
