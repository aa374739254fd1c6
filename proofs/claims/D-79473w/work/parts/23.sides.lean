set_option maxRecDepth 100000
theorem side_cls {s : State} {args : Array Value} (hts : ∀ w ∈ lw_all, w.before args s = true) : ∃ c k, s.vm.findClass "BrookWeirs$Side" = some c ∧ s.vm.classes[c]? = some k ∧ k.isInterface = false := by
  obtain ⟨c, r, m, h1, h2, h3, h4, mk, h5, h6⟩ := Cond.selects_spec (hts _ q1077)
  exact ⟨m.cls, mk, findClass_of_methodNamed h3, h5, h6⟩
def w_X5_latches (o : Nat) (be : Int32) (mo : Int32) (w : Nat) (b : Nat → Nat) (σ : Nat → Nat → Int32) (Q : Int32 → (Unit) → Prop) : Prop :=
  Q ((σ 20 10)) ()
theorem ds_X5_latches : yX5_latches.cls = yX5_latches.cls ∧ yX5_latches.cls ≠ "java/lang/invoke/MethodHandle" ∧ yX5_latches.cls ≠ "java/lang/invoke/VarHandle" ∧ (parseMethodDescriptor yX5_latches.desc).map (fun d => d.parameters.length) = some 1 := by decide +kernel
set_option maxHeartbeats 4000000 in
theorem c_X5_latches (l : Launch) (D : va_G) (o : Nat) (be : Int32) (mo : Int32) (w : Nat) (b : Nat → Nat) (σ : Nat → Nat → Int32) (Q : Int32 → (Unit) → Prop) (h : w_X5_latches o be mo w b σ Q) : Cti l D yX5_latches cX5_latches 2 .int (rmk 0 0 0 0) [.ref o, .ref (b 0)] ([(o, .inr (8, [.int be, .int mo, .ref w, .ref w]))] ++ (bkW D b σ ++ [])) (fun u : Unit => ([(o, .inr (8, [.int be, .int mo, .ref w, .ref w]))] ++ (bkW D b σ ++ []))) Q 0 0 := by
  refine Cti.of (by decide) (Nat.le_of_ble_eq_true rfl) (fun x hF hR => ?_)
  replace hF : vF x l D "BrookWeirs$Frogs" cX5_latches (rmk 0 0 0 0) 2 (some .int) := hF
  unfold w_X5_latches at h
  refine v_aload_n 0 hF dX5_latches_0 rfl 1 rfl ?_
  refine v_getN 1 hF in_X2 1 rfl rfl 10 (Nat.le_of_ble_eq_true rfl) q188 rfl rfl dX5_latches_1 ?_
  exact v_iret (u := ()) 4 hF hR (Nat.le_of_ble_eq_true rfl) (Nat.le_of_ble_eq_true rfl) dX5_latches_4 h
def w_X5_open (o : Nat) (be : Int32) (mo : Int32) (w : Nat) (b : Nat → Nat) (σ : Nat → Nat → Int32) (x2 : Int32) (Q : ((Nat → Nat → Int32)) → Prop) : Prop :=
  ∀ s1 : Nat → Nat → Int32, s1 = (upN σ 20 10 x2) → Q s1
theorem ds_X5_open : yX5_open.cls = yX5_open.cls ∧ yX5_open.cls ≠ "java/lang/invoke/MethodHandle" ∧ yX5_open.cls ≠ "java/lang/invoke/VarHandle" ∧ (parseMethodDescriptor yX5_open.desc).map (fun d => d.parameters.length) = some 2 := by decide +kernel
set_option maxHeartbeats 4000000 in
theorem c_X5_open (l : Launch) (D : va_G) (o : Nat) (be : Int32) (mo : Int32) (w : Nat) (b : Nat → Nat) (σ : Nat → Nat → Int32) (x2 : Int32) (Q : ((Nat → Nat → Int32)) → Prop) (h : w_X5_open o be mo w b σ x2 Q) : Ctv l D yX5_open cX5_open 3 (rmk 0 0 0 0) [.ref o, .ref (b 0), .int x2] ([(o, .inr (8, [.int be, .int mo, .ref w, .ref w]))] ++ (bkW D b σ ++ [])) (fun u : (Nat → Nat → Int32) => ([(o, .inr (8, [.int be, .int mo, .ref w, .ref w]))] ++ (bkW D b u ++ []))) Q 0 0 := by
  refine Ctv.of (by decide) (Nat.le_of_ble_eq_true rfl) (fun x hF hR => ?_)
  replace hF : vF x l D "BrookWeirs$Frogs" cX5_open (rmk 0 0 0 0) 3 none := hF
  unfold w_X5_open at h
  refine v_aload_n 0 hF dX5_open_0 rfl 1 rfl ?_
  refine v_iload_n 1 hF dX5_open_1 rfl 2 rfl ?_
  obtain ⟨s1, es1⟩ : ∃ z : Nat → Nat → Int32, z = (upN σ 20 10 x2) := ⟨_, rfl⟩
  replace h := h s1 es1
  refine v_putN ([(o, .inr (8, [.int be, .int mo, .ref w, .ref w]))] ++ (bkW D b s1 ++ [])) 2 hF in_X2 tyX2_ok nmX2 1 rfl rfl 10 (Nat.le_of_ble_eq_true rfl) q188 rfl rfl rfl rfl rfl (Nat.le_of_ble_eq_true rfl) (by rw [es1]; rfl) dX5_open_2 ?_
  exact v_vret (u := s1) 5 hF hR (Nat.le_of_ble_eq_true rfl) (Nat.le_of_ble_eq_true rfl) dX5_open_5 h
def w_X5_value (o : Nat) (be : Int32) (mo : Int32) (w : Nat) (b : Nat → Nat) (σ : Nat → Nat → Int32) (t : Nat → Nat) (τ : Nat → Nat → Int32) (Q : Int32 → ((Nat → Nat → Int32)) → Prop) : Prop :=
  w_X3_eggs τ (fun r1 u2 => w_X2_sum5 u2 (fun r3 u4 => Q ((r1 + r3)) u4))
theorem ds_X5_value : yX5_value.cls = yX5_value.cls ∧ yX5_value.cls ≠ "java/lang/invoke/MethodHandle" ∧ yX5_value.cls ≠ "java/lang/invoke/VarHandle" ∧ (parseMethodDescriptor yX5_value.desc).map (fun d => d.parameters.length) = some 2 := by decide +kernel
set_option maxHeartbeats 4000000 in
theorem c_X5_value (l : Launch) (D : va_G) (o : Nat) (be : Int32) (mo : Int32) (w : Nat) (b : Nat → Nat) (σ : Nat → Nat → Int32) (t : Nat → Nat) (τ : Nat → Nat → Int32) (Q : Int32 → ((Nat → Nat → Int32)) → Prop) (h : w_X5_value o be mo w b σ t τ Q) : Cti l D yX5_value cX5_value 3 .int (rmk 1 0 0 23) [.ref o, .ref (b 0), .ref (t 0)] ([(o, .inr (8, [.int be, .int mo, .ref w, .ref w]))] ++ (bkW D b σ ++ (bkW D t τ ++ []))) (fun u : (Nat → Nat → Int32) => ([(o, .inr (8, [.int be, .int mo, .ref w, .ref w]))] ++ (bkW D b σ ++ (bkW D t u ++ [])))) Q 0 0 := by
  refine Cti.of (by decide) (Nat.le_of_ble_eq_true rfl) (fun x hF hR => ?_)
  replace hF : vF x l D "BrookWeirs$Frogs" cX5_value (rmk 1 0 0 23) 3 (some .int) := hF
  unfold w_X5_value at h
  refine v_aload_n 0 hF dX5_value_0 rfl 2 rfl ?_
  refine v_getN 1 hF in_X2 14 rfl rfl 7 (Nat.le_of_ble_eq_true rfl) q181 rfl rfl dX5_value_1 ?_
  refine v_callVi (As := []) (b := t 8) (wr := ([(o, .inr (8, [.int be, .int mo, .ref w, .ref w]))] ++ (bkW D b σ ++ []))) 4 hF (c_X3_eggs l D t τ _ h) (((((((((List.Perm.refl _)).append_left _).trans (pm_sw _ _ _))).append_left _).trans (pm_sw _ _ _))).trans (List.Perm.of_eq (by simp only [List.append_assoc, List.nil_append, List.append_nil]))) ⟨8, 7, _, TX3, 5, rfl, rfl⟩ q1112 q1113 q1114 q72 q1115 ds_X3_eggs ⟨rfl, rfl, (Nat.le_of_ble_eq_true rfl), (Nat.le_of_ble_eq_true rfl)⟩ (Nat.le_of_ble_eq_true rfl) ⟨(Nat.le_of_ble_eq_true rfl), (Nat.le_of_ble_eq_true rfl)⟩ dX5_value_4 (fun r1 u2 h => ?_)
  refine v_eqw (ws1 := (bkW D t u2 ++ ([(o, .inr (8, [.int be, .int mo, .ref w, .ref w]))] ++ (bkW D b σ ++ [])))) (by simp only [List.append_assoc, List.nil_append, List.append_nil]) ?_
  refine v_perm (ws' := ([(o, .inr (8, [.int be, .int mo, .ref w, .ref w]))] ++ (bkW D b σ ++ (bkW D t u2 ++ [])))) (((((List.Perm.refl _)).append_left _).trans (pm_sw _ _ _)).trans ((((((List.Perm.refl _)).append_left _).trans (pm_sw _ _ _))).append_left _)) ?_
  refine v_aload_n 7 hF dX5_value_7 rfl 2 rfl ?_
  refine v_aload_n 8 hF dX5_value_8 rfl 2 rfl ?_
  refine v_getN 9 hF in_X2 14 rfl rfl 5 (Nat.le_of_ble_eq_true rfl) q176 rfl rfl dX5_value_9 ?_
  refine v_callVi (As := [.ref (t 6)]) (b := t 0) (wr := ([(o, .inr (8, [.int be, .int mo, .ref w, .ref w]))] ++ (bkW D b σ ++ []))) 12 hF (c_X2_sum5 l D t u2 _ h) (((((((((List.Perm.refl _)).append_left _).trans (pm_sw _ _ _))).append_left _).trans (pm_sw _ _ _))).trans (List.Perm.of_eq (by simp only [List.append_assoc, List.nil_append, List.append_nil]))) ⟨0, 6, _, TX2, 24, rfl, rfl⟩ q1116 q709 q710 q71 q711 ds_X2_sum ⟨rfl, rfl, (Nat.le_of_ble_eq_true rfl), (Nat.le_of_ble_eq_true rfl)⟩ (Nat.le_of_ble_eq_true rfl) ⟨(Nat.le_of_ble_eq_true rfl), (Nat.le_of_ble_eq_true rfl)⟩ dX5_value_12 (fun r3 u4 h => ?_)
  refine v_eqw (ws1 := (bkW D t u4 ++ ([(o, .inr (8, [.int be, .int mo, .ref w, .ref w]))] ++ (bkW D b σ ++ [])))) (by simp only [List.append_assoc, List.nil_append, List.append_nil]) ?_
  refine v_perm (ws' := ([(o, .inr (8, [.int be, .int mo, .ref w, .ref w]))] ++ (bkW D b σ ++ (bkW D t u4 ++ [])))) (((((List.Perm.refl _)).append_left _).trans (pm_sw _ _ _)).trans ((((((List.Perm.refl _)).append_left _).trans (pm_sw _ _ _))).append_left _)) ?_
  refine v_iadd 15 hF dX5_value_15 ?_
  exact v_iret (u := u4) 16 hF hR (Nat.le_of_ble_eq_true rfl) (Nat.le_of_ble_eq_true rfl) dX5_value_16 h
def w_X6_latches (o : Nat) (be : Int32) (mo : Int32) (w : Nat) (b : Nat → Nat) (σ : Nat → Nat → Int32) (Q : Int32 → (Unit) → Prop) : Prop :=
  Q ((σ 20 11)) ()
theorem ds_X6_latches : yX6_latches.cls = yX6_latches.cls ∧ yX6_latches.cls ≠ "java/lang/invoke/MethodHandle" ∧ yX6_latches.cls ≠ "java/lang/invoke/VarHandle" ∧ (parseMethodDescriptor yX6_latches.desc).map (fun d => d.parameters.length) = some 1 := by decide +kernel
set_option maxHeartbeats 4000000 in
theorem c_X6_latches (l : Launch) (D : va_G) (o : Nat) (be : Int32) (mo : Int32) (w : Nat) (b : Nat → Nat) (σ : Nat → Nat → Int32) (Q : Int32 → (Unit) → Prop) (h : w_X6_latches o be mo w b σ Q) : Cti l D yX6_latches cX6_latches 2 .int (rmk 0 0 0 0) [.ref o, .ref (b 0)] ([(o, .inr (9, [.int be, .int mo, .ref w, .ref w]))] ++ (bkW D b σ ++ [])) (fun u : Unit => ([(o, .inr (9, [.int be, .int mo, .ref w, .ref w]))] ++ (bkW D b σ ++ []))) Q 0 0 := by
  refine Cti.of (by decide) (Nat.le_of_ble_eq_true rfl) (fun x hF hR => ?_)
  replace hF : vF x l D "BrookWeirs$Farmers" cX6_latches (rmk 0 0 0 0) 2 (some .int) := hF
  unfold w_X6_latches at h
  refine v_aload_n 0 hF dX6_latches_0 rfl 1 rfl ?_
  refine v_getN 1 hF in_X2 1 rfl rfl 11 (Nat.le_of_ble_eq_true rfl) q191 rfl rfl dX6_latches_1 ?_
  exact v_iret (u := ()) 4 hF hR (Nat.le_of_ble_eq_true rfl) (Nat.le_of_ble_eq_true rfl) dX6_latches_4 h
def w_X6_open (o : Nat) (be : Int32) (mo : Int32) (w : Nat) (b : Nat → Nat) (σ : Nat → Nat → Int32) (x2 : Int32) (Q : ((Nat → Nat → Int32)) → Prop) : Prop :=
  ∀ s1 : Nat → Nat → Int32, s1 = (upN σ 20 11 x2) → Q s1
theorem ds_X6_open : yX6_open.cls = yX6_open.cls ∧ yX6_open.cls ≠ "java/lang/invoke/MethodHandle" ∧ yX6_open.cls ≠ "java/lang/invoke/VarHandle" ∧ (parseMethodDescriptor yX6_open.desc).map (fun d => d.parameters.length) = some 2 := by decide +kernel
set_option maxHeartbeats 4000000 in
theorem c_X6_open (l : Launch) (D : va_G) (o : Nat) (be : Int32) (mo : Int32) (w : Nat) (b : Nat → Nat) (σ : Nat → Nat → Int32) (x2 : Int32) (Q : ((Nat → Nat → Int32)) → Prop) (h : w_X6_open o be mo w b σ x2 Q) : Ctv l D yX6_open cX6_open 3 (rmk 0 0 0 0) [.ref o, .ref (b 0), .int x2] ([(o, .inr (9, [.int be, .int mo, .ref w, .ref w]))] ++ (bkW D b σ ++ [])) (fun u : (Nat → Nat → Int32) => ([(o, .inr (9, [.int be, .int mo, .ref w, .ref w]))] ++ (bkW D b u ++ []))) Q 0 0 := by
  refine Ctv.of (by decide) (Nat.le_of_ble_eq_true rfl) (fun x hF hR => ?_)
  replace hF : vF x l D "BrookWeirs$Farmers" cX6_open (rmk 0 0 0 0) 3 none := hF
  unfold w_X6_open at h
  refine v_aload_n 0 hF dX6_open_0 rfl 1 rfl ?_
  refine v_iload_n 1 hF dX6_open_1 rfl 2 rfl ?_
  obtain ⟨s1, es1⟩ : ∃ z : Nat → Nat → Int32, z = (upN σ 20 11 x2) := ⟨_, rfl⟩
  replace h := h s1 es1
  refine v_putN ([(o, .inr (9, [.int be, .int mo, .ref w, .ref w]))] ++ (bkW D b s1 ++ [])) 2 hF in_X2 tyX2_ok nmX2 1 rfl rfl 11 (Nat.le_of_ble_eq_true rfl) q191 rfl rfl rfl rfl rfl (Nat.le_of_ble_eq_true rfl) (by rw [es1]; rfl) dX6_open_2 ?_
  exact v_vret (u := s1) 5 hF hR (Nat.le_of_ble_eq_true rfl) (Nat.le_of_ble_eq_true rfl) dX6_open_5 h
def w_X6_value (o : Nat) (be : Int32) (mo : Int32) (w : Nat) (b : Nat → Nat) (σ : Nat → Nat → Int32) (t : Nat → Nat) (τ : Nat → Nat → Int32) (Q : Int32 → (Unit) → Prop) : Prop :=
  Q (((τ 20 18) - (σ 20 18))) ()
theorem ds_X6_value : yX6_value.cls = yX6_value.cls ∧ yX6_value.cls ≠ "java/lang/invoke/MethodHandle" ∧ yX6_value.cls ≠ "java/lang/invoke/VarHandle" ∧ (parseMethodDescriptor yX6_value.desc).map (fun d => d.parameters.length) = some 2 := by decide +kernel
set_option maxHeartbeats 4000000 in
theorem c_X6_value (l : Launch) (D : va_G) (o : Nat) (be : Int32) (mo : Int32) (w : Nat) (b : Nat → Nat) (σ : Nat → Nat → Int32) (t : Nat → Nat) (τ : Nat → Nat → Int32) (Q : Int32 → (Unit) → Prop) (h : w_X6_value o be mo w b σ t τ Q) : Cti l D yX6_value cX6_value 3 .int (rmk 0 0 0 0) [.ref o, .ref (b 0), .ref (t 0)] ([(o, .inr (9, [.int be, .int mo, .ref w, .ref w]))] ++ (bkW D b σ ++ (bkW D t τ ++ []))) (fun u : Unit => ([(o, .inr (9, [.int be, .int mo, .ref w, .ref w]))] ++ (bkW D b σ ++ (bkW D t τ ++ [])))) Q 0 0 := by
  refine Cti.of (by decide) (Nat.le_of_ble_eq_true rfl) (fun x hF hR => ?_)
  replace hF : vF x l D "BrookWeirs$Farmers" cX6_value (rmk 0 0 0 0) 3 (some .int) := hF
  unfold w_X6_value at h
  refine v_aload_n 0 hF dX6_value_0 rfl 2 rfl ?_
  refine v_getN 1 hF in_X2 14 rfl rfl 18 (Nat.le_of_ble_eq_true rfl) q207 rfl rfl dX6_value_1 ?_
  refine v_aload_n 4 hF dX6_value_4 rfl 1 rfl ?_
  refine v_getN 5 hF in_X2 1 rfl rfl 18 (Nat.le_of_ble_eq_true rfl) q207 rfl rfl dX6_value_5 ?_
  refine v_isub 8 hF dX6_value_8 ?_
  exact v_iret (u := ()) 9 hF hR (Nat.le_of_ble_eq_true rfl) (Nat.le_of_ble_eq_true rfl) dX6_value_9 h
def w_X6_latches_X12 (o : Nat) (be : Int32) (mo : Int32) (w : Nat) (fs : Nat) (b : Nat → Nat) (σ : Nat → Nat → Int32) (Q : Int32 → (Unit) → Prop) : Prop :=
  Q ((σ 20 11)) ()
set_option maxHeartbeats 4000000 in
theorem c_X6_latches_X12 (l : Launch) (D : va_G) (o : Nat) (be : Int32) (mo : Int32) (w : Nat) (fs : Nat) (b : Nat → Nat) (σ : Nat → Nat → Int32) (Q : Int32 → (Unit) → Prop) (h : w_X6_latches_X12 o be mo w fs b σ Q) : Cti l D yX6_latches cX6_latches 2 .int (rmk 0 0 0 0) [.ref o, .ref (b 0)] ([(o, .inr (3, [.int be, .int mo, .ref w, .ref w, .ref fs, .ref w]))] ++ (bkW D b σ ++ [])) (fun u : Unit => ([(o, .inr (3, [.int be, .int mo, .ref w, .ref w, .ref fs, .ref w]))] ++ (bkW D b σ ++ []))) Q 0 0 := by
  refine Cti.of (by decide) (Nat.le_of_ble_eq_true rfl) (fun x hF hR => ?_)
  replace hF : vF x l D "BrookWeirs$Farmers" cX6_latches (rmk 0 0 0 0) 2 (some .int) := hF
  unfold w_X6_latches_X12 at h
  refine v_aload_n 0 hF dX6_latches_0 rfl 1 rfl ?_
  refine v_getN 1 hF in_X2 1 rfl rfl 11 (Nat.le_of_ble_eq_true rfl) q191 rfl rfl dX6_latches_1 ?_
  exact v_iret (u := ()) 4 hF hR (Nat.le_of_ble_eq_true rfl) (Nat.le_of_ble_eq_true rfl) dX6_latches_4 h
def w_X6_open_X12 (o : Nat) (be : Int32) (mo : Int32) (w : Nat) (fs : Nat) (b : Nat → Nat) (σ : Nat → Nat → Int32) (x2 : Int32) (Q : ((Nat → Nat → Int32)) → Prop) : Prop :=
  ∀ s1 : Nat → Nat → Int32, s1 = (upN σ 20 11 x2) → Q s1
set_option maxHeartbeats 4000000 in
theorem c_X6_open_X12 (l : Launch) (D : va_G) (o : Nat) (be : Int32) (mo : Int32) (w : Nat) (fs : Nat) (b : Nat → Nat) (σ : Nat → Nat → Int32) (x2 : Int32) (Q : ((Nat → Nat → Int32)) → Prop) (h : w_X6_open_X12 o be mo w fs b σ x2 Q) : Ctv l D yX6_open cX6_open 3 (rmk 0 0 0 0) [.ref o, .ref (b 0), .int x2] ([(o, .inr (3, [.int be, .int mo, .ref w, .ref w, .ref fs, .ref w]))] ++ (bkW D b σ ++ [])) (fun u : (Nat → Nat → Int32) => ([(o, .inr (3, [.int be, .int mo, .ref w, .ref w, .ref fs, .ref w]))] ++ (bkW D b u ++ []))) Q 0 0 := by
  refine Ctv.of (by decide) (Nat.le_of_ble_eq_true rfl) (fun x hF hR => ?_)
  replace hF : vF x l D "BrookWeirs$Farmers" cX6_open (rmk 0 0 0 0) 3 none := hF
  unfold w_X6_open_X12 at h
  refine v_aload_n 0 hF dX6_open_0 rfl 1 rfl ?_
  refine v_iload_n 1 hF dX6_open_1 rfl 2 rfl ?_
  obtain ⟨s1, es1⟩ : ∃ z : Nat → Nat → Int32, z = (upN σ 20 11 x2) := ⟨_, rfl⟩
  replace h := h s1 es1
  refine v_putN ([(o, .inr (3, [.int be, .int mo, .ref w, .ref w, .ref fs, .ref w]))] ++ (bkW D b s1 ++ [])) 2 hF in_X2 tyX2_ok nmX2 1 rfl rfl 11 (Nat.le_of_ble_eq_true rfl) q191 rfl rfl rfl rfl rfl (Nat.le_of_ble_eq_true rfl) (by rw [es1]; rfl) dX6_open_2 ?_
  exact v_vret (u := s1) 5 hF hR (Nat.le_of_ble_eq_true rfl) (Nat.le_of_ble_eq_true rfl) dX6_open_5 h
def w_X6_value_X12 (o : Nat) (be : Int32) (mo : Int32) (w : Nat) (fs : Nat) (b : Nat → Nat) (σ : Nat → Nat → Int32) (t : Nat → Nat) (τ : Nat → Nat → Int32) (Q : Int32 → (Unit) → Prop) : Prop :=
  Q (((τ 20 18) - (σ 20 18))) ()
set_option maxHeartbeats 4000000 in
theorem c_X6_value_X12 (l : Launch) (D : va_G) (o : Nat) (be : Int32) (mo : Int32) (w : Nat) (fs : Nat) (b : Nat → Nat) (σ : Nat → Nat → Int32) (t : Nat → Nat) (τ : Nat → Nat → Int32) (Q : Int32 → (Unit) → Prop) (h : w_X6_value_X12 o be mo w fs b σ t τ Q) : Cti l D yX6_value cX6_value 3 .int (rmk 0 0 0 0) [.ref o, .ref (b 0), .ref (t 0)] ([(o, .inr (3, [.int be, .int mo, .ref w, .ref w, .ref fs, .ref w]))] ++ (bkW D b σ ++ (bkW D t τ ++ []))) (fun u : Unit => ([(o, .inr (3, [.int be, .int mo, .ref w, .ref w, .ref fs, .ref w]))] ++ (bkW D b σ ++ (bkW D t τ ++ [])))) Q 0 0 := by
  refine Cti.of (by decide) (Nat.le_of_ble_eq_true rfl) (fun x hF hR => ?_)
  replace hF : vF x l D "BrookWeirs$Farmers" cX6_value (rmk 0 0 0 0) 3 (some .int) := hF
  unfold w_X6_value_X12 at h
  refine v_aload_n 0 hF dX6_value_0 rfl 2 rfl ?_
  refine v_getN 1 hF in_X2 14 rfl rfl 18 (Nat.le_of_ble_eq_true rfl) q207 rfl rfl dX6_value_1 ?_
  refine v_aload_n 4 hF dX6_value_4 rfl 1 rfl ?_
  refine v_getN 5 hF in_X2 1 rfl rfl 18 (Nat.le_of_ble_eq_true rfl) q207 rfl rfl dX6_value_5 ?_
  refine v_isub 8 hF dX6_value_8 ?_
  exact v_iret (u := ()) 9 hF hR (Nat.le_of_ble_eq_true rfl) (Nat.le_of_ble_eq_true rfl) dX6_value_9 h
def w_X4_look_X5 (o : Nat) (be : Int32) (mo : Int32) (w : Nat) (x1 : Int32) (x2 : Int32) (Q : ((Int32) × (Int32)) → Prop) : Prop :=
  ((mo < x2 → (((1 : Int32) = 0 → (((1 : Int32) = 0 → Q ((be, mo))) ∧ (¬ (1 : Int32) = 0 → Q ((x1, mo))))) ∧ (¬ (1 : Int32) = 0 → (((1 : Int32) = 0 → Q ((be, x2))) ∧ (¬ (1 : Int32) = 0 → Q ((x1, x2))))))) ∧ (¬ mo < x2 → ((¬ x2 = mo → (((0 : Int32) = 0 → (((0 : Int32) = 0 → Q ((be, mo))) ∧ (¬ (0 : Int32) = 0 → Q ((x1, mo))))) ∧ (¬ (0 : Int32) = 0 → (((0 : Int32) = 0 → Q ((be, x2))) ∧ (¬ (0 : Int32) = 0 → Q ((x1, x2))))))) ∧ (x2 = mo → w_J20_bitCount x1 (fun r9 => w_J20_bitCount be (fun r10 => ((r10 ≤ r9 → (((0 : Int32) = 0 → (((0 : Int32) = 0 → Q ((be, mo))) ∧ (¬ (0 : Int32) = 0 → Q ((x1, mo))))) ∧ (¬ (0 : Int32) = 0 → (((0 : Int32) = 0 → Q ((be, x2))) ∧ (¬ (0 : Int32) = 0 → Q ((x1, x2))))))) ∧ (¬ r10 ≤ r9 → (((1 : Int32) = 0 → (((1 : Int32) = 0 → Q ((be, mo))) ∧ (¬ (1 : Int32) = 0 → Q ((x1, mo))))) ∧ (¬ (1 : Int32) = 0 → (((1 : Int32) = 0 → Q ((be, x2))) ∧ (¬ (1 : Int32) = 0 → Q ((x1, x2))))))))))))))
theorem ds_X4_look : yX4_look.cls = yX4_look.cls ∧ yX4_look.cls ≠ "java/lang/invoke/MethodHandle" ∧ yX4_look.cls ≠ "java/lang/invoke/VarHandle" ∧ (parseMethodDescriptor yX4_look.desc).map (fun d => d.parameters.length) = some 2 := by decide +kernel
set_option maxHeartbeats 4000000 in
theorem c_X4_look_X5 (l : Launch) (D : va_G) (o : Nat) (be : Int32) (mo : Int32) (w : Nat) (x1 : Int32) (x2 : Int32) (Q : ((Int32) × (Int32)) → Prop) (h : w_X4_look_X5 o be mo w x1 x2 Q) : Ctv l D yX4_look cX4_look 4 (rmk 1 0 0 20) [.ref o, .int x1, .int x2] ([(o, .inr (8, [.int be, .int mo, .ref w, .ref w]))] ++ []) (fun u : (Int32) × (Int32) => ([(o, .inr (8, [.int (u.1), .int (u.2), .ref w, .ref w]))] ++ [])) Q 0 0 := by
  refine Ctv.of (by decide) (Nat.le_of_ble_eq_true rfl) (fun x hF hR => ?_)
  replace hF : vF x l D "BrookWeirs$Side" cX4_look (rmk 1 0 0 20) 4 none := hF
  unfold w_X4_look_X5 at h
  refine v_iload_n 0 hF dX4_look_0 rfl 2 rfl ?_
  refine v_aload_n 1 hF dX4_look_1 rfl 0 rfl ?_
  refine v_getO 2 hF in_X5 0 rfl rfl 1 (Nat.le_of_ble_eq_true rfl) q336 rfl dX4_look_2 ?_
  refine v_icmp_gt 5 30 hF dX4_look_5 (by decide) (fun c1 => ?_) (fun c1 => ?_)
  · replace h := h.1 c1
    refine v_iconst (v := 1) 30 hF dX4_look_30 (by decide) ?_
    refine v_goto 31 35 hF dX4_look_31 (by decide) ?_
    refine v_istore_n [(0, .ref o), (1, .int x1), (2, .int x2), (3, .int ((1 : Int32)))] [1, 2, 3, 0] 35 hF dX4_look_35 rfl (Nat.le_of_ble_eq_true rfl) rfl ?_
    refine v_aload_n 36 hF dX4_look_36 rfl 0 rfl ?_
    refine v_iload_n 37 hF dX4_look_37 rfl 3 rfl ?_
    refine v_if_eq 38 45 hF dX4_look_38 (by decide) (fun c2 => ?_) (fun c2 => ?_)
    · replace h := h.1 c2
      refine v_aload_n 45 hF dX4_look_45 rfl 0 rfl ?_
      refine v_getO 46 hF in_X5 0 rfl rfl 1 (Nat.le_of_ble_eq_true rfl) q336 rfl dX4_look_46 ?_
      refine v_putA ([(o, .inr (8, [.int be, .int mo, .ref w, .ref w]))] ++ []) 49 hF in_X5 tyX5_ok nm2X5 0 rfl rfl 1 (Nat.le_of_ble_eq_true rfl) q336 rfl rfl rfl rfl (Nat.le_of_ble_eq_true rfl) rfl dX4_look_49 ?_
      refine v_aload_n 52 hF dX4_look_52 rfl 0 rfl ?_
      refine v_iload_n 53 hF dX4_look_53 rfl 3 rfl ?_
      refine v_if_eq 54 61 hF dX4_look_54 (by decide) (fun c3 => ?_) (fun c3 => ?_)
      · replace h := h.1 c3
        refine v_aload_n 61 hF dX4_look_61 rfl 0 rfl ?_
        refine v_getO 62 hF in_X5 0 rfl rfl 0 (Nat.le_of_ble_eq_true rfl) q334 rfl dX4_look_62 ?_
        refine v_putA ([(o, .inr (8, [.int be, .int mo, .ref w, .ref w]))] ++ []) 65 hF in_X5 tyX5_ok nm2X5 0 rfl rfl 0 (Nat.le_of_ble_eq_true rfl) q334 rfl rfl rfl rfl (Nat.le_of_ble_eq_true rfl) rfl dX4_look_65 ?_
        exact v_vret (u := (be, mo)) 68 hF hR (Nat.le_of_ble_eq_true rfl) (Nat.le_of_ble_eq_true rfl) dX4_look_68 h
      · replace h := h.2 c3
        refine v_iload_n 57 hF dX4_look_57 rfl 1 rfl ?_
        refine v_goto 58 65 hF dX4_look_58 (by decide) ?_
        refine v_putA ([(o, .inr (8, [.int x1, .int mo, .ref w, .ref w]))] ++ []) 65 hF in_X5 tyX5_ok nm2X5 0 rfl rfl 0 (Nat.le_of_ble_eq_true rfl) q334 rfl rfl rfl rfl (Nat.le_of_ble_eq_true rfl) rfl dX4_look_65 ?_
        exact v_vret (u := (x1, mo)) 68 hF hR (Nat.le_of_ble_eq_true rfl) (Nat.le_of_ble_eq_true rfl) dX4_look_68 h
    · replace h := h.2 c2
      refine v_iload_n 41 hF dX4_look_41 rfl 2 rfl ?_
      refine v_goto 42 49 hF dX4_look_42 (by decide) ?_
      refine v_putA ([(o, .inr (8, [.int be, .int x2, .ref w, .ref w]))] ++ []) 49 hF in_X5 tyX5_ok nm2X5 0 rfl rfl 1 (Nat.le_of_ble_eq_true rfl) q336 rfl rfl rfl rfl (Nat.le_of_ble_eq_true rfl) rfl dX4_look_49 ?_
      refine v_aload_n 52 hF dX4_look_52 rfl 0 rfl ?_
      refine v_iload_n 53 hF dX4_look_53 rfl 3 rfl ?_
      refine v_if_eq 54 61 hF dX4_look_54 (by decide) (fun c4 => ?_) (fun c4 => ?_)
      · replace h := h.1 c4
        refine v_aload_n 61 hF dX4_look_61 rfl 0 rfl ?_
        refine v_getO 62 hF in_X5 0 rfl rfl 0 (Nat.le_of_ble_eq_true rfl) q334 rfl dX4_look_62 ?_
        refine v_putA ([(o, .inr (8, [.int be, .int x2, .ref w, .ref w]))] ++ []) 65 hF in_X5 tyX5_ok nm2X5 0 rfl rfl 0 (Nat.le_of_ble_eq_true rfl) q334 rfl rfl rfl rfl (Nat.le_of_ble_eq_true rfl) rfl dX4_look_65 ?_
        exact v_vret (u := (be, x2)) 68 hF hR (Nat.le_of_ble_eq_true rfl) (Nat.le_of_ble_eq_true rfl) dX4_look_68 h
      · replace h := h.2 c4
        refine v_iload_n 57 hF dX4_look_57 rfl 1 rfl ?_
        refine v_goto 58 65 hF dX4_look_58 (by decide) ?_
        refine v_putA ([(o, .inr (8, [.int x1, .int x2, .ref w, .ref w]))] ++ []) 65 hF in_X5 tyX5_ok nm2X5 0 rfl rfl 0 (Nat.le_of_ble_eq_true rfl) q334 rfl rfl rfl rfl (Nat.le_of_ble_eq_true rfl) rfl dX4_look_65 ?_
        exact v_vret (u := (x1, x2)) 68 hF hR (Nat.le_of_ble_eq_true rfl) (Nat.le_of_ble_eq_true rfl) dX4_look_68 h
  · replace h := h.2 c1
    refine v_iload_n 8 hF dX4_look_8 rfl 2 rfl ?_
    refine v_aload_n 9 hF dX4_look_9 rfl 0 rfl ?_
    refine v_getO 10 hF in_X5 0 rfl rfl 1 (Nat.le_of_ble_eq_true rfl) q336 rfl dX4_look_10 ?_
    refine v_icmp_ne 13 34 hF dX4_look_13 (by decide) (fun c5 => ?_) (fun c5 => ?_)
    · replace h := h.1 c5
      refine v_iconst (v := 0) 34 hF dX4_look_34 (by decide) ?_
      refine v_istore_n [(0, .ref o), (1, .int x1), (2, .int x2), (3, .int ((0 : Int32)))] [1, 2, 3, 0] 35 hF dX4_look_35 rfl (Nat.le_of_ble_eq_true rfl) rfl ?_
      refine v_aload_n 36 hF dX4_look_36 rfl 0 rfl ?_
      refine v_iload_n 37 hF dX4_look_37 rfl 3 rfl ?_
      refine v_if_eq 38 45 hF dX4_look_38 (by decide) (fun c6 => ?_) (fun c6 => ?_)
      · replace h := h.1 c6
        refine v_aload_n 45 hF dX4_look_45 rfl 0 rfl ?_
        refine v_getO 46 hF in_X5 0 rfl rfl 1 (Nat.le_of_ble_eq_true rfl) q336 rfl dX4_look_46 ?_
        refine v_putA ([(o, .inr (8, [.int be, .int mo, .ref w, .ref w]))] ++ []) 49 hF in_X5 tyX5_ok nm2X5 0 rfl rfl 1 (Nat.le_of_ble_eq_true rfl) q336 rfl rfl rfl rfl (Nat.le_of_ble_eq_true rfl) rfl dX4_look_49 ?_
        refine v_aload_n 52 hF dX4_look_52 rfl 0 rfl ?_
        refine v_iload_n 53 hF dX4_look_53 rfl 3 rfl ?_
        refine v_if_eq 54 61 hF dX4_look_54 (by decide) (fun c7 => ?_) (fun c7 => ?_)
        · replace h := h.1 c7
          refine v_aload_n 61 hF dX4_look_61 rfl 0 rfl ?_
          refine v_getO 62 hF in_X5 0 rfl rfl 0 (Nat.le_of_ble_eq_true rfl) q334 rfl dX4_look_62 ?_
          refine v_putA ([(o, .inr (8, [.int be, .int mo, .ref w, .ref w]))] ++ []) 65 hF in_X5 tyX5_ok nm2X5 0 rfl rfl 0 (Nat.le_of_ble_eq_true rfl) q334 rfl rfl rfl rfl (Nat.le_of_ble_eq_true rfl) rfl dX4_look_65 ?_
          exact v_vret (u := (be, mo)) 68 hF hR (Nat.le_of_ble_eq_true rfl) (Nat.le_of_ble_eq_true rfl) dX4_look_68 h
        · replace h := h.2 c7
          refine v_iload_n 57 hF dX4_look_57 rfl 1 rfl ?_
          refine v_goto 58 65 hF dX4_look_58 (by decide) ?_
          refine v_putA ([(o, .inr (8, [.int x1, .int mo, .ref w, .ref w]))] ++ []) 65 hF in_X5 tyX5_ok nm2X5 0 rfl rfl 0 (Nat.le_of_ble_eq_true rfl) q334 rfl rfl rfl rfl (Nat.le_of_ble_eq_true rfl) rfl dX4_look_65 ?_
          exact v_vret (u := (x1, mo)) 68 hF hR (Nat.le_of_ble_eq_true rfl) (Nat.le_of_ble_eq_true rfl) dX4_look_68 h
      · replace h := h.2 c6
        refine v_iload_n 41 hF dX4_look_41 rfl 2 rfl ?_
        refine v_goto 42 49 hF dX4_look_42 (by decide) ?_
        refine v_putA ([(o, .inr (8, [.int be, .int x2, .ref w, .ref w]))] ++ []) 49 hF in_X5 tyX5_ok nm2X5 0 rfl rfl 1 (Nat.le_of_ble_eq_true rfl) q336 rfl rfl rfl rfl (Nat.le_of_ble_eq_true rfl) rfl dX4_look_49 ?_
        refine v_aload_n 52 hF dX4_look_52 rfl 0 rfl ?_
        refine v_iload_n 53 hF dX4_look_53 rfl 3 rfl ?_
        refine v_if_eq 54 61 hF dX4_look_54 (by decide) (fun c8 => ?_) (fun c8 => ?_)
        · replace h := h.1 c8
          refine v_aload_n 61 hF dX4_look_61 rfl 0 rfl ?_
          refine v_getO 62 hF in_X5 0 rfl rfl 0 (Nat.le_of_ble_eq_true rfl) q334 rfl dX4_look_62 ?_
          refine v_putA ([(o, .inr (8, [.int be, .int x2, .ref w, .ref w]))] ++ []) 65 hF in_X5 tyX5_ok nm2X5 0 rfl rfl 0 (Nat.le_of_ble_eq_true rfl) q334 rfl rfl rfl rfl (Nat.le_of_ble_eq_true rfl) rfl dX4_look_65 ?_
          exact v_vret (u := (be, x2)) 68 hF hR (Nat.le_of_ble_eq_true rfl) (Nat.le_of_ble_eq_true rfl) dX4_look_68 h
        · replace h := h.2 c8
          refine v_iload_n 57 hF dX4_look_57 rfl 1 rfl ?_
          refine v_goto 58 65 hF dX4_look_58 (by decide) ?_
          refine v_putA ([(o, .inr (8, [.int x1, .int x2, .ref w, .ref w]))] ++ []) 65 hF in_X5 tyX5_ok nm2X5 0 rfl rfl 0 (Nat.le_of_ble_eq_true rfl) q334 rfl rfl rfl rfl (Nat.le_of_ble_eq_true rfl) rfl dX4_look_65 ?_
          exact v_vret (u := (x1, x2)) 68 hF hR (Nat.le_of_ble_eq_true rfl) (Nat.le_of_ble_eq_true rfl) dX4_look_68 h
    · replace h := h.2 c5
      refine v_iload_n 16 hF dX4_look_16 rfl 1 rfl ?_
      refine v_callS0i (As := [.int x1]) 17 hF (c_J20_bitCount l D x1 _ h) q1122 q478 q101 q479 ds_J20_bitCount ⟨rfl, rfl, (Nat.le_of_ble_eq_true rfl), (Nat.le_of_ble_eq_true rfl)⟩ (Nat.le_of_ble_eq_true rfl) ⟨(Nat.le_of_ble_eq_true rfl), (Nat.le_of_ble_eq_true rfl)⟩ dX4_look_17 (fun r9 h => ?_)
      refine v_aload_n 20 hF dX4_look_20 rfl 0 rfl ?_
      refine v_getO 21 hF in_X5 0 rfl rfl 0 (Nat.le_of_ble_eq_true rfl) q334 rfl dX4_look_21 ?_
      refine v_callS0i (As := [.int be]) 24 hF (c_J20_bitCount l D be _ h) q1122 q478 q101 q479 ds_J20_bitCount ⟨rfl, rfl, (Nat.le_of_ble_eq_true rfl), (Nat.le_of_ble_eq_true rfl)⟩ (Nat.le_of_ble_eq_true rfl) ⟨(Nat.le_of_ble_eq_true rfl), (Nat.le_of_ble_eq_true rfl)⟩ dX4_look_24 (fun r10 h => ?_)
      refine v_icmp_ge 27 34 hF dX4_look_27 (by decide) (fun c11 => ?_) (fun c11 => ?_)
      · replace h := h.1 c11
        refine v_iconst (v := 0) 34 hF dX4_look_34 (by decide) ?_
        refine v_istore_n [(0, .ref o), (1, .int x1), (2, .int x2), (3, .int ((0 : Int32)))] [1, 2, 3, 0] 35 hF dX4_look_35 rfl (Nat.le_of_ble_eq_true rfl) rfl ?_
        refine v_aload_n 36 hF dX4_look_36 rfl 0 rfl ?_
        refine v_iload_n 37 hF dX4_look_37 rfl 3 rfl ?_
        refine v_if_eq 38 45 hF dX4_look_38 (by decide) (fun c12 => ?_) (fun c12 => ?_)
        · replace h := h.1 c12
          refine v_aload_n 45 hF dX4_look_45 rfl 0 rfl ?_
          refine v_getO 46 hF in_X5 0 rfl rfl 1 (Nat.le_of_ble_eq_true rfl) q336 rfl dX4_look_46 ?_
          refine v_putA ([(o, .inr (8, [.int be, .int mo, .ref w, .ref w]))] ++ []) 49 hF in_X5 tyX5_ok nm2X5 0 rfl rfl 1 (Nat.le_of_ble_eq_true rfl) q336 rfl rfl rfl rfl (Nat.le_of_ble_eq_true rfl) rfl dX4_look_49 ?_
          refine v_aload_n 52 hF dX4_look_52 rfl 0 rfl ?_
          refine v_iload_n 53 hF dX4_look_53 rfl 3 rfl ?_
          refine v_if_eq 54 61 hF dX4_look_54 (by decide) (fun c13 => ?_) (fun c13 => ?_)
          · replace h := h.1 c13
            refine v_aload_n 61 hF dX4_look_61 rfl 0 rfl ?_
            refine v_getO 62 hF in_X5 0 rfl rfl 0 (Nat.le_of_ble_eq_true rfl) q334 rfl dX4_look_62 ?_
            refine v_putA ([(o, .inr (8, [.int be, .int mo, .ref w, .ref w]))] ++ []) 65 hF in_X5 tyX5_ok nm2X5 0 rfl rfl 0 (Nat.le_of_ble_eq_true rfl) q334 rfl rfl rfl rfl (Nat.le_of_ble_eq_true rfl) rfl dX4_look_65 ?_
            exact v_vret (u := (be, mo)) 68 hF hR (Nat.le_of_ble_eq_true rfl) (Nat.le_of_ble_eq_true rfl) dX4_look_68 h
          · replace h := h.2 c13
            refine v_iload_n 57 hF dX4_look_57 rfl 1 rfl ?_
            refine v_goto 58 65 hF dX4_look_58 (by decide) ?_
            refine v_putA ([(o, .inr (8, [.int x1, .int mo, .ref w, .ref w]))] ++ []) 65 hF in_X5 tyX5_ok nm2X5 0 rfl rfl 0 (Nat.le_of_ble_eq_true rfl) q334 rfl rfl rfl rfl (Nat.le_of_ble_eq_true rfl) rfl dX4_look_65 ?_
            exact v_vret (u := (x1, mo)) 68 hF hR (Nat.le_of_ble_eq_true rfl) (Nat.le_of_ble_eq_true rfl) dX4_look_68 h
        · replace h := h.2 c12
          refine v_iload_n 41 hF dX4_look_41 rfl 2 rfl ?_
          refine v_goto 42 49 hF dX4_look_42 (by decide) ?_
          refine v_putA ([(o, .inr (8, [.int be, .int x2, .ref w, .ref w]))] ++ []) 49 hF in_X5 tyX5_ok nm2X5 0 rfl rfl 1 (Nat.le_of_ble_eq_true rfl) q336 rfl rfl rfl rfl (Nat.le_of_ble_eq_true rfl) rfl dX4_look_49 ?_
          refine v_aload_n 52 hF dX4_look_52 rfl 0 rfl ?_
          refine v_iload_n 53 hF dX4_look_53 rfl 3 rfl ?_
          refine v_if_eq 54 61 hF dX4_look_54 (by decide) (fun c14 => ?_) (fun c14 => ?_)
          · replace h := h.1 c14
            refine v_aload_n 61 hF dX4_look_61 rfl 0 rfl ?_
            refine v_getO 62 hF in_X5 0 rfl rfl 0 (Nat.le_of_ble_eq_true rfl) q334 rfl dX4_look_62 ?_
            refine v_putA ([(o, .inr (8, [.int be, .int x2, .ref w, .ref w]))] ++ []) 65 hF in_X5 tyX5_ok nm2X5 0 rfl rfl 0 (Nat.le_of_ble_eq_true rfl) q334 rfl rfl rfl rfl (Nat.le_of_ble_eq_true rfl) rfl dX4_look_65 ?_
            exact v_vret (u := (be, x2)) 68 hF hR (Nat.le_of_ble_eq_true rfl) (Nat.le_of_ble_eq_true rfl) dX4_look_68 h
          · replace h := h.2 c14
            refine v_iload_n 57 hF dX4_look_57 rfl 1 rfl ?_
            refine v_goto 58 65 hF dX4_look_58 (by decide) ?_
            refine v_putA ([(o, .inr (8, [.int x1, .int x2, .ref w, .ref w]))] ++ []) 65 hF in_X5 tyX5_ok nm2X5 0 rfl rfl 0 (Nat.le_of_ble_eq_true rfl) q334 rfl rfl rfl rfl (Nat.le_of_ble_eq_true rfl) rfl dX4_look_65 ?_
            exact v_vret (u := (x1, x2)) 68 hF hR (Nat.le_of_ble_eq_true rfl) (Nat.le_of_ble_eq_true rfl) dX4_look_68 h
      · replace h := h.2 c11
        refine v_iconst (v := 1) 30 hF dX4_look_30 (by decide) ?_
        refine v_goto 31 35 hF dX4_look_31 (by decide) ?_
        refine v_istore_n [(0, .ref o), (1, .int x1), (2, .int x2), (3, .int ((1 : Int32)))] [1, 2, 3, 0] 35 hF dX4_look_35 rfl (Nat.le_of_ble_eq_true rfl) rfl ?_
        refine v_aload_n 36 hF dX4_look_36 rfl 0 rfl ?_
        refine v_iload_n 37 hF dX4_look_37 rfl 3 rfl ?_
        refine v_if_eq 38 45 hF dX4_look_38 (by decide) (fun c15 => ?_) (fun c15 => ?_)
        · replace h := h.1 c15
          refine v_aload_n 45 hF dX4_look_45 rfl 0 rfl ?_
          refine v_getO 46 hF in_X5 0 rfl rfl 1 (Nat.le_of_ble_eq_true rfl) q336 rfl dX4_look_46 ?_
          refine v_putA ([(o, .inr (8, [.int be, .int mo, .ref w, .ref w]))] ++ []) 49 hF in_X5 tyX5_ok nm2X5 0 rfl rfl 1 (Nat.le_of_ble_eq_true rfl) q336 rfl rfl rfl rfl (Nat.le_of_ble_eq_true rfl) rfl dX4_look_49 ?_
          refine v_aload_n 52 hF dX4_look_52 rfl 0 rfl ?_
          refine v_iload_n 53 hF dX4_look_53 rfl 3 rfl ?_
          refine v_if_eq 54 61 hF dX4_look_54 (by decide) (fun c16 => ?_) (fun c16 => ?_)
          · replace h := h.1 c16
            refine v_aload_n 61 hF dX4_look_61 rfl 0 rfl ?_
            refine v_getO 62 hF in_X5 0 rfl rfl 0 (Nat.le_of_ble_eq_true rfl) q334 rfl dX4_look_62 ?_
            refine v_putA ([(o, .inr (8, [.int be, .int mo, .ref w, .ref w]))] ++ []) 65 hF in_X5 tyX5_ok nm2X5 0 rfl rfl 0 (Nat.le_of_ble_eq_true rfl) q334 rfl rfl rfl rfl (Nat.le_of_ble_eq_true rfl) rfl dX4_look_65 ?_
            exact v_vret (u := (be, mo)) 68 hF hR (Nat.le_of_ble_eq_true rfl) (Nat.le_of_ble_eq_true rfl) dX4_look_68 h
          · replace h := h.2 c16
            refine v_iload_n 57 hF dX4_look_57 rfl 1 rfl ?_
            refine v_goto 58 65 hF dX4_look_58 (by decide) ?_
            refine v_putA ([(o, .inr (8, [.int x1, .int mo, .ref w, .ref w]))] ++ []) 65 hF in_X5 tyX5_ok nm2X5 0 rfl rfl 0 (Nat.le_of_ble_eq_true rfl) q334 rfl rfl rfl rfl (Nat.le_of_ble_eq_true rfl) rfl dX4_look_65 ?_
            exact v_vret (u := (x1, mo)) 68 hF hR (Nat.le_of_ble_eq_true rfl) (Nat.le_of_ble_eq_true rfl) dX4_look_68 h
        · replace h := h.2 c15
          refine v_iload_n 41 hF dX4_look_41 rfl 2 rfl ?_
          refine v_goto 42 49 hF dX4_look_42 (by decide) ?_
          refine v_putA ([(o, .inr (8, [.int be, .int x2, .ref w, .ref w]))] ++ []) 49 hF in_X5 tyX5_ok nm2X5 0 rfl rfl 1 (Nat.le_of_ble_eq_true rfl) q336 rfl rfl rfl rfl (Nat.le_of_ble_eq_true rfl) rfl dX4_look_49 ?_
          refine v_aload_n 52 hF dX4_look_52 rfl 0 rfl ?_
          refine v_iload_n 53 hF dX4_look_53 rfl 3 rfl ?_
          refine v_if_eq 54 61 hF dX4_look_54 (by decide) (fun c17 => ?_) (fun c17 => ?_)
          · replace h := h.1 c17
            refine v_aload_n 61 hF dX4_look_61 rfl 0 rfl ?_
            refine v_getO 62 hF in_X5 0 rfl rfl 0 (Nat.le_of_ble_eq_true rfl) q334 rfl dX4_look_62 ?_
            refine v_putA ([(o, .inr (8, [.int be, .int x2, .ref w, .ref w]))] ++ []) 65 hF in_X5 tyX5_ok nm2X5 0 rfl rfl 0 (Nat.le_of_ble_eq_true rfl) q334 rfl rfl rfl rfl (Nat.le_of_ble_eq_true rfl) rfl dX4_look_65 ?_
            exact v_vret (u := (be, x2)) 68 hF hR (Nat.le_of_ble_eq_true rfl) (Nat.le_of_ble_eq_true rfl) dX4_look_68 h
          · replace h := h.2 c17
            refine v_iload_n 57 hF dX4_look_57 rfl 1 rfl ?_
            refine v_goto 58 65 hF dX4_look_58 (by decide) ?_
            refine v_putA ([(o, .inr (8, [.int x1, .int x2, .ref w, .ref w]))] ++ []) 65 hF in_X5 tyX5_ok nm2X5 0 rfl rfl 0 (Nat.le_of_ble_eq_true rfl) q334 rfl rfl rfl rfl (Nat.le_of_ble_eq_true rfl) rfl dX4_look_65 ?_
            exact v_vret (u := (x1, x2)) 68 hF hR (Nat.le_of_ble_eq_true rfl) (Nat.le_of_ble_eq_true rfl) dX4_look_68 h
def w_X4_look_X6 (o : Nat) (be : Int32) (mo : Int32) (w : Nat) (x1 : Int32) (x2 : Int32) (Q : ((Int32) × (Int32)) → Prop) : Prop :=
  ((mo < x2 → (((1 : Int32) = 0 → (((1 : Int32) = 0 → Q ((be, mo))) ∧ (¬ (1 : Int32) = 0 → Q ((x1, mo))))) ∧ (¬ (1 : Int32) = 0 → (((1 : Int32) = 0 → Q ((be, x2))) ∧ (¬ (1 : Int32) = 0 → Q ((x1, x2))))))) ∧ (¬ mo < x2 → ((¬ x2 = mo → (((0 : Int32) = 0 → (((0 : Int32) = 0 → Q ((be, mo))) ∧ (¬ (0 : Int32) = 0 → Q ((x1, mo))))) ∧ (¬ (0 : Int32) = 0 → (((0 : Int32) = 0 → Q ((be, x2))) ∧ (¬ (0 : Int32) = 0 → Q ((x1, x2))))))) ∧ (x2 = mo → w_J20_bitCount x1 (fun r9 => w_J20_bitCount be (fun r10 => ((r10 ≤ r9 → (((0 : Int32) = 0 → (((0 : Int32) = 0 → Q ((be, mo))) ∧ (¬ (0 : Int32) = 0 → Q ((x1, mo))))) ∧ (¬ (0 : Int32) = 0 → (((0 : Int32) = 0 → Q ((be, x2))) ∧ (¬ (0 : Int32) = 0 → Q ((x1, x2))))))) ∧ (¬ r10 ≤ r9 → (((1 : Int32) = 0 → (((1 : Int32) = 0 → Q ((be, mo))) ∧ (¬ (1 : Int32) = 0 → Q ((x1, mo))))) ∧ (¬ (1 : Int32) = 0 → (((1 : Int32) = 0 → Q ((be, x2))) ∧ (¬ (1 : Int32) = 0 → Q ((x1, x2))))))))))))))
set_option maxHeartbeats 4000000 in
theorem c_X4_look_X6 (l : Launch) (D : va_G) (o : Nat) (be : Int32) (mo : Int32) (w : Nat) (x1 : Int32) (x2 : Int32) (Q : ((Int32) × (Int32)) → Prop) (h : w_X4_look_X6 o be mo w x1 x2 Q) : Ctv l D yX4_look cX4_look 4 (rmk 1 0 0 20) [.ref o, .int x1, .int x2] ([(o, .inr (9, [.int be, .int mo, .ref w, .ref w]))] ++ []) (fun u : (Int32) × (Int32) => ([(o, .inr (9, [.int (u.1), .int (u.2), .ref w, .ref w]))] ++ [])) Q 0 0 := by
  refine Ctv.of (by decide) (Nat.le_of_ble_eq_true rfl) (fun x hF hR => ?_)
  replace hF : vF x l D "BrookWeirs$Side" cX4_look (rmk 1 0 0 20) 4 none := hF
  unfold w_X4_look_X6 at h
  refine v_iload_n 0 hF dX4_look_0 rfl 2 rfl ?_
  refine v_aload_n 1 hF dX4_look_1 rfl 0 rfl ?_
  refine v_getO 2 hF in_X6 0 rfl rfl 1 (Nat.le_of_ble_eq_true rfl) q336 rfl dX4_look_2 ?_
  refine v_icmp_gt 5 30 hF dX4_look_5 (by decide) (fun c1 => ?_) (fun c1 => ?_)
  · replace h := h.1 c1
    refine v_iconst (v := 1) 30 hF dX4_look_30 (by decide) ?_
    refine v_goto 31 35 hF dX4_look_31 (by decide) ?_
    refine v_istore_n [(0, .ref o), (1, .int x1), (2, .int x2), (3, .int ((1 : Int32)))] [1, 2, 3, 0] 35 hF dX4_look_35 rfl (Nat.le_of_ble_eq_true rfl) rfl ?_
    refine v_aload_n 36 hF dX4_look_36 rfl 0 rfl ?_
    refine v_iload_n 37 hF dX4_look_37 rfl 3 rfl ?_
    refine v_if_eq 38 45 hF dX4_look_38 (by decide) (fun c2 => ?_) (fun c2 => ?_)
    · replace h := h.1 c2
      refine v_aload_n 45 hF dX4_look_45 rfl 0 rfl ?_
      refine v_getO 46 hF in_X6 0 rfl rfl 1 (Nat.le_of_ble_eq_true rfl) q336 rfl dX4_look_46 ?_
      refine v_putA ([(o, .inr (9, [.int be, .int mo, .ref w, .ref w]))] ++ []) 49 hF in_X6 tyX6_ok nm2X6 0 rfl rfl 1 (Nat.le_of_ble_eq_true rfl) q336 rfl rfl rfl rfl (Nat.le_of_ble_eq_true rfl) rfl dX4_look_49 ?_
      refine v_aload_n 52 hF dX4_look_52 rfl 0 rfl ?_
      refine v_iload_n 53 hF dX4_look_53 rfl 3 rfl ?_
      refine v_if_eq 54 61 hF dX4_look_54 (by decide) (fun c3 => ?_) (fun c3 => ?_)
      · replace h := h.1 c3
        refine v_aload_n 61 hF dX4_look_61 rfl 0 rfl ?_
        refine v_getO 62 hF in_X6 0 rfl rfl 0 (Nat.le_of_ble_eq_true rfl) q334 rfl dX4_look_62 ?_
        refine v_putA ([(o, .inr (9, [.int be, .int mo, .ref w, .ref w]))] ++ []) 65 hF in_X6 tyX6_ok nm2X6 0 rfl rfl 0 (Nat.le_of_ble_eq_true rfl) q334 rfl rfl rfl rfl (Nat.le_of_ble_eq_true rfl) rfl dX4_look_65 ?_
        exact v_vret (u := (be, mo)) 68 hF hR (Nat.le_of_ble_eq_true rfl) (Nat.le_of_ble_eq_true rfl) dX4_look_68 h
      · replace h := h.2 c3
        refine v_iload_n 57 hF dX4_look_57 rfl 1 rfl ?_
        refine v_goto 58 65 hF dX4_look_58 (by decide) ?_
        refine v_putA ([(o, .inr (9, [.int x1, .int mo, .ref w, .ref w]))] ++ []) 65 hF in_X6 tyX6_ok nm2X6 0 rfl rfl 0 (Nat.le_of_ble_eq_true rfl) q334 rfl rfl rfl rfl (Nat.le_of_ble_eq_true rfl) rfl dX4_look_65 ?_
        exact v_vret (u := (x1, mo)) 68 hF hR (Nat.le_of_ble_eq_true rfl) (Nat.le_of_ble_eq_true rfl) dX4_look_68 h
    · replace h := h.2 c2
      refine v_iload_n 41 hF dX4_look_41 rfl 2 rfl ?_
      refine v_goto 42 49 hF dX4_look_42 (by decide) ?_
      refine v_putA ([(o, .inr (9, [.int be, .int x2, .ref w, .ref w]))] ++ []) 49 hF in_X6 tyX6_ok nm2X6 0 rfl rfl 1 (Nat.le_of_ble_eq_true rfl) q336 rfl rfl rfl rfl (Nat.le_of_ble_eq_true rfl) rfl dX4_look_49 ?_
      refine v_aload_n 52 hF dX4_look_52 rfl 0 rfl ?_
      refine v_iload_n 53 hF dX4_look_53 rfl 3 rfl ?_
      refine v_if_eq 54 61 hF dX4_look_54 (by decide) (fun c4 => ?_) (fun c4 => ?_)
      · replace h := h.1 c4
        refine v_aload_n 61 hF dX4_look_61 rfl 0 rfl ?_
        refine v_getO 62 hF in_X6 0 rfl rfl 0 (Nat.le_of_ble_eq_true rfl) q334 rfl dX4_look_62 ?_
        refine v_putA ([(o, .inr (9, [.int be, .int x2, .ref w, .ref w]))] ++ []) 65 hF in_X6 tyX6_ok nm2X6 0 rfl rfl 0 (Nat.le_of_ble_eq_true rfl) q334 rfl rfl rfl rfl (Nat.le_of_ble_eq_true rfl) rfl dX4_look_65 ?_
        exact v_vret (u := (be, x2)) 68 hF hR (Nat.le_of_ble_eq_true rfl) (Nat.le_of_ble_eq_true rfl) dX4_look_68 h
      · replace h := h.2 c4
        refine v_iload_n 57 hF dX4_look_57 rfl 1 rfl ?_
        refine v_goto 58 65 hF dX4_look_58 (by decide) ?_
        refine v_putA ([(o, .inr (9, [.int x1, .int x2, .ref w, .ref w]))] ++ []) 65 hF in_X6 tyX6_ok nm2X6 0 rfl rfl 0 (Nat.le_of_ble_eq_true rfl) q334 rfl rfl rfl rfl (Nat.le_of_ble_eq_true rfl) rfl dX4_look_65 ?_
        exact v_vret (u := (x1, x2)) 68 hF hR (Nat.le_of_ble_eq_true rfl) (Nat.le_of_ble_eq_true rfl) dX4_look_68 h
  · replace h := h.2 c1
    refine v_iload_n 8 hF dX4_look_8 rfl 2 rfl ?_
    refine v_aload_n 9 hF dX4_look_9 rfl 0 rfl ?_
    refine v_getO 10 hF in_X6 0 rfl rfl 1 (Nat.le_of_ble_eq_true rfl) q336 rfl dX4_look_10 ?_
    refine v_icmp_ne 13 34 hF dX4_look_13 (by decide) (fun c5 => ?_) (fun c5 => ?_)
    · replace h := h.1 c5
      refine v_iconst (v := 0) 34 hF dX4_look_34 (by decide) ?_
      refine v_istore_n [(0, .ref o), (1, .int x1), (2, .int x2), (3, .int ((0 : Int32)))] [1, 2, 3, 0] 35 hF dX4_look_35 rfl (Nat.le_of_ble_eq_true rfl) rfl ?_
      refine v_aload_n 36 hF dX4_look_36 rfl 0 rfl ?_
      refine v_iload_n 37 hF dX4_look_37 rfl 3 rfl ?_
      refine v_if_eq 38 45 hF dX4_look_38 (by decide) (fun c6 => ?_) (fun c6 => ?_)
      · replace h := h.1 c6
        refine v_aload_n 45 hF dX4_look_45 rfl 0 rfl ?_
        refine v_getO 46 hF in_X6 0 rfl rfl 1 (Nat.le_of_ble_eq_true rfl) q336 rfl dX4_look_46 ?_
        refine v_putA ([(o, .inr (9, [.int be, .int mo, .ref w, .ref w]))] ++ []) 49 hF in_X6 tyX6_ok nm2X6 0 rfl rfl 1 (Nat.le_of_ble_eq_true rfl) q336 rfl rfl rfl rfl (Nat.le_of_ble_eq_true rfl) rfl dX4_look_49 ?_
        refine v_aload_n 52 hF dX4_look_52 rfl 0 rfl ?_
        refine v_iload_n 53 hF dX4_look_53 rfl 3 rfl ?_
        refine v_if_eq 54 61 hF dX4_look_54 (by decide) (fun c7 => ?_) (fun c7 => ?_)
        · replace h := h.1 c7
          refine v_aload_n 61 hF dX4_look_61 rfl 0 rfl ?_
          refine v_getO 62 hF in_X6 0 rfl rfl 0 (Nat.le_of_ble_eq_true rfl) q334 rfl dX4_look_62 ?_
          refine v_putA ([(o, .inr (9, [.int be, .int mo, .ref w, .ref w]))] ++ []) 65 hF in_X6 tyX6_ok nm2X6 0 rfl rfl 0 (Nat.le_of_ble_eq_true rfl) q334 rfl rfl rfl rfl (Nat.le_of_ble_eq_true rfl) rfl dX4_look_65 ?_
          exact v_vret (u := (be, mo)) 68 hF hR (Nat.le_of_ble_eq_true rfl) (Nat.le_of_ble_eq_true rfl) dX4_look_68 h
        · replace h := h.2 c7
          refine v_iload_n 57 hF dX4_look_57 rfl 1 rfl ?_
          refine v_goto 58 65 hF dX4_look_58 (by decide) ?_
          refine v_putA ([(o, .inr (9, [.int x1, .int mo, .ref w, .ref w]))] ++ []) 65 hF in_X6 tyX6_ok nm2X6 0 rfl rfl 0 (Nat.le_of_ble_eq_true rfl) q334 rfl rfl rfl rfl (Nat.le_of_ble_eq_true rfl) rfl dX4_look_65 ?_
          exact v_vret (u := (x1, mo)) 68 hF hR (Nat.le_of_ble_eq_true rfl) (Nat.le_of_ble_eq_true rfl) dX4_look_68 h
      · replace h := h.2 c6
        refine v_iload_n 41 hF dX4_look_41 rfl 2 rfl ?_
        refine v_goto 42 49 hF dX4_look_42 (by decide) ?_
        refine v_putA ([(o, .inr (9, [.int be, .int x2, .ref w, .ref w]))] ++ []) 49 hF in_X6 tyX6_ok nm2X6 0 rfl rfl 1 (Nat.le_of_ble_eq_true rfl) q336 rfl rfl rfl rfl (Nat.le_of_ble_eq_true rfl) rfl dX4_look_49 ?_
        refine v_aload_n 52 hF dX4_look_52 rfl 0 rfl ?_
        refine v_iload_n 53 hF dX4_look_53 rfl 3 rfl ?_
        refine v_if_eq 54 61 hF dX4_look_54 (by decide) (fun c8 => ?_) (fun c8 => ?_)
        · replace h := h.1 c8
          refine v_aload_n 61 hF dX4_look_61 rfl 0 rfl ?_
          refine v_getO 62 hF in_X6 0 rfl rfl 0 (Nat.le_of_ble_eq_true rfl) q334 rfl dX4_look_62 ?_
          refine v_putA ([(o, .inr (9, [.int be, .int x2, .ref w, .ref w]))] ++ []) 65 hF in_X6 tyX6_ok nm2X6 0 rfl rfl 0 (Nat.le_of_ble_eq_true rfl) q334 rfl rfl rfl rfl (Nat.le_of_ble_eq_true rfl) rfl dX4_look_65 ?_
          exact v_vret (u := (be, x2)) 68 hF hR (Nat.le_of_ble_eq_true rfl) (Nat.le_of_ble_eq_true rfl) dX4_look_68 h
        · replace h := h.2 c8
          refine v_iload_n 57 hF dX4_look_57 rfl 1 rfl ?_
          refine v_goto 58 65 hF dX4_look_58 (by decide) ?_
          refine v_putA ([(o, .inr (9, [.int x1, .int x2, .ref w, .ref w]))] ++ []) 65 hF in_X6 tyX6_ok nm2X6 0 rfl rfl 0 (Nat.le_of_ble_eq_true rfl) q334 rfl rfl rfl rfl (Nat.le_of_ble_eq_true rfl) rfl dX4_look_65 ?_
          exact v_vret (u := (x1, x2)) 68 hF hR (Nat.le_of_ble_eq_true rfl) (Nat.le_of_ble_eq_true rfl) dX4_look_68 h
    · replace h := h.2 c5
      refine v_iload_n 16 hF dX4_look_16 rfl 1 rfl ?_
      refine v_callS0i (As := [.int x1]) 17 hF (c_J20_bitCount l D x1 _ h) q1122 q478 q101 q479 ds_J20_bitCount ⟨rfl, rfl, (Nat.le_of_ble_eq_true rfl), (Nat.le_of_ble_eq_true rfl)⟩ (Nat.le_of_ble_eq_true rfl) ⟨(Nat.le_of_ble_eq_true rfl), (Nat.le_of_ble_eq_true rfl)⟩ dX4_look_17 (fun r9 h => ?_)
      refine v_aload_n 20 hF dX4_look_20 rfl 0 rfl ?_
      refine v_getO 21 hF in_X6 0 rfl rfl 0 (Nat.le_of_ble_eq_true rfl) q334 rfl dX4_look_21 ?_
      refine v_callS0i (As := [.int be]) 24 hF (c_J20_bitCount l D be _ h) q1122 q478 q101 q479 ds_J20_bitCount ⟨rfl, rfl, (Nat.le_of_ble_eq_true rfl), (Nat.le_of_ble_eq_true rfl)⟩ (Nat.le_of_ble_eq_true rfl) ⟨(Nat.le_of_ble_eq_true rfl), (Nat.le_of_ble_eq_true rfl)⟩ dX4_look_24 (fun r10 h => ?_)
      refine v_icmp_ge 27 34 hF dX4_look_27 (by decide) (fun c11 => ?_) (fun c11 => ?_)
      · replace h := h.1 c11
        refine v_iconst (v := 0) 34 hF dX4_look_34 (by decide) ?_
        refine v_istore_n [(0, .ref o), (1, .int x1), (2, .int x2), (3, .int ((0 : Int32)))] [1, 2, 3, 0] 35 hF dX4_look_35 rfl (Nat.le_of_ble_eq_true rfl) rfl ?_
        refine v_aload_n 36 hF dX4_look_36 rfl 0 rfl ?_
        refine v_iload_n 37 hF dX4_look_37 rfl 3 rfl ?_
        refine v_if_eq 38 45 hF dX4_look_38 (by decide) (fun c12 => ?_) (fun c12 => ?_)
        · replace h := h.1 c12
          refine v_aload_n 45 hF dX4_look_45 rfl 0 rfl ?_
          refine v_getO 46 hF in_X6 0 rfl rfl 1 (Nat.le_of_ble_eq_true rfl) q336 rfl dX4_look_46 ?_
          refine v_putA ([(o, .inr (9, [.int be, .int mo, .ref w, .ref w]))] ++ []) 49 hF in_X6 tyX6_ok nm2X6 0 rfl rfl 1 (Nat.le_of_ble_eq_true rfl) q336 rfl rfl rfl rfl (Nat.le_of_ble_eq_true rfl) rfl dX4_look_49 ?_
          refine v_aload_n 52 hF dX4_look_52 rfl 0 rfl ?_
          refine v_iload_n 53 hF dX4_look_53 rfl 3 rfl ?_
          refine v_if_eq 54 61 hF dX4_look_54 (by decide) (fun c13 => ?_) (fun c13 => ?_)
          · replace h := h.1 c13
            refine v_aload_n 61 hF dX4_look_61 rfl 0 rfl ?_
            refine v_getO 62 hF in_X6 0 rfl rfl 0 (Nat.le_of_ble_eq_true rfl) q334 rfl dX4_look_62 ?_
            refine v_putA ([(o, .inr (9, [.int be, .int mo, .ref w, .ref w]))] ++ []) 65 hF in_X6 tyX6_ok nm2X6 0 rfl rfl 0 (Nat.le_of_ble_eq_true rfl) q334 rfl rfl rfl rfl (Nat.le_of_ble_eq_true rfl) rfl dX4_look_65 ?_
            exact v_vret (u := (be, mo)) 68 hF hR (Nat.le_of_ble_eq_true rfl) (Nat.le_of_ble_eq_true rfl) dX4_look_68 h
          · replace h := h.2 c13
            refine v_iload_n 57 hF dX4_look_57 rfl 1 rfl ?_
            refine v_goto 58 65 hF dX4_look_58 (by decide) ?_
            refine v_putA ([(o, .inr (9, [.int x1, .int mo, .ref w, .ref w]))] ++ []) 65 hF in_X6 tyX6_ok nm2X6 0 rfl rfl 0 (Nat.le_of_ble_eq_true rfl) q334 rfl rfl rfl rfl (Nat.le_of_ble_eq_true rfl) rfl dX4_look_65 ?_
            exact v_vret (u := (x1, mo)) 68 hF hR (Nat.le_of_ble_eq_true rfl) (Nat.le_of_ble_eq_true rfl) dX4_look_68 h
        · replace h := h.2 c12
          refine v_iload_n 41 hF dX4_look_41 rfl 2 rfl ?_
          refine v_goto 42 49 hF dX4_look_42 (by decide) ?_
          refine v_putA ([(o, .inr (9, [.int be, .int x2, .ref w, .ref w]))] ++ []) 49 hF in_X6 tyX6_ok nm2X6 0 rfl rfl 1 (Nat.le_of_ble_eq_true rfl) q336 rfl rfl rfl rfl (Nat.le_of_ble_eq_true rfl) rfl dX4_look_49 ?_
          refine v_aload_n 52 hF dX4_look_52 rfl 0 rfl ?_
          refine v_iload_n 53 hF dX4_look_53 rfl 3 rfl ?_
          refine v_if_eq 54 61 hF dX4_look_54 (by decide) (fun c14 => ?_) (fun c14 => ?_)
          · replace h := h.1 c14
            refine v_aload_n 61 hF dX4_look_61 rfl 0 rfl ?_
            refine v_getO 62 hF in_X6 0 rfl rfl 0 (Nat.le_of_ble_eq_true rfl) q334 rfl dX4_look_62 ?_
            refine v_putA ([(o, .inr (9, [.int be, .int x2, .ref w, .ref w]))] ++ []) 65 hF in_X6 tyX6_ok nm2X6 0 rfl rfl 0 (Nat.le_of_ble_eq_true rfl) q334 rfl rfl rfl rfl (Nat.le_of_ble_eq_true rfl) rfl dX4_look_65 ?_
            exact v_vret (u := (be, x2)) 68 hF hR (Nat.le_of_ble_eq_true rfl) (Nat.le_of_ble_eq_true rfl) dX4_look_68 h
          · replace h := h.2 c14
            refine v_iload_n 57 hF dX4_look_57 rfl 1 rfl ?_
            refine v_goto 58 65 hF dX4_look_58 (by decide) ?_
            refine v_putA ([(o, .inr (9, [.int x1, .int x2, .ref w, .ref w]))] ++ []) 65 hF in_X6 tyX6_ok nm2X6 0 rfl rfl 0 (Nat.le_of_ble_eq_true rfl) q334 rfl rfl rfl rfl (Nat.le_of_ble_eq_true rfl) rfl dX4_look_65 ?_
            exact v_vret (u := (x1, x2)) 68 hF hR (Nat.le_of_ble_eq_true rfl) (Nat.le_of_ble_eq_true rfl) dX4_look_68 h
      · replace h := h.2 c11
        refine v_iconst (v := 1) 30 hF dX4_look_30 (by decide) ?_
        refine v_goto 31 35 hF dX4_look_31 (by decide) ?_
        refine v_istore_n [(0, .ref o), (1, .int x1), (2, .int x2), (3, .int ((1 : Int32)))] [1, 2, 3, 0] 35 hF dX4_look_35 rfl (Nat.le_of_ble_eq_true rfl) rfl ?_
        refine v_aload_n 36 hF dX4_look_36 rfl 0 rfl ?_
        refine v_iload_n 37 hF dX4_look_37 rfl 3 rfl ?_
        refine v_if_eq 38 45 hF dX4_look_38 (by decide) (fun c15 => ?_) (fun c15 => ?_)
        · replace h := h.1 c15
          refine v_aload_n 45 hF dX4_look_45 rfl 0 rfl ?_
          refine v_getO 46 hF in_X6 0 rfl rfl 1 (Nat.le_of_ble_eq_true rfl) q336 rfl dX4_look_46 ?_
          refine v_putA ([(o, .inr (9, [.int be, .int mo, .ref w, .ref w]))] ++ []) 49 hF in_X6 tyX6_ok nm2X6 0 rfl rfl 1 (Nat.le_of_ble_eq_true rfl) q336 rfl rfl rfl rfl (Nat.le_of_ble_eq_true rfl) rfl dX4_look_49 ?_
          refine v_aload_n 52 hF dX4_look_52 rfl 0 rfl ?_
          refine v_iload_n 53 hF dX4_look_53 rfl 3 rfl ?_
          refine v_if_eq 54 61 hF dX4_look_54 (by decide) (fun c16 => ?_) (fun c16 => ?_)
          · replace h := h.1 c16
            refine v_aload_n 61 hF dX4_look_61 rfl 0 rfl ?_
            refine v_getO 62 hF in_X6 0 rfl rfl 0 (Nat.le_of_ble_eq_true rfl) q334 rfl dX4_look_62 ?_
            refine v_putA ([(o, .inr (9, [.int be, .int mo, .ref w, .ref w]))] ++ []) 65 hF in_X6 tyX6_ok nm2X6 0 rfl rfl 0 (Nat.le_of_ble_eq_true rfl) q334 rfl rfl rfl rfl (Nat.le_of_ble_eq_true rfl) rfl dX4_look_65 ?_
            exact v_vret (u := (be, mo)) 68 hF hR (Nat.le_of_ble_eq_true rfl) (Nat.le_of_ble_eq_true rfl) dX4_look_68 h
          · replace h := h.2 c16
            refine v_iload_n 57 hF dX4_look_57 rfl 1 rfl ?_
            refine v_goto 58 65 hF dX4_look_58 (by decide) ?_
            refine v_putA ([(o, .inr (9, [.int x1, .int mo, .ref w, .ref w]))] ++ []) 65 hF in_X6 tyX6_ok nm2X6 0 rfl rfl 0 (Nat.le_of_ble_eq_true rfl) q334 rfl rfl rfl rfl (Nat.le_of_ble_eq_true rfl) rfl dX4_look_65 ?_
            exact v_vret (u := (x1, mo)) 68 hF hR (Nat.le_of_ble_eq_true rfl) (Nat.le_of_ble_eq_true rfl) dX4_look_68 h
        · replace h := h.2 c15
          refine v_iload_n 41 hF dX4_look_41 rfl 2 rfl ?_
          refine v_goto 42 49 hF dX4_look_42 (by decide) ?_
          refine v_putA ([(o, .inr (9, [.int be, .int x2, .ref w, .ref w]))] ++ []) 49 hF in_X6 tyX6_ok nm2X6 0 rfl rfl 1 (Nat.le_of_ble_eq_true rfl) q336 rfl rfl rfl rfl (Nat.le_of_ble_eq_true rfl) rfl dX4_look_49 ?_
          refine v_aload_n 52 hF dX4_look_52 rfl 0 rfl ?_
          refine v_iload_n 53 hF dX4_look_53 rfl 3 rfl ?_
          refine v_if_eq 54 61 hF dX4_look_54 (by decide) (fun c17 => ?_) (fun c17 => ?_)
          · replace h := h.1 c17
            refine v_aload_n 61 hF dX4_look_61 rfl 0 rfl ?_
            refine v_getO 62 hF in_X6 0 rfl rfl 0 (Nat.le_of_ble_eq_true rfl) q334 rfl dX4_look_62 ?_
            refine v_putA ([(o, .inr (9, [.int be, .int x2, .ref w, .ref w]))] ++ []) 65 hF in_X6 tyX6_ok nm2X6 0 rfl rfl 0 (Nat.le_of_ble_eq_true rfl) q334 rfl rfl rfl rfl (Nat.le_of_ble_eq_true rfl) rfl dX4_look_65 ?_
            exact v_vret (u := (be, x2)) 68 hF hR (Nat.le_of_ble_eq_true rfl) (Nat.le_of_ble_eq_true rfl) dX4_look_68 h
          · replace h := h.2 c17
            refine v_iload_n 57 hF dX4_look_57 rfl 1 rfl ?_
            refine v_goto 58 65 hF dX4_look_58 (by decide) ?_
            refine v_putA ([(o, .inr (9, [.int x1, .int x2, .ref w, .ref w]))] ++ []) 65 hF in_X6 tyX6_ok nm2X6 0 rfl rfl 0 (Nat.le_of_ble_eq_true rfl) q334 rfl rfl rfl rfl (Nat.le_of_ble_eq_true rfl) rfl dX4_look_65 ?_
            exact v_vret (u := (x1, x2)) 68 hF hR (Nat.le_of_ble_eq_true rfl) (Nat.le_of_ble_eq_true rfl) dX4_look_68 h
def w_X4_look_X12 (o : Nat) (be : Int32) (mo : Int32) (w : Nat) (fs : Nat) (x1 : Int32) (x2 : Int32) (Q : ((Int32) × (Int32)) → Prop) : Prop :=
  ((mo < x2 → (((1 : Int32) = 0 → (((1 : Int32) = 0 → Q ((be, mo))) ∧ (¬ (1 : Int32) = 0 → Q ((x1, mo))))) ∧ (¬ (1 : Int32) = 0 → (((1 : Int32) = 0 → Q ((be, x2))) ∧ (¬ (1 : Int32) = 0 → Q ((x1, x2))))))) ∧ (¬ mo < x2 → ((¬ x2 = mo → (((0 : Int32) = 0 → (((0 : Int32) = 0 → Q ((be, mo))) ∧ (¬ (0 : Int32) = 0 → Q ((x1, mo))))) ∧ (¬ (0 : Int32) = 0 → (((0 : Int32) = 0 → Q ((be, x2))) ∧ (¬ (0 : Int32) = 0 → Q ((x1, x2))))))) ∧ (x2 = mo → w_J20_bitCount x1 (fun r9 => w_J20_bitCount be (fun r10 => ((r10 ≤ r9 → (((0 : Int32) = 0 → (((0 : Int32) = 0 → Q ((be, mo))) ∧ (¬ (0 : Int32) = 0 → Q ((x1, mo))))) ∧ (¬ (0 : Int32) = 0 → (((0 : Int32) = 0 → Q ((be, x2))) ∧ (¬ (0 : Int32) = 0 → Q ((x1, x2))))))) ∧ (¬ r10 ≤ r9 → (((1 : Int32) = 0 → (((1 : Int32) = 0 → Q ((be, mo))) ∧ (¬ (1 : Int32) = 0 → Q ((x1, mo))))) ∧ (¬ (1 : Int32) = 0 → (((1 : Int32) = 0 → Q ((be, x2))) ∧ (¬ (1 : Int32) = 0 → Q ((x1, x2))))))))))))))
set_option maxHeartbeats 4000000 in
theorem c_X4_look_X12 (l : Launch) (D : va_G) (o : Nat) (be : Int32) (mo : Int32) (w : Nat) (fs : Nat) (x1 : Int32) (x2 : Int32) (Q : ((Int32) × (Int32)) → Prop) (h : w_X4_look_X12 o be mo w fs x1 x2 Q) : Ctv l D yX4_look cX4_look 4 (rmk 1 0 0 20) [.ref o, .int x1, .int x2] ([(o, .inr (3, [.int be, .int mo, .ref w, .ref w, .ref fs, .ref w]))] ++ []) (fun u : (Int32) × (Int32) => ([(o, .inr (3, [.int (u.1), .int (u.2), .ref w, .ref w, .ref fs, .ref w]))] ++ [])) Q 0 0 := by
  refine Ctv.of (by decide) (Nat.le_of_ble_eq_true rfl) (fun x hF hR => ?_)
  replace hF : vF x l D "BrookWeirs$Side" cX4_look (rmk 1 0 0 20) 4 none := hF
  unfold w_X4_look_X12 at h
  refine v_iload_n 0 hF dX4_look_0 rfl 2 rfl ?_
  refine v_aload_n 1 hF dX4_look_1 rfl 0 rfl ?_
  refine v_getO 2 hF in_X12 0 rfl rfl 1 (Nat.le_of_ble_eq_true rfl) q336 rfl dX4_look_2 ?_
  refine v_icmp_gt 5 30 hF dX4_look_5 (by decide) (fun c1 => ?_) (fun c1 => ?_)
  · replace h := h.1 c1
    refine v_iconst (v := 1) 30 hF dX4_look_30 (by decide) ?_
    refine v_goto 31 35 hF dX4_look_31 (by decide) ?_
    refine v_istore_n [(0, .ref o), (1, .int x1), (2, .int x2), (3, .int ((1 : Int32)))] [1, 2, 3, 0] 35 hF dX4_look_35 rfl (Nat.le_of_ble_eq_true rfl) rfl ?_
    refine v_aload_n 36 hF dX4_look_36 rfl 0 rfl ?_
    refine v_iload_n 37 hF dX4_look_37 rfl 3 rfl ?_
    refine v_if_eq 38 45 hF dX4_look_38 (by decide) (fun c2 => ?_) (fun c2 => ?_)
    · replace h := h.1 c2
      refine v_aload_n 45 hF dX4_look_45 rfl 0 rfl ?_
      refine v_getO 46 hF in_X12 0 rfl rfl 1 (Nat.le_of_ble_eq_true rfl) q336 rfl dX4_look_46 ?_
      refine v_putA ([(o, .inr (3, [.int be, .int mo, .ref w, .ref w, .ref fs, .ref w]))] ++ []) 49 hF in_X12 tyX12_ok nm2X12 0 rfl rfl 1 (Nat.le_of_ble_eq_true rfl) q336 rfl rfl rfl rfl (Nat.le_of_ble_eq_true rfl) rfl dX4_look_49 ?_
      refine v_aload_n 52 hF dX4_look_52 rfl 0 rfl ?_
      refine v_iload_n 53 hF dX4_look_53 rfl 3 rfl ?_
      refine v_if_eq 54 61 hF dX4_look_54 (by decide) (fun c3 => ?_) (fun c3 => ?_)
      · replace h := h.1 c3
        refine v_aload_n 61 hF dX4_look_61 rfl 0 rfl ?_
        refine v_getO 62 hF in_X12 0 rfl rfl 0 (Nat.le_of_ble_eq_true rfl) q334 rfl dX4_look_62 ?_
        refine v_putA ([(o, .inr (3, [.int be, .int mo, .ref w, .ref w, .ref fs, .ref w]))] ++ []) 65 hF in_X12 tyX12_ok nm2X12 0 rfl rfl 0 (Nat.le_of_ble_eq_true rfl) q334 rfl rfl rfl rfl (Nat.le_of_ble_eq_true rfl) rfl dX4_look_65 ?_
        exact v_vret (u := (be, mo)) 68 hF hR (Nat.le_of_ble_eq_true rfl) (Nat.le_of_ble_eq_true rfl) dX4_look_68 h
      · replace h := h.2 c3
        refine v_iload_n 57 hF dX4_look_57 rfl 1 rfl ?_
        refine v_goto 58 65 hF dX4_look_58 (by decide) ?_
        refine v_putA ([(o, .inr (3, [.int x1, .int mo, .ref w, .ref w, .ref fs, .ref w]))] ++ []) 65 hF in_X12 tyX12_ok nm2X12 0 rfl rfl 0 (Nat.le_of_ble_eq_true rfl) q334 rfl rfl rfl rfl (Nat.le_of_ble_eq_true rfl) rfl dX4_look_65 ?_
        exact v_vret (u := (x1, mo)) 68 hF hR (Nat.le_of_ble_eq_true rfl) (Nat.le_of_ble_eq_true rfl) dX4_look_68 h
    · replace h := h.2 c2
      refine v_iload_n 41 hF dX4_look_41 rfl 2 rfl ?_
      refine v_goto 42 49 hF dX4_look_42 (by decide) ?_
      refine v_putA ([(o, .inr (3, [.int be, .int x2, .ref w, .ref w, .ref fs, .ref w]))] ++ []) 49 hF in_X12 tyX12_ok nm2X12 0 rfl rfl 1 (Nat.le_of_ble_eq_true rfl) q336 rfl rfl rfl rfl (Nat.le_of_ble_eq_true rfl) rfl dX4_look_49 ?_
      refine v_aload_n 52 hF dX4_look_52 rfl 0 rfl ?_
      refine v_iload_n 53 hF dX4_look_53 rfl 3 rfl ?_
      refine v_if_eq 54 61 hF dX4_look_54 (by decide) (fun c4 => ?_) (fun c4 => ?_)
      · replace h := h.1 c4
        refine v_aload_n 61 hF dX4_look_61 rfl 0 rfl ?_
        refine v_getO 62 hF in_X12 0 rfl rfl 0 (Nat.le_of_ble_eq_true rfl) q334 rfl dX4_look_62 ?_
        refine v_putA ([(o, .inr (3, [.int be, .int x2, .ref w, .ref w, .ref fs, .ref w]))] ++ []) 65 hF in_X12 tyX12_ok nm2X12 0 rfl rfl 0 (Nat.le_of_ble_eq_true rfl) q334 rfl rfl rfl rfl (Nat.le_of_ble_eq_true rfl) rfl dX4_look_65 ?_
        exact v_vret (u := (be, x2)) 68 hF hR (Nat.le_of_ble_eq_true rfl) (Nat.le_of_ble_eq_true rfl) dX4_look_68 h
      · replace h := h.2 c4
        refine v_iload_n 57 hF dX4_look_57 rfl 1 rfl ?_
        refine v_goto 58 65 hF dX4_look_58 (by decide) ?_
        refine v_putA ([(o, .inr (3, [.int x1, .int x2, .ref w, .ref w, .ref fs, .ref w]))] ++ []) 65 hF in_X12 tyX12_ok nm2X12 0 rfl rfl 0 (Nat.le_of_ble_eq_true rfl) q334 rfl rfl rfl rfl (Nat.le_of_ble_eq_true rfl) rfl dX4_look_65 ?_
        exact v_vret (u := (x1, x2)) 68 hF hR (Nat.le_of_ble_eq_true rfl) (Nat.le_of_ble_eq_true rfl) dX4_look_68 h
  · replace h := h.2 c1
    refine v_iload_n 8 hF dX4_look_8 rfl 2 rfl ?_
    refine v_aload_n 9 hF dX4_look_9 rfl 0 rfl ?_
    refine v_getO 10 hF in_X12 0 rfl rfl 1 (Nat.le_of_ble_eq_true rfl) q336 rfl dX4_look_10 ?_
    refine v_icmp_ne 13 34 hF dX4_look_13 (by decide) (fun c5 => ?_) (fun c5 => ?_)
    · replace h := h.1 c5
      refine v_iconst (v := 0) 34 hF dX4_look_34 (by decide) ?_
      refine v_istore_n [(0, .ref o), (1, .int x1), (2, .int x2), (3, .int ((0 : Int32)))] [1, 2, 3, 0] 35 hF dX4_look_35 rfl (Nat.le_of_ble_eq_true rfl) rfl ?_
      refine v_aload_n 36 hF dX4_look_36 rfl 0 rfl ?_
      refine v_iload_n 37 hF dX4_look_37 rfl 3 rfl ?_
      refine v_if_eq 38 45 hF dX4_look_38 (by decide) (fun c6 => ?_) (fun c6 => ?_)
      · replace h := h.1 c6
        refine v_aload_n 45 hF dX4_look_45 rfl 0 rfl ?_
        refine v_getO 46 hF in_X12 0 rfl rfl 1 (Nat.le_of_ble_eq_true rfl) q336 rfl dX4_look_46 ?_
        refine v_putA ([(o, .inr (3, [.int be, .int mo, .ref w, .ref w, .ref fs, .ref w]))] ++ []) 49 hF in_X12 tyX12_ok nm2X12 0 rfl rfl 1 (Nat.le_of_ble_eq_true rfl) q336 rfl rfl rfl rfl (Nat.le_of_ble_eq_true rfl) rfl dX4_look_49 ?_
        refine v_aload_n 52 hF dX4_look_52 rfl 0 rfl ?_
        refine v_iload_n 53 hF dX4_look_53 rfl 3 rfl ?_
        refine v_if_eq 54 61 hF dX4_look_54 (by decide) (fun c7 => ?_) (fun c7 => ?_)
        · replace h := h.1 c7
          refine v_aload_n 61 hF dX4_look_61 rfl 0 rfl ?_
          refine v_getO 62 hF in_X12 0 rfl rfl 0 (Nat.le_of_ble_eq_true rfl) q334 rfl dX4_look_62 ?_
          refine v_putA ([(o, .inr (3, [.int be, .int mo, .ref w, .ref w, .ref fs, .ref w]))] ++ []) 65 hF in_X12 tyX12_ok nm2X12 0 rfl rfl 0 (Nat.le_of_ble_eq_true rfl) q334 rfl rfl rfl rfl (Nat.le_of_ble_eq_true rfl) rfl dX4_look_65 ?_
          exact v_vret (u := (be, mo)) 68 hF hR (Nat.le_of_ble_eq_true rfl) (Nat.le_of_ble_eq_true rfl) dX4_look_68 h
        · replace h := h.2 c7
          refine v_iload_n 57 hF dX4_look_57 rfl 1 rfl ?_
          refine v_goto 58 65 hF dX4_look_58 (by decide) ?_
          refine v_putA ([(o, .inr (3, [.int x1, .int mo, .ref w, .ref w, .ref fs, .ref w]))] ++ []) 65 hF in_X12 tyX12_ok nm2X12 0 rfl rfl 0 (Nat.le_of_ble_eq_true rfl) q334 rfl rfl rfl rfl (Nat.le_of_ble_eq_true rfl) rfl dX4_look_65 ?_
          exact v_vret (u := (x1, mo)) 68 hF hR (Nat.le_of_ble_eq_true rfl) (Nat.le_of_ble_eq_true rfl) dX4_look_68 h
      · replace h := h.2 c6
        refine v_iload_n 41 hF dX4_look_41 rfl 2 rfl ?_
        refine v_goto 42 49 hF dX4_look_42 (by decide) ?_
        refine v_putA ([(o, .inr (3, [.int be, .int x2, .ref w, .ref w, .ref fs, .ref w]))] ++ []) 49 hF in_X12 tyX12_ok nm2X12 0 rfl rfl 1 (Nat.le_of_ble_eq_true rfl) q336 rfl rfl rfl rfl (Nat.le_of_ble_eq_true rfl) rfl dX4_look_49 ?_
        refine v_aload_n 52 hF dX4_look_52 rfl 0 rfl ?_
        refine v_iload_n 53 hF dX4_look_53 rfl 3 rfl ?_
        refine v_if_eq 54 61 hF dX4_look_54 (by decide) (fun c8 => ?_) (fun c8 => ?_)
        · replace h := h.1 c8
          refine v_aload_n 61 hF dX4_look_61 rfl 0 rfl ?_
          refine v_getO 62 hF in_X12 0 rfl rfl 0 (Nat.le_of_ble_eq_true rfl) q334 rfl dX4_look_62 ?_
          refine v_putA ([(o, .inr (3, [.int be, .int x2, .ref w, .ref w, .ref fs, .ref w]))] ++ []) 65 hF in_X12 tyX12_ok nm2X12 0 rfl rfl 0 (Nat.le_of_ble_eq_true rfl) q334 rfl rfl rfl rfl (Nat.le_of_ble_eq_true rfl) rfl dX4_look_65 ?_
          exact v_vret (u := (be, x2)) 68 hF hR (Nat.le_of_ble_eq_true rfl) (Nat.le_of_ble_eq_true rfl) dX4_look_68 h
        · replace h := h.2 c8
          refine v_iload_n 57 hF dX4_look_57 rfl 1 rfl ?_
          refine v_goto 58 65 hF dX4_look_58 (by decide) ?_
          refine v_putA ([(o, .inr (3, [.int x1, .int x2, .ref w, .ref w, .ref fs, .ref w]))] ++ []) 65 hF in_X12 tyX12_ok nm2X12 0 rfl rfl 0 (Nat.le_of_ble_eq_true rfl) q334 rfl rfl rfl rfl (Nat.le_of_ble_eq_true rfl) rfl dX4_look_65 ?_
          exact v_vret (u := (x1, x2)) 68 hF hR (Nat.le_of_ble_eq_true rfl) (Nat.le_of_ble_eq_true rfl) dX4_look_68 h
    · replace h := h.2 c5
      refine v_iload_n 16 hF dX4_look_16 rfl 1 rfl ?_
      refine v_callS0i (As := [.int x1]) 17 hF (c_J20_bitCount l D x1 _ h) q1122 q478 q101 q479 ds_J20_bitCount ⟨rfl, rfl, (Nat.le_of_ble_eq_true rfl), (Nat.le_of_ble_eq_true rfl)⟩ (Nat.le_of_ble_eq_true rfl) ⟨(Nat.le_of_ble_eq_true rfl), (Nat.le_of_ble_eq_true rfl)⟩ dX4_look_17 (fun r9 h => ?_)
      refine v_aload_n 20 hF dX4_look_20 rfl 0 rfl ?_
      refine v_getO 21 hF in_X12 0 rfl rfl 0 (Nat.le_of_ble_eq_true rfl) q334 rfl dX4_look_21 ?_
      refine v_callS0i (As := [.int be]) 24 hF (c_J20_bitCount l D be _ h) q1122 q478 q101 q479 ds_J20_bitCount ⟨rfl, rfl, (Nat.le_of_ble_eq_true rfl), (Nat.le_of_ble_eq_true rfl)⟩ (Nat.le_of_ble_eq_true rfl) ⟨(Nat.le_of_ble_eq_true rfl), (Nat.le_of_ble_eq_true rfl)⟩ dX4_look_24 (fun r10 h => ?_)
      refine v_icmp_ge 27 34 hF dX4_look_27 (by decide) (fun c11 => ?_) (fun c11 => ?_)
      · replace h := h.1 c11
        refine v_iconst (v := 0) 34 hF dX4_look_34 (by decide) ?_
        refine v_istore_n [(0, .ref o), (1, .int x1), (2, .int x2), (3, .int ((0 : Int32)))] [1, 2, 3, 0] 35 hF dX4_look_35 rfl (Nat.le_of_ble_eq_true rfl) rfl ?_
        refine v_aload_n 36 hF dX4_look_36 rfl 0 rfl ?_
        refine v_iload_n 37 hF dX4_look_37 rfl 3 rfl ?_
        refine v_if_eq 38 45 hF dX4_look_38 (by decide) (fun c12 => ?_) (fun c12 => ?_)
        · replace h := h.1 c12
          refine v_aload_n 45 hF dX4_look_45 rfl 0 rfl ?_
          refine v_getO 46 hF in_X12 0 rfl rfl 1 (Nat.le_of_ble_eq_true rfl) q336 rfl dX4_look_46 ?_
          refine v_putA ([(o, .inr (3, [.int be, .int mo, .ref w, .ref w, .ref fs, .ref w]))] ++ []) 49 hF in_X12 tyX12_ok nm2X12 0 rfl rfl 1 (Nat.le_of_ble_eq_true rfl) q336 rfl rfl rfl rfl (Nat.le_of_ble_eq_true rfl) rfl dX4_look_49 ?_
          refine v_aload_n 52 hF dX4_look_52 rfl 0 rfl ?_
          refine v_iload_n 53 hF dX4_look_53 rfl 3 rfl ?_
          refine v_if_eq 54 61 hF dX4_look_54 (by decide) (fun c13 => ?_) (fun c13 => ?_)
          · replace h := h.1 c13
            refine v_aload_n 61 hF dX4_look_61 rfl 0 rfl ?_
            refine v_getO 62 hF in_X12 0 rfl rfl 0 (Nat.le_of_ble_eq_true rfl) q334 rfl dX4_look_62 ?_
            refine v_putA ([(o, .inr (3, [.int be, .int mo, .ref w, .ref w, .ref fs, .ref w]))] ++ []) 65 hF in_X12 tyX12_ok nm2X12 0 rfl rfl 0 (Nat.le_of_ble_eq_true rfl) q334 rfl rfl rfl rfl (Nat.le_of_ble_eq_true rfl) rfl dX4_look_65 ?_
            exact v_vret (u := (be, mo)) 68 hF hR (Nat.le_of_ble_eq_true rfl) (Nat.le_of_ble_eq_true rfl) dX4_look_68 h
          · replace h := h.2 c13
            refine v_iload_n 57 hF dX4_look_57 rfl 1 rfl ?_
            refine v_goto 58 65 hF dX4_look_58 (by decide) ?_
            refine v_putA ([(o, .inr (3, [.int x1, .int mo, .ref w, .ref w, .ref fs, .ref w]))] ++ []) 65 hF in_X12 tyX12_ok nm2X12 0 rfl rfl 0 (Nat.le_of_ble_eq_true rfl) q334 rfl rfl rfl rfl (Nat.le_of_ble_eq_true rfl) rfl dX4_look_65 ?_
            exact v_vret (u := (x1, mo)) 68 hF hR (Nat.le_of_ble_eq_true rfl) (Nat.le_of_ble_eq_true rfl) dX4_look_68 h
        · replace h := h.2 c12
          refine v_iload_n 41 hF dX4_look_41 rfl 2 rfl ?_
          refine v_goto 42 49 hF dX4_look_42 (by decide) ?_
          refine v_putA ([(o, .inr (3, [.int be, .int x2, .ref w, .ref w, .ref fs, .ref w]))] ++ []) 49 hF in_X12 tyX12_ok nm2X12 0 rfl rfl 1 (Nat.le_of_ble_eq_true rfl) q336 rfl rfl rfl rfl (Nat.le_of_ble_eq_true rfl) rfl dX4_look_49 ?_
          refine v_aload_n 52 hF dX4_look_52 rfl 0 rfl ?_
          refine v_iload_n 53 hF dX4_look_53 rfl 3 rfl ?_
          refine v_if_eq 54 61 hF dX4_look_54 (by decide) (fun c14 => ?_) (fun c14 => ?_)
          · replace h := h.1 c14
            refine v_aload_n 61 hF dX4_look_61 rfl 0 rfl ?_
            refine v_getO 62 hF in_X12 0 rfl rfl 0 (Nat.le_of_ble_eq_true rfl) q334 rfl dX4_look_62 ?_
            refine v_putA ([(o, .inr (3, [.int be, .int x2, .ref w, .ref w, .ref fs, .ref w]))] ++ []) 65 hF in_X12 tyX12_ok nm2X12 0 rfl rfl 0 (Nat.le_of_ble_eq_true rfl) q334 rfl rfl rfl rfl (Nat.le_of_ble_eq_true rfl) rfl dX4_look_65 ?_
            exact v_vret (u := (be, x2)) 68 hF hR (Nat.le_of_ble_eq_true rfl) (Nat.le_of_ble_eq_true rfl) dX4_look_68 h
          · replace h := h.2 c14
            refine v_iload_n 57 hF dX4_look_57 rfl 1 rfl ?_
            refine v_goto 58 65 hF dX4_look_58 (by decide) ?_
            refine v_putA ([(o, .inr (3, [.int x1, .int x2, .ref w, .ref w, .ref fs, .ref w]))] ++ []) 65 hF in_X12 tyX12_ok nm2X12 0 rfl rfl 0 (Nat.le_of_ble_eq_true rfl) q334 rfl rfl rfl rfl (Nat.le_of_ble_eq_true rfl) rfl dX4_look_65 ?_
            exact v_vret (u := (x1, x2)) 68 hF hR (Nat.le_of_ble_eq_true rfl) (Nat.le_of_ble_eq_true rfl) dX4_look_68 h
      · replace h := h.2 c11
        refine v_iconst (v := 1) 30 hF dX4_look_30 (by decide) ?_
        refine v_goto 31 35 hF dX4_look_31 (by decide) ?_
        refine v_istore_n [(0, .ref o), (1, .int x1), (2, .int x2), (3, .int ((1 : Int32)))] [1, 2, 3, 0] 35 hF dX4_look_35 rfl (Nat.le_of_ble_eq_true rfl) rfl ?_
        refine v_aload_n 36 hF dX4_look_36 rfl 0 rfl ?_
        refine v_iload_n 37 hF dX4_look_37 rfl 3 rfl ?_
        refine v_if_eq 38 45 hF dX4_look_38 (by decide) (fun c15 => ?_) (fun c15 => ?_)
        · replace h := h.1 c15
          refine v_aload_n 45 hF dX4_look_45 rfl 0 rfl ?_
          refine v_getO 46 hF in_X12 0 rfl rfl 1 (Nat.le_of_ble_eq_true rfl) q336 rfl dX4_look_46 ?_
          refine v_putA ([(o, .inr (3, [.int be, .int mo, .ref w, .ref w, .ref fs, .ref w]))] ++ []) 49 hF in_X12 tyX12_ok nm2X12 0 rfl rfl 1 (Nat.le_of_ble_eq_true rfl) q336 rfl rfl rfl rfl (Nat.le_of_ble_eq_true rfl) rfl dX4_look_49 ?_
          refine v_aload_n 52 hF dX4_look_52 rfl 0 rfl ?_
          refine v_iload_n 53 hF dX4_look_53 rfl 3 rfl ?_
          refine v_if_eq 54 61 hF dX4_look_54 (by decide) (fun c16 => ?_) (fun c16 => ?_)
          · replace h := h.1 c16
            refine v_aload_n 61 hF dX4_look_61 rfl 0 rfl ?_
            refine v_getO 62 hF in_X12 0 rfl rfl 0 (Nat.le_of_ble_eq_true rfl) q334 rfl dX4_look_62 ?_
            refine v_putA ([(o, .inr (3, [.int be, .int mo, .ref w, .ref w, .ref fs, .ref w]))] ++ []) 65 hF in_X12 tyX12_ok nm2X12 0 rfl rfl 0 (Nat.le_of_ble_eq_true rfl) q334 rfl rfl rfl rfl (Nat.le_of_ble_eq_true rfl) rfl dX4_look_65 ?_
            exact v_vret (u := (be, mo)) 68 hF hR (Nat.le_of_ble_eq_true rfl) (Nat.le_of_ble_eq_true rfl) dX4_look_68 h
          · replace h := h.2 c16
            refine v_iload_n 57 hF dX4_look_57 rfl 1 rfl ?_
            refine v_goto 58 65 hF dX4_look_58 (by decide) ?_
            refine v_putA ([(o, .inr (3, [.int x1, .int mo, .ref w, .ref w, .ref fs, .ref w]))] ++ []) 65 hF in_X12 tyX12_ok nm2X12 0 rfl rfl 0 (Nat.le_of_ble_eq_true rfl) q334 rfl rfl rfl rfl (Nat.le_of_ble_eq_true rfl) rfl dX4_look_65 ?_
            exact v_vret (u := (x1, mo)) 68 hF hR (Nat.le_of_ble_eq_true rfl) (Nat.le_of_ble_eq_true rfl) dX4_look_68 h
        · replace h := h.2 c15
          refine v_iload_n 41 hF dX4_look_41 rfl 2 rfl ?_
          refine v_goto 42 49 hF dX4_look_42 (by decide) ?_
          refine v_putA ([(o, .inr (3, [.int be, .int x2, .ref w, .ref w, .ref fs, .ref w]))] ++ []) 49 hF in_X12 tyX12_ok nm2X12 0 rfl rfl 1 (Nat.le_of_ble_eq_true rfl) q336 rfl rfl rfl rfl (Nat.le_of_ble_eq_true rfl) rfl dX4_look_49 ?_
          refine v_aload_n 52 hF dX4_look_52 rfl 0 rfl ?_
          refine v_iload_n 53 hF dX4_look_53 rfl 3 rfl ?_
          refine v_if_eq 54 61 hF dX4_look_54 (by decide) (fun c17 => ?_) (fun c17 => ?_)
          · replace h := h.1 c17
            refine v_aload_n 61 hF dX4_look_61 rfl 0 rfl ?_
            refine v_getO 62 hF in_X12 0 rfl rfl 0 (Nat.le_of_ble_eq_true rfl) q334 rfl dX4_look_62 ?_
            refine v_putA ([(o, .inr (3, [.int be, .int x2, .ref w, .ref w, .ref fs, .ref w]))] ++ []) 65 hF in_X12 tyX12_ok nm2X12 0 rfl rfl 0 (Nat.le_of_ble_eq_true rfl) q334 rfl rfl rfl rfl (Nat.le_of_ble_eq_true rfl) rfl dX4_look_65 ?_
            exact v_vret (u := (be, x2)) 68 hF hR (Nat.le_of_ble_eq_true rfl) (Nat.le_of_ble_eq_true rfl) dX4_look_68 h
          · replace h := h.2 c17
            refine v_iload_n 57 hF dX4_look_57 rfl 1 rfl ?_
            refine v_goto 58 65 hF dX4_look_58 (by decide) ?_
            refine v_putA ([(o, .inr (3, [.int x1, .int x2, .ref w, .ref w, .ref fs, .ref w]))] ++ []) 65 hF in_X12 tyX12_ok nm2X12 0 rfl rfl 0 (Nat.le_of_ble_eq_true rfl) q334 rfl rfl rfl rfl (Nat.le_of_ble_eq_true rfl) rfl dX4_look_65 ?_
            exact v_vret (u := (x1, x2)) 68 hF hR (Nat.le_of_ble_eq_true rfl) (Nat.le_of_ble_eq_true rfl) dX4_look_68 h
def w_X4_worth_X5 (o : Nat) (be : Int32) (mo : Int32) (w : Nat) (v0 : Nat) (v1 : Nat) (v2 : Nat) (b : Nat → Nat) (t : Nat → Nat) (fr : Nat) (fa : Nat) (ft : Int32) (rs : Int32) (rf : Int32) (sv : Value) (σ : Nat → Nat → Int32) (τ : Nat → Nat → Int32) (x2 : Int32) (x3 : Int32) (Q : Int32 → ((Nat → Nat → Int32) × (Nat → Nat → Int32)) → Prop) : Prop :=
  ∀ u1 : Unit, w_X5_open o be mo w t σ x3 (fun u2 => w_X2_pass u2 x2 (fun u3 => w_X5_value o be mo w b σ t u3 (fun r4 u5 => Q r4 ((σ, u5)))))
theorem ds_X4_worth : yX4_worth.cls = yX4_worth.cls ∧ yX4_worth.cls ≠ "java/lang/invoke/MethodHandle" ∧ yX4_worth.cls ≠ "java/lang/invoke/VarHandle" ∧ (parseMethodDescriptor yX4_worth.desc).map (fun d => d.parameters.length) = some 3 := by decide +kernel
set_option maxHeartbeats 4000000 in
theorem c_X4_worth_X5 (l : Launch) (D : va_G) (o : Nat) (be : Int32) (mo : Int32) (w : Nat) (v0 : Nat) (v1 : Nat) (v2 : Nat) (b : Nat → Nat) (t : Nat → Nat) (fr : Nat) (fa : Nat) (ft : Int32) (rs : Int32) (rf : Int32) (sv : Value) (σ : Nat → Nat → Int32) (τ : Nat → Nat → Int32) (x2 : Int32) (x3 : Int32) (Q : Int32 → ((Nat → Nat → Int32) × (Nat → Nat → Int32)) → Prop) (h : w_X4_worth_X5 o be mo w v0 v1 v2 b t fr fa ft rs rf sv σ τ x2 x3 Q) : Cti l D yX4_worth cX4_worth 4 .int (rmk 5 0 0 153) [.ref o, .ref (b 0), .int x2, .int x3] ([(o, .inr (8, [.int be, .int mo, .ref w, .ref w]))] ++ ([(w, .inr (0, [.ref v0, .ref (t 0), .ref v1, .ref v2, .int ft, .int rs, .int rf, .ref fr, .ref fa, sv]))] ++ (bkW D b σ ++ (bkW D t τ ++ [])))) (fun u : (Nat → Nat → Int32) × (Nat → Nat → Int32) => ([(o, .inr (8, [.int be, .int mo, .ref w, .ref w]))] ++ ([(w, .inr (0, [.ref v0, .ref (t 0), .ref v1, .ref v2, .int ft, .int rs, .int rf, .ref fr, .ref fa, sv]))] ++ (bkW D b (u.1) ++ (bkW D t (u.2) ++ []))))) Q 0 0 := by
  refine Cti.of (by decide) (Nat.le_of_ble_eq_true rfl) (fun x hF hR => ?_)
  replace hF : vF x l D "BrookWeirs$Side" cX4_worth (rmk 5 0 0 153) 4 (some .int) := hF
  unfold w_X4_worth_X5 at h
  refine v_aload_n 0 hF dX4_worth_0 rfl 0 rfl ?_
  refine v_getO 1 hF in_X5 0 rfl rfl 2 (Nat.le_of_ble_eq_true rfl) q338 rfl dX4_worth_1 ?_
  refine v_getN 4 hF in_X1 1 rfl rfl 1 (Nat.le_of_ble_eq_true rfl) q363 rfl rfl dX4_worth_4 ?_
  refine v_aload_n 7 hF dX4_worth_7 rfl 1 rfl ?_
  refine v_callVr (As := [.ref (b 0)]) (b := t 0) (wr := ([(o, .inr (8, [.int be, .int mo, .ref w, .ref w]))] ++ ([(w, .inr (0, [.ref v0, .ref (t 0), .ref v1, .ref v2, .int ft, .int rs, .int rf, .ref fr, .ref fa, sv]))] ++ []))) 8 hF (c_X2_become l D t b τ σ) (((((((((((((List.Perm.refl _)).append_left _).trans (pm_sw _ _ _))).append_left _).trans (pm_sw _ _ _))).append_left _).trans (pm_sw _ _ _)).trans (((((((((List.Perm.refl _)).append_left _).trans (pm_sw _ _ _))).append_left _).trans (pm_sw _ _ _))).append_left _))).trans (List.Perm.of_eq (by simp only [List.append_assoc, List.nil_append, List.append_nil]))) ⟨0, 6, _, TX2, 24, rfl, rfl⟩ q1087 q492 q493 q71 q494 ds_X2_become ⟨rfl, rfl, (Nat.le_of_ble_eq_true rfl), (Nat.le_of_ble_eq_true rfl)⟩ (Nat.le_of_ble_eq_true rfl) ⟨(Nat.le_of_ble_eq_true rfl), (Nat.le_of_ble_eq_true rfl)⟩ dX4_worth_8 (fun u1 _ => ?_)
  replace h := h u1
  refine v_eqw (ws1 := (bkW D t σ ++ (bkW D b σ ++ ([(o, .inr (8, [.int be, .int mo, .ref w, .ref w]))] ++ ([(w, .inr (0, [.ref v0, .ref (t 0), .ref v1, .ref v2, .int ft, .int rs, .int rf, .ref fr, .ref fa, sv]))] ++ []))))) (by simp only [List.append_assoc, List.nil_append, List.append_nil]) ?_
  refine v_perm (ws' := ([(o, .inr (8, [.int be, .int mo, .ref w, .ref w]))] ++ ([(w, .inr (0, [.ref v0, .ref (t 0), .ref v1, .ref v2, .int ft, .int rs, .int rf, .ref fr, .ref fa, sv]))] ++ (bkW D b σ ++ (bkW D t σ ++ []))))) ((((((((List.Perm.refl _)).append_left _).trans (pm_sw _ _ _))).append_left _).trans (pm_sw _ _ _)).trans ((((((((((List.Perm.refl _)).append_left _).trans (pm_sw _ _ _))).append_left _).trans (pm_sw _ _ _)).trans ((((((List.Perm.refl _)).append_left _).trans (pm_sw _ _ _))).append_left _))).append_left _)) ?_
  refine v_pop 11 hF dX4_worth_11 rfl ?_
  refine v_aload_n 12 hF dX4_worth_12 rfl 0 rfl ?_
  refine v_aload_n 13 hF dX4_worth_13 rfl 0 rfl ?_
  refine v_getO 14 hF in_X5 0 rfl rfl 2 (Nat.le_of_ble_eq_true rfl) q338 rfl dX4_worth_14 ?_
  refine v_getN 17 hF in_X1 1 rfl rfl 1 (Nat.le_of_ble_eq_true rfl) q363 rfl rfl dX4_worth_17 ?_
  refine v_iload_n 20 hF dX4_worth_20 rfl 3 rfl ?_
  refine v_callUv (As := [.ref (t 0), .int x3]) (x0 := ({ cls := "BrookWeirs$Side", name := "open", desc := "(LBrookWeirs$Brook;I)V" } : Jvm.MethodName)) (b := o) (wr := ([(w, .inr (0, [.ref v0, .ref (t 0), .ref v1, .ref v2, .int ft, .int rs, .int rf, .ref fr, .ref fa, sv]))] ++ (bkW D b σ ++ []))) 21 hF (c_X5_open l D o be mo w t σ x3 _ h) (((((((((((List.Perm.refl _)).append_left _).trans (pm_sw _ _ _))).append_left _).trans (pm_sw _ _ _))).append_left _)).trans (List.Perm.of_eq (by simp only [List.append_assoc, List.nil_append, List.append_nil]))) ⟨0, 8, _, TX5, 4, rfl, rfl⟩ q1088 q1095 (fun s args hts hE => vUx.of1 (args := #[]) (by decide) (side_cls hts) (hE.2.1 _ q1089 rfl)) (fun s args hts _ => hts _ q1094) q80 q1096 ⟨by decide, by decide, (show (parseMethodDescriptor "(LBrookWeirs$Brook;I)V").map (fun d => d.parameters.length) = some 2 from by decide +kernel)⟩ ⟨rfl, rfl, (Nat.le_of_ble_eq_true rfl), (Nat.le_of_ble_eq_true rfl)⟩ (Nat.le_of_ble_eq_true rfl) ⟨(Nat.le_of_ble_eq_true rfl), (Nat.le_of_ble_eq_true rfl)⟩ dX4_worth_21 (fun u2 h => ?_)
  refine v_eqw (ws1 := ([(o, .inr (8, [.int be, .int mo, .ref w, .ref w]))] ++ (bkW D t u2 ++ ([(w, .inr (0, [.ref v0, .ref (t 0), .ref v1, .ref v2, .int ft, .int rs, .int rf, .ref fr, .ref fa, sv]))] ++ (bkW D b σ ++ []))))) (by simp only [List.append_assoc, List.nil_append, List.append_nil]) ?_
  refine v_perm (ws' := ([(o, .inr (8, [.int be, .int mo, .ref w, .ref w]))] ++ ([(w, .inr (0, [.ref v0, .ref (t 0), .ref v1, .ref v2, .int ft, .int rs, .int rf, .ref fr, .ref fa, sv]))] ++ (bkW D b σ ++ (bkW D t u2 ++ []))))) (((((((List.Perm.refl _)).append_left _).trans (pm_sw _ _ _)).trans ((((((List.Perm.refl _)).append_left _).trans (pm_sw _ _ _))).append_left _))).append_left _) ?_
  refine v_aload_n 24 hF dX4_worth_24 rfl 0 rfl ?_
  refine v_aload_n 25 hF dX4_worth_25 rfl 1 rfl ?_
  refine v_aload_n 26 hF dX4_worth_26 rfl 0 rfl ?_
  refine v_getO 27 hF in_X5 0 rfl rfl 2 (Nat.le_of_ble_eq_true rfl) q338 rfl dX4_worth_27 ?_
  refine v_getN 30 hF in_X1 1 rfl rfl 1 (Nat.le_of_ble_eq_true rfl) q363 rfl rfl dX4_worth_30 ?_
  refine v_iload_n 33 hF dX4_worth_33 rfl 2 rfl ?_
  refine v_callVr (As := [.int x2]) (b := t 0) (wr := ([(o, .inr (8, [.int be, .int mo, .ref w, .ref w]))] ++ ([(w, .inr (0, [.ref v0, .ref (t 0), .ref v1, .ref v2, .int ft, .int rs, .int rf, .ref fr, .ref fa, sv]))] ++ (bkW D b σ ++ [])))) 34 hF (c_X2_pass l D t u2 x2 _ h) ((((((((((((List.Perm.refl _)).append_left _).trans (pm_sw _ _ _))).append_left _).trans (pm_sw _ _ _))).append_left _).trans (pm_sw _ _ _))).trans (List.Perm.of_eq (by simp only [List.append_assoc, List.nil_append, List.append_nil]))) ⟨0, 6, _, TX2, 24, rfl, rfl⟩ q1098 q1099 q1100 q71 q1101 ds_X2_pass ⟨rfl, rfl, (Nat.le_of_ble_eq_true rfl), (Nat.le_of_ble_eq_true rfl)⟩ (Nat.le_of_ble_eq_true rfl) ⟨(Nat.le_of_ble_eq_true rfl), (Nat.le_of_ble_eq_true rfl)⟩ dX4_worth_34 (fun u3 h => ?_)
  refine v_eqw (ws1 := (bkW D t u3 ++ ([(o, .inr (8, [.int be, .int mo, .ref w, .ref w]))] ++ ([(w, .inr (0, [.ref v0, .ref (t 0), .ref v1, .ref v2, .int ft, .int rs, .int rf, .ref fr, .ref fa, sv]))] ++ (bkW D b σ ++ []))))) (by simp only [List.append_assoc, List.nil_append, List.append_nil]) ?_
  refine v_perm (ws' := ([(o, .inr (8, [.int be, .int mo, .ref w, .ref w]))] ++ ([(w, .inr (0, [.ref v0, .ref (t 0), .ref v1, .ref v2, .int ft, .int rs, .int rf, .ref fr, .ref fa, sv]))] ++ (bkW D b σ ++ (bkW D t u3 ++ []))))) (((((List.Perm.refl _)).append_left _).trans (pm_sw _ _ _)).trans (((((((List.Perm.refl _)).append_left _).trans (pm_sw _ _ _)).trans ((((((List.Perm.refl _)).append_left _).trans (pm_sw _ _ _))).append_left _))).append_left _)) ?_
  refine v_callUi (As := [.ref (b 0), .ref (t 0)]) (x0 := ({ cls := "BrookWeirs$Side", name := "value", desc := "(LBrookWeirs$Brook;LBrookWeirs$Brook;)I" } : Jvm.MethodName)) (b := o) (wr := ([(w, .inr (0, [.ref v0, .ref (t 0), .ref v1, .ref v2, .int ft, .int rs, .int rf, .ref fr, .ref fa, sv]))] ++ [])) 37 hF (c_X5_value l D o be mo w b σ t u3 _ h) (((((((((List.Perm.refl _)).append_left _).trans (pm_sw _ _ _)).trans ((((((List.Perm.refl _)).append_left _).trans (pm_sw _ _ _))).append_left _))).append_left _)).trans (List.Perm.of_eq (by simp only [List.append_assoc, List.nil_append, List.append_nil]))) ⟨0, 8, _, TX5, 4, rfl, rfl⟩ q1103 q1110 (fun s args hts hE => vUx.of1 (args := #[]) (by decide) (side_cls hts) (hE.2.1 _ q1104 rfl)) (fun s args hts _ => hts _ q1109) q80 q1111 ⟨by decide, by decide, (show (parseMethodDescriptor "(LBrookWeirs$Brook;LBrookWeirs$Brook;)I").map (fun d => d.parameters.length) = some 2 from by decide +kernel)⟩ ⟨rfl, rfl, (Nat.le_of_ble_eq_true rfl), (Nat.le_of_ble_eq_true rfl)⟩ (Nat.le_of_ble_eq_true rfl) ⟨(Nat.le_of_ble_eq_true rfl), (Nat.le_of_ble_eq_true rfl)⟩ dX4_worth_37 (fun r4 u5 h => ?_)
  refine v_eqw (ws1 := ([(o, .inr (8, [.int be, .int mo, .ref w, .ref w]))] ++ (bkW D b σ ++ (bkW D t u5 ++ ([(w, .inr (0, [.ref v0, .ref (t 0), .ref v1, .ref v2, .int ft, .int rs, .int rf, .ref fr, .ref fa, sv]))] ++ []))))) (by simp only [List.append_assoc, List.nil_append, List.append_nil]) ?_
  refine v_perm (ws' := ([(o, .inr (8, [.int be, .int mo, .ref w, .ref w]))] ++ ([(w, .inr (0, [.ref v0, .ref (t 0), .ref v1, .ref v2, .int ft, .int rs, .int rf, .ref fr, .ref fa, sv]))] ++ (bkW D b σ ++ (bkW D t u5 ++ []))))) (((((((((List.Perm.refl _)).append_left _).trans (pm_sw _ _ _))).append_left _).trans (pm_sw _ _ _))).append_left _) ?_
  exact v_iret (u := (σ, u5)) 40 hF hR (Nat.le_of_ble_eq_true rfl) (Nat.le_of_ble_eq_true rfl) dX4_worth_40 h
def w_X4_search_X5 (o : Nat) (be : Int32) (mo : Int32) (w : Nat) (v0 : Nat) (v1 : Nat) (v2 : Nat) (b : Nat → Nat) (t : Nat → Nat) (fr : Nat) (fa : Nat) (ft : Int32) (rs : Int32) (rf : Int32) (sv : Value) (σ : Nat → Nat → Int32) (τ : Nat → Nat → Int32) (x2 : Int32) (Q : ((Int32) × (Int32) × (Nat → Nat → Int32) × (Nat → Nat → Int32)) → Prop) : Prop :=
  w_X4_worth_X5 o ((0 : Int32)) mo w v0 v1 v2 b t fr fa ft rs rf sv σ τ x2 ((0 : Int32)) (fun r1 u2 => wLoop (fun (K18 : (Int32) × (Int32) × (Int32) × (Nat → Nat → Int32) × (Nat → Nat → Int32) → Prop) (z8 : (Int32) × (Int32) × (Int32) × (Nat → Nat → Int32) × (Nat → Nat → Int32)) => (fun (v3 : Int32) (v4 : Int32) (v5 : Int32) (v6 : Nat → Nat → Int32) (v7 : Nat → Nat → Int32) => ((((1 : Int32) <<< ((v6 20 8) &&& 31)) ≤ v3 → Q ((v4, v5, v6, v7))) ∧ (¬ ((1 : Int32) <<< ((v6 20 8) &&& 31)) ≤ v3 → w_X4_worth_X5 o v4 v5 w v0 v1 v2 b t fr fa ft rs rf sv v6 v7 x2 v3 (fun r10 u11 => w_X4_look_X5 o v4 v5 w v3 r10 (fun u12 => ∀ y13 : Int32, y13 = v3 + (1 : Int32) → K18 ((y13, u12.1, u12.2, u11.1, u11.2))))))) z8.1 z8.2.1 z8.2.2.1 z8.2.2.2.1 z8.2.2.2.2) (((1 : Int32), (0 : Int32), r1, u2.1, u2.2)))
theorem ds_X4_search : yX4_search.cls = yX4_search.cls ∧ yX4_search.cls ≠ "java/lang/invoke/MethodHandle" ∧ yX4_search.cls ≠ "java/lang/invoke/VarHandle" ∧ (parseMethodDescriptor yX4_search.desc).map (fun d => d.parameters.length) = some 2 := by decide +kernel
set_option maxHeartbeats 4000000 in
theorem c_X4_search_X5 (l : Launch) (D : va_G) (o : Nat) (be : Int32) (mo : Int32) (w : Nat) (v0 : Nat) (v1 : Nat) (v2 : Nat) (b : Nat → Nat) (t : Nat → Nat) (fr : Nat) (fa : Nat) (ft : Int32) (rs : Int32) (rf : Int32) (sv : Value) (σ : Nat → Nat → Int32) (τ : Nat → Nat → Int32) (x2 : Int32) (Q : ((Int32) × (Int32) × (Nat → Nat → Int32) × (Nat → Nat → Int32)) → Prop) (h : w_X4_search_X5 o be mo w v0 v1 v2 b t fr fa ft rs rf sv σ τ x2 Q) : Ctr l D yX4_search cX4_search 4 (.object "BrookWeirs$Side") (rmk 6 0 0 176) [.ref o, .ref (b 0), .int x2] ([(o, .inr (8, [.int be, .int mo, .ref w, .ref w]))] ++ ([(w, .inr (0, [.ref v0, .ref (t 0), .ref v1, .ref v2, .int ft, .int rs, .int rf, .ref fr, .ref fa, sv]))] ++ (bkW D b σ ++ (bkW D t τ ++ [])))) (fun u : (Int32) × (Int32) × (Nat → Nat → Int32) × (Nat → Nat → Int32) => ([(o, .inr (8, [.int (u.1), .int (u.2.1), .ref w, .ref w]))] ++ ([(w, .inr (0, [.ref v0, .ref (t 0), .ref v1, .ref v2, .int ft, .int rs, .int rf, .ref fr, .ref fa, sv]))] ++ (bkW D b (u.2.2.1) ++ (bkW D t (u.2.2.2) ++ []))))) (fun u : (Int32) × (Int32) × (Nat → Nat → Int32) × (Nat → Nat → Int32) => o) Q 0 0 := by
  refine Ctr.of (by decide) (Nat.le_of_ble_eq_true rfl) (fun x hF hR => ?_)
  replace hF : vF x l D "BrookWeirs$Side" cX4_search (rmk 6 0 0 176) 4 (some (.object "BrookWeirs$Side")) := hF
  unfold w_X4_search_X5 at h
  refine v_aload_n 0 hF dX4_search_0 rfl 0 rfl ?_
  refine v_iconst (v := 0) 1 hF dX4_search_1 (by decide) ?_
  refine v_putA ([(o, .inr (8, [.int ((0 : Int32)), .int mo, .ref w, .ref w]))] ++ ([(w, .inr (0, [.ref v0, .ref (t 0), .ref v1, .ref v2, .int ft, .int rs, .int rf, .ref fr, .ref fa, sv]))] ++ (bkW D b σ ++ (bkW D t τ ++ [])))) 2 hF in_X5 tyX5_ok nm2X5 0 rfl rfl 0 (Nat.le_of_ble_eq_true rfl) q334 rfl rfl rfl rfl (Nat.le_of_ble_eq_true rfl) rfl dX4_search_2 ?_
  refine v_aload_n 5 hF dX4_search_5 rfl 0 rfl ?_
  refine v_aload_n 6 hF dX4_search_6 rfl 0 rfl ?_
  refine v_aload_n 7 hF dX4_search_7 rfl 1 rfl ?_
  refine v_iload_n 8 hF dX4_search_8 rfl 2 rfl ?_
  refine v_iconst (v := 0) 9 hF dX4_search_9 (by decide) ?_
  refine v_callUi (As := [.ref (b 0), .int x2, .int ((0 : Int32))]) (x0 := ({ cls := "BrookWeirs$Side", name := "worth", desc := "(LBrookWeirs$Brook;II)I" } : Jvm.MethodName)) (b := o) (wr := ([])) 10 hF (c_X4_worth_X5 l D o ((0 : Int32)) mo w v0 v1 v2 b t fr fa ft rs rf sv σ τ x2 ((0 : Int32)) _ h) (((List.Perm.refl _)).trans (List.Perm.of_eq (by simp only [List.append_assoc, List.nil_append, List.append_nil]))) ⟨0, 8, _, TX5, 4, rfl, rfl⟩ q1080 q1081 (fun s args hts _ => vUx.of2 (args := args) (by decide) (side_cls hts) (hts _ q1081) (hts _ q1086)) (fun s args hts _ => hts _ q1084) q79 q1086 ⟨by decide, by decide, (show (parseMethodDescriptor "(LBrookWeirs$Brook;II)I").map (fun d => d.parameters.length) = some 3 from by decide +kernel)⟩ ⟨rfl, rfl, (Nat.le_of_ble_eq_true rfl), (Nat.le_of_ble_eq_true rfl)⟩ (Nat.le_of_ble_eq_true rfl) ⟨(Nat.le_of_ble_eq_true rfl), (Nat.le_of_ble_eq_true rfl)⟩ dX4_search_10 (fun r1 u2 h => ?_)
  refine v_eqw (ws1 := ([(o, .inr (8, [.int ((0 : Int32)), .int mo, .ref w, .ref w]))] ++ ([(w, .inr (0, [.ref v0, .ref (t 0), .ref v1, .ref v2, .int ft, .int rs, .int rf, .ref fr, .ref fa, sv]))] ++ (bkW D b (u2.1) ++ (bkW D t (u2.2) ++ []))))) (by simp only [List.append_assoc, List.nil_append, List.append_nil]) ?_
  refine v_putA ([(o, .inr (8, [.int ((0 : Int32)), .int r1, .ref w, .ref w]))] ++ ([(w, .inr (0, [.ref v0, .ref (t 0), .ref v1, .ref v2, .int ft, .int rs, .int rf, .ref fr, .ref fa, sv]))] ++ (bkW D b (u2.1) ++ (bkW D t (u2.2) ++ [])))) 13 hF in_X5 tyX5_ok nm2X5 0 rfl rfl 1 (Nat.le_of_ble_eq_true rfl) q336 rfl rfl rfl rfl (Nat.le_of_ble_eq_true rfl) rfl dX4_search_13 ?_
  refine v_iconst (v := 1) 16 hF dX4_search_16 (by decide) ?_
  refine v_istore_n [(0, .ref o), (1, .ref (b 0)), (2, .int x2), (3, .int ((1 : Int32)))] [1, 2, 3, 0] 17 hF dX4_search_17 rfl (Nat.le_of_ble_eq_true rfl) rfl ?_
  refine vLoop (V := fun z8 : (Int32) × (Int32) × (Int32) × (Nat → Nat → Int32) × (Nat → Nat → Int32) => vV x 0 0 ([(o, .inr (8, [.int (z8.2.1), .int (z8.2.2.1), .ref w, .ref w]))] ++ ([(w, .inr (0, [.ref v0, .ref (t 0), .ref v1, .ref v2, .int ft, .int rs, .int rf, .ref fr, .ref fa, sv]))] ++ (bkW D b (z8.2.2.2.1) ++ (bkW D t (z8.2.2.2.2) ++ [])))) [(0, .ref o), (1, .ref (b 0)), (2, .int x2), (3, .int (z8.1))] 18 []) (fun K18 hK18 z8 hs => ?_) _ h
  obtain ⟨v3, v4, v5, v6, v7⟩ := z8
  have h : ((((1 : Int32) <<< ((v6 20 8) &&& 31)) ≤ v3 → Q ((v4, v5, v6, v7))) ∧ (¬ ((1 : Int32) <<< ((v6 20 8) &&& 31)) ≤ v3 → w_X4_worth_X5 o v4 v5 w v0 v1 v2 b t fr fa ft rs rf sv v6 v7 x2 v3 (fun r10 u11 => w_X4_look_X5 o v4 v5 w v3 r10 (fun u12 => ∀ y13 : Int32, y13 = v3 + (1 : Int32) → K18 ((y13, u12.1, u12.2, u11.1, u11.2)))))) := hs
  refine v_iload_n 18 hF dX4_search_18 rfl 3 rfl ?_
  refine v_iconst (v := 1) 19 hF dX4_search_19 (by decide) ?_
  refine v_aload_n 20 hF dX4_search_20 rfl 1 rfl ?_
  refine v_getN 21 hF in_X2 2 rfl rfl 8 (Nat.le_of_ble_eq_true rfl) q184 rfl rfl dX4_search_21 ?_
  refine v_ishl 24 hF dX4_search_24 ?_
  refine v_icmp_ge 25 46 hF dX4_search_25 (by decide) (fun c9 => ?_) (fun c9 => ?_)
  · replace h := h.1 c9
    refine v_aload_n 46 hF dX4_search_46 rfl 0 rfl ?_
    exact v_aret (u := (v4, v5, v6, v7)) 47 hF (Or.inl ⟨_, rfl⟩) hR (Nat.le_of_ble_eq_true rfl) (Nat.le_of_ble_eq_true rfl) dX4_search_47 rfl h
  · replace h := h.2 c9
    refine v_aload_n 28 hF dX4_search_28 rfl 0 rfl ?_
    refine v_iload_n 29 hF dX4_search_29 rfl 3 rfl ?_
    refine v_aload_n 30 hF dX4_search_30 rfl 0 rfl ?_
    refine v_aload_n 31 hF dX4_search_31 rfl 1 rfl ?_
    refine v_iload_n 32 hF dX4_search_32 rfl 2 rfl ?_
    refine v_iload_n 33 hF dX4_search_33 rfl 3 rfl ?_
    refine v_callUi (As := [.ref (b 0), .int x2, .int v3]) (x0 := ({ cls := "BrookWeirs$Side", name := "worth", desc := "(LBrookWeirs$Brook;II)I" } : Jvm.MethodName)) (b := o) (wr := ([])) 34 hF (c_X4_worth_X5 l D o v4 v5 w v0 v1 v2 b t fr fa ft rs rf sv v6 v7 x2 v3 _ h) (((List.Perm.refl _)).trans (List.Perm.of_eq (by simp only [List.append_assoc, List.nil_append, List.append_nil]))) ⟨0, 8, _, TX5, 4, rfl, rfl⟩ q1080 q1081 (fun s args hts _ => vUx.of2 (args := args) (by decide) (side_cls hts) (hts _ q1081) (hts _ q1086)) (fun s args hts _ => hts _ q1084) q79 q1086 ⟨by decide, by decide, (show (parseMethodDescriptor "(LBrookWeirs$Brook;II)I").map (fun d => d.parameters.length) = some 3 from by decide +kernel)⟩ ⟨rfl, rfl, (Nat.le_of_ble_eq_true rfl), (Nat.le_of_ble_eq_true rfl)⟩ (Nat.le_of_ble_eq_true rfl) ⟨(Nat.le_of_ble_eq_true rfl), (Nat.le_of_ble_eq_true rfl)⟩ dX4_search_34 (fun r10 u11 h => ?_)
    refine v_eqw (ws1 := ([(o, .inr (8, [.int v4, .int v5, .ref w, .ref w]))] ++ ([(w, .inr (0, [.ref v0, .ref (t 0), .ref v1, .ref v2, .int ft, .int rs, .int rf, .ref fr, .ref fa, sv]))] ++ (bkW D b (u11.1) ++ (bkW D t (u11.2) ++ []))))) (by simp only [List.append_assoc, List.nil_append, List.append_nil]) ?_
    refine v_callUv (As := [.int v3, .int r10]) (x0 := ({ cls := "BrookWeirs$Side", name := "look", desc := "(II)V" } : Jvm.MethodName)) (b := o) (wr := ([(w, .inr (0, [.ref v0, .ref (t 0), .ref v1, .ref v2, .int ft, .int rs, .int rf, .ref fr, .ref fa, sv]))] ++ (bkW D b (u11.1) ++ (bkW D t (u11.2) ++ [])))) 37 hF (c_X4_look_X5 l D o v4 v5 w v3 r10 _ h) (((List.Perm.refl _)).trans (List.Perm.of_eq (by simp only [List.append_assoc, List.nil_append, List.append_nil]))) ⟨0, 8, _, TX5, 4, rfl, rfl⟩ q1118 q1120 (fun s args hts _ => vUx.of2 (args := args) (by decide) (side_cls hts) (hts _ q1120) (hts _ q1121)) (fun s args hts hE => sel_priv (hE.1.1 8 (RX5, TX5, 4) rfl).2.1 (va_Nw.use rfl (hE.2.1 _ q1119 rfl)) (hts _ q1121) (side_cls hts) (by decide)) q79 q1121 ⟨by decide, by decide, (show (parseMethodDescriptor "(II)V").map (fun d => d.parameters.length) = some 2 from by decide +kernel)⟩ ⟨rfl, rfl, (Nat.le_of_ble_eq_true rfl), (Nat.le_of_ble_eq_true rfl)⟩ (Nat.le_of_ble_eq_true rfl) ⟨(Nat.le_of_ble_eq_true rfl), (Nat.le_of_ble_eq_true rfl)⟩ dX4_search_37 (fun u12 h => ?_)
    refine v_eqw (ws1 := ([(o, .inr (8, [.int (u12.1), .int (u12.2), .ref w, .ref w]))] ++ ([(w, .inr (0, [.ref v0, .ref (t 0), .ref v1, .ref v2, .int ft, .int rs, .int rf, .ref fr, .ref fa, sv]))] ++ (bkW D b (u11.1) ++ (bkW D t (u11.2) ++ []))))) (by simp only [List.append_assoc, List.nil_append, List.append_nil]) ?_
    obtain ⟨y13, ey13⟩ : ∃ y : Int32, y = v3 + (1 : Int32) := ⟨_, rfl⟩
    replace h := h y13 ey13
    refine v_iinc [(0, .ref o), (1, .ref (b 0)), (2, .int x2), (3, .int y13)] [1, 2, 3, 0] 40 hF dX4_search_40 3 rfl (by rw [ey13]; rfl) (Nat.le_of_ble_eq_true rfl) rfl ?_
    refine v_goto 43 18 hF dX4_search_43 (by decide) ?_
    exact hK18 ((y13, u12.1, u12.2, u11.1, u11.2)) h
def w_X4_choose_X5 (o : Nat) (be : Int32) (mo : Int32) (w : Nat) (v0 : Nat) (v1 : Nat) (v2 : Nat) (b : Nat → Nat) (t : Nat → Nat) (fr : Nat) (fa : Nat) (ft : Int32) (rs : Int32) (rf : Int32) (sv : Value) (σ : Nat → Nat → Int32) (τ : Nat → Nat → Int32) (x2 : Int32) (Q : Int32 → ((Int32) × (Int32) × (Nat → Nat → Int32) × (Nat → Nat → Int32)) → Prop) : Prop :=
  w_X5_latches o be mo w b σ (fun r1 u2 => w_X4_search_X5 o be mo w v0 v1 v2 b t fr fa ft rs rf sv σ τ x2 (fun u3 => w_X5_open o (u3.1) (u3.2.1) w b (u3.2.2.1) (u3.1) (fun u4 => w_X5_latches o (u3.1) (u3.2.1) w b u4 (fun r5 u6 => w_J20_bitCount ((r1 ^^^ r5)) (fun r7 => Q r7 ((u3.1, u3.2.1, u4, u3.2.2.2)))))))
theorem ds_X4_choose : yX4_choose.cls = yX4_choose.cls ∧ yX4_choose.cls ≠ "java/lang/invoke/MethodHandle" ∧ yX4_choose.cls ≠ "java/lang/invoke/VarHandle" ∧ (parseMethodDescriptor yX4_choose.desc).map (fun d => d.parameters.length) = some 2 := by decide +kernel
set_option maxHeartbeats 4000000 in
theorem c_X4_choose_X5 (l : Launch) (D : va_G) (o : Nat) (be : Int32) (mo : Int32) (w : Nat) (v0 : Nat) (v1 : Nat) (v2 : Nat) (b : Nat → Nat) (t : Nat → Nat) (fr : Nat) (fa : Nat) (ft : Int32) (rs : Int32) (rf : Int32) (sv : Value) (σ : Nat → Nat → Int32) (τ : Nat → Nat → Int32) (x2 : Int32) (Q : Int32 → ((Int32) × (Int32) × (Nat → Nat → Int32) × (Nat → Nat → Int32)) → Prop) (h : w_X4_choose_X5 o be mo w v0 v1 v2 b t fr fa ft rs rf sv σ τ x2 Q) : Cti l D yX4_choose cX4_choose 4 .int (rmk 7 0 0 199) [.ref o, .ref (b 0), .int x2] ([(o, .inr (8, [.int be, .int mo, .ref w, .ref w]))] ++ ([(w, .inr (0, [.ref v0, .ref (t 0), .ref v1, .ref v2, .int ft, .int rs, .int rf, .ref fr, .ref fa, sv]))] ++ (bkW D b σ ++ (bkW D t τ ++ [])))) (fun u : (Int32) × (Int32) × (Nat → Nat → Int32) × (Nat → Nat → Int32) => ([(o, .inr (8, [.int (u.1), .int (u.2.1), .ref w, .ref w]))] ++ ([(w, .inr (0, [.ref v0, .ref (t 0), .ref v1, .ref v2, .int ft, .int rs, .int rf, .ref fr, .ref fa, sv]))] ++ (bkW D b (u.2.2.1) ++ (bkW D t (u.2.2.2) ++ []))))) Q 0 0 := by
  refine Cti.of (by decide) (Nat.le_of_ble_eq_true rfl) (fun x hF hR => ?_)
  replace hF : vF x l D "BrookWeirs$Side" cX4_choose (rmk 7 0 0 199) 4 (some .int) := hF
  unfold w_X4_choose_X5 at h
  refine v_aload_n 0 hF dX4_choose_0 rfl 0 rfl ?_
  refine v_aload_n 1 hF dX4_choose_1 rfl 1 rfl ?_
  refine v_callUi (As := [.ref (b 0)]) (x0 := ({ cls := "BrookWeirs$Side", name := "latches", desc := "(LBrookWeirs$Brook;)I" } : Jvm.MethodName)) (b := o) (wr := ([(w, .inr (0, [.ref v0, .ref (t 0), .ref v1, .ref v2, .int ft, .int rs, .int rf, .ref fr, .ref fa, sv]))] ++ (bkW D t τ ++ []))) 2 hF (c_X5_latches l D o be mo w b σ _ h) ((((((((List.Perm.refl _)).append_left _).trans (pm_sw _ _ _))).append_left _)).trans (List.Perm.of_eq (by simp only [List.append_assoc, List.nil_append, List.append_nil]))) ⟨0, 8, _, TX5, 4, rfl, rfl⟩ q1063 q1070 (fun s args hts hE => vUx.of1 (args := #[]) (by decide) (side_cls hts) (hE.2.1 _ q1064 rfl)) (fun s args hts _ => hts _ q1069) q80 q1071 ⟨by decide, by decide, (show (parseMethodDescriptor "(LBrookWeirs$Brook;)I").map (fun d => d.parameters.length) = some 1 from by decide +kernel)⟩ ⟨rfl, rfl, (Nat.le_of_ble_eq_true rfl), (Nat.le_of_ble_eq_true rfl)⟩ (Nat.le_of_ble_eq_true rfl) ⟨(Nat.le_of_ble_eq_true rfl), (Nat.le_of_ble_eq_true rfl)⟩ dX4_choose_2 (fun r1 u2 h => ?_)
  refine v_eqw (ws1 := ([(o, .inr (8, [.int be, .int mo, .ref w, .ref w]))] ++ (bkW D b σ ++ ([(w, .inr (0, [.ref v0, .ref (t 0), .ref v1, .ref v2, .int ft, .int rs, .int rf, .ref fr, .ref fa, sv]))] ++ (bkW D t τ ++ []))))) (by simp only [List.append_assoc, List.nil_append, List.append_nil]) ?_
  refine v_perm (ws' := ([(o, .inr (8, [.int be, .int mo, .ref w, .ref w]))] ++ ([(w, .inr (0, [.ref v0, .ref (t 0), .ref v1, .ref v2, .int ft, .int rs, .int rf, .ref fr, .ref fa, sv]))] ++ (bkW D b σ ++ (bkW D t τ ++ []))))) ((((((List.Perm.refl _)).append_left _).trans (pm_sw _ _ _))).append_left _) ?_
  refine v_istore_n [(0, .ref o), (1, .ref (b 0)), (2, .int x2), (3, .int r1)] [1, 2, 3, 0] 5 hF dX4_choose_5 rfl (Nat.le_of_ble_eq_true rfl) rfl ?_
  refine v_aload_n 6 hF dX4_choose_6 rfl 0 rfl ?_
  refine v_aload_n 7 hF dX4_choose_7 rfl 1 rfl ?_
  refine v_aload_n 8 hF dX4_choose_8 rfl 0 rfl ?_
  refine v_aload_n 9 hF dX4_choose_9 rfl 1 rfl ?_
  refine v_iload_n 10 hF dX4_choose_10 rfl 2 rfl ?_
  refine v_callUr (As := [.ref (b 0), .int x2]) (x0 := ({ cls := "BrookWeirs$Side", name := "search", desc := "(LBrookWeirs$Brook;I)LBrookWeirs$Side;" } : Jvm.MethodName)) (b := o) (wr := ([])) 11 hF (c_X4_search_X5 l D o be mo w v0 v1 v2 b t fr fa ft rs rf sv σ τ x2 _ h) (((List.Perm.refl _)).trans (List.Perm.of_eq (by simp only [List.append_assoc, List.nil_append, List.append_nil]))) ⟨0, 8, _, TX5, 4, rfl, rfl⟩ q1073 q1074 (fun s args hts _ => vUx.of2 (args := args) (by decide) (side_cls hts) (hts _ q1074) (hts _ q1079)) (fun s args hts _ => hts _ q1077) q79 q1079 ⟨by decide, by decide, (show (parseMethodDescriptor "(LBrookWeirs$Brook;I)LBrookWeirs$Side;").map (fun d => d.parameters.length) = some 2 from by decide +kernel)⟩ ⟨rfl, rfl, (Nat.le_of_ble_eq_true rfl), (Nat.le_of_ble_eq_true rfl)⟩ (Nat.le_of_ble_eq_true rfl) ⟨(Nat.le_of_ble_eq_true rfl), (Nat.le_of_ble_eq_true rfl)⟩ dX4_choose_11 (fun u3 h => ?_)
  refine v_eqw (ws1 := ([(o, .inr (8, [.int (u3.1), .int (u3.2.1), .ref w, .ref w]))] ++ ([(w, .inr (0, [.ref v0, .ref (t 0), .ref v1, .ref v2, .int ft, .int rs, .int rf, .ref fr, .ref fa, sv]))] ++ (bkW D b (u3.2.2.1) ++ (bkW D t (u3.2.2.2) ++ []))))) (by simp only [List.append_assoc, List.nil_append, List.append_nil]) ?_
  refine v_getO 14 hF in_X5 0 rfl rfl 0 (Nat.le_of_ble_eq_true rfl) q334 rfl dX4_choose_14 ?_
  refine v_callUv (As := [.ref (b 0), .int (u3.1)]) (x0 := ({ cls := "BrookWeirs$Side", name := "open", desc := "(LBrookWeirs$Brook;I)V" } : Jvm.MethodName)) (b := o) (wr := ([(w, .inr (0, [.ref v0, .ref (t 0), .ref v1, .ref v2, .int ft, .int rs, .int rf, .ref fr, .ref fa, sv]))] ++ (bkW D t (u3.2.2.2) ++ []))) 17 hF (c_X5_open l D o (u3.1) (u3.2.1) w b (u3.2.2.1) (u3.1) _ h) ((((((((List.Perm.refl _)).append_left _).trans (pm_sw _ _ _))).append_left _)).trans (List.Perm.of_eq (by simp only [List.append_assoc, List.nil_append, List.append_nil]))) ⟨0, 8, _, TX5, 4, rfl, rfl⟩ q1088 q1095 (fun s args hts hE => vUx.of1 (args := #[]) (by decide) (side_cls hts) (hE.2.1 _ q1089 rfl)) (fun s args hts _ => hts _ q1094) q80 q1096 ⟨by decide, by decide, (show (parseMethodDescriptor "(LBrookWeirs$Brook;I)V").map (fun d => d.parameters.length) = some 2 from by decide +kernel)⟩ ⟨rfl, rfl, (Nat.le_of_ble_eq_true rfl), (Nat.le_of_ble_eq_true rfl)⟩ (Nat.le_of_ble_eq_true rfl) ⟨(Nat.le_of_ble_eq_true rfl), (Nat.le_of_ble_eq_true rfl)⟩ dX4_choose_17 (fun u4 h => ?_)
  refine v_eqw (ws1 := ([(o, .inr (8, [.int (u3.1), .int (u3.2.1), .ref w, .ref w]))] ++ (bkW D b u4 ++ ([(w, .inr (0, [.ref v0, .ref (t 0), .ref v1, .ref v2, .int ft, .int rs, .int rf, .ref fr, .ref fa, sv]))] ++ (bkW D t (u3.2.2.2) ++ []))))) (by simp only [List.append_assoc, List.nil_append, List.append_nil]) ?_
  refine v_perm (ws' := ([(o, .inr (8, [.int (u3.1), .int (u3.2.1), .ref w, .ref w]))] ++ ([(w, .inr (0, [.ref v0, .ref (t 0), .ref v1, .ref v2, .int ft, .int rs, .int rf, .ref fr, .ref fa, sv]))] ++ (bkW D b u4 ++ (bkW D t (u3.2.2.2) ++ []))))) ((((((List.Perm.refl _)).append_left _).trans (pm_sw _ _ _))).append_left _) ?_
  refine v_iload_n 20 hF dX4_choose_20 rfl 3 rfl ?_
  refine v_aload_n 21 hF dX4_choose_21 rfl 0 rfl ?_
  refine v_aload_n 22 hF dX4_choose_22 rfl 1 rfl ?_
  refine v_callUi (As := [.ref (b 0)]) (x0 := ({ cls := "BrookWeirs$Side", name := "latches", desc := "(LBrookWeirs$Brook;)I" } : Jvm.MethodName)) (b := o) (wr := ([(w, .inr (0, [.ref v0, .ref (t 0), .ref v1, .ref v2, .int ft, .int rs, .int rf, .ref fr, .ref fa, sv]))] ++ (bkW D t (u3.2.2.2) ++ []))) 23 hF (c_X5_latches l D o (u3.1) (u3.2.1) w b u4 _ h) ((((((((List.Perm.refl _)).append_left _).trans (pm_sw _ _ _))).append_left _)).trans (List.Perm.of_eq (by simp only [List.append_assoc, List.nil_append, List.append_nil]))) ⟨0, 8, _, TX5, 4, rfl, rfl⟩ q1063 q1070 (fun s args hts hE => vUx.of1 (args := #[]) (by decide) (side_cls hts) (hE.2.1 _ q1064 rfl)) (fun s args hts _ => hts _ q1069) q80 q1071 ⟨by decide, by decide, (show (parseMethodDescriptor "(LBrookWeirs$Brook;)I").map (fun d => d.parameters.length) = some 1 from by decide +kernel)⟩ ⟨rfl, rfl, (Nat.le_of_ble_eq_true rfl), (Nat.le_of_ble_eq_true rfl)⟩ (Nat.le_of_ble_eq_true rfl) ⟨(Nat.le_of_ble_eq_true rfl), (Nat.le_of_ble_eq_true rfl)⟩ dX4_choose_23 (fun r5 u6 h => ?_)
  refine v_eqw (ws1 := ([(o, .inr (8, [.int (u3.1), .int (u3.2.1), .ref w, .ref w]))] ++ (bkW D b u4 ++ ([(w, .inr (0, [.ref v0, .ref (t 0), .ref v1, .ref v2, .int ft, .int rs, .int rf, .ref fr, .ref fa, sv]))] ++ (bkW D t (u3.2.2.2) ++ []))))) (by simp only [List.append_assoc, List.nil_append, List.append_nil]) ?_
  refine v_perm (ws' := ([(o, .inr (8, [.int (u3.1), .int (u3.2.1), .ref w, .ref w]))] ++ ([(w, .inr (0, [.ref v0, .ref (t 0), .ref v1, .ref v2, .int ft, .int rs, .int rf, .ref fr, .ref fa, sv]))] ++ (bkW D b u4 ++ (bkW D t (u3.2.2.2) ++ []))))) ((((((List.Perm.refl _)).append_left _).trans (pm_sw _ _ _))).append_left _) ?_
  refine v_ixor 26 hF dX4_choose_26 ?_
  refine v_callS0i (As := [.int ((r1 ^^^ r5))]) 27 hF (c_J20_bitCount l D ((r1 ^^^ r5)) _ h) q1122 q478 q101 q479 ds_J20_bitCount ⟨rfl, rfl, (Nat.le_of_ble_eq_true rfl), (Nat.le_of_ble_eq_true rfl)⟩ (Nat.le_of_ble_eq_true rfl) ⟨(Nat.le_of_ble_eq_true rfl), (Nat.le_of_ble_eq_true rfl)⟩ dX4_choose_27 (fun r7 h => ?_)
  exact v_iret (u := (u3.1, u3.2.1, u4, u3.2.2.2)) 30 hF hR (Nat.le_of_ble_eq_true rfl) (Nat.le_of_ble_eq_true rfl) dX4_choose_30 h
def w_X4_worth_X6 (o : Nat) (be : Int32) (mo : Int32) (w : Nat) (v0 : Nat) (v1 : Nat) (v2 : Nat) (b : Nat → Nat) (t : Nat → Nat) (fr : Nat) (fa : Nat) (ft : Int32) (rs : Int32) (rf : Int32) (sv : Value) (σ : Nat → Nat → Int32) (τ : Nat → Nat → Int32) (x2 : Int32) (x3 : Int32) (Q : Int32 → ((Nat → Nat → Int32) × (Nat → Nat → Int32)) → Prop) : Prop :=
  ∀ u1 : Unit, w_X6_open o be mo w t σ x3 (fun u2 => w_X2_pass u2 x2 (fun u3 => w_X6_value o be mo w b σ t u3 (fun r4 u5 => Q r4 ((σ, u3)))))
set_option maxHeartbeats 4000000 in
theorem c_X4_worth_X6 (l : Launch) (D : va_G) (o : Nat) (be : Int32) (mo : Int32) (w : Nat) (v0 : Nat) (v1 : Nat) (v2 : Nat) (b : Nat → Nat) (t : Nat → Nat) (fr : Nat) (fa : Nat) (ft : Int32) (rs : Int32) (rf : Int32) (sv : Value) (σ : Nat → Nat → Int32) (τ : Nat → Nat → Int32) (x2 : Int32) (x3 : Int32) (Q : Int32 → ((Nat → Nat → Int32) × (Nat → Nat → Int32)) → Prop) (h : w_X4_worth_X6 o be mo w v0 v1 v2 b t fr fa ft rs rf sv σ τ x2 x3 Q) : Cti l D yX4_worth cX4_worth 4 .int (rmk 5 0 0 153) [.ref o, .ref (b 0), .int x2, .int x3] ([(o, .inr (9, [.int be, .int mo, .ref w, .ref w]))] ++ ([(w, .inr (0, [.ref v0, .ref (t 0), .ref v1, .ref v2, .int ft, .int rs, .int rf, .ref fr, .ref fa, sv]))] ++ (bkW D b σ ++ (bkW D t τ ++ [])))) (fun u : (Nat → Nat → Int32) × (Nat → Nat → Int32) => ([(o, .inr (9, [.int be, .int mo, .ref w, .ref w]))] ++ ([(w, .inr (0, [.ref v0, .ref (t 0), .ref v1, .ref v2, .int ft, .int rs, .int rf, .ref fr, .ref fa, sv]))] ++ (bkW D b (u.1) ++ (bkW D t (u.2) ++ []))))) Q 0 0 := by
  refine Cti.of (by decide) (Nat.le_of_ble_eq_true rfl) (fun x hF hR => ?_)
  replace hF : vF x l D "BrookWeirs$Side" cX4_worth (rmk 5 0 0 153) 4 (some .int) := hF
  unfold w_X4_worth_X6 at h
  refine v_aload_n 0 hF dX4_worth_0 rfl 0 rfl ?_
  refine v_getO 1 hF in_X6 0 rfl rfl 2 (Nat.le_of_ble_eq_true rfl) q338 rfl dX4_worth_1 ?_
  refine v_getN 4 hF in_X1 1 rfl rfl 1 (Nat.le_of_ble_eq_true rfl) q363 rfl rfl dX4_worth_4 ?_
  refine v_aload_n 7 hF dX4_worth_7 rfl 1 rfl ?_
  refine v_callVr (As := [.ref (b 0)]) (b := t 0) (wr := ([(o, .inr (9, [.int be, .int mo, .ref w, .ref w]))] ++ ([(w, .inr (0, [.ref v0, .ref (t 0), .ref v1, .ref v2, .int ft, .int rs, .int rf, .ref fr, .ref fa, sv]))] ++ []))) 8 hF (c_X2_become l D t b τ σ) (((((((((((((List.Perm.refl _)).append_left _).trans (pm_sw _ _ _))).append_left _).trans (pm_sw _ _ _))).append_left _).trans (pm_sw _ _ _)).trans (((((((((List.Perm.refl _)).append_left _).trans (pm_sw _ _ _))).append_left _).trans (pm_sw _ _ _))).append_left _))).trans (List.Perm.of_eq (by simp only [List.append_assoc, List.nil_append, List.append_nil]))) ⟨0, 6, _, TX2, 24, rfl, rfl⟩ q1087 q492 q493 q71 q494 ds_X2_become ⟨rfl, rfl, (Nat.le_of_ble_eq_true rfl), (Nat.le_of_ble_eq_true rfl)⟩ (Nat.le_of_ble_eq_true rfl) ⟨(Nat.le_of_ble_eq_true rfl), (Nat.le_of_ble_eq_true rfl)⟩ dX4_worth_8 (fun u1 _ => ?_)
  replace h := h u1
  refine v_eqw (ws1 := (bkW D t σ ++ (bkW D b σ ++ ([(o, .inr (9, [.int be, .int mo, .ref w, .ref w]))] ++ ([(w, .inr (0, [.ref v0, .ref (t 0), .ref v1, .ref v2, .int ft, .int rs, .int rf, .ref fr, .ref fa, sv]))] ++ []))))) (by simp only [List.append_assoc, List.nil_append, List.append_nil]) ?_
  refine v_perm (ws' := ([(o, .inr (9, [.int be, .int mo, .ref w, .ref w]))] ++ ([(w, .inr (0, [.ref v0, .ref (t 0), .ref v1, .ref v2, .int ft, .int rs, .int rf, .ref fr, .ref fa, sv]))] ++ (bkW D b σ ++ (bkW D t σ ++ []))))) ((((((((List.Perm.refl _)).append_left _).trans (pm_sw _ _ _))).append_left _).trans (pm_sw _ _ _)).trans ((((((((((List.Perm.refl _)).append_left _).trans (pm_sw _ _ _))).append_left _).trans (pm_sw _ _ _)).trans ((((((List.Perm.refl _)).append_left _).trans (pm_sw _ _ _))).append_left _))).append_left _)) ?_
  refine v_pop 11 hF dX4_worth_11 rfl ?_
  refine v_aload_n 12 hF dX4_worth_12 rfl 0 rfl ?_
  refine v_aload_n 13 hF dX4_worth_13 rfl 0 rfl ?_
  refine v_getO 14 hF in_X6 0 rfl rfl 2 (Nat.le_of_ble_eq_true rfl) q338 rfl dX4_worth_14 ?_
  refine v_getN 17 hF in_X1 1 rfl rfl 1 (Nat.le_of_ble_eq_true rfl) q363 rfl rfl dX4_worth_17 ?_
  refine v_iload_n 20 hF dX4_worth_20 rfl 3 rfl ?_
  refine v_callUv (As := [.ref (t 0), .int x3]) (x0 := ({ cls := "BrookWeirs$Side", name := "open", desc := "(LBrookWeirs$Brook;I)V" } : Jvm.MethodName)) (b := o) (wr := ([(w, .inr (0, [.ref v0, .ref (t 0), .ref v1, .ref v2, .int ft, .int rs, .int rf, .ref fr, .ref fa, sv]))] ++ (bkW D b σ ++ []))) 21 hF (c_X6_open l D o be mo w t σ x3 _ h) (((((((((((List.Perm.refl _)).append_left _).trans (pm_sw _ _ _))).append_left _).trans (pm_sw _ _ _))).append_left _)).trans (List.Perm.of_eq (by simp only [List.append_assoc, List.nil_append, List.append_nil]))) ⟨0, 9, _, TX6, 4, rfl, rfl⟩ q1088 q1092 (fun s args hts hE => vUx.of1 (args := #[]) (by decide) (side_cls hts) (hE.2.1 _ q1089 rfl)) (fun s args hts _ => hts _ q1091) q81 q1093 ⟨by decide, by decide, (show (parseMethodDescriptor "(LBrookWeirs$Brook;I)V").map (fun d => d.parameters.length) = some 2 from by decide +kernel)⟩ ⟨rfl, rfl, (Nat.le_of_ble_eq_true rfl), (Nat.le_of_ble_eq_true rfl)⟩ (Nat.le_of_ble_eq_true rfl) ⟨(Nat.le_of_ble_eq_true rfl), (Nat.le_of_ble_eq_true rfl)⟩ dX4_worth_21 (fun u2 h => ?_)
  refine v_eqw (ws1 := ([(o, .inr (9, [.int be, .int mo, .ref w, .ref w]))] ++ (bkW D t u2 ++ ([(w, .inr (0, [.ref v0, .ref (t 0), .ref v1, .ref v2, .int ft, .int rs, .int rf, .ref fr, .ref fa, sv]))] ++ (bkW D b σ ++ []))))) (by simp only [List.append_assoc, List.nil_append, List.append_nil]) ?_
  refine v_perm (ws' := ([(o, .inr (9, [.int be, .int mo, .ref w, .ref w]))] ++ ([(w, .inr (0, [.ref v0, .ref (t 0), .ref v1, .ref v2, .int ft, .int rs, .int rf, .ref fr, .ref fa, sv]))] ++ (bkW D b σ ++ (bkW D t u2 ++ []))))) (((((((List.Perm.refl _)).append_left _).trans (pm_sw _ _ _)).trans ((((((List.Perm.refl _)).append_left _).trans (pm_sw _ _ _))).append_left _))).append_left _) ?_
  refine v_aload_n 24 hF dX4_worth_24 rfl 0 rfl ?_
  refine v_aload_n 25 hF dX4_worth_25 rfl 1 rfl ?_
  refine v_aload_n 26 hF dX4_worth_26 rfl 0 rfl ?_
  refine v_getO 27 hF in_X6 0 rfl rfl 2 (Nat.le_of_ble_eq_true rfl) q338 rfl dX4_worth_27 ?_
  refine v_getN 30 hF in_X1 1 rfl rfl 1 (Nat.le_of_ble_eq_true rfl) q363 rfl rfl dX4_worth_30 ?_
  refine v_iload_n 33 hF dX4_worth_33 rfl 2 rfl ?_
  refine v_callVr (As := [.int x2]) (b := t 0) (wr := ([(o, .inr (9, [.int be, .int mo, .ref w, .ref w]))] ++ ([(w, .inr (0, [.ref v0, .ref (t 0), .ref v1, .ref v2, .int ft, .int rs, .int rf, .ref fr, .ref fa, sv]))] ++ (bkW D b σ ++ [])))) 34 hF (c_X2_pass l D t u2 x2 _ h) ((((((((((((List.Perm.refl _)).append_left _).trans (pm_sw _ _ _))).append_left _).trans (pm_sw _ _ _))).append_left _).trans (pm_sw _ _ _))).trans (List.Perm.of_eq (by simp only [List.append_assoc, List.nil_append, List.append_nil]))) ⟨0, 6, _, TX2, 24, rfl, rfl⟩ q1098 q1099 q1100 q71 q1101 ds_X2_pass ⟨rfl, rfl, (Nat.le_of_ble_eq_true rfl), (Nat.le_of_ble_eq_true rfl)⟩ (Nat.le_of_ble_eq_true rfl) ⟨(Nat.le_of_ble_eq_true rfl), (Nat.le_of_ble_eq_true rfl)⟩ dX4_worth_34 (fun u3 h => ?_)
  refine v_eqw (ws1 := (bkW D t u3 ++ ([(o, .inr (9, [.int be, .int mo, .ref w, .ref w]))] ++ ([(w, .inr (0, [.ref v0, .ref (t 0), .ref v1, .ref v2, .int ft, .int rs, .int rf, .ref fr, .ref fa, sv]))] ++ (bkW D b σ ++ []))))) (by simp only [List.append_assoc, List.nil_append, List.append_nil]) ?_
  refine v_perm (ws' := ([(o, .inr (9, [.int be, .int mo, .ref w, .ref w]))] ++ ([(w, .inr (0, [.ref v0, .ref (t 0), .ref v1, .ref v2, .int ft, .int rs, .int rf, .ref fr, .ref fa, sv]))] ++ (bkW D b σ ++ (bkW D t u3 ++ []))))) (((((List.Perm.refl _)).append_left _).trans (pm_sw _ _ _)).trans (((((((List.Perm.refl _)).append_left _).trans (pm_sw _ _ _)).trans ((((((List.Perm.refl _)).append_left _).trans (pm_sw _ _ _))).append_left _))).append_left _)) ?_
  refine v_callUi (As := [.ref (b 0), .ref (t 0)]) (x0 := ({ cls := "BrookWeirs$Side", name := "value", desc := "(LBrookWeirs$Brook;LBrookWeirs$Brook;)I" } : Jvm.MethodName)) (b := o) (wr := ([(w, .inr (0, [.ref v0, .ref (t 0), .ref v1, .ref v2, .int ft, .int rs, .int rf, .ref fr, .ref fa, sv]))] ++ [])) 37 hF (c_X6_value l D o be mo w b σ t u3 _ h) (((((((((List.Perm.refl _)).append_left _).trans (pm_sw _ _ _)).trans ((((((List.Perm.refl _)).append_left _).trans (pm_sw _ _ _))).append_left _))).append_left _)).trans (List.Perm.of_eq (by simp only [List.append_assoc, List.nil_append, List.append_nil]))) ⟨0, 9, _, TX6, 4, rfl, rfl⟩ q1103 q1107 (fun s args hts hE => vUx.of1 (args := #[]) (by decide) (side_cls hts) (hE.2.1 _ q1104 rfl)) (fun s args hts _ => hts _ q1106) q81 q1108 ⟨by decide, by decide, (show (parseMethodDescriptor "(LBrookWeirs$Brook;LBrookWeirs$Brook;)I").map (fun d => d.parameters.length) = some 2 from by decide +kernel)⟩ ⟨rfl, rfl, (Nat.le_of_ble_eq_true rfl), (Nat.le_of_ble_eq_true rfl)⟩ (Nat.le_of_ble_eq_true rfl) ⟨(Nat.le_of_ble_eq_true rfl), (Nat.le_of_ble_eq_true rfl)⟩ dX4_worth_37 (fun r4 u5 h => ?_)
  refine v_eqw (ws1 := ([(o, .inr (9, [.int be, .int mo, .ref w, .ref w]))] ++ (bkW D b σ ++ (bkW D t u3 ++ ([(w, .inr (0, [.ref v0, .ref (t 0), .ref v1, .ref v2, .int ft, .int rs, .int rf, .ref fr, .ref fa, sv]))] ++ []))))) (by simp only [List.append_assoc, List.nil_append, List.append_nil]) ?_
  refine v_perm (ws' := ([(o, .inr (9, [.int be, .int mo, .ref w, .ref w]))] ++ ([(w, .inr (0, [.ref v0, .ref (t 0), .ref v1, .ref v2, .int ft, .int rs, .int rf, .ref fr, .ref fa, sv]))] ++ (bkW D b σ ++ (bkW D t u3 ++ []))))) (((((((((List.Perm.refl _)).append_left _).trans (pm_sw _ _ _))).append_left _).trans (pm_sw _ _ _))).append_left _) ?_
  exact v_iret (u := (σ, u3)) 40 hF hR (Nat.le_of_ble_eq_true rfl) (Nat.le_of_ble_eq_true rfl) dX4_worth_40 h
def w_X4_search_X6 (o : Nat) (be : Int32) (mo : Int32) (w : Nat) (v0 : Nat) (v1 : Nat) (v2 : Nat) (b : Nat → Nat) (t : Nat → Nat) (fr : Nat) (fa : Nat) (ft : Int32) (rs : Int32) (rf : Int32) (sv : Value) (σ : Nat → Nat → Int32) (τ : Nat → Nat → Int32) (x2 : Int32) (Q : ((Int32) × (Int32) × (Nat → Nat → Int32) × (Nat → Nat → Int32)) → Prop) : Prop :=
  w_X4_worth_X6 o ((0 : Int32)) mo w v0 v1 v2 b t fr fa ft rs rf sv σ τ x2 ((0 : Int32)) (fun r1 u2 => wLoop (fun (K18 : (Int32) × (Int32) × (Int32) × (Nat → Nat → Int32) × (Nat → Nat → Int32) → Prop) (z8 : (Int32) × (Int32) × (Int32) × (Nat → Nat → Int32) × (Nat → Nat → Int32)) => (fun (v3 : Int32) (v4 : Int32) (v5 : Int32) (v6 : Nat → Nat → Int32) (v7 : Nat → Nat → Int32) => ((((1 : Int32) <<< ((v6 20 8) &&& 31)) ≤ v3 → Q ((v4, v5, v6, v7))) ∧ (¬ ((1 : Int32) <<< ((v6 20 8) &&& 31)) ≤ v3 → w_X4_worth_X6 o v4 v5 w v0 v1 v2 b t fr fa ft rs rf sv v6 v7 x2 v3 (fun r10 u11 => w_X4_look_X6 o v4 v5 w v3 r10 (fun u12 => ∀ y13 : Int32, y13 = v3 + (1 : Int32) → K18 ((y13, u12.1, u12.2, u11.1, u11.2))))))) z8.1 z8.2.1 z8.2.2.1 z8.2.2.2.1 z8.2.2.2.2) (((1 : Int32), (0 : Int32), r1, u2.1, u2.2)))
set_option maxHeartbeats 4000000 in
theorem c_X4_search_X6 (l : Launch) (D : va_G) (o : Nat) (be : Int32) (mo : Int32) (w : Nat) (v0 : Nat) (v1 : Nat) (v2 : Nat) (b : Nat → Nat) (t : Nat → Nat) (fr : Nat) (fa : Nat) (ft : Int32) (rs : Int32) (rf : Int32) (sv : Value) (σ : Nat → Nat → Int32) (τ : Nat → Nat → Int32) (x2 : Int32) (Q : ((Int32) × (Int32) × (Nat → Nat → Int32) × (Nat → Nat → Int32)) → Prop) (h : w_X4_search_X6 o be mo w v0 v1 v2 b t fr fa ft rs rf sv σ τ x2 Q) : Ctr l D yX4_search cX4_search 4 (.object "BrookWeirs$Side") (rmk 6 0 0 176) [.ref o, .ref (b 0), .int x2] ([(o, .inr (9, [.int be, .int mo, .ref w, .ref w]))] ++ ([(w, .inr (0, [.ref v0, .ref (t 0), .ref v1, .ref v2, .int ft, .int rs, .int rf, .ref fr, .ref fa, sv]))] ++ (bkW D b σ ++ (bkW D t τ ++ [])))) (fun u : (Int32) × (Int32) × (Nat → Nat → Int32) × (Nat → Nat → Int32) => ([(o, .inr (9, [.int (u.1), .int (u.2.1), .ref w, .ref w]))] ++ ([(w, .inr (0, [.ref v0, .ref (t 0), .ref v1, .ref v2, .int ft, .int rs, .int rf, .ref fr, .ref fa, sv]))] ++ (bkW D b (u.2.2.1) ++ (bkW D t (u.2.2.2) ++ []))))) (fun u : (Int32) × (Int32) × (Nat → Nat → Int32) × (Nat → Nat → Int32) => o) Q 0 0 := by
  refine Ctr.of (by decide) (Nat.le_of_ble_eq_true rfl) (fun x hF hR => ?_)
  replace hF : vF x l D "BrookWeirs$Side" cX4_search (rmk 6 0 0 176) 4 (some (.object "BrookWeirs$Side")) := hF
  unfold w_X4_search_X6 at h
  refine v_aload_n 0 hF dX4_search_0 rfl 0 rfl ?_
  refine v_iconst (v := 0) 1 hF dX4_search_1 (by decide) ?_
  refine v_putA ([(o, .inr (9, [.int ((0 : Int32)), .int mo, .ref w, .ref w]))] ++ ([(w, .inr (0, [.ref v0, .ref (t 0), .ref v1, .ref v2, .int ft, .int rs, .int rf, .ref fr, .ref fa, sv]))] ++ (bkW D b σ ++ (bkW D t τ ++ [])))) 2 hF in_X6 tyX6_ok nm2X6 0 rfl rfl 0 (Nat.le_of_ble_eq_true rfl) q334 rfl rfl rfl rfl (Nat.le_of_ble_eq_true rfl) rfl dX4_search_2 ?_
  refine v_aload_n 5 hF dX4_search_5 rfl 0 rfl ?_
  refine v_aload_n 6 hF dX4_search_6 rfl 0 rfl ?_
  refine v_aload_n 7 hF dX4_search_7 rfl 1 rfl ?_
  refine v_iload_n 8 hF dX4_search_8 rfl 2 rfl ?_
  refine v_iconst (v := 0) 9 hF dX4_search_9 (by decide) ?_
  refine v_callUi (As := [.ref (b 0), .int x2, .int ((0 : Int32))]) (x0 := ({ cls := "BrookWeirs$Side", name := "worth", desc := "(LBrookWeirs$Brook;II)I" } : Jvm.MethodName)) (b := o) (wr := ([])) 10 hF (c_X4_worth_X6 l D o ((0 : Int32)) mo w v0 v1 v2 b t fr fa ft rs rf sv σ τ x2 ((0 : Int32)) _ h) (((List.Perm.refl _)).trans (List.Perm.of_eq (by simp only [List.append_assoc, List.nil_append, List.append_nil]))) ⟨0, 9, _, TX6, 4, rfl, rfl⟩ q1080 q1081 (fun s args hts _ => vUx.of2 (args := args) (by decide) (side_cls hts) (hts _ q1081) (hts _ q1086)) (fun s args hts _ => hts _ q1083) q79 q1086 ⟨by decide, by decide, (show (parseMethodDescriptor "(LBrookWeirs$Brook;II)I").map (fun d => d.parameters.length) = some 3 from by decide +kernel)⟩ ⟨rfl, rfl, (Nat.le_of_ble_eq_true rfl), (Nat.le_of_ble_eq_true rfl)⟩ (Nat.le_of_ble_eq_true rfl) ⟨(Nat.le_of_ble_eq_true rfl), (Nat.le_of_ble_eq_true rfl)⟩ dX4_search_10 (fun r1 u2 h => ?_)
  refine v_eqw (ws1 := ([(o, .inr (9, [.int ((0 : Int32)), .int mo, .ref w, .ref w]))] ++ ([(w, .inr (0, [.ref v0, .ref (t 0), .ref v1, .ref v2, .int ft, .int rs, .int rf, .ref fr, .ref fa, sv]))] ++ (bkW D b (u2.1) ++ (bkW D t (u2.2) ++ []))))) (by simp only [List.append_assoc, List.nil_append, List.append_nil]) ?_
  refine v_putA ([(o, .inr (9, [.int ((0 : Int32)), .int r1, .ref w, .ref w]))] ++ ([(w, .inr (0, [.ref v0, .ref (t 0), .ref v1, .ref v2, .int ft, .int rs, .int rf, .ref fr, .ref fa, sv]))] ++ (bkW D b (u2.1) ++ (bkW D t (u2.2) ++ [])))) 13 hF in_X6 tyX6_ok nm2X6 0 rfl rfl 1 (Nat.le_of_ble_eq_true rfl) q336 rfl rfl rfl rfl (Nat.le_of_ble_eq_true rfl) rfl dX4_search_13 ?_
  refine v_iconst (v := 1) 16 hF dX4_search_16 (by decide) ?_
  refine v_istore_n [(0, .ref o), (1, .ref (b 0)), (2, .int x2), (3, .int ((1 : Int32)))] [1, 2, 3, 0] 17 hF dX4_search_17 rfl (Nat.le_of_ble_eq_true rfl) rfl ?_
  refine vLoop (V := fun z8 : (Int32) × (Int32) × (Int32) × (Nat → Nat → Int32) × (Nat → Nat → Int32) => vV x 0 0 ([(o, .inr (9, [.int (z8.2.1), .int (z8.2.2.1), .ref w, .ref w]))] ++ ([(w, .inr (0, [.ref v0, .ref (t 0), .ref v1, .ref v2, .int ft, .int rs, .int rf, .ref fr, .ref fa, sv]))] ++ (bkW D b (z8.2.2.2.1) ++ (bkW D t (z8.2.2.2.2) ++ [])))) [(0, .ref o), (1, .ref (b 0)), (2, .int x2), (3, .int (z8.1))] 18 []) (fun K18 hK18 z8 hs => ?_) _ h
  obtain ⟨v3, v4, v5, v6, v7⟩ := z8
  have h : ((((1 : Int32) <<< ((v6 20 8) &&& 31)) ≤ v3 → Q ((v4, v5, v6, v7))) ∧ (¬ ((1 : Int32) <<< ((v6 20 8) &&& 31)) ≤ v3 → w_X4_worth_X6 o v4 v5 w v0 v1 v2 b t fr fa ft rs rf sv v6 v7 x2 v3 (fun r10 u11 => w_X4_look_X6 o v4 v5 w v3 r10 (fun u12 => ∀ y13 : Int32, y13 = v3 + (1 : Int32) → K18 ((y13, u12.1, u12.2, u11.1, u11.2)))))) := hs
  refine v_iload_n 18 hF dX4_search_18 rfl 3 rfl ?_
  refine v_iconst (v := 1) 19 hF dX4_search_19 (by decide) ?_
  refine v_aload_n 20 hF dX4_search_20 rfl 1 rfl ?_
  refine v_getN 21 hF in_X2 2 rfl rfl 8 (Nat.le_of_ble_eq_true rfl) q184 rfl rfl dX4_search_21 ?_
  refine v_ishl 24 hF dX4_search_24 ?_
  refine v_icmp_ge 25 46 hF dX4_search_25 (by decide) (fun c9 => ?_) (fun c9 => ?_)
  · replace h := h.1 c9
    refine v_aload_n 46 hF dX4_search_46 rfl 0 rfl ?_
    exact v_aret (u := (v4, v5, v6, v7)) 47 hF (Or.inl ⟨_, rfl⟩) hR (Nat.le_of_ble_eq_true rfl) (Nat.le_of_ble_eq_true rfl) dX4_search_47 rfl h
  · replace h := h.2 c9
    refine v_aload_n 28 hF dX4_search_28 rfl 0 rfl ?_
    refine v_iload_n 29 hF dX4_search_29 rfl 3 rfl ?_
    refine v_aload_n 30 hF dX4_search_30 rfl 0 rfl ?_
    refine v_aload_n 31 hF dX4_search_31 rfl 1 rfl ?_
    refine v_iload_n 32 hF dX4_search_32 rfl 2 rfl ?_
    refine v_iload_n 33 hF dX4_search_33 rfl 3 rfl ?_
    refine v_callUi (As := [.ref (b 0), .int x2, .int v3]) (x0 := ({ cls := "BrookWeirs$Side", name := "worth", desc := "(LBrookWeirs$Brook;II)I" } : Jvm.MethodName)) (b := o) (wr := ([])) 34 hF (c_X4_worth_X6 l D o v4 v5 w v0 v1 v2 b t fr fa ft rs rf sv v6 v7 x2 v3 _ h) (((List.Perm.refl _)).trans (List.Perm.of_eq (by simp only [List.append_assoc, List.nil_append, List.append_nil]))) ⟨0, 9, _, TX6, 4, rfl, rfl⟩ q1080 q1081 (fun s args hts _ => vUx.of2 (args := args) (by decide) (side_cls hts) (hts _ q1081) (hts _ q1086)) (fun s args hts _ => hts _ q1083) q79 q1086 ⟨by decide, by decide, (show (parseMethodDescriptor "(LBrookWeirs$Brook;II)I").map (fun d => d.parameters.length) = some 3 from by decide +kernel)⟩ ⟨rfl, rfl, (Nat.le_of_ble_eq_true rfl), (Nat.le_of_ble_eq_true rfl)⟩ (Nat.le_of_ble_eq_true rfl) ⟨(Nat.le_of_ble_eq_true rfl), (Nat.le_of_ble_eq_true rfl)⟩ dX4_search_34 (fun r10 u11 h => ?_)
    refine v_eqw (ws1 := ([(o, .inr (9, [.int v4, .int v5, .ref w, .ref w]))] ++ ([(w, .inr (0, [.ref v0, .ref (t 0), .ref v1, .ref v2, .int ft, .int rs, .int rf, .ref fr, .ref fa, sv]))] ++ (bkW D b (u11.1) ++ (bkW D t (u11.2) ++ []))))) (by simp only [List.append_assoc, List.nil_append, List.append_nil]) ?_
    refine v_callUv (As := [.int v3, .int r10]) (x0 := ({ cls := "BrookWeirs$Side", name := "look", desc := "(II)V" } : Jvm.MethodName)) (b := o) (wr := ([(w, .inr (0, [.ref v0, .ref (t 0), .ref v1, .ref v2, .int ft, .int rs, .int rf, .ref fr, .ref fa, sv]))] ++ (bkW D b (u11.1) ++ (bkW D t (u11.2) ++ [])))) 37 hF (c_X4_look_X6 l D o v4 v5 w v3 r10 _ h) (((List.Perm.refl _)).trans (List.Perm.of_eq (by simp only [List.append_assoc, List.nil_append, List.append_nil]))) ⟨0, 9, _, TX6, 4, rfl, rfl⟩ q1118 q1120 (fun s args hts _ => vUx.of2 (args := args) (by decide) (side_cls hts) (hts _ q1120) (hts _ q1121)) (fun s args hts hE => sel_priv (hE.1.1 9 (RX6, TX6, 4) rfl).2.1 (va_Nw.use rfl (hE.2.1 _ q1119 rfl)) (hts _ q1121) (side_cls hts) (by decide)) q79 q1121 ⟨by decide, by decide, (show (parseMethodDescriptor "(II)V").map (fun d => d.parameters.length) = some 2 from by decide +kernel)⟩ ⟨rfl, rfl, (Nat.le_of_ble_eq_true rfl), (Nat.le_of_ble_eq_true rfl)⟩ (Nat.le_of_ble_eq_true rfl) ⟨(Nat.le_of_ble_eq_true rfl), (Nat.le_of_ble_eq_true rfl)⟩ dX4_search_37 (fun u12 h => ?_)
    refine v_eqw (ws1 := ([(o, .inr (9, [.int (u12.1), .int (u12.2), .ref w, .ref w]))] ++ ([(w, .inr (0, [.ref v0, .ref (t 0), .ref v1, .ref v2, .int ft, .int rs, .int rf, .ref fr, .ref fa, sv]))] ++ (bkW D b (u11.1) ++ (bkW D t (u11.2) ++ []))))) (by simp only [List.append_assoc, List.nil_append, List.append_nil]) ?_
    obtain ⟨y13, ey13⟩ : ∃ y : Int32, y = v3 + (1 : Int32) := ⟨_, rfl⟩
    replace h := h y13 ey13
    refine v_iinc [(0, .ref o), (1, .ref (b 0)), (2, .int x2), (3, .int y13)] [1, 2, 3, 0] 40 hF dX4_search_40 3 rfl (by rw [ey13]; rfl) (Nat.le_of_ble_eq_true rfl) rfl ?_
    refine v_goto 43 18 hF dX4_search_43 (by decide) ?_
    exact hK18 ((y13, u12.1, u12.2, u11.1, u11.2)) h
def w_X4_choose_X6 (o : Nat) (be : Int32) (mo : Int32) (w : Nat) (v0 : Nat) (v1 : Nat) (v2 : Nat) (b : Nat → Nat) (t : Nat → Nat) (fr : Nat) (fa : Nat) (ft : Int32) (rs : Int32) (rf : Int32) (sv : Value) (σ : Nat → Nat → Int32) (τ : Nat → Nat → Int32) (x2 : Int32) (Q : Int32 → ((Int32) × (Int32) × (Nat → Nat → Int32) × (Nat → Nat → Int32)) → Prop) : Prop :=
  w_X6_latches o be mo w b σ (fun r1 u2 => w_X4_search_X6 o be mo w v0 v1 v2 b t fr fa ft rs rf sv σ τ x2 (fun u3 => w_X6_open o (u3.1) (u3.2.1) w b (u3.2.2.1) (u3.1) (fun u4 => w_X6_latches o (u3.1) (u3.2.1) w b u4 (fun r5 u6 => w_J20_bitCount ((r1 ^^^ r5)) (fun r7 => Q r7 ((u3.1, u3.2.1, u4, u3.2.2.2)))))))
set_option maxHeartbeats 4000000 in
theorem c_X4_choose_X6 (l : Launch) (D : va_G) (o : Nat) (be : Int32) (mo : Int32) (w : Nat) (v0 : Nat) (v1 : Nat) (v2 : Nat) (b : Nat → Nat) (t : Nat → Nat) (fr : Nat) (fa : Nat) (ft : Int32) (rs : Int32) (rf : Int32) (sv : Value) (σ : Nat → Nat → Int32) (τ : Nat → Nat → Int32) (x2 : Int32) (Q : Int32 → ((Int32) × (Int32) × (Nat → Nat → Int32) × (Nat → Nat → Int32)) → Prop) (h : w_X4_choose_X6 o be mo w v0 v1 v2 b t fr fa ft rs rf sv σ τ x2 Q) : Cti l D yX4_choose cX4_choose 4 .int (rmk 7 0 0 199) [.ref o, .ref (b 0), .int x2] ([(o, .inr (9, [.int be, .int mo, .ref w, .ref w]))] ++ ([(w, .inr (0, [.ref v0, .ref (t 0), .ref v1, .ref v2, .int ft, .int rs, .int rf, .ref fr, .ref fa, sv]))] ++ (bkW D b σ ++ (bkW D t τ ++ [])))) (fun u : (Int32) × (Int32) × (Nat → Nat → Int32) × (Nat → Nat → Int32) => ([(o, .inr (9, [.int (u.1), .int (u.2.1), .ref w, .ref w]))] ++ ([(w, .inr (0, [.ref v0, .ref (t 0), .ref v1, .ref v2, .int ft, .int rs, .int rf, .ref fr, .ref fa, sv]))] ++ (bkW D b (u.2.2.1) ++ (bkW D t (u.2.2.2) ++ []))))) Q 0 0 := by
  refine Cti.of (by decide) (Nat.le_of_ble_eq_true rfl) (fun x hF hR => ?_)
  replace hF : vF x l D "BrookWeirs$Side" cX4_choose (rmk 7 0 0 199) 4 (some .int) := hF
  unfold w_X4_choose_X6 at h
  refine v_aload_n 0 hF dX4_choose_0 rfl 0 rfl ?_
  refine v_aload_n 1 hF dX4_choose_1 rfl 1 rfl ?_
  refine v_callUi (As := [.ref (b 0)]) (x0 := ({ cls := "BrookWeirs$Side", name := "latches", desc := "(LBrookWeirs$Brook;)I" } : Jvm.MethodName)) (b := o) (wr := ([(w, .inr (0, [.ref v0, .ref (t 0), .ref v1, .ref v2, .int ft, .int rs, .int rf, .ref fr, .ref fa, sv]))] ++ (bkW D t τ ++ []))) 2 hF (c_X6_latches l D o be mo w b σ _ h) ((((((((List.Perm.refl _)).append_left _).trans (pm_sw _ _ _))).append_left _)).trans (List.Perm.of_eq (by simp only [List.append_assoc, List.nil_append, List.append_nil]))) ⟨0, 9, _, TX6, 4, rfl, rfl⟩ q1063 q1067 (fun s args hts hE => vUx.of1 (args := #[]) (by decide) (side_cls hts) (hE.2.1 _ q1064 rfl)) (fun s args hts _ => hts _ q1066) q81 q1068 ⟨by decide, by decide, (show (parseMethodDescriptor "(LBrookWeirs$Brook;)I").map (fun d => d.parameters.length) = some 1 from by decide +kernel)⟩ ⟨rfl, rfl, (Nat.le_of_ble_eq_true rfl), (Nat.le_of_ble_eq_true rfl)⟩ (Nat.le_of_ble_eq_true rfl) ⟨(Nat.le_of_ble_eq_true rfl), (Nat.le_of_ble_eq_true rfl)⟩ dX4_choose_2 (fun r1 u2 h => ?_)
  refine v_eqw (ws1 := ([(o, .inr (9, [.int be, .int mo, .ref w, .ref w]))] ++ (bkW D b σ ++ ([(w, .inr (0, [.ref v0, .ref (t 0), .ref v1, .ref v2, .int ft, .int rs, .int rf, .ref fr, .ref fa, sv]))] ++ (bkW D t τ ++ []))))) (by simp only [List.append_assoc, List.nil_append, List.append_nil]) ?_
  refine v_perm (ws' := ([(o, .inr (9, [.int be, .int mo, .ref w, .ref w]))] ++ ([(w, .inr (0, [.ref v0, .ref (t 0), .ref v1, .ref v2, .int ft, .int rs, .int rf, .ref fr, .ref fa, sv]))] ++ (bkW D b σ ++ (bkW D t τ ++ []))))) ((((((List.Perm.refl _)).append_left _).trans (pm_sw _ _ _))).append_left _) ?_
  refine v_istore_n [(0, .ref o), (1, .ref (b 0)), (2, .int x2), (3, .int r1)] [1, 2, 3, 0] 5 hF dX4_choose_5 rfl (Nat.le_of_ble_eq_true rfl) rfl ?_
  refine v_aload_n 6 hF dX4_choose_6 rfl 0 rfl ?_
  refine v_aload_n 7 hF dX4_choose_7 rfl 1 rfl ?_
  refine v_aload_n 8 hF dX4_choose_8 rfl 0 rfl ?_
  refine v_aload_n 9 hF dX4_choose_9 rfl 1 rfl ?_
  refine v_iload_n 10 hF dX4_choose_10 rfl 2 rfl ?_
  refine v_callUr (As := [.ref (b 0), .int x2]) (x0 := ({ cls := "BrookWeirs$Side", name := "search", desc := "(LBrookWeirs$Brook;I)LBrookWeirs$Side;" } : Jvm.MethodName)) (b := o) (wr := ([])) 11 hF (c_X4_search_X6 l D o be mo w v0 v1 v2 b t fr fa ft rs rf sv σ τ x2 _ h) (((List.Perm.refl _)).trans (List.Perm.of_eq (by simp only [List.append_assoc, List.nil_append, List.append_nil]))) ⟨0, 9, _, TX6, 4, rfl, rfl⟩ q1073 q1074 (fun s args hts _ => vUx.of2 (args := args) (by decide) (side_cls hts) (hts _ q1074) (hts _ q1079)) (fun s args hts _ => hts _ q1076) q79 q1079 ⟨by decide, by decide, (show (parseMethodDescriptor "(LBrookWeirs$Brook;I)LBrookWeirs$Side;").map (fun d => d.parameters.length) = some 2 from by decide +kernel)⟩ ⟨rfl, rfl, (Nat.le_of_ble_eq_true rfl), (Nat.le_of_ble_eq_true rfl)⟩ (Nat.le_of_ble_eq_true rfl) ⟨(Nat.le_of_ble_eq_true rfl), (Nat.le_of_ble_eq_true rfl)⟩ dX4_choose_11 (fun u3 h => ?_)
  refine v_eqw (ws1 := ([(o, .inr (9, [.int (u3.1), .int (u3.2.1), .ref w, .ref w]))] ++ ([(w, .inr (0, [.ref v0, .ref (t 0), .ref v1, .ref v2, .int ft, .int rs, .int rf, .ref fr, .ref fa, sv]))] ++ (bkW D b (u3.2.2.1) ++ (bkW D t (u3.2.2.2) ++ []))))) (by simp only [List.append_assoc, List.nil_append, List.append_nil]) ?_
  refine v_getO 14 hF in_X6 0 rfl rfl 0 (Nat.le_of_ble_eq_true rfl) q334 rfl dX4_choose_14 ?_
  refine v_callUv (As := [.ref (b 0), .int (u3.1)]) (x0 := ({ cls := "BrookWeirs$Side", name := "open", desc := "(LBrookWeirs$Brook;I)V" } : Jvm.MethodName)) (b := o) (wr := ([(w, .inr (0, [.ref v0, .ref (t 0), .ref v1, .ref v2, .int ft, .int rs, .int rf, .ref fr, .ref fa, sv]))] ++ (bkW D t (u3.2.2.2) ++ []))) 17 hF (c_X6_open l D o (u3.1) (u3.2.1) w b (u3.2.2.1) (u3.1) _ h) ((((((((List.Perm.refl _)).append_left _).trans (pm_sw _ _ _))).append_left _)).trans (List.Perm.of_eq (by simp only [List.append_assoc, List.nil_append, List.append_nil]))) ⟨0, 9, _, TX6, 4, rfl, rfl⟩ q1088 q1092 (fun s args hts hE => vUx.of1 (args := #[]) (by decide) (side_cls hts) (hE.2.1 _ q1089 rfl)) (fun s args hts _ => hts _ q1091) q81 q1093 ⟨by decide, by decide, (show (parseMethodDescriptor "(LBrookWeirs$Brook;I)V").map (fun d => d.parameters.length) = some 2 from by decide +kernel)⟩ ⟨rfl, rfl, (Nat.le_of_ble_eq_true rfl), (Nat.le_of_ble_eq_true rfl)⟩ (Nat.le_of_ble_eq_true rfl) ⟨(Nat.le_of_ble_eq_true rfl), (Nat.le_of_ble_eq_true rfl)⟩ dX4_choose_17 (fun u4 h => ?_)
  refine v_eqw (ws1 := ([(o, .inr (9, [.int (u3.1), .int (u3.2.1), .ref w, .ref w]))] ++ (bkW D b u4 ++ ([(w, .inr (0, [.ref v0, .ref (t 0), .ref v1, .ref v2, .int ft, .int rs, .int rf, .ref fr, .ref fa, sv]))] ++ (bkW D t (u3.2.2.2) ++ []))))) (by simp only [List.append_assoc, List.nil_append, List.append_nil]) ?_
  refine v_perm (ws' := ([(o, .inr (9, [.int (u3.1), .int (u3.2.1), .ref w, .ref w]))] ++ ([(w, .inr (0, [.ref v0, .ref (t 0), .ref v1, .ref v2, .int ft, .int rs, .int rf, .ref fr, .ref fa, sv]))] ++ (bkW D b u4 ++ (bkW D t (u3.2.2.2) ++ []))))) ((((((List.Perm.refl _)).append_left _).trans (pm_sw _ _ _))).append_left _) ?_
  refine v_iload_n 20 hF dX4_choose_20 rfl 3 rfl ?_
  refine v_aload_n 21 hF dX4_choose_21 rfl 0 rfl ?_
  refine v_aload_n 22 hF dX4_choose_22 rfl 1 rfl ?_
  refine v_callUi (As := [.ref (b 0)]) (x0 := ({ cls := "BrookWeirs$Side", name := "latches", desc := "(LBrookWeirs$Brook;)I" } : Jvm.MethodName)) (b := o) (wr := ([(w, .inr (0, [.ref v0, .ref (t 0), .ref v1, .ref v2, .int ft, .int rs, .int rf, .ref fr, .ref fa, sv]))] ++ (bkW D t (u3.2.2.2) ++ []))) 23 hF (c_X6_latches l D o (u3.1) (u3.2.1) w b u4 _ h) ((((((((List.Perm.refl _)).append_left _).trans (pm_sw _ _ _))).append_left _)).trans (List.Perm.of_eq (by simp only [List.append_assoc, List.nil_append, List.append_nil]))) ⟨0, 9, _, TX6, 4, rfl, rfl⟩ q1063 q1067 (fun s args hts hE => vUx.of1 (args := #[]) (by decide) (side_cls hts) (hE.2.1 _ q1064 rfl)) (fun s args hts _ => hts _ q1066) q81 q1068 ⟨by decide, by decide, (show (parseMethodDescriptor "(LBrookWeirs$Brook;)I").map (fun d => d.parameters.length) = some 1 from by decide +kernel)⟩ ⟨rfl, rfl, (Nat.le_of_ble_eq_true rfl), (Nat.le_of_ble_eq_true rfl)⟩ (Nat.le_of_ble_eq_true rfl) ⟨(Nat.le_of_ble_eq_true rfl), (Nat.le_of_ble_eq_true rfl)⟩ dX4_choose_23 (fun r5 u6 h => ?_)
  refine v_eqw (ws1 := ([(o, .inr (9, [.int (u3.1), .int (u3.2.1), .ref w, .ref w]))] ++ (bkW D b u4 ++ ([(w, .inr (0, [.ref v0, .ref (t 0), .ref v1, .ref v2, .int ft, .int rs, .int rf, .ref fr, .ref fa, sv]))] ++ (bkW D t (u3.2.2.2) ++ []))))) (by simp only [List.append_assoc, List.nil_append, List.append_nil]) ?_
  refine v_perm (ws' := ([(o, .inr (9, [.int (u3.1), .int (u3.2.1), .ref w, .ref w]))] ++ ([(w, .inr (0, [.ref v0, .ref (t 0), .ref v1, .ref v2, .int ft, .int rs, .int rf, .ref fr, .ref fa, sv]))] ++ (bkW D b u4 ++ (bkW D t (u3.2.2.2) ++ []))))) ((((((List.Perm.refl _)).append_left _).trans (pm_sw _ _ _))).append_left _) ?_
  refine v_ixor 26 hF dX4_choose_26 ?_
  refine v_callS0i (As := [.int ((r1 ^^^ r5))]) 27 hF (c_J20_bitCount l D ((r1 ^^^ r5)) _ h) q1122 q478 q101 q479 ds_J20_bitCount ⟨rfl, rfl, (Nat.le_of_ble_eq_true rfl), (Nat.le_of_ble_eq_true rfl)⟩ (Nat.le_of_ble_eq_true rfl) ⟨(Nat.le_of_ble_eq_true rfl), (Nat.le_of_ble_eq_true rfl)⟩ dX4_choose_27 (fun r7 h => ?_)
  exact v_iret (u := (u3.1, u3.2.1, u4, u3.2.2.2)) 30 hF hR (Nat.le_of_ble_eq_true rfl) (Nat.le_of_ble_eq_true rfl) dX4_choose_30 h
def w_X4_worth_X12 (o : Nat) (be : Int32) (mo : Int32) (fs : Nat) (w : Nat) (v0 : Nat) (v1 : Nat) (v2 : Nat) (b : Nat → Nat) (t : Nat → Nat) (fr : Nat) (fa : Nat) (ft : Int32) (rs : Int32) (rf : Int32) (sv : Value) (σ : Nat → Nat → Int32) (τ : Nat → Nat → Int32) (x2 : Int32) (x3 : Int32) (Q : Int32 → ((Nat → Nat → Int32) × (Nat → Nat → Int32)) → Prop) : Prop :=
  ∀ u1 : Unit, w_X6_open_X12 o be mo w fs t σ x3 (fun u2 => w_X2_pass u2 x2 (fun u3 => w_X6_value_X12 o be mo w fs b σ t u3 (fun r4 u5 => Q r4 ((σ, u3)))))
set_option maxHeartbeats 4000000 in
theorem c_X4_worth_X12 (l : Launch) (D : va_G) (o : Nat) (be : Int32) (mo : Int32) (fs : Nat) (w : Nat) (v0 : Nat) (v1 : Nat) (v2 : Nat) (b : Nat → Nat) (t : Nat → Nat) (fr : Nat) (fa : Nat) (ft : Int32) (rs : Int32) (rf : Int32) (sv : Value) (σ : Nat → Nat → Int32) (τ : Nat → Nat → Int32) (x2 : Int32) (x3 : Int32) (Q : Int32 → ((Nat → Nat → Int32) × (Nat → Nat → Int32)) → Prop) (h : w_X4_worth_X12 o be mo fs w v0 v1 v2 b t fr fa ft rs rf sv σ τ x2 x3 Q) : Cti l D yX4_worth cX4_worth 4 .int (rmk 5 0 0 153) [.ref o, .ref (b 0), .int x2, .int x3] ([(o, .inr (3, [.int be, .int mo, .ref w, .ref w, .ref fs, .ref w]))] ++ ([(w, .inr (0, [.ref v0, .ref (t 0), .ref v1, .ref v2, .int ft, .int rs, .int rf, .ref fr, .ref fa, sv]))] ++ (bkW D b σ ++ (bkW D t τ ++ [])))) (fun u : (Nat → Nat → Int32) × (Nat → Nat → Int32) => ([(o, .inr (3, [.int be, .int mo, .ref w, .ref w, .ref fs, .ref w]))] ++ ([(w, .inr (0, [.ref v0, .ref (t 0), .ref v1, .ref v2, .int ft, .int rs, .int rf, .ref fr, .ref fa, sv]))] ++ (bkW D b (u.1) ++ (bkW D t (u.2) ++ []))))) Q 0 0 := by
  refine Cti.of (by decide) (Nat.le_of_ble_eq_true rfl) (fun x hF hR => ?_)
  replace hF : vF x l D "BrookWeirs$Side" cX4_worth (rmk 5 0 0 153) 4 (some .int) := hF
  unfold w_X4_worth_X12 at h
  refine v_aload_n 0 hF dX4_worth_0 rfl 0 rfl ?_
  refine v_getO 1 hF in_X12 0 rfl rfl 2 (Nat.le_of_ble_eq_true rfl) q338 rfl dX4_worth_1 ?_
  refine v_getN 4 hF in_X1 1 rfl rfl 1 (Nat.le_of_ble_eq_true rfl) q363 rfl rfl dX4_worth_4 ?_
  refine v_aload_n 7 hF dX4_worth_7 rfl 1 rfl ?_
  refine v_callVr (As := [.ref (b 0)]) (b := t 0) (wr := ([(o, .inr (3, [.int be, .int mo, .ref w, .ref w, .ref fs, .ref w]))] ++ ([(w, .inr (0, [.ref v0, .ref (t 0), .ref v1, .ref v2, .int ft, .int rs, .int rf, .ref fr, .ref fa, sv]))] ++ []))) 8 hF (c_X2_become l D t b τ σ) (((((((((((((List.Perm.refl _)).append_left _).trans (pm_sw _ _ _))).append_left _).trans (pm_sw _ _ _))).append_left _).trans (pm_sw _ _ _)).trans (((((((((List.Perm.refl _)).append_left _).trans (pm_sw _ _ _))).append_left _).trans (pm_sw _ _ _))).append_left _))).trans (List.Perm.of_eq (by simp only [List.append_assoc, List.nil_append, List.append_nil]))) ⟨0, 6, _, TX2, 24, rfl, rfl⟩ q1087 q492 q493 q71 q494 ds_X2_become ⟨rfl, rfl, (Nat.le_of_ble_eq_true rfl), (Nat.le_of_ble_eq_true rfl)⟩ (Nat.le_of_ble_eq_true rfl) ⟨(Nat.le_of_ble_eq_true rfl), (Nat.le_of_ble_eq_true rfl)⟩ dX4_worth_8 (fun u1 _ => ?_)
  replace h := h u1
  refine v_eqw (ws1 := (bkW D t σ ++ (bkW D b σ ++ ([(o, .inr (3, [.int be, .int mo, .ref w, .ref w, .ref fs, .ref w]))] ++ ([(w, .inr (0, [.ref v0, .ref (t 0), .ref v1, .ref v2, .int ft, .int rs, .int rf, .ref fr, .ref fa, sv]))] ++ []))))) (by simp only [List.append_assoc, List.nil_append, List.append_nil]) ?_
  refine v_perm (ws' := ([(o, .inr (3, [.int be, .int mo, .ref w, .ref w, .ref fs, .ref w]))] ++ ([(w, .inr (0, [.ref v0, .ref (t 0), .ref v1, .ref v2, .int ft, .int rs, .int rf, .ref fr, .ref fa, sv]))] ++ (bkW D b σ ++ (bkW D t σ ++ []))))) ((((((((List.Perm.refl _)).append_left _).trans (pm_sw _ _ _))).append_left _).trans (pm_sw _ _ _)).trans ((((((((((List.Perm.refl _)).append_left _).trans (pm_sw _ _ _))).append_left _).trans (pm_sw _ _ _)).trans ((((((List.Perm.refl _)).append_left _).trans (pm_sw _ _ _))).append_left _))).append_left _)) ?_
  refine v_pop 11 hF dX4_worth_11 rfl ?_
  refine v_aload_n 12 hF dX4_worth_12 rfl 0 rfl ?_
  refine v_aload_n 13 hF dX4_worth_13 rfl 0 rfl ?_
  refine v_getO 14 hF in_X12 0 rfl rfl 2 (Nat.le_of_ble_eq_true rfl) q338 rfl dX4_worth_14 ?_
  refine v_getN 17 hF in_X1 1 rfl rfl 1 (Nat.le_of_ble_eq_true rfl) q363 rfl rfl dX4_worth_17 ?_
  refine v_iload_n 20 hF dX4_worth_20 rfl 3 rfl ?_
  refine v_callUv (As := [.ref (t 0), .int x3]) (x0 := ({ cls := "BrookWeirs$Side", name := "open", desc := "(LBrookWeirs$Brook;I)V" } : Jvm.MethodName)) (b := o) (wr := ([(w, .inr (0, [.ref v0, .ref (t 0), .ref v1, .ref v2, .int ft, .int rs, .int rf, .ref fr, .ref fa, sv]))] ++ (bkW D b σ ++ []))) 21 hF (c_X6_open_X12 l D o be mo w fs t σ x3 _ h) (((((((((((List.Perm.refl _)).append_left _).trans (pm_sw _ _ _))).append_left _).trans (pm_sw _ _ _))).append_left _)).trans (List.Perm.of_eq (by simp only [List.append_assoc, List.nil_append, List.append_nil]))) ⟨0, 3, _, TX12, 6, rfl, rfl⟩ q1088 q1092 (fun s args hts hE => vUx.of1 (args := #[]) (by decide) (side_cls hts) (hE.2.1 _ q1089 rfl)) (fun s args hts _ => hts _ q1097) q81 q1093 ⟨by decide, by decide, (show (parseMethodDescriptor "(LBrookWeirs$Brook;I)V").map (fun d => d.parameters.length) = some 2 from by decide +kernel)⟩ ⟨rfl, rfl, (Nat.le_of_ble_eq_true rfl), (Nat.le_of_ble_eq_true rfl)⟩ (Nat.le_of_ble_eq_true rfl) ⟨(Nat.le_of_ble_eq_true rfl), (Nat.le_of_ble_eq_true rfl)⟩ dX4_worth_21 (fun u2 h => ?_)
  refine v_eqw (ws1 := ([(o, .inr (3, [.int be, .int mo, .ref w, .ref w, .ref fs, .ref w]))] ++ (bkW D t u2 ++ ([(w, .inr (0, [.ref v0, .ref (t 0), .ref v1, .ref v2, .int ft, .int rs, .int rf, .ref fr, .ref fa, sv]))] ++ (bkW D b σ ++ []))))) (by simp only [List.append_assoc, List.nil_append, List.append_nil]) ?_
  refine v_perm (ws' := ([(o, .inr (3, [.int be, .int mo, .ref w, .ref w, .ref fs, .ref w]))] ++ ([(w, .inr (0, [.ref v0, .ref (t 0), .ref v1, .ref v2, .int ft, .int rs, .int rf, .ref fr, .ref fa, sv]))] ++ (bkW D b σ ++ (bkW D t u2 ++ []))))) (((((((List.Perm.refl _)).append_left _).trans (pm_sw _ _ _)).trans ((((((List.Perm.refl _)).append_left _).trans (pm_sw _ _ _))).append_left _))).append_left _) ?_
  refine v_aload_n 24 hF dX4_worth_24 rfl 0 rfl ?_
  refine v_aload_n 25 hF dX4_worth_25 rfl 1 rfl ?_
  refine v_aload_n 26 hF dX4_worth_26 rfl 0 rfl ?_
  refine v_getO 27 hF in_X12 0 rfl rfl 2 (Nat.le_of_ble_eq_true rfl) q338 rfl dX4_worth_27 ?_
  refine v_getN 30 hF in_X1 1 rfl rfl 1 (Nat.le_of_ble_eq_true rfl) q363 rfl rfl dX4_worth_30 ?_
  refine v_iload_n 33 hF dX4_worth_33 rfl 2 rfl ?_
  refine v_callVr (As := [.int x2]) (b := t 0) (wr := ([(o, .inr (3, [.int be, .int mo, .ref w, .ref w, .ref fs, .ref w]))] ++ ([(w, .inr (0, [.ref v0, .ref (t 0), .ref v1, .ref v2, .int ft, .int rs, .int rf, .ref fr, .ref fa, sv]))] ++ (bkW D b σ ++ [])))) 34 hF (c_X2_pass l D t u2 x2 _ h) ((((((((((((List.Perm.refl _)).append_left _).trans (pm_sw _ _ _))).append_left _).trans (pm_sw _ _ _))).append_left _).trans (pm_sw _ _ _))).trans (List.Perm.of_eq (by simp only [List.append_assoc, List.nil_append, List.append_nil]))) ⟨0, 6, _, TX2, 24, rfl, rfl⟩ q1098 q1099 q1100 q71 q1101 ds_X2_pass ⟨rfl, rfl, (Nat.le_of_ble_eq_true rfl), (Nat.le_of_ble_eq_true rfl)⟩ (Nat.le_of_ble_eq_true rfl) ⟨(Nat.le_of_ble_eq_true rfl), (Nat.le_of_ble_eq_true rfl)⟩ dX4_worth_34 (fun u3 h => ?_)
  refine v_eqw (ws1 := (bkW D t u3 ++ ([(o, .inr (3, [.int be, .int mo, .ref w, .ref w, .ref fs, .ref w]))] ++ ([(w, .inr (0, [.ref v0, .ref (t 0), .ref v1, .ref v2, .int ft, .int rs, .int rf, .ref fr, .ref fa, sv]))] ++ (bkW D b σ ++ []))))) (by simp only [List.append_assoc, List.nil_append, List.append_nil]) ?_
  refine v_perm (ws' := ([(o, .inr (3, [.int be, .int mo, .ref w, .ref w, .ref fs, .ref w]))] ++ ([(w, .inr (0, [.ref v0, .ref (t 0), .ref v1, .ref v2, .int ft, .int rs, .int rf, .ref fr, .ref fa, sv]))] ++ (bkW D b σ ++ (bkW D t u3 ++ []))))) (((((List.Perm.refl _)).append_left _).trans (pm_sw _ _ _)).trans (((((((List.Perm.refl _)).append_left _).trans (pm_sw _ _ _)).trans ((((((List.Perm.refl _)).append_left _).trans (pm_sw _ _ _))).append_left _))).append_left _)) ?_
  refine v_callUi (As := [.ref (b 0), .ref (t 0)]) (x0 := ({ cls := "BrookWeirs$Side", name := "value", desc := "(LBrookWeirs$Brook;LBrookWeirs$Brook;)I" } : Jvm.MethodName)) (b := o) (wr := ([(w, .inr (0, [.ref v0, .ref (t 0), .ref v1, .ref v2, .int ft, .int rs, .int rf, .ref fr, .ref fa, sv]))] ++ [])) 37 hF (c_X6_value_X12 l D o be mo w fs b σ t u3 _ h) (((((((((List.Perm.refl _)).append_left _).trans (pm_sw _ _ _)).trans ((((((List.Perm.refl _)).append_left _).trans (pm_sw _ _ _))).append_left _))).append_left _)).trans (List.Perm.of_eq (by simp only [List.append_assoc, List.nil_append, List.append_nil]))) ⟨0, 3, _, TX12, 6, rfl, rfl⟩ q1103 q1107 (fun s args hts hE => vUx.of1 (args := #[]) (by decide) (side_cls hts) (hE.2.1 _ q1104 rfl)) (fun s args hts _ => hts _ q1117) q81 q1108 ⟨by decide, by decide, (show (parseMethodDescriptor "(LBrookWeirs$Brook;LBrookWeirs$Brook;)I").map (fun d => d.parameters.length) = some 2 from by decide +kernel)⟩ ⟨rfl, rfl, (Nat.le_of_ble_eq_true rfl), (Nat.le_of_ble_eq_true rfl)⟩ (Nat.le_of_ble_eq_true rfl) ⟨(Nat.le_of_ble_eq_true rfl), (Nat.le_of_ble_eq_true rfl)⟩ dX4_worth_37 (fun r4 u5 h => ?_)
  refine v_eqw (ws1 := ([(o, .inr (3, [.int be, .int mo, .ref w, .ref w, .ref fs, .ref w]))] ++ (bkW D b σ ++ (bkW D t u3 ++ ([(w, .inr (0, [.ref v0, .ref (t 0), .ref v1, .ref v2, .int ft, .int rs, .int rf, .ref fr, .ref fa, sv]))] ++ []))))) (by simp only [List.append_assoc, List.nil_append, List.append_nil]) ?_
  refine v_perm (ws' := ([(o, .inr (3, [.int be, .int mo, .ref w, .ref w, .ref fs, .ref w]))] ++ ([(w, .inr (0, [.ref v0, .ref (t 0), .ref v1, .ref v2, .int ft, .int rs, .int rf, .ref fr, .ref fa, sv]))] ++ (bkW D b σ ++ (bkW D t u3 ++ []))))) (((((((((List.Perm.refl _)).append_left _).trans (pm_sw _ _ _))).append_left _).trans (pm_sw _ _ _))).append_left _) ?_
  exact v_iret (u := (σ, u3)) 40 hF hR (Nat.le_of_ble_eq_true rfl) (Nat.le_of_ble_eq_true rfl) dX4_worth_40 h
def w_X4_search_X12 (o : Nat) (be : Int32) (mo : Int32) (fs : Nat) (w : Nat) (v0 : Nat) (v1 : Nat) (v2 : Nat) (b : Nat → Nat) (t : Nat → Nat) (fr : Nat) (fa : Nat) (ft : Int32) (rs : Int32) (rf : Int32) (sv : Value) (σ : Nat → Nat → Int32) (τ : Nat → Nat → Int32) (x2 : Int32) (Q : ((Int32) × (Int32) × (Nat → Nat → Int32) × (Nat → Nat → Int32)) → Prop) : Prop :=
  w_X4_worth_X12 o ((0 : Int32)) mo fs w v0 v1 v2 b t fr fa ft rs rf sv σ τ x2 ((0 : Int32)) (fun r1 u2 => wLoop (fun (K18 : (Int32) × (Int32) × (Int32) × (Nat → Nat → Int32) × (Nat → Nat → Int32) → Prop) (z8 : (Int32) × (Int32) × (Int32) × (Nat → Nat → Int32) × (Nat → Nat → Int32)) => (fun (v3 : Int32) (v4 : Int32) (v5 : Int32) (v6 : Nat → Nat → Int32) (v7 : Nat → Nat → Int32) => ((((1 : Int32) <<< ((v6 20 8) &&& 31)) ≤ v3 → Q ((v4, v5, v6, v7))) ∧ (¬ ((1 : Int32) <<< ((v6 20 8) &&& 31)) ≤ v3 → w_X4_worth_X12 o v4 v5 fs w v0 v1 v2 b t fr fa ft rs rf sv v6 v7 x2 v3 (fun r10 u11 => w_X4_look_X12 o v4 v5 w fs v3 r10 (fun u12 => ∀ y13 : Int32, y13 = v3 + (1 : Int32) → K18 ((y13, u12.1, u12.2, u11.1, u11.2))))))) z8.1 z8.2.1 z8.2.2.1 z8.2.2.2.1 z8.2.2.2.2) (((1 : Int32), (0 : Int32), r1, u2.1, u2.2)))
set_option maxHeartbeats 4000000 in
theorem c_X4_search_X12 (l : Launch) (D : va_G) (o : Nat) (be : Int32) (mo : Int32) (fs : Nat) (w : Nat) (v0 : Nat) (v1 : Nat) (v2 : Nat) (b : Nat → Nat) (t : Nat → Nat) (fr : Nat) (fa : Nat) (ft : Int32) (rs : Int32) (rf : Int32) (sv : Value) (σ : Nat → Nat → Int32) (τ : Nat → Nat → Int32) (x2 : Int32) (Q : ((Int32) × (Int32) × (Nat → Nat → Int32) × (Nat → Nat → Int32)) → Prop) (h : w_X4_search_X12 o be mo fs w v0 v1 v2 b t fr fa ft rs rf sv σ τ x2 Q) : Ctr l D yX4_search cX4_search 4 (.object "BrookWeirs$Side") (rmk 6 0 0 176) [.ref o, .ref (b 0), .int x2] ([(o, .inr (3, [.int be, .int mo, .ref w, .ref w, .ref fs, .ref w]))] ++ ([(w, .inr (0, [.ref v0, .ref (t 0), .ref v1, .ref v2, .int ft, .int rs, .int rf, .ref fr, .ref fa, sv]))] ++ (bkW D b σ ++ (bkW D t τ ++ [])))) (fun u : (Int32) × (Int32) × (Nat → Nat → Int32) × (Nat → Nat → Int32) => ([(o, .inr (3, [.int (u.1), .int (u.2.1), .ref w, .ref w, .ref fs, .ref w]))] ++ ([(w, .inr (0, [.ref v0, .ref (t 0), .ref v1, .ref v2, .int ft, .int rs, .int rf, .ref fr, .ref fa, sv]))] ++ (bkW D b (u.2.2.1) ++ (bkW D t (u.2.2.2) ++ []))))) (fun u : (Int32) × (Int32) × (Nat → Nat → Int32) × (Nat → Nat → Int32) => o) Q 0 0 := by
  refine Ctr.of (by decide) (Nat.le_of_ble_eq_true rfl) (fun x hF hR => ?_)
  replace hF : vF x l D "BrookWeirs$Side" cX4_search (rmk 6 0 0 176) 4 (some (.object "BrookWeirs$Side")) := hF
  unfold w_X4_search_X12 at h
  refine v_aload_n 0 hF dX4_search_0 rfl 0 rfl ?_
  refine v_iconst (v := 0) 1 hF dX4_search_1 (by decide) ?_
  refine v_putA ([(o, .inr (3, [.int ((0 : Int32)), .int mo, .ref w, .ref w, .ref fs, .ref w]))] ++ ([(w, .inr (0, [.ref v0, .ref (t 0), .ref v1, .ref v2, .int ft, .int rs, .int rf, .ref fr, .ref fa, sv]))] ++ (bkW D b σ ++ (bkW D t τ ++ [])))) 2 hF in_X12 tyX12_ok nm2X12 0 rfl rfl 0 (Nat.le_of_ble_eq_true rfl) q334 rfl rfl rfl rfl (Nat.le_of_ble_eq_true rfl) rfl dX4_search_2 ?_
  refine v_aload_n 5 hF dX4_search_5 rfl 0 rfl ?_
  refine v_aload_n 6 hF dX4_search_6 rfl 0 rfl ?_
  refine v_aload_n 7 hF dX4_search_7 rfl 1 rfl ?_
  refine v_iload_n 8 hF dX4_search_8 rfl 2 rfl ?_
  refine v_iconst (v := 0) 9 hF dX4_search_9 (by decide) ?_
  refine v_callUi (As := [.ref (b 0), .int x2, .int ((0 : Int32))]) (x0 := ({ cls := "BrookWeirs$Side", name := "worth", desc := "(LBrookWeirs$Brook;II)I" } : Jvm.MethodName)) (b := o) (wr := ([])) 10 hF (c_X4_worth_X12 l D o ((0 : Int32)) mo fs w v0 v1 v2 b t fr fa ft rs rf sv σ τ x2 ((0 : Int32)) _ h) (((List.Perm.refl _)).trans (List.Perm.of_eq (by simp only [List.append_assoc, List.nil_append, List.append_nil]))) ⟨0, 3, _, TX12, 6, rfl, rfl⟩ q1080 q1081 (fun s args hts _ => vUx.of2 (args := args) (by decide) (side_cls hts) (hts _ q1081) (hts _ q1086)) (fun s args hts _ => hts _ q1085) q79 q1086 ⟨by decide, by decide, (show (parseMethodDescriptor "(LBrookWeirs$Brook;II)I").map (fun d => d.parameters.length) = some 3 from by decide +kernel)⟩ ⟨rfl, rfl, (Nat.le_of_ble_eq_true rfl), (Nat.le_of_ble_eq_true rfl)⟩ (Nat.le_of_ble_eq_true rfl) ⟨(Nat.le_of_ble_eq_true rfl), (Nat.le_of_ble_eq_true rfl)⟩ dX4_search_10 (fun r1 u2 h => ?_)
  refine v_eqw (ws1 := ([(o, .inr (3, [.int ((0 : Int32)), .int mo, .ref w, .ref w, .ref fs, .ref w]))] ++ ([(w, .inr (0, [.ref v0, .ref (t 0), .ref v1, .ref v2, .int ft, .int rs, .int rf, .ref fr, .ref fa, sv]))] ++ (bkW D b (u2.1) ++ (bkW D t (u2.2) ++ []))))) (by simp only [List.append_assoc, List.nil_append, List.append_nil]) ?_
  refine v_putA ([(o, .inr (3, [.int ((0 : Int32)), .int r1, .ref w, .ref w, .ref fs, .ref w]))] ++ ([(w, .inr (0, [.ref v0, .ref (t 0), .ref v1, .ref v2, .int ft, .int rs, .int rf, .ref fr, .ref fa, sv]))] ++ (bkW D b (u2.1) ++ (bkW D t (u2.2) ++ [])))) 13 hF in_X12 tyX12_ok nm2X12 0 rfl rfl 1 (Nat.le_of_ble_eq_true rfl) q336 rfl rfl rfl rfl (Nat.le_of_ble_eq_true rfl) rfl dX4_search_13 ?_
  refine v_iconst (v := 1) 16 hF dX4_search_16 (by decide) ?_
  refine v_istore_n [(0, .ref o), (1, .ref (b 0)), (2, .int x2), (3, .int ((1 : Int32)))] [1, 2, 3, 0] 17 hF dX4_search_17 rfl (Nat.le_of_ble_eq_true rfl) rfl ?_
  refine vLoop (V := fun z8 : (Int32) × (Int32) × (Int32) × (Nat → Nat → Int32) × (Nat → Nat → Int32) => vV x 0 0 ([(o, .inr (3, [.int (z8.2.1), .int (z8.2.2.1), .ref w, .ref w, .ref fs, .ref w]))] ++ ([(w, .inr (0, [.ref v0, .ref (t 0), .ref v1, .ref v2, .int ft, .int rs, .int rf, .ref fr, .ref fa, sv]))] ++ (bkW D b (z8.2.2.2.1) ++ (bkW D t (z8.2.2.2.2) ++ [])))) [(0, .ref o), (1, .ref (b 0)), (2, .int x2), (3, .int (z8.1))] 18 []) (fun K18 hK18 z8 hs => ?_) _ h
  obtain ⟨v3, v4, v5, v6, v7⟩ := z8
  have h : ((((1 : Int32) <<< ((v6 20 8) &&& 31)) ≤ v3 → Q ((v4, v5, v6, v7))) ∧ (¬ ((1 : Int32) <<< ((v6 20 8) &&& 31)) ≤ v3 → w_X4_worth_X12 o v4 v5 fs w v0 v1 v2 b t fr fa ft rs rf sv v6 v7 x2 v3 (fun r10 u11 => w_X4_look_X12 o v4 v5 w fs v3 r10 (fun u12 => ∀ y13 : Int32, y13 = v3 + (1 : Int32) → K18 ((y13, u12.1, u12.2, u11.1, u11.2)))))) := hs
  refine v_iload_n 18 hF dX4_search_18 rfl 3 rfl ?_
  refine v_iconst (v := 1) 19 hF dX4_search_19 (by decide) ?_
  refine v_aload_n 20 hF dX4_search_20 rfl 1 rfl ?_
  refine v_getN 21 hF in_X2 2 rfl rfl 8 (Nat.le_of_ble_eq_true rfl) q184 rfl rfl dX4_search_21 ?_
  refine v_ishl 24 hF dX4_search_24 ?_
  refine v_icmp_ge 25 46 hF dX4_search_25 (by decide) (fun c9 => ?_) (fun c9 => ?_)
  · replace h := h.1 c9
    refine v_aload_n 46 hF dX4_search_46 rfl 0 rfl ?_
    exact v_aret (u := (v4, v5, v6, v7)) 47 hF (Or.inl ⟨_, rfl⟩) hR (Nat.le_of_ble_eq_true rfl) (Nat.le_of_ble_eq_true rfl) dX4_search_47 rfl h
  · replace h := h.2 c9
    refine v_aload_n 28 hF dX4_search_28 rfl 0 rfl ?_
    refine v_iload_n 29 hF dX4_search_29 rfl 3 rfl ?_
    refine v_aload_n 30 hF dX4_search_30 rfl 0 rfl ?_
    refine v_aload_n 31 hF dX4_search_31 rfl 1 rfl ?_
    refine v_iload_n 32 hF dX4_search_32 rfl 2 rfl ?_
    refine v_iload_n 33 hF dX4_search_33 rfl 3 rfl ?_
    refine v_callUi (As := [.ref (b 0), .int x2, .int v3]) (x0 := ({ cls := "BrookWeirs$Side", name := "worth", desc := "(LBrookWeirs$Brook;II)I" } : Jvm.MethodName)) (b := o) (wr := ([])) 34 hF (c_X4_worth_X12 l D o v4 v5 fs w v0 v1 v2 b t fr fa ft rs rf sv v6 v7 x2 v3 _ h) (((List.Perm.refl _)).trans (List.Perm.of_eq (by simp only [List.append_assoc, List.nil_append, List.append_nil]))) ⟨0, 3, _, TX12, 6, rfl, rfl⟩ q1080 q1081 (fun s args hts _ => vUx.of2 (args := args) (by decide) (side_cls hts) (hts _ q1081) (hts _ q1086)) (fun s args hts _ => hts _ q1085) q79 q1086 ⟨by decide, by decide, (show (parseMethodDescriptor "(LBrookWeirs$Brook;II)I").map (fun d => d.parameters.length) = some 3 from by decide +kernel)⟩ ⟨rfl, rfl, (Nat.le_of_ble_eq_true rfl), (Nat.le_of_ble_eq_true rfl)⟩ (Nat.le_of_ble_eq_true rfl) ⟨(Nat.le_of_ble_eq_true rfl), (Nat.le_of_ble_eq_true rfl)⟩ dX4_search_34 (fun r10 u11 h => ?_)
    refine v_eqw (ws1 := ([(o, .inr (3, [.int v4, .int v5, .ref w, .ref w, .ref fs, .ref w]))] ++ ([(w, .inr (0, [.ref v0, .ref (t 0), .ref v1, .ref v2, .int ft, .int rs, .int rf, .ref fr, .ref fa, sv]))] ++ (bkW D b (u11.1) ++ (bkW D t (u11.2) ++ []))))) (by simp only [List.append_assoc, List.nil_append, List.append_nil]) ?_
    refine v_callUv (As := [.int v3, .int r10]) (x0 := ({ cls := "BrookWeirs$Side", name := "look", desc := "(II)V" } : Jvm.MethodName)) (b := o) (wr := ([(w, .inr (0, [.ref v0, .ref (t 0), .ref v1, .ref v2, .int ft, .int rs, .int rf, .ref fr, .ref fa, sv]))] ++ (bkW D b (u11.1) ++ (bkW D t (u11.2) ++ [])))) 37 hF (c_X4_look_X12 l D o v4 v5 w fs v3 r10 _ h) (((List.Perm.refl _)).trans (List.Perm.of_eq (by simp only [List.append_assoc, List.nil_append, List.append_nil]))) ⟨0, 3, _, TX12, 6, rfl, rfl⟩ q1118 q1120 (fun s args hts _ => vUx.of2 (args := args) (by decide) (side_cls hts) (hts _ q1120) (hts _ q1121)) (fun s args hts hE => sel_priv (hE.1.1 3 (RX12, TX12, 6) rfl).2.1 (va_Nw.use rfl (hE.2.1 _ q1119 rfl)) (hts _ q1121) (side_cls hts) (by decide)) q79 q1121 ⟨by decide, by decide, (show (parseMethodDescriptor "(II)V").map (fun d => d.parameters.length) = some 2 from by decide +kernel)⟩ ⟨rfl, rfl, (Nat.le_of_ble_eq_true rfl), (Nat.le_of_ble_eq_true rfl)⟩ (Nat.le_of_ble_eq_true rfl) ⟨(Nat.le_of_ble_eq_true rfl), (Nat.le_of_ble_eq_true rfl)⟩ dX4_search_37 (fun u12 h => ?_)
    refine v_eqw (ws1 := ([(o, .inr (3, [.int (u12.1), .int (u12.2), .ref w, .ref w, .ref fs, .ref w]))] ++ ([(w, .inr (0, [.ref v0, .ref (t 0), .ref v1, .ref v2, .int ft, .int rs, .int rf, .ref fr, .ref fa, sv]))] ++ (bkW D b (u11.1) ++ (bkW D t (u11.2) ++ []))))) (by simp only [List.append_assoc, List.nil_append, List.append_nil]) ?_
    obtain ⟨y13, ey13⟩ : ∃ y : Int32, y = v3 + (1 : Int32) := ⟨_, rfl⟩
    replace h := h y13 ey13
    refine v_iinc [(0, .ref o), (1, .ref (b 0)), (2, .int x2), (3, .int y13)] [1, 2, 3, 0] 40 hF dX4_search_40 3 rfl (by rw [ey13]; rfl) (Nat.le_of_ble_eq_true rfl) rfl ?_
    refine v_goto 43 18 hF dX4_search_43 (by decide) ?_
    exact hK18 ((y13, u12.1, u12.2, u11.1, u11.2)) h
def w_X4_choose_X12 (o : Nat) (be : Int32) (mo : Int32) (fs : Nat) (w : Nat) (v0 : Nat) (v1 : Nat) (v2 : Nat) (b : Nat → Nat) (t : Nat → Nat) (fr : Nat) (fa : Nat) (ft : Int32) (rs : Int32) (rf : Int32) (sv : Value) (σ : Nat → Nat → Int32) (τ : Nat → Nat → Int32) (x2 : Int32) (Q : Int32 → ((Int32) × (Int32) × (Nat → Nat → Int32) × (Nat → Nat → Int32)) → Prop) : Prop :=
  w_X6_latches_X12 o be mo w fs b σ (fun r1 u2 => w_X4_search_X12 o be mo fs w v0 v1 v2 b t fr fa ft rs rf sv σ τ x2 (fun u3 => w_X6_open_X12 o (u3.1) (u3.2.1) w fs b (u3.2.2.1) (u3.1) (fun u4 => w_X6_latches_X12 o (u3.1) (u3.2.1) w fs b u4 (fun r5 u6 => w_J20_bitCount ((r1 ^^^ r5)) (fun r7 => Q r7 ((u3.1, u3.2.1, u4, u3.2.2.2)))))))
set_option maxHeartbeats 4000000 in
theorem c_X4_choose_X12 (l : Launch) (D : va_G) (o : Nat) (be : Int32) (mo : Int32) (fs : Nat) (w : Nat) (v0 : Nat) (v1 : Nat) (v2 : Nat) (b : Nat → Nat) (t : Nat → Nat) (fr : Nat) (fa : Nat) (ft : Int32) (rs : Int32) (rf : Int32) (sv : Value) (σ : Nat → Nat → Int32) (τ : Nat → Nat → Int32) (x2 : Int32) (Q : Int32 → ((Int32) × (Int32) × (Nat → Nat → Int32) × (Nat → Nat → Int32)) → Prop) (h : w_X4_choose_X12 o be mo fs w v0 v1 v2 b t fr fa ft rs rf sv σ τ x2 Q) : Cti l D yX4_choose cX4_choose 4 .int (rmk 7 0 0 199) [.ref o, .ref (b 0), .int x2] ([(o, .inr (3, [.int be, .int mo, .ref w, .ref w, .ref fs, .ref w]))] ++ ([(w, .inr (0, [.ref v0, .ref (t 0), .ref v1, .ref v2, .int ft, .int rs, .int rf, .ref fr, .ref fa, sv]))] ++ (bkW D b σ ++ (bkW D t τ ++ [])))) (fun u : (Int32) × (Int32) × (Nat → Nat → Int32) × (Nat → Nat → Int32) => ([(o, .inr (3, [.int (u.1), .int (u.2.1), .ref w, .ref w, .ref fs, .ref w]))] ++ ([(w, .inr (0, [.ref v0, .ref (t 0), .ref v1, .ref v2, .int ft, .int rs, .int rf, .ref fr, .ref fa, sv]))] ++ (bkW D b (u.2.2.1) ++ (bkW D t (u.2.2.2) ++ []))))) Q 0 0 := by
  refine Cti.of (by decide) (Nat.le_of_ble_eq_true rfl) (fun x hF hR => ?_)
  replace hF : vF x l D "BrookWeirs$Side" cX4_choose (rmk 7 0 0 199) 4 (some .int) := hF
  unfold w_X4_choose_X12 at h
  refine v_aload_n 0 hF dX4_choose_0 rfl 0 rfl ?_
  refine v_aload_n 1 hF dX4_choose_1 rfl 1 rfl ?_
  refine v_callUi (As := [.ref (b 0)]) (x0 := ({ cls := "BrookWeirs$Side", name := "latches", desc := "(LBrookWeirs$Brook;)I" } : Jvm.MethodName)) (b := o) (wr := ([(w, .inr (0, [.ref v0, .ref (t 0), .ref v1, .ref v2, .int ft, .int rs, .int rf, .ref fr, .ref fa, sv]))] ++ (bkW D t τ ++ []))) 2 hF (c_X6_latches_X12 l D o be mo w fs b σ _ h) ((((((((List.Perm.refl _)).append_left _).trans (pm_sw _ _ _))).append_left _)).trans (List.Perm.of_eq (by simp only [List.append_assoc, List.nil_append, List.append_nil]))) ⟨0, 3, _, TX12, 6, rfl, rfl⟩ q1063 q1067 (fun s args hts hE => vUx.of1 (args := #[]) (by decide) (side_cls hts) (hE.2.1 _ q1064 rfl)) (fun s args hts _ => hts _ q1072) q81 q1068 ⟨by decide, by decide, (show (parseMethodDescriptor "(LBrookWeirs$Brook;)I").map (fun d => d.parameters.length) = some 1 from by decide +kernel)⟩ ⟨rfl, rfl, (Nat.le_of_ble_eq_true rfl), (Nat.le_of_ble_eq_true rfl)⟩ (Nat.le_of_ble_eq_true rfl) ⟨(Nat.le_of_ble_eq_true rfl), (Nat.le_of_ble_eq_true rfl)⟩ dX4_choose_2 (fun r1 u2 h => ?_)
  refine v_eqw (ws1 := ([(o, .inr (3, [.int be, .int mo, .ref w, .ref w, .ref fs, .ref w]))] ++ (bkW D b σ ++ ([(w, .inr (0, [.ref v0, .ref (t 0), .ref v1, .ref v2, .int ft, .int rs, .int rf, .ref fr, .ref fa, sv]))] ++ (bkW D t τ ++ []))))) (by simp only [List.append_assoc, List.nil_append, List.append_nil]) ?_
  refine v_perm (ws' := ([(o, .inr (3, [.int be, .int mo, .ref w, .ref w, .ref fs, .ref w]))] ++ ([(w, .inr (0, [.ref v0, .ref (t 0), .ref v1, .ref v2, .int ft, .int rs, .int rf, .ref fr, .ref fa, sv]))] ++ (bkW D b σ ++ (bkW D t τ ++ []))))) ((((((List.Perm.refl _)).append_left _).trans (pm_sw _ _ _))).append_left _) ?_
  refine v_istore_n [(0, .ref o), (1, .ref (b 0)), (2, .int x2), (3, .int r1)] [1, 2, 3, 0] 5 hF dX4_choose_5 rfl (Nat.le_of_ble_eq_true rfl) rfl ?_
  refine v_aload_n 6 hF dX4_choose_6 rfl 0 rfl ?_
  refine v_aload_n 7 hF dX4_choose_7 rfl 1 rfl ?_
  refine v_aload_n 8 hF dX4_choose_8 rfl 0 rfl ?_
  refine v_aload_n 9 hF dX4_choose_9 rfl 1 rfl ?_
  refine v_iload_n 10 hF dX4_choose_10 rfl 2 rfl ?_
  refine v_callUr (As := [.ref (b 0), .int x2]) (x0 := ({ cls := "BrookWeirs$Side", name := "search", desc := "(LBrookWeirs$Brook;I)LBrookWeirs$Side;" } : Jvm.MethodName)) (b := o) (wr := ([])) 11 hF (c_X4_search_X12 l D o be mo fs w v0 v1 v2 b t fr fa ft rs rf sv σ τ x2 _ h) (((List.Perm.refl _)).trans (List.Perm.of_eq (by simp only [List.append_assoc, List.nil_append, List.append_nil]))) ⟨0, 3, _, TX12, 6, rfl, rfl⟩ q1073 q1074 (fun s args hts _ => vUx.of2 (args := args) (by decide) (side_cls hts) (hts _ q1074) (hts _ q1079)) (fun s args hts _ => hts _ q1078) q79 q1079 ⟨by decide, by decide, (show (parseMethodDescriptor "(LBrookWeirs$Brook;I)LBrookWeirs$Side;").map (fun d => d.parameters.length) = some 2 from by decide +kernel)⟩ ⟨rfl, rfl, (Nat.le_of_ble_eq_true rfl), (Nat.le_of_ble_eq_true rfl)⟩ (Nat.le_of_ble_eq_true rfl) ⟨(Nat.le_of_ble_eq_true rfl), (Nat.le_of_ble_eq_true rfl)⟩ dX4_choose_11 (fun u3 h => ?_)
  refine v_eqw (ws1 := ([(o, .inr (3, [.int (u3.1), .int (u3.2.1), .ref w, .ref w, .ref fs, .ref w]))] ++ ([(w, .inr (0, [.ref v0, .ref (t 0), .ref v1, .ref v2, .int ft, .int rs, .int rf, .ref fr, .ref fa, sv]))] ++ (bkW D b (u3.2.2.1) ++ (bkW D t (u3.2.2.2) ++ []))))) (by simp only [List.append_assoc, List.nil_append, List.append_nil]) ?_
  refine v_getO 14 hF in_X12 0 rfl rfl 0 (Nat.le_of_ble_eq_true rfl) q334 rfl dX4_choose_14 ?_
  refine v_callUv (As := [.ref (b 0), .int (u3.1)]) (x0 := ({ cls := "BrookWeirs$Side", name := "open", desc := "(LBrookWeirs$Brook;I)V" } : Jvm.MethodName)) (b := o) (wr := ([(w, .inr (0, [.ref v0, .ref (t 0), .ref v1, .ref v2, .int ft, .int rs, .int rf, .ref fr, .ref fa, sv]))] ++ (bkW D t (u3.2.2.2) ++ []))) 17 hF (c_X6_open_X12 l D o (u3.1) (u3.2.1) w fs b (u3.2.2.1) (u3.1) _ h) ((((((((List.Perm.refl _)).append_left _).trans (pm_sw _ _ _))).append_left _)).trans (List.Perm.of_eq (by simp only [List.append_assoc, List.nil_append, List.append_nil]))) ⟨0, 3, _, TX12, 6, rfl, rfl⟩ q1088 q1092 (fun s args hts hE => vUx.of1 (args := #[]) (by decide) (side_cls hts) (hE.2.1 _ q1089 rfl)) (fun s args hts _ => hts _ q1097) q81 q1093 ⟨by decide, by decide, (show (parseMethodDescriptor "(LBrookWeirs$Brook;I)V").map (fun d => d.parameters.length) = some 2 from by decide +kernel)⟩ ⟨rfl, rfl, (Nat.le_of_ble_eq_true rfl), (Nat.le_of_ble_eq_true rfl)⟩ (Nat.le_of_ble_eq_true rfl) ⟨(Nat.le_of_ble_eq_true rfl), (Nat.le_of_ble_eq_true rfl)⟩ dX4_choose_17 (fun u4 h => ?_)
  refine v_eqw (ws1 := ([(o, .inr (3, [.int (u3.1), .int (u3.2.1), .ref w, .ref w, .ref fs, .ref w]))] ++ (bkW D b u4 ++ ([(w, .inr (0, [.ref v0, .ref (t 0), .ref v1, .ref v2, .int ft, .int rs, .int rf, .ref fr, .ref fa, sv]))] ++ (bkW D t (u3.2.2.2) ++ []))))) (by simp only [List.append_assoc, List.nil_append, List.append_nil]) ?_
  refine v_perm (ws' := ([(o, .inr (3, [.int (u3.1), .int (u3.2.1), .ref w, .ref w, .ref fs, .ref w]))] ++ ([(w, .inr (0, [.ref v0, .ref (t 0), .ref v1, .ref v2, .int ft, .int rs, .int rf, .ref fr, .ref fa, sv]))] ++ (bkW D b u4 ++ (bkW D t (u3.2.2.2) ++ []))))) ((((((List.Perm.refl _)).append_left _).trans (pm_sw _ _ _))).append_left _) ?_
  refine v_iload_n 20 hF dX4_choose_20 rfl 3 rfl ?_
  refine v_aload_n 21 hF dX4_choose_21 rfl 0 rfl ?_
  refine v_aload_n 22 hF dX4_choose_22 rfl 1 rfl ?_
  refine v_callUi (As := [.ref (b 0)]) (x0 := ({ cls := "BrookWeirs$Side", name := "latches", desc := "(LBrookWeirs$Brook;)I" } : Jvm.MethodName)) (b := o) (wr := ([(w, .inr (0, [.ref v0, .ref (t 0), .ref v1, .ref v2, .int ft, .int rs, .int rf, .ref fr, .ref fa, sv]))] ++ (bkW D t (u3.2.2.2) ++ []))) 23 hF (c_X6_latches_X12 l D o (u3.1) (u3.2.1) w fs b u4 _ h) ((((((((List.Perm.refl _)).append_left _).trans (pm_sw _ _ _))).append_left _)).trans (List.Perm.of_eq (by simp only [List.append_assoc, List.nil_append, List.append_nil]))) ⟨0, 3, _, TX12, 6, rfl, rfl⟩ q1063 q1067 (fun s args hts hE => vUx.of1 (args := #[]) (by decide) (side_cls hts) (hE.2.1 _ q1064 rfl)) (fun s args hts _ => hts _ q1072) q81 q1068 ⟨by decide, by decide, (show (parseMethodDescriptor "(LBrookWeirs$Brook;)I").map (fun d => d.parameters.length) = some 1 from by decide +kernel)⟩ ⟨rfl, rfl, (Nat.le_of_ble_eq_true rfl), (Nat.le_of_ble_eq_true rfl)⟩ (Nat.le_of_ble_eq_true rfl) ⟨(Nat.le_of_ble_eq_true rfl), (Nat.le_of_ble_eq_true rfl)⟩ dX4_choose_23 (fun r5 u6 h => ?_)
  refine v_eqw (ws1 := ([(o, .inr (3, [.int (u3.1), .int (u3.2.1), .ref w, .ref w, .ref fs, .ref w]))] ++ (bkW D b u4 ++ ([(w, .inr (0, [.ref v0, .ref (t 0), .ref v1, .ref v2, .int ft, .int rs, .int rf, .ref fr, .ref fa, sv]))] ++ (bkW D t (u3.2.2.2) ++ []))))) (by simp only [List.append_assoc, List.nil_append, List.append_nil]) ?_
  refine v_perm (ws' := ([(o, .inr (3, [.int (u3.1), .int (u3.2.1), .ref w, .ref w, .ref fs, .ref w]))] ++ ([(w, .inr (0, [.ref v0, .ref (t 0), .ref v1, .ref v2, .int ft, .int rs, .int rf, .ref fr, .ref fa, sv]))] ++ (bkW D b u4 ++ (bkW D t (u3.2.2.2) ++ []))))) ((((((List.Perm.refl _)).append_left _).trans (pm_sw _ _ _))).append_left _) ?_
  refine v_ixor 26 hF dX4_choose_26 ?_
  refine v_callS0i (As := [.int ((r1 ^^^ r5))]) 27 hF (c_J20_bitCount l D ((r1 ^^^ r5)) _ h) q1122 q478 q101 q479 ds_J20_bitCount ⟨rfl, rfl, (Nat.le_of_ble_eq_true rfl), (Nat.le_of_ble_eq_true rfl)⟩ (Nat.le_of_ble_eq_true rfl) ⟨(Nat.le_of_ble_eq_true rfl), (Nat.le_of_ble_eq_true rfl)⟩ dX4_choose_27 (fun r7 h => ?_)
  exact v_iret (u := (u3.1, u3.2.1, u4, u3.2.2.2)) 30 hF hR (Nat.le_of_ble_eq_true rfl) (Nat.le_of_ble_eq_true rfl) dX4_choose_30 h
