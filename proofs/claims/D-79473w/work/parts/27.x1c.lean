set_option maxRecDepth 100000
def w_X4_init_X5 (o : Nat) (be : Int32) (mo : Int32) (w : Nat) (v : Nat) (Q : (Unit) → Prop) : Prop :=
  Q ()
theorem ds_X4_init : yX4_init.cls = yX4_init.cls ∧ yX4_init.cls ≠ "java/lang/invoke/MethodHandle" ∧ yX4_init.cls ≠ "java/lang/invoke/VarHandle" ∧ (parseMethodDescriptor yX4_init.desc).map (fun d => d.parameters.length) = some 1 := by decide +kernel
set_option maxHeartbeats 4000000 in
theorem c_X4_init_X5 (l : Launch) (D : va_G) (o : Nat) (be : Int32) (mo : Int32) (w : Nat) (v : Nat) (Q : (Unit) → Prop) (h : w_X4_init_X5 o be mo w v Q) : Ctv l D yX4_init cX4_init 2 (rmk 1 0 0 64) [.ref o, .ref w] ([(o, .inr (8, [.int be, .int mo, .null, .ref v]))] ++ []) (fun u : Unit => ([(o, .inr (8, [.int be, .int mo, .ref w, .ref v]))] ++ [])) Q 0 0 := by
  refine Ctv.ofI rfl (by decide) (Nat.le_of_ble_eq_true rfl) (fun x hF hR hI => ?_)
  replace hF : vF x l D "BrookWeirs$Side" cX4_init (rmk 1 0 0 64) 2 none := hF
  unfold w_X4_init_X5 at h
  refine v_aload_n 0 hF dX4_init_0 rfl 0 rfl ?_
  refine v_aload_n 1 hF dX4_init_1 rfl 1 rfl ?_
  refine v_putFA ([(o, .inr (8, [.int be, .int mo, .ref w, .ref v]))] ++ []) 2 hF hI in_X5 tyX5_ok nm2X5 0 rfl rfl 2 (Nat.le_of_ble_eq_true rfl) q338 rfl rfl rfl rfl rfl (Nat.le_of_ble_eq_true rfl) rfl dX4_init_2 ?_
  refine v_aload_n 5 hF dX4_init_5 rfl 0 rfl ?_
  refine v_objInit 6 hF q332 q121 q122 dX4_init_6 (Nat.le_of_ble_eq_true rfl) (Nat.le_of_ble_eq_true rfl) ?_
  exact v_vret (u := ()) 9 hF hR (Nat.le_of_ble_eq_true rfl) (Nat.le_of_ble_eq_true rfl) dX4_init_9 h
def w_X4_init_X6 (o : Nat) (be : Int32) (mo : Int32) (w : Nat) (v : Nat) (Q : (Unit) → Prop) : Prop :=
  Q ()
set_option maxHeartbeats 4000000 in
theorem c_X4_init_X6 (l : Launch) (D : va_G) (o : Nat) (be : Int32) (mo : Int32) (w : Nat) (v : Nat) (Q : (Unit) → Prop) (h : w_X4_init_X6 o be mo w v Q) : Ctv l D yX4_init cX4_init 2 (rmk 1 0 0 64) [.ref o, .ref w] ([(o, .inr (9, [.int be, .int mo, .null, .ref v]))] ++ []) (fun u : Unit => ([(o, .inr (9, [.int be, .int mo, .ref w, .ref v]))] ++ [])) Q 0 0 := by
  refine Ctv.ofI rfl (by decide) (Nat.le_of_ble_eq_true rfl) (fun x hF hR hI => ?_)
  replace hF : vF x l D "BrookWeirs$Side" cX4_init (rmk 1 0 0 64) 2 none := hF
  unfold w_X4_init_X6 at h
  refine v_aload_n 0 hF dX4_init_0 rfl 0 rfl ?_
  refine v_aload_n 1 hF dX4_init_1 rfl 1 rfl ?_
  refine v_putFA ([(o, .inr (9, [.int be, .int mo, .ref w, .ref v]))] ++ []) 2 hF hI in_X6 tyX6_ok nm2X6 0 rfl rfl 2 (Nat.le_of_ble_eq_true rfl) q338 rfl rfl rfl rfl rfl (Nat.le_of_ble_eq_true rfl) rfl dX4_init_2 ?_
  refine v_aload_n 5 hF dX4_init_5 rfl 0 rfl ?_
  refine v_objInit 6 hF q332 q121 q122 dX4_init_6 (Nat.le_of_ble_eq_true rfl) (Nat.le_of_ble_eq_true rfl) ?_
  exact v_vret (u := ()) 9 hF hR (Nat.le_of_ble_eq_true rfl) (Nat.le_of_ble_eq_true rfl) dX4_init_9 h
def w_X4_init_X12 (o : Nat) (be : Int32) (mo : Int32) (w : Nat) (v1 : Nat) (v : Nat) (Q : (Unit) → Prop) : Prop :=
  Q ()
set_option maxHeartbeats 4000000 in
theorem c_X4_init_X12 (l : Launch) (D : va_G) (o : Nat) (be : Int32) (mo : Int32) (w : Nat) (v1 : Nat) (v : Nat) (Q : (Unit) → Prop) (h : w_X4_init_X12 o be mo w v1 v Q) : Ctv l D yX4_init cX4_init 2 (rmk 1 0 0 64) [.ref o, .ref w] ([(o, .inr (3, [.int be, .int mo, .null, .ref v1, .null, .ref v]))] ++ []) (fun u : Unit => ([(o, .inr (3, [.int be, .int mo, .ref w, .ref v1, .null, .ref v]))] ++ [])) Q 0 0 := by
  refine Ctv.ofI rfl (by decide) (Nat.le_of_ble_eq_true rfl) (fun x hF hR hI => ?_)
  replace hF : vF x l D "BrookWeirs$Side" cX4_init (rmk 1 0 0 64) 2 none := hF
  unfold w_X4_init_X12 at h
  refine v_aload_n 0 hF dX4_init_0 rfl 0 rfl ?_
  refine v_aload_n 1 hF dX4_init_1 rfl 1 rfl ?_
  refine v_putFA ([(o, .inr (3, [.int be, .int mo, .ref w, .ref v1, .null, .ref v]))] ++ []) 2 hF hI in_X12 tyX12_ok nm2X12 0 rfl rfl 2 (Nat.le_of_ble_eq_true rfl) q338 rfl rfl rfl rfl rfl (Nat.le_of_ble_eq_true rfl) rfl dX4_init_2 ?_
  refine v_aload_n 5 hF dX4_init_5 rfl 0 rfl ?_
  refine v_objInit 6 hF q332 q121 q122 dX4_init_6 (Nat.le_of_ble_eq_true rfl) (Nat.le_of_ble_eq_true rfl) ?_
  exact v_vret (u := ()) 9 hF hR (Nat.le_of_ble_eq_true rfl) (Nat.le_of_ble_eq_true rfl) dX4_init_9 h
def w_X5_init (o : Nat) (be : Int32) (mo : Int32) (w : Nat) (Q : (Unit) → Prop) : Prop :=
  w_X4_init_X5 o be mo w w (fun u1 => Q ())
theorem ds_X5_init : yX5_init.cls = yX5_init.cls ∧ yX5_init.cls ≠ "java/lang/invoke/MethodHandle" ∧ yX5_init.cls ≠ "java/lang/invoke/VarHandle" ∧ (parseMethodDescriptor yX5_init.desc).map (fun d => d.parameters.length) = some 1 := by decide +kernel
set_option maxHeartbeats 4000000 in
theorem c_X5_init (l : Launch) (D : va_G) (o : Nat) (be : Int32) (mo : Int32) (w : Nat) (Q : (Unit) → Prop) (h : w_X5_init o be mo w Q) : Ctv l D yX5_init cX5_init 2 (rmk 2 0 0 85) [.ref o, .ref w] ([(o, .inr (8, [.int be, .int mo, .null, .null]))] ++ []) (fun u : Unit => ([(o, .inr (8, [.int be, .int mo, .ref w, .ref w]))] ++ [])) Q 0 0 := by
  refine Ctv.ofI rfl (by decide) (Nat.le_of_ble_eq_true rfl) (fun x hF hR hI => ?_)
  replace hF : vF x l D "BrookWeirs$Frogs" cX5_init (rmk 2 0 0 85) 2 none := hF
  unfold w_X5_init at h
  refine v_aload_n 0 hF dX5_init_0 rfl 0 rfl ?_
  refine v_aload_n 1 hF dX5_init_1 rfl 1 rfl ?_
  refine v_putFA ([(o, .inr (8, [.int be, .int mo, .null, .ref w]))] ++ []) 2 hF hI in_X5 tyX5_ok nm2X5 0 rfl rfl 3 (Nat.le_of_ble_eq_true rfl) q333 rfl rfl rfl rfl rfl (Nat.le_of_ble_eq_true rfl) rfl dX5_init_2 ?_
  refine v_aload_n 5 hF dX5_init_5 rfl 0 rfl ?_
  refine v_aload_n 6 hF dX5_init_6 rfl 1 rfl ?_
  refine v_callINv (As := [.ref w]) (b := o) (wr := ([])) 7 hF (c_X4_init_X5 l D o be mo w w _ h) (((List.Perm.refl _)).trans (List.Perm.of_eq (by simp only [List.append_assoc, List.nil_append, List.append_nil]))) rfl q329 q330 q79 q331 ds_X4_init ⟨rfl, rfl, (Nat.le_of_ble_eq_true rfl), (Nat.le_of_ble_eq_true rfl)⟩ (Nat.le_of_ble_eq_true rfl) ⟨(Nat.le_of_ble_eq_true rfl), (Nat.le_of_ble_eq_true rfl)⟩ dX5_init_7 (fun u1 h => ?_)
  refine v_eqw (ws1 := ([(o, .inr (8, [.int be, .int mo, .ref w, .ref w]))] ++ [])) (by simp only [List.append_assoc, List.nil_append, List.append_nil]) ?_
  exact v_vret (u := ()) 10 hF hR (Nat.le_of_ble_eq_true rfl) (Nat.le_of_ble_eq_true rfl) dX5_init_10 h
def w_X6_init (o : Nat) (be : Int32) (mo : Int32) (w : Nat) (Q : (Unit) → Prop) : Prop :=
  w_X4_init_X6 o be mo w w (fun u1 => Q ())
theorem ds_X6_init : yX6_init.cls = yX6_init.cls ∧ yX6_init.cls ≠ "java/lang/invoke/MethodHandle" ∧ yX6_init.cls ≠ "java/lang/invoke/VarHandle" ∧ (parseMethodDescriptor yX6_init.desc).map (fun d => d.parameters.length) = some 1 := by decide +kernel
set_option maxHeartbeats 4000000 in
theorem c_X6_init (l : Launch) (D : va_G) (o : Nat) (be : Int32) (mo : Int32) (w : Nat) (Q : (Unit) → Prop) (h : w_X6_init o be mo w Q) : Ctv l D yX6_init cX6_init 2 (rmk 2 0 0 85) [.ref o, .ref w] ([(o, .inr (9, [.int be, .int mo, .null, .null]))] ++ []) (fun u : Unit => ([(o, .inr (9, [.int be, .int mo, .ref w, .ref w]))] ++ [])) Q 0 0 := by
  refine Ctv.ofI rfl (by decide) (Nat.le_of_ble_eq_true rfl) (fun x hF hR hI => ?_)
  replace hF : vF x l D "BrookWeirs$Farmers" cX6_init (rmk 2 0 0 85) 2 none := hF
  unfold w_X6_init at h
  refine v_aload_n 0 hF dX6_init_0 rfl 0 rfl ?_
  refine v_aload_n 1 hF dX6_init_1 rfl 1 rfl ?_
  refine v_putFA ([(o, .inr (9, [.int be, .int mo, .null, .ref w]))] ++ []) 2 hF hI in_X6 tyX6_ok nm2X6 0 rfl rfl 3 (Nat.le_of_ble_eq_true rfl) q354 rfl rfl rfl rfl rfl (Nat.le_of_ble_eq_true rfl) rfl dX6_init_2 ?_
  refine v_aload_n 5 hF dX6_init_5 rfl 0 rfl ?_
  refine v_aload_n 6 hF dX6_init_6 rfl 1 rfl ?_
  refine v_callINv (As := [.ref w]) (b := o) (wr := ([])) 7 hF (c_X4_init_X6 l D o be mo w w _ h) (((List.Perm.refl _)).trans (List.Perm.of_eq (by simp only [List.append_assoc, List.nil_append, List.append_nil]))) rfl q353 q330 q79 q331 ds_X4_init ⟨rfl, rfl, (Nat.le_of_ble_eq_true rfl), (Nat.le_of_ble_eq_true rfl)⟩ (Nat.le_of_ble_eq_true rfl) ⟨(Nat.le_of_ble_eq_true rfl), (Nat.le_of_ble_eq_true rfl)⟩ dX6_init_7 (fun u1 h => ?_)
  refine v_eqw (ws1 := ([(o, .inr (9, [.int be, .int mo, .ref w, .ref w]))] ++ [])) (by simp only [List.append_assoc, List.nil_append, List.append_nil]) ?_
  exact v_vret (u := ()) 10 hF hR (Nat.le_of_ble_eq_true rfl) (Nat.le_of_ble_eq_true rfl) dX6_init_10 h
def w_X6_init_X12 (o : Nat) (be : Int32) (mo : Int32) (w : Nat) (v : Nat) (Q : (Unit) → Prop) : Prop :=
  w_X4_init_X12 o be mo w w v (fun u1 => Q ())
set_option maxHeartbeats 4000000 in
theorem c_X6_init_X12 (l : Launch) (D : va_G) (o : Nat) (be : Int32) (mo : Int32) (w : Nat) (v : Nat) (Q : (Unit) → Prop) (h : w_X6_init_X12 o be mo w v Q) : Ctv l D yX6_init cX6_init 2 (rmk 2 0 0 85) [.ref o, .ref w] ([(o, .inr (3, [.int be, .int mo, .null, .null, .null, .ref v]))] ++ []) (fun u : Unit => ([(o, .inr (3, [.int be, .int mo, .ref w, .ref w, .null, .ref v]))] ++ [])) Q 0 0 := by
  refine Ctv.ofI rfl (by decide) (Nat.le_of_ble_eq_true rfl) (fun x hF hR hI => ?_)
  replace hF : vF x l D "BrookWeirs$Farmers" cX6_init (rmk 2 0 0 85) 2 none := hF
  unfold w_X6_init_X12 at h
  refine v_aload_n 0 hF dX6_init_0 rfl 0 rfl ?_
  refine v_aload_n 1 hF dX6_init_1 rfl 1 rfl ?_
  refine v_putFA ([(o, .inr (3, [.int be, .int mo, .null, .ref w, .null, .ref v]))] ++ []) 2 hF hI in_X12 tyX12_ok nm2X12 0 rfl rfl 3 (Nat.le_of_ble_eq_true rfl) q354 rfl rfl rfl rfl rfl (Nat.le_of_ble_eq_true rfl) rfl dX6_init_2 ?_
  refine v_aload_n 5 hF dX6_init_5 rfl 0 rfl ?_
  refine v_aload_n 6 hF dX6_init_6 rfl 1 rfl ?_
  refine v_callINv (As := [.ref w]) (b := o) (wr := ([])) 7 hF (c_X4_init_X12 l D o be mo w w v _ h) (((List.Perm.refl _)).trans (List.Perm.of_eq (by simp only [List.append_assoc, List.nil_append, List.append_nil]))) rfl q353 q330 q79 q331 ds_X4_init ⟨rfl, rfl, (Nat.le_of_ble_eq_true rfl), (Nat.le_of_ble_eq_true rfl)⟩ (Nat.le_of_ble_eq_true rfl) ⟨(Nat.le_of_ble_eq_true rfl), (Nat.le_of_ble_eq_true rfl)⟩ dX6_init_7 (fun u1 h => ?_)
  refine v_eqw (ws1 := ([(o, .inr (3, [.int be, .int mo, .ref w, .ref w, .null, .ref v]))] ++ [])) (by simp only [List.append_assoc, List.nil_append, List.append_nil]) ?_
  exact v_vret (u := ()) 10 hF hR (Nat.le_of_ble_eq_true rfl) (Nat.le_of_ble_eq_true rfl) dX6_init_10 h
def w_X12_init (o : Nat) (be : Int32) (mo : Int32) (w : Nat) (fs : Nat) (Q : (Unit) → Prop) : Prop :=
  w_X6_init_X12 o be mo w w (fun u1 => Q ())
theorem ds_X12_init : yX12_init.cls = yX12_init.cls ∧ yX12_init.cls ≠ "java/lang/invoke/MethodHandle" ∧ yX12_init.cls ≠ "java/lang/invoke/VarHandle" ∧ (parseMethodDescriptor yX12_init.desc).map (fun d => d.parameters.length) = some 2 := by decide +kernel
set_option maxHeartbeats 4000000 in
theorem c_X12_init (l : Launch) (D : va_G) (o : Nat) (be : Int32) (mo : Int32) (w : Nat) (fs : Nat) (Q : (Unit) → Prop) (h : w_X12_init o be mo w fs Q) : Ctv l D yX12_init cX12_init 3 (rmk 3 0 0 106) [.ref o, .ref w, .ref fs] ([(o, .inr (3, [.int be, .int mo, .null, .null, .null, .null]))] ++ []) (fun u : Unit => ([(o, .inr (3, [.int be, .int mo, .ref w, .ref w, .ref fs, .ref w]))] ++ [])) Q 0 0 := by
  refine Ctv.ofI rfl (by decide) (Nat.le_of_ble_eq_true rfl) (fun x hF hR hI => ?_)
  replace hF : vF x l D "BrookWeirs$Together" cX12_init (rmk 3 0 0 106) 3 none := hF
  unfold w_X12_init at h
  refine v_aload_n 0 hF dX12_init_0 rfl 0 rfl ?_
  refine v_aload_n 1 hF dX12_init_1 rfl 1 rfl ?_
  refine v_putFA ([(o, .inr (3, [.int be, .int mo, .null, .null, .null, .ref w]))] ++ []) 2 hF hI in_X12 tyX12_ok nm2X12 0 rfl rfl 5 (Nat.le_of_ble_eq_true rfl) q1306 rfl rfl rfl rfl rfl (Nat.le_of_ble_eq_true rfl) rfl dX12_init_2 ?_
  refine v_aload_n 5 hF dX12_init_5 rfl 0 rfl ?_
  refine v_aload_n 6 hF dX12_init_6 rfl 1 rfl ?_
  refine v_callINv (As := [.ref w]) (b := o) (wr := ([])) 7 hF (c_X6_init_X12 l D o be mo w w _ h) (((List.Perm.refl _)).trans (List.Perm.of_eq (by simp only [List.append_assoc, List.nil_append, List.append_nil]))) rfl q1304 q351 q81 q352 ds_X6_init ⟨rfl, rfl, (Nat.le_of_ble_eq_true rfl), (Nat.le_of_ble_eq_true rfl)⟩ (Nat.le_of_ble_eq_true rfl) ⟨(Nat.le_of_ble_eq_true rfl), (Nat.le_of_ble_eq_true rfl)⟩ dX12_init_7 (fun u1 h => ?_)
  refine v_eqw (ws1 := ([(o, .inr (3, [.int be, .int mo, .ref w, .ref w, .null, .ref w]))] ++ [])) (by simp only [List.append_assoc, List.nil_append, List.append_nil]) ?_
  refine v_aload_n 10 hF dX12_init_10 rfl 0 rfl ?_
  refine v_aload_n 11 hF dX12_init_11 rfl 2 rfl ?_
  refine v_putFA ([(o, .inr (3, [.int be, .int mo, .ref w, .ref w, .ref fs, .ref w]))] ++ []) 12 hF hI in_X12 tyX12_ok nm2X12 0 rfl rfl 4 (Nat.le_of_ble_eq_true rfl) q1305 rfl rfl rfl rfl rfl (Nat.le_of_ble_eq_true rfl) rfl dX12_init_12 ?_
  exact v_vret (u := ()) 15 hF hR (Nat.le_of_ble_eq_true rfl) (Nat.le_of_ble_eq_true rfl) dX12_init_15 h
def w_X12_choose (o : Nat) (be : Int32) (mo : Int32) (fs : Nat) (be2 : Int32) (mo2 : Int32) (w : Nat) (v0 : Nat) (v1 : Nat) (v2 : Nat) (b : Nat → Nat) (t : Nat → Nat) (fr : Nat) (fa : Nat) (ft : Int32) (rs : Int32) (rf : Int32) (sv : Value) (σ : Nat → Nat → Int32) (τ : Nat → Nat → Int32) (x2 : Int32) (Q : Int32 → ((Int32) × (Int32) × (Int32) × (Int32) × (Nat → Nat → Int32) × (Nat → Nat → Int32)) → Prop) : Prop :=
  w_X4_choose_X5 fs be2 mo2 w v0 v1 v2 b t fr fa ft rs rf sv σ τ x2 (fun r1 u2 => w_X4_choose_X12 o be mo fs w v0 v1 v2 b t fr fa ft rs rf sv (u2.2.2.1) (u2.2.2.2) x2 (fun r3 u4 => Q ((r1 + r3)) ((u4.1, u4.2.1, u2.1, u2.2.1, u4.2.2.1, u4.2.2.2))))
theorem ds_X12_choose : yX12_choose.cls = yX12_choose.cls ∧ yX12_choose.cls ≠ "java/lang/invoke/MethodHandle" ∧ yX12_choose.cls ≠ "java/lang/invoke/VarHandle" ∧ (parseMethodDescriptor yX12_choose.desc).map (fun d => d.parameters.length) = some 2 := by decide +kernel
set_option maxHeartbeats 4000000 in
theorem c_X12_choose (l : Launch) (D : va_G) (o : Nat) (be : Int32) (mo : Int32) (fs : Nat) (be2 : Int32) (mo2 : Int32) (w : Nat) (v0 : Nat) (v1 : Nat) (v2 : Nat) (b : Nat → Nat) (t : Nat → Nat) (fr : Nat) (fa : Nat) (ft : Int32) (rs : Int32) (rf : Int32) (sv : Value) (σ : Nat → Nat → Int32) (τ : Nat → Nat → Int32) (x2 : Int32) (Q : Int32 → ((Int32) × (Int32) × (Int32) × (Int32) × (Nat → Nat → Int32) × (Nat → Nat → Int32)) → Prop) (h : w_X12_choose o be mo fs be2 mo2 w v0 v1 v2 b t fr fa ft rs rf sv σ τ x2 Q) : Cti l D yX12_choose cX12_choose 4 .int (rmk 8 0 0 222) [.ref o, .ref (b 0), .int x2] ([(o, .inr (3, [.int be, .int mo, .ref w, .ref w, .ref fs, .ref w]))] ++ ([(fs, .inr (8, [.int be2, .int mo2, .ref w, .ref w]))] ++ ([(w, .inr (0, [.ref v0, .ref (t 0), .ref v1, .ref v2, .int ft, .int rs, .int rf, .ref fr, .ref fa, sv]))] ++ (bkW D b σ ++ (bkW D t τ ++ []))))) (fun u : (Int32) × (Int32) × (Int32) × (Int32) × (Nat → Nat → Int32) × (Nat → Nat → Int32) => ([(o, .inr (3, [.int (u.1), .int (u.2.1), .ref w, .ref w, .ref fs, .ref w]))] ++ ([(fs, .inr (8, [.int (u.2.2.1), .int (u.2.2.2.1), .ref w, .ref w]))] ++ ([(w, .inr (0, [.ref v0, .ref (t 0), .ref v1, .ref v2, .int ft, .int rs, .int rf, .ref fr, .ref fa, sv]))] ++ (bkW D b (u.2.2.2.2.1) ++ (bkW D t (u.2.2.2.2.2) ++ [])))))) Q 0 0 := by
  refine Cti.of (by decide) (Nat.le_of_ble_eq_true rfl) (fun x hF hR => ?_)
  replace hF : vF x l D "BrookWeirs$Together" cX12_choose (rmk 8 0 0 222) 4 (some .int) := hF
  unfold w_X12_choose at h
  refine v_aload_n 0 hF dX12_choose_0 rfl 0 rfl ?_
  refine v_get 1 hF in_X12 0 rfl rfl 4 (Nat.le_of_ble_eq_true rfl) q1305 rfl rfl dX12_choose_1 ?_
  refine v_aload_n 4 hF dX12_choose_4 rfl 1 rfl ?_
  refine v_iload_n 5 hF dX12_choose_5 rfl 2 rfl ?_
  refine v_callUi (As := [.ref (b 0), .int x2]) (x0 := ({ cls := "BrookWeirs$Side", name := "choose", desc := "(LBrookWeirs$Brook;I)I" } : Jvm.MethodName)) (b := fs) (wr := ([(o, .inr (3, [.int be, .int mo, .ref w, .ref w, .ref fs, .ref w]))] ++ [])) 6 hF (c_X4_choose_X5 l D fs be2 mo2 w v0 v1 v2 b t fr fa ft rs rf sv σ τ x2 _ h) (((((((List.Perm.refl _)).append_left _).trans (pm_sw _ _ _)).trans (((((((List.Perm.refl _)).append_left _).trans (pm_sw _ _ _)).trans (((((((List.Perm.refl _)).append_left _).trans (pm_sw _ _ _)).trans ((((((List.Perm.refl _)).append_left _).trans (pm_sw _ _ _))).append_left _))).append_left _))).append_left _))).trans (List.Perm.of_eq (by simp only [List.append_assoc, List.nil_append, List.append_nil]))) ⟨0, 8, _, TX5, 4, rfl, rfl⟩ q1057 q1050 (fun s args hts _ => vUx.of2 (args := args) (by decide) (side_cls hts) (hts _ q1050) (hts _ q1062)) (fun s args hts _ => hts _ q1053) q79 q1062 ⟨by decide, by decide, (show (parseMethodDescriptor "(LBrookWeirs$Brook;I)I").map (fun d => d.parameters.length) = some 2 from by decide +kernel)⟩ ⟨rfl, rfl, (Nat.le_of_ble_eq_true rfl), (Nat.le_of_ble_eq_true rfl)⟩ (Nat.le_of_ble_eq_true rfl) ⟨(Nat.le_of_ble_eq_true rfl), (Nat.le_of_ble_eq_true rfl)⟩ dX12_choose_6 (fun r1 u2 h => ?_)
  refine v_eqw (ws1 := ([(fs, .inr (8, [.int (u2.1), .int (u2.2.1), .ref w, .ref w]))] ++ ([(w, .inr (0, [.ref v0, .ref (t 0), .ref v1, .ref v2, .int ft, .int rs, .int rf, .ref fr, .ref fa, sv]))] ++ (bkW D b (u2.2.2.1) ++ (bkW D t (u2.2.2.2) ++ ([(o, .inr (3, [.int be, .int mo, .ref w, .ref w, .ref fs, .ref w]))] ++ [])))))) (by simp only [List.append_assoc, List.nil_append, List.append_nil]) ?_
  refine v_perm (ws' := ([(o, .inr (3, [.int be, .int mo, .ref w, .ref w, .ref fs, .ref w]))] ++ ([(fs, .inr (8, [.int (u2.1), .int (u2.2.1), .ref w, .ref w]))] ++ ([(w, .inr (0, [.ref v0, .ref (t 0), .ref v1, .ref v2, .int ft, .int rs, .int rf, .ref fr, .ref fa, sv]))] ++ (bkW D b (u2.2.2.1) ++ (bkW D t (u2.2.2.2) ++ [])))))) (((((((((((((List.Perm.refl _)).append_left _).trans (pm_sw _ _ _))).append_left _).trans (pm_sw _ _ _))).append_left _).trans (pm_sw _ _ _))).append_left _).trans (pm_sw _ _ _)) ?_
  refine v_istore_n [(0, .ref o), (1, .ref (b 0)), (2, .int x2), (3, .int r1)] [1, 2, 3, 0] 9 hF dX12_choose_9 rfl (Nat.le_of_ble_eq_true rfl) rfl ?_
  refine v_iload_n 10 hF dX12_choose_10 rfl 3 rfl ?_
  refine v_aload_n 11 hF dX12_choose_11 rfl 0 rfl ?_
  refine v_aload_n 12 hF dX12_choose_12 rfl 1 rfl ?_
  refine v_iload_n 13 hF dX12_choose_13 rfl 2 rfl ?_
  refine v_callSUi (As := [.ref (b 0), .int x2]) (x0 := ({ cls := "BrookWeirs$Farmers", name := "choose", desc := "(LBrookWeirs$Brook;I)I" } : Jvm.MethodName)) (b := o) (wr := ([(fs, .inr (8, [.int (u2.1), .int (u2.2.1), .ref w, .ref w]))] ++ [])) 14 hF (c_X4_choose_X12 l D o be mo fs w v0 v1 v2 b t fr fa ft rs rf sv (u2.2.2.1) (u2.2.2.2) x2 _ h) (((((((((List.Perm.refl _)).append_left _).trans (pm_sw _ _ _)).trans (((((((List.Perm.refl _)).append_left _).trans (pm_sw _ _ _)).trans ((((((List.Perm.refl _)).append_left _).trans (pm_sw _ _ _))).append_left _))).append_left _))).append_left _)).trans (List.Perm.of_eq (by simp only [List.append_assoc, List.nil_append, List.append_nil]))) ⟨0, 3, _, TX12, 6, rfl, rfl⟩ q1058 q1059 ⟨rfl, rfl⟩ q1061 q360 q1050 q79 q1062 ⟨by decide, (show (parseMethodDescriptor "(LBrookWeirs$Brook;I)I").map (fun d => d.parameters.length) = some 2 from by decide +kernel)⟩ ⟨rfl, rfl, (Nat.le_of_ble_eq_true rfl), (Nat.le_of_ble_eq_true rfl)⟩ (Nat.le_of_ble_eq_true rfl) ⟨(Nat.le_of_ble_eq_true rfl), (Nat.le_of_ble_eq_true rfl)⟩ dX12_choose_14 (fun r3 u4 h => ?_)
  refine v_eqw (ws1 := ([(o, .inr (3, [.int (u4.1), .int (u4.2.1), .ref w, .ref w, .ref fs, .ref w]))] ++ ([(w, .inr (0, [.ref v0, .ref (t 0), .ref v1, .ref v2, .int ft, .int rs, .int rf, .ref fr, .ref fa, sv]))] ++ (bkW D b (u4.2.2.1) ++ (bkW D t (u4.2.2.2) ++ ([(fs, .inr (8, [.int (u2.1), .int (u2.2.1), .ref w, .ref w]))] ++ [])))))) (by simp only [List.append_assoc, List.nil_append, List.append_nil]) ?_
  refine v_perm (ws' := ([(o, .inr (3, [.int (u4.1), .int (u4.2.1), .ref w, .ref w, .ref fs, .ref w]))] ++ ([(fs, .inr (8, [.int (u2.1), .int (u2.2.1), .ref w, .ref w]))] ++ ([(w, .inr (0, [.ref v0, .ref (t 0), .ref v1, .ref v2, .int ft, .int rs, .int rf, .ref fr, .ref fa, sv]))] ++ (bkW D b (u4.2.2.1) ++ (bkW D t (u4.2.2.2) ++ [])))))) ((((((((((((List.Perm.refl _)).append_left _).trans (pm_sw _ _ _))).append_left _).trans (pm_sw _ _ _))).append_left _).trans (pm_sw _ _ _))).append_left _) ?_
  refine v_iadd 17 hF dX12_choose_17 ?_
  exact v_iret (u := (u4.1, u4.2.1, u2.1, u2.2.1, u4.2.2.1, u4.2.2.2)) 18 hF hR (Nat.le_of_ble_eq_true rfl) (Nat.le_of_ble_eq_true rfl) dX12_choose_18 h
def w_X11_hasNext (r : Nat) (ro : Int32) (ar : Int32) (dy : Int32) (v8 : Nat) (v9 : Nat) (w : Nat) (Q : Int32 → (Unit) → Prop) : Prop :=
  ((¬ ar = 0 → Q ((0 : Int32)) ()) ∧ (ar = 0 → (((10 : Int32) ≤ ro → Q ((0 : Int32)) ()) ∧ (¬ (10 : Int32) ≤ ro → Q ((1 : Int32)) ()))))
theorem ds_X11_hasNext : yX11_hasNext.cls = yX11_hasNext.cls ∧ yX11_hasNext.cls ≠ "java/lang/invoke/MethodHandle" ∧ yX11_hasNext.cls ≠ "java/lang/invoke/VarHandle" ∧ (parseMethodDescriptor yX11_hasNext.desc).map (fun d => d.parameters.length) = some 0 := by decide +kernel
set_option maxHeartbeats 4000000 in
theorem c_X11_hasNext (l : Launch) (D : va_G) (r : Nat) (ro : Int32) (ar : Int32) (dy : Int32) (v8 : Nat) (v9 : Nat) (w : Nat) (Q : Int32 → (Unit) → Prop) (h : w_X11_hasNext r ro ar dy v8 v9 w Q) : Cti l D yX11_hasNext cX11_hasNext 1 .boolean (rmk 0 0 0 0) [.ref r] ([(r, .inr (2, [.ref v8, .ref v9, .int ro, .int ar, .int dy, .ref w]))] ++ []) (fun u : Unit => ([(r, .inr (2, [.ref v8, .ref v9, .int ro, .int ar, .int dy, .ref w]))] ++ [])) Q 0 0 := by
  refine Cti.of (by decide) (Nat.le_of_ble_eq_true rfl) (fun x hF hR => ?_)
  replace hF : vF x l D "BrookWeirs$1Rounds" cX11_hasNext (rmk 0 0 0 0) 1 (some .boolean) := hF
  unfold w_X11_hasNext at h
  refine v_aload_n 0 hF dX11_hasNext_0 rfl 0 rfl ?_
  refine v_get 1 hF in_X11 0 rfl rfl 3 (Nat.le_of_ble_eq_true rfl) q1320 rfl rfl dX11_hasNext_1 ?_
  refine v_if_ne 4 20 hF dX11_hasNext_4 (by decide) (fun c1 => ?_) (fun c1 => ?_)
  · replace h := h.1 c1
    refine v_iconst (v := 0) 20 hF dX11_hasNext_20 (by decide) ?_
    exact v_zret (u := ()) 21 hF hR (Nat.le_of_ble_eq_true rfl) (Nat.le_of_ble_eq_true rfl) rfl dX11_hasNext_21 h
  · replace h := h.2 c1
    refine v_aload_n 7 hF dX11_hasNext_7 rfl 0 rfl ?_
    refine v_get 8 hF in_X11 0 rfl rfl 2 (Nat.le_of_ble_eq_true rfl) q1318 rfl rfl dX11_hasNext_8 ?_
    refine v_bipush (v := 10) 11 hF dX11_hasNext_11 (by decide) ?_
    refine v_icmp_ge 13 20 hF dX11_hasNext_13 (by decide) (fun c2 => ?_) (fun c2 => ?_)
    · replace h := h.1 c2
      refine v_iconst (v := 0) 20 hF dX11_hasNext_20 (by decide) ?_
      exact v_zret (u := ()) 21 hF hR (Nat.le_of_ble_eq_true rfl) (Nat.le_of_ble_eq_true rfl) rfl dX11_hasNext_21 h
    · replace h := h.2 c2
      refine v_iconst (v := 1) 16 hF dX11_hasNext_16 (by decide) ?_
      refine v_goto 17 21 hF dX11_hasNext_17 (by decide) ?_
      exact v_zret (u := ()) 21 hF hR (Nat.le_of_ble_eq_true rfl) (Nat.le_of_ble_eq_true rfl) rfl dX11_hasNext_21 h
def w_X11_next_2 (r : Nat) (ro : Int32) (ar : Int32) (dy : Int32) (o : Nat) (be : Int32) (mo : Int32) (fs : Nat) (be2 : Int32) (mo2 : Int32) (w : Nat) (v0 : Nat) (v1 : Nat) (v2 : Nat) (b : Nat → Nat) (t : Nat → Nat) (fr : Nat) (fa : Nat) (ft : Int32) (rs : Int32) (rf : Int32) (sv : Value) (σ : Nat → Nat → Int32) (τ : Nat → Nat → Int32) (Q : ((Int32) × (Int32) × (Int32) × (Int32) × (Int32) × (Int32) × (Nat → Nat → Int32) × (Nat → Nat → Int32)) → Prop) : Prop :=
  w_X11_hasNext r ro ar dy (b 0) o w (fun r1 u2 => w_X1_requireElement_ok r1 (fun u3 => w_X12_choose o be mo fs be2 mo2 w v0 v1 v2 b t fr fa ft rs rf sv σ τ dy (fun r4 u5 => ((¬ r4 = 0 → ∀ y7 : Int32, y7 = (ro + (1 : Int32)) → w_J20_valueOf y7 (fun u8 => Q ((y7, (0 : Int32), u5.1, u5.2.1, u5.2.2.1, u5.2.2.2.1, u5.2.2.2.2.1, u5.2.2.2.2.2)))) ∧ (r4 = 0 → ∀ y9 : Int32, y9 = (ro + (1 : Int32)) → w_J20_valueOf y9 (fun u10 => Q ((y9, (1 : Int32), u5.1, u5.2.1, u5.2.2.1, u5.2.2.2.1, u5.2.2.2.2.1, u5.2.2.2.2.2))))))))
theorem ds_X11_next_2 : yX11_next_2.cls = yX11_next_2.cls ∧ yX11_next_2.cls ≠ "java/lang/invoke/MethodHandle" ∧ yX11_next_2.cls ≠ "java/lang/invoke/VarHandle" ∧ (parseMethodDescriptor yX11_next_2.desc).map (fun d => d.parameters.length) = some 0 := by decide +kernel
set_option maxHeartbeats 4000000 in
theorem c_X11_next_2 (l : Launch) (D : va_G) (r : Nat) (ro : Int32) (ar : Int32) (dy : Int32) (o : Nat) (be : Int32) (mo : Int32) (fs : Nat) (be2 : Int32) (mo2 : Int32) (w : Nat) (v0 : Nat) (v1 : Nat) (v2 : Nat) (b : Nat → Nat) (t : Nat → Nat) (fr : Nat) (fa : Nat) (ft : Int32) (rs : Int32) (rf : Int32) (sv : Value) (σ : Nat → Nat → Int32) (τ : Nat → Nat → Int32) (Q : ((Int32) × (Int32) × (Int32) × (Int32) × (Int32) × (Int32) × (Nat → Nat → Int32) × (Nat → Nat → Int32)) → Prop) (h : w_X11_next_2 r ro ar dy o be mo fs be2 mo2 w v0 v1 v2 b t fr fa ft rs rf sv σ τ Q) : Ctr l D yX11_next_2 cX11_next_2 1 (.object "java/lang/Integer") (rmk 9 0 0 245) [.ref r] ([(r, .inr (2, [.ref (b 0), .ref o, .int ro, .int ar, .int dy, .ref w]))] ++ ([(o, .inr (3, [.int be, .int mo, .ref w, .ref w, .ref fs, .ref w]))] ++ ([(fs, .inr (8, [.int be2, .int mo2, .ref w, .ref w]))] ++ ([(w, .inr (0, [.ref v0, .ref (t 0), .ref v1, .ref v2, .int ft, .int rs, .int rf, .ref fr, .ref fa, sv]))] ++ (bkW D b σ ++ (bkW D t τ ++ [])))))) (fun u : (Int32) × (Int32) × (Int32) × (Int32) × (Int32) × (Int32) × (Nat → Nat → Int32) × (Nat → Nat → Int32) => ([(r, .inr (2, [.ref (b 0), .ref o, .int (u.1), .int (u.2.1), .int dy, .ref w]))] ++ ([(o, .inr (3, [.int (u.2.2.1), .int (u.2.2.2.1), .ref w, .ref w, .ref fs, .ref w]))] ++ ([(fs, .inr (8, [.int (u.2.2.2.2.1), .int (u.2.2.2.2.2.1), .ref w, .ref w]))] ++ ([(w, .inr (0, [.ref v0, .ref (t 0), .ref v1, .ref v2, .int ft, .int rs, .int rf, .ref fr, .ref fa, sv]))] ++ (bkW D b (u.2.2.2.2.2.2.1) ++ (bkW D t (u.2.2.2.2.2.2.2) ++ []))))))) (fun u : (Int32) × (Int32) × (Int32) × (Int32) × (Int32) × (Int32) × (Nat → Nat → Int32) × (Nat → Nat → Int32) => D.2 1001 (u.1 + 128).toNatClampNeg) Q 0 0 := by
  refine Ctr.of (by decide) (Nat.le_of_ble_eq_true rfl) (fun x hF hR => ?_)
  replace hF : vF x l D "BrookWeirs$1Rounds" cX11_next_2 (rmk 9 0 0 245) 1 (some (.object "java/lang/Integer")) := hF
  unfold w_X11_next_2 at h
  refine v_aload_n 0 hF dX11_next_2_0 rfl 0 rfl ?_
  refine v_callVi (As := []) (b := r) (wr := ([(o, .inr (3, [.int be, .int mo, .ref w, .ref w, .ref fs, .ref w]))] ++ ([(fs, .inr (8, [.int be2, .int mo2, .ref w, .ref w]))] ++ ([(w, .inr (0, [.ref v0, .ref (t 0), .ref v1, .ref v2, .int ft, .int rs, .int rf, .ref fr, .ref fa, sv]))] ++ (bkW D b σ ++ (bkW D t τ ++ [])))))) 1 hF (c_X11_hasNext l D r ro ar dy (b 0) o w _ h) (((List.Perm.refl _)).trans (List.Perm.of_eq (by simp only [List.append_assoc, List.nil_append, List.append_nil]))) ⟨0, 2, _, TX11, 6, rfl, rfl⟩ q1043 q1005 q2311 q103 q1007 ds_X11_hasNext ⟨rfl, rfl, (Nat.le_of_ble_eq_true rfl), (Nat.le_of_ble_eq_true rfl)⟩ (Nat.le_of_ble_eq_true rfl) ⟨(Nat.le_of_ble_eq_true rfl), (Nat.le_of_ble_eq_true rfl)⟩ dX11_next_2_1 (fun r1 u2 h => ?_)
  refine v_eqw (ws1 := ([(r, .inr (2, [.ref (b 0), .ref o, .int ro, .int ar, .int dy, .ref w]))] ++ ([(o, .inr (3, [.int be, .int mo, .ref w, .ref w, .ref fs, .ref w]))] ++ ([(fs, .inr (8, [.int be2, .int mo2, .ref w, .ref w]))] ++ ([(w, .inr (0, [.ref v0, .ref (t 0), .ref v1, .ref v2, .int ft, .int rs, .int rf, .ref fr, .ref fa, sv]))] ++ (bkW D b σ ++ (bkW D t τ ++ []))))))) (by simp only [List.append_assoc, List.nil_append, List.append_nil]) ?_
  refine v_callSNv (As := [.int r1]) (wr := ([(r, .inr (2, [.ref (b 0), .ref o, .int ro, .int ar, .int dy, .ref w]))] ++ ([(o, .inr (3, [.int be, .int mo, .ref w, .ref w, .ref fs, .ref w]))] ++ ([(fs, .inr (8, [.int be2, .int mo2, .ref w, .ref w]))] ++ ([(w, .inr (0, [.ref v0, .ref (t 0), .ref v1, .ref v2, .int ft, .int rs, .int rf, .ref fr, .ref fa, sv]))] ++ (bkW D b σ ++ (bkW D t τ ++ []))))))) 4 hF (c_X1_requireElement_ok l D r1 _ h) (((List.Perm.refl _)).trans (List.Perm.of_eq (by simp only [List.append_assoc, List.nil_append, List.append_nil]))) q1044 q1045 q70 q1046 ds_X1_requireElement ⟨rfl, rfl, (Nat.le_of_ble_eq_true rfl), (Nat.le_of_ble_eq_true rfl)⟩ (Nat.le_of_ble_eq_true rfl) ⟨(Nat.le_of_ble_eq_true rfl), (Nat.le_of_ble_eq_true rfl)⟩ dX11_next_2_4 (fun u3 h => ?_)
  refine v_eqw (ws1 := ([(r, .inr (2, [.ref (b 0), .ref o, .int ro, .int ar, .int dy, .ref w]))] ++ ([(o, .inr (3, [.int be, .int mo, .ref w, .ref w, .ref fs, .ref w]))] ++ ([(fs, .inr (8, [.int be2, .int mo2, .ref w, .ref w]))] ++ ([(w, .inr (0, [.ref v0, .ref (t 0), .ref v1, .ref v2, .int ft, .int rs, .int rf, .ref fr, .ref fa, sv]))] ++ (bkW D b σ ++ (bkW D t τ ++ []))))))) (by simp only [List.append_assoc, List.nil_append, List.append_nil]) ?_
  refine v_aload_n 7 hF dX11_next_2_7 rfl 0 rfl ?_
  refine v_aload_n 8 hF dX11_next_2_8 rfl 0 rfl ?_
  refine v_get 9 hF in_X11 0 rfl rfl 1 (Nat.le_of_ble_eq_true rfl) q1317 rfl rfl dX11_next_2_9 ?_
  refine v_aload_n 12 hF dX11_next_2_12 rfl 0 rfl ?_
  refine v_get 13 hF in_X11 0 rfl rfl 0 (Nat.le_of_ble_eq_true rfl) q1315 rfl rfl dX11_next_2_13 ?_
  refine v_aload_n 16 hF dX11_next_2_16 rfl 0 rfl ?_
  refine v_get 17 hF in_X11 0 rfl rfl 4 (Nat.le_of_ble_eq_true rfl) q1322 rfl rfl dX11_next_2_17 ?_
  refine v_callUi (As := [.ref (b 0), .int dy]) (x0 := ({ cls := "BrookWeirs$Side", name := "choose", desc := "(LBrookWeirs$Brook;I)I" } : Jvm.MethodName)) (b := o) (wr := ([(r, .inr (2, [.ref (b 0), .ref o, .int ro, .int ar, .int dy, .ref w]))] ++ [])) 20 hF (c_X12_choose l D o be mo fs be2 mo2 w v0 v1 v2 b t fr fa ft rs rf sv σ τ dy _ h) (((((((List.Perm.refl _)).append_left _).trans (pm_sw _ _ _)).trans (((((((List.Perm.refl _)).append_left _).trans (pm_sw _ _ _)).trans (((((((List.Perm.refl _)).append_left _).trans (pm_sw _ _ _)).trans (((((((List.Perm.refl _)).append_left _).trans (pm_sw _ _ _)).trans ((((((List.Perm.refl _)).append_left _).trans (pm_sw _ _ _))).append_left _))).append_left _))).append_left _))).append_left _))).trans (List.Perm.of_eq (by simp only [List.append_assoc, List.nil_append, List.append_nil]))) ⟨0, 3, _, TX12, 6, rfl, rfl⟩ q1049 q1055 (fun s args hts _ => vUx.of2 (args := args) (by decide) (side_cls hts) (hts _ q1050) (hts _ q1062)) (fun s args hts _ => hts _ q1054) q104 q1056 ⟨by decide, by decide, (show (parseMethodDescriptor "(LBrookWeirs$Brook;I)I").map (fun d => d.parameters.length) = some 2 from by decide +kernel)⟩ ⟨rfl, rfl, (Nat.le_of_ble_eq_true rfl), (Nat.le_of_ble_eq_true rfl)⟩ (Nat.le_of_ble_eq_true rfl) ⟨(Nat.le_of_ble_eq_true rfl), (Nat.le_of_ble_eq_true rfl)⟩ dX11_next_2_20 (fun r4 u5 h => ?_)
  refine v_eqw (ws1 := ([(o, .inr (3, [.int (u5.1), .int (u5.2.1), .ref w, .ref w, .ref fs, .ref w]))] ++ ([(fs, .inr (8, [.int (u5.2.2.1), .int (u5.2.2.2.1), .ref w, .ref w]))] ++ ([(w, .inr (0, [.ref v0, .ref (t 0), .ref v1, .ref v2, .int ft, .int rs, .int rf, .ref fr, .ref fa, sv]))] ++ (bkW D b (u5.2.2.2.2.1) ++ (bkW D t (u5.2.2.2.2.2) ++ ([(r, .inr (2, [.ref (b 0), .ref o, .int ro, .int ar, .int dy, .ref w]))] ++ []))))))) (by simp only [List.append_assoc, List.nil_append, List.append_nil]) ?_
  refine v_perm (ws' := ([(r, .inr (2, [.ref (b 0), .ref o, .int ro, .int ar, .int dy, .ref w]))] ++ ([(o, .inr (3, [.int (u5.1), .int (u5.2.1), .ref w, .ref w, .ref fs, .ref w]))] ++ ([(fs, .inr (8, [.int (u5.2.2.1), .int (u5.2.2.2.1), .ref w, .ref w]))] ++ ([(w, .inr (0, [.ref v0, .ref (t 0), .ref v1, .ref v2, .int ft, .int rs, .int rf, .ref fr, .ref fa, sv]))] ++ (bkW D b (u5.2.2.2.2.1) ++ (bkW D t (u5.2.2.2.2.2) ++ []))))))) ((((((((((((((((List.Perm.refl _)).append_left _).trans (pm_sw _ _ _))).append_left _).trans (pm_sw _ _ _))).append_left _).trans (pm_sw _ _ _))).append_left _).trans (pm_sw _ _ _))).append_left _).trans (pm_sw _ _ _)) ?_
  refine v_if_ne 23 30 hF dX11_next_2_23 (by decide) (fun c6 => ?_) (fun c6 => ?_)
  · replace h := h.1 c6
    refine v_iconst (v := 0) 30 hF dX11_next_2_30 (by decide) ?_
    refine v_put ([(r, .inr (2, [.ref (b 0), .ref o, .int ro, .int ((0 : Int32)), .int dy, .ref w]))] ++ ([(o, .inr (3, [.int (u5.1), .int (u5.2.1), .ref w, .ref w, .ref fs, .ref w]))] ++ ([(fs, .inr (8, [.int (u5.2.2.1), .int (u5.2.2.2.1), .ref w, .ref w]))] ++ ([(w, .inr (0, [.ref v0, .ref (t 0), .ref v1, .ref v2, .int ft, .int rs, .int rf, .ref fr, .ref fa, sv]))] ++ (bkW D b (u5.2.2.2.2.1) ++ (bkW D t (u5.2.2.2.2.2) ++ [])))))) 31 hF in_X11 tyX11_ok nmX11 0 rfl rfl 3 (Nat.le_of_ble_eq_true rfl) q1320 rfl rfl rfl rfl rfl (Nat.le_of_ble_eq_true rfl) rfl dX11_next_2_31 ?_
    refine v_aload_n 34 hF dX11_next_2_34 rfl 0 rfl ?_
    refine v_dup 35 hF dX11_next_2_35 rfl ?_
    refine v_get 36 hF in_X11 0 rfl rfl 2 (Nat.le_of_ble_eq_true rfl) q1318 rfl rfl dX11_next_2_36 ?_
    refine v_iconst (v := 1) 39 hF dX11_next_2_39 (by decide) ?_
    refine v_iadd 40 hF dX11_next_2_40 ?_
    refine v_nm (fun y7 ey7 => ?_)
    replace h := h y7 ey7
    refine v_put ([(r, .inr (2, [.ref (b 0), .ref o, .int y7, .int ((0 : Int32)), .int dy, .ref w]))] ++ ([(o, .inr (3, [.int (u5.1), .int (u5.2.1), .ref w, .ref w, .ref fs, .ref w]))] ++ ([(fs, .inr (8, [.int (u5.2.2.1), .int (u5.2.2.2.1), .ref w, .ref w]))] ++ ([(w, .inr (0, [.ref v0, .ref (t 0), .ref v1, .ref v2, .int ft, .int rs, .int rf, .ref fr, .ref fa, sv]))] ++ (bkW D b (u5.2.2.2.2.1) ++ (bkW D t (u5.2.2.2.2.2) ++ [])))))) 41 hF in_X11 tyX11_ok nmX11 0 rfl rfl 2 (Nat.le_of_ble_eq_true rfl) q1318 rfl rfl rfl rfl rfl (Nat.le_of_ble_eq_true rfl) rfl dX11_next_2_41 ?_
    refine v_aload_n 44 hF dX11_next_2_44 rfl 0 rfl ?_
    refine v_get 45 hF in_X11 0 rfl rfl 2 (Nat.le_of_ble_eq_true rfl) q1318 rfl rfl dX11_next_2_45 ?_
    refine v_callSr (As := [.int y7]) (wr := ([(r, .inr (2, [.ref (b 0), .ref o, .int y7, .int ((0 : Int32)), .int dy, .ref w]))] ++ ([(o, .inr (3, [.int (u5.1), .int (u5.2.1), .ref w, .ref w, .ref fs, .ref w]))] ++ ([(fs, .inr (8, [.int (u5.2.2.1), .int (u5.2.2.2.1), .ref w, .ref w]))] ++ ([(w, .inr (0, [.ref v0, .ref (t 0), .ref v1, .ref v2, .int ft, .int rs, .int rf, .ref fr, .ref fa, sv]))] ++ (bkW D b (u5.2.2.2.2.1) ++ (bkW D t (u5.2.2.2.2.2) ++ []))))))) 48 hF (c_J20_valueOf l D y7 _ h) (((List.Perm.refl _)).trans (List.Perm.of_eq (by simp only [List.append_assoc, List.nil_append, List.append_nil]))) q1123 q1124 q101 q1125 ds_J20_valueOf ⟨rfl, rfl, (Nat.le_of_ble_eq_true rfl), (Nat.le_of_ble_eq_true rfl)⟩ (Nat.le_of_ble_eq_true rfl) ⟨(Nat.le_of_ble_eq_true rfl), (Nat.le_of_ble_eq_true rfl)⟩ dX11_next_2_48 (fun u8 h => ?_)
    refine v_eqw (ws1 := ([(r, .inr (2, [.ref (b 0), .ref o, .int y7, .int ((0 : Int32)), .int dy, .ref w]))] ++ ([(o, .inr (3, [.int (u5.1), .int (u5.2.1), .ref w, .ref w, .ref fs, .ref w]))] ++ ([(fs, .inr (8, [.int (u5.2.2.1), .int (u5.2.2.2.1), .ref w, .ref w]))] ++ ([(w, .inr (0, [.ref v0, .ref (t 0), .ref v1, .ref v2, .int ft, .int rs, .int rf, .ref fr, .ref fa, sv]))] ++ (bkW D b (u5.2.2.2.2.1) ++ (bkW D t (u5.2.2.2.2.2) ++ []))))))) (by simp only [List.append_assoc, List.nil_append, List.append_nil]) ?_
    exact v_aret (u := (y7, (0 : Int32), u5.1, u5.2.1, u5.2.2.1, u5.2.2.2.1, u5.2.2.2.2.1, u5.2.2.2.2.2)) 51 hF (Or.inl ⟨_, rfl⟩) hR (Nat.le_of_ble_eq_true rfl) (Nat.le_of_ble_eq_true rfl) dX11_next_2_51 rfl h
  · replace h := h.2 c6
    refine v_iconst (v := 1) 26 hF dX11_next_2_26 (by decide) ?_
    refine v_goto 27 31 hF dX11_next_2_27 (by decide) ?_
    refine v_put ([(r, .inr (2, [.ref (b 0), .ref o, .int ro, .int ((1 : Int32)), .int dy, .ref w]))] ++ ([(o, .inr (3, [.int (u5.1), .int (u5.2.1), .ref w, .ref w, .ref fs, .ref w]))] ++ ([(fs, .inr (8, [.int (u5.2.2.1), .int (u5.2.2.2.1), .ref w, .ref w]))] ++ ([(w, .inr (0, [.ref v0, .ref (t 0), .ref v1, .ref v2, .int ft, .int rs, .int rf, .ref fr, .ref fa, sv]))] ++ (bkW D b (u5.2.2.2.2.1) ++ (bkW D t (u5.2.2.2.2.2) ++ [])))))) 31 hF in_X11 tyX11_ok nmX11 0 rfl rfl 3 (Nat.le_of_ble_eq_true rfl) q1320 rfl rfl rfl rfl rfl (Nat.le_of_ble_eq_true rfl) rfl dX11_next_2_31 ?_
    refine v_aload_n 34 hF dX11_next_2_34 rfl 0 rfl ?_
    refine v_dup 35 hF dX11_next_2_35 rfl ?_
    refine v_get 36 hF in_X11 0 rfl rfl 2 (Nat.le_of_ble_eq_true rfl) q1318 rfl rfl dX11_next_2_36 ?_
    refine v_iconst (v := 1) 39 hF dX11_next_2_39 (by decide) ?_
    refine v_iadd 40 hF dX11_next_2_40 ?_
    refine v_nm (fun y9 ey9 => ?_)
    replace h := h y9 ey9
    refine v_put ([(r, .inr (2, [.ref (b 0), .ref o, .int y9, .int ((1 : Int32)), .int dy, .ref w]))] ++ ([(o, .inr (3, [.int (u5.1), .int (u5.2.1), .ref w, .ref w, .ref fs, .ref w]))] ++ ([(fs, .inr (8, [.int (u5.2.2.1), .int (u5.2.2.2.1), .ref w, .ref w]))] ++ ([(w, .inr (0, [.ref v0, .ref (t 0), .ref v1, .ref v2, .int ft, .int rs, .int rf, .ref fr, .ref fa, sv]))] ++ (bkW D b (u5.2.2.2.2.1) ++ (bkW D t (u5.2.2.2.2.2) ++ [])))))) 41 hF in_X11 tyX11_ok nmX11 0 rfl rfl 2 (Nat.le_of_ble_eq_true rfl) q1318 rfl rfl rfl rfl rfl (Nat.le_of_ble_eq_true rfl) rfl dX11_next_2_41 ?_
    refine v_aload_n 44 hF dX11_next_2_44 rfl 0 rfl ?_
    refine v_get 45 hF in_X11 0 rfl rfl 2 (Nat.le_of_ble_eq_true rfl) q1318 rfl rfl dX11_next_2_45 ?_
    refine v_callSr (As := [.int y9]) (wr := ([(r, .inr (2, [.ref (b 0), .ref o, .int y9, .int ((1 : Int32)), .int dy, .ref w]))] ++ ([(o, .inr (3, [.int (u5.1), .int (u5.2.1), .ref w, .ref w, .ref fs, .ref w]))] ++ ([(fs, .inr (8, [.int (u5.2.2.1), .int (u5.2.2.2.1), .ref w, .ref w]))] ++ ([(w, .inr (0, [.ref v0, .ref (t 0), .ref v1, .ref v2, .int ft, .int rs, .int rf, .ref fr, .ref fa, sv]))] ++ (bkW D b (u5.2.2.2.2.1) ++ (bkW D t (u5.2.2.2.2.2) ++ []))))))) 48 hF (c_J20_valueOf l D y9 _ h) (((List.Perm.refl _)).trans (List.Perm.of_eq (by simp only [List.append_assoc, List.nil_append, List.append_nil]))) q1123 q1124 q101 q1125 ds_J20_valueOf ⟨rfl, rfl, (Nat.le_of_ble_eq_true rfl), (Nat.le_of_ble_eq_true rfl)⟩ (Nat.le_of_ble_eq_true rfl) ⟨(Nat.le_of_ble_eq_true rfl), (Nat.le_of_ble_eq_true rfl)⟩ dX11_next_2_48 (fun u10 h => ?_)
    refine v_eqw (ws1 := ([(r, .inr (2, [.ref (b 0), .ref o, .int y9, .int ((1 : Int32)), .int dy, .ref w]))] ++ ([(o, .inr (3, [.int (u5.1), .int (u5.2.1), .ref w, .ref w, .ref fs, .ref w]))] ++ ([(fs, .inr (8, [.int (u5.2.2.1), .int (u5.2.2.2.1), .ref w, .ref w]))] ++ ([(w, .inr (0, [.ref v0, .ref (t 0), .ref v1, .ref v2, .int ft, .int rs, .int rf, .ref fr, .ref fa, sv]))] ++ (bkW D b (u5.2.2.2.2.1) ++ (bkW D t (u5.2.2.2.2.2) ++ []))))))) (by simp only [List.append_assoc, List.nil_append, List.append_nil]) ?_
    exact v_aret (u := (y9, (1 : Int32), u5.1, u5.2.1, u5.2.2.1, u5.2.2.2.1, u5.2.2.2.2.1, u5.2.2.2.2.2)) 51 hF (Or.inl ⟨_, rfl⟩) hR (Nat.le_of_ble_eq_true rfl) (Nat.le_of_ble_eq_true rfl) dX11_next_2_51 rfl h
def w_X11_next (r : Nat) (ro : Int32) (ar : Int32) (dy : Int32) (o : Nat) (be : Int32) (mo : Int32) (fs : Nat) (be2 : Int32) (mo2 : Int32) (w : Nat) (v0 : Nat) (v1 : Nat) (v2 : Nat) (b : Nat → Nat) (t : Nat → Nat) (fr : Nat) (fa : Nat) (ft : Int32) (rs : Int32) (rf : Int32) (sv : Value) (σ : Nat → Nat → Int32) (τ : Nat → Nat → Int32) (Q : ((Int32) × (Int32) × (Int32) × (Int32) × (Int32) × (Int32) × (Nat → Nat → Int32) × (Nat → Nat → Int32)) → Prop) : Prop :=
  w_X11_next_2 r ro ar dy o be mo fs be2 mo2 w v0 v1 v2 b t fr fa ft rs rf sv σ τ (fun u1 => Q ((u1.1, u1.2.1, u1.2.2.1, u1.2.2.2.1, u1.2.2.2.2.1, u1.2.2.2.2.2.1, u1.2.2.2.2.2.2.1, u1.2.2.2.2.2.2.2)))
theorem ds_X11_next : yX11_next.cls = yX11_next.cls ∧ yX11_next.cls ≠ "java/lang/invoke/MethodHandle" ∧ yX11_next.cls ≠ "java/lang/invoke/VarHandle" ∧ (parseMethodDescriptor yX11_next.desc).map (fun d => d.parameters.length) = some 0 := by decide +kernel
set_option maxHeartbeats 4000000 in
theorem c_X11_next (l : Launch) (D : va_G) (r : Nat) (ro : Int32) (ar : Int32) (dy : Int32) (o : Nat) (be : Int32) (mo : Int32) (fs : Nat) (be2 : Int32) (mo2 : Int32) (w : Nat) (v0 : Nat) (v1 : Nat) (v2 : Nat) (b : Nat → Nat) (t : Nat → Nat) (fr : Nat) (fa : Nat) (ft : Int32) (rs : Int32) (rf : Int32) (sv : Value) (σ : Nat → Nat → Int32) (τ : Nat → Nat → Int32) (Q : ((Int32) × (Int32) × (Int32) × (Int32) × (Int32) × (Int32) × (Nat → Nat → Int32) × (Nat → Nat → Int32)) → Prop) (h : w_X11_next r ro ar dy o be mo fs be2 mo2 w v0 v1 v2 b t fr fa ft rs rf sv σ τ Q) : Ctr l D yX11_next cX11_next 1 (.object "java/lang/Object") (rmk 10 0 0 265) [.ref r] ([(r, .inr (2, [.ref (b 0), .ref o, .int ro, .int ar, .int dy, .ref w]))] ++ ([(o, .inr (3, [.int be, .int mo, .ref w, .ref w, .ref fs, .ref w]))] ++ ([(fs, .inr (8, [.int be2, .int mo2, .ref w, .ref w]))] ++ ([(w, .inr (0, [.ref v0, .ref (t 0), .ref v1, .ref v2, .int ft, .int rs, .int rf, .ref fr, .ref fa, sv]))] ++ (bkW D b σ ++ (bkW D t τ ++ [])))))) (fun u : (Int32) × (Int32) × (Int32) × (Int32) × (Int32) × (Int32) × (Nat → Nat → Int32) × (Nat → Nat → Int32) => ([(r, .inr (2, [.ref (b 0), .ref o, .int (u.1), .int (u.2.1), .int dy, .ref w]))] ++ ([(o, .inr (3, [.int (u.2.2.1), .int (u.2.2.2.1), .ref w, .ref w, .ref fs, .ref w]))] ++ ([(fs, .inr (8, [.int (u.2.2.2.2.1), .int (u.2.2.2.2.2.1), .ref w, .ref w]))] ++ ([(w, .inr (0, [.ref v0, .ref (t 0), .ref v1, .ref v2, .int ft, .int rs, .int rf, .ref fr, .ref fa, sv]))] ++ (bkW D b (u.2.2.2.2.2.2.1) ++ (bkW D t (u.2.2.2.2.2.2.2) ++ []))))))) (fun u : (Int32) × (Int32) × (Int32) × (Int32) × (Int32) × (Int32) × (Nat → Nat → Int32) × (Nat → Nat → Int32) => D.2 1001 (u.1 + 128).toNatClampNeg) Q 0 0 := by
  refine Ctr.of (by decide) (Nat.le_of_ble_eq_true rfl) (fun x hF hR => ?_)
  replace hF : vF x l D "BrookWeirs$1Rounds" cX11_next (rmk 10 0 0 265) 1 (some (.object "java/lang/Object")) := hF
  unfold w_X11_next at h
  refine v_aload_n 0 hF dX11_next_0 rfl 0 rfl ?_
  refine v_callVr (As := []) (b := r) (wr := ([])) 1 hF (c_X11_next_2 l D r ro ar dy o be mo fs be2 mo2 w v0 v1 v2 b t fr fa ft rs rf sv σ τ _ h) (((List.Perm.refl _)).trans (List.Perm.of_eq (by simp only [List.append_assoc, List.nil_append, List.append_nil]))) ⟨0, 2, _, TX11, 6, rfl, rfl⟩ q1039 q1040 q1041 q103 q1042 ds_X11_next_2 ⟨rfl, rfl, (Nat.le_of_ble_eq_true rfl), (Nat.le_of_ble_eq_true rfl)⟩ (Nat.le_of_ble_eq_true rfl) ⟨(Nat.le_of_ble_eq_true rfl), (Nat.le_of_ble_eq_true rfl)⟩ dX11_next_1 (fun u1 h => ?_)
  refine v_eqw (ws1 := ([(r, .inr (2, [.ref (b 0), .ref o, .int (u1.1), .int (u1.2.1), .int dy, .ref w]))] ++ ([(o, .inr (3, [.int (u1.2.2.1), .int (u1.2.2.2.1), .ref w, .ref w, .ref fs, .ref w]))] ++ ([(fs, .inr (8, [.int (u1.2.2.2.2.1), .int (u1.2.2.2.2.2.1), .ref w, .ref w]))] ++ ([(w, .inr (0, [.ref v0, .ref (t 0), .ref v1, .ref v2, .int ft, .int rs, .int rf, .ref fr, .ref fa, sv]))] ++ (bkW D b (u1.2.2.2.2.2.2.1) ++ (bkW D t (u1.2.2.2.2.2.2.2) ++ []))))))) (by simp only [List.append_assoc, List.nil_append, List.append_nil]) ?_
  exact v_aret (u := (u1.1, u1.2.1, u1.2.2.1, u1.2.2.2.1, u1.2.2.2.2.1, u1.2.2.2.2.2.1, u1.2.2.2.2.2.2.1, u1.2.2.2.2.2.2.2)) 4 hF (Or.inl ⟨_, rfl⟩) hR (Nat.le_of_ble_eq_true rfl) (Nat.le_of_ble_eq_true rfl) dX11_next_4 rfl h
