set_option maxRecDepth 100000
def w_J1_sub (x0 x1 x2 : Int32) (Q : Int32 → Prop) : Prop :=
  ∀ y1 : Int32, y1 = (x0 - x1) → ((0 ≤ y1 → Q y1) ∧ (¬ 0 ≤ y1 → ∀ y3 : Int32, y3 = (y1 + x2) → Q y3))
theorem ds_J1_sub : yJ1_sub.cls = yJ1_sub.cls ∧ yJ1_sub.cls ≠ "java/lang/invoke/MethodHandle" ∧ yJ1_sub.cls ≠ "java/lang/invoke/VarHandle" ∧ (parseMethodDescriptor yJ1_sub.desc).map (fun d => d.parameters.length) = some 3 := by decide +kernel
set_option maxHeartbeats 4000000 in
theorem c_J1_sub (l : Launch) (D : va_G) (x0 x1 x2 : Int32) (Q : Int32 → Prop) (h : w_J1_sub x0 x1 x2 Q) : Cti l D yJ1_sub cJ1_sub 3 .int (rmk 0 0 0 0) [.int x0, .int x1, .int x2] [] (fun _ : Unit => []) (fun r _ => Q r) 0 0 := by
  refine Cti.of (by decide) (Nat.le_of_ble_eq_true rfl) (fun x hF hR => ?_)
  replace hF : vF x l D "java/util/ArrayDeque" cJ1_sub (rmk 0 0 0 0) 3 (some .int) := hF
  unfold w_J1_sub at h
  refine v_iload_n 0 hF dJ1_sub_0 rfl 0 rfl ?_
  refine v_iload_n 1 hF dJ1_sub_1 rfl 1 rfl ?_
  refine v_isub 2 hF dJ1_sub_2 ?_
  refine v_nm (fun y1 ey1 => ?_)
  replace h := h y1 ey1
  refine v_dup 3 hF dJ1_sub_3 rfl ?_
  refine v_istore_n [(0, .int y1), (1, .int x1), (2, .int x2)] [0, 1, 2] 4 hF dJ1_sub_4 rfl (Nat.le_of_ble_eq_true rfl) rfl ?_
  refine v_if_ge 5 12 hF dJ1_sub_5 (by decide) (fun c2 => ?_) (fun c2 => ?_)
  · replace h := h.1 c2
    refine v_iload_n 12 hF dJ1_sub_12 rfl 0 rfl ?_
    exact v_iret (u := ()) 13 hF hR (Nat.zero_le _) (Nat.zero_le _) dJ1_sub_13 h
  · replace h := h.2 c2
    refine v_iload_n 8 hF dJ1_sub_8 rfl 0 rfl ?_
    refine v_iload_n 9 hF dJ1_sub_9 rfl 2 rfl ?_
    refine v_iadd 10 hF dJ1_sub_10 ?_
    refine v_nm (fun y3 ey3 => ?_)
    replace h := h y3 ey3
    refine v_istore_n [(0, .int y3), (1, .int x1), (2, .int x2)] [0, 1, 2] 11 hF dJ1_sub_11 rfl (Nat.le_of_ble_eq_true rfl) rfl ?_
    refine v_iload_n 12 hF dJ1_sub_12 rfl 0 rfl ?_
    exact v_iret (u := ()) 13 hF hR (Nat.zero_le _) (Nat.zero_le _) dJ1_sub_13 h
def w_J1_dec (x0 x1 : Int32) (Q : Int32 → Prop) : Prop :=
  ∀ y1 : Int32, y1 = x0 + (-1 : Int32) → ((0 ≤ y1 → Q y1) ∧ (¬ 0 ≤ y1 → ∀ y3 : Int32, y3 = (x1 - (1 : Int32)) → Q y3))
theorem ds_J1_dec : yJ1_dec.cls = yJ1_dec.cls ∧ yJ1_dec.cls ≠ "java/lang/invoke/MethodHandle" ∧ yJ1_dec.cls ≠ "java/lang/invoke/VarHandle" ∧ (parseMethodDescriptor yJ1_dec.desc).map (fun d => d.parameters.length) = some 2 := by decide +kernel
set_option maxHeartbeats 4000000 in
theorem c_J1_dec (l : Launch) (D : va_G) (x0 x1 : Int32) (Q : Int32 → Prop) (h : w_J1_dec x0 x1 Q) : Cti l D yJ1_dec cJ1_dec 2 .int (rmk 0 0 0 0) [.int x0, .int x1] [] (fun _ : Unit => []) (fun r _ => Q r) 0 0 := by
  refine Cti.of (by decide) (Nat.le_of_ble_eq_true rfl) (fun x hF hR => ?_)
  replace hF : vF x l D "java/util/ArrayDeque" cJ1_dec (rmk 0 0 0 0) 2 (some .int) := hF
  unfold w_J1_dec at h
  obtain ⟨y1, ey1⟩ : ∃ y : Int32, y = x0 + (-1 : Int32) := ⟨_, rfl⟩
  replace h := h y1 ey1
  refine v_iinc [(0, .int y1), (1, .int x1)] [0, 1] 0 hF dJ1_dec_0 0 rfl (by rw [ey1]; rfl) (Nat.le_of_ble_eq_true rfl) rfl ?_
  refine v_iload_n 3 hF dJ1_dec_3 rfl 0 rfl ?_
  refine v_if_ge 4 11 hF dJ1_dec_4 (by decide) (fun c2 => ?_) (fun c2 => ?_)
  · replace h := h.1 c2
    refine v_iload_n 11 hF dJ1_dec_11 rfl 0 rfl ?_
    exact v_iret (u := ()) 12 hF hR (Nat.zero_le _) (Nat.zero_le _) dJ1_dec_12 h
  · replace h := h.2 c2
    refine v_iload_n 7 hF dJ1_dec_7 rfl 1 rfl ?_
    refine v_iconst (v := 1) 8 hF dJ1_dec_8 (by decide) ?_
    refine v_isub 9 hF dJ1_dec_9 ?_
    refine v_nm (fun y3 ey3 => ?_)
    replace h := h y3 ey3
    refine v_istore_n [(0, .int y3), (1, .int x1)] [0, 1] 10 hF dJ1_dec_10 rfl (Nat.le_of_ble_eq_true rfl) rfl ?_
    refine v_iload_n 11 hF dJ1_dec_11 rfl 0 rfl ?_
    exact v_iret (u := ()) 12 hF hR (Nat.zero_le _) (Nat.zero_le _) dJ1_dec_12 h
def w_J1_inc (x0 x1 : Int32) (Q : Int32 → Prop) : Prop :=
  ∀ y1 : Int32, y1 = x0 + (1 : Int32) → ((y1 < x1 → Q y1) ∧ (¬ y1 < x1 → Q ((0 : Int32))))
theorem ds_J1_inc : yJ1_inc.cls = yJ1_inc.cls ∧ yJ1_inc.cls ≠ "java/lang/invoke/MethodHandle" ∧ yJ1_inc.cls ≠ "java/lang/invoke/VarHandle" ∧ (parseMethodDescriptor yJ1_inc.desc).map (fun d => d.parameters.length) = some 2 := by decide +kernel
set_option maxHeartbeats 4000000 in
theorem c_J1_inc (l : Launch) (D : va_G) (x0 x1 : Int32) (Q : Int32 → Prop) (h : w_J1_inc x0 x1 Q) : Cti l D yJ1_inc cJ1_inc 2 .int (rmk 0 0 0 0) [.int x0, .int x1] [] (fun _ : Unit => []) (fun r _ => Q r) 0 0 := by
  refine Cti.of (by decide) (Nat.le_of_ble_eq_true rfl) (fun x hF hR => ?_)
  replace hF : vF x l D "java/util/ArrayDeque" cJ1_inc (rmk 0 0 0 0) 2 (some .int) := hF
  unfold w_J1_inc at h
  obtain ⟨y1, ey1⟩ : ∃ y : Int32, y = x0 + (1 : Int32) := ⟨_, rfl⟩
  replace h := h y1 ey1
  refine v_iinc [(0, .int y1), (1, .int x1)] [0, 1] 0 hF dJ1_inc_0 0 rfl (by rw [ey1]; rfl) (Nat.le_of_ble_eq_true rfl) rfl ?_
  refine v_iload_n 3 hF dJ1_inc_3 rfl 0 rfl ?_
  refine v_iload_n 4 hF dJ1_inc_4 rfl 1 rfl ?_
  refine v_icmp_lt 5 10 hF dJ1_inc_5 (by decide) (fun c2 => ?_) (fun c2 => ?_)
  · replace h := h.1 c2
    refine v_iload_n 10 hF dJ1_inc_10 rfl 0 rfl ?_
    exact v_iret (u := ()) 11 hF hR (Nat.zero_le _) (Nat.zero_le _) dJ1_inc_11 h
  · replace h := h.2 c2
    refine v_iconst (v := 0) 8 hF dJ1_inc_8 (by decide) ?_
    refine v_istore_n [(0, .int ((0 : Int32))), (1, .int x1)] [0, 1] 9 hF dJ1_inc_9 rfl (Nat.le_of_ble_eq_true rfl) rfl ?_
    refine v_iload_n 10 hF dJ1_inc_10 rfl 0 rfl ?_
    exact v_iret (u := ()) 11 hF hR (Nat.zero_le _) (Nat.zero_le _) dJ1_inc_11 h
def w_J1_size (σ : (Nat → Option Nat) × Int32 × Int32) (Q : Int32 → ((Nat → Option Nat) × Int32 × Int32) → Prop) : Prop :=
  w_J1_sub (σ.2.2) (σ.2.1) ((17 : Int32)) (fun r1 => Q r1 σ)
theorem ds_J1_size : yJ1_size.cls = yJ1_size.cls ∧ yJ1_size.cls ≠ "java/lang/invoke/MethodHandle" ∧ yJ1_size.cls ≠ "java/lang/invoke/VarHandle" ∧ (parseMethodDescriptor yJ1_size.desc).map (fun d => d.parameters.length) = some 0 := by decide +kernel
set_option maxHeartbeats 4000000 in
theorem c_J1_size (l : Launch) (D : va_G) (a : Nat → Nat) (σ : (Nat → Option Nat) × Int32 × Int32) (Q : Int32 → ((Nat → Option Nat) × Int32 × Int32) → Prop) (h : w_J1_size σ Q) : Cti l D yJ1_size cJ1_size 1 .int (rmk 1 0 0 22) [.ref (a 0)] (dqW D a σ) (dqW D a) Q 0 0 := by
  refine Cti.of (by decide) (Nat.le_of_ble_eq_true rfl) (fun x hF hR => ?_)
  replace hF : vF x l D "java/util/ArrayDeque" cJ1_size (rmk 1 0 0 22) 1 (some .int) := hF
  refine v_app0 ?_
  unfold w_J1_size at h
  refine v_aload_n 0 hF dJ1_size_0 rfl 0 rfl ?_
  refine Q_get 1 2 hF (Nat.le_of_ble_eq_true rfl) q283 rfl rfl dJ1_size_1 ?_
  refine v_aload_n 4 hF dJ1_size_4 rfl 0 rfl ?_
  refine Q_get 5 1 hF (Nat.le_of_ble_eq_true rfl) q282 rfl rfl dJ1_size_5 ?_
  refine v_aload_n 8 hF dJ1_size_8 rfl 0 rfl ?_
  refine Q_get 9 0 hF (Nat.le_of_ble_eq_true rfl) q279 rfl rfl dJ1_size_9 ?_
  refine v_alen (v := 17) 12 hF 1 5 rfl rfl (show Int32.ofNat 17 = 17 from by decide) dJ1_size_12 ?_
  refine v_callS0i (As := [.int (σ.2.2), .int (σ.2.1), .int ((17 : Int32))]) 13 hF (c_J1_sub l D (σ.2.2) (σ.2.1) ((17 : Int32)) _ h) q512 q513 q74 q514 ds_J1_sub ⟨rfl, rfl, Nat.le_of_ble_eq_true rfl, Nat.le_of_ble_eq_true rfl⟩ (Nat.le_of_ble_eq_true rfl) ⟨Nat.zero_le _, Nat.zero_le _⟩ dJ1_size_13 (fun r1 h => ?_)
  exact v_iretA 16 hF hR (Nat.zero_le _) (Nat.zero_le _) dJ1_size_16 h
def w_J1_isEmpty (σ : (Nat → Option Nat) × Int32 × Int32) (Q : Int32 → ((Nat → Option Nat) × Int32 × Int32) → Prop) : Prop :=
  ((¬ σ.2.1 = σ.2.2 → Q ((0 : Int32)) σ) ∧ (σ.2.1 = σ.2.2 → Q ((1 : Int32)) σ))
theorem ds_J1_isEmpty : yJ1_isEmpty.cls = yJ1_isEmpty.cls ∧ yJ1_isEmpty.cls ≠ "java/lang/invoke/MethodHandle" ∧ yJ1_isEmpty.cls ≠ "java/lang/invoke/VarHandle" ∧ (parseMethodDescriptor yJ1_isEmpty.desc).map (fun d => d.parameters.length) = some 0 := by decide +kernel
set_option maxHeartbeats 4000000 in
theorem c_J1_isEmpty (l : Launch) (D : va_G) (a : Nat → Nat) (σ : (Nat → Option Nat) × Int32 × Int32) (Q : Int32 → ((Nat → Option Nat) × Int32 × Int32) → Prop) (h : w_J1_isEmpty σ Q) : Cti l D yJ1_isEmpty cJ1_isEmpty 1 .boolean (rmk 0 0 0 0) [.ref (a 0)] (dqW D a σ) (dqW D a) Q 0 0 := by
  refine Cti.of (by decide) (Nat.le_of_ble_eq_true rfl) (fun x hF hR => ?_)
  replace hF : vF x l D "java/util/ArrayDeque" cJ1_isEmpty (rmk 0 0 0 0) 1 (some .boolean) := hF
  refine v_app0 ?_
  unfold w_J1_isEmpty at h
  refine v_aload_n 0 hF dJ1_isEmpty_0 rfl 0 rfl ?_
  refine Q_get 1 1 hF (Nat.le_of_ble_eq_true rfl) q282 rfl rfl dJ1_isEmpty_1 ?_
  refine v_aload_n 4 hF dJ1_isEmpty_4 rfl 0 rfl ?_
  refine Q_get 5 2 hF (Nat.le_of_ble_eq_true rfl) q283 rfl rfl dJ1_isEmpty_5 ?_
  refine v_icmp_ne 8 15 hF dJ1_isEmpty_8 (by decide) (fun c1 => ?_) (fun c1 => ?_)
  · replace h := h.1 c1
    refine v_iconst (v := 0) 15 hF dJ1_isEmpty_15 (by decide) ?_
    exact v_zretA 16 hF hR (Nat.zero_le _) (Nat.zero_le _) rfl dJ1_isEmpty_16 h
  · replace h := h.2 c1
    refine v_iconst (v := 1) 11 hF dJ1_isEmpty_11 (by decide) ?_
    refine v_goto 12 16 hF dJ1_isEmpty_12 (by decide) ?_
    exact v_zretA 16 hF hR (Nat.zero_le _) (Nat.zero_le _) rfl dJ1_isEmpty_16 h
def w_J1_addFirst (b : Nat) (σ : (Nat → Option Nat) × Int32 × Int32) (Q : ((Nat → Option Nat) × Int32 × Int32) → Prop) : Prop :=
  w_J1_dec (σ.2.1) ((17 : Int32)) (fun r1 => ∀ t2 : (Nat → Option Nat) × Int32 × Int32, t2 = (σ.1, r1, σ.2.2) → vp_in r1 17 ∧ ∀ t4 : (Nat → Option Nat) × Int32 × Int32, t4 = (va_up t2.1 r1.toNatClampNeg (some b), t2.2) → ((¬ t4.2.1 = t4.2.2 → Q t4) ∧ (t4.2.1 = t4.2.2 → False)))
theorem ds_J1_addFirst : yJ1_addFirst.cls = yJ1_addFirst.cls ∧ yJ1_addFirst.cls ≠ "java/lang/invoke/MethodHandle" ∧ yJ1_addFirst.cls ≠ "java/lang/invoke/VarHandle" ∧ (parseMethodDescriptor yJ1_addFirst.desc).map (fun d => d.parameters.length) = some 1 := by decide +kernel
set_option maxHeartbeats 4000000 in
theorem c_J1_addFirst (l : Launch) (D : va_G) (a : Nat → Nat) (b : Nat) (fs : List Value) (σ : (Nat → Option Nat) × Int32 × Int32) (Q : ((Nat → Option Nat) × Int32 × Int32) → Prop) (h : w_J1_addFirst b σ Q) : Ctv l D yJ1_addFirst cJ1_addFirst 3 (rmk 1 0 0 21) [.ref (a 0), .ref b] (dqW D a σ ++ [(b, .inr (6, fs))]) (fun u => dqW D a u ++ [(b, .inr (6, fs))]) Q 0 0 := by
  refine Ctv.of (by decide) (Nat.le_of_ble_eq_true rfl) (fun x hF hR => ?_)
  replace hF : vF x l D "java/util/ArrayDeque" cJ1_addFirst (rmk 1 0 0 21) 3 none := hF
  unfold w_J1_addFirst at h
  refine v_aload_n 0 hF dJ1_addFirst_0 rfl 1 rfl ?_
  refine v_ifnonnull 1 12 hF dJ1_addFirst_1 (by decide) ?_
  refine v_aload_n 12 hF dJ1_addFirst_12 rfl 0 rfl ?_
  refine Q_get 13 0 hF (Nat.le_of_ble_eq_true rfl) q279 rfl rfl dJ1_addFirst_13 ?_
  refine v_astore_n [(0, .ref (a 0)), (1, .ref b), (2, .ref (a 1))] [1, 2, 0] 16 hF dJ1_addFirst_16 rfl (Nat.le_of_ble_eq_true rfl) rfl ?_
  refine v_aload_n 17 hF dJ1_addFirst_17 rfl 2 rfl ?_
  refine v_aload_n 18 hF dJ1_addFirst_18 rfl 0 rfl ?_
  refine v_aload_n 19 hF dJ1_addFirst_19 rfl 0 rfl ?_
  refine Q_get 20 1 hF (Nat.le_of_ble_eq_true rfl) q282 rfl rfl dJ1_addFirst_20 ?_
  refine v_aload_n 23 hF dJ1_addFirst_23 rfl 2 rfl ?_
  refine v_alen (v := 17) 24 hF 1 5 rfl rfl (show Int32.ofNat 17 = 17 from by decide) dJ1_addFirst_24 ?_
  refine v_callS0i (As := [.int (σ.2.1), .int ((17 : Int32))]) 25 hF (c_J1_dec l D (σ.2.1) ((17 : Int32)) _ h) q523 q524 q74 q525 ds_J1_dec ⟨rfl, rfl, Nat.le_of_ble_eq_true rfl, Nat.le_of_ble_eq_true rfl⟩ (Nat.le_of_ble_eq_true rfl) ⟨Nat.zero_le _, Nat.zero_le _⟩ dJ1_addFirst_25 (fun r1 h => ?_)
  refine v_dup_x1 28 hF dJ1_addFirst_28 rfl rfl ?_
  refine Q_put1 29 hF q282 dJ1_addFirst_29 (fun t2 et2 => ?_)
  replace h := h t2 et2
  refine v_aload_n 32 hF dJ1_addFirst_32 rfl 1 rfl ?_
  obtain ⟨o3, h⟩ := h
  obtain ⟨t4, et4⟩ : ∃ z : (Nat → Option Nat) × Int32 × Int32, z = (va_up t2.1 r1.toNatClampNeg (some b), t2.2) := ⟨_, rfl⟩
  replace h := h t4 et4
  refine v_aastO (r := (RX2, TX2, 24)) (qk := 2) (ci := 6) (dqW D a t4 ++ [(b, .inr (6, fs))]) 33 hF 1 rfl q2331 rfl rfl o3 (by rw [et4]; rfl) dJ1_addFirst_33 ?_
  refine v_aload_n 34 hF dJ1_addFirst_34 rfl 0 rfl ?_
  refine Q_get 35 1 hF (Nat.le_of_ble_eq_true rfl) q282 rfl rfl dJ1_addFirst_35 ?_
  refine v_aload_n 38 hF dJ1_addFirst_38 rfl 0 rfl ?_
  refine Q_get 39 2 hF (Nat.le_of_ble_eq_true rfl) q283 rfl rfl dJ1_addFirst_39 ?_
  refine v_icmp_ne 42 50 hF dJ1_addFirst_42 (by decide) (fun c5 => ?_) (fun c5 => ?_)
  · replace h := h.1 c5
    exact v_vret (u := t4) 50 hF hR (Nat.zero_le _) (Nat.zero_le _) dJ1_addFirst_50 h
  · replace h := h.2 c5
    refine v_aload_n 45 hF dJ1_addFirst_45 rfl 0 rfl ?_
    refine v_iconst (v := 1) 46 hF dJ1_addFirst_46 (by decide) ?_
    exact h.elim
def w_J1_push (b : Nat) (σ : (Nat → Option Nat) × Int32 × Int32) (Q : ((Nat → Option Nat) × Int32 × Int32) → Prop) : Prop :=
  w_J1_addFirst b σ  (fun t1 => Q t1)
theorem ds_J1_push : yJ1_push.cls = yJ1_push.cls ∧ yJ1_push.cls ≠ "java/lang/invoke/MethodHandle" ∧ yJ1_push.cls ≠ "java/lang/invoke/VarHandle" ∧ (parseMethodDescriptor yJ1_push.desc).map (fun d => d.parameters.length) = some 1 := by decide +kernel
set_option maxHeartbeats 4000000 in
theorem c_J1_push (l : Launch) (D : va_G) (a : Nat → Nat) (b : Nat) (fs : List Value) (σ : (Nat → Option Nat) × Int32 × Int32) (Q : ((Nat → Option Nat) × Int32 × Int32) → Prop) (h : w_J1_push b σ Q) : Ctv l D yJ1_push cJ1_push 2 (rmk 2 0 0 43) [.ref (a 0), .ref b] (dqW D a σ ++ [(b, .inr (6, fs))]) (fun u => dqW D a u ++ [(b, .inr (6, fs))]) Q 0 0 := by
  refine Ctv.of (by decide) (Nat.le_of_ble_eq_true rfl) (fun x hF hR => ?_)
  replace hF : vF x l D "java/util/ArrayDeque" cJ1_push (rmk 2 0 0 43) 2 none := hF
  unfold w_J1_push at h
  refine v_aload_n 0 hF dJ1_push_0 rfl 0 rfl ?_
  refine v_aload_n 1 hF dJ1_push_1 rfl 1 rfl ?_
  refine v_callVv (As := [.ref b]) 2 hF (c_J1_addFirst l D a b fs σ _ h) (v_perm0 _) ⟨0, 13, _, TJ1, 3, rfl, rfl⟩ q604 q605 q606 q74 q607 ds_J1_addFirst ⟨rfl, rfl, Nat.le_of_ble_eq_true rfl, Nat.le_of_ble_eq_true rfl⟩ (Nat.le_of_ble_eq_true rfl) ⟨Nat.zero_le _, Nat.zero_le _⟩ dJ1_push_2 (fun t1 h => ?_)
  refine v_eqw (ws1 := (dqW D a t1 ++ [(b, .inr (6, fs))])) (List.append_nil _).symm ?_
  exact v_vret (u := t1) 5 hF hR (Nat.zero_le _) (Nat.zero_le _) dJ1_push_5 h
def w_J1_elementAt (σ : (Nat → Option Nat) × Int32 × Int32) (x1 : Int32) (Q : Nat → ((Nat → Option Nat) × Int32 × Int32) → Prop) : Prop :=
  vp_in x1 17 ∧ ((σ.1 x1.toNatClampNeg = none → False) ∧ (∀ b2 : Nat, σ.1 x1.toNatClampNeg = some b2 → Q b2 σ))
theorem ds_J1_elementAt : yJ1_elementAt.cls = yJ1_elementAt.cls ∧ yJ1_elementAt.cls ≠ "java/lang/invoke/MethodHandle" ∧ yJ1_elementAt.cls ≠ "java/lang/invoke/VarHandle" ∧ (parseMethodDescriptor yJ1_elementAt.desc).map (fun d => d.parameters.length) = some 2 := by decide +kernel
set_option maxHeartbeats 4000000 in
theorem c_J1_elementAt (l : Launch) (D : va_G) (a : Nat → Nat) (σ : (Nat → Option Nat) × Int32 × Int32) (x1 : Int32) (Q : Nat → ((Nat → Option Nat) × Int32 × Int32) → Prop) (h : w_J1_elementAt σ x1 Q) : Ctr l D yJ1_elementAt cJ1_elementAt 2 (.object "java/lang/Object") (rmk 0 0 0 0) [.ref (a 1), .int x1] (dqW D a σ) (fun u : Nat × ((Nat → Option Nat) × Int32 × Int32) => dqW D a u.2) Prod.fst (fun u => Q u.1 u.2) 0 0 := by
  refine Ctr.of (by decide) (Nat.le_of_ble_eq_true rfl) (fun x hF hR => ?_)
  replace hF : vF x l D "java/util/ArrayDeque" cJ1_elementAt (rmk 0 0 0 0) 2 (some (.object "java/lang/Object")) := hF
  refine v_app0 ?_
  unfold w_J1_elementAt at h
  refine v_aload_n 0 hF dJ1_elementAt_0 rfl 0 rfl ?_
  refine v_iload_n 1 hF dJ1_elementAt_1 rfl 1 rfl ?_
  obtain ⟨o1, h⟩ := h
  refine Q_ald1 2 hF o1 dJ1_elementAt_2 (fun c3 => ?_) (fun b2 c3 => ?_)
  · replace h := h.1 c3
    exact h.elim
  · replace h := h.2 b2 c3
    exact v_aretA (u := (b2, σ)) 3 hF (Or.inl ⟨_, rfl⟩) hR (Nat.zero_le _) (Nat.zero_le _) dJ1_elementAt_3 rfl h
def w_J1_pollFirst (σ : (Nat → Option Nat) × Int32 × Int32) (Q : Nat → ((Nat → Option Nat) × Int32 × Int32) → Prop) : Prop :=
  ∀ y1 : Int32, y1 = σ.2.1 → w_J1_elementAt σ y1 (fun r4 t3 => vp_in y1 17 ∧ ∀ t6 : (Nat → Option Nat) × Int32 × Int32, t6 = (va_up t3.1 y1.toNatClampNeg none, t3.2) → w_J1_inc y1 ((17 : Int32)) (fun r7 => ∀ t8 : (Nat → Option Nat) × Int32 × Int32, t8 = (t6.1, r7, t6.2.2) → Q r4 t8))
theorem ds_J1_pollFirst : yJ1_pollFirst.cls = yJ1_pollFirst.cls ∧ yJ1_pollFirst.cls ≠ "java/lang/invoke/MethodHandle" ∧ yJ1_pollFirst.cls ≠ "java/lang/invoke/VarHandle" ∧ (parseMethodDescriptor yJ1_pollFirst.desc).map (fun d => d.parameters.length) = some 0 := by decide +kernel
set_option maxHeartbeats 4000000 in
theorem c_J1_pollFirst (l : Launch) (D : va_G) (a : Nat → Nat) (σ : (Nat → Option Nat) × Int32 × Int32) (Q : Nat → ((Nat → Option Nat) × Int32 × Int32) → Prop) (h : w_J1_pollFirst σ Q) : Ctr l D yJ1_pollFirst cJ1_pollFirst 4 (.object "java/lang/Object") (rmk 1 0 0 21) [.ref (a 0)] (dqW D a σ) (fun u : Nat × ((Nat → Option Nat) × Int32 × Int32) => dqW D a u.2) Prod.fst (fun u => Q u.1 u.2) 0 0 := by
  refine Ctr.of (by decide) (Nat.le_of_ble_eq_true rfl) (fun x hF hR => ?_)
  replace hF : vF x l D "java/util/ArrayDeque" cJ1_pollFirst (rmk 1 0 0 21) 4 (some (.object "java/lang/Object")) := hF
  refine v_app0 ?_
  unfold w_J1_pollFirst at h
  refine v_aload_n 0 hF dJ1_pollFirst_0 rfl 0 rfl ?_
  refine Q_get 1 0 hF (Nat.le_of_ble_eq_true rfl) q279 rfl rfl dJ1_pollFirst_1 ?_
  refine v_dup 4 hF dJ1_pollFirst_4 rfl ?_
  refine v_astore_n [(0, .ref (a 0)), (1, .ref (a 1))] [1, 0] 5 hF dJ1_pollFirst_5 rfl (Nat.le_of_ble_eq_true rfl) rfl ?_
  refine v_aload_n 6 hF dJ1_pollFirst_6 rfl 0 rfl ?_
  refine Q_get 7 1 hF (Nat.le_of_ble_eq_true rfl) q282 rfl rfl dJ1_pollFirst_7 ?_
  refine v_nm (fun y1 ey1 => ?_)
  replace h := h y1 ey1
  refine v_dup 10 hF dJ1_pollFirst_10 rfl ?_
  refine v_istore_n [(0, .ref (a 0)), (1, .ref (a 1)), (2, .int y1)] [1, 2, 0] 11 hF dJ1_pollFirst_11 rfl (Nat.le_of_ble_eq_true rfl) rfl ?_
  refine v_callSr (As := [.ref (a 1), .int y1]) 12 hF (c_J1_elementAt l D a σ y1 _ h) (List.Perm.refl _) q526 q527 q74 q528 ds_J1_elementAt ⟨rfl, rfl, Nat.le_of_ble_eq_true rfl, Nat.le_of_ble_eq_true rfl⟩ (Nat.le_of_ble_eq_true rfl) ⟨Nat.zero_le _, Nat.zero_le _⟩ dJ1_pollFirst_12 (fun u h => ?_)
  obtain ⟨r4, t3⟩ := u
  refine v_eqw (ws1 := (dqW D a t3 ++ [])) rfl ?_
  refine v_astore_n [(0, .ref (a 0)), (1, .ref (a 1)), (2, .int y1), (3, .ref r4)] [1, 2, 3, 0] 15 hF dJ1_pollFirst_15 rfl (Nat.le_of_ble_eq_true rfl) rfl ?_
  refine v_aload_n 16 hF dJ1_pollFirst_16 rfl 3 rfl ?_
  refine v_ifnull 17 hF dJ1_pollFirst_17 ?_
  refine v_aload_n 20 hF dJ1_pollFirst_20 rfl 1 rfl ?_
  refine v_iload_n 21 hF dJ1_pollFirst_21 rfl 2 rfl ?_
  refine v_aconst_null 22 hF dJ1_pollFirst_22 ?_
  obtain ⟨o5, h⟩ := h
  refine Q_astN1 23 hF o5 dJ1_pollFirst_23 (fun t6 et6 => ?_)
  replace h := h t6 et6
  refine v_aload_n 24 hF dJ1_pollFirst_24 rfl 0 rfl ?_
  refine v_iload_n 25 hF dJ1_pollFirst_25 rfl 2 rfl ?_
  refine v_aload_n 26 hF dJ1_pollFirst_26 rfl 1 rfl ?_
  refine v_alen (v := 17) 27 hF 1 5 rfl rfl (show Int32.ofNat 17 = 17 from by decide) dJ1_pollFirst_27 ?_
  refine v_callS0i (As := [.int y1, .int ((17 : Int32))]) 28 hF (c_J1_inc l D y1 ((17 : Int32)) _ h) q1883 q1166 q74 q1167 ds_J1_inc ⟨rfl, rfl, Nat.le_of_ble_eq_true rfl, Nat.le_of_ble_eq_true rfl⟩ (Nat.le_of_ble_eq_true rfl) ⟨Nat.zero_le _, Nat.zero_le _⟩ dJ1_pollFirst_28 (fun r7 h => ?_)
  refine Q_put1 31 hF q282 dJ1_pollFirst_31 (fun t8 et8 => ?_)
  replace h := h t8 et8
  refine v_aload_n 34 hF dJ1_pollFirst_34 rfl 3 rfl ?_
  exact v_aretA (u := (r4, t8)) 35 hF (Or.inl ⟨_, rfl⟩) hR (Nat.zero_le _) (Nat.zero_le _) dJ1_pollFirst_35 rfl h
def w_J1_pollLast (σ : (Nat → Option Nat) × Int32 × Int32) (Q : Nat → ((Nat → Option Nat) × Int32 × Int32) → Prop) : Prop :=
  w_J1_dec (σ.2.2) ((17 : Int32)) (fun r1 => w_J1_elementAt σ r1 (fun r4 t3 => ∀ t5 : (Nat → Option Nat) × Int32 × Int32, t5 = (t3.1, t3.2.1, r1) → vp_in r1 17 ∧ ∀ t7 : (Nat → Option Nat) × Int32 × Int32, t7 = (va_up t5.1 r1.toNatClampNeg none, t5.2) → Q r4 t7))
theorem ds_J1_pollLast : yJ1_pollLast.cls = yJ1_pollLast.cls ∧ yJ1_pollLast.cls ≠ "java/lang/invoke/MethodHandle" ∧ yJ1_pollLast.cls ≠ "java/lang/invoke/VarHandle" ∧ (parseMethodDescriptor yJ1_pollLast.desc).map (fun d => d.parameters.length) = some 0 := by decide +kernel
set_option maxHeartbeats 4000000 in
theorem c_J1_pollLast (l : Launch) (D : va_G) (a : Nat → Nat) (σ : (Nat → Option Nat) × Int32 × Int32) (Q : Nat → ((Nat → Option Nat) × Int32 × Int32) → Prop) (h : w_J1_pollLast σ Q) : Ctr l D yJ1_pollLast cJ1_pollLast 4 (.object "java/lang/Object") (rmk 1 0 0 21) [.ref (a 0)] (dqW D a σ) (fun u : Nat × ((Nat → Option Nat) × Int32 × Int32) => dqW D a u.2) Prod.fst (fun u => Q u.1 u.2) 0 0 := by
  refine Ctr.of (by decide) (Nat.le_of_ble_eq_true rfl) (fun x hF hR => ?_)
  replace hF : vF x l D "java/util/ArrayDeque" cJ1_pollLast (rmk 1 0 0 21) 4 (some (.object "java/lang/Object")) := hF
  refine v_app0 ?_
  unfold w_J1_pollLast at h
  refine v_aload_n 0 hF dJ1_pollLast_0 rfl 0 rfl ?_
  refine Q_get 1 0 hF (Nat.le_of_ble_eq_true rfl) q279 rfl rfl dJ1_pollLast_1 ?_
  refine v_dup 4 hF dJ1_pollLast_4 rfl ?_
  refine v_astore_n [(0, .ref (a 0)), (1, .ref (a 1))] [1, 0] 5 hF dJ1_pollLast_5 rfl (Nat.le_of_ble_eq_true rfl) rfl ?_
  refine v_aload_n 6 hF dJ1_pollLast_6 rfl 0 rfl ?_
  refine Q_get 7 2 hF (Nat.le_of_ble_eq_true rfl) q283 rfl rfl dJ1_pollLast_7 ?_
  refine v_aload_n 10 hF dJ1_pollLast_10 rfl 1 rfl ?_
  refine v_alen (v := 17) 11 hF 1 5 rfl rfl (show Int32.ofNat 17 = 17 from by decide) dJ1_pollLast_11 ?_
  refine v_callS0i (As := [.int (σ.2.2), .int ((17 : Int32))]) 12 hF (c_J1_dec l D (σ.2.2) ((17 : Int32)) _ h) q523 q524 q74 q525 ds_J1_dec ⟨rfl, rfl, Nat.le_of_ble_eq_true rfl, Nat.le_of_ble_eq_true rfl⟩ (Nat.le_of_ble_eq_true rfl) ⟨Nat.zero_le _, Nat.zero_le _⟩ dJ1_pollLast_12 (fun r1 h => ?_)
  refine v_dup 15 hF dJ1_pollLast_15 rfl ?_
  refine v_istore_n [(0, .ref (a 0)), (1, .ref (a 1)), (2, .int r1)] [1, 2, 0] 16 hF dJ1_pollLast_16 rfl (Nat.le_of_ble_eq_true rfl) rfl ?_
  refine v_callSr (As := [.ref (a 1), .int r1]) 17 hF (c_J1_elementAt l D a σ r1 _ h) (List.Perm.refl _) q526 q527 q74 q528 ds_J1_elementAt ⟨rfl, rfl, Nat.le_of_ble_eq_true rfl, Nat.le_of_ble_eq_true rfl⟩ (Nat.le_of_ble_eq_true rfl) ⟨Nat.zero_le _, Nat.zero_le _⟩ dJ1_pollLast_17 (fun u h => ?_)
  obtain ⟨r4, t3⟩ := u
  refine v_eqw (ws1 := (dqW D a t3 ++ [])) rfl ?_
  refine v_astore_n [(0, .ref (a 0)), (1, .ref (a 1)), (2, .int r1), (3, .ref r4)] [1, 2, 3, 0] 20 hF dJ1_pollLast_20 rfl (Nat.le_of_ble_eq_true rfl) rfl ?_
  refine v_aload_n 21 hF dJ1_pollLast_21 rfl 3 rfl ?_
  refine v_ifnull 22 hF dJ1_pollLast_22 ?_
  refine v_aload_n 25 hF dJ1_pollLast_25 rfl 1 rfl ?_
  refine v_aload_n 26 hF dJ1_pollLast_26 rfl 0 rfl ?_
  refine v_iload_n 27 hF dJ1_pollLast_27 rfl 2 rfl ?_
  refine v_dup_x1 28 hF dJ1_pollLast_28 rfl rfl ?_
  refine Q_put2 29 hF q283 dJ1_pollLast_29 (fun t5 et5 => ?_)
  replace h := h t5 et5
  refine v_aconst_null 32 hF dJ1_pollLast_32 ?_
  obtain ⟨o6, h⟩ := h
  refine Q_astN1 33 hF o6 dJ1_pollLast_33 (fun t7 et7 => ?_)
  replace h := h t7 et7
  refine v_aload_n 34 hF dJ1_pollLast_34 rfl 3 rfl ?_
  exact v_aretA (u := (r4, t7)) 35 hF (Or.inl ⟨_, rfl⟩) hR (Nat.zero_le _) (Nat.zero_le _) dJ1_pollLast_35 rfl h
def w_J1_removeFirst (σ : (Nat → Option Nat) × Int32 × Int32) (Q : Nat → ((Nat → Option Nat) × Int32 × Int32) → Prop) : Prop :=
  w_J1_pollFirst σ  (fun r3 t2 => Q r3 t2)
theorem ds_J1_removeFirst : yJ1_removeFirst.cls = yJ1_removeFirst.cls ∧ yJ1_removeFirst.cls ≠ "java/lang/invoke/MethodHandle" ∧ yJ1_removeFirst.cls ≠ "java/lang/invoke/VarHandle" ∧ (parseMethodDescriptor yJ1_removeFirst.desc).map (fun d => d.parameters.length) = some 0 := by decide +kernel
set_option maxHeartbeats 4000000 in
theorem c_J1_removeFirst (l : Launch) (D : va_G) (a : Nat → Nat) (σ : (Nat → Option Nat) × Int32 × Int32) (Q : Nat → ((Nat → Option Nat) × Int32 × Int32) → Prop) (h : w_J1_removeFirst σ Q) : Ctr l D yJ1_removeFirst cJ1_removeFirst 2 (.object "java/lang/Object") (rmk 2 0 0 44) [.ref (a 0)] (dqW D a σ) (fun u : Nat × ((Nat → Option Nat) × Int32 × Int32) => dqW D a u.2) Prod.fst (fun u => Q u.1 u.2) 0 0 := by
  refine Ctr.of (by decide) (Nat.le_of_ble_eq_true rfl) (fun x hF hR => ?_)
  replace hF : vF x l D "java/util/ArrayDeque" cJ1_removeFirst (rmk 2 0 0 44) 2 (some (.object "java/lang/Object")) := hF
  refine v_app0 ?_
  unfold w_J1_removeFirst at h
  refine v_aload_n 0 hF dJ1_removeFirst_0 rfl 0 rfl ?_
  refine v_callVr (As := []) 1 hF (c_J1_pollFirst l D a σ _ h) (List.Perm.refl _) ⟨0, 13, _, TJ1, 3, rfl, rfl⟩ q1879 q1880 q1881 q74 q1882 ds_J1_pollFirst ⟨rfl, rfl, Nat.le_of_ble_eq_true rfl, Nat.le_of_ble_eq_true rfl⟩ (Nat.le_of_ble_eq_true rfl) ⟨Nat.zero_le _, Nat.zero_le _⟩ dJ1_removeFirst_1 (fun u h => ?_)
  obtain ⟨r3, t2⟩ := u
  refine v_eqw (ws1 := (dqW D a t2 ++ [])) rfl ?_
  refine v_astore_n [(0, .ref (a 0)), (1, .ref r3)] [1, 0] 4 hF dJ1_removeFirst_4 rfl (Nat.le_of_ble_eq_true rfl) rfl ?_
  refine v_aload_n 5 hF dJ1_removeFirst_5 rfl 1 rfl ?_
  refine v_ifnonnull 6 17 hF dJ1_removeFirst_6 (by decide) ?_
  refine v_aload_n 17 hF dJ1_removeFirst_17 rfl 1 rfl ?_
  exact v_aretA (u := (r3, t2)) 18 hF (Or.inl ⟨_, rfl⟩) hR (Nat.zero_le _) (Nat.zero_le _) dJ1_removeFirst_18 rfl h
def w_J1_removeLast (σ : (Nat → Option Nat) × Int32 × Int32) (Q : Nat → ((Nat → Option Nat) × Int32 × Int32) → Prop) : Prop :=
  w_J1_pollLast σ  (fun r3 t2 => Q r3 t2)
theorem ds_J1_removeLast : yJ1_removeLast.cls = yJ1_removeLast.cls ∧ yJ1_removeLast.cls ≠ "java/lang/invoke/MethodHandle" ∧ yJ1_removeLast.cls ≠ "java/lang/invoke/VarHandle" ∧ (parseMethodDescriptor yJ1_removeLast.desc).map (fun d => d.parameters.length) = some 0 := by decide +kernel
set_option maxHeartbeats 4000000 in
theorem c_J1_removeLast (l : Launch) (D : va_G) (a : Nat → Nat) (σ : (Nat → Option Nat) × Int32 × Int32) (Q : Nat → ((Nat → Option Nat) × Int32 × Int32) → Prop) (h : w_J1_removeLast σ Q) : Ctr l D yJ1_removeLast cJ1_removeLast 2 (.object "java/lang/Object") (rmk 2 0 0 44) [.ref (a 0)] (dqW D a σ) (fun u : Nat × ((Nat → Option Nat) × Int32 × Int32) => dqW D a u.2) Prod.fst (fun u => Q u.1 u.2) 0 0 := by
  refine Ctr.of (by decide) (Nat.le_of_ble_eq_true rfl) (fun x hF hR => ?_)
  replace hF : vF x l D "java/util/ArrayDeque" cJ1_removeLast (rmk 2 0 0 44) 2 (some (.object "java/lang/Object")) := hF
  refine v_app0 ?_
  unfold w_J1_removeLast at h
  refine v_aload_n 0 hF dJ1_removeLast_0 rfl 0 rfl ?_
  refine v_callVr (As := []) 1 hF (c_J1_pollLast l D a σ _ h) (List.Perm.refl _) ⟨0, 13, _, TJ1, 3, rfl, rfl⟩ q519 q520 q521 q74 q522 ds_J1_pollLast ⟨rfl, rfl, Nat.le_of_ble_eq_true rfl, Nat.le_of_ble_eq_true rfl⟩ (Nat.le_of_ble_eq_true rfl) ⟨Nat.zero_le _, Nat.zero_le _⟩ dJ1_removeLast_1 (fun u h => ?_)
  obtain ⟨r3, t2⟩ := u
  refine v_eqw (ws1 := (dqW D a t2 ++ [])) rfl ?_
  refine v_astore_n [(0, .ref (a 0)), (1, .ref r3)] [1, 0] 4 hF dJ1_removeLast_4 rfl (Nat.le_of_ble_eq_true rfl) rfl ?_
  refine v_aload_n 5 hF dJ1_removeLast_5 rfl 1 rfl ?_
  refine v_ifnonnull 6 17 hF dJ1_removeLast_6 (by decide) ?_
  refine v_aload_n 17 hF dJ1_removeLast_17 rfl 1 rfl ?_
  exact v_aretA (u := (r3, t2)) 18 hF (Or.inl ⟨_, rfl⟩) hR (Nat.zero_le _) (Nat.zero_le _) dJ1_removeLast_18 rfl h
def w_J1_pop (σ : (Nat → Option Nat) × Int32 × Int32) (Q : Nat → ((Nat → Option Nat) × Int32 × Int32) → Prop) : Prop :=
  w_J1_removeFirst σ  (fun r3 t2 => Q r3 t2)
theorem ds_J1_pop : yJ1_pop.cls = yJ1_pop.cls ∧ yJ1_pop.cls ≠ "java/lang/invoke/MethodHandle" ∧ yJ1_pop.cls ≠ "java/lang/invoke/VarHandle" ∧ (parseMethodDescriptor yJ1_pop.desc).map (fun d => d.parameters.length) = some 0 := by decide +kernel
set_option maxHeartbeats 4000000 in
theorem c_J1_pop (l : Launch) (D : va_G) (a : Nat → Nat) (σ : (Nat → Option Nat) × Int32 × Int32) (Q : Nat → ((Nat → Option Nat) × Int32 × Int32) → Prop) (h : w_J1_pop σ Q) : Ctr l D yJ1_pop cJ1_pop 1 (.object "java/lang/Object") (rmk 3 0 0 65) [.ref (a 0)] (dqW D a σ) (fun u : Nat × ((Nat → Option Nat) × Int32 × Int32) => dqW D a u.2) Prod.fst (fun u => Q u.1 u.2) 0 0 := by
  refine Ctr.of (by decide) (Nat.le_of_ble_eq_true rfl) (fun x hF hR => ?_)
  replace hF : vF x l D "java/util/ArrayDeque" cJ1_pop (rmk 3 0 0 65) 1 (some (.object "java/lang/Object")) := hF
  refine v_app0 ?_
  unfold w_J1_pop at h
  refine v_aload_n 0 hF dJ1_pop_0 rfl 0 rfl ?_
  refine v_callVr (As := []) 1 hF (c_J1_removeFirst l D a σ _ h) (List.Perm.refl _) ⟨0, 13, _, TJ1, 3, rfl, rfl⟩ q1875 q1876 q1877 q74 q1878 ds_J1_removeFirst ⟨rfl, rfl, Nat.le_of_ble_eq_true rfl, Nat.le_of_ble_eq_true rfl⟩ (Nat.le_of_ble_eq_true rfl) ⟨Nat.zero_le _, Nat.zero_le _⟩ dJ1_pop_1 (fun u h => ?_)
  obtain ⟨r3, t2⟩ := u
  refine v_eqw (ws1 := (dqW D a t2 ++ [])) rfl ?_
  exact v_aretA (u := (r3, t2)) 4 hF (Or.inl ⟨_, rfl⟩) hR (Nat.zero_le _) (Nat.zero_le _) dJ1_pop_4 rfl h
def w_J1_circularClear_L12 (Q : ((Nat → Option Nat) × Int32 × Int32) → Prop) (K12 : ((Nat → Option Nat) × Int32 × Int32) → Int32 → Int32 → Int32 → Prop) (σ : (Nat → Option Nat) × Int32 × Int32) (x1 x2 x3 : Int32) : Prop :=
  ((x3 ≤ x1 → ((¬ x3 = x2 → K12 σ ((0 : Int32)) x2 x2) ∧ (x3 = x2 → Q σ))) ∧ (¬ x3 ≤ x1 → vp_in x1 17 ∧ ∀ t4 : (Nat → Option Nat) × Int32 × Int32, t4 = (va_up σ.1 x1.toNatClampNeg none, σ.2) → ∀ y5 : Int32, y5 = x1 + (1 : Int32) → K12 t4 y5 x2 x3))
def w_J1_circularClear (σ : (Nat → Option Nat) × Int32 × Int32) (x1 x2 : Int32) (Q : ((Nat → Option Nat) × Int32 × Int32) → Prop) : Prop :=
  ((x2 < x1 → wLoop (fun K s => w_J1_circularClear_L12 Q (fun v0 v1 v2 v3 => K (v0, v1, v2, v3)) s.1 s.2.1 s.2.2.1 s.2.2.2) (σ, x1, x2, (17 : Int32))) ∧ (¬ x2 < x1 → wLoop (fun K s => w_J1_circularClear_L12 Q (fun v0 v1 v2 v3 => K (v0, v1, v2, v3)) s.1 s.2.1 s.2.2.1 s.2.2.2) (σ, x1, x2, x2)))
set_option maxHeartbeats 4000000 in
theorem k_J1_circularClear_L12 {x : vC} {l : Launch} {D : va_G} {a : Nat → Nat}  {Q : ((Nat → Option Nat) × Int32 × Int32) → Prop} (hF : vF x l D "java/util/ArrayDeque" cJ1_circularClear (rmk 0 0 0 0) 4 none) (hR : vRv x (dqW D a) Q 0 0) {K12 : ((Nat → Option Nat) × Int32 × Int32) → Int32 → Int32 → Int32 → Prop} (hK12 : ∀ (σ : (Nat → Option Nat) × Int32 × Int32) (x1 x2 x3 : Int32), K12 σ x1 x2 x3 → vV x 0 0 (dqW D a σ ++ []) [(0, .ref (a 1)), (1, .int x1), (2, .int x2), (3, .int x3)] 12 []) : ∀ (σ : (Nat → Option Nat) × Int32 × Int32) (x1 x2 x3 : Int32), w_J1_circularClear_L12 Q K12 σ x1 x2 x3 → vV x 0 0 (dqW D a σ ++ []) [(0, .ref (a 1)), (1, .int x1), (2, .int x2), (3, .int x3)] 12 [] := by
  intro σ x1 x2 x3 h
  unfold w_J1_circularClear_L12 at h
  refine v_iload_n 12 hF dJ1_circularClear_12 rfl 1 rfl ?_
  refine v_iload_n 13 hF dJ1_circularClear_13 rfl 3 rfl ?_
  refine v_icmp_ge 14 27 hF dJ1_circularClear_14 (by decide) (fun c1 => ?_) (fun c1 => ?_)
  · replace h := h.1 c1
    refine v_iload_n 27 hF dJ1_circularClear_27 rfl 3 rfl ?_
    refine v_iload_n 28 hF dJ1_circularClear_28 rfl 2 rfl ?_
    refine v_icmp_ne 29 35 hF dJ1_circularClear_29 (by decide) (fun c2 => ?_) (fun c2 => ?_)
    · replace h := h.1 c2
      refine v_iconst (v := 0) 35 hF dJ1_circularClear_35 (by decide) ?_
      refine v_istore_n [(0, .ref (a 1)), (1, .int ((0 : Int32))), (2, .int x2), (3, .int x3)] [1, 0, 2, 3] 36 hF dJ1_circularClear_36 rfl (Nat.le_of_ble_eq_true rfl) rfl ?_
      refine v_iload_n 37 hF dJ1_circularClear_37 rfl 2 rfl ?_
      refine v_istore_n [(0, .ref (a 1)), (1, .int ((0 : Int32))), (2, .int x2), (3, .int x2)] [1, 2, 3, 0] 38 hF dJ1_circularClear_38 rfl (Nat.le_of_ble_eq_true rfl) rfl ?_
      refine v_goto 39 12 hF dJ1_circularClear_39 (by decide) ?_
      exact hK12 _ _ _ _ h
    · replace h := h.2 c2
      refine v_goto 32 42 hF dJ1_circularClear_32 (by decide) ?_
      exact v_vretA 42 hF hR (Nat.zero_le _) (Nat.zero_le _) dJ1_circularClear_42 h
  · replace h := h.2 c1
    refine v_aload_n 17 hF dJ1_circularClear_17 rfl 0 rfl ?_
    refine v_iload_n 18 hF dJ1_circularClear_18 rfl 1 rfl ?_
    refine v_aconst_null 19 hF dJ1_circularClear_19 ?_
    obtain ⟨o3, h⟩ := h
    refine Q_astN1 20 hF o3 dJ1_circularClear_20 (fun t4 et4 => ?_)
    replace h := h t4 et4
    obtain ⟨y5, ey5⟩ : ∃ y : Int32, y = x1 + (1 : Int32) := ⟨_, rfl⟩
    replace h := h y5 ey5
    refine v_iinc [(0, .ref (a 1)), (1, .int y5), (2, .int x2), (3, .int x3)] [1, 0, 2, 3] 21 hF dJ1_circularClear_21 1 rfl (by rw [ey5]; rfl) (Nat.le_of_ble_eq_true rfl) rfl ?_
    refine v_goto 24 12 hF dJ1_circularClear_24 (by decide) ?_
    exact hK12 _ _ _ _ h
theorem ds_J1_circularClear : yJ1_circularClear.cls = yJ1_circularClear.cls ∧ yJ1_circularClear.cls ≠ "java/lang/invoke/MethodHandle" ∧ yJ1_circularClear.cls ≠ "java/lang/invoke/VarHandle" ∧ (parseMethodDescriptor yJ1_circularClear.desc).map (fun d => d.parameters.length) = some 3 := by decide +kernel
set_option maxHeartbeats 4000000 in
theorem c_J1_circularClear (l : Launch) (D : va_G) (a : Nat → Nat) (σ : (Nat → Option Nat) × Int32 × Int32) (x1 x2 : Int32) (Q : ((Nat → Option Nat) × Int32 × Int32) → Prop) (h : w_J1_circularClear σ x1 x2 Q) : Ctv l D yJ1_circularClear cJ1_circularClear 4 (rmk 0 0 0 0) [.ref (a 1), .int x1, .int x2] (dqW D a σ) (dqW D a) Q 0 0 := by
  refine Ctv.of (by decide) (Nat.le_of_ble_eq_true rfl) (fun x hF hR => ?_)
  replace hF : vF x l D "java/util/ArrayDeque" cJ1_circularClear (rmk 0 0 0 0) 4 none := hF
  refine v_app0 ?_
  unfold w_J1_circularClear at h
  refine v_iload_n 0 hF dJ1_circularClear_0 rfl 1 rfl ?_
  refine v_iload_n 1 hF dJ1_circularClear_1 rfl 2 rfl ?_
  refine v_icmp_gt 2 9 hF dJ1_circularClear_2 (by decide) (fun c6 => ?_) (fun c6 => ?_)
  · replace h := h.1 c6
    refine v_aload_n 9 hF dJ1_circularClear_9 rfl 0 rfl ?_
    refine v_alen (v := 17) 10 hF 1 5 rfl rfl (show Int32.ofNat 17 = 17 from by decide) dJ1_circularClear_10 ?_
    refine v_istore_n [(0, .ref (a 1)), (1, .int x1), (2, .int x2), (3, .int ((17 : Int32)))] [1, 2, 3, 0] 11 hF dJ1_circularClear_11 rfl (Nat.le_of_ble_eq_true rfl) rfl ?_
    exact vLoop (V := fun s => vV x 0 0 (dqW D a s.1 ++ []) [(0, .ref (a 1)), (1, .int s.2.1), (2, .int s.2.2.1), (3, .int s.2.2.2)] 12 []) (fun K hK s hs => k_J1_circularClear_L12 hF hR (fun v0 v1 v2 v3 q => hK (v0, v1, v2, v3) q) s.1 s.2.1 s.2.2.1 s.2.2.2 hs) _ h
  · replace h := h.2 c6
    refine v_iload_n 5 hF dJ1_circularClear_5 rfl 2 rfl ?_
    refine v_goto 6 11 hF dJ1_circularClear_6 (by decide) ?_
    refine v_istore_n [(0, .ref (a 1)), (1, .int x1), (2, .int x2), (3, .int x2)] [1, 2, 3, 0] 11 hF dJ1_circularClear_11 rfl (Nat.le_of_ble_eq_true rfl) rfl ?_
    exact vLoop (V := fun s => vV x 0 0 (dqW D a s.1 ++ []) [(0, .ref (a 1)), (1, .int s.2.1), (2, .int s.2.2.1), (3, .int s.2.2.2)] 12 []) (fun K hK s hs => k_J1_circularClear_L12 hF hR (fun v0 v1 v2 v3 q => hK (v0, v1, v2, v3) q) s.1 s.2.1 s.2.2.1 s.2.2.2 hs) _ h
def w_J1_clear (σ : (Nat → Option Nat) × Int32 × Int32) (Q : ((Nat → Option Nat) × Int32 × Int32) → Prop) : Prop :=
  w_J1_circularClear σ (σ.2.1) (σ.2.2) (fun t1 => ∀ t2 : (Nat → Option Nat) × Int32 × Int32, t2 = (t1.1, t1.2.1, (0 : Int32)) → ∀ t3 : (Nat → Option Nat) × Int32 × Int32, t3 = (t2.1, (0 : Int32), t2.2.2) → Q t3)
theorem ds_J1_clear : yJ1_clear.cls = yJ1_clear.cls ∧ yJ1_clear.cls ≠ "java/lang/invoke/MethodHandle" ∧ yJ1_clear.cls ≠ "java/lang/invoke/VarHandle" ∧ (parseMethodDescriptor yJ1_clear.desc).map (fun d => d.parameters.length) = some 0 := by decide +kernel
set_option maxHeartbeats 4000000 in
theorem c_J1_clear (l : Launch) (D : va_G) (a : Nat → Nat) (σ : (Nat → Option Nat) × Int32 × Int32) (Q : ((Nat → Option Nat) × Int32 × Int32) → Prop) (h : w_J1_clear σ Q) : Ctv l D yJ1_clear cJ1_clear 1 (rmk 1 0 0 23) [.ref (a 0)] (dqW D a σ) (dqW D a) Q 0 0 := by
  refine Ctv.of (by decide) (Nat.le_of_ble_eq_true rfl) (fun x hF hR => ?_)
  replace hF : vF x l D "java/util/ArrayDeque" cJ1_clear (rmk 1 0 0 23) 1 none := hF
  refine v_app0 ?_
  unfold w_J1_clear at h
  refine v_aload_n 0 hF dJ1_clear_0 rfl 0 rfl ?_
  refine Q_get 1 0 hF (Nat.le_of_ble_eq_true rfl) q279 rfl rfl dJ1_clear_1 ?_
  refine v_aload_n 4 hF dJ1_clear_4 rfl 0 rfl ?_
  refine Q_get 5 1 hF (Nat.le_of_ble_eq_true rfl) q282 rfl rfl dJ1_clear_5 ?_
  refine v_aload_n 8 hF dJ1_clear_8 rfl 0 rfl ?_
  refine Q_get 9 2 hF (Nat.le_of_ble_eq_true rfl) q283 rfl rfl dJ1_clear_9 ?_
  refine v_callSv (As := [.ref (a 1), .int (σ.2.1), .int (σ.2.2)]) 12 hF (c_J1_circularClear l D a σ (σ.2.1) (σ.2.2) _ h) (List.Perm.refl _) q1895 q1896 q74 q1897 ds_J1_circularClear ⟨rfl, rfl, Nat.le_of_ble_eq_true rfl, Nat.le_of_ble_eq_true rfl⟩ (Nat.le_of_ble_eq_true rfl) ⟨Nat.zero_le _, Nat.zero_le _⟩ dJ1_clear_12 (fun t1 h => ?_)
  refine v_aload_n 15 hF dJ1_clear_15 rfl 0 rfl ?_
  refine v_aload_n 16 hF dJ1_clear_16 rfl 0 rfl ?_
  refine v_iconst (v := 0) 17 hF dJ1_clear_17 (by decide) ?_
  refine v_dup_x1 18 hF dJ1_clear_18 rfl rfl ?_
  refine Q_put2 19 hF q283 dJ1_clear_19 (fun t2 et2 => ?_)
  replace h := h t2 et2
  refine Q_put1 22 hF q282 dJ1_clear_22 (fun t3 et3 => ?_)
  replace h := h t3 et3
  exact v_vretA 25 hF hR (Nat.zero_le _) (Nat.zero_le _) dJ1_clear_25 h
