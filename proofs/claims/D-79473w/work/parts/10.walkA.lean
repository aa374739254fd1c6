set_option maxRecDepth 100000
def w_X1_inRange (x0 x1 x2 : Int32) (Q : Int32 → Prop) : Prop :=
  ((x0 < x1 → Q ((0 : Int32))) ∧ (¬ x0 < x1 → ((x2 < x0 → Q ((0 : Int32))) ∧ (¬ x2 < x0 → Q ((1 : Int32))))))
theorem ds_X1_inRange : yX1_inRange.cls = yX1_inRange.cls ∧ yX1_inRange.cls ≠ "java/lang/invoke/MethodHandle" ∧ yX1_inRange.cls ≠ "java/lang/invoke/VarHandle" ∧ (parseMethodDescriptor yX1_inRange.desc).map (fun d => d.parameters.length) = some 3 := by decide +kernel
set_option maxHeartbeats 4000000 in
theorem c_X1_inRange (l : Launch) (D : va_G) (x0 x1 x2 : Int32) (Q : Int32 → Prop) (h : w_X1_inRange x0 x1 x2 Q) : Cti l D yX1_inRange cX1_inRange 3 .boolean (rmk 0 0 0 0) [.int x0, .int x1, .int x2] [] (fun _ : Unit => []) (fun r _ => Q r) 0 0 := by
  refine Cti.of (by decide) (Nat.le_of_ble_eq_true rfl) (fun x hF hR => ?_)
  replace hF : vF x l D "BrookWeirs" cX1_inRange (rmk 0 0 0 0) 3 (some .boolean) := hF
  unfold w_X1_inRange at h
  refine v_iload_n 0 hF dX1_inRange_0 rfl 0 rfl ?_
  refine v_iload_n 1 hF dX1_inRange_1 rfl 1 rfl ?_
  refine v_icmp_lt 2 14 hF dX1_inRange_2 (by decide) (fun c1 => ?_) (fun c1 => ?_)
  · replace h := h.1 c1
    refine v_iconst (v := 0) 14 hF dX1_inRange_14 (by decide) ?_
    exact v_zret (u := ()) 15 hF hR (Nat.zero_le _) (Nat.zero_le _) rfl dX1_inRange_15 h
  · replace h := h.2 c1
    refine v_iload_n 5 hF dX1_inRange_5 rfl 0 rfl ?_
    refine v_iload_n 6 hF dX1_inRange_6 rfl 2 rfl ?_
    refine v_icmp_gt 7 14 hF dX1_inRange_7 (by decide) (fun c2 => ?_) (fun c2 => ?_)
    · replace h := h.1 c2
      refine v_iconst (v := 0) 14 hF dX1_inRange_14 (by decide) ?_
      exact v_zret (u := ()) 15 hF hR (Nat.zero_le _) (Nat.zero_le _) rfl dX1_inRange_15 h
    · replace h := h.2 c2
      refine v_iconst (v := 1) 10 hF dX1_inRange_10 (by decide) ?_
      refine v_goto 11 15 hF dX1_inRange_11 (by decide) ?_
      exact v_zret (u := ()) 15 hF hR (Nat.zero_le _) (Nat.zero_le _) rfl dX1_inRange_15 h
def w_X1_has (x0 x1 : Int32) (Q : Int32 → Prop) : Prop :=
  ((¬ ((x0 >>> (x1 &&& 31)) &&& (1 : Int32)) = (1 : Int32) → Q ((0 : Int32))) ∧ (((x0 >>> (x1 &&& 31)) &&& (1 : Int32)) = (1 : Int32) → Q ((1 : Int32))))
theorem ds_X1_has : yX1_has.cls = yX1_has.cls ∧ yX1_has.cls ≠ "java/lang/invoke/MethodHandle" ∧ yX1_has.cls ≠ "java/lang/invoke/VarHandle" ∧ (parseMethodDescriptor yX1_has.desc).map (fun d => d.parameters.length) = some 2 := by decide +kernel
set_option maxHeartbeats 4000000 in
theorem c_X1_has (l : Launch) (D : va_G) (x0 x1 : Int32) (Q : Int32 → Prop) (h : w_X1_has x0 x1 Q) : Cti l D yX1_has cX1_has 2 .boolean (rmk 0 0 0 0) [.int x0, .int x1] [] (fun _ : Unit => []) (fun r _ => Q r) 0 0 := by
  refine Cti.of (by decide) (Nat.le_of_ble_eq_true rfl) (fun x hF hR => ?_)
  replace hF : vF x l D "BrookWeirs" cX1_has (rmk 0 0 0 0) 2 (some .boolean) := hF
  unfold w_X1_has at h
  refine v_iload_n 0 hF dX1_has_0 rfl 0 rfl ?_
  refine v_iload_n 1 hF dX1_has_1 rfl 1 rfl ?_
  refine v_ishr 2 hF dX1_has_2 ?_
  refine v_iconst (v := 1) 3 hF dX1_has_3 (by decide) ?_
  refine v_iand 4 hF dX1_has_4 ?_
  refine v_iconst (v := 1) 5 hF dX1_has_5 (by decide) ?_
  refine v_icmp_ne 6 13 hF dX1_has_6 (by decide) (fun c1 => ?_) (fun c1 => ?_)
  · replace h := h.1 c1
    refine v_iconst (v := 0) 13 hF dX1_has_13 (by decide) ?_
    exact v_zret (u := ()) 14 hF hR (Nat.zero_le _) (Nat.zero_le _) rfl dX1_has_14 h
  · replace h := h.2 c1
    refine v_iconst (v := 1) 9 hF dX1_has_9 (by decide) ?_
    refine v_goto 10 14 hF dX1_has_10 (by decide) ?_
    exact v_zret (u := ()) 14 hF hR (Nat.zero_le _) (Nat.zero_le _) rfl dX1_has_14 h
def w_X1_with (x0 x1 x2 : Int32) (Q : Int32 → Prop) : Prop :=
  ((x2 = 0 → Q ((x0 &&& (((1 : Int32) <<< (x1 &&& 31)) ^^^ (-1 : Int32))))) ∧ (¬ x2 = 0 → Q ((x0 ||| ((1 : Int32) <<< (x1 &&& 31))))))
theorem ds_X1_with : yX1_with.cls = yX1_with.cls ∧ yX1_with.cls ≠ "java/lang/invoke/MethodHandle" ∧ yX1_with.cls ≠ "java/lang/invoke/VarHandle" ∧ (parseMethodDescriptor yX1_with.desc).map (fun d => d.parameters.length) = some 3 := by decide +kernel
set_option maxHeartbeats 4000000 in
theorem c_X1_with (l : Launch) (D : va_G) (x0 x1 x2 : Int32) (Q : Int32 → Prop) (h : w_X1_with x0 x1 x2 Q) : Cti l D yX1_with cX1_with 3 .int (rmk 0 0 0 0) [.int x0, .int x1, .int x2] [] (fun _ : Unit => []) (fun r _ => Q r) 0 0 := by
  refine Cti.of (by decide) (Nat.le_of_ble_eq_true rfl) (fun x hF hR => ?_)
  replace hF : vF x l D "BrookWeirs" cX1_with (rmk 0 0 0 0) 3 (some .int) := hF
  unfold w_X1_with at h
  refine v_iload_n 0 hF dX1_with_0 rfl 2 rfl ?_
  refine v_if_eq 1 12 hF dX1_with_1 (by decide) (fun c1 => ?_) (fun c1 => ?_)
  · replace h := h.1 c1
    refine v_iload_n 12 hF dX1_with_12 rfl 0 rfl ?_
    refine v_iconst (v := 1) 13 hF dX1_with_13 (by decide) ?_
    refine v_iload_n 14 hF dX1_with_14 rfl 1 rfl ?_
    refine v_ishl 15 hF dX1_with_15 ?_
    refine v_iconst (v := -1) 16 hF dX1_with_16 (by decide) ?_
    refine v_ixor 17 hF dX1_with_17 ?_
    refine v_iand 18 hF dX1_with_18 ?_
    exact v_iret (u := ()) 19 hF hR (Nat.zero_le _) (Nat.zero_le _) dX1_with_19 h
  · replace h := h.2 c1
    refine v_iload_n 4 hF dX1_with_4 rfl 0 rfl ?_
    refine v_iconst (v := 1) 5 hF dX1_with_5 (by decide) ?_
    refine v_iload_n 6 hF dX1_with_6 rfl 1 rfl ?_
    refine v_ishl 7 hF dX1_with_7 ?_
    refine v_ior 8 hF dX1_with_8 ?_
    refine v_goto 9 19 hF dX1_with_9 (by decide) ?_
    exact v_iret (u := ()) 19 hF hR (Nat.zero_le _) (Nat.zero_le _) dX1_with_19 h
def w_J20_bitCount (x0 : Int32) (Q : Int32 → Prop) : Prop :=
  ∀ y1 : Int32, y1 = (x0 - ((x0.toUInt32 >>> (((1 : Int32)).toUInt32 &&& Int32.toUInt32 31)).toInt32 &&& (1431655765 : Int32))) → ∀ y2 : Int32, y2 = ((y1 &&& (858993459 : Int32)) + ((y1.toUInt32 >>> (((2 : Int32)).toUInt32 &&& Int32.toUInt32 31)).toInt32 &&& (858993459 : Int32))) → ∀ y3 : Int32, y3 = ((y2 + (y2.toUInt32 >>> (((4 : Int32)).toUInt32 &&& Int32.toUInt32 31)).toInt32) &&& (252645135 : Int32)) → ∀ y4 : Int32, y4 = (y3 + (y3.toUInt32 >>> (((8 : Int32)).toUInt32 &&& Int32.toUInt32 31)).toInt32) → ∀ y5 : Int32, y5 = (y4 + (y4.toUInt32 >>> (((16 : Int32)).toUInt32 &&& Int32.toUInt32 31)).toInt32) → Q ((y5 &&& (63 : Int32)))
theorem ds_J20_bitCount : yJ20_bitCount.cls = yJ20_bitCount.cls ∧ yJ20_bitCount.cls ≠ "java/lang/invoke/MethodHandle" ∧ yJ20_bitCount.cls ≠ "java/lang/invoke/VarHandle" ∧ (parseMethodDescriptor yJ20_bitCount.desc).map (fun d => d.parameters.length) = some 1 := by decide +kernel
set_option maxHeartbeats 4000000 in
theorem c_J20_bitCount (l : Launch) (D : va_G) (x0 : Int32) (Q : Int32 → Prop) (h : w_J20_bitCount x0 Q) : Cti l D yJ20_bitCount cJ20_bitCount 1 .int (rmk 0 0 0 0) [.int x0] [] (fun _ : Unit => []) (fun r _ => Q r) 0 0 := by
  refine Cti.of (by decide) (Nat.le_of_ble_eq_true rfl) (fun x hF hR => ?_)
  replace hF : vF x l D "java/lang/Integer" cJ20_bitCount (rmk 0 0 0 0) 1 (some .int) := hF
  unfold w_J20_bitCount at h
  refine v_iload_n 0 hF dJ20_bitCount_0 rfl 0 rfl ?_
  refine v_iload_n 1 hF dJ20_bitCount_1 rfl 0 rfl ?_
  refine v_iconst (v := 1) 2 hF dJ20_bitCount_2 (by decide) ?_
  refine v_iushr 3 hF dJ20_bitCount_3 ?_
  refine v_ldcw 4 hF dJ20_bitCount_4 q480 ?_
  refine v_iand 7 hF dJ20_bitCount_7 ?_
  refine v_isub 8 hF dJ20_bitCount_8 ?_
  refine v_nm (fun y1 ey1 => ?_)
  replace h := h y1 ey1
  refine v_istore_n [(0, .int y1)] [0] 9 hF dJ20_bitCount_9 rfl (Nat.le_of_ble_eq_true rfl) rfl ?_
  refine v_iload_n 10 hF dJ20_bitCount_10 rfl 0 rfl ?_
  refine v_ldcw 11 hF dJ20_bitCount_11 q481 ?_
  refine v_iand 14 hF dJ20_bitCount_14 ?_
  refine v_iload_n 15 hF dJ20_bitCount_15 rfl 0 rfl ?_
  refine v_iconst (v := 2) 16 hF dJ20_bitCount_16 (by decide) ?_
  refine v_iushr 17 hF dJ20_bitCount_17 ?_
  refine v_ldcw 18 hF dJ20_bitCount_18 q481 ?_
  refine v_iand 21 hF dJ20_bitCount_21 ?_
  refine v_iadd 22 hF dJ20_bitCount_22 ?_
  refine v_nm (fun y2 ey2 => ?_)
  replace h := h y2 ey2
  refine v_istore_n [(0, .int y2)] [0] 23 hF dJ20_bitCount_23 rfl (Nat.le_of_ble_eq_true rfl) rfl ?_
  refine v_iload_n 24 hF dJ20_bitCount_24 rfl 0 rfl ?_
  refine v_iload_n 25 hF dJ20_bitCount_25 rfl 0 rfl ?_
  refine v_iconst (v := 4) 26 hF dJ20_bitCount_26 (by decide) ?_
  refine v_iushr 27 hF dJ20_bitCount_27 ?_
  refine v_iadd 28 hF dJ20_bitCount_28 ?_
  refine v_ldcw 29 hF dJ20_bitCount_29 q482 ?_
  refine v_iand 32 hF dJ20_bitCount_32 ?_
  refine v_nm (fun y3 ey3 => ?_)
  replace h := h y3 ey3
  refine v_istore_n [(0, .int y3)] [0] 33 hF dJ20_bitCount_33 rfl (Nat.le_of_ble_eq_true rfl) rfl ?_
  refine v_iload_n 34 hF dJ20_bitCount_34 rfl 0 rfl ?_
  refine v_iload_n 35 hF dJ20_bitCount_35 rfl 0 rfl ?_
  refine v_bipush (v := 8) 36 hF dJ20_bitCount_36 (by decide) ?_
  refine v_iushr 38 hF dJ20_bitCount_38 ?_
  refine v_iadd 39 hF dJ20_bitCount_39 ?_
  refine v_nm (fun y4 ey4 => ?_)
  replace h := h y4 ey4
  refine v_istore_n [(0, .int y4)] [0] 40 hF dJ20_bitCount_40 rfl (Nat.le_of_ble_eq_true rfl) rfl ?_
  refine v_iload_n 41 hF dJ20_bitCount_41 rfl 0 rfl ?_
  refine v_iload_n 42 hF dJ20_bitCount_42 rfl 0 rfl ?_
  refine v_bipush (v := 16) 43 hF dJ20_bitCount_43 (by decide) ?_
  refine v_iushr 45 hF dJ20_bitCount_45 ?_
  refine v_iadd 46 hF dJ20_bitCount_46 ?_
  refine v_nm (fun y5 ey5 => ?_)
  replace h := h y5 ey5
  refine v_istore_n [(0, .int y5)] [0] 47 hF dJ20_bitCount_47 rfl (Nat.le_of_ble_eq_true rfl) rfl ?_
  refine v_iload_n 48 hF dJ20_bitCount_48 rfl 0 rfl ?_
  refine v_bipush (v := 63) 49 hF dJ20_bitCount_49 (by decide) ?_
  refine v_iand 51 hF dJ20_bitCount_51 ?_
  exact v_iret (u := ()) 52 hF hR (Nat.zero_le _) (Nat.zero_le _) dJ20_bitCount_52 h
def w_X3_add (σ : Nat → Nat → Int32) (x1 x2 x3 : Int32) (Q : Int32 → (Nat → Nat → Int32) → Prop) : Prop :=
  vp_in ((σ 40 4)) 12 ∧ ∀ t2 : Nat → Nat → Int32, t2 = (upN σ 30 ((σ 40 4)).toNatClampNeg x1) → vp_in ((t2 40 4)) 12 ∧ ∀ t4 : Nat → Nat → Int32, t4 = (upN t2 31 ((t2 40 4)).toNatClampNeg x2) → vp_in ((t4 40 4)) 12 ∧ ∀ t6 : Nat → Nat → Int32, t6 = (upN t4 32 ((t4 40 4)).toNatClampNeg (0 : Int32)) → vp_in ((t6 40 4)) 12 ∧ ∀ t8 : Nat → Nat → Int32, t8 = (upN t6 33 ((t6 40 4)).toNatClampNeg x3) → ∀ t9 : Nat → Nat → Int32, t9 = (upN t8 40 4 ((t8 40 4) + (1 : Int32))) → Q (((t9 40 4) - (1 : Int32))) t9
theorem ds_X3_add : yX3_add.cls = yX3_add.cls ∧ yX3_add.cls ≠ "java/lang/invoke/MethodHandle" ∧ yX3_add.cls ≠ "java/lang/invoke/VarHandle" ∧ (parseMethodDescriptor yX3_add.desc).map (fun d => d.parameters.length) = some 3 := by decide +kernel
set_option maxHeartbeats 4000000 in
theorem c_X3_add (l : Launch) (D : va_G) (a : Nat → Nat) (σ : Nat → Nat → Int32) (x1 x2 x3 : Int32) (Q : Int32 → (Nat → Nat → Int32) → Prop) (h : w_X3_add σ x1 x2 x3 Q) : Cti l D yX3_add cX3_add 4 .int (rmk 0 0 0 0) [.ref (a 8), .int x1, .int x2, .int x3] (bkW D a σ) (bkW D a) Q 0 0 := by
  refine Cti.of (by decide) (Nat.le_of_ble_eq_true rfl) (fun x hF hR => ?_)
  replace hF : vF x l D "BrookWeirs$Clutches" cX3_add (rmk 0 0 0 0) 4 (some .int) := hF
  refine v_app0 ?_
  unfold w_X3_add at h
  refine v_aload_n 0 hF dX3_add_0 rfl 0 rfl ?_
  refine K_get 1 0 hF (Nat.le_of_ble_eq_true rfl) q135 rfl rfl dX3_add_1 ?_
  refine v_aload_n 4 hF dX3_add_4 rfl 0 rfl ?_
  refine K_get 5 4 hF (Nat.le_of_ble_eq_true rfl) q150 rfl rfl dX3_add_5 ?_
  refine v_iload_n 8 hF dX3_add_8 rfl 1 rfl ?_
  obtain ⟨o1, h⟩ := h
  refine B_ast30 9 hF o1 dX3_add_9 (fun t2 et2 => ?_)
  replace h := h t2 et2
  refine v_aload_n 10 hF dX3_add_10 rfl 0 rfl ?_
  refine K_get 11 1 hF (Nat.le_of_ble_eq_true rfl) q139 rfl rfl dX3_add_11 ?_
  refine v_aload_n 14 hF dX3_add_14 rfl 0 rfl ?_
  refine K_get 15 4 hF (Nat.le_of_ble_eq_true rfl) q150 rfl rfl dX3_add_15 ?_
  refine v_iload_n 18 hF dX3_add_18 rfl 2 rfl ?_
  obtain ⟨o3, h⟩ := h
  refine B_ast31 19 hF o3 dX3_add_19 (fun t4 et4 => ?_)
  replace h := h t4 et4
  refine v_aload_n 20 hF dX3_add_20 rfl 0 rfl ?_
  refine K_get 21 2 hF (Nat.le_of_ble_eq_true rfl) q143 rfl rfl dX3_add_21 ?_
  refine v_aload_n 24 hF dX3_add_24 rfl 0 rfl ?_
  refine K_get 25 4 hF (Nat.le_of_ble_eq_true rfl) q150 rfl rfl dX3_add_25 ?_
  refine v_iconst (v := 0) 28 hF dX3_add_28 (by decide) ?_
  obtain ⟨o5, h⟩ := h
  refine B_ast32 29 hF o5 dX3_add_29 (fun t6 et6 => ?_)
  replace h := h t6 et6
  refine v_aload_n 30 hF dX3_add_30 rfl 0 rfl ?_
  refine K_get 31 3 hF (Nat.le_of_ble_eq_true rfl) q146 rfl rfl dX3_add_31 ?_
  refine v_aload_n 34 hF dX3_add_34 rfl 0 rfl ?_
  refine K_get 35 4 hF (Nat.le_of_ble_eq_true rfl) q150 rfl rfl dX3_add_35 ?_
  refine v_iload_n 38 hF dX3_add_38 rfl 3 rfl ?_
  obtain ⟨o7, h⟩ := h
  refine B_ast33 39 hF o7 dX3_add_39 (fun t8 et8 => ?_)
  replace h := h t8 et8
  refine v_aload_n 40 hF dX3_add_40 rfl 0 rfl ?_
  refine v_dup 41 hF dX3_add_41 rfl ?_
  refine K_get 42 4 hF (Nat.le_of_ble_eq_true rfl) q150 rfl rfl dX3_add_42 ?_
  refine v_iconst (v := 1) 45 hF dX3_add_45 (by decide) ?_
  refine v_iadd 46 hF dX3_add_46 ?_
  refine K_put4 47 hF q150 dX3_add_47 (fun t9 et9 => ?_)
  replace h := h t9 et9
  refine v_aload_n 50 hF dX3_add_50 rfl 0 rfl ?_
  refine K_get 51 4 hF (Nat.le_of_ble_eq_true rfl) q150 rfl rfl dX3_add_51 ?_
  refine v_iconst (v := 1) 54 hF dX3_add_54 (by decide) ?_
  refine v_isub 55 hF dX3_add_55 ?_
  exact v_iretA 56 hF hR (Nat.zero_le _) (Nat.zero_le _) dX3_add_56 h
def w_X3_tidy_L4 (Q : (Nat → Nat → Int32) → Prop) (K4 : (Nat → Nat → Int32) → Int32 → Int32 → Prop) (σ : Nat → Nat → Int32) (x1 x2 : Int32) : Prop :=
  (((σ 40 4) ≤ x2 → ∀ t2 : Nat → Nat → Int32, t2 = (upN σ 40 4 x1) → Q t2) ∧ (¬ (σ 40 4) ≤ x2 → vp_in x2 12 ∧ ((((σ 31) x2.toNatClampNeg) ≤ 0 → ∀ y5 : Int32, y5 = x2 + (1 : Int32) → K4 σ x1 y5) ∧ (¬ ((σ 31) x2.toNatClampNeg) ≤ 0 → vp_in x2 12 ∧ vp_in x1 12 ∧ ∀ t8 : Nat → Nat → Int32, t8 = (upN σ 30 x1.toNatClampNeg ((σ 30) x2.toNatClampNeg)) → vp_in x2 12 ∧ vp_in x1 12 ∧ ∀ t11 : Nat → Nat → Int32, t11 = (upN t8 31 x1.toNatClampNeg ((t8 31) x2.toNatClampNeg)) → vp_in x2 12 ∧ vp_in x1 12 ∧ ∀ t14 : Nat → Nat → Int32, t14 = (upN t11 32 x1.toNatClampNeg ((t11 32) x2.toNatClampNeg)) → vp_in x2 12 ∧ vp_in x1 12 ∧ ∀ t17 : Nat → Nat → Int32, t17 = (upN t14 33 x1.toNatClampNeg ((t14 33) x2.toNatClampNeg)) → ∀ y18 : Int32, y18 = x1 + (1 : Int32) → ∀ y19 : Int32, y19 = x2 + (1 : Int32) → K4 t17 y18 y19))))
def w_X3_tidy (σ : Nat → Nat → Int32) (Q : (Nat → Nat → Int32) → Prop) : Prop :=
  wLoop (fun K s => w_X3_tidy_L4 Q (fun v0 v1 v2 => K (v0, v1, v2)) s.1 s.2.1 s.2.2) (σ, (0 : Int32), (0 : Int32))
set_option maxHeartbeats 4000000 in
theorem k_X3_tidy_L4 {x : vC} {l : Launch} {D : va_G} {a : Nat → Nat}  {Q : (Nat → Nat → Int32) → Prop} (hF : vF x l D "BrookWeirs$Clutches" cX3_tidy (rmk 0 0 0 0) 3 none) (hR : vRv x (bkW D a) Q 0 0) {K4 : (Nat → Nat → Int32) → Int32 → Int32 → Prop} (hK4 : ∀ (σ : Nat → Nat → Int32) (x1 x2 : Int32), K4 σ x1 x2 → vV x 0 0 (bkW D a σ ++ []) [(0, .ref (a 8)), (1, .int x1), (2, .int x2)] 4 []) : ∀ (σ : Nat → Nat → Int32) (x1 x2 : Int32), w_X3_tidy_L4 Q K4 σ x1 x2 → vV x 0 0 (bkW D a σ ++ []) [(0, .ref (a 8)), (1, .int x1), (2, .int x2)] 4 [] := by
  intro σ x1 x2 h
  unfold w_X3_tidy_L4 at h
  refine v_iload_n 4 hF dX3_tidy_4 rfl 2 rfl ?_
  refine v_aload_n 5 hF dX3_tidy_5 rfl 0 rfl ?_
  refine K_get 6 4 hF (Nat.le_of_ble_eq_true rfl) q150 rfl rfl dX3_tidy_6 ?_
  refine v_icmp_ge 9 78 hF dX3_tidy_9 (by decide) (fun c1 => ?_) (fun c1 => ?_)
  · replace h := h.1 c1
    refine v_aload_n 78 hF dX3_tidy_78 rfl 0 rfl ?_
    refine v_iload_n 79 hF dX3_tidy_79 rfl 1 rfl ?_
    refine K_put4 80 hF q150 dX3_tidy_80 (fun t2 et2 => ?_)
    replace h := h t2 et2
    exact v_vretA 83 hF hR (Nat.zero_le _) (Nat.zero_le _) dX3_tidy_83 h
  · replace h := h.2 c1
    refine v_aload_n 12 hF dX3_tidy_12 rfl 0 rfl ?_
    refine K_get 13 1 hF (Nat.le_of_ble_eq_true rfl) q139 rfl rfl dX3_tidy_13 ?_
    refine v_iload_n 16 hF dX3_tidy_16 rfl 2 rfl ?_
    obtain ⟨o3, h⟩ := h
    refine B_ald31 17 hF o3 dX3_tidy_17 ?_
    refine v_if_le 18 72 hF dX3_tidy_18 (by decide) (fun c4 => ?_) (fun c4 => ?_)
    · replace h := h.1 c4
      obtain ⟨y5, ey5⟩ : ∃ y : Int32, y = x2 + (1 : Int32) := ⟨_, rfl⟩
      replace h := h y5 ey5
      refine v_iinc [(0, .ref (a 8)), (1, .int x1), (2, .int y5)] [1, 2, 0] 72 hF dX3_tidy_72 2 rfl (by rw [ey5]; rfl) (Nat.le_of_ble_eq_true rfl) rfl ?_
      refine v_goto 75 4 hF dX3_tidy_75 (by decide) ?_
      exact hK4 _ _ _ h
    · replace h := h.2 c4
      refine v_aload_n 21 hF dX3_tidy_21 rfl 0 rfl ?_
      refine K_get 22 0 hF (Nat.le_of_ble_eq_true rfl) q135 rfl rfl dX3_tidy_22 ?_
      refine v_iload_n 25 hF dX3_tidy_25 rfl 1 rfl ?_
      refine v_aload_n 26 hF dX3_tidy_26 rfl 0 rfl ?_
      refine K_get 27 0 hF (Nat.le_of_ble_eq_true rfl) q135 rfl rfl dX3_tidy_27 ?_
      refine v_iload_n 30 hF dX3_tidy_30 rfl 2 rfl ?_
      obtain ⟨o6, h⟩ := h
      refine B_ald30 31 hF o6 dX3_tidy_31 ?_
      obtain ⟨o7, h⟩ := h
      refine B_ast30 32 hF o7 dX3_tidy_32 (fun t8 et8 => ?_)
      replace h := h t8 et8
      refine v_aload_n 33 hF dX3_tidy_33 rfl 0 rfl ?_
      refine K_get 34 1 hF (Nat.le_of_ble_eq_true rfl) q139 rfl rfl dX3_tidy_34 ?_
      refine v_iload_n 37 hF dX3_tidy_37 rfl 1 rfl ?_
      refine v_aload_n 38 hF dX3_tidy_38 rfl 0 rfl ?_
      refine K_get 39 1 hF (Nat.le_of_ble_eq_true rfl) q139 rfl rfl dX3_tidy_39 ?_
      refine v_iload_n 42 hF dX3_tidy_42 rfl 2 rfl ?_
      obtain ⟨o9, h⟩ := h
      refine B_ald31 43 hF o9 dX3_tidy_43 ?_
      obtain ⟨o10, h⟩ := h
      refine B_ast31 44 hF o10 dX3_tidy_44 (fun t11 et11 => ?_)
      replace h := h t11 et11
      refine v_aload_n 45 hF dX3_tidy_45 rfl 0 rfl ?_
      refine K_get 46 2 hF (Nat.le_of_ble_eq_true rfl) q143 rfl rfl dX3_tidy_46 ?_
      refine v_iload_n 49 hF dX3_tidy_49 rfl 1 rfl ?_
      refine v_aload_n 50 hF dX3_tidy_50 rfl 0 rfl ?_
      refine K_get 51 2 hF (Nat.le_of_ble_eq_true rfl) q143 rfl rfl dX3_tidy_51 ?_
      refine v_iload_n 54 hF dX3_tidy_54 rfl 2 rfl ?_
      obtain ⟨o12, h⟩ := h
      refine B_ald32 55 hF o12 dX3_tidy_55 ?_
      obtain ⟨o13, h⟩ := h
      refine B_ast32 56 hF o13 dX3_tidy_56 (fun t14 et14 => ?_)
      replace h := h t14 et14
      refine v_aload_n 57 hF dX3_tidy_57 rfl 0 rfl ?_
      refine K_get 58 3 hF (Nat.le_of_ble_eq_true rfl) q146 rfl rfl dX3_tidy_58 ?_
      refine v_iload_n 61 hF dX3_tidy_61 rfl 1 rfl ?_
      refine v_aload_n 62 hF dX3_tidy_62 rfl 0 rfl ?_
      refine K_get 63 3 hF (Nat.le_of_ble_eq_true rfl) q146 rfl rfl dX3_tidy_63 ?_
      refine v_iload_n 66 hF dX3_tidy_66 rfl 2 rfl ?_
      obtain ⟨o15, h⟩ := h
      refine B_ald33 67 hF o15 dX3_tidy_67 ?_
      obtain ⟨o16, h⟩ := h
      refine B_ast33 68 hF o16 dX3_tidy_68 (fun t17 et17 => ?_)
      replace h := h t17 et17
      obtain ⟨y18, ey18⟩ : ∃ y : Int32, y = x1 + (1 : Int32) := ⟨_, rfl⟩
      replace h := h y18 ey18
      refine v_iinc [(0, .ref (a 8)), (1, .int y18), (2, .int x2)] [1, 0, 2] 69 hF dX3_tidy_69 1 rfl (by rw [ey18]; rfl) (Nat.le_of_ble_eq_true rfl) rfl ?_
      obtain ⟨y19, ey19⟩ : ∃ y : Int32, y = x2 + (1 : Int32) := ⟨_, rfl⟩
      replace h := h y19 ey19
      refine v_iinc [(0, .ref (a 8)), (1, .int y18), (2, .int y19)] [1, 2, 0] 72 hF dX3_tidy_72 2 rfl (by rw [ey19]; rfl) (Nat.le_of_ble_eq_true rfl) rfl ?_
      refine v_goto 75 4 hF dX3_tidy_75 (by decide) ?_
      exact hK4 _ _ _ h
theorem ds_X3_tidy : yX3_tidy.cls = yX3_tidy.cls ∧ yX3_tidy.cls ≠ "java/lang/invoke/MethodHandle" ∧ yX3_tidy.cls ≠ "java/lang/invoke/VarHandle" ∧ (parseMethodDescriptor yX3_tidy.desc).map (fun d => d.parameters.length) = some 0 := by decide +kernel
set_option maxHeartbeats 4000000 in
theorem c_X3_tidy (l : Launch) (D : va_G) (a : Nat → Nat) (σ : Nat → Nat → Int32) (Q : (Nat → Nat → Int32) → Prop) (h : w_X3_tidy σ Q) : Ctv l D yX3_tidy cX3_tidy 3 (rmk 0 0 0 0) [.ref (a 8)] (bkW D a σ) (bkW D a) Q 0 0 := by
  refine Ctv.of (by decide) (Nat.le_of_ble_eq_true rfl) (fun x hF hR => ?_)
  replace hF : vF x l D "BrookWeirs$Clutches" cX3_tidy (rmk 0 0 0 0) 3 none := hF
  refine v_app0 ?_
  unfold w_X3_tidy at h
  refine v_iconst (v := 0) 0 hF dX3_tidy_0 (by decide) ?_
  refine v_istore_n [(0, .ref (a 8)), (1, .int ((0 : Int32)))] [1, 0] 1 hF dX3_tidy_1 rfl (Nat.le_of_ble_eq_true rfl) rfl ?_
  refine v_iconst (v := 0) 2 hF dX3_tidy_2 (by decide) ?_
  refine v_istore_n [(0, .ref (a 8)), (1, .int ((0 : Int32))), (2, .int ((0 : Int32)))] [1, 2, 0] 3 hF dX3_tidy_3 rfl (Nat.le_of_ble_eq_true rfl) rfl ?_
  exact vLoop (V := fun s => vV x 0 0 (bkW D a s.1 ++ []) [(0, .ref (a 8)), (1, .int s.2.1), (2, .int s.2.2)] 4 []) (fun K hK s hs => k_X3_tidy_L4 hF hR (fun v0 v1 v2 q => hK (v0, v1, v2) q) s.1 s.2.1 s.2.2 hs) _ h
def w_X3_eggs_L4 (Q : Int32 → (Nat → Nat → Int32) → Prop) (K4 : (Nat → Nat → Int32) → Int32 → Int32 → Prop) (σ : Nat → Nat → Int32) (x1 x2 : Int32) : Prop :=
  (((σ 40 4) ≤ x2 → Q x1 σ) ∧ (¬ (σ 40 4) ≤ x2 → vp_in x2 12 ∧ ∀ y3 : Int32, y3 = (x1 + ((σ 31) x2.toNatClampNeg)) → ∀ y4 : Int32, y4 = x2 + (1 : Int32) → K4 σ y3 y4))
def w_X3_eggs (σ : Nat → Nat → Int32) (Q : Int32 → (Nat → Nat → Int32) → Prop) : Prop :=
  wLoop (fun K s => w_X3_eggs_L4 Q (fun v0 v1 v2 => K (v0, v1, v2)) s.1 s.2.1 s.2.2) (σ, (0 : Int32), (0 : Int32))
set_option maxHeartbeats 4000000 in
theorem k_X3_eggs_L4 {x : vC} {l : Launch} {D : va_G} {a : Nat → Nat}  {Q : Int32 → (Nat → Nat → Int32) → Prop} (hF : vF x l D "BrookWeirs$Clutches" cX3_eggs (rmk 0 0 0 0) 3 (some .int)) (hR : vRi x (bkW D a) Q 0 0) {K4 : (Nat → Nat → Int32) → Int32 → Int32 → Prop} (hK4 : ∀ (σ : Nat → Nat → Int32) (x1 x2 : Int32), K4 σ x1 x2 → vV x 0 0 (bkW D a σ ++ []) [(0, .ref (a 8)), (1, .int x1), (2, .int x2)] 4 []) : ∀ (σ : Nat → Nat → Int32) (x1 x2 : Int32), w_X3_eggs_L4 Q K4 σ x1 x2 → vV x 0 0 (bkW D a σ ++ []) [(0, .ref (a 8)), (1, .int x1), (2, .int x2)] 4 [] := by
  intro σ x1 x2 h
  unfold w_X3_eggs_L4 at h
  refine v_iload_n 4 hF dX3_eggs_4 rfl 2 rfl ?_
  refine v_aload_n 5 hF dX3_eggs_5 rfl 0 rfl ?_
  refine K_get 6 4 hF (Nat.le_of_ble_eq_true rfl) q150 rfl rfl dX3_eggs_6 ?_
  refine v_icmp_ge 9 27 hF dX3_eggs_9 (by decide) (fun c1 => ?_) (fun c1 => ?_)
  · replace h := h.1 c1
    refine v_iload_n 27 hF dX3_eggs_27 rfl 1 rfl ?_
    exact v_iretA 28 hF hR (Nat.zero_le _) (Nat.zero_le _) dX3_eggs_28 h
  · replace h := h.2 c1
    refine v_iload_n 12 hF dX3_eggs_12 rfl 1 rfl ?_
    refine v_aload_n 13 hF dX3_eggs_13 rfl 0 rfl ?_
    refine K_get 14 1 hF (Nat.le_of_ble_eq_true rfl) q139 rfl rfl dX3_eggs_14 ?_
    refine v_iload_n 17 hF dX3_eggs_17 rfl 2 rfl ?_
    obtain ⟨o2, h⟩ := h
    refine B_ald31 18 hF o2 dX3_eggs_18 ?_
    refine v_iadd 19 hF dX3_eggs_19 ?_
    refine v_nm (fun y3 ey3 => ?_)
    replace h := h y3 ey3
    refine v_istore_n [(0, .ref (a 8)), (1, .int y3), (2, .int x2)] [1, 0, 2] 20 hF dX3_eggs_20 rfl (Nat.le_of_ble_eq_true rfl) rfl ?_
    obtain ⟨y4, ey4⟩ : ∃ y : Int32, y = x2 + (1 : Int32) := ⟨_, rfl⟩
    replace h := h y4 ey4
    refine v_iinc [(0, .ref (a 8)), (1, .int y3), (2, .int y4)] [1, 2, 0] 21 hF dX3_eggs_21 2 rfl (by rw [ey4]; rfl) (Nat.le_of_ble_eq_true rfl) rfl ?_
    refine v_goto 24 4 hF dX3_eggs_24 (by decide) ?_
    exact hK4 _ _ _ h
theorem ds_X3_eggs : yX3_eggs.cls = yX3_eggs.cls ∧ yX3_eggs.cls ≠ "java/lang/invoke/MethodHandle" ∧ yX3_eggs.cls ≠ "java/lang/invoke/VarHandle" ∧ (parseMethodDescriptor yX3_eggs.desc).map (fun d => d.parameters.length) = some 0 := by decide +kernel
set_option maxHeartbeats 4000000 in
theorem c_X3_eggs (l : Launch) (D : va_G) (a : Nat → Nat) (σ : Nat → Nat → Int32) (Q : Int32 → (Nat → Nat → Int32) → Prop) (h : w_X3_eggs σ Q) : Cti l D yX3_eggs cX3_eggs 3 .int (rmk 0 0 0 0) [.ref (a 8)] (bkW D a σ) (bkW D a) Q 0 0 := by
  refine Cti.of (by decide) (Nat.le_of_ble_eq_true rfl) (fun x hF hR => ?_)
  replace hF : vF x l D "BrookWeirs$Clutches" cX3_eggs (rmk 0 0 0 0) 3 (some .int) := hF
  refine v_app0 ?_
  unfold w_X3_eggs at h
  refine v_iconst (v := 0) 0 hF dX3_eggs_0 (by decide) ?_
  refine v_istore_n [(0, .ref (a 8)), (1, .int ((0 : Int32)))] [1, 0] 1 hF dX3_eggs_1 rfl (Nat.le_of_ble_eq_true rfl) rfl ?_
  refine v_iconst (v := 0) 2 hF dX3_eggs_2 (by decide) ?_
  refine v_istore_n [(0, .ref (a 8)), (1, .int ((0 : Int32))), (2, .int ((0 : Int32)))] [1, 2, 0] 3 hF dX3_eggs_3 rfl (Nat.le_of_ble_eq_true rfl) rfl ?_
  exact vLoop (V := fun s => vV x 0 0 (bkW D a s.1 ++ []) [(0, .ref (a 8)), (1, .int s.2.1), (2, .int s.2.2)] 4 []) (fun K hK s hs => k_X3_eggs_L4 hF hR (fun v0 v1 v2 q => hK (v0, v1, v2) q) s.1 s.2.1 s.2.2 hs) _ h
def w_X2_level (σ : Nat → Nat → Int32) (x1 : Int32) (Q : Int32 → (Nat → Nat → Int32) → Prop) : Prop :=
  vp_in x1 6 ∧ vp_in x1 6 ∧ ¬ ((σ 0) x1.toNatClampNeg) = 0 ∧ Q ((((σ 4) x1.toNatClampNeg) / ((σ 0) x1.toNatClampNeg))) σ
theorem ds_X2_level : yX2_level.cls = yX2_level.cls ∧ yX2_level.cls ≠ "java/lang/invoke/MethodHandle" ∧ yX2_level.cls ≠ "java/lang/invoke/VarHandle" ∧ (parseMethodDescriptor yX2_level.desc).map (fun d => d.parameters.length) = some 1 := by decide +kernel
set_option maxHeartbeats 4000000 in
theorem c_X2_level (l : Launch) (D : va_G) (a : Nat → Nat) (σ : Nat → Nat → Int32) (x1 : Int32) (Q : Int32 → (Nat → Nat → Int32) → Prop) (h : w_X2_level σ x1 Q) : Cti l D yX2_level cX2_level 2 .int (rmk 0 0 0 0) [.ref (a 0), .int x1] (bkW D a σ) (bkW D a) Q 0 0 := by
  refine Cti.of (by decide) (Nat.le_of_ble_eq_true rfl) (fun x hF hR => ?_)
  replace hF : vF x l D "BrookWeirs$Brook" cX2_level (rmk 0 0 0 0) 2 (some .int) := hF
  refine v_app0 ?_
  unfold w_X2_level at h
  refine v_aload_n 0 hF dX2_level_0 rfl 0 rfl ?_
  refine B_get 1 4 hF (Nat.le_of_ble_eq_true rfl) q173 rfl rfl dX2_level_1 ?_
  refine v_iload_n 4 hF dX2_level_4 rfl 1 rfl ?_
  obtain ⟨o1, h⟩ := h
  refine B_ald4 5 hF o1 dX2_level_5 ?_
  refine v_aload_n 6 hF dX2_level_6 rfl 0 rfl ?_
  refine B_get 7 0 hF (Nat.le_of_ble_eq_true rfl) q165 rfl rfl dX2_level_7 ?_
  refine v_iload_n 10 hF dX2_level_10 rfl 1 rfl ?_
  obtain ⟨o2, h⟩ := h
  refine B_ald0 11 hF o2 dX2_level_11 ?_
  obtain ⟨o3, h⟩ := h
  refine v_idiv 12 hF dX2_level_12 o3 ?_
  exact v_iretA 13 hF hR (Nat.zero_le _) (Nat.zero_le _) dX2_level_13 h
def w_X2_isOpen (σ : Nat → Nat → Int32) (x1 : Int32) (Q : Int32 → (Nat → Nat → Int32) → Prop) : Prop :=
  w_X1_has ((σ 20 10)) x1 (fun r1 => w_X1_has ((σ 20 11)) x1 (fun r2 => w_X1_has ((σ 20 12)) x1 (fun r3 => ((r3 = 0 → ((r1 = 0 → Q ((0 : Int32)) σ) ∧ (¬ r1 = 0 → ((r2 = 0 → Q ((0 : Int32)) σ) ∧ (¬ r2 = 0 → Q ((1 : Int32)) σ))))) ∧ (¬ r3 = 0 → ((¬ r1 = 0 → Q ((1 : Int32)) σ) ∧ (r1 = 0 → ((r2 = 0 → Q ((0 : Int32)) σ) ∧ (¬ r2 = 0 → Q ((1 : Int32)) σ)))))))))
theorem ds_X2_isOpen : yX2_isOpen.cls = yX2_isOpen.cls ∧ yX2_isOpen.cls ≠ "java/lang/invoke/MethodHandle" ∧ yX2_isOpen.cls ≠ "java/lang/invoke/VarHandle" ∧ (parseMethodDescriptor yX2_isOpen.desc).map (fun d => d.parameters.length) = some 1 := by decide +kernel
set_option maxHeartbeats 4000000 in
theorem c_X2_isOpen (l : Launch) (D : va_G) (a : Nat → Nat) (σ : Nat → Nat → Int32) (x1 : Int32) (Q : Int32 → (Nat → Nat → Int32) → Prop) (h : w_X2_isOpen σ x1 Q) : Cti l D yX2_isOpen cX2_isOpen 4 .boolean (rmk 1 0 0 21) [.ref (a 0), .int x1] (bkW D a σ) (bkW D a) Q 0 0 := by
  refine Cti.of (by decide) (Nat.le_of_ble_eq_true rfl) (fun x hF hR => ?_)
  replace hF : vF x l D "BrookWeirs$Brook" cX2_isOpen (rmk 1 0 0 21) 4 (some .boolean) := hF
  refine v_app0 ?_
  unfold w_X2_isOpen at h
  refine v_aload_n 0 hF dX2_isOpen_0 rfl 0 rfl ?_
  refine B_get 1 10 hF (Nat.le_of_ble_eq_true rfl) q189 rfl rfl dX2_isOpen_1 ?_
  refine v_iload_n 4 hF dX2_isOpen_4 rfl 1 rfl ?_
  refine v_callS0Ni (As := [.int ((σ 20 10)), .int x1]) 5 hF (c_X1_has l D ((σ 20 10)) x1 _ h) q425 q426 q70 q427 ds_X1_has ⟨rfl, rfl, Nat.le_of_ble_eq_true rfl, Nat.le_of_ble_eq_true rfl⟩ (Nat.le_of_ble_eq_true rfl) ⟨Nat.zero_le _, Nat.zero_le _⟩ dX2_isOpen_5 (fun r1 h => ?_)
  refine v_istore_n [(0, .ref (a 0)), (1, .int x1), (2, .int r1)] [1, 2, 0] 8 hF dX2_isOpen_8 rfl (Nat.le_of_ble_eq_true rfl) rfl ?_
  refine v_aload_n 9 hF dX2_isOpen_9 rfl 0 rfl ?_
  refine B_get 10 11 hF (Nat.le_of_ble_eq_true rfl) q192 rfl rfl dX2_isOpen_10 ?_
  refine v_iload_n 13 hF dX2_isOpen_13 rfl 1 rfl ?_
  refine v_callS0Ni (As := [.int ((σ 20 11)), .int x1]) 14 hF (c_X1_has l D ((σ 20 11)) x1 _ h) q425 q426 q70 q427 ds_X1_has ⟨rfl, rfl, Nat.le_of_ble_eq_true rfl, Nat.le_of_ble_eq_true rfl⟩ (Nat.le_of_ble_eq_true rfl) ⟨Nat.zero_le _, Nat.zero_le _⟩ dX2_isOpen_14 (fun r2 h => ?_)
  refine v_istore_n [(0, .ref (a 0)), (1, .int x1), (2, .int r1), (3, .int r2)] [1, 2, 3, 0] 17 hF dX2_isOpen_17 rfl (Nat.le_of_ble_eq_true rfl) rfl ?_
  refine v_aload_n 18 hF dX2_isOpen_18 rfl 0 rfl ?_
  refine B_get 19 12 hF (Nat.le_of_ble_eq_true rfl) q194 rfl rfl dX2_isOpen_19 ?_
  refine v_iload_n 22 hF dX2_isOpen_22 rfl 1 rfl ?_
  refine v_callS0Ni (As := [.int ((σ 20 12)), .int x1]) 23 hF (c_X1_has l D ((σ 20 12)) x1 _ h) q425 q426 q70 q427 ds_X1_has ⟨rfl, rfl, Nat.le_of_ble_eq_true rfl, Nat.le_of_ble_eq_true rfl⟩ (Nat.le_of_ble_eq_true rfl) ⟨Nat.zero_le _, Nat.zero_le _⟩ dX2_isOpen_23 (fun r3 h => ?_)
  refine v_if_eq 26 45 hF dX2_isOpen_26 (by decide) (fun c4 => ?_) (fun c4 => ?_)
  · replace h := h.1 c4
    refine v_iload_n 45 hF dX2_isOpen_45 rfl 2 rfl ?_
    refine v_if_eq 46 57 hF dX2_isOpen_46 (by decide) (fun c5 => ?_) (fun c5 => ?_)
    · replace h := h.1 c5
      refine v_iconst (v := 0) 57 hF dX2_isOpen_57 (by decide) ?_
      exact v_zretA 58 hF hR (Nat.zero_le _) (Nat.zero_le _) rfl dX2_isOpen_58 h
    · replace h := h.2 c5
      refine v_iload_n 49 hF dX2_isOpen_49 rfl 3 rfl ?_
      refine v_if_eq 50 57 hF dX2_isOpen_50 (by decide) (fun c6 => ?_) (fun c6 => ?_)
      · replace h := h.1 c6
        refine v_iconst (v := 0) 57 hF dX2_isOpen_57 (by decide) ?_
        exact v_zretA 58 hF hR (Nat.zero_le _) (Nat.zero_le _) rfl dX2_isOpen_58 h
      · replace h := h.2 c6
        refine v_iconst (v := 1) 53 hF dX2_isOpen_53 (by decide) ?_
        refine v_goto 54 58 hF dX2_isOpen_54 (by decide) ?_
        exact v_zretA 58 hF hR (Nat.zero_le _) (Nat.zero_le _) rfl dX2_isOpen_58 h
  · replace h := h.2 c4
    refine v_iload_n 29 hF dX2_isOpen_29 rfl 2 rfl ?_
    refine v_if_ne 30 37 hF dX2_isOpen_30 (by decide) (fun c7 => ?_) (fun c7 => ?_)
    · replace h := h.1 c7
      refine v_iconst (v := 1) 37 hF dX2_isOpen_37 (by decide) ?_
      refine v_goto 38 58 hF dX2_isOpen_38 (by decide) ?_
      exact v_zretA 58 hF hR (Nat.zero_le _) (Nat.zero_le _) rfl dX2_isOpen_58 h
    · replace h := h.2 c7
      refine v_iload_n 33 hF dX2_isOpen_33 rfl 3 rfl ?_
      refine v_if_eq 34 41 hF dX2_isOpen_34 (by decide) (fun c8 => ?_) (fun c8 => ?_)
      · replace h := h.1 c8
        refine v_iconst (v := 0) 41 hF dX2_isOpen_41 (by decide) ?_
        refine v_goto 42 58 hF dX2_isOpen_42 (by decide) ?_
        exact v_zretA 58 hF hR (Nat.zero_le _) (Nat.zero_le _) rfl dX2_isOpen_58 h
      · replace h := h.2 c8
        refine v_iconst (v := 1) 37 hF dX2_isOpen_37 (by decide) ?_
        refine v_goto 38 58 hF dX2_isOpen_38 (by decide) ?_
        exact v_zretA 58 hF hR (Nat.zero_le _) (Nat.zero_le _) rfl dX2_isOpen_58 h
def w_X2_down_J25 (Q : Int32 → (Nat → Nat → Int32) → Prop)  (σ : Nat → Nat → Int32) (x1 s0 : Int32) : Prop :=
  vp_in x1 6 ∧ Q ((if (0 : Int32) < (if (((σ 4) x1.toNatClampNeg) - s0) < (20 : Int32) then (((σ 4) x1.toNatClampNeg) - s0) else (20 : Int32)) then (if (((σ 4) x1.toNatClampNeg) - s0) < (20 : Int32) then (((σ 4) x1.toNatClampNeg) - s0) else (20 : Int32)) else (0 : Int32))) σ
def w_X2_down (σ : Nat → Nat → Int32) (x1 : Int32) (Q : Int32 → (Nat → Nat → Int32) → Prop) : Prop :=
  w_X2_isOpen σ x1 (fun r2 t3 => ((r2 = 0 → vp_in x1 6 ∧ vp_in x1 6 ∧ w_X2_down_J25 Q t3 x1 ((((t3 3) x1.toNatClampNeg) * ((t3 0) x1.toNatClampNeg)))) ∧ (¬ r2 = 0 → w_X2_down_J25 Q t3 x1 ((0 : Int32)))))
set_option maxHeartbeats 4000000 in
theorem k_X2_down_J25 {x : vC} {l : Launch} {D : va_G} {a : Nat → Nat}  {Q : Int32 → (Nat → Nat → Int32) → Prop} (hF : vF x l D "BrookWeirs$Brook" cX2_down (rmk 2 0 0 64) 3 (some .int)) (hR : vRi x (bkW D a) Q 0 0)   : ∀ (σ : Nat → Nat → Int32) (x1 s0 : Int32), w_X2_down_J25 Q  σ x1 s0 → vV x 0 0 (bkW D a σ ++ []) [(0, .ref (a 0)), (1, .int x1)] 25 [.int s0] := by
  intro σ x1 s0 h
  unfold w_X2_down_J25 at h
  refine v_istore_n [(0, .ref (a 0)), (1, .int x1), (2, .int s0)] [1, 2, 0] 25 hF dX2_down_25 rfl (Nat.le_of_ble_eq_true rfl) rfl ?_
  refine v_iconst (v := 0) 26 hF dX2_down_26 (by decide) ?_
  refine v_bipush (v := 20) 27 hF dX2_down_27 (by decide) ?_
  refine v_aload_n 29 hF dX2_down_29 rfl 0 rfl ?_
  refine B_get 30 4 hF (Nat.le_of_ble_eq_true rfl) q173 rfl rfl dX2_down_30 ?_
  refine v_iload_n 33 hF dX2_down_33 rfl 1 rfl ?_
  obtain ⟨o1, h⟩ := h
  refine B_ald4 34 hF o1 dX2_down_34 ?_
  refine v_iload_n 35 hF dX2_down_35 rfl 2 rfl ?_
  refine v_isub 36 hF dX2_down_36 ?_
  refine v_mmin 37 hF q428 q429 q92 q430 (Nat.le_of_ble_eq_true rfl) (Nat.le_of_ble_eq_true rfl) ⟨Nat.zero_le _, Nat.zero_le _⟩ dX2_down_37 ?_
  refine v_mmax 40 hF q431 q432 q92 q433 (Nat.le_of_ble_eq_true rfl) (Nat.le_of_ble_eq_true rfl) ⟨Nat.zero_le _, Nat.zero_le _⟩ dX2_down_40 ?_
  exact v_iretA 43 hF hR (Nat.zero_le _) (Nat.zero_le _) dX2_down_43 h
theorem ds_X2_down : yX2_down.cls = yX2_down.cls ∧ yX2_down.cls ≠ "java/lang/invoke/MethodHandle" ∧ yX2_down.cls ≠ "java/lang/invoke/VarHandle" ∧ (parseMethodDescriptor yX2_down.desc).map (fun d => d.parameters.length) = some 1 := by decide +kernel
set_option maxHeartbeats 4000000 in
theorem c_X2_down (l : Launch) (D : va_G) (a : Nat → Nat) (σ : Nat → Nat → Int32) (x1 : Int32) (Q : Int32 → (Nat → Nat → Int32) → Prop) (h : w_X2_down σ x1 Q) : Cti l D yX2_down cX2_down 3 .int (rmk 2 0 0 64) [.ref (a 0), .int x1] (bkW D a σ) (bkW D a) Q 0 0 := by
  refine Cti.of (by decide) (Nat.le_of_ble_eq_true rfl) (fun x hF hR => ?_)
  replace hF : vF x l D "BrookWeirs$Brook" cX2_down (rmk 2 0 0 64) 3 (some .int) := hF
  refine v_app0 ?_
  unfold w_X2_down at h
  refine v_aload_n 0 hF dX2_down_0 rfl 0 rfl ?_
  refine v_iload_n 1 hF dX2_down_1 rfl 1 rfl ?_
  refine v_callVi (As := [.int x1]) 2 hF (c_X2_isOpen l D a σ x1 _ h) (List.Perm.refl _) ⟨0, 6, _, TX2, 24, rfl, rfl⟩ q421 q422 q423 q71 q424 ds_X2_isOpen ⟨rfl, rfl, Nat.le_of_ble_eq_true rfl, Nat.le_of_ble_eq_true rfl⟩ (Nat.le_of_ble_eq_true rfl) ⟨Nat.zero_le _, Nat.zero_le _⟩ dX2_down_2 (fun r2 t3 h => ?_)
  refine v_if_eq 5 12 hF dX2_down_5 (by decide) (fun c4 => ?_) (fun c4 => ?_)
  · replace h := h.1 c4
    refine v_aload_n 12 hF dX2_down_12 rfl 0 rfl ?_
    refine B_get 13 3 hF (Nat.le_of_ble_eq_true rfl) q171 rfl rfl dX2_down_13 ?_
    refine v_iload_n 16 hF dX2_down_16 rfl 1 rfl ?_
    obtain ⟨o5, h⟩ := h
    refine B_ald3 17 hF o5 dX2_down_17 ?_
    refine v_aload_n 18 hF dX2_down_18 rfl 0 rfl ?_
    refine B_get 19 0 hF (Nat.le_of_ble_eq_true rfl) q165 rfl rfl dX2_down_19 ?_
    refine v_iload_n 22 hF dX2_down_22 rfl 1 rfl ?_
    obtain ⟨o6, h⟩ := h
    refine B_ald0 23 hF o6 dX2_down_23 ?_
    refine v_imul 24 hF dX2_down_24 ?_
    exact k_X2_down_J25 hF hR _ _ _ h
  · replace h := h.2 c4
    refine v_iconst (v := 0) 8 hF dX2_down_8 (by decide) ?_
    refine v_goto 9 25 hF dX2_down_9 (by decide) ?_
    exact k_X2_down_J25 hF hR _ _ _ h
def w_X2_isCalling (σ : Nat → Nat → Int32) (x1 : Int32) (Q : Int32 → (Nat → Nat → Int32) → Prop) : Prop :=
  vp_in x1 6 ∧ ((((σ 5) x1.toNatClampNeg) ≤ 0 → Q ((0 : Int32)) σ) ∧ (¬ ((σ 5) x1.toNatClampNeg) ≤ 0 → w_X2_level σ x1 (fun r3 t4 => vp_in x1 6 ∧ w_X1_inRange r3 ((2 : Int32)) (((t4 1) x1.toNatClampNeg)) (fun r6 => ((r6 = 0 → Q ((0 : Int32)) t4) ∧ (¬ r6 = 0 → Q ((1 : Int32)) t4))))))
theorem ds_X2_isCalling : yX2_isCalling.cls = yX2_isCalling.cls ∧ yX2_isCalling.cls ≠ "java/lang/invoke/MethodHandle" ∧ yX2_isCalling.cls ≠ "java/lang/invoke/VarHandle" ∧ (parseMethodDescriptor yX2_isCalling.desc).map (fun d => d.parameters.length) = some 1 := by decide +kernel
set_option maxHeartbeats 4000000 in
theorem c_X2_isCalling (l : Launch) (D : va_G) (a : Nat → Nat) (σ : Nat → Nat → Int32) (x1 : Int32) (Q : Int32 → (Nat → Nat → Int32) → Prop) (h : w_X2_isCalling σ x1 Q) : Cti l D yX2_isCalling cX2_isCalling 2 .boolean (rmk 1 0 0 22) [.ref (a 0), .int x1] (bkW D a σ) (bkW D a) Q 0 0 := by
  refine Cti.of (by decide) (Nat.le_of_ble_eq_true rfl) (fun x hF hR => ?_)
  replace hF : vF x l D "BrookWeirs$Brook" cX2_isCalling (rmk 1 0 0 22) 2 (some .boolean) := hF
  refine v_app0 ?_
  unfold w_X2_isCalling at h
  refine v_aload_n 0 hF dX2_isCalling_0 rfl 0 rfl ?_
  refine B_get 1 5 hF (Nat.le_of_ble_eq_true rfl) q175 rfl rfl dX2_isCalling_1 ?_
  refine v_iload_n 4 hF dX2_isCalling_4 rfl 1 rfl ?_
  obtain ⟨o1, h⟩ := h
  refine B_ald5 5 hF o1 dX2_isCalling_5 ?_
  refine v_if_le 6 31 hF dX2_isCalling_6 (by decide) (fun c2 => ?_) (fun c2 => ?_)
  · replace h := h.1 c2
    refine v_iconst (v := 0) 31 hF dX2_isCalling_31 (by decide) ?_
    exact v_zretA 32 hF hR (Nat.zero_le _) (Nat.zero_le _) rfl dX2_isCalling_32 h
  · replace h := h.2 c2
    refine v_aload_n 9 hF dX2_isCalling_9 rfl 0 rfl ?_
    refine v_iload_n 10 hF dX2_isCalling_10 rfl 1 rfl ?_
    refine v_callVi (As := [.int x1]) 11 hF (c_X2_level l D a σ x1 _ h) (List.Perm.refl _) ⟨0, 6, _, TX2, 24, rfl, rfl⟩ q442 q443 q444 q71 q445 ds_X2_level ⟨rfl, rfl, Nat.le_of_ble_eq_true rfl, Nat.le_of_ble_eq_true rfl⟩ (Nat.le_of_ble_eq_true rfl) ⟨Nat.zero_le _, Nat.zero_le _⟩ dX2_isCalling_11 (fun r3 t4 h => ?_)
    refine v_iconst (v := 2) 14 hF dX2_isCalling_14 (by decide) ?_
    refine v_aload_n 15 hF dX2_isCalling_15 rfl 0 rfl ?_
    refine B_get 16 1 hF (Nat.le_of_ble_eq_true rfl) q167 rfl rfl dX2_isCalling_16 ?_
    refine v_iload_n 19 hF dX2_isCalling_19 rfl 1 rfl ?_
    obtain ⟨o5, h⟩ := h
    refine B_ald1 20 hF o5 dX2_isCalling_20 ?_
    refine v_callS0Ni (As := [.int r3, .int ((2 : Int32)), .int (((t4 1) x1.toNatClampNeg))]) 21 hF (c_X1_inRange l D r3 ((2 : Int32)) (((t4 1) x1.toNatClampNeg)) _ h) q474 q475 q70 q476 ds_X1_inRange ⟨rfl, rfl, Nat.le_of_ble_eq_true rfl, Nat.le_of_ble_eq_true rfl⟩ (Nat.le_of_ble_eq_true rfl) ⟨Nat.zero_le _, Nat.zero_le _⟩ dX2_isCalling_21 (fun r6 h => ?_)
    refine v_if_eq 24 31 hF dX2_isCalling_24 (by decide) (fun c7 => ?_) (fun c7 => ?_)
    · replace h := h.1 c7
      refine v_iconst (v := 0) 31 hF dX2_isCalling_31 (by decide) ?_
      exact v_zretA 32 hF hR (Nat.zero_le _) (Nat.zero_le _) rfl dX2_isCalling_32 h
    · replace h := h.2 c7
      refine v_iconst (v := 1) 27 hF dX2_isCalling_27 (by decide) ?_
      refine v_goto 28 32 hF dX2_isCalling_28 (by decide) ?_
      exact v_zretA 32 hF hR (Nat.zero_le _) (Nat.zero_le _) rfl dX2_isCalling_32 h
def w_X2_passes (σ : Nat → Nat → Int32) (x1 x2 : Int32) (Q : (Nat → Nat → Int32) → Prop) : Prop :=
  vp_in x1 6 ∧ vp_in x1 6 ∧ ∀ t3 : Nat → Nat → Int32, t3 = (upN σ 4 x1.toNatClampNeg (((σ 4) x1.toNatClampNeg) - x2)) → (((t3 20 8) ≤ (x1 + (1 : Int32)) → ∀ t5 : Nat → Nat → Int32, t5 = (upN t3 20 17 ((t3 20 17) + x2)) → Q t5) ∧ (¬ (t3 20 8) ≤ (x1 + (1 : Int32)) → vp_in ((x1 + (1 : Int32))) 6 ∧ vp_in ((x1 + (1 : Int32))) 6 ∧ ∀ t8 : Nat → Nat → Int32, t8 = (upN t3 4 ((x1 + (1 : Int32))).toNatClampNeg (((t3 4) ((x1 + (1 : Int32))).toNatClampNeg) + x2)) → Q t8))
theorem ds_X2_passes : yX2_passes.cls = yX2_passes.cls ∧ yX2_passes.cls ≠ "java/lang/invoke/MethodHandle" ∧ yX2_passes.cls ≠ "java/lang/invoke/VarHandle" ∧ (parseMethodDescriptor yX2_passes.desc).map (fun d => d.parameters.length) = some 2 := by decide +kernel
set_option maxHeartbeats 4000000 in
theorem c_X2_passes (l : Launch) (D : va_G) (a : Nat → Nat) (σ : Nat → Nat → Int32) (x1 x2 : Int32) (Q : (Nat → Nat → Int32) → Prop) (h : w_X2_passes σ x1 x2 Q) : Ctv l D yX2_passes cX2_passes 3 (rmk 0 0 0 0) [.ref (a 0), .int x1, .int x2] (bkW D a σ) (bkW D a) Q 0 0 := by
  refine Ctv.of (by decide) (Nat.le_of_ble_eq_true rfl) (fun x hF hR => ?_)
  replace hF : vF x l D "BrookWeirs$Brook" cX2_passes (rmk 0 0 0 0) 3 none := hF
  refine v_app0 ?_
  unfold w_X2_passes at h
  refine v_aload_n 0 hF dX2_passes_0 rfl 0 rfl ?_
  refine B_get 1 4 hF (Nat.le_of_ble_eq_true rfl) q173 rfl rfl dX2_passes_1 ?_
  refine v_iload_n 4 hF dX2_passes_4 rfl 1 rfl ?_
  refine v_dup2 5 hF dX2_passes_5 rfl rfl ?_
  obtain ⟨o1, h⟩ := h
  refine B_ald4 6 hF o1 dX2_passes_6 ?_
  refine v_iload_n 7 hF dX2_passes_7 rfl 2 rfl ?_
  refine v_isub 8 hF dX2_passes_8 ?_
  obtain ⟨o2, h⟩ := h
  refine B_ast4 9 hF o2 dX2_passes_9 (fun t3 et3 => ?_)
  replace h := h t3 et3
  refine v_iload_n 10 hF dX2_passes_10 rfl 1 rfl ?_
  refine v_iconst (v := 1) 11 hF dX2_passes_11 (by decide) ?_
  refine v_iadd 12 hF dX2_passes_12 ?_
  refine v_aload_n 13 hF dX2_passes_13 rfl 0 rfl ?_
  refine B_get 14 8 hF (Nat.le_of_ble_eq_true rfl) q183 rfl rfl dX2_passes_14 ?_
  refine v_icmp_ge 17 35 hF dX2_passes_17 (by decide) (fun c4 => ?_) (fun c4 => ?_)
  · replace h := h.1 c4
    refine v_aload_n 35 hF dX2_passes_35 rfl 0 rfl ?_
    refine v_dup 36 hF dX2_passes_36 rfl ?_
    refine B_get 37 17 hF (Nat.le_of_ble_eq_true rfl) q204 rfl rfl dX2_passes_37 ?_
    refine v_iload_n 40 hF dX2_passes_40 rfl 2 rfl ?_
    refine v_iadd 41 hF dX2_passes_41 ?_
    refine B_put17 42 hF q204 dX2_passes_42 (fun t5 et5 => ?_)
    replace h := h t5 et5
    exact v_vretA 45 hF hR (Nat.zero_le _) (Nat.zero_le _) dX2_passes_45 h
  · replace h := h.2 c4
    refine v_aload_n 20 hF dX2_passes_20 rfl 0 rfl ?_
    refine B_get 21 4 hF (Nat.le_of_ble_eq_true rfl) q173 rfl rfl dX2_passes_21 ?_
    refine v_iload_n 24 hF dX2_passes_24 rfl 1 rfl ?_
    refine v_iconst (v := 1) 25 hF dX2_passes_25 (by decide) ?_
    refine v_iadd 26 hF dX2_passes_26 ?_
    refine v_dup2 27 hF dX2_passes_27 rfl rfl ?_
    obtain ⟨o6, h⟩ := h
    refine B_ald4 28 hF o6 dX2_passes_28 ?_
    refine v_iload_n 29 hF dX2_passes_29 rfl 2 rfl ?_
    refine v_iadd 30 hF dX2_passes_30 ?_
    obtain ⟨o7, h⟩ := h
    refine B_ast4 31 hF o7 dX2_passes_31 (fun t8 et8 => ?_)
    replace h := h t8 et8
    refine v_goto 32 45 hF dX2_passes_32 (by decide) ?_
    exact v_vretA 45 hF hR (Nat.zero_le _) (Nat.zero_le _) dX2_passes_45 h
def w_X2_setLatch_J42 (Q : Int32 → (Nat → Nat → Int32) → Prop)  (σ : Nat → Nat → Int32) (x1 x2 x3 x4 s1 : Int32) : Prop :=
  ∀ t1 : Nat → Nat → Int32, t1 = (upN σ 20 10 s1) → ((x2 = 0 → w_X1_with ((t1 20 11)) x1 x3 (fun r3 => ∀ t4 : Nat → Nat → Int32, t4 = (upN t1 20 11 r3) → (x4 = 0 ∨ x4 = 1) ∧ Q x4 t4)) ∧ (¬ x2 = 0 → ∀ t6 : Nat → Nat → Int32, t6 = (upN t1 20 11 (t1 20 11)) → (x4 = 0 ∨ x4 = 1) ∧ Q x4 t6))
def w_X2_setLatch_J15 (Q : Int32 → (Nat → Nat → Int32) → Prop)  (σ : Nat → Nat → Int32) (x1 x2 x3 s0 : Int32) : Prop :=
  w_X1_has s0 x1 (fun r8 => ((x2 = 0 → w_X2_setLatch_J42 Q σ x1 x2 x3 r8 ((σ 20 10))) ∧ (¬ x2 = 0 → w_X1_with ((σ 20 10)) x1 x3 (fun r10 => w_X2_setLatch_J42 Q σ x1 x2 x3 r8 r10))))
def w_X2_setLatch (σ : Nat → Nat → Int32) (x1 x2 x3 : Int32) (Q : Int32 → (Nat → Nat → Int32) → Prop) : Prop :=
  ((x2 = 0 → w_X2_setLatch_J15 Q σ x1 x2 x3 ((σ 20 11))) ∧ (¬ x2 = 0 → w_X2_setLatch_J15 Q σ x1 x2 x3 ((σ 20 10))))
set_option maxHeartbeats 4000000 in
theorem k_X2_setLatch_J42 {x : vC} {l : Launch} {D : va_G} {a : Nat → Nat}  {Q : Int32 → (Nat → Nat → Int32) → Prop} (hF : vF x l D "BrookWeirs$Brook" cX2_setLatch (rmk 1 0 0 22) 5 (some .boolean)) (hR : vRi x (bkW D a) Q 0 0)   : ∀ (σ : Nat → Nat → Int32) (x1 x2 x3 x4 s1 : Int32), w_X2_setLatch_J42 Q  σ x1 x2 x3 x4 s1 → vV x 0 0 (bkW D a σ ++ []) [(0, .ref (a 0)), (1, .int x1), (2, .int x2), (3, .int x3), (4, .int x4)] 42 [.int s1, .ref (a 0)] := by
  intro σ x1 x2 x3 x4 s1 h
  unfold w_X2_setLatch_J42 at h
  refine B_put10 42 hF q189 dX2_setLatch_42 (fun t1 et1 => ?_)
  replace h := h t1 et1
  refine v_aload_n 45 hF dX2_setLatch_45 rfl 0 rfl ?_
  refine v_iload_n 46 hF dX2_setLatch_46 rfl 2 rfl ?_
  refine v_if_eq 47 57 hF dX2_setLatch_47 (by decide) (fun c2 => ?_) (fun c2 => ?_)
  · replace h := h.1 c2
    refine v_aload_n 57 hF dX2_setLatch_57 rfl 0 rfl ?_
    refine B_get 58 11 hF (Nat.le_of_ble_eq_true rfl) q192 rfl rfl dX2_setLatch_58 ?_
    refine v_iload_n 61 hF dX2_setLatch_61 rfl 1 rfl ?_
    refine v_iload_n 62 hF dX2_setLatch_62 rfl 3 rfl ?_
    refine v_callS0Ni (As := [.int ((t1 20 11)), .int x1, .int x3]) 63 hF (c_X1_with l D ((t1 20 11)) x1 x3 _ h) q866 q851 q70 q852 ds_X1_with ⟨rfl, rfl, Nat.le_of_ble_eq_true rfl, Nat.le_of_ble_eq_true rfl⟩ (Nat.le_of_ble_eq_true rfl) ⟨Nat.zero_le _, Nat.zero_le _⟩ dX2_setLatch_63 (fun r3 h => ?_)
    refine B_put11 66 hF q192 dX2_setLatch_66 (fun t4 et4 => ?_)
    replace h := h t4 et4
    refine v_iload 69 hF dX2_setLatch_69 4 rfl ?_
    obtain ⟨o5, h⟩ := h
    exact v_zretA 71 hF hR (Nat.zero_le _) (Nat.zero_le _) (vbo_n o5) dX2_setLatch_71 h
  · replace h := h.2 c2
    refine v_aload_n 50 hF dX2_setLatch_50 rfl 0 rfl ?_
    refine B_get 51 11 hF (Nat.le_of_ble_eq_true rfl) q192 rfl rfl dX2_setLatch_51 ?_
    refine v_goto 54 66 hF dX2_setLatch_54 (by decide) ?_
    refine B_put11 66 hF q192 dX2_setLatch_66 (fun t6 et6 => ?_)
    replace h := h t6 et6
    refine v_iload 69 hF dX2_setLatch_69 4 rfl ?_
    obtain ⟨o7, h⟩ := h
    exact v_zretA 71 hF hR (Nat.zero_le _) (Nat.zero_le _) (vbo_n o7) dX2_setLatch_71 h
set_option maxHeartbeats 4000000 in
theorem k_X2_setLatch_J15 {x : vC} {l : Launch} {D : va_G} {a : Nat → Nat}  {Q : Int32 → (Nat → Nat → Int32) → Prop} (hF : vF x l D "BrookWeirs$Brook" cX2_setLatch (rmk 1 0 0 22) 5 (some .boolean)) (hR : vRi x (bkW D a) Q 0 0)   : ∀ (σ : Nat → Nat → Int32) (x1 x2 x3 s0 : Int32), w_X2_setLatch_J15 Q  σ x1 x2 x3 s0 → vV x 0 0 (bkW D a σ ++ []) [(0, .ref (a 0)), (1, .int x1), (2, .int x2), (3, .int x3)] 15 [.int s0] := by
  intro σ x1 x2 x3 s0 h
  unfold w_X2_setLatch_J15 at h
  refine v_iload_n 15 hF dX2_setLatch_15 rfl 1 rfl ?_
  refine v_callS0Ni (As := [.int s0, .int x1]) 16 hF (c_X1_has l D s0 x1 _ h) q425 q426 q70 q427 ds_X1_has ⟨rfl, rfl, Nat.le_of_ble_eq_true rfl, Nat.le_of_ble_eq_true rfl⟩ (Nat.le_of_ble_eq_true rfl) ⟨Nat.zero_le _, Nat.zero_le _⟩ dX2_setLatch_16 (fun r8 h => ?_)
  refine v_istore [(0, .ref (a 0)), (1, .int x1), (2, .int x2), (3, .int x3), (4, .int r8)] [1, 2, 3, 4, 0] 19 hF dX2_setLatch_19 (Nat.le_of_ble_eq_true rfl) rfl ?_
  refine v_aload_n 21 hF dX2_setLatch_21 rfl 0 rfl ?_
  refine v_iload_n 22 hF dX2_setLatch_22 rfl 2 rfl ?_
  refine v_if_eq 23 38 hF dX2_setLatch_23 (by decide) (fun c9 => ?_) (fun c9 => ?_)
  · replace h := h.1 c9
    refine v_aload_n 38 hF dX2_setLatch_38 rfl 0 rfl ?_
    refine B_get 39 10 hF (Nat.le_of_ble_eq_true rfl) q189 rfl rfl dX2_setLatch_39 ?_
    exact k_X2_setLatch_J42 hF hR _ _ _ _ _ _ h
  · replace h := h.2 c9
    refine v_aload_n 26 hF dX2_setLatch_26 rfl 0 rfl ?_
    refine B_get 27 10 hF (Nat.le_of_ble_eq_true rfl) q189 rfl rfl dX2_setLatch_27 ?_
    refine v_iload_n 30 hF dX2_setLatch_30 rfl 1 rfl ?_
    refine v_iload_n 31 hF dX2_setLatch_31 rfl 3 rfl ?_
    refine v_callS0Ni (As := [.int ((σ 20 10)), .int x1, .int x3]) 32 hF (c_X1_with l D ((σ 20 10)) x1 x3 _ h) q866 q851 q70 q852 ds_X1_with ⟨rfl, rfl, Nat.le_of_ble_eq_true rfl, Nat.le_of_ble_eq_true rfl⟩ (Nat.le_of_ble_eq_true rfl) ⟨Nat.zero_le _, Nat.zero_le _⟩ dX2_setLatch_32 (fun r10 h => ?_)
    refine v_goto 35 42 hF dX2_setLatch_35 (by decide) ?_
    exact k_X2_setLatch_J42 hF hR _ _ _ _ _ _ h
theorem ds_X2_setLatch : yX2_setLatch.cls = yX2_setLatch.cls ∧ yX2_setLatch.cls ≠ "java/lang/invoke/MethodHandle" ∧ yX2_setLatch.cls ≠ "java/lang/invoke/VarHandle" ∧ (parseMethodDescriptor yX2_setLatch.desc).map (fun d => d.parameters.length) = some 3 := by decide +kernel
set_option maxHeartbeats 4000000 in
theorem c_X2_setLatch (l : Launch) (D : va_G) (a : Nat → Nat) (σ : Nat → Nat → Int32) (x1 x2 x3 : Int32) (Q : Int32 → (Nat → Nat → Int32) → Prop) (h : w_X2_setLatch σ x1 x2 x3 Q) : Cti l D yX2_setLatch cX2_setLatch 5 .boolean (rmk 1 0 0 22) [.ref (a 0), .int x1, .int x2, .int x3] (bkW D a σ) (bkW D a) Q 0 0 := by
  refine Cti.of (by decide) (Nat.le_of_ble_eq_true rfl) (fun x hF hR => ?_)
  replace hF : vF x l D "BrookWeirs$Brook" cX2_setLatch (rmk 1 0 0 22) 5 (some .boolean) := hF
  refine v_app0 ?_
  unfold w_X2_setLatch at h
  refine v_iload_n 0 hF dX2_setLatch_0 rfl 2 rfl ?_
  refine v_if_eq 1 11 hF dX2_setLatch_1 (by decide) (fun c11 => ?_) (fun c11 => ?_)
  · replace h := h.1 c11
    refine v_aload_n 11 hF dX2_setLatch_11 rfl 0 rfl ?_
    refine B_get 12 11 hF (Nat.le_of_ble_eq_true rfl) q192 rfl rfl dX2_setLatch_12 ?_
    exact k_X2_setLatch_J15 hF hR _ _ _ _ _ h
  · replace h := h.2 c11
    refine v_aload_n 4 hF dX2_setLatch_4 rfl 0 rfl ?_
    refine B_get 5 10 hF (Nat.le_of_ble_eq_true rfl) q189 rfl rfl dX2_setLatch_5 ?_
    refine v_goto 8 15 hF dX2_setLatch_8 (by decide) ?_
    exact k_X2_setLatch_J15 hF hR _ _ _ _ _ h
def w_X2_nextRain (σ : Nat → Nat → Int32) (Q : Int32 → (Nat → Nat → Int32) → Prop) : Prop :=
  ((¬ (σ 20 9) = 0 → vp_in ((0 : Int32)) 30 ∧ ∀ y3 : Int32, y3 = ((σ 6) ((0 : Int32)).toNatClampNeg) → ∀ t4 : Nat → Nat → Int32, t4 = (upN σ 20 9 ((σ 20 9) - (1 : Int32))) → ¬ (1 : Int32) < 0 ∧ ¬ (0 : Int32) < 0 ∧ ¬ (t4 20 9) < 0 ∧ ((1 : Int32)).toNatClampNeg + ((t4 20 9)).toNatClampNeg ≤ 30 ∧ ((0 : Int32)).toNatClampNeg + ((t4 20 9)).toNatClampNeg ≤ 30 ∧ ∀ t10 : Nat → Nat → Int32, t10 = upR t4 6 (va_cpy (t4 6) (t4 6) ((1 : Int32)).toNatClampNeg ((0 : Int32)).toNatClampNeg ((t4 20 9)).toNatClampNeg) → Q y3 t10) ∧ ((σ 20 9) = 0 → Q ((0 : Int32)) σ))
theorem ds_X2_nextRain : yX2_nextRain.cls = yX2_nextRain.cls ∧ yX2_nextRain.cls ≠ "java/lang/invoke/MethodHandle" ∧ yX2_nextRain.cls ≠ "java/lang/invoke/VarHandle" ∧ (parseMethodDescriptor yX2_nextRain.desc).map (fun d => d.parameters.length) = some 0 := by decide +kernel
set_option maxHeartbeats 4000000 in
theorem c_X2_nextRain (l : Launch) (D : va_G) (a : Nat → Nat) (σ : Nat → Nat → Int32) (Q : Int32 → (Nat → Nat → Int32) → Prop) (h : w_X2_nextRain σ Q) : Cti l D yX2_nextRain cX2_nextRain 2 .int (rmk 1 0 0 64) [.ref (a 0)] (bkW D a σ) (bkW D a) Q 0 0 := by
  refine Cti.of (by decide) (Nat.le_of_ble_eq_true rfl) (fun x hF hR => ?_)
  replace hF : vF x l D "BrookWeirs$Brook" cX2_nextRain (rmk 1 0 0 64) 2 (some .int) := hF
  refine v_app0 ?_
  unfold w_X2_nextRain at h
  refine v_aload_n 0 hF dX2_nextRain_0 rfl 0 rfl ?_
  refine B_get 1 9 hF (Nat.le_of_ble_eq_true rfl) q186 rfl rfl dX2_nextRain_1 ?_
  refine v_if_ne 4 9 hF dX2_nextRain_4 (by decide) (fun c1 => ?_) (fun c1 => ?_)
  · replace h := h.1 c1
    refine v_aload_n 9 hF dX2_nextRain_9 rfl 0 rfl ?_
    refine B_get 10 6 hF (Nat.le_of_ble_eq_true rfl) q178 rfl rfl dX2_nextRain_10 ?_
    refine v_iconst (v := 0) 13 hF dX2_nextRain_13 (by decide) ?_
    obtain ⟨o2, h⟩ := h
    refine B_ald6 14 hF o2 dX2_nextRain_14 ?_
    refine v_nm (fun y3 ey3 => ?_)
    replace h := h y3 ey3
    refine v_istore_n [(0, .ref (a 0)), (1, .int y3)] [1, 0] 15 hF dX2_nextRain_15 rfl (Nat.le_of_ble_eq_true rfl) rfl ?_
    refine v_aload_n 16 hF dX2_nextRain_16 rfl 0 rfl ?_
    refine v_dup 17 hF dX2_nextRain_17 rfl ?_
    refine B_get 18 9 hF (Nat.le_of_ble_eq_true rfl) q186 rfl rfl dX2_nextRain_18 ?_
    refine v_iconst (v := 1) 21 hF dX2_nextRain_21 (by decide) ?_
    refine v_isub 22 hF dX2_nextRain_22 ?_
    refine B_put9 23 hF q186 dX2_nextRain_23 (fun t4 et4 => ?_)
    replace h := h t4 et4
    refine v_aload_n 26 hF dX2_nextRain_26 rfl 0 rfl ?_
    refine B_get 27 6 hF (Nat.le_of_ble_eq_true rfl) q178 rfl rfl dX2_nextRain_27 ?_
    refine v_iconst (v := 1) 30 hF dX2_nextRain_30 (by decide) ?_
    refine v_aload_n 31 hF dX2_nextRain_31 rfl 0 rfl ?_
    refine B_get 32 6 hF (Nat.le_of_ble_eq_true rfl) q178 rfl rfl dX2_nextRain_32 ?_
    refine v_iconst (v := 0) 35 hF dX2_nextRain_35 (by decide) ?_
    refine v_aload_n 36 hF dX2_nextRain_36 rfl 0 rfl ?_
    refine B_get 37 9 hF (Nat.le_of_ble_eq_true rfl) q186 rfl rfl dX2_nextRain_37 ?_
    obtain ⟨o5, o6, o7, o8, o9, h⟩ := h
    refine B_cpy6_6 40 hF q410 o5 o6 o7 o8 o9 (Nat.le_of_ble_eq_true rfl) (Nat.le_of_ble_eq_true rfl) dX2_nextRain_40 (fun t10 et10 => ?_)
    replace h := h t10 et10
    refine v_iload_n 43 hF dX2_nextRain_43 rfl 1 rfl ?_
    exact v_iretA 44 hF hR (Nat.zero_le _) (Nat.zero_le _) dX2_nextRain_44 h
  · replace h := h.2 c1
    refine v_iconst (v := 0) 7 hF dX2_nextRain_7 (by decide) ?_
    exact v_iretA 8 hF hR (Nat.zero_le _) (Nat.zero_le _) dX2_nextRain_8 h
def w_X2_rains (σ : Nat → Nat → Int32) (x1 : Int32) (Q : (Nat → Nat → Int32) → Prop) : Prop :=
  ∀ t1 : Nat → Nat → Int32, t1 = (upN σ 20 16 ((σ 20 16) + x1)) → (((t1 20 8) ≤ 0 → ∀ t3 : Nat → Nat → Int32, t3 = (upN t1 20 17 ((t1 20 17) + x1)) → Q t3) ∧ (¬ (t1 20 8) ≤ 0 → vp_in ((0 : Int32)) 6 ∧ vp_in ((0 : Int32)) 6 ∧ ∀ t6 : Nat → Nat → Int32, t6 = (upN t1 4 ((0 : Int32)).toNatClampNeg (((t1 4) ((0 : Int32)).toNatClampNeg) + x1)) → Q t6))
theorem ds_X2_rains : yX2_rains.cls = yX2_rains.cls ∧ yX2_rains.cls ≠ "java/lang/invoke/MethodHandle" ∧ yX2_rains.cls ≠ "java/lang/invoke/VarHandle" ∧ (parseMethodDescriptor yX2_rains.desc).map (fun d => d.parameters.length) = some 1 := by decide +kernel
set_option maxHeartbeats 4000000 in
theorem c_X2_rains (l : Launch) (D : va_G) (a : Nat → Nat) (σ : Nat → Nat → Int32) (x1 : Int32) (Q : (Nat → Nat → Int32) → Prop) (h : w_X2_rains σ x1 Q) : Ctv l D yX2_rains cX2_rains 2 (rmk 0 0 0 0) [.ref (a 0), .int x1] (bkW D a σ) (bkW D a) Q 0 0 := by
  refine Ctv.of (by decide) (Nat.le_of_ble_eq_true rfl) (fun x hF hR => ?_)
  replace hF : vF x l D "BrookWeirs$Brook" cX2_rains (rmk 0 0 0 0) 2 none := hF
  refine v_app0 ?_
  unfold w_X2_rains at h
  refine v_aload_n 0 hF dX2_rains_0 rfl 0 rfl ?_
  refine v_dup 1 hF dX2_rains_1 rfl ?_
  refine B_get 2 16 hF (Nat.le_of_ble_eq_true rfl) q202 rfl rfl dX2_rains_2 ?_
  refine v_iload_n 5 hF dX2_rains_5 rfl 1 rfl ?_
  refine v_iadd 6 hF dX2_rains_6 ?_
  refine B_put16 7 hF q202 dX2_rains_7 (fun t1 et1 => ?_)
  replace h := h t1 et1
  refine v_aload_n 10 hF dX2_rains_10 rfl 0 rfl ?_
  refine B_get 11 8 hF (Nat.le_of_ble_eq_true rfl) q183 rfl rfl dX2_rains_11 ?_
  refine v_if_le 14 30 hF dX2_rains_14 (by decide) (fun c2 => ?_) (fun c2 => ?_)
  · replace h := h.1 c2
    refine v_aload_n 30 hF dX2_rains_30 rfl 0 rfl ?_
    refine v_dup 31 hF dX2_rains_31 rfl ?_
    refine B_get 32 17 hF (Nat.le_of_ble_eq_true rfl) q204 rfl rfl dX2_rains_32 ?_
    refine v_iload_n 35 hF dX2_rains_35 rfl 1 rfl ?_
    refine v_iadd 36 hF dX2_rains_36 ?_
    refine B_put17 37 hF q204 dX2_rains_37 (fun t3 et3 => ?_)
    replace h := h t3 et3
    exact v_vretA 40 hF hR (Nat.zero_le _) (Nat.zero_le _) dX2_rains_40 h
  · replace h := h.2 c2
    refine v_aload_n 17 hF dX2_rains_17 rfl 0 rfl ?_
    refine B_get 18 4 hF (Nat.le_of_ble_eq_true rfl) q173 rfl rfl dX2_rains_18 ?_
    refine v_iconst (v := 0) 21 hF dX2_rains_21 (by decide) ?_
    refine v_dup2 22 hF dX2_rains_22 rfl rfl ?_
    obtain ⟨o4, h⟩ := h
    refine B_ald4 23 hF o4 dX2_rains_23 ?_
    refine v_iload_n 24 hF dX2_rains_24 rfl 1 rfl ?_
    refine v_iadd 25 hF dX2_rains_25 ?_
    obtain ⟨o5, h⟩ := h
    refine B_ast4 26 hF o5 dX2_rains_26 (fun t6 et6 => ?_)
    replace h := h t6 et6
    refine v_goto 27 40 hF dX2_rains_27 (by decide) ?_
    exact v_vretA 40 hF hR (Nat.zero_le _) (Nat.zero_le _) dX2_rains_40 h
def w_X2_floods_L7 (Q : (Nat → Nat → Int32) → Prop) (K7 : (Nat → Nat → Int32) → Int32 → Prop) (σ : Nat → Nat → Int32) (x1 : Int32) : Prop :=
  (((σ 20 8) ≤ x1 → Q σ) ∧ (¬ (σ 20 8) ≤ x1 → w_X2_level σ x1 (fun r2 t3 => vp_in x1 6 ∧ ((r2 ≤ ((t3 1) x1.toNatClampNeg) → ∀ y6 : Int32, y6 = x1 + (1 : Int32) → K7 t3 y6) ∧ (¬ r2 ≤ ((t3 1) x1.toNatClampNeg) → vp_in x1 6 ∧ vp_in x1 6 ∧ vp_in x1 6 ∧ w_X2_passes t3 x1 ((((t3 4) x1.toNatClampNeg) - (((t3 1) x1.toNatClampNeg) * ((t3 0) x1.toNatClampNeg)))) (fun t10 => ∀ t11 : Nat → Nat → Int32, t11 = (upN t10 20 13 ((t10 20 13) ||| ((1 : Int32) <<< (x1 &&& 31)))) → ∀ t12 : Nat → Nat → Int32, t12 = (upN t11 20 19 ((t11 20 19) + (1 : Int32))) → ∀ y13 : Int32, y13 = x1 + (1 : Int32) → K7 t12 y13))))))
def w_X2_floods (σ : Nat → Nat → Int32) (Q : (Nat → Nat → Int32) → Prop) : Prop :=
  ∀ t14 : Nat → Nat → Int32, t14 = (upN σ 20 13 (0 : Int32)) → wLoop (fun K s => w_X2_floods_L7 Q (fun v0 v1 => K (v0, v1)) s.1 s.2) (t14, (0 : Int32))
set_option maxHeartbeats 4000000 in
theorem k_X2_floods_L7 {x : vC} {l : Launch} {D : va_G} {a : Nat → Nat}  {Q : (Nat → Nat → Int32) → Prop} (hF : vF x l D "BrookWeirs$Brook" cX2_floods (rmk 1 0 0 22) 2 none) (hR : vRv x (bkW D a) Q 0 0) {K7 : (Nat → Nat → Int32) → Int32 → Prop} (hK7 : ∀ (σ : Nat → Nat → Int32) (x1 : Int32), K7 σ x1 → vV x 0 0 (bkW D a σ ++ []) [(0, .ref (a 0)), (1, .int x1)] 7 []) : ∀ (σ : Nat → Nat → Int32) (x1 : Int32), w_X2_floods_L7 Q K7 σ x1 → vV x 0 0 (bkW D a σ ++ []) [(0, .ref (a 0)), (1, .int x1)] 7 [] := by
  intro σ x1 h
  unfold w_X2_floods_L7 at h
  refine v_iload_n 7 hF dX2_floods_7 rfl 1 rfl ?_
  refine v_aload_n 8 hF dX2_floods_8 rfl 0 rfl ?_
  refine B_get 9 8 hF (Nat.le_of_ble_eq_true rfl) q183 rfl rfl dX2_floods_9 ?_
  refine v_icmp_ge 12 82 hF dX2_floods_12 (by decide) (fun c1 => ?_) (fun c1 => ?_)
  · replace h := h.1 c1
    exact v_vretA 82 hF hR (Nat.zero_le _) (Nat.zero_le _) dX2_floods_82 h
  · replace h := h.2 c1
    refine v_aload_n 15 hF dX2_floods_15 rfl 0 rfl ?_
    refine v_iload_n 16 hF dX2_floods_16 rfl 1 rfl ?_
    refine v_callVi (As := [.int x1]) 17 hF (c_X2_level l D a σ x1 _ h) (List.Perm.refl _) ⟨0, 6, _, TX2, 24, rfl, rfl⟩ q442 q443 q444 q71 q445 ds_X2_level ⟨rfl, rfl, Nat.le_of_ble_eq_true rfl, Nat.le_of_ble_eq_true rfl⟩ (Nat.le_of_ble_eq_true rfl) ⟨Nat.zero_le _, Nat.zero_le _⟩ dX2_floods_17 (fun r2 t3 h => ?_)
    refine v_aload_n 20 hF dX2_floods_20 rfl 0 rfl ?_
    refine B_get 21 1 hF (Nat.le_of_ble_eq_true rfl) q167 rfl rfl dX2_floods_21 ?_
    refine v_iload_n 24 hF dX2_floods_24 rfl 1 rfl ?_
    obtain ⟨o4, h⟩ := h
    refine B_ald1 25 hF o4 dX2_floods_25 ?_
    refine v_icmp_le 26 76 hF dX2_floods_26 (by decide) (fun c5 => ?_) (fun c5 => ?_)
    · replace h := h.1 c5
      obtain ⟨y6, ey6⟩ : ∃ y : Int32, y = x1 + (1 : Int32) := ⟨_, rfl⟩
      replace h := h y6 ey6
      refine v_iinc [(0, .ref (a 0)), (1, .int y6)] [1, 0] 76 hF dX2_floods_76 1 rfl (by rw [ey6]; rfl) (Nat.le_of_ble_eq_true rfl) rfl ?_
      refine v_goto 79 7 hF dX2_floods_79 (by decide) ?_
      exact hK7 _ _ h
    · replace h := h.2 c5
      refine v_aload_n 29 hF dX2_floods_29 rfl 0 rfl ?_
      refine v_iload_n 30 hF dX2_floods_30 rfl 1 rfl ?_
      refine v_aload_n 31 hF dX2_floods_31 rfl 0 rfl ?_
      refine B_get 32 4 hF (Nat.le_of_ble_eq_true rfl) q173 rfl rfl dX2_floods_32 ?_
      refine v_iload_n 35 hF dX2_floods_35 rfl 1 rfl ?_
      obtain ⟨o7, h⟩ := h
      refine B_ald4 36 hF o7 dX2_floods_36 ?_
      refine v_aload_n 37 hF dX2_floods_37 rfl 0 rfl ?_
      refine B_get 38 1 hF (Nat.le_of_ble_eq_true rfl) q167 rfl rfl dX2_floods_38 ?_
      refine v_iload_n 41 hF dX2_floods_41 rfl 1 rfl ?_
      obtain ⟨o8, h⟩ := h
      refine B_ald1 42 hF o8 dX2_floods_42 ?_
      refine v_aload_n 43 hF dX2_floods_43 rfl 0 rfl ?_
      refine B_get 44 0 hF (Nat.le_of_ble_eq_true rfl) q165 rfl rfl dX2_floods_44 ?_
      refine v_iload_n 47 hF dX2_floods_47 rfl 1 rfl ?_
      obtain ⟨o9, h⟩ := h
      refine B_ald0 48 hF o9 dX2_floods_48 ?_
      refine v_imul 49 hF dX2_floods_49 ?_
      refine v_isub 50 hF dX2_floods_50 ?_
      refine v_callVv (As := [.int x1, .int ((((t3 4) x1.toNatClampNeg) - (((t3 1) x1.toNatClampNeg) * ((t3 0) x1.toNatClampNeg))))]) 51 hF (c_X2_passes l D a t3 x1 ((((t3 4) x1.toNatClampNeg) - (((t3 1) x1.toNatClampNeg) * ((t3 0) x1.toNatClampNeg)))) _ h) (List.Perm.refl _) ⟨0, 6, _, TX2, 24, rfl, rfl⟩ q434 q436 qs2 q71 q437 ds_X2_passes ⟨rfl, rfl, Nat.le_of_ble_eq_true rfl, Nat.le_of_ble_eq_true rfl⟩ (Nat.le_of_ble_eq_true rfl) ⟨Nat.zero_le _, Nat.zero_le _⟩ dX2_floods_51 (fun t10 h => ?_)
      refine v_aload_n 54 hF dX2_floods_54 rfl 0 rfl ?_
      refine v_dup 55 hF dX2_floods_55 rfl ?_
      refine B_get 56 13 hF (Nat.le_of_ble_eq_true rfl) q196 rfl rfl dX2_floods_56 ?_
      refine v_iconst (v := 1) 59 hF dX2_floods_59 (by decide) ?_
      refine v_iload_n 60 hF dX2_floods_60 rfl 1 rfl ?_
      refine v_ishl 61 hF dX2_floods_61 ?_
      refine v_ior 62 hF dX2_floods_62 ?_
      refine B_put13 63 hF q196 dX2_floods_63 (fun t11 et11 => ?_)
      replace h := h t11 et11
      refine v_aload_n 66 hF dX2_floods_66 rfl 0 rfl ?_
      refine v_dup 67 hF dX2_floods_67 rfl ?_
      refine B_get 68 19 hF (Nat.le_of_ble_eq_true rfl) q209 rfl rfl dX2_floods_68 ?_
      refine v_iconst (v := 1) 71 hF dX2_floods_71 (by decide) ?_
      refine v_iadd 72 hF dX2_floods_72 ?_
      refine B_put19 73 hF q209 dX2_floods_73 (fun t12 et12 => ?_)
      replace h := h t12 et12
      obtain ⟨y13, ey13⟩ : ∃ y : Int32, y = x1 + (1 : Int32) := ⟨_, rfl⟩
      replace h := h y13 ey13
      refine v_iinc [(0, .ref (a 0)), (1, .int y13)] [1, 0] 76 hF dX2_floods_76 1 rfl (by rw [ey13]; rfl) (Nat.le_of_ble_eq_true rfl) rfl ?_
      refine v_goto 79 7 hF dX2_floods_79 (by decide) ?_
      exact hK7 _ _ h
theorem ds_X2_floods : yX2_floods.cls = yX2_floods.cls ∧ yX2_floods.cls ≠ "java/lang/invoke/MethodHandle" ∧ yX2_floods.cls ≠ "java/lang/invoke/VarHandle" ∧ (parseMethodDescriptor yX2_floods.desc).map (fun d => d.parameters.length) = some 0 := by decide +kernel
set_option maxHeartbeats 4000000 in
theorem c_X2_floods (l : Launch) (D : va_G) (a : Nat → Nat) (σ : Nat → Nat → Int32) (Q : (Nat → Nat → Int32) → Prop) (h : w_X2_floods σ Q) : Ctv l D yX2_floods cX2_floods 2 (rmk 1 0 0 22) [.ref (a 0)] (bkW D a σ) (bkW D a) Q 0 0 := by
  refine Ctv.of (by decide) (Nat.le_of_ble_eq_true rfl) (fun x hF hR => ?_)
  replace hF : vF x l D "BrookWeirs$Brook" cX2_floods (rmk 1 0 0 22) 2 none := hF
  refine v_app0 ?_
  unfold w_X2_floods at h
  refine v_aload_n 0 hF dX2_floods_0 rfl 0 rfl ?_
  refine v_iconst (v := 0) 1 hF dX2_floods_1 (by decide) ?_
  refine B_put13 2 hF q196 dX2_floods_2 (fun t14 et14 => ?_)
  replace h := h t14 et14
  refine v_iconst (v := 0) 5 hF dX2_floods_5 (by decide) ?_
  refine v_istore_n [(0, .ref (a 0)), (1, .int ((0 : Int32)))] [1, 0] 6 hF dX2_floods_6 rfl (Nat.le_of_ble_eq_true rfl) rfl ?_
  exact vLoop (V := fun s => vV x 0 0 (bkW D a s.1 ++ []) [(0, .ref (a 0)), (1, .int s.2)] 7 []) (fun K hK s hs => k_X2_floods_L7 hF hR (fun v0 v1 q => hK (v0, v1) q) s.1 s.2 hs) _ h
def w_X2_fields_J38 (Q : (Nat → Nat → Int32) → Prop) (K2 : (Nat → Nat → Int32) → Int32 → Prop) (σ : Nat → Nat → Int32) (x1 s0 : Int32) : Prop :=
  vp_in x1 6 ∧ vp_in x1 6 ∧ ∀ t3 : Nat → Nat → Int32, t3 = (upN σ 4 x1.toNatClampNeg (((σ 4) x1.toNatClampNeg) - s0)) → ∀ t4 : Nat → Nat → Int32, t4 = (upN t3 20 18 ((t3 20 18) + s0)) → ∀ y5 : Int32, y5 = x1 + (1 : Int32) → K2 t4 y5
def w_X2_fields_L2 (Q : (Nat → Nat → Int32) → Prop) (K2 : (Nat → Nat → Int32) → Int32 → Prop) (σ : Nat → Nat → Int32) (x1 : Int32) : Prop :=
  (((σ 20 8) ≤ x1 → Q σ) ∧ (¬ (σ 20 8) ≤ x1 → w_X2_level σ x1 (fun r7 t8 => ((r7 < (2 : Int32) → w_X2_fields_J38 Q K2 t8 x1 ((0 : Int32))) ∧ (¬ r7 < (2 : Int32) → vp_in x1 6 ∧ vp_in x1 6 ∧ w_X2_fields_J38 Q K2 t8 x1 ((if ((t8 4) x1.toNatClampNeg) < ((t8 2) x1.toNatClampNeg) then ((t8 4) x1.toNatClampNeg) else ((t8 2) x1.toNatClampNeg))))))))
def w_X2_fields (σ : Nat → Nat → Int32) (Q : (Nat → Nat → Int32) → Prop) : Prop :=
  wLoop (fun K s => w_X2_fields_L2 Q (fun v0 v1 => K (v0, v1)) s.1 s.2) (σ, (0 : Int32))
set_option maxHeartbeats 4000000 in
theorem k_X2_fields_J38 {x : vC} {l : Launch} {D : va_G} {a : Nat → Nat}  {Q : (Nat → Nat → Int32) → Prop} (hF : vF x l D "BrookWeirs$Brook" cX2_fields (rmk 1 0 0 64) 3 none) (hR : vRv x (bkW D a) Q 0 0) {K2 : (Nat → Nat → Int32) → Int32 → Prop} (hK2 : ∀ (σ : Nat → Nat → Int32) (x1 : Int32), K2 σ x1 → vV x 0 0 (bkW D a σ ++ []) [(0, .ref (a 0)), (1, .int x1)] 2 []) : ∀ (σ : Nat → Nat → Int32) (x1 s0 : Int32), w_X2_fields_J38 Q K2 σ x1 s0 → vV x 0 0 (bkW D a σ ++ []) [(0, .ref (a 0)), (1, .int x1)] 38 [.int s0] := by
  intro σ x1 s0 h
  unfold w_X2_fields_J38 at h
  refine v_istore_n [(0, .ref (a 0)), (1, .int x1), (2, .int s0)] [1, 2, 0] 38 hF dX2_fields_38 rfl (Nat.le_of_ble_eq_true rfl) rfl ?_
  refine v_aload_n 39 hF dX2_fields_39 rfl 0 rfl ?_
  refine B_get 40 4 hF (Nat.le_of_ble_eq_true rfl) q173 rfl rfl dX2_fields_40 ?_
  refine v_iload_n 43 hF dX2_fields_43 rfl 1 rfl ?_
  refine v_dup2 44 hF dX2_fields_44 rfl rfl ?_
  obtain ⟨o1, h⟩ := h
  refine B_ald4 45 hF o1 dX2_fields_45 ?_
  refine v_iload_n 46 hF dX2_fields_46 rfl 2 rfl ?_
  refine v_isub 47 hF dX2_fields_47 ?_
  obtain ⟨o2, h⟩ := h
  refine B_ast4 48 hF o2 dX2_fields_48 (fun t3 et3 => ?_)
  replace h := h t3 et3
  refine v_aload_n 49 hF dX2_fields_49 rfl 0 rfl ?_
  refine v_dup 50 hF dX2_fields_50 rfl ?_
  refine B_get 51 18 hF (Nat.le_of_ble_eq_true rfl) q206 rfl rfl dX2_fields_51 ?_
  refine v_iload_n 54 hF dX2_fields_54 rfl 2 rfl ?_
  refine v_iadd 55 hF dX2_fields_55 ?_
  refine B_put18 56 hF q206 dX2_fields_56 (fun t4 et4 => ?_)
  replace h := h t4 et4
  obtain ⟨y5, ey5⟩ : ∃ y : Int32, y = x1 + (1 : Int32) := ⟨_, rfl⟩
  replace h := h y5 ey5
  refine v_iinc [(0, .ref (a 0)), (1, .int y5), (2, .int s0)] [1, 0, 2] 59 hF dX2_fields_59 1 rfl (by rw [ey5]; rfl) (Nat.le_of_ble_eq_true rfl) rfl ?_
  refine v_goto 62 2 hF dX2_fields_62 (by decide) ?_
  refine v_sub [(0, .ref (a 0)), (1, .int y5)] [0, 1] rfl ?_
  exact hK2 _ _ h
set_option maxHeartbeats 4000000 in
theorem k_X2_fields_L2 {x : vC} {l : Launch} {D : va_G} {a : Nat → Nat}  {Q : (Nat → Nat → Int32) → Prop} (hF : vF x l D "BrookWeirs$Brook" cX2_fields (rmk 1 0 0 64) 3 none) (hR : vRv x (bkW D a) Q 0 0) {K2 : (Nat → Nat → Int32) → Int32 → Prop} (hK2 : ∀ (σ : Nat → Nat → Int32) (x1 : Int32), K2 σ x1 → vV x 0 0 (bkW D a σ ++ []) [(0, .ref (a 0)), (1, .int x1)] 2 []) : ∀ (σ : Nat → Nat → Int32) (x1 : Int32), w_X2_fields_L2 Q K2 σ x1 → vV x 0 0 (bkW D a σ ++ []) [(0, .ref (a 0)), (1, .int x1)] 2 [] := by
  intro σ x1 h
  unfold w_X2_fields_L2 at h
  refine v_iload_n 2 hF dX2_fields_2 rfl 1 rfl ?_
  refine v_aload_n 3 hF dX2_fields_3 rfl 0 rfl ?_
  refine B_get 4 8 hF (Nat.le_of_ble_eq_true rfl) q183 rfl rfl dX2_fields_4 ?_
  refine v_icmp_ge 7 65 hF dX2_fields_7 (by decide) (fun c6 => ?_) (fun c6 => ?_)
  · replace h := h.1 c6
    exact v_vretA 65 hF hR (Nat.zero_le _) (Nat.zero_le _) dX2_fields_65 h
  · replace h := h.2 c6
    refine v_aload_n 10 hF dX2_fields_10 rfl 0 rfl ?_
    refine v_iload_n 11 hF dX2_fields_11 rfl 1 rfl ?_
    refine v_callVi (As := [.int x1]) 12 hF (c_X2_level l D a σ x1 _ h) (List.Perm.refl _) ⟨0, 6, _, TX2, 24, rfl, rfl⟩ q442 q443 q444 q71 q445 ds_X2_level ⟨rfl, rfl, Nat.le_of_ble_eq_true rfl, Nat.le_of_ble_eq_true rfl⟩ (Nat.le_of_ble_eq_true rfl) ⟨Nat.zero_le _, Nat.zero_le _⟩ dX2_fields_12 (fun r7 t8 h => ?_)
    refine v_iconst (v := 2) 15 hF dX2_fields_15 (by decide) ?_
    refine v_icmp_lt 16 37 hF dX2_fields_16 (by decide) (fun c9 => ?_) (fun c9 => ?_)
    · replace h := h.1 c9
      refine v_iconst (v := 0) 37 hF dX2_fields_37 (by decide) ?_
      exact k_X2_fields_J38 hF hR hK2 _ _ _ h
    · replace h := h.2 c9
      refine v_aload_n 19 hF dX2_fields_19 rfl 0 rfl ?_
      refine B_get 20 2 hF (Nat.le_of_ble_eq_true rfl) q169 rfl rfl dX2_fields_20 ?_
      refine v_iload_n 23 hF dX2_fields_23 rfl 1 rfl ?_
      obtain ⟨o10, h⟩ := h
      refine B_ald2 24 hF o10 dX2_fields_24 ?_
      refine v_aload_n 25 hF dX2_fields_25 rfl 0 rfl ?_
      refine B_get 26 4 hF (Nat.le_of_ble_eq_true rfl) q173 rfl rfl dX2_fields_26 ?_
      refine v_iload_n 29 hF dX2_fields_29 rfl 1 rfl ?_
      obtain ⟨o11, h⟩ := h
      refine B_ald4 30 hF o11 dX2_fields_30 ?_
      refine v_mmin 31 hF q428 q429 q92 q430 (Nat.le_of_ble_eq_true rfl) (Nat.le_of_ble_eq_true rfl) ⟨Nat.zero_le _, Nat.zero_le _⟩ dX2_fields_31 ?_
      refine v_goto 34 38 hF dX2_fields_34 (by decide) ?_
      exact k_X2_fields_J38 hF hR hK2 _ _ _ h
theorem ds_X2_fields : yX2_fields.cls = yX2_fields.cls ∧ yX2_fields.cls ≠ "java/lang/invoke/MethodHandle" ∧ yX2_fields.cls ≠ "java/lang/invoke/VarHandle" ∧ (parseMethodDescriptor yX2_fields.desc).map (fun d => d.parameters.length) = some 0 := by decide +kernel
set_option maxHeartbeats 4000000 in
theorem c_X2_fields (l : Launch) (D : va_G) (a : Nat → Nat) (σ : Nat → Nat → Int32) (Q : (Nat → Nat → Int32) → Prop) (h : w_X2_fields σ Q) : Ctv l D yX2_fields cX2_fields 3 (rmk 1 0 0 64) [.ref (a 0)] (bkW D a σ) (bkW D a) Q 0 0 := by
  refine Ctv.of (by decide) (Nat.le_of_ble_eq_true rfl) (fun x hF hR => ?_)
  replace hF : vF x l D "BrookWeirs$Brook" cX2_fields (rmk 1 0 0 64) 3 none := hF
  refine v_app0 ?_
  unfold w_X2_fields at h
  refine v_iconst (v := 0) 0 hF dX2_fields_0 (by decide) ?_
  refine v_istore_n [(0, .ref (a 0)), (1, .int ((0 : Int32)))] [1, 0] 1 hF dX2_fields_1 rfl (Nat.le_of_ble_eq_true rfl) rfl ?_
  exact vLoop (V := fun s => vV x 0 0 (bkW D a s.1 ++ []) [(0, .ref (a 0)), (1, .int s.2)] 2 []) (fun K hK s hs => k_X2_fields_L2 hF hR (fun v0 v1 q => hK (v0, v1) q) s.1 s.2 hs) _ h
def w_X2_loses (σ : Nat → Nat → Int32) (x1 x2 : Int32) (Q : (Nat → Nat → Int32) → Prop) : Prop :=
  vp_in x1 12 ∧ vp_in x1 12 ∧ ∀ t3 : Nat → Nat → Int32, t3 = (upN σ 31 x1.toNatClampNeg (((σ 31) x1.toNatClampNeg) - x2)) → ∀ t4 : Nat → Nat → Int32, t4 = (upN t3 20 23 ((t3 20 23) + x2)) → Q t4
theorem ds_X2_loses : yX2_loses.cls = yX2_loses.cls ∧ yX2_loses.cls ≠ "java/lang/invoke/MethodHandle" ∧ yX2_loses.cls ≠ "java/lang/invoke/VarHandle" ∧ (parseMethodDescriptor yX2_loses.desc).map (fun d => d.parameters.length) = some 2 := by decide +kernel
set_option maxHeartbeats 4000000 in
theorem c_X2_loses (l : Launch) (D : va_G) (a : Nat → Nat) (σ : Nat → Nat → Int32) (x1 x2 : Int32) (Q : (Nat → Nat → Int32) → Prop) (h : w_X2_loses σ x1 x2 Q) : Ctv l D yX2_loses cX2_loses 3 (rmk 0 0 0 0) [.ref (a 0), .int x1, .int x2] (bkW D a σ) (bkW D a) Q 0 0 := by
  refine Ctv.of (by decide) (Nat.le_of_ble_eq_true rfl) (fun x hF hR => ?_)
  replace hF : vF x l D "BrookWeirs$Brook" cX2_loses (rmk 0 0 0 0) 3 none := hF
  refine v_app0 ?_
  unfold w_X2_loses at h
  refine v_aload_n 0 hF dX2_loses_0 rfl 0 rfl ?_
  refine B_get 1 7 hF (Nat.le_of_ble_eq_true rfl) q180 rfl rfl dX2_loses_1 ?_
  refine K_getN 4 1 hF (Nat.le_of_ble_eq_true rfl) q141 rfl rfl dX2_loses_4 ?_
  refine v_iload_n 7 hF dX2_loses_7 rfl 1 rfl ?_
  refine v_dup2 8 hF dX2_loses_8 rfl rfl ?_
  obtain ⟨o1, h⟩ := h
  refine B_ald31 9 hF o1 dX2_loses_9 ?_
  refine v_iload_n 10 hF dX2_loses_10 rfl 2 rfl ?_
  refine v_isub 11 hF dX2_loses_11 ?_
  obtain ⟨o2, h⟩ := h
  refine B_ast31 12 hF o2 dX2_loses_12 (fun t3 et3 => ?_)
  replace h := h t3 et3
  refine v_aload_n 13 hF dX2_loses_13 rfl 0 rfl ?_
  refine v_dup 14 hF dX2_loses_14 rfl ?_
  refine B_get 15 23 hF (Nat.le_of_ble_eq_true rfl) q217 rfl rfl dX2_loses_15 ?_
  refine v_iload_n 18 hF dX2_loses_18 rfl 2 rfl ?_
  refine v_iadd 19 hF dX2_loses_19 ?_
  refine B_put23 20 hF q217 dX2_loses_20 (fun t4 et4 => ?_)
  replace h := h t4 et4
  exact v_vretA 23 hF hR (Nat.zero_le _) (Nat.zero_le _) dX2_loses_23 h
def w_X2_hatches (σ : Nat → Nat → Int32) (x1 : Int32) (Q : (Nat → Nat → Int32) → Prop) : Prop :=
  vp_in x1 12 ∧ ∀ y2 : Int32, y2 = ((σ 30) x1.toNatClampNeg) → vp_in y2 6 ∧ vp_in x1 12 ∧ vp_in y2 6 ∧ ∀ t6 : Nat → Nat → Int32, t6 = (upN σ 5 y2.toNatClampNeg (if (((σ 5) y2.toNatClampNeg) + ((σ 31) x1.toNatClampNeg)) < (999 : Int32) then (((σ 5) y2.toNatClampNeg) + ((σ 31) x1.toNatClampNeg)) else (999 : Int32))) → vp_in x1 12 ∧ ∀ t8 : Nat → Nat → Int32, t8 = (upN t6 20 22 ((t6 20 22) + ((t6 31) x1.toNatClampNeg))) → vp_in x1 12 ∧ ∀ t10 : Nat → Nat → Int32, t10 = (upN t8 31 x1.toNatClampNeg (0 : Int32)) → Q t10
theorem ds_X2_hatches : yX2_hatches.cls = yX2_hatches.cls ∧ yX2_hatches.cls ≠ "java/lang/invoke/MethodHandle" ∧ yX2_hatches.cls ≠ "java/lang/invoke/VarHandle" ∧ (parseMethodDescriptor yX2_hatches.desc).map (fun d => d.parameters.length) = some 1 := by decide +kernel
set_option maxHeartbeats 4000000 in
theorem c_X2_hatches (l : Launch) (D : va_G) (a : Nat → Nat) (σ : Nat → Nat → Int32) (x1 : Int32) (Q : (Nat → Nat → Int32) → Prop) (h : w_X2_hatches σ x1 Q) : Ctv l D yX2_hatches cX2_hatches 3 (rmk 1 0 0 64) [.ref (a 0), .int x1] (bkW D a σ) (bkW D a) Q 0 0 := by
  refine Ctv.of (by decide) (Nat.le_of_ble_eq_true rfl) (fun x hF hR => ?_)
  replace hF : vF x l D "BrookWeirs$Brook" cX2_hatches (rmk 1 0 0 64) 3 none := hF
  refine v_app0 ?_
  unfold w_X2_hatches at h
  refine v_aload_n 0 hF dX2_hatches_0 rfl 0 rfl ?_
  refine B_get 1 7 hF (Nat.le_of_ble_eq_true rfl) q180 rfl rfl dX2_hatches_1 ?_
  refine K_getN 4 0 hF (Nat.le_of_ble_eq_true rfl) q137 rfl rfl dX2_hatches_4 ?_
  refine v_iload_n 7 hF dX2_hatches_7 rfl 1 rfl ?_
  obtain ⟨o1, h⟩ := h
  refine B_ald30 8 hF o1 dX2_hatches_8 ?_
  refine v_nm (fun y2 ey2 => ?_)
  replace h := h y2 ey2
  refine v_istore_n [(0, .ref (a 0)), (1, .int x1), (2, .int y2)] [1, 2, 0] 9 hF dX2_hatches_9 rfl (Nat.le_of_ble_eq_true rfl) rfl ?_
  refine v_aload_n 10 hF dX2_hatches_10 rfl 0 rfl ?_
  refine B_get 11 5 hF (Nat.le_of_ble_eq_true rfl) q175 rfl rfl dX2_hatches_11 ?_
  refine v_iload_n 14 hF dX2_hatches_14 rfl 2 rfl ?_
  refine v_sipush (v := 999) 15 hF dX2_hatches_15 (by decide) ?_
  refine v_aload_n 18 hF dX2_hatches_18 rfl 0 rfl ?_
  refine B_get 19 5 hF (Nat.le_of_ble_eq_true rfl) q175 rfl rfl dX2_hatches_19 ?_
  refine v_iload_n 22 hF dX2_hatches_22 rfl 2 rfl ?_
  obtain ⟨o3, h⟩ := h
  refine B_ald5 23 hF o3 dX2_hatches_23 ?_
  refine v_aload_n 24 hF dX2_hatches_24 rfl 0 rfl ?_
  refine B_get 25 7 hF (Nat.le_of_ble_eq_true rfl) q180 rfl rfl dX2_hatches_25 ?_
  refine K_getN 28 1 hF (Nat.le_of_ble_eq_true rfl) q141 rfl rfl dX2_hatches_28 ?_
  refine v_iload_n 31 hF dX2_hatches_31 rfl 1 rfl ?_
  obtain ⟨o4, h⟩ := h
  refine B_ald31 32 hF o4 dX2_hatches_32 ?_
  refine v_iadd 33 hF dX2_hatches_33 ?_
  refine v_mmin 34 hF q428 q429 q92 q430 (Nat.le_of_ble_eq_true rfl) (Nat.le_of_ble_eq_true rfl) ⟨Nat.zero_le _, Nat.zero_le _⟩ dX2_hatches_34 ?_
  obtain ⟨o5, h⟩ := h
  refine B_ast5 37 hF o5 dX2_hatches_37 (fun t6 et6 => ?_)
  replace h := h t6 et6
  refine v_aload_n 38 hF dX2_hatches_38 rfl 0 rfl ?_
  refine v_dup 39 hF dX2_hatches_39 rfl ?_
  refine B_get 40 22 hF (Nat.le_of_ble_eq_true rfl) q215 rfl rfl dX2_hatches_40 ?_
  refine v_aload_n 43 hF dX2_hatches_43 rfl 0 rfl ?_
  refine B_get 44 7 hF (Nat.le_of_ble_eq_true rfl) q180 rfl rfl dX2_hatches_44 ?_
  refine K_getN 47 1 hF (Nat.le_of_ble_eq_true rfl) q141 rfl rfl dX2_hatches_47 ?_
  refine v_iload_n 50 hF dX2_hatches_50 rfl 1 rfl ?_
  obtain ⟨o7, h⟩ := h
  refine B_ald31 51 hF o7 dX2_hatches_51 ?_
  refine v_iadd 52 hF dX2_hatches_52 ?_
  refine B_put22 53 hF q215 dX2_hatches_53 (fun t8 et8 => ?_)
  replace h := h t8 et8
  refine v_aload_n 56 hF dX2_hatches_56 rfl 0 rfl ?_
  refine B_get 57 7 hF (Nat.le_of_ble_eq_true rfl) q180 rfl rfl dX2_hatches_57 ?_
  refine K_getN 60 1 hF (Nat.le_of_ble_eq_true rfl) q141 rfl rfl dX2_hatches_60 ?_
  refine v_iload_n 63 hF dX2_hatches_63 rfl 1 rfl ?_
  refine v_iconst (v := 0) 64 hF dX2_hatches_64 (by decide) ?_
  obtain ⟨o9, h⟩ := h
  refine B_ast31 65 hF o9 dX2_hatches_65 (fun t10 et10 => ?_)
  replace h := h t10 et10
  exact v_vretA 66 hF hR (Nat.zero_le _) (Nat.zero_le _) dX2_hatches_66 h
def w_X2_lives_J113 (Q : (Nat → Nat → Int32) → Prop)  (σ : Nat → Nat → Int32) (x1 x2 x3 : Int32) : Prop :=
  vp_in x1 12 ∧ vp_in x1 12 ∧ ∀ t3 : Nat → Nat → Int32, t3 = (upN σ 32 x1.toNatClampNeg (((σ 32) x1.toNatClampNeg) + (1 : Int32))) → vp_in x1 12 ∧ ((¬ ((t3 32) x1.toNatClampNeg) = (5 : Int32) → Q t3) ∧ (((t3 32) x1.toNatClampNeg) = (5 : Int32) → w_X2_hatches t3 x1 (fun t6 => Q t6)))
def w_X2_lives_J80 (Q : (Nat → Nat → Int32) → Prop)  (σ : Nat → Nat → Int32) (x1 x2 x3 s2 s1 : Int32) : Prop :=
  vp_in s1 12 ∧ ∀ t8 : Nat → Nat → Int32, t8 = (upN σ 30 s1.toNatClampNeg s2) → w_X2_lives_J113 Q t8 x1 x2 x3
def w_X2_lives_J52 (Q : (Nat → Nat → Int32) → Prop)  (σ : Nat → Nat → Int32) (x1 x2 x3 s2 s1 : Int32) : Prop :=
  w_X2_loses σ s1 s2 (fun t9 => (((t9 20 8) ≤ (x2 + (1 : Int32)) → w_X2_lives_J80 Q t9 x1 x2 x3 x2 x1) ∧ (¬ (t9 20 8) ≤ (x2 + (1 : Int32)) → w_X2_lives_J80 Q t9 x1 x2 x3 ((x2 + (1 : Int32))) x1)))
def w_X2_lives (σ : Nat → Nat → Int32) (x1 : Int32) (Q : (Nat → Nat → Int32) → Prop) : Prop :=
  vp_in x1 12 ∧ ∀ y12 : Int32, y12 = ((σ 30) x1.toNatClampNeg) → vp_in x1 12 ∧ ∀ y14 : Int32, y14 = ((σ 31) x1.toNatClampNeg) → w_X1_has ((σ 20 13)) y12 (fun r15 => ((r15 = 0 → w_X2_level σ y12 (fun r17 t18 => vp_in x1 12 ∧ ((((t18 33) x1.toNatClampNeg) ≤ ((2 : Int32) * r17) → w_X2_lives_J113 Q t18 x1 y12 y14) ∧ (¬ ((t18 33) x1.toNatClampNeg) ≤ ((2 : Int32) * r17) → ¬ (4 : Int32) = 0 ∧ w_X2_loses t18 x1 (((y14 + (3 : Int32)) / (4 : Int32))) (fun t22 => w_X2_lives_J113 Q t22 x1 y12 y14))))) ∧ (¬ r15 = 0 → (((σ 20 8) ≤ (y12 + (1 : Int32)) → w_X2_lives_J52 Q σ x1 y12 y14 y14 x1) ∧ (¬ (σ 20 8) ≤ (y12 + (1 : Int32)) → ¬ (2 : Int32) = 0 ∧ w_X2_lives_J52 Q σ x1 y12 y14 (((y14 + (1 : Int32)) / (2 : Int32))) x1)))))
set_option maxHeartbeats 4000000 in
theorem k_X2_lives_J113 {x : vC} {l : Launch} {D : va_G} {a : Nat → Nat}  {Q : (Nat → Nat → Int32) → Prop} (hF : vF x l D "BrookWeirs$Brook" cX2_lives (rmk 2 0 0 86) 4 none) (hR : vRv x (bkW D a) Q 0 0)   : ∀ (σ : Nat → Nat → Int32) (x1 x2 x3 : Int32), w_X2_lives_J113 Q  σ x1 x2 x3 → vV x 0 0 (bkW D a σ ++ []) [(0, .ref (a 0)), (1, .int x1), (2, .int x2), (3, .int x3)] 113 [] := by
  intro σ x1 x2 x3 h
  unfold w_X2_lives_J113 at h
  refine v_aload_n 113 hF dX2_lives_113 rfl 0 rfl ?_
  refine B_get 114 7 hF (Nat.le_of_ble_eq_true rfl) q180 rfl rfl dX2_lives_114 ?_
  refine K_getN 117 2 hF (Nat.le_of_ble_eq_true rfl) q144 rfl rfl dX2_lives_117 ?_
  refine v_iload_n 120 hF dX2_lives_120 rfl 1 rfl ?_
  refine v_dup2 121 hF dX2_lives_121 rfl rfl ?_
  obtain ⟨o1, h⟩ := h
  refine B_ald32 122 hF o1 dX2_lives_122 ?_
  refine v_iconst (v := 1) 123 hF dX2_lives_123 (by decide) ?_
  refine v_iadd 124 hF dX2_lives_124 ?_
  obtain ⟨o2, h⟩ := h
  refine B_ast32 125 hF o2 dX2_lives_125 (fun t3 et3 => ?_)
  replace h := h t3 et3
  refine v_aload_n 126 hF dX2_lives_126 rfl 0 rfl ?_
  refine B_get 127 7 hF (Nat.le_of_ble_eq_true rfl) q180 rfl rfl dX2_lives_127 ?_
  refine K_getN 130 2 hF (Nat.le_of_ble_eq_true rfl) q144 rfl rfl dX2_lives_130 ?_
  refine v_iload_n 133 hF dX2_lives_133 rfl 1 rfl ?_
  obtain ⟨o4, h⟩ := h
  refine B_ald32 134 hF o4 dX2_lives_134 ?_
  refine v_iconst (v := 5) 135 hF dX2_lives_135 (by decide) ?_
  refine v_icmp_ne 136 144 hF dX2_lives_136 (by decide) (fun c5 => ?_) (fun c5 => ?_)
  · replace h := h.1 c5
    exact v_vretA 144 hF hR (Nat.zero_le _) (Nat.zero_le _) dX2_lives_144 h
  · replace h := h.2 c5
    refine v_aload_n 139 hF dX2_lives_139 rfl 0 rfl ?_
    refine v_iload_n 140 hF dX2_lives_140 rfl 1 rfl ?_
    refine v_callVv (As := [.int x1]) 141 hF (c_X2_hatches l D a t3 x1 _ h) (List.Perm.refl _) ⟨0, 6, _, TX2, 24, rfl, rfl⟩ q458 q460 qs7 q71 q461 ds_X2_hatches ⟨rfl, rfl, Nat.le_of_ble_eq_true rfl, Nat.le_of_ble_eq_true rfl⟩ (Nat.le_of_ble_eq_true rfl) ⟨Nat.zero_le _, Nat.zero_le _⟩ dX2_lives_141 (fun t6 h => ?_)
    exact v_vretA 144 hF hR (Nat.zero_le _) (Nat.zero_le _) dX2_lives_144 h
set_option maxHeartbeats 4000000 in
theorem k_X2_lives_J80 {x : vC} {l : Launch} {D : va_G} {a : Nat → Nat}  {Q : (Nat → Nat → Int32) → Prop} (hF : vF x l D "BrookWeirs$Brook" cX2_lives (rmk 2 0 0 86) 4 none) (hR : vRv x (bkW D a) Q 0 0)   : ∀ (σ : Nat → Nat → Int32) (x1 x2 x3 s2 s1 : Int32), w_X2_lives_J80 Q  σ x1 x2 x3 s2 s1 → vV x 0 0 (bkW D a σ ++ []) [(0, .ref (a 0)), (1, .int x1), (2, .int x2), (3, .int x3)] 80 [.int s2, .int s1, .ref (a 9)] := by
  intro σ x1 x2 x3 s2 s1 h
  unfold w_X2_lives_J80 at h
  obtain ⟨o7, h⟩ := h
  refine B_ast30 80 hF o7 dX2_lives_80 (fun t8 et8 => ?_)
  replace h := h t8 et8
  refine v_goto 81 113 hF dX2_lives_81 (by decide) ?_
  exact k_X2_lives_J113 hF hR _ _ _ _ h
set_option maxHeartbeats 4000000 in
theorem k_X2_lives_J52 {x : vC} {l : Launch} {D : va_G} {a : Nat → Nat}  {Q : (Nat → Nat → Int32) → Prop} (hF : vF x l D "BrookWeirs$Brook" cX2_lives (rmk 2 0 0 86) 4 none) (hR : vRv x (bkW D a) Q 0 0)   : ∀ (σ : Nat → Nat → Int32) (x1 x2 x3 s2 s1 : Int32), w_X2_lives_J52 Q  σ x1 x2 x3 s2 s1 → vV x 0 0 (bkW D a σ ++ []) [(0, .ref (a 0)), (1, .int x1), (2, .int x2), (3, .int x3)] 52 [.int s2, .int s1, .ref (a 0)] := by
  intro σ x1 x2 x3 s2 s1 h
  unfold w_X2_lives_J52 at h
  refine v_callVv (As := [.int s1, .int s2]) 52 hF (c_X2_loses l D a σ s1 s2 _ h) (List.Perm.refl _) ⟨0, 6, _, TX2, 24, rfl, rfl⟩ q454 q456 qs6 q71 q457 ds_X2_loses ⟨rfl, rfl, Nat.le_of_ble_eq_true rfl, Nat.le_of_ble_eq_true rfl⟩ (Nat.le_of_ble_eq_true rfl) ⟨Nat.zero_le _, Nat.zero_le _⟩ dX2_lives_52 (fun t9 h => ?_)
  refine v_aload_n 55 hF dX2_lives_55 rfl 0 rfl ?_
  refine B_get 56 7 hF (Nat.le_of_ble_eq_true rfl) q180 rfl rfl dX2_lives_56 ?_
  refine K_getN 59 0 hF (Nat.le_of_ble_eq_true rfl) q137 rfl rfl dX2_lives_59 ?_
  refine v_iload_n 62 hF dX2_lives_62 rfl 1 rfl ?_
  refine v_iload_n 63 hF dX2_lives_63 rfl 2 rfl ?_
  refine v_iconst (v := 1) 64 hF dX2_lives_64 (by decide) ?_
  refine v_iadd 65 hF dX2_lives_65 ?_
  refine v_aload_n 66 hF dX2_lives_66 rfl 0 rfl ?_
  refine B_get 67 8 hF (Nat.le_of_ble_eq_true rfl) q183 rfl rfl dX2_lives_67 ?_
  refine v_icmp_ge 70 79 hF dX2_lives_70 (by decide) (fun c10 => ?_) (fun c10 => ?_)
  · replace h := h.1 c10
    refine v_iload_n 79 hF dX2_lives_79 rfl 2 rfl ?_
    exact k_X2_lives_J80 hF hR _ _ _ _ _ _ h
  · replace h := h.2 c10
    refine v_iload_n 73 hF dX2_lives_73 rfl 2 rfl ?_
    refine v_iconst (v := 1) 74 hF dX2_lives_74 (by decide) ?_
    refine v_iadd 75 hF dX2_lives_75 ?_
    refine v_goto 76 80 hF dX2_lives_76 (by decide) ?_
    exact k_X2_lives_J80 hF hR _ _ _ _ _ _ h
theorem ds_X2_lives : yX2_lives.cls = yX2_lives.cls ∧ yX2_lives.cls ≠ "java/lang/invoke/MethodHandle" ∧ yX2_lives.cls ≠ "java/lang/invoke/VarHandle" ∧ (parseMethodDescriptor yX2_lives.desc).map (fun d => d.parameters.length) = some 1 := by decide +kernel
set_option maxHeartbeats 4000000 in
theorem c_X2_lives (l : Launch) (D : va_G) (a : Nat → Nat) (σ : Nat → Nat → Int32) (x1 : Int32) (Q : (Nat → Nat → Int32) → Prop) (h : w_X2_lives σ x1 Q) : Ctv l D yX2_lives cX2_lives 4 (rmk 2 0 0 86) [.ref (a 0), .int x1] (bkW D a σ) (bkW D a) Q 0 0 := by
  refine Ctv.of (by decide) (Nat.le_of_ble_eq_true rfl) (fun x hF hR => ?_)
  replace hF : vF x l D "BrookWeirs$Brook" cX2_lives (rmk 2 0 0 86) 4 none := hF
  refine v_app0 ?_
  unfold w_X2_lives at h
  refine v_aload_n 0 hF dX2_lives_0 rfl 0 rfl ?_
  refine B_get 1 7 hF (Nat.le_of_ble_eq_true rfl) q180 rfl rfl dX2_lives_1 ?_
  refine K_getN 4 0 hF (Nat.le_of_ble_eq_true rfl) q137 rfl rfl dX2_lives_4 ?_
  refine v_iload_n 7 hF dX2_lives_7 rfl 1 rfl ?_
  obtain ⟨o11, h⟩ := h
  refine B_ald30 8 hF o11 dX2_lives_8 ?_
  refine v_nm (fun y12 ey12 => ?_)
  replace h := h y12 ey12
  refine v_istore_n [(0, .ref (a 0)), (1, .int x1), (2, .int y12)] [1, 2, 0] 9 hF dX2_lives_9 rfl (Nat.le_of_ble_eq_true rfl) rfl ?_
  refine v_aload_n 10 hF dX2_lives_10 rfl 0 rfl ?_
  refine B_get 11 7 hF (Nat.le_of_ble_eq_true rfl) q180 rfl rfl dX2_lives_11 ?_
  refine K_getN 14 1 hF (Nat.le_of_ble_eq_true rfl) q141 rfl rfl dX2_lives_14 ?_
  refine v_iload_n 17 hF dX2_lives_17 rfl 1 rfl ?_
  obtain ⟨o13, h⟩ := h
  refine B_ald31 18 hF o13 dX2_lives_18 ?_
  refine v_nm (fun y14 ey14 => ?_)
  replace h := h y14 ey14
  refine v_istore_n [(0, .ref (a 0)), (1, .int x1), (2, .int y12), (3, .int y14)] [1, 2, 3, 0] 19 hF dX2_lives_19 rfl (Nat.le_of_ble_eq_true rfl) rfl ?_
  refine v_aload_n 20 hF dX2_lives_20 rfl 0 rfl ?_
  refine B_get 21 13 hF (Nat.le_of_ble_eq_true rfl) q196 rfl rfl dX2_lives_21 ?_
  refine v_iload_n 24 hF dX2_lives_24 rfl 2 rfl ?_
  refine v_callS0Ni (As := [.int ((σ 20 13)), .int y12]) 25 hF (c_X1_has l D ((σ 20 13)) y12 _ h) q425 q426 q70 q427 ds_X1_has ⟨rfl, rfl, Nat.le_of_ble_eq_true rfl, Nat.le_of_ble_eq_true rfl⟩ (Nat.le_of_ble_eq_true rfl) ⟨Nat.zero_le _, Nat.zero_le _⟩ dX2_lives_25 (fun r15 h => ?_)
  refine v_if_eq 28 84 hF dX2_lives_28 (by decide) (fun c16 => ?_) (fun c16 => ?_)
  · replace h := h.1 c16
    refine v_iconst (v := 2) 84 hF dX2_lives_84 (by decide) ?_
    refine v_aload_n 85 hF dX2_lives_85 rfl 0 rfl ?_
    refine v_iload_n 86 hF dX2_lives_86 rfl 2 rfl ?_
    refine v_callVi (As := [.int y12]) 87 hF (c_X2_level l D a σ y12 _ h) (List.Perm.refl _) ⟨0, 6, _, TX2, 24, rfl, rfl⟩ q442 q443 q444 q71 q445 ds_X2_level ⟨rfl, rfl, Nat.le_of_ble_eq_true rfl, Nat.le_of_ble_eq_true rfl⟩ (Nat.le_of_ble_eq_true rfl) ⟨Nat.zero_le _, Nat.zero_le _⟩ dX2_lives_87 (fun r17 t18 h => ?_)
    refine v_imul 90 hF dX2_lives_90 ?_
    refine v_aload_n 91 hF dX2_lives_91 rfl 0 rfl ?_
    refine B_get 92 7 hF (Nat.le_of_ble_eq_true rfl) q180 rfl rfl dX2_lives_92 ?_
    refine K_getN 95 3 hF (Nat.le_of_ble_eq_true rfl) q147 rfl rfl dX2_lives_95 ?_
    refine v_iload_n 98 hF dX2_lives_98 rfl 1 rfl ?_
    obtain ⟨o19, h⟩ := h
    refine B_ald33 99 hF o19 dX2_lives_99 ?_
    refine v_icmp_ge 100 113 hF dX2_lives_100 (by decide) (fun c20 => ?_) (fun c20 => ?_)
    · replace h := h.1 c20
      exact k_X2_lives_J113 hF hR _ _ _ _ h
    · replace h := h.2 c20
      refine v_aload_n 103 hF dX2_lives_103 rfl 0 rfl ?_
      refine v_iload_n 104 hF dX2_lives_104 rfl 1 rfl ?_
      refine v_iload_n 105 hF dX2_lives_105 rfl 3 rfl ?_
      refine v_iconst (v := 3) 106 hF dX2_lives_106 (by decide) ?_
      refine v_iadd 107 hF dX2_lives_107 ?_
      refine v_iconst (v := 4) 108 hF dX2_lives_108 (by decide) ?_
      obtain ⟨o21, h⟩ := h
      refine v_idiv 109 hF dX2_lives_109 o21 ?_
      refine v_callVv (As := [.int x1, .int (((y14 + (3 : Int32)) / (4 : Int32)))]) 110 hF (c_X2_loses l D a t18 x1 (((y14 + (3 : Int32)) / (4 : Int32))) _ h) (List.Perm.refl _) ⟨0, 6, _, TX2, 24, rfl, rfl⟩ q454 q456 qs6 q71 q457 ds_X2_loses ⟨rfl, rfl, Nat.le_of_ble_eq_true rfl, Nat.le_of_ble_eq_true rfl⟩ (Nat.le_of_ble_eq_true rfl) ⟨Nat.zero_le _, Nat.zero_le _⟩ dX2_lives_110 (fun t22 h => ?_)
      exact k_X2_lives_J113 hF hR _ _ _ _ h
  · replace h := h.2 c16
    refine v_aload_n 31 hF dX2_lives_31 rfl 0 rfl ?_
    refine v_iload_n 32 hF dX2_lives_32 rfl 1 rfl ?_
    refine v_iload_n 33 hF dX2_lives_33 rfl 2 rfl ?_
    refine v_iconst (v := 1) 34 hF dX2_lives_34 (by decide) ?_
    refine v_iadd 35 hF dX2_lives_35 ?_
    refine v_aload_n 36 hF dX2_lives_36 rfl 0 rfl ?_
    refine B_get 37 8 hF (Nat.le_of_ble_eq_true rfl) q183 rfl rfl dX2_lives_37 ?_
    refine v_icmp_ge 40 51 hF dX2_lives_40 (by decide) (fun c23 => ?_) (fun c23 => ?_)
    · replace h := h.1 c23
      refine v_iload_n 51 hF dX2_lives_51 rfl 3 rfl ?_
      exact k_X2_lives_J52 hF hR _ _ _ _ _ _ h
    · replace h := h.2 c23
      refine v_iload_n 43 hF dX2_lives_43 rfl 3 rfl ?_
      refine v_iconst (v := 1) 44 hF dX2_lives_44 (by decide) ?_
      refine v_iadd 45 hF dX2_lives_45 ?_
      refine v_iconst (v := 2) 46 hF dX2_lives_46 (by decide) ?_
      obtain ⟨o24, h⟩ := h
      refine v_idiv 47 hF dX2_lives_47 o24 ?_
      refine v_goto 48 52 hF dX2_lives_48 (by decide) ?_
      exact k_X2_lives_J52 hF hR _ _ _ _ _ _ h
def w_X2_night_L7 (Q : (Nat → Nat → Int32) → Prop) (K7 : (Nat → Nat → Int32) → Int32 → Prop) (σ : Nat → Nat → Int32) (x1 : Int32) : Prop :=
  (((σ 20 8) ≤ x1 → ((¬ (σ 20 14) = 0 → ∀ t3 : Nat → Nat → Int32, t3 = (upN σ 20 20 ((σ 20 20) + (0 : Int32))) → Q t3) ∧ ((σ 20 14) = 0 → ∀ t4 : Nat → Nat → Int32, t4 = (upN σ 20 20 ((σ 20 20) + (1 : Int32))) → Q t4))) ∧ (¬ (σ 20 8) ≤ x1 → w_X2_isCalling σ x1 (fun r5 t6 => ((r5 = 0 → ∀ t8 : Nat → Nat → Int32, t8 = (upN t6 20 14 ((σ 20 14) ||| (0 : Int32))) → ∀ y9 : Int32, y9 = x1 + (1 : Int32) → K7 t8 y9) ∧ (¬ r5 = 0 → ∀ t10 : Nat → Nat → Int32, t10 = (upN t6 20 14 ((σ 20 14) ||| ((1 : Int32) <<< (x1 &&& 31)))) → ∀ y11 : Int32, y11 = x1 + (1 : Int32) → K7 t10 y11)))))
def w_X2_night (σ : Nat → Nat → Int32) (Q : (Nat → Nat → Int32) → Prop) : Prop :=
  ∀ t12 : Nat → Nat → Int32, t12 = (upN σ 20 14 (0 : Int32)) → wLoop (fun K s => w_X2_night_L7 Q (fun v0 v1 => K (v0, v1)) s.1 s.2) (t12, (0 : Int32))
set_option maxHeartbeats 4000000 in
theorem k_X2_night_L7 {x : vC} {l : Launch} {D : va_G} {a : Nat → Nat}  {Q : (Nat → Nat → Int32) → Prop} (hF : vF x l D "BrookWeirs$Brook" cX2_night (rmk 2 0 0 43) 2 none) (hR : vRv x (bkW D a) Q 0 0) {K7 : (Nat → Nat → Int32) → Int32 → Prop} (hK7 : ∀ (σ : Nat → Nat → Int32) (x1 : Int32), K7 σ x1 → vV x 0 0 (bkW D a σ ++ []) [(0, .ref (a 0)), (1, .int x1)] 7 []) : ∀ (σ : Nat → Nat → Int32) (x1 : Int32), w_X2_night_L7 Q K7 σ x1 → vV x 0 0 (bkW D a σ ++ []) [(0, .ref (a 0)), (1, .int x1)] 7 [] := by
  intro σ x1 h
  unfold w_X2_night_L7 at h
  refine v_iload_n 7 hF dX2_night_7 rfl 1 rfl ?_
  refine v_aload_n 8 hF dX2_night_8 rfl 0 rfl ?_
  refine B_get 9 8 hF (Nat.le_of_ble_eq_true rfl) q183 rfl rfl dX2_night_9 ?_
  refine v_icmp_ge 12 45 hF dX2_night_12 (by decide) (fun c1 => ?_) (fun c1 => ?_)
  · replace h := h.1 c1
    refine v_aload_n 45 hF dX2_night_45 rfl 0 rfl ?_
    refine v_dup 46 hF dX2_night_46 rfl ?_
    refine B_get 47 20 hF (Nat.le_of_ble_eq_true rfl) q211 rfl rfl dX2_night_47 ?_
    refine v_aload_n 50 hF dX2_night_50 rfl 0 rfl ?_
    refine B_get 51 14 hF (Nat.le_of_ble_eq_true rfl) q198 rfl rfl dX2_night_51 ?_
    refine v_if_ne 54 61 hF dX2_night_54 (by decide) (fun c2 => ?_) (fun c2 => ?_)
    · replace h := h.1 c2
      refine v_iconst (v := 0) 61 hF dX2_night_61 (by decide) ?_
      refine v_iadd 62 hF dX2_night_62 ?_
      refine B_put20 63 hF q211 dX2_night_63 (fun t3 et3 => ?_)
      replace h := h t3 et3
      exact v_vretA 66 hF hR (Nat.zero_le _) (Nat.zero_le _) dX2_night_66 h
    · replace h := h.2 c2
      refine v_iconst (v := 1) 57 hF dX2_night_57 (by decide) ?_
      refine v_goto 58 62 hF dX2_night_58 (by decide) ?_
      refine v_iadd 62 hF dX2_night_62 ?_
      refine B_put20 63 hF q211 dX2_night_63 (fun t4 et4 => ?_)
      replace h := h t4 et4
      exact v_vretA 66 hF hR (Nat.zero_le _) (Nat.zero_le _) dX2_night_66 h
  · replace h := h.2 c1
    refine v_aload_n 15 hF dX2_night_15 rfl 0 rfl ?_
    refine v_dup 16 hF dX2_night_16 rfl ?_
    refine B_get 17 14 hF (Nat.le_of_ble_eq_true rfl) q198 rfl rfl dX2_night_17 ?_
    refine v_aload_n 20 hF dX2_night_20 rfl 0 rfl ?_
    refine v_iload_n 21 hF dX2_night_21 rfl 1 rfl ?_
    refine v_callVi (As := [.int x1]) 22 hF (c_X2_isCalling l D a σ x1 _ h) (List.Perm.refl _) ⟨0, 6, _, TX2, 24, rfl, rfl⟩ q470 q471 q472 q71 q473 ds_X2_isCalling ⟨rfl, rfl, Nat.le_of_ble_eq_true rfl, Nat.le_of_ble_eq_true rfl⟩ (Nat.le_of_ble_eq_true rfl) ⟨Nat.zero_le _, Nat.zero_le _⟩ dX2_night_22 (fun r5 t6 h => ?_)
    refine v_if_eq 25 34 hF dX2_night_25 (by decide) (fun c7 => ?_) (fun c7 => ?_)
    · replace h := h.1 c7
      refine v_iconst (v := 0) 34 hF dX2_night_34 (by decide) ?_
      refine v_ior 35 hF dX2_night_35 ?_
      refine B_put14 36 hF q198 dX2_night_36 (fun t8 et8 => ?_)
      replace h := h t8 et8
      obtain ⟨y9, ey9⟩ : ∃ y : Int32, y = x1 + (1 : Int32) := ⟨_, rfl⟩
      replace h := h y9 ey9
      refine v_iinc [(0, .ref (a 0)), (1, .int y9)] [1, 0] 39 hF dX2_night_39 1 rfl (by rw [ey9]; rfl) (Nat.le_of_ble_eq_true rfl) rfl ?_
      refine v_goto 42 7 hF dX2_night_42 (by decide) ?_
      exact hK7 _ _ h
    · replace h := h.2 c7
      refine v_iconst (v := 1) 28 hF dX2_night_28 (by decide) ?_
      refine v_iload_n 29 hF dX2_night_29 rfl 1 rfl ?_
      refine v_ishl 30 hF dX2_night_30 ?_
      refine v_goto 31 35 hF dX2_night_31 (by decide) ?_
      refine v_ior 35 hF dX2_night_35 ?_
      refine B_put14 36 hF q198 dX2_night_36 (fun t10 et10 => ?_)
      replace h := h t10 et10
      obtain ⟨y11, ey11⟩ : ∃ y : Int32, y = x1 + (1 : Int32) := ⟨_, rfl⟩
      replace h := h y11 ey11
      refine v_iinc [(0, .ref (a 0)), (1, .int y11)] [1, 0] 39 hF dX2_night_39 1 rfl (by rw [ey11]; rfl) (Nat.le_of_ble_eq_true rfl) rfl ?_
      refine v_goto 42 7 hF dX2_night_42 (by decide) ?_
      exact hK7 _ _ h
theorem ds_X2_night : yX2_night.cls = yX2_night.cls ∧ yX2_night.cls ≠ "java/lang/invoke/MethodHandle" ∧ yX2_night.cls ≠ "java/lang/invoke/VarHandle" ∧ (parseMethodDescriptor yX2_night.desc).map (fun d => d.parameters.length) = some 0 := by decide +kernel
set_option maxHeartbeats 4000000 in
theorem c_X2_night (l : Launch) (D : va_G) (a : Nat → Nat) (σ : Nat → Nat → Int32) (Q : (Nat → Nat → Int32) → Prop) (h : w_X2_night σ Q) : Ctv l D yX2_night cX2_night 2 (rmk 2 0 0 43) [.ref (a 0)] (bkW D a σ) (bkW D a) Q 0 0 := by
  refine Ctv.of (by decide) (Nat.le_of_ble_eq_true rfl) (fun x hF hR => ?_)
  replace hF : vF x l D "BrookWeirs$Brook" cX2_night (rmk 2 0 0 43) 2 none := hF
  refine v_app0 ?_
  unfold w_X2_night at h
  refine v_aload_n 0 hF dX2_night_0 rfl 0 rfl ?_
  refine v_iconst (v := 0) 1 hF dX2_night_1 (by decide) ?_
  refine B_put14 2 hF q198 dX2_night_2 (fun t12 et12 => ?_)
  replace h := h t12 et12
  refine v_iconst (v := 0) 5 hF dX2_night_5 (by decide) ?_
  refine v_istore_n [(0, .ref (a 0)), (1, .int ((0 : Int32)))] [1, 0] 6 hF dX2_night_6 rfl (Nat.le_of_ble_eq_true rfl) rfl ?_
  exact vLoop (V := fun s => vV x 0 0 (bkW D a s.1 ++ []) [(0, .ref (a 0)), (1, .int s.2)] 7 []) (fun K hK s hs => k_X2_night_L7 hF hR (fun v0 v1 q => hK (v0, v1) q) s.1 s.2 hs) _ h
def w_X2_day_L44 (Q : Int32 → (Nat → Nat → Int32) → Prop) (K44 : (Nat → Nat → Int32) → Int32 → Prop) (σ : Nat → Nat → Int32) (x1 : Int32) : Prop :=
  (((σ 40 4) ≤ x1 → w_X3_tidy σ  (fun t2 => w_X2_night t2  (fun t3 => ∀ t4 : Nat → Nat → Int32, t4 = (upN t3 20 15 ((t3 20 15) + (1 : Int32))) → w_J20_bitCount ((t4 20 13)) (fun r5 => Q r5 t4)))) ∧ (¬ (σ 40 4) ≤ x1 → w_X2_lives σ x1 (fun t6 => ∀ y7 : Int32, y7 = x1 + (1 : Int32) → K44 t6 y7)))
def w_X2_day_L10 (Q : Int32 → (Nat → Nat → Int32) → Prop) (K10 : (Nat → Nat → Int32) → Int32 → Prop) (σ : Nat → Nat → Int32) (x1 : Int32) : Prop :=
  (((σ 20 8) ≤ x1 → w_X2_floods σ  (fun t9 => w_X2_fields t9  (fun t10 => wLoop (fun K s => w_X2_day_L44 Q (fun v0 v1 => K (v0, v1)) s.1 s.2) (t10, (0 : Int32))))) ∧ (¬ (σ 20 8) ≤ x1 → w_X2_down σ x1 (fun r11 t12 => w_X2_passes t12 x1 r11 (fun t13 => ∀ y14 : Int32, y14 = x1 + (1 : Int32) → K10 t13 y14))))
def w_X2_day (σ : Nat → Nat → Int32) (Q : Int32 → (Nat → Nat → Int32) → Prop) : Prop :=
  w_X2_nextRain σ  (fun r15 t16 => w_X2_rains t16 r15 (fun t17 => wLoop (fun K s => w_X2_day_L10 Q (fun v0 v1 => K (v0, v1)) s.1 s.2) (t17, (0 : Int32))))
set_option maxHeartbeats 4000000 in
theorem k_X2_day_L44 {x : vC} {l : Launch} {D : va_G} {a : Nat → Nat}  {Q : Int32 → (Nat → Nat → Int32) → Prop} (hF : vF x l D "BrookWeirs$Brook" cX2_day (rmk 3 0 0 109) 2 (some .int)) (hR : vRi x (bkW D a) Q 0 0) {K44 : (Nat → Nat → Int32) → Int32 → Prop} (hK44 : ∀ (σ : Nat → Nat → Int32) (x1 : Int32), K44 σ x1 → vV x 0 0 (bkW D a σ ++ []) [(0, .ref (a 0)), (1, .int x1)] 44 []) : ∀ (σ : Nat → Nat → Int32) (x1 : Int32), w_X2_day_L44 Q K44 σ x1 → vV x 0 0 (bkW D a σ ++ []) [(0, .ref (a 0)), (1, .int x1)] 44 [] := by
  intro σ x1 h
  unfold w_X2_day_L44 at h
  refine v_iload_n 44 hF dX2_day_44 rfl 1 rfl ?_
  refine v_aload_n 45 hF dX2_day_45 rfl 0 rfl ?_
  refine B_get 46 7 hF (Nat.le_of_ble_eq_true rfl) q180 rfl rfl dX2_day_46 ?_
  refine K_getN 49 4 hF (Nat.le_of_ble_eq_true rfl) q151 rfl rfl dX2_day_49 ?_
  refine v_icmp_ge 52 66 hF dX2_day_52 (by decide) (fun c1 => ?_) (fun c1 => ?_)
  · replace h := h.1 c1
    refine v_aload_n 66 hF dX2_day_66 rfl 0 rfl ?_
    refine B_get 67 7 hF (Nat.le_of_ble_eq_true rfl) q180 rfl rfl dX2_day_67 ?_
    refine v_callVv (As := []) 70 hF (c_X3_tidy l D a σ _ h) (List.Perm.refl _) ⟨8, 7, _, TX3, 5, rfl, rfl⟩ q462 q463 q464 q72 q465 ds_X3_tidy ⟨rfl, rfl, Nat.le_of_ble_eq_true rfl, Nat.le_of_ble_eq_true rfl⟩ (Nat.le_of_ble_eq_true rfl) ⟨Nat.zero_le _, Nat.zero_le _⟩ dX2_day_70 (fun t2 h => ?_)
    refine v_aload_n 73 hF dX2_day_73 rfl 0 rfl ?_
    refine v_callVv (As := []) 74 hF (c_X2_night l D a t2 _ h) (List.Perm.refl _) ⟨0, 6, _, TX2, 24, rfl, rfl⟩ q466 q468 qs8 q71 q469 ds_X2_night ⟨rfl, rfl, Nat.le_of_ble_eq_true rfl, Nat.le_of_ble_eq_true rfl⟩ (Nat.le_of_ble_eq_true rfl) ⟨Nat.zero_le _, Nat.zero_le _⟩ dX2_day_74 (fun t3 h => ?_)
    refine v_aload_n 77 hF dX2_day_77 rfl 0 rfl ?_
    refine v_dup 78 hF dX2_day_78 rfl ?_
    refine B_get 79 15 hF (Nat.le_of_ble_eq_true rfl) q200 rfl rfl dX2_day_79 ?_
    refine v_iconst (v := 1) 82 hF dX2_day_82 (by decide) ?_
    refine v_iadd 83 hF dX2_day_83 ?_
    refine B_put15 84 hF q200 dX2_day_84 (fun t4 et4 => ?_)
    replace h := h t4 et4
    refine v_aload_n 87 hF dX2_day_87 rfl 0 rfl ?_
    refine B_get 88 13 hF (Nat.le_of_ble_eq_true rfl) q196 rfl rfl dX2_day_88 ?_
    refine v_callS0i (As := [.int ((t4 20 13))]) 91 hF (c_J20_bitCount l D ((t4 20 13)) _ h) q477 q478 q101 q479 ds_J20_bitCount ⟨rfl, rfl, Nat.le_of_ble_eq_true rfl, Nat.le_of_ble_eq_true rfl⟩ (Nat.le_of_ble_eq_true rfl) ⟨Nat.zero_le _, Nat.zero_le _⟩ dX2_day_91 (fun r5 h => ?_)
    exact v_iretA 94 hF hR (Nat.zero_le _) (Nat.zero_le _) dX2_day_94 h
  · replace h := h.2 c1
    refine v_aload_n 55 hF dX2_day_55 rfl 0 rfl ?_
    refine v_iload_n 56 hF dX2_day_56 rfl 1 rfl ?_
    refine v_callVv (As := [.int x1]) 57 hF (c_X2_lives l D a σ x1 _ h) (List.Perm.refl _) ⟨0, 6, _, TX2, 24, rfl, rfl⟩ q450 q452 qs5 q71 q453 ds_X2_lives ⟨rfl, rfl, Nat.le_of_ble_eq_true rfl, Nat.le_of_ble_eq_true rfl⟩ (Nat.le_of_ble_eq_true rfl) ⟨Nat.zero_le _, Nat.zero_le _⟩ dX2_day_57 (fun t6 h => ?_)
    obtain ⟨y7, ey7⟩ : ∃ y : Int32, y = x1 + (1 : Int32) := ⟨_, rfl⟩
    replace h := h y7 ey7
    refine v_iinc [(0, .ref (a 0)), (1, .int y7)] [1, 0] 60 hF dX2_day_60 1 rfl (by rw [ey7]; rfl) (Nat.le_of_ble_eq_true rfl) rfl ?_
    refine v_goto 63 44 hF dX2_day_63 (by decide) ?_
    exact hK44 _ _ h
set_option maxHeartbeats 4000000 in
theorem k_X2_day_L10 {x : vC} {l : Launch} {D : va_G} {a : Nat → Nat}  {Q : Int32 → (Nat → Nat → Int32) → Prop} (hF : vF x l D "BrookWeirs$Brook" cX2_day (rmk 3 0 0 109) 2 (some .int)) (hR : vRi x (bkW D a) Q 0 0) {K10 : (Nat → Nat → Int32) → Int32 → Prop} (hK10 : ∀ (σ : Nat → Nat → Int32) (x1 : Int32), K10 σ x1 → vV x 0 0 (bkW D a σ ++ []) [(0, .ref (a 0)), (1, .int x1)] 10 []) : ∀ (σ : Nat → Nat → Int32) (x1 : Int32), w_X2_day_L10 Q K10 σ x1 → vV x 0 0 (bkW D a σ ++ []) [(0, .ref (a 0)), (1, .int x1)] 10 [] := by
  intro σ x1 h
  unfold w_X2_day_L10 at h
  refine v_iload_n 10 hF dX2_day_10 rfl 1 rfl ?_
  refine v_aload_n 11 hF dX2_day_11 rfl 0 rfl ?_
  refine B_get 12 8 hF (Nat.le_of_ble_eq_true rfl) q183 rfl rfl dX2_day_12 ?_
  refine v_icmp_ge 15 34 hF dX2_day_15 (by decide) (fun c8 => ?_) (fun c8 => ?_)
  · replace h := h.1 c8
    refine v_aload_n 34 hF dX2_day_34 rfl 0 rfl ?_
    refine v_callVv (As := []) 35 hF (c_X2_floods l D a σ _ h) (List.Perm.refl _) ⟨0, 6, _, TX2, 24, rfl, rfl⟩ q438 q440 qs3 q71 q441 ds_X2_floods ⟨rfl, rfl, Nat.le_of_ble_eq_true rfl, Nat.le_of_ble_eq_true rfl⟩ (Nat.le_of_ble_eq_true rfl) ⟨Nat.zero_le _, Nat.zero_le _⟩ dX2_day_35 (fun t9 h => ?_)
    refine v_aload_n 38 hF dX2_day_38 rfl 0 rfl ?_
    refine v_callVv (As := []) 39 hF (c_X2_fields l D a t9 _ h) (List.Perm.refl _) ⟨0, 6, _, TX2, 24, rfl, rfl⟩ q446 q448 qs4 q71 q449 ds_X2_fields ⟨rfl, rfl, Nat.le_of_ble_eq_true rfl, Nat.le_of_ble_eq_true rfl⟩ (Nat.le_of_ble_eq_true rfl) ⟨Nat.zero_le _, Nat.zero_le _⟩ dX2_day_39 (fun t10 h => ?_)
    refine v_iconst (v := 0) 42 hF dX2_day_42 (by decide) ?_
    refine v_istore_n [(0, .ref (a 0)), (1, .int ((0 : Int32)))] [1, 0] 43 hF dX2_day_43 rfl (Nat.le_of_ble_eq_true rfl) rfl ?_
    exact vLoop (V := fun s => vV x 0 0 (bkW D a s.1 ++ []) [(0, .ref (a 0)), (1, .int s.2)] 44 []) (fun K hK s hs => k_X2_day_L44 hF hR (fun v0 v1 q => hK (v0, v1) q) s.1 s.2 hs) _ h
  · replace h := h.2 c8
    refine v_aload_n 18 hF dX2_day_18 rfl 0 rfl ?_
    refine v_iload_n 19 hF dX2_day_19 rfl 1 rfl ?_
    refine v_aload_n 20 hF dX2_day_20 rfl 0 rfl ?_
    refine v_iload_n 21 hF dX2_day_21 rfl 1 rfl ?_
    refine v_callVi (As := [.int x1]) 22 hF (c_X2_down l D a σ x1 _ h) (List.Perm.refl _) ⟨0, 6, _, TX2, 24, rfl, rfl⟩ q417 q418 q419 q71 q420 ds_X2_down ⟨rfl, rfl, Nat.le_of_ble_eq_true rfl, Nat.le_of_ble_eq_true rfl⟩ (Nat.le_of_ble_eq_true rfl) ⟨Nat.zero_le _, Nat.zero_le _⟩ dX2_day_22 (fun r11 t12 h => ?_)
    refine v_callVv (As := [.int x1, .int r11]) 25 hF (c_X2_passes l D a t12 x1 r11 _ h) (List.Perm.refl _) ⟨0, 6, _, TX2, 24, rfl, rfl⟩ q434 q436 qs2 q71 q437 ds_X2_passes ⟨rfl, rfl, Nat.le_of_ble_eq_true rfl, Nat.le_of_ble_eq_true rfl⟩ (Nat.le_of_ble_eq_true rfl) ⟨Nat.zero_le _, Nat.zero_le _⟩ dX2_day_25 (fun t13 h => ?_)
    obtain ⟨y14, ey14⟩ : ∃ y : Int32, y = x1 + (1 : Int32) := ⟨_, rfl⟩
    replace h := h y14 ey14
    refine v_iinc [(0, .ref (a 0)), (1, .int y14)] [1, 0] 28 hF dX2_day_28 1 rfl (by rw [ey14]; rfl) (Nat.le_of_ble_eq_true rfl) rfl ?_
    refine v_goto 31 10 hF dX2_day_31 (by decide) ?_
    exact hK10 _ _ h
theorem ds_X2_day : yX2_day.cls = yX2_day.cls ∧ yX2_day.cls ≠ "java/lang/invoke/MethodHandle" ∧ yX2_day.cls ≠ "java/lang/invoke/VarHandle" ∧ (parseMethodDescriptor yX2_day.desc).map (fun d => d.parameters.length) = some 0 := by decide +kernel
set_option maxHeartbeats 4000000 in
theorem c_X2_day (l : Launch) (D : va_G) (a : Nat → Nat) (σ : Nat → Nat → Int32) (Q : Int32 → (Nat → Nat → Int32) → Prop) (h : w_X2_day σ Q) : Cti l D yX2_day cX2_day 2 .int (rmk 3 0 0 109) [.ref (a 0)] (bkW D a σ) (bkW D a) Q 0 0 := by
  refine Cti.of (by decide) (Nat.le_of_ble_eq_true rfl) (fun x hF hR => ?_)
  replace hF : vF x l D "BrookWeirs$Brook" cX2_day (rmk 3 0 0 109) 2 (some .int) := hF
  refine v_app0 ?_
  unfold w_X2_day at h
  refine v_aload_n 0 hF dX2_day_0 rfl 0 rfl ?_
  refine v_aload_n 1 hF dX2_day_1 rfl 0 rfl ?_
  refine v_callVi (As := []) 2 hF (c_X2_nextRain l D a σ _ h) (List.Perm.refl _) ⟨0, 6, _, TX2, 24, rfl, rfl⟩ q406 q408 qs0 q71 q409 ds_X2_nextRain ⟨rfl, rfl, Nat.le_of_ble_eq_true rfl, Nat.le_of_ble_eq_true rfl⟩ (Nat.le_of_ble_eq_true rfl) ⟨Nat.zero_le _, Nat.zero_le _⟩ dX2_day_2 (fun r15 t16 h => ?_)
  refine v_callVv (As := [.int r15]) 5 hF (c_X2_rains l D a t16 r15 _ h) (List.Perm.refl _) ⟨0, 6, _, TX2, 24, rfl, rfl⟩ q413 q415 qs1 q71 q416 ds_X2_rains ⟨rfl, rfl, Nat.le_of_ble_eq_true rfl, Nat.le_of_ble_eq_true rfl⟩ (Nat.le_of_ble_eq_true rfl) ⟨Nat.zero_le _, Nat.zero_le _⟩ dX2_day_5 (fun t17 h => ?_)
  refine v_iconst (v := 0) 8 hF dX2_day_8 (by decide) ?_
  refine v_istore_n [(0, .ref (a 0)), (1, .int ((0 : Int32)))] [1, 0] 9 hF dX2_day_9 rfl (Nat.le_of_ble_eq_true rfl) rfl ?_
  exact vLoop (V := fun s => vV x 0 0 (bkW D a s.1 ++ []) [(0, .ref (a 0)), (1, .int s.2)] 10 []) (fun K hK s hs => k_X2_day_L10 hF hR (fun v0 v1 q => hK (v0, v1) q) s.1 s.2 hs) _ h
