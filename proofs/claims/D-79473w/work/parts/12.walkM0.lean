set_option maxRecDepth 100000
def w_X7_thrown (σ : Nat → Nat → Int32) (Q : Int32 → (Nat → Nat → Int32) → Prop) : Prop :=
  Q ((σ 20 7)) σ
theorem ds_X7_thrown : yX7_thrown.cls = yX7_thrown.cls ∧ yX7_thrown.cls ≠ "java/lang/invoke/MethodHandle" ∧ yX7_thrown.cls ≠ "java/lang/invoke/VarHandle" ∧ (parseMethodDescriptor yX7_thrown.desc).map (fun d => d.parameters.length) = some 0 := by decide +kernel
set_option maxHeartbeats 4000000 in
theorem c_X7_thrown (l : Launch) (D : va_G) (a : Nat → Nat) (σ : Nat → Nat → Int32) (Q : Int32 → (Nat → Nat → Int32) → Prop) (h : w_X7_thrown σ Q) : Cti l D yX7_thrown cX7_thrown 1 .int (rmk 0 0 0 0) [.ref (a 0)] (moW D a σ) (moW D a) Q 0 0 := by
  refine Cti.of (by decide) (Nat.le_of_ble_eq_true rfl) (fun x hF hR => ?_)
  replace hF : vF x l D "BrookWeirsModel" cX7_thrown (rmk 0 0 0 0) 1 (some .int) := hF
  refine v_app0 ?_
  unfold w_X7_thrown at h
  refine v_aload_n 0 hF dX7_thrown_0 rfl 0 rfl ?_
  refine M_get 1 7 hF (Nat.le_of_ble_eq_true rfl) q1911 rfl rfl dX7_thrown_1 ?_
  exact v_iretA 4 hF hR (Nat.zero_le _) (Nat.zero_le _) dX7_thrown_4 h
def w_X7_in (x0 x1 x2 : Int32) (Q : Int32 → Prop) : Prop :=
  ((x0 < x1 → Q ((0 : Int32))) ∧ (¬ x0 < x1 → ((x2 < x0 → Q ((0 : Int32))) ∧ (¬ x2 < x0 → Q ((1 : Int32))))))
theorem ds_X7_in : yX7_in.cls = yX7_in.cls ∧ yX7_in.cls ≠ "java/lang/invoke/MethodHandle" ∧ yX7_in.cls ≠ "java/lang/invoke/VarHandle" ∧ (parseMethodDescriptor yX7_in.desc).map (fun d => d.parameters.length) = some 3 := by decide +kernel
set_option maxHeartbeats 4000000 in
theorem c_X7_in (l : Launch) (D : va_G) (x0 x1 x2 : Int32) (Q : Int32 → Prop) (h : w_X7_in x0 x1 x2 Q) : Cti l D yX7_in cX7_in 3 .boolean (rmk 0 0 0 0) [.int x0, .int x1, .int x2] [] (fun _ : Unit => []) (fun r _ => Q r) 0 0 := by
  refine Cti.of (by decide) (Nat.le_of_ble_eq_true rfl) (fun x hF hR => ?_)
  replace hF : vF x l D "BrookWeirsModel" cX7_in (rmk 0 0 0 0) 3 (some .boolean) := hF
  unfold w_X7_in at h
  refine v_iload_n 0 hF dX7_in_0 rfl 0 rfl ?_
  refine v_iload_n 1 hF dX7_in_1 rfl 1 rfl ?_
  refine v_icmp_lt 2 14 hF dX7_in_2 (by decide) (fun c1 => ?_) (fun c1 => ?_)
  · replace h := h.1 c1
    refine v_iconst (v := 0) 14 hF dX7_in_14 (by decide) ?_
    exact v_zret (u := ()) 15 hF hR (Nat.zero_le _) (Nat.zero_le _) rfl dX7_in_15 h
  · replace h := h.2 c1
    refine v_iload_n 5 hF dX7_in_5 rfl 0 rfl ?_
    refine v_iload_n 6 hF dX7_in_6 rfl 2 rfl ?_
    refine v_icmp_gt 7 14 hF dX7_in_7 (by decide) (fun c2 => ?_) (fun c2 => ?_)
    · replace h := h.1 c2
      refine v_iconst (v := 0) 14 hF dX7_in_14 (by decide) ?_
      exact v_zret (u := ()) 15 hF hR (Nat.zero_le _) (Nat.zero_le _) rfl dX7_in_15 h
    · replace h := h.2 c2
      refine v_iconst (v := 1) 10 hF dX7_in_10 (by decide) ?_
      refine v_goto 11 15 hF dX7_in_11 (by decide) ?_
      exact v_zret (u := ()) 15 hF hR (Nat.zero_le _) (Nat.zero_le _) rfl dX7_in_15 h
def w_X7_refuse (σ : Nat → Nat → Int32) (x1 x2 : Int32) (Q : Int32 → (Nat → Nat → Int32) → Prop) : Prop :=
  ∀ t1 : Nat → Nat → Int32, t1 = (upN σ 20 7 x1) → ∀ t2 : Nat → Nat → Int32, t2 = (upN t1 20 8 x2) → ∀ t3 : Nat → Nat → Int32, t3 = (upN t2 20 9 (0 : Int32)) → Q ((0 : Int32)) t3
theorem ds_X7_refuse : yX7_refuse.cls = yX7_refuse.cls ∧ yX7_refuse.cls ≠ "java/lang/invoke/MethodHandle" ∧ yX7_refuse.cls ≠ "java/lang/invoke/VarHandle" ∧ (parseMethodDescriptor yX7_refuse.desc).map (fun d => d.parameters.length) = some 2 := by decide +kernel
set_option maxHeartbeats 4000000 in
theorem c_X7_refuse (l : Launch) (D : va_G) (a : Nat → Nat) (σ : Nat → Nat → Int32) (x1 x2 : Int32) (Q : Int32 → (Nat → Nat → Int32) → Prop) (h : w_X7_refuse σ x1 x2 Q) : Cti l D yX7_refuse cX7_refuse 3 .int (rmk 0 0 0 0) [.ref (a 0), .int x1, .int x2] (moW D a σ) (moW D a) Q 0 0 := by
  refine Cti.of (by decide) (Nat.le_of_ble_eq_true rfl) (fun x hF hR => ?_)
  replace hF : vF x l D "BrookWeirsModel" cX7_refuse (rmk 0 0 0 0) 3 (some .int) := hF
  refine v_app0 ?_
  unfold w_X7_refuse at h
  refine v_aload_n 0 hF dX7_refuse_0 rfl 0 rfl ?_
  refine v_iload_n 1 hF dX7_refuse_1 rfl 1 rfl ?_
  refine M_put7 2 hF q1911 dX7_refuse_2 (fun t1 et1 => ?_)
  replace h := h t1 et1
  refine v_aload_n 5 hF dX7_refuse_5 rfl 0 rfl ?_
  refine v_iload_n 6 hF dX7_refuse_6 rfl 2 rfl ?_
  refine M_put8 7 hF q1912 dX7_refuse_7 (fun t2 et2 => ?_)
  replace h := h t2 et2
  refine v_aload_n 10 hF dX7_refuse_10 rfl 0 rfl ?_
  refine v_iconst (v := 0) 11 hF dX7_refuse_11 (by decide) ?_
  refine M_put9 12 hF q1913 dX7_refuse_12 (fun t3 et3 => ?_)
  replace h := h t3 et3
  refine v_iconst (v := 0) 15 hF dX7_refuse_15 (by decide) ?_
  exact v_iretA 16 hF hR (Nat.zero_le _) (Nat.zero_le _) dX7_refuse_16 h
def w_X7_keep (σ : Nat → Nat → Int32) (Q : (Nat → Nat → Int32) → Prop) : Prop :=
  ¬ (0 : Int32) < 0 ∧ ¬ (0 : Int32) < 0 ∧ ¬ (156 : Int32) < 0 ∧ ((0 : Int32)).toNatClampNeg + ((156 : Int32)).toNatClampNeg ≤ 156 ∧ ((0 : Int32)).toNatClampNeg + ((156 : Int32)).toNatClampNeg ≤ 156 ∧ ∀ t6 : Nat → Nat → Int32, t6 = upR σ 1 (va_cpy (σ 0) (σ 1) ((0 : Int32)).toNatClampNeg ((0 : Int32)).toNatClampNeg ((156 : Int32)).toNatClampNeg) → Q t6
theorem ds_X7_keep : yX7_keep.cls = yX7_keep.cls ∧ yX7_keep.cls ≠ "java/lang/invoke/MethodHandle" ∧ yX7_keep.cls ≠ "java/lang/invoke/VarHandle" ∧ (parseMethodDescriptor yX7_keep.desc).map (fun d => d.parameters.length) = some 0 := by decide +kernel
set_option maxHeartbeats 4000000 in
theorem c_X7_keep (l : Launch) (D : va_G) (a : Nat → Nat) (σ : Nat → Nat → Int32) (Q : (Nat → Nat → Int32) → Prop) (h : w_X7_keep σ Q) : Ctv l D yX7_keep cX7_keep 1 (rmk 1 0 0 64) [.ref (a 0)] (moW D a σ) (moW D a) Q 0 0 := by
  refine Ctv.of (by decide) (Nat.le_of_ble_eq_true rfl) (fun x hF hR => ?_)
  replace hF : vF x l D "BrookWeirsModel" cX7_keep (rmk 1 0 0 64) 1 none := hF
  refine v_app0 ?_
  unfold w_X7_keep at h
  refine v_aload_n 0 hF dX7_keep_0 rfl 0 rfl ?_
  refine M_get 1 0 hF (Nat.le_of_ble_eq_true rfl) q1904 rfl rfl dX7_keep_1 ?_
  refine v_iconst (v := 0) 4 hF dX7_keep_4 (by decide) ?_
  refine v_aload_n 5 hF dX7_keep_5 rfl 0 rfl ?_
  refine M_get 6 1 hF (Nat.le_of_ble_eq_true rfl) q1905 rfl rfl dX7_keep_6 ?_
  refine v_iconst (v := 0) 9 hF dX7_keep_9 (by decide) ?_
  refine v_sipush (v := 156) 10 hF dX7_keep_10 (by decide) ?_
  obtain ⟨o1, o2, o3, o4, o5, h⟩ := h
  refine M_cpy0_1 13 hF q1979 o1 o2 o3 o4 o5 (Nat.le_of_ble_eq_true rfl) (Nat.le_of_ble_eq_true rfl) dX7_keep_13 (fun t6 et6 => ?_)
  replace h := h t6 et6
  exact v_vretA 16 hF hR (Nat.zero_le _) (Nat.zero_le _) dX7_keep_16 h
def w_X7_at (x0 : Int32) (Q : Int32 → Prop) : Prop :=
  Q (((12 : Int32) + ((11 : Int32) * x0)))
theorem ds_X7_at : yX7_at.cls = yX7_at.cls ∧ yX7_at.cls ≠ "java/lang/invoke/MethodHandle" ∧ yX7_at.cls ≠ "java/lang/invoke/VarHandle" ∧ (parseMethodDescriptor yX7_at.desc).map (fun d => d.parameters.length) = some 1 := by decide +kernel
set_option maxHeartbeats 4000000 in
theorem c_X7_at (l : Launch) (D : va_G) (x0 : Int32) (Q : Int32 → Prop) (h : w_X7_at x0 Q) : Cti l D yX7_at cX7_at 1 .int (rmk 0 0 0 0) [.int x0] [] (fun _ : Unit => []) (fun r _ => Q r) 0 0 := by
  refine Cti.of (by decide) (Nat.le_of_ble_eq_true rfl) (fun x hF hR => ?_)
  replace hF : vF x l D "BrookWeirsModel" cX7_at (rmk 0 0 0 0) 1 (some .int) := hF
  unfold w_X7_at at h
  refine v_bipush (v := 12) 0 hF dX7_at_0 (by decide) ?_
  refine v_bipush (v := 11) 2 hF dX7_at_2 (by decide) ?_
  refine v_iload_n 4 hF dX7_at_4 rfl 0 rfl ?_
  refine v_imul 5 hF dX7_at_5 ?_
  refine v_iadd 6 hF dX7_at_6 ?_
  exact v_iret (u := ()) 7 hF hR (Nat.zero_le _) (Nat.zero_le _) dX7_at_7 h
def w_X7_ends_J62 (Q : Int32 → (Nat → Nat → Int32) → Prop)  (σ : Nat → Nat → Int32) (x1 : Int32) : Prop :=
  ¬ (0 : Int32) < 0 ∧ ¬ ((156 : Int32) * (σ 20 6)) < 0 ∧ ¬ (156 : Int32) < 0 ∧ ((0 : Int32)).toNatClampNeg + ((156 : Int32)).toNatClampNeg ≤ 156 ∧ (((156 : Int32) * (σ 20 6))).toNatClampNeg + ((156 : Int32)).toNatClampNeg ≤ 1248 ∧ ∀ t6 : Nat → Nat → Int32, t6 = upR σ 5 (va_cpy (σ 1) (σ 5) ((0 : Int32)).toNatClampNeg (((156 : Int32) * (σ 20 6))).toNatClampNeg ((156 : Int32)).toNatClampNeg) → ∀ t7 : Nat → Nat → Int32, t7 = (upN t6 20 6 ((t6 20 6) + (1 : Int32))) → Q x1 t7
def w_X7_ends (σ : Nat → Nat → Int32) (x1 : Int32) (Q : Int32 → (Nat → Nat → Int32) → Prop) : Prop :=
  (((σ 20 7) ≤ 0 → ((¬ (σ 20 6) = (8 : Int32) → w_X7_ends_J62 Q σ x1) ∧ ((σ 20 6) = (8 : Int32) → ¬ (156 : Int32) < 0 ∧ ¬ (0 : Int32) < 0 ∧ ¬ (1092 : Int32) < 0 ∧ ((156 : Int32)).toNatClampNeg + ((1092 : Int32)).toNatClampNeg ≤ 1248 ∧ ((0 : Int32)).toNatClampNeg + ((1092 : Int32)).toNatClampNeg ≤ 1248 ∧ ∀ t15 : Nat → Nat → Int32, t15 = upR σ 5 (va_cpy (σ 5) (σ 5) ((156 : Int32)).toNatClampNeg ((0 : Int32)).toNatClampNeg ((1092 : Int32)).toNatClampNeg) → ∀ t16 : Nat → Nat → Int32, t16 = (upN t15 20 6 ((t15 20 6) - (1 : Int32))) → w_X7_ends_J62 Q t16 x1))) ∧ (¬ (σ 20 7) ≤ 0 → ¬ (0 : Int32) < 0 ∧ ¬ (0 : Int32) < 0 ∧ ¬ (156 : Int32) < 0 ∧ ((0 : Int32)).toNatClampNeg + ((156 : Int32)).toNatClampNeg ≤ 156 ∧ ((0 : Int32)).toNatClampNeg + ((156 : Int32)).toNatClampNeg ≤ 156 ∧ ∀ t22 : Nat → Nat → Int32, t22 = upR σ 0 (va_cpy (σ 1) (σ 0) ((0 : Int32)).toNatClampNeg ((0 : Int32)).toNatClampNeg ((156 : Int32)).toNatClampNeg) → Q ((0 : Int32)) t22))
set_option maxHeartbeats 4000000 in
theorem k_X7_ends_J62 {x : vC} {l : Launch} {D : va_G} {a : Nat → Nat}  {Q : Int32 → (Nat → Nat → Int32) → Prop} (hF : vF x l D "BrookWeirsModel" cX7_ends (rmk 1 0 0 64) 2 (some .int)) (hR : vRi x (moW D a) Q 0 0)   : ∀ (σ : Nat → Nat → Int32) (x1 : Int32), w_X7_ends_J62 Q  σ x1 → vV x 0 0 (moW D a σ ++ []) [(0, .ref (a 0)), (1, .int x1)] 62 [] := by
  intro σ x1 h
  unfold w_X7_ends_J62 at h
  refine v_aload_n 62 hF dX7_ends_62 rfl 0 rfl ?_
  refine M_get 63 1 hF (Nat.le_of_ble_eq_true rfl) q1905 rfl rfl dX7_ends_63 ?_
  refine v_iconst (v := 0) 66 hF dX7_ends_66 (by decide) ?_
  refine v_aload_n 67 hF dX7_ends_67 rfl 0 rfl ?_
  refine M_get 68 5 hF (Nat.le_of_ble_eq_true rfl) q1909 rfl rfl dX7_ends_68 ?_
  refine v_sipush (v := 156) 71 hF dX7_ends_71 (by decide) ?_
  refine v_aload_n 74 hF dX7_ends_74 rfl 0 rfl ?_
  refine M_get 75 6 hF (Nat.le_of_ble_eq_true rfl) q1910 rfl rfl dX7_ends_75 ?_
  refine v_imul 78 hF dX7_ends_78 ?_
  refine v_sipush (v := 156) 79 hF dX7_ends_79 (by decide) ?_
  obtain ⟨o1, o2, o3, o4, o5, h⟩ := h
  refine M_cpy1_5 82 hF q1979 o1 o2 o3 o4 o5 (Nat.le_of_ble_eq_true rfl) (Nat.le_of_ble_eq_true rfl) dX7_ends_82 (fun t6 et6 => ?_)
  replace h := h t6 et6
  refine v_aload_n 85 hF dX7_ends_85 rfl 0 rfl ?_
  refine v_dup 86 hF dX7_ends_86 rfl ?_
  refine M_get 87 6 hF (Nat.le_of_ble_eq_true rfl) q1910 rfl rfl dX7_ends_87 ?_
  refine v_iconst (v := 1) 90 hF dX7_ends_90 (by decide) ?_
  refine v_iadd 91 hF dX7_ends_91 ?_
  refine M_put6 92 hF q1910 dX7_ends_92 (fun t7 et7 => ?_)
  replace h := h t7 et7
  refine v_iload_n 95 hF dX7_ends_95 rfl 1 rfl ?_
  exact v_iretA 96 hF hR (Nat.zero_le _) (Nat.zero_le _) dX7_ends_96 h
theorem ds_X7_ends : yX7_ends.cls = yX7_ends.cls ∧ yX7_ends.cls ≠ "java/lang/invoke/MethodHandle" ∧ yX7_ends.cls ≠ "java/lang/invoke/VarHandle" ∧ (parseMethodDescriptor yX7_ends.desc).map (fun d => d.parameters.length) = some 1 := by decide +kernel
set_option maxHeartbeats 4000000 in
theorem c_X7_ends (l : Launch) (D : va_G) (a : Nat → Nat) (σ : Nat → Nat → Int32) (x1 : Int32) (Q : Int32 → (Nat → Nat → Int32) → Prop) (h : w_X7_ends σ x1 Q) : Cti l D yX7_ends cX7_ends 2 .int (rmk 1 0 0 64) [.ref (a 0), .int x1] (moW D a σ) (moW D a) Q 0 0 := by
  refine Cti.of (by decide) (Nat.le_of_ble_eq_true rfl) (fun x hF hR => ?_)
  replace hF : vF x l D "BrookWeirsModel" cX7_ends (rmk 1 0 0 64) 2 (some .int) := hF
  refine v_app0 ?_
  unfold w_X7_ends at h
  refine v_aload_n 0 hF dX7_ends_0 rfl 0 rfl ?_
  refine M_get 1 7 hF (Nat.le_of_ble_eq_true rfl) q1911 rfl rfl dX7_ends_1 ?_
  refine v_if_le 4 25 hF dX7_ends_4 (by decide) (fun c8 => ?_) (fun c8 => ?_)
  · replace h := h.1 c8
    refine v_aload_n 25 hF dX7_ends_25 rfl 0 rfl ?_
    refine M_get 26 6 hF (Nat.le_of_ble_eq_true rfl) q1910 rfl rfl dX7_ends_26 ?_
    refine v_bipush (v := 8) 29 hF dX7_ends_29 (by decide) ?_
    refine v_icmp_ne 31 62 hF dX7_ends_31 (by decide) (fun c9 => ?_) (fun c9 => ?_)
    · replace h := h.1 c9
      exact k_X7_ends_J62 hF hR _ _ h
    · replace h := h.2 c9
      refine v_aload_n 34 hF dX7_ends_34 rfl 0 rfl ?_
      refine M_get 35 5 hF (Nat.le_of_ble_eq_true rfl) q1909 rfl rfl dX7_ends_35 ?_
      refine v_sipush (v := 156) 38 hF dX7_ends_38 (by decide) ?_
      refine v_aload_n 41 hF dX7_ends_41 rfl 0 rfl ?_
      refine M_get 42 5 hF (Nat.le_of_ble_eq_true rfl) q1909 rfl rfl dX7_ends_42 ?_
      refine v_iconst (v := 0) 45 hF dX7_ends_45 (by decide) ?_
      refine v_sipush (v := 1092) 46 hF dX7_ends_46 (by decide) ?_
      obtain ⟨o10, o11, o12, o13, o14, h⟩ := h
      refine M_cpy5_5 49 hF q1979 o10 o11 o12 o13 o14 (Nat.le_of_ble_eq_true rfl) (Nat.le_of_ble_eq_true rfl) dX7_ends_49 (fun t15 et15 => ?_)
      replace h := h t15 et15
      refine v_aload_n 52 hF dX7_ends_52 rfl 0 rfl ?_
      refine v_dup 53 hF dX7_ends_53 rfl ?_
      refine M_get 54 6 hF (Nat.le_of_ble_eq_true rfl) q1910 rfl rfl dX7_ends_54 ?_
      refine v_iconst (v := 1) 57 hF dX7_ends_57 (by decide) ?_
      refine v_isub 58 hF dX7_ends_58 ?_
      refine M_put6 59 hF q1910 dX7_ends_59 (fun t16 et16 => ?_)
      replace h := h t16 et16
      exact k_X7_ends_J62 hF hR _ _ h
  · replace h := h.2 c8
    refine v_aload_n 7 hF dX7_ends_7 rfl 0 rfl ?_
    refine M_get 8 1 hF (Nat.le_of_ble_eq_true rfl) q1905 rfl rfl dX7_ends_8 ?_
    refine v_iconst (v := 0) 11 hF dX7_ends_11 (by decide) ?_
    refine v_aload_n 12 hF dX7_ends_12 rfl 0 rfl ?_
    refine M_get 13 0 hF (Nat.le_of_ble_eq_true rfl) q1904 rfl rfl dX7_ends_13 ?_
    refine v_iconst (v := 0) 16 hF dX7_ends_16 (by decide) ?_
    refine v_sipush (v := 156) 17 hF dX7_ends_17 (by decide) ?_
    obtain ⟨o17, o18, o19, o20, o21, h⟩ := h
    refine M_cpy1_0 20 hF q1979 o17 o18 o19 o20 o21 (Nat.le_of_ble_eq_true rfl) (Nat.le_of_ble_eq_true rfl) dX7_ends_20 (fun t22 et22 => ?_)
    replace h := h t22 et22
    refine v_iconst (v := 0) 23 hF dX7_ends_23 (by decide) ?_
    exact v_iretA 24 hF hR (Nat.zero_le _) (Nat.zero_le _) dX7_ends_24 h
def w_X7_isPool (σ : Nat → Nat → Int32) (x1 : Int32) (Q : Int32 → (Nat → Nat → Int32) → Prop) : Prop :=
  vp_in ((0 : Int32)) 156 ∧ w_X7_in x1 ((0 : Int32)) ((((σ 0) ((0 : Int32)).toNatClampNeg) - (1 : Int32))) (fun r2 => (r2 = 0 ∨ r2 = 1) ∧ Q r2 σ)
theorem ds_X7_isPool : yX7_isPool.cls = yX7_isPool.cls ∧ yX7_isPool.cls ≠ "java/lang/invoke/MethodHandle" ∧ yX7_isPool.cls ≠ "java/lang/invoke/VarHandle" ∧ (parseMethodDescriptor yX7_isPool.desc).map (fun d => d.parameters.length) = some 1 := by decide +kernel
set_option maxHeartbeats 4000000 in
theorem c_X7_isPool (l : Launch) (D : va_G) (a : Nat → Nat) (σ : Nat → Nat → Int32) (x1 : Int32) (Q : Int32 → (Nat → Nat → Int32) → Prop) (h : w_X7_isPool σ x1 Q) : Cti l D yX7_isPool cX7_isPool 2 .boolean (rmk 1 0 0 22) [.ref (a 0), .int x1] (moW D a σ) (moW D a) Q 0 0 := by
  refine Cti.of (by decide) (Nat.le_of_ble_eq_true rfl) (fun x hF hR => ?_)
  replace hF : vF x l D "BrookWeirsModel" cX7_isPool (rmk 1 0 0 22) 2 (some .boolean) := hF
  refine v_app0 ?_
  unfold w_X7_isPool at h
  refine v_iload_n 0 hF dX7_isPool_0 rfl 1 rfl ?_
  refine v_iconst (v := 0) 1 hF dX7_isPool_1 (by decide) ?_
  refine v_aload_n 2 hF dX7_isPool_2 rfl 0 rfl ?_
  refine M_get 3 0 hF (Nat.le_of_ble_eq_true rfl) q1904 rfl rfl dX7_isPool_3 ?_
  refine v_iconst (v := 0) 6 hF dX7_isPool_6 (by decide) ?_
  obtain ⟨o1, h⟩ := h
  refine M_ald0 7 hF o1 dX7_isPool_7 ?_
  refine v_iconst (v := 1) 8 hF dX7_isPool_8 (by decide) ?_
  refine v_isub 9 hF dX7_isPool_9 ?_
  refine v_callS0i (As := [.int x1, .int ((0 : Int32)), .int ((((σ 0) ((0 : Int32)).toNatClampNeg) - (1 : Int32)))]) 10 hF (c_X7_in l D x1 ((0 : Int32)) ((((σ 0) ((0 : Int32)).toNatClampNeg) - (1 : Int32))) _ h) q1968 q1969 q82 q1970 ds_X7_in ⟨rfl, rfl, Nat.le_of_ble_eq_true rfl, Nat.le_of_ble_eq_true rfl⟩ (Nat.le_of_ble_eq_true rfl) ⟨Nat.zero_le _, Nat.zero_le _⟩ dX7_isPool_10 (fun r2 h => ?_)
  obtain ⟨o3, h⟩ := h
  exact v_zretA 13 hF hR (Nat.zero_le _) (Nat.zero_le _) (vbo_n o3) dX7_isPool_13 h
def w_X7_get (σ : Nat → Nat → Int32) (x1 x2 : Int32) (Q : Int32 → (Nat → Nat → Int32) → Prop) : Prop :=
  w_X7_at x1 (fun r1 => vp_in ((r1 + x2)) 156 ∧ Q (((σ 0) ((r1 + x2)).toNatClampNeg)) σ)
theorem ds_X7_get : yX7_get.cls = yX7_get.cls ∧ yX7_get.cls ≠ "java/lang/invoke/MethodHandle" ∧ yX7_get.cls ≠ "java/lang/invoke/VarHandle" ∧ (parseMethodDescriptor yX7_get.desc).map (fun d => d.parameters.length) = some 2 := by decide +kernel
set_option maxHeartbeats 4000000 in
theorem c_X7_get (l : Launch) (D : va_G) (a : Nat → Nat) (σ : Nat → Nat → Int32) (x1 x2 : Int32) (Q : Int32 → (Nat → Nat → Int32) → Prop) (h : w_X7_get σ x1 x2 Q) : Cti l D yX7_get cX7_get 3 .int (rmk 1 0 0 20) [.ref (a 0), .int x1, .int x2] (moW D a σ) (moW D a) Q 0 0 := by
  refine Cti.of (by decide) (Nat.le_of_ble_eq_true rfl) (fun x hF hR => ?_)
  replace hF : vF x l D "BrookWeirsModel" cX7_get (rmk 1 0 0 20) 3 (some .int) := hF
  refine v_app0 ?_
  unfold w_X7_get at h
  refine v_aload_n 0 hF dX7_get_0 rfl 0 rfl ?_
  refine M_get 1 0 hF (Nat.le_of_ble_eq_true rfl) q1904 rfl rfl dX7_get_1 ?_
  refine v_iload_n 4 hF dX7_get_4 rfl 1 rfl ?_
  refine v_callS0i (As := [.int x1]) 5 hF (c_X7_at l D x1 _ h) q1980 q1981 q82 q1982 ds_X7_at ⟨rfl, rfl, Nat.le_of_ble_eq_true rfl, Nat.le_of_ble_eq_true rfl⟩ (Nat.le_of_ble_eq_true rfl) ⟨Nat.zero_le _, Nat.zero_le _⟩ dX7_get_5 (fun r1 h => ?_)
  refine v_iload_n 8 hF dX7_get_8 rfl 2 rfl ?_
  refine v_iadd 9 hF dX7_get_9 ?_
  obtain ⟨o2, h⟩ := h
  refine M_ald0 10 hF o2 dX7_get_10 ?_
  exact v_iretA 11 hF hR (Nat.zero_le _) (Nat.zero_le _) dX7_get_11 h
def w_X7_isOpen (σ : Nat → Nat → Int32) (x1 : Int32) (Q : Int32 → (Nat → Nat → Int32) → Prop) : Prop :=
  w_X7_get σ x1 ((7 : Int32)) (fun r1 t2 => w_X7_get t2 x1 ((8 : Int32)) (fun r3 t4 => ∀ y5 : Int32, y5 = (r1 + r3) → ((y5 = (2 : Int32) → Q ((1 : Int32)) t4) ∧ (¬ y5 = (2 : Int32) → ((¬ y5 = (1 : Int32) → Q ((0 : Int32)) t4) ∧ (y5 = (1 : Int32) → w_X7_get t4 x1 ((6 : Int32)) (fun r8 t9 => ((¬ r8 = (1 : Int32) → Q ((0 : Int32)) t9) ∧ (r8 = (1 : Int32) → Q ((1 : Int32)) t9)))))))))
theorem ds_X7_isOpen : yX7_isOpen.cls = yX7_isOpen.cls ∧ yX7_isOpen.cls ≠ "java/lang/invoke/MethodHandle" ∧ yX7_isOpen.cls ≠ "java/lang/invoke/VarHandle" ∧ (parseMethodDescriptor yX7_isOpen.desc).map (fun d => d.parameters.length) = some 1 := by decide +kernel
set_option maxHeartbeats 4000000 in
theorem c_X7_isOpen (l : Launch) (D : va_G) (a : Nat → Nat) (σ : Nat → Nat → Int32) (x1 : Int32) (Q : Int32 → (Nat → Nat → Int32) → Prop) (h : w_X7_isOpen σ x1 Q) : Cti l D yX7_isOpen cX7_isOpen 3 .boolean (rmk 2 0 0 42) [.ref (a 0), .int x1] (moW D a σ) (moW D a) Q 0 0 := by
  refine Cti.of (by decide) (Nat.le_of_ble_eq_true rfl) (fun x hF hR => ?_)
  replace hF : vF x l D "BrookWeirsModel" cX7_isOpen (rmk 2 0 0 42) 3 (some .boolean) := hF
  refine v_app0 ?_
  unfold w_X7_isOpen at h
  refine v_aload_n 0 hF dX7_isOpen_0 rfl 0 rfl ?_
  refine v_iload_n 1 hF dX7_isOpen_1 rfl 1 rfl ?_
  refine v_bipush (v := 7) 2 hF dX7_isOpen_2 (by decide) ?_
  refine v_callVi (As := [.int x1, .int ((7 : Int32))]) 4 hF (c_X7_get l D a σ x1 ((7 : Int32)) _ h) (List.Perm.refl _) ⟨0, 10, _, TX7, 18, rfl, rfl⟩ q1999 q2001 qs35 q82 q2002 ds_X7_get ⟨rfl, rfl, Nat.le_of_ble_eq_true rfl, Nat.le_of_ble_eq_true rfl⟩ (Nat.le_of_ble_eq_true rfl) ⟨Nat.zero_le _, Nat.zero_le _⟩ dX7_isOpen_4 (fun r1 t2 h => ?_)
  refine v_aload_n 7 hF dX7_isOpen_7 rfl 0 rfl ?_
  refine v_iload_n 8 hF dX7_isOpen_8 rfl 1 rfl ?_
  refine v_bipush (v := 8) 9 hF dX7_isOpen_9 (by decide) ?_
  refine v_callVi (As := [.int x1, .int ((8 : Int32))]) 11 hF (c_X7_get l D a t2 x1 ((8 : Int32)) _ h) (List.Perm.refl _) ⟨0, 10, _, TX7, 18, rfl, rfl⟩ q1999 q2001 qs35 q82 q2002 ds_X7_get ⟨rfl, rfl, Nat.le_of_ble_eq_true rfl, Nat.le_of_ble_eq_true rfl⟩ (Nat.le_of_ble_eq_true rfl) ⟨Nat.zero_le _, Nat.zero_le _⟩ dX7_isOpen_11 (fun r3 t4 h => ?_)
  refine v_iadd 14 hF dX7_isOpen_14 ?_
  refine v_nm (fun y5 ey5 => ?_)
  replace h := h y5 ey5
  refine v_istore_n [(0, .ref (a 0)), (1, .int x1), (2, .int y5)] [1, 2, 0] 15 hF dX7_isOpen_15 rfl (Nat.le_of_ble_eq_true rfl) rfl ?_
  refine v_iload_n 16 hF dX7_isOpen_16 rfl 2 rfl ?_
  refine v_iconst (v := 2) 17 hF dX7_isOpen_17 (by decide) ?_
  refine v_icmp_eq 18 37 hF dX7_isOpen_18 (by decide) (fun c6 => ?_) (fun c6 => ?_)
  · replace h := h.1 c6
    refine v_iconst (v := 1) 37 hF dX7_isOpen_37 (by decide) ?_
    refine v_goto 38 42 hF dX7_isOpen_38 (by decide) ?_
    exact v_zretA 42 hF hR (Nat.zero_le _) (Nat.zero_le _) rfl dX7_isOpen_42 h
  · replace h := h.2 c6
    refine v_iload_n 21 hF dX7_isOpen_21 rfl 2 rfl ?_
    refine v_iconst (v := 1) 22 hF dX7_isOpen_22 (by decide) ?_
    refine v_icmp_ne 23 41 hF dX7_isOpen_23 (by decide) (fun c7 => ?_) (fun c7 => ?_)
    · replace h := h.1 c7
      refine v_iconst (v := 0) 41 hF dX7_isOpen_41 (by decide) ?_
      exact v_zretA 42 hF hR (Nat.zero_le _) (Nat.zero_le _) rfl dX7_isOpen_42 h
    · replace h := h.2 c7
      refine v_aload_n 26 hF dX7_isOpen_26 rfl 0 rfl ?_
      refine v_iload_n 27 hF dX7_isOpen_27 rfl 1 rfl ?_
      refine v_bipush (v := 6) 28 hF dX7_isOpen_28 (by decide) ?_
      refine v_callVi (As := [.int x1, .int ((6 : Int32))]) 30 hF (c_X7_get l D a t4 x1 ((6 : Int32)) _ h) (List.Perm.refl _) ⟨0, 10, _, TX7, 18, rfl, rfl⟩ q1999 q2001 qs35 q82 q2002 ds_X7_get ⟨rfl, rfl, Nat.le_of_ble_eq_true rfl, Nat.le_of_ble_eq_true rfl⟩ (Nat.le_of_ble_eq_true rfl) ⟨Nat.zero_le _, Nat.zero_le _⟩ dX7_isOpen_30 (fun r8 t9 h => ?_)
      refine v_iconst (v := 1) 33 hF dX7_isOpen_33 (by decide) ?_
      refine v_icmp_ne 34 41 hF dX7_isOpen_34 (by decide) (fun c10 => ?_) (fun c10 => ?_)
      · replace h := h.1 c10
        refine v_iconst (v := 0) 41 hF dX7_isOpen_41 (by decide) ?_
        exact v_zretA 42 hF hR (Nat.zero_le _) (Nat.zero_le _) rfl dX7_isOpen_42 h
      · replace h := h.2 c10
        refine v_iconst (v := 1) 37 hF dX7_isOpen_37 (by decide) ?_
        refine v_goto 38 42 hF dX7_isOpen_38 (by decide) ?_
        exact v_zretA 42 hF hR (Nat.zero_le _) (Nat.zero_le _) rfl dX7_isOpen_42 h
def w_X7_becomes_J14 (Q : Int32 → (Nat → Nat → Int32) → Prop)  (σ : Nat → Nat → Int32) (x1 x2 x3 s1 : Int32) : Prop :=
  ∀ t1 : Nat → Nat → Int32, t1 = (upN σ 20 7 s1) → (((t1 20 7) ≤ 0 → w_X7_get t1 x1 x2 (fun r3 t4 => w_X7_at x1 (fun r5 => ((x3 = 0 → vp_in ((r5 + x2)) 156 ∧ ∀ t8 : Nat → Nat → Int32, t8 = (upN t4 0 ((r5 + x2)).toNatClampNeg (0 : Int32)) → Q r3 t8) ∧ (¬ x3 = 0 → vp_in ((r5 + x2)) 156 ∧ ∀ t10 : Nat → Nat → Int32, t10 = (upN t4 0 ((r5 + x2)).toNatClampNeg (1 : Int32)) → Q r3 t10))))) ∧ (¬ (t1 20 7) ≤ 0 → Q ((0 : Int32)) t1))
def w_X7_becomes (σ : Nat → Nat → Int32) (x1 x2 x3 : Int32) (Q : Int32 → (Nat → Nat → Int32) → Prop) : Prop :=
  w_X7_isPool σ x1 (fun r11 t12 => ((r11 = 0 → w_X7_becomes_J14 Q t12 x1 x2 x3 ((1 : Int32))) ∧ (¬ r11 = 0 → w_X7_becomes_J14 Q t12 x1 x2 x3 ((0 : Int32)))))
set_option maxHeartbeats 4000000 in
theorem k_X7_becomes_J14 {x : vC} {l : Launch} {D : va_G} {a : Nat → Nat}  {Q : Int32 → (Nat → Nat → Int32) → Prop} (hF : vF x l D "BrookWeirsModel" cX7_becomes (rmk 2 0 0 43) 5 (some .int)) (hR : vRi x (moW D a) Q 0 0)   : ∀ (σ : Nat → Nat → Int32) (x1 x2 x3 s1 : Int32), w_X7_becomes_J14 Q  σ x1 x2 x3 s1 → vV x 0 0 (moW D a σ ++ []) [(0, .ref (a 0)), (1, .int x1), (2, .int x2), (3, .int x3)] 14 [.int s1, .ref (a 0)] := by
  intro σ x1 x2 x3 s1 h
  unfold w_X7_becomes_J14 at h
  refine M_put7 14 hF q1911 dX7_becomes_14 (fun t1 et1 => ?_)
  replace h := h t1 et1
  refine v_aload_n 17 hF dX7_becomes_17 rfl 0 rfl ?_
  refine M_get 18 7 hF (Nat.le_of_ble_eq_true rfl) q1911 rfl rfl dX7_becomes_18 ?_
  refine v_if_le 21 26 hF dX7_becomes_21 (by decide) (fun c2 => ?_) (fun c2 => ?_)
  · replace h := h.1 c2
    refine v_aload_n 26 hF dX7_becomes_26 rfl 0 rfl ?_
    refine v_iload_n 27 hF dX7_becomes_27 rfl 1 rfl ?_
    refine v_iload_n 28 hF dX7_becomes_28 rfl 2 rfl ?_
    refine v_callVi (As := [.int x1, .int x2]) 29 hF (c_X7_get l D a t1 x1 x2 _ h) (List.Perm.refl _) ⟨0, 10, _, TX7, 18, rfl, rfl⟩ q1999 q2001 qs35 q82 q2002 ds_X7_get ⟨rfl, rfl, Nat.le_of_ble_eq_true rfl, Nat.le_of_ble_eq_true rfl⟩ (Nat.le_of_ble_eq_true rfl) ⟨Nat.zero_le _, Nat.zero_le _⟩ dX7_becomes_29 (fun r3 t4 h => ?_)
    refine v_istore [(0, .ref (a 0)), (1, .int x1), (2, .int x2), (3, .int x3), (4, .int r3)] [1, 2, 3, 4, 0] 32 hF dX7_becomes_32 (Nat.le_of_ble_eq_true rfl) rfl ?_
    refine v_aload_n 34 hF dX7_becomes_34 rfl 0 rfl ?_
    refine M_get 35 0 hF (Nat.le_of_ble_eq_true rfl) q1904 rfl rfl dX7_becomes_35 ?_
    refine v_iload_n 38 hF dX7_becomes_38 rfl 1 rfl ?_
    refine v_callS0i (As := [.int x1]) 39 hF (c_X7_at l D x1 _ h) q1980 q1981 q82 q1982 ds_X7_at ⟨rfl, rfl, Nat.le_of_ble_eq_true rfl, Nat.le_of_ble_eq_true rfl⟩ (Nat.le_of_ble_eq_true rfl) ⟨Nat.zero_le _, Nat.zero_le _⟩ dX7_becomes_39 (fun r5 h => ?_)
    refine v_iload_n 42 hF dX7_becomes_42 rfl 2 rfl ?_
    refine v_iadd 43 hF dX7_becomes_43 ?_
    refine v_iload_n 44 hF dX7_becomes_44 rfl 3 rfl ?_
    refine v_if_eq 45 52 hF dX7_becomes_45 (by decide) (fun c6 => ?_) (fun c6 => ?_)
    · replace h := h.1 c6
      refine v_iconst (v := 0) 52 hF dX7_becomes_52 (by decide) ?_
      obtain ⟨o7, h⟩ := h
      refine M_ast0 53 hF o7 dX7_becomes_53 (fun t8 et8 => ?_)
      replace h := h t8 et8
      refine v_iload 54 hF dX7_becomes_54 4 rfl ?_
      exact v_iretA 56 hF hR (Nat.zero_le _) (Nat.zero_le _) dX7_becomes_56 h
    · replace h := h.2 c6
      refine v_iconst (v := 1) 48 hF dX7_becomes_48 (by decide) ?_
      refine v_goto 49 53 hF dX7_becomes_49 (by decide) ?_
      obtain ⟨o9, h⟩ := h
      refine M_ast0 53 hF o9 dX7_becomes_53 (fun t10 et10 => ?_)
      replace h := h t10 et10
      refine v_iload 54 hF dX7_becomes_54 4 rfl ?_
      exact v_iretA 56 hF hR (Nat.zero_le _) (Nat.zero_le _) dX7_becomes_56 h
  · replace h := h.2 c2
    refine v_iconst (v := 0) 24 hF dX7_becomes_24 (by decide) ?_
    exact v_iretA 25 hF hR (Nat.zero_le _) (Nat.zero_le _) dX7_becomes_25 h
theorem ds_X7_becomes : yX7_becomes.cls = yX7_becomes.cls ∧ yX7_becomes.cls ≠ "java/lang/invoke/MethodHandle" ∧ yX7_becomes.cls ≠ "java/lang/invoke/VarHandle" ∧ (parseMethodDescriptor yX7_becomes.desc).map (fun d => d.parameters.length) = some 3 := by decide +kernel
set_option maxHeartbeats 4000000 in
theorem c_X7_becomes (l : Launch) (D : va_G) (a : Nat → Nat) (σ : Nat → Nat → Int32) (x1 x2 x3 : Int32) (Q : Int32 → (Nat → Nat → Int32) → Prop) (h : w_X7_becomes σ x1 x2 x3 Q) : Cti l D yX7_becomes cX7_becomes 5 .int (rmk 2 0 0 43) [.ref (a 0), .int x1, .int x2, .int x3] (moW D a σ) (moW D a) Q 0 0 := by
  refine Cti.of (by decide) (Nat.le_of_ble_eq_true rfl) (fun x hF hR => ?_)
  replace hF : vF x l D "BrookWeirsModel" cX7_becomes (rmk 2 0 0 43) 5 (some .int) := hF
  refine v_app0 ?_
  unfold w_X7_becomes at h
  refine v_aload_n 0 hF dX7_becomes_0 rfl 0 rfl ?_
  refine v_aload_n 1 hF dX7_becomes_1 rfl 0 rfl ?_
  refine v_iload_n 2 hF dX7_becomes_2 rfl 1 rfl ?_
  refine v_callVi (As := [.int x1]) 3 hF (c_X7_isPool l D a σ x1 _ h) (List.Perm.refl _) ⟨0, 10, _, TX7, 18, rfl, rfl⟩ q1995 q1997 qs34 q82 q1998 ds_X7_isPool ⟨rfl, rfl, Nat.le_of_ble_eq_true rfl, Nat.le_of_ble_eq_true rfl⟩ (Nat.le_of_ble_eq_true rfl) ⟨Nat.zero_le _, Nat.zero_le _⟩ dX7_becomes_3 (fun r11 t12 h => ?_)
  refine v_if_eq 6 13 hF dX7_becomes_6 (by decide) (fun c13 => ?_) (fun c13 => ?_)
  · replace h := h.1 c13
    refine v_iconst (v := 1) 13 hF dX7_becomes_13 (by decide) ?_
    exact k_X7_becomes_J14 hF hR _ _ _ _ _ h
  · replace h := h.2 c13
    refine v_iconst (v := 0) 9 hF dX7_becomes_9 (by decide) ?_
    refine v_goto 10 14 hF dX7_becomes_10 (by decide) ?_
    exact k_X7_becomes_J14 hF hR _ _ _ _ _ h
def w_X7_latch_J18 (Q : Int32 → (Nat → Nat → Int32) → Prop)  (σ : Nat → Nat → Int32) (x1 x2 x3 s3 s2 : Int32) : Prop :=
  w_X7_becomes σ s2 s3 x3 (fun r1 t2 => w_X7_ends t2 r1 (fun r3 t4 => ((¬ r3 = (1 : Int32) → Q ((0 : Int32)) t4) ∧ (r3 = (1 : Int32) → Q ((1 : Int32)) t4))))
def w_X7_latch (σ : Nat → Nat → Int32) (x1 x2 x3 : Int32) (Q : Int32 → (Nat → Nat → Int32) → Prop) : Prop :=
  w_X7_keep σ  (fun t6 => ((x2 = 0 → w_X7_latch_J18 Q t6 x1 x2 x3 ((8 : Int32)) x1) ∧ (¬ x2 = 0 → w_X7_latch_J18 Q t6 x1 x2 x3 ((7 : Int32)) x1)))
set_option maxHeartbeats 4000000 in
theorem k_X7_latch_J18 {x : vC} {l : Launch} {D : va_G} {a : Nat → Nat}  {Q : Int32 → (Nat → Nat → Int32) → Prop} (hF : vF x l D "BrookWeirsModel" cX7_latch (rmk 3 0 0 85) 4 (some .boolean)) (hR : vRi x (moW D a) Q 0 0)   : ∀ (σ : Nat → Nat → Int32) (x1 x2 x3 s3 s2 : Int32), w_X7_latch_J18 Q  σ x1 x2 x3 s3 s2 → vV x 0 0 (moW D a σ ++ []) [(0, .ref (a 0)), (1, .int x1), (2, .int x2), (3, .int x3)] 18 [.int s3, .int s2, .ref (a 0), .ref (a 0)] := by
  intro σ x1 x2 x3 s3 s2 h
  unfold w_X7_latch_J18 at h
  refine v_iload_n 18 hF dX7_latch_18 rfl 3 rfl ?_
  refine v_callVi (As := [.int s2, .int s3, .int x3]) 19 hF (c_X7_becomes l D a σ s2 s3 x3 _ h) (List.Perm.refl _) ⟨0, 10, _, TX7, 18, rfl, rfl⟩ q2011 q2013 qs37 q82 q2014 ds_X7_becomes ⟨rfl, rfl, Nat.le_of_ble_eq_true rfl, Nat.le_of_ble_eq_true rfl⟩ (Nat.le_of_ble_eq_true rfl) ⟨Nat.zero_le _, Nat.zero_le _⟩ dX7_latch_19 (fun r1 t2 h => ?_)
  refine v_callVi (As := [.int r1]) 22 hF (c_X7_ends l D a t2 r1 _ h) (List.Perm.refl _) ⟨0, 10, _, TX7, 18, rfl, rfl⟩ q1983 q1985 qs32 q82 q1986 ds_X7_ends ⟨rfl, rfl, Nat.le_of_ble_eq_true rfl, Nat.le_of_ble_eq_true rfl⟩ (Nat.le_of_ble_eq_true rfl) ⟨Nat.zero_le _, Nat.zero_le _⟩ dX7_latch_22 (fun r3 t4 h => ?_)
  refine v_iconst (v := 1) 25 hF dX7_latch_25 (by decide) ?_
  refine v_icmp_ne 26 33 hF dX7_latch_26 (by decide) (fun c5 => ?_) (fun c5 => ?_)
  · replace h := h.1 c5
    refine v_iconst (v := 0) 33 hF dX7_latch_33 (by decide) ?_
    exact v_zretA 34 hF hR (Nat.zero_le _) (Nat.zero_le _) rfl dX7_latch_34 h
  · replace h := h.2 c5
    refine v_iconst (v := 1) 29 hF dX7_latch_29 (by decide) ?_
    refine v_goto 30 34 hF dX7_latch_30 (by decide) ?_
    exact v_zretA 34 hF hR (Nat.zero_le _) (Nat.zero_le _) rfl dX7_latch_34 h
theorem ds_X7_latch : yX7_latch.cls = yX7_latch.cls ∧ yX7_latch.cls ≠ "java/lang/invoke/MethodHandle" ∧ yX7_latch.cls ≠ "java/lang/invoke/VarHandle" ∧ (parseMethodDescriptor yX7_latch.desc).map (fun d => d.parameters.length) = some 3 := by decide +kernel
set_option maxHeartbeats 4000000 in
theorem c_X7_latch (l : Launch) (D : va_G) (a : Nat → Nat) (σ : Nat → Nat → Int32) (x1 x2 x3 : Int32) (Q : Int32 → (Nat → Nat → Int32) → Prop) (h : w_X7_latch σ x1 x2 x3 Q) : Cti l D yX7_latch cX7_latch 4 .boolean (rmk 3 0 0 85) [.ref (a 0), .int x1, .int x2, .int x3] (moW D a σ) (moW D a) Q 0 0 := by
  refine Cti.of (by decide) (Nat.le_of_ble_eq_true rfl) (fun x hF hR => ?_)
  replace hF : vF x l D "BrookWeirsModel" cX7_latch (rmk 3 0 0 85) 4 (some .boolean) := hF
  refine v_app0 ?_
  unfold w_X7_latch at h
  refine v_aload_n 0 hF dX7_latch_0 rfl 0 rfl ?_
  refine v_callVv (As := []) 1 hF (c_X7_keep l D a σ _ h) (List.Perm.refl _) ⟨0, 10, _, TX7, 18, rfl, rfl⟩ q1975 q1977 qs31 q82 q1978 ds_X7_keep ⟨rfl, rfl, Nat.le_of_ble_eq_true rfl, Nat.le_of_ble_eq_true rfl⟩ (Nat.le_of_ble_eq_true rfl) ⟨Nat.zero_le _, Nat.zero_le _⟩ dX7_latch_1 (fun t6 h => ?_)
  refine v_aload_n 4 hF dX7_latch_4 rfl 0 rfl ?_
  refine v_aload_n 5 hF dX7_latch_5 rfl 0 rfl ?_
  refine v_iload_n 6 hF dX7_latch_6 rfl 1 rfl ?_
  refine v_iload_n 7 hF dX7_latch_7 rfl 2 rfl ?_
  refine v_if_eq 8 16 hF dX7_latch_8 (by decide) (fun c7 => ?_) (fun c7 => ?_)
  · replace h := h.1 c7
    refine v_bipush (v := 8) 16 hF dX7_latch_16 (by decide) ?_
    exact k_X7_latch_J18 hF hR _ _ _ _ _ _ h
  · replace h := h.2 c7
    refine v_bipush (v := 7) 11 hF dX7_latch_11 (by decide) ?_
    refine v_goto 13 18 hF dX7_latch_13 (by decide) ?_
    exact k_X7_latch_J18 hF hR _ _ _ _ _ _ h
def w_X7_frogs_J29 (Q : Int32 → (Nat → Nat → Int32) → Prop)  (σ : Nat → Nat → Int32) (x1 x2 s1 : Int32) : Prop :=
  ∀ t1 : Nat → Nat → Int32, t1 = (upN σ 20 7 s1) → (((t1 20 7) ≤ 0 → w_X7_keep t1  (fun t3 => w_X7_get t3 x1 ((5 : Int32)) (fun r4 t5 => w_X7_at x1 (fun r6 => vp_in ((r6 + (5 : Int32))) 156 ∧ ∀ t8 : Nat → Nat → Int32, t8 = (upN t5 0 ((r6 + (5 : Int32))).toNatClampNeg x2) → w_X7_ends t8 r4 (fun r9 t10 => Q r9 t10))))) ∧ (¬ (t1 20 7) ≤ 0 → Q ((0 : Int32)) t1))
def w_X7_frogs (σ : Nat → Nat → Int32) (x1 x2 : Int32) (Q : Int32 → (Nat → Nat → Int32) → Prop) : Prop :=
  w_X7_isPool σ x1 (fun r11 t12 => ((¬ r11 = 0 → w_X7_in x2 ((0 : Int32)) ((999 : Int32)) (fun r14 => ((¬ r14 = 0 → w_X7_frogs_J29 Q t12 x1 x2 ((0 : Int32))) ∧ (r14 = 0 → w_X7_frogs_J29 Q t12 x1 x2 ((2 : Int32)))))) ∧ (r11 = 0 → w_X7_frogs_J29 Q t12 x1 x2 ((1 : Int32)))))
set_option maxHeartbeats 4000000 in
theorem k_X7_frogs_J29 {x : vC} {l : Launch} {D : va_G} {a : Nat → Nat}  {Q : Int32 → (Nat → Nat → Int32) → Prop} (hF : vF x l D "BrookWeirsModel" cX7_frogs (rmk 2 0 0 85) 4 (some .int)) (hR : vRi x (moW D a) Q 0 0)   : ∀ (σ : Nat → Nat → Int32) (x1 x2 s1 : Int32), w_X7_frogs_J29 Q  σ x1 x2 s1 → vV x 0 0 (moW D a σ ++ []) [(0, .ref (a 0)), (1, .int x1), (2, .int x2)] 29 [.int s1, .ref (a 0)] := by
  intro σ x1 x2 s1 h
  unfold w_X7_frogs_J29 at h
  refine M_put7 29 hF q1911 dX7_frogs_29 (fun t1 et1 => ?_)
  replace h := h t1 et1
  refine v_aload_n 32 hF dX7_frogs_32 rfl 0 rfl ?_
  refine M_get 33 7 hF (Nat.le_of_ble_eq_true rfl) q1911 rfl rfl dX7_frogs_33 ?_
  refine v_if_le 36 41 hF dX7_frogs_36 (by decide) (fun c2 => ?_) (fun c2 => ?_)
  · replace h := h.1 c2
    refine v_aload_n 41 hF dX7_frogs_41 rfl 0 rfl ?_
    refine v_callVv (As := []) 42 hF (c_X7_keep l D a t1 _ h) (List.Perm.refl _) ⟨0, 10, _, TX7, 18, rfl, rfl⟩ q1975 q1977 qs31 q82 q1978 ds_X7_keep ⟨rfl, rfl, Nat.le_of_ble_eq_true rfl, Nat.le_of_ble_eq_true rfl⟩ (Nat.le_of_ble_eq_true rfl) ⟨Nat.zero_le _, Nat.zero_le _⟩ dX7_frogs_42 (fun t3 h => ?_)
    refine v_aload_n 45 hF dX7_frogs_45 rfl 0 rfl ?_
    refine v_iload_n 46 hF dX7_frogs_46 rfl 1 rfl ?_
    refine v_iconst (v := 5) 47 hF dX7_frogs_47 (by decide) ?_
    refine v_callVi (As := [.int x1, .int ((5 : Int32))]) 48 hF (c_X7_get l D a t3 x1 ((5 : Int32)) _ h) (List.Perm.refl _) ⟨0, 10, _, TX7, 18, rfl, rfl⟩ q1999 q2001 qs35 q82 q2002 ds_X7_get ⟨rfl, rfl, Nat.le_of_ble_eq_true rfl, Nat.le_of_ble_eq_true rfl⟩ (Nat.le_of_ble_eq_true rfl) ⟨Nat.zero_le _, Nat.zero_le _⟩ dX7_frogs_48 (fun r4 t5 h => ?_)
    refine v_istore_n [(0, .ref (a 0)), (1, .int x1), (2, .int x2), (3, .int r4)] [1, 2, 3, 0] 51 hF dX7_frogs_51 rfl (Nat.le_of_ble_eq_true rfl) rfl ?_
    refine v_aload_n 52 hF dX7_frogs_52 rfl 0 rfl ?_
    refine M_get 53 0 hF (Nat.le_of_ble_eq_true rfl) q1904 rfl rfl dX7_frogs_53 ?_
    refine v_iload_n 56 hF dX7_frogs_56 rfl 1 rfl ?_
    refine v_callS0i (As := [.int x1]) 57 hF (c_X7_at l D x1 _ h) q1980 q1981 q82 q1982 ds_X7_at ⟨rfl, rfl, Nat.le_of_ble_eq_true rfl, Nat.le_of_ble_eq_true rfl⟩ (Nat.le_of_ble_eq_true rfl) ⟨Nat.zero_le _, Nat.zero_le _⟩ dX7_frogs_57 (fun r6 h => ?_)
    refine v_iconst (v := 5) 60 hF dX7_frogs_60 (by decide) ?_
    refine v_iadd 61 hF dX7_frogs_61 ?_
    refine v_iload_n 62 hF dX7_frogs_62 rfl 2 rfl ?_
    obtain ⟨o7, h⟩ := h
    refine M_ast0 63 hF o7 dX7_frogs_63 (fun t8 et8 => ?_)
    replace h := h t8 et8
    refine v_aload_n 64 hF dX7_frogs_64 rfl 0 rfl ?_
    refine v_iload_n 65 hF dX7_frogs_65 rfl 3 rfl ?_
    refine v_callVi (As := [.int r4]) 66 hF (c_X7_ends l D a t8 r4 _ h) (List.Perm.refl _) ⟨0, 10, _, TX7, 18, rfl, rfl⟩ q1983 q1985 qs32 q82 q1986 ds_X7_ends ⟨rfl, rfl, Nat.le_of_ble_eq_true rfl, Nat.le_of_ble_eq_true rfl⟩ (Nat.le_of_ble_eq_true rfl) ⟨Nat.zero_le _, Nat.zero_le _⟩ dX7_frogs_66 (fun r9 t10 h => ?_)
    exact v_iretA 69 hF hR (Nat.zero_le _) (Nat.zero_le _) dX7_frogs_69 h
  · replace h := h.2 c2
    refine v_iconst (v := 0) 39 hF dX7_frogs_39 (by decide) ?_
    exact v_iretA 40 hF hR (Nat.zero_le _) (Nat.zero_le _) dX7_frogs_40 h
theorem ds_X7_frogs : yX7_frogs.cls = yX7_frogs.cls ∧ yX7_frogs.cls ≠ "java/lang/invoke/MethodHandle" ∧ yX7_frogs.cls ≠ "java/lang/invoke/VarHandle" ∧ (parseMethodDescriptor yX7_frogs.desc).map (fun d => d.parameters.length) = some 2 := by decide +kernel
set_option maxHeartbeats 4000000 in
theorem c_X7_frogs (l : Launch) (D : va_G) (a : Nat → Nat) (σ : Nat → Nat → Int32) (x1 x2 : Int32) (Q : Int32 → (Nat → Nat → Int32) → Prop) (h : w_X7_frogs σ x1 x2 Q) : Cti l D yX7_frogs cX7_frogs 4 .int (rmk 2 0 0 85) [.ref (a 0), .int x1, .int x2] (moW D a σ) (moW D a) Q 0 0 := by
  refine Cti.of (by decide) (Nat.le_of_ble_eq_true rfl) (fun x hF hR => ?_)
  replace hF : vF x l D "BrookWeirsModel" cX7_frogs (rmk 2 0 0 85) 4 (some .int) := hF
  refine v_app0 ?_
  unfold w_X7_frogs at h
  refine v_aload_n 0 hF dX7_frogs_0 rfl 0 rfl ?_
  refine v_aload_n 1 hF dX7_frogs_1 rfl 0 rfl ?_
  refine v_iload_n 2 hF dX7_frogs_2 rfl 1 rfl ?_
  refine v_callVi (As := [.int x1]) 3 hF (c_X7_isPool l D a σ x1 _ h) (List.Perm.refl _) ⟨0, 10, _, TX7, 18, rfl, rfl⟩ q1995 q1997 qs34 q82 q1998 ds_X7_isPool ⟨rfl, rfl, Nat.le_of_ble_eq_true rfl, Nat.le_of_ble_eq_true rfl⟩ (Nat.le_of_ble_eq_true rfl) ⟨Nat.zero_le _, Nat.zero_le _⟩ dX7_frogs_3 (fun r11 t12 h => ?_)
  refine v_if_ne 6 13 hF dX7_frogs_6 (by decide) (fun c13 => ?_) (fun c13 => ?_)
  · replace h := h.1 c13
    refine v_iload_n 13 hF dX7_frogs_13 rfl 2 rfl ?_
    refine v_iconst (v := 0) 14 hF dX7_frogs_14 (by decide) ?_
    refine v_sipush (v := 999) 15 hF dX7_frogs_15 (by decide) ?_
    refine v_callS0i (As := [.int x2, .int ((0 : Int32)), .int ((999 : Int32))]) 18 hF (c_X7_in l D x2 ((0 : Int32)) ((999 : Int32)) _ h) q1968 q1969 q82 q1970 ds_X7_in ⟨rfl, rfl, Nat.le_of_ble_eq_true rfl, Nat.le_of_ble_eq_true rfl⟩ (Nat.le_of_ble_eq_true rfl) ⟨Nat.zero_le _, Nat.zero_le _⟩ dX7_frogs_18 (fun r14 h => ?_)
    refine v_if_ne 21 28 hF dX7_frogs_21 (by decide) (fun c15 => ?_) (fun c15 => ?_)
    · replace h := h.1 c15
      refine v_iconst (v := 0) 28 hF dX7_frogs_28 (by decide) ?_
      exact k_X7_frogs_J29 hF hR _ _ _ _ h
    · replace h := h.2 c15
      refine v_iconst (v := 2) 24 hF dX7_frogs_24 (by decide) ?_
      refine v_goto 25 29 hF dX7_frogs_25 (by decide) ?_
      exact k_X7_frogs_J29 hF hR _ _ _ _ h
  · replace h := h.2 c13
    refine v_iconst (v := 1) 9 hF dX7_frogs_9 (by decide) ?_
    refine v_goto 10 29 hF dX7_frogs_10 (by decide) ?_
    exact k_X7_frogs_J29 hF hR _ _ _ _ h
def w_X7_level (σ : Nat → Nat → Int32) (x1 : Int32) (Q : Int32 → (Nat → Nat → Int32) → Prop) : Prop :=
  w_X7_get σ x1 ((4 : Int32)) (fun r1 t2 => w_X7_get t2 x1 ((0 : Int32)) (fun r3 t4 => ¬ r3 = 0 ∧ Q ((r1 / r3)) t4))
theorem ds_X7_level : yX7_level.cls = yX7_level.cls ∧ yX7_level.cls ≠ "java/lang/invoke/MethodHandle" ∧ yX7_level.cls ≠ "java/lang/invoke/VarHandle" ∧ (parseMethodDescriptor yX7_level.desc).map (fun d => d.parameters.length) = some 1 := by decide +kernel
set_option maxHeartbeats 4000000 in
theorem c_X7_level (l : Launch) (D : va_G) (a : Nat → Nat) (σ : Nat → Nat → Int32) (x1 : Int32) (Q : Int32 → (Nat → Nat → Int32) → Prop) (h : w_X7_level σ x1 Q) : Cti l D yX7_level cX7_level 2 .int (rmk 2 0 0 42) [.ref (a 0), .int x1] (moW D a σ) (moW D a) Q 0 0 := by
  refine Cti.of (by decide) (Nat.le_of_ble_eq_true rfl) (fun x hF hR => ?_)
  replace hF : vF x l D "BrookWeirsModel" cX7_level (rmk 2 0 0 42) 2 (some .int) := hF
  refine v_app0 ?_
  unfold w_X7_level at h
  refine v_aload_n 0 hF dX7_level_0 rfl 0 rfl ?_
  refine v_iload_n 1 hF dX7_level_1 rfl 1 rfl ?_
  refine v_iconst (v := 4) 2 hF dX7_level_2 (by decide) ?_
  refine v_callVi (As := [.int x1, .int ((4 : Int32))]) 3 hF (c_X7_get l D a σ x1 ((4 : Int32)) _ h) (List.Perm.refl _) ⟨0, 10, _, TX7, 18, rfl, rfl⟩ q1999 q2001 qs35 q82 q2002 ds_X7_get ⟨rfl, rfl, Nat.le_of_ble_eq_true rfl, Nat.le_of_ble_eq_true rfl⟩ (Nat.le_of_ble_eq_true rfl) ⟨Nat.zero_le _, Nat.zero_le _⟩ dX7_level_3 (fun r1 t2 h => ?_)
  refine v_aload_n 6 hF dX7_level_6 rfl 0 rfl ?_
  refine v_iload_n 7 hF dX7_level_7 rfl 1 rfl ?_
  refine v_iconst (v := 0) 8 hF dX7_level_8 (by decide) ?_
  refine v_callVi (As := [.int x1, .int ((0 : Int32))]) 9 hF (c_X7_get l D a t2 x1 ((0 : Int32)) _ h) (List.Perm.refl _) ⟨0, 10, _, TX7, 18, rfl, rfl⟩ q1999 q2001 qs35 q82 q2002 ds_X7_get ⟨rfl, rfl, Nat.le_of_ble_eq_true rfl, Nat.le_of_ble_eq_true rfl⟩ (Nat.le_of_ble_eq_true rfl) ⟨Nat.zero_le _, Nat.zero_le _⟩ dX7_level_9 (fun r3 t4 h => ?_)
  obtain ⟨o5, h⟩ := h
  refine v_idiv 12 hF dX7_level_12 o5 ?_
  exact v_iretA 13 hF hR (Nat.zero_le _) (Nat.zero_le _) dX7_level_13 h
def w_X7_clutchAt (x0 : Int32) (Q : Int32 → Prop) : Prop :=
  Q (((78 : Int32) + ((4 : Int32) * x0)))
theorem ds_X7_clutchAt : yX7_clutchAt.cls = yX7_clutchAt.cls ∧ yX7_clutchAt.cls ≠ "java/lang/invoke/MethodHandle" ∧ yX7_clutchAt.cls ≠ "java/lang/invoke/VarHandle" ∧ (parseMethodDescriptor yX7_clutchAt.desc).map (fun d => d.parameters.length) = some 1 := by decide +kernel
set_option maxHeartbeats 4000000 in
theorem c_X7_clutchAt (l : Launch) (D : va_G) (x0 : Int32) (Q : Int32 → Prop) (h : w_X7_clutchAt x0 Q) : Cti l D yX7_clutchAt cX7_clutchAt 1 .int (rmk 0 0 0 0) [.int x0] [] (fun _ : Unit => []) (fun r _ => Q r) 0 0 := by
  refine Cti.of (by decide) (Nat.le_of_ble_eq_true rfl) (fun x hF hR => ?_)
  replace hF : vF x l D "BrookWeirsModel" cX7_clutchAt (rmk 0 0 0 0) 1 (some .int) := hF
  unfold w_X7_clutchAt at h
  refine v_bipush (v := 78) 0 hF dX7_clutchAt_0 (by decide) ?_
  refine v_iconst (v := 4) 2 hF dX7_clutchAt_2 (by decide) ?_
  refine v_iload_n 3 hF dX7_clutchAt_3 rfl 0 rfl ?_
  refine v_imul 4 hF dX7_clutchAt_4 ?_
  refine v_iadd 5 hF dX7_clutchAt_5 ?_
  exact v_iret (u := ()) 6 hF hR (Nat.zero_le _) (Nat.zero_le _) dX7_clutchAt_6 h
def w_X7_eggsIn_J32 (Q : Int32 → (Nat → Nat → Int32) → Prop) (K4 : (Nat → Nat → Int32) → Int32 → Int32 → Int32 → Prop) (σ : Nat → Nat → Int32) (x1 x2 x3 s0 : Int32) : Prop :=
  w_X7_clutchAt x3 (fun r1 => vp_in ((r1 + (1 : Int32))) 156 ∧ ∀ y3 : Int32, y3 = (s0 + ((σ 0) ((r1 + (1 : Int32))).toNatClampNeg)) → ∀ y4 : Int32, y4 = x3 + (1 : Int32) → K4 σ x1 y3 y4)
def w_X7_eggsIn_L4 (Q : Int32 → (Nat → Nat → Int32) → Prop) (K4 : (Nat → Nat → Int32) → Int32 → Int32 → Int32 → Prop) (σ : Nat → Nat → Int32) (x1 x2 x3 : Int32) : Prop :=
  vp_in ((1 : Int32)) 156 ∧ ((((σ 0) ((1 : Int32)).toNatClampNeg) ≤ x3 → Q x2 σ) ∧ (¬ ((σ 0) ((1 : Int32)).toNatClampNeg) ≤ x3 → ((x1 < 0 → w_X7_eggsIn_J32 Q K4 σ x1 x2 x3 x2) ∧ (¬ x1 < 0 → w_X7_clutchAt x3 (fun r8 => vp_in r8 156 ∧ ((¬ ((σ 0) r8.toNatClampNeg) = x1 → ∀ y11 : Int32, y11 = (x2 + (0 : Int32)) → ∀ y12 : Int32, y12 = x3 + (1 : Int32) → K4 σ x1 y11 y12) ∧ (((σ 0) r8.toNatClampNeg) = x1 → w_X7_eggsIn_J32 Q K4 σ x1 x2 x3 x2)))))))
def w_X7_eggsIn (σ : Nat → Nat → Int32) (x1 : Int32) (Q : Int32 → (Nat → Nat → Int32) → Prop) : Prop :=
  wLoop (fun K s => w_X7_eggsIn_L4 Q (fun v0 v1 v2 v3 => K (v0, v1, v2, v3)) s.1 s.2.1 s.2.2.1 s.2.2.2) (σ, x1, (0 : Int32), (0 : Int32))
set_option maxHeartbeats 4000000 in
theorem k_X7_eggsIn_J32 {x : vC} {l : Launch} {D : va_G} {a : Nat → Nat}  {Q : Int32 → (Nat → Nat → Int32) → Prop} (hF : vF x l D "BrookWeirsModel" cX7_eggsIn (rmk 1 0 0 20) 4 (some .int)) (hR : vRi x (moW D a) Q 0 0) {K4 : (Nat → Nat → Int32) → Int32 → Int32 → Int32 → Prop} (hK4 : ∀ (σ : Nat → Nat → Int32) (x1 x2 x3 : Int32), K4 σ x1 x2 x3 → vV x 0 0 (moW D a σ ++ []) [(0, .ref (a 0)), (1, .int x1), (2, .int x2), (3, .int x3)] 4 []) : ∀ (σ : Nat → Nat → Int32) (x1 x2 x3 s0 : Int32), w_X7_eggsIn_J32 Q K4 σ x1 x2 x3 s0 → vV x 0 0 (moW D a σ ++ []) [(0, .ref (a 0)), (1, .int x1), (2, .int x2), (3, .int x3)] 32 [.int s0] := by
  intro σ x1 x2 x3 s0 h
  unfold w_X7_eggsIn_J32 at h
  refine v_aload_n 32 hF dX7_eggsIn_32 rfl 0 rfl ?_
  refine M_get 33 0 hF (Nat.le_of_ble_eq_true rfl) q1904 rfl rfl dX7_eggsIn_33 ?_
  refine v_iload_n 36 hF dX7_eggsIn_36 rfl 3 rfl ?_
  refine v_callS0i (As := [.int x3]) 37 hF (c_X7_clutchAt l D x3 _ h) q2035 q2036 q82 q2037 ds_X7_clutchAt ⟨rfl, rfl, Nat.le_of_ble_eq_true rfl, Nat.le_of_ble_eq_true rfl⟩ (Nat.le_of_ble_eq_true rfl) ⟨Nat.zero_le _, Nat.zero_le _⟩ dX7_eggsIn_37 (fun r1 h => ?_)
  refine v_iconst (v := 1) 40 hF dX7_eggsIn_40 (by decide) ?_
  refine v_iadd 41 hF dX7_eggsIn_41 ?_
  obtain ⟨o2, h⟩ := h
  refine M_ald0 42 hF o2 dX7_eggsIn_42 ?_
  refine v_goto 43 47 hF dX7_eggsIn_43 (by decide) ?_
  refine v_iadd 47 hF dX7_eggsIn_47 ?_
  refine v_nm (fun y3 ey3 => ?_)
  replace h := h y3 ey3
  refine v_istore_n [(0, .ref (a 0)), (1, .int x1), (2, .int y3), (3, .int x3)] [1, 2, 0, 3] 48 hF dX7_eggsIn_48 rfl (Nat.le_of_ble_eq_true rfl) rfl ?_
  obtain ⟨y4, ey4⟩ : ∃ y : Int32, y = x3 + (1 : Int32) := ⟨_, rfl⟩
  replace h := h y4 ey4
  refine v_iinc [(0, .ref (a 0)), (1, .int x1), (2, .int y3), (3, .int y4)] [1, 2, 3, 0] 49 hF dX7_eggsIn_49 3 rfl (by rw [ey4]; rfl) (Nat.le_of_ble_eq_true rfl) rfl ?_
  refine v_goto 52 4 hF dX7_eggsIn_52 (by decide) ?_
  exact hK4 _ _ _ _ h
set_option maxHeartbeats 4000000 in
theorem k_X7_eggsIn_L4 {x : vC} {l : Launch} {D : va_G} {a : Nat → Nat}  {Q : Int32 → (Nat → Nat → Int32) → Prop} (hF : vF x l D "BrookWeirsModel" cX7_eggsIn (rmk 1 0 0 20) 4 (some .int)) (hR : vRi x (moW D a) Q 0 0) {K4 : (Nat → Nat → Int32) → Int32 → Int32 → Int32 → Prop} (hK4 : ∀ (σ : Nat → Nat → Int32) (x1 x2 x3 : Int32), K4 σ x1 x2 x3 → vV x 0 0 (moW D a σ ++ []) [(0, .ref (a 0)), (1, .int x1), (2, .int x2), (3, .int x3)] 4 []) : ∀ (σ : Nat → Nat → Int32) (x1 x2 x3 : Int32), w_X7_eggsIn_L4 Q K4 σ x1 x2 x3 → vV x 0 0 (moW D a σ ++ []) [(0, .ref (a 0)), (1, .int x1), (2, .int x2), (3, .int x3)] 4 [] := by
  intro σ x1 x2 x3 h
  unfold w_X7_eggsIn_L4 at h
  refine v_iload_n 4 hF dX7_eggsIn_4 rfl 3 rfl ?_
  refine v_aload_n 5 hF dX7_eggsIn_5 rfl 0 rfl ?_
  refine M_get 6 0 hF (Nat.le_of_ble_eq_true rfl) q1904 rfl rfl dX7_eggsIn_6 ?_
  refine v_iconst (v := 1) 9 hF dX7_eggsIn_9 (by decide) ?_
  obtain ⟨o5, h⟩ := h
  refine M_ald0 10 hF o5 dX7_eggsIn_10 ?_
  refine v_icmp_ge 11 55 hF dX7_eggsIn_11 (by decide) (fun c6 => ?_) (fun c6 => ?_)
  · replace h := h.1 c6
    refine v_iload_n 55 hF dX7_eggsIn_55 rfl 2 rfl ?_
    exact v_iretA 56 hF hR (Nat.zero_le _) (Nat.zero_le _) dX7_eggsIn_56 h
  · replace h := h.2 c6
    refine v_iload_n 14 hF dX7_eggsIn_14 rfl 2 rfl ?_
    refine v_iload_n 15 hF dX7_eggsIn_15 rfl 1 rfl ?_
    refine v_if_lt 16 32 hF dX7_eggsIn_16 (by decide) (fun c7 => ?_) (fun c7 => ?_)
    · replace h := h.1 c7
      exact k_X7_eggsIn_J32 hF hR hK4 _ _ _ _ _ h
    · replace h := h.2 c7
      refine v_aload_n 19 hF dX7_eggsIn_19 rfl 0 rfl ?_
      refine M_get 20 0 hF (Nat.le_of_ble_eq_true rfl) q1904 rfl rfl dX7_eggsIn_20 ?_
      refine v_iload_n 23 hF dX7_eggsIn_23 rfl 3 rfl ?_
      refine v_callS0i (As := [.int x3]) 24 hF (c_X7_clutchAt l D x3 _ h) q2035 q2036 q82 q2037 ds_X7_clutchAt ⟨rfl, rfl, Nat.le_of_ble_eq_true rfl, Nat.le_of_ble_eq_true rfl⟩ (Nat.le_of_ble_eq_true rfl) ⟨Nat.zero_le _, Nat.zero_le _⟩ dX7_eggsIn_24 (fun r8 h => ?_)
      obtain ⟨o9, h⟩ := h
      refine M_ald0 27 hF o9 dX7_eggsIn_27 ?_
      refine v_iload_n 28 hF dX7_eggsIn_28 rfl 1 rfl ?_
      refine v_icmp_ne 29 46 hF dX7_eggsIn_29 (by decide) (fun c10 => ?_) (fun c10 => ?_)
      · replace h := h.1 c10
        refine v_iconst (v := 0) 46 hF dX7_eggsIn_46 (by decide) ?_
        refine v_iadd 47 hF dX7_eggsIn_47 ?_
        refine v_nm (fun y11 ey11 => ?_)
        replace h := h y11 ey11
        refine v_istore_n [(0, .ref (a 0)), (1, .int x1), (2, .int y11), (3, .int x3)] [1, 2, 0, 3] 48 hF dX7_eggsIn_48 rfl (Nat.le_of_ble_eq_true rfl) rfl ?_
        obtain ⟨y12, ey12⟩ : ∃ y : Int32, y = x3 + (1 : Int32) := ⟨_, rfl⟩
        replace h := h y12 ey12
        refine v_iinc [(0, .ref (a 0)), (1, .int x1), (2, .int y11), (3, .int y12)] [1, 2, 3, 0] 49 hF dX7_eggsIn_49 3 rfl (by rw [ey12]; rfl) (Nat.le_of_ble_eq_true rfl) rfl ?_
        refine v_goto 52 4 hF dX7_eggsIn_52 (by decide) ?_
        exact hK4 _ _ _ _ h
      · replace h := h.2 c10
        exact k_X7_eggsIn_J32 hF hR hK4 _ _ _ _ _ h
theorem ds_X7_eggsIn : yX7_eggsIn.cls = yX7_eggsIn.cls ∧ yX7_eggsIn.cls ≠ "java/lang/invoke/MethodHandle" ∧ yX7_eggsIn.cls ≠ "java/lang/invoke/VarHandle" ∧ (parseMethodDescriptor yX7_eggsIn.desc).map (fun d => d.parameters.length) = some 1 := by decide +kernel
set_option maxHeartbeats 4000000 in
theorem c_X7_eggsIn (l : Launch) (D : va_G) (a : Nat → Nat) (σ : Nat → Nat → Int32) (x1 : Int32) (Q : Int32 → (Nat → Nat → Int32) → Prop) (h : w_X7_eggsIn σ x1 Q) : Cti l D yX7_eggsIn cX7_eggsIn 4 .int (rmk 1 0 0 20) [.ref (a 0), .int x1] (moW D a σ) (moW D a) Q 0 0 := by
  refine Cti.of (by decide) (Nat.le_of_ble_eq_true rfl) (fun x hF hR => ?_)
  replace hF : vF x l D "BrookWeirsModel" cX7_eggsIn (rmk 1 0 0 20) 4 (some .int) := hF
  refine v_app0 ?_
  unfold w_X7_eggsIn at h
  refine v_iconst (v := 0) 0 hF dX7_eggsIn_0 (by decide) ?_
  refine v_istore_n [(0, .ref (a 0)), (1, .int x1), (2, .int ((0 : Int32)))] [1, 2, 0] 1 hF dX7_eggsIn_1 rfl (Nat.le_of_ble_eq_true rfl) rfl ?_
  refine v_iconst (v := 0) 2 hF dX7_eggsIn_2 (by decide) ?_
  refine v_istore_n [(0, .ref (a 0)), (1, .int x1), (2, .int ((0 : Int32))), (3, .int ((0 : Int32)))] [1, 2, 3, 0] 3 hF dX7_eggsIn_3 rfl (Nat.le_of_ble_eq_true rfl) rfl ?_
  exact vLoop (V := fun s => vV x 0 0 (moW D a s.1 ++ []) [(0, .ref (a 0)), (1, .int s.2.1), (2, .int s.2.2.1), (3, .int s.2.2.2)] 4 []) (fun K hK s hs => k_X7_eggsIn_L4 hF hR (fun v0 v1 v2 v3 q => hK (v0, v1, v2, v3) q) s.1 s.2.1 s.2.2.1 s.2.2.2 hs) _ h
def w_X7_letsDown_J25 (Q : Int32 → (Nat → Nat → Int32) → Prop)  (σ : Nat → Nat → Int32) (x1 s0 : Int32) : Prop :=
  w_X7_get σ x1 ((4 : Int32)) (fun r1 t2 => ∀ y3 : Int32, y3 = (r1 - s0) → ((0 ≤ y3 → Q ((if y3 < (20 : Int32) then y3 else (20 : Int32))) t2) ∧ (¬ 0 ≤ y3 → Q ((0 : Int32)) t2)))
def w_X7_letsDown (σ : Nat → Nat → Int32) (x1 : Int32) (Q : Int32 → (Nat → Nat → Int32) → Prop) : Prop :=
  w_X7_isOpen σ x1 (fun r5 t6 => ((r5 = 0 → w_X7_get t6 x1 ((3 : Int32)) (fun r8 t9 => w_X7_get t9 x1 ((0 : Int32)) (fun r10 t11 => w_X7_letsDown_J25 Q t11 x1 ((r8 * r10))))) ∧ (¬ r5 = 0 → w_X7_letsDown_J25 Q t6 x1 ((0 : Int32)))))
set_option maxHeartbeats 4000000 in
theorem k_X7_letsDown_J25 {x : vC} {l : Launch} {D : va_G} {a : Nat → Nat}  {Q : Int32 → (Nat → Nat → Int32) → Prop} (hF : vF x l D "BrookWeirsModel" cX7_letsDown (rmk 3 0 0 64) 4 (some .int)) (hR : vRi x (moW D a) Q 0 0)   : ∀ (σ : Nat → Nat → Int32) (x1 s0 : Int32), w_X7_letsDown_J25 Q  σ x1 s0 → vV x 0 0 (moW D a σ ++ []) [(0, .ref (a 0)), (1, .int x1)] 25 [.int s0] := by
  intro σ x1 s0 h
  unfold w_X7_letsDown_J25 at h
  refine v_istore_n [(0, .ref (a 0)), (1, .int x1), (2, .int s0)] [1, 2, 0] 25 hF dX7_letsDown_25 rfl (Nat.le_of_ble_eq_true rfl) rfl ?_
  refine v_aload_n 26 hF dX7_letsDown_26 rfl 0 rfl ?_
  refine v_iload_n 27 hF dX7_letsDown_27 rfl 1 rfl ?_
  refine v_iconst (v := 4) 28 hF dX7_letsDown_28 (by decide) ?_
  refine v_callVi (As := [.int x1, .int ((4 : Int32))]) 29 hF (c_X7_get l D a σ x1 ((4 : Int32)) _ h) (List.Perm.refl _) ⟨0, 10, _, TX7, 18, rfl, rfl⟩ q1999 q2001 qs35 q82 q2002 ds_X7_get ⟨rfl, rfl, Nat.le_of_ble_eq_true rfl, Nat.le_of_ble_eq_true rfl⟩ (Nat.le_of_ble_eq_true rfl) ⟨Nat.zero_le _, Nat.zero_le _⟩ dX7_letsDown_29 (fun r1 t2 h => ?_)
  refine v_iload_n 32 hF dX7_letsDown_32 rfl 2 rfl ?_
  refine v_isub 33 hF dX7_letsDown_33 ?_
  refine v_nm (fun y3 ey3 => ?_)
  replace h := h y3 ey3
  refine v_istore_n [(0, .ref (a 0)), (1, .int x1), (2, .int s0), (3, .int y3)] [1, 2, 3, 0] 34 hF dX7_letsDown_34 rfl (Nat.le_of_ble_eq_true rfl) rfl ?_
  refine v_iload_n 35 hF dX7_letsDown_35 rfl 3 rfl ?_
  refine v_if_ge 36 43 hF dX7_letsDown_36 (by decide) (fun c4 => ?_) (fun c4 => ?_)
  · replace h := h.1 c4
    refine v_bipush (v := 20) 43 hF dX7_letsDown_43 (by decide) ?_
    refine v_iload_n 45 hF dX7_letsDown_45 rfl 3 rfl ?_
    refine v_mmin 46 hF q2054 q429 q92 q430 (Nat.le_of_ble_eq_true rfl) (Nat.le_of_ble_eq_true rfl) ⟨Nat.zero_le _, Nat.zero_le _⟩ dX7_letsDown_46 ?_
    exact v_iretA 49 hF hR (Nat.zero_le _) (Nat.zero_le _) dX7_letsDown_49 h
  · replace h := h.2 c4
    refine v_iconst (v := 0) 39 hF dX7_letsDown_39 (by decide) ?_
    refine v_goto 40 49 hF dX7_letsDown_40 (by decide) ?_
    exact v_iretA 49 hF hR (Nat.zero_le _) (Nat.zero_le _) dX7_letsDown_49 h
theorem ds_X7_letsDown : yX7_letsDown.cls = yX7_letsDown.cls ∧ yX7_letsDown.cls ≠ "java/lang/invoke/MethodHandle" ∧ yX7_letsDown.cls ≠ "java/lang/invoke/VarHandle" ∧ (parseMethodDescriptor yX7_letsDown.desc).map (fun d => d.parameters.length) = some 1 := by decide +kernel
set_option maxHeartbeats 4000000 in
theorem c_X7_letsDown (l : Launch) (D : va_G) (a : Nat → Nat) (σ : Nat → Nat → Int32) (x1 : Int32) (Q : Int32 → (Nat → Nat → Int32) → Prop) (h : w_X7_letsDown σ x1 Q) : Cti l D yX7_letsDown cX7_letsDown 4 .int (rmk 3 0 0 64) [.ref (a 0), .int x1] (moW D a σ) (moW D a) Q 0 0 := by
  refine Cti.of (by decide) (Nat.le_of_ble_eq_true rfl) (fun x hF hR => ?_)
  replace hF : vF x l D "BrookWeirsModel" cX7_letsDown (rmk 3 0 0 64) 4 (some .int) := hF
  refine v_app0 ?_
  unfold w_X7_letsDown at h
  refine v_aload_n 0 hF dX7_letsDown_0 rfl 0 rfl ?_
  refine v_iload_n 1 hF dX7_letsDown_1 rfl 1 rfl ?_
  refine v_callVi (As := [.int x1]) 2 hF (c_X7_isOpen l D a σ x1 _ h) (List.Perm.refl _) ⟨0, 10, _, TX7, 18, rfl, rfl⟩ q2003 q2005 qs36 q82 q2006 ds_X7_isOpen ⟨rfl, rfl, Nat.le_of_ble_eq_true rfl, Nat.le_of_ble_eq_true rfl⟩ (Nat.le_of_ble_eq_true rfl) ⟨Nat.zero_le _, Nat.zero_le _⟩ dX7_letsDown_2 (fun r5 t6 h => ?_)
  refine v_if_eq 5 12 hF dX7_letsDown_5 (by decide) (fun c7 => ?_) (fun c7 => ?_)
  · replace h := h.1 c7
    refine v_aload_n 12 hF dX7_letsDown_12 rfl 0 rfl ?_
    refine v_iload_n 13 hF dX7_letsDown_13 rfl 1 rfl ?_
    refine v_iconst (v := 3) 14 hF dX7_letsDown_14 (by decide) ?_
    refine v_callVi (As := [.int x1, .int ((3 : Int32))]) 15 hF (c_X7_get l D a t6 x1 ((3 : Int32)) _ h) (List.Perm.refl _) ⟨0, 10, _, TX7, 18, rfl, rfl⟩ q1999 q2001 qs35 q82 q2002 ds_X7_get ⟨rfl, rfl, Nat.le_of_ble_eq_true rfl, Nat.le_of_ble_eq_true rfl⟩ (Nat.le_of_ble_eq_true rfl) ⟨Nat.zero_le _, Nat.zero_le _⟩ dX7_letsDown_15 (fun r8 t9 h => ?_)
    refine v_aload_n 18 hF dX7_letsDown_18 rfl 0 rfl ?_
    refine v_iload_n 19 hF dX7_letsDown_19 rfl 1 rfl ?_
    refine v_iconst (v := 0) 20 hF dX7_letsDown_20 (by decide) ?_
    refine v_callVi (As := [.int x1, .int ((0 : Int32))]) 21 hF (c_X7_get l D a t9 x1 ((0 : Int32)) _ h) (List.Perm.refl _) ⟨0, 10, _, TX7, 18, rfl, rfl⟩ q1999 q2001 qs35 q82 q2002 ds_X7_get ⟨rfl, rfl, Nat.le_of_ble_eq_true rfl, Nat.le_of_ble_eq_true rfl⟩ (Nat.le_of_ble_eq_true rfl) ⟨Nat.zero_le _, Nat.zero_le _⟩ dX7_letsDown_21 (fun r10 t11 h => ?_)
    refine v_imul 24 hF dX7_letsDown_24 ?_
    exact k_X7_letsDown_J25 hF hR _ _ _ h
  · replace h := h.2 c7
    refine v_iconst (v := 0) 8 hF dX7_letsDown_8 (by decide) ?_
    refine v_goto 9 25 hF dX7_letsDown_9 (by decide) ?_
    exact k_X7_letsDown_J25 hF hR _ _ _ h
def w_X7_is_J27 (Q : Int32 → (Nat → Nat → Int32) → Prop)  (σ : Nat → Nat → Int32) (x1 x2 s1 : Int32) : Prop :=
  ∀ t1 : Nat → Nat → Int32, t1 = (upN σ 20 7 s1) → (((t1 20 7) ≤ 0 → ((¬ x2 = 0 → w_X7_get t1 x1 (((5 : Int32) + x2)) (fun r4 t5 => ((¬ r4 = (1 : Int32) → Q ((0 : Int32)) t5) ∧ (r4 = (1 : Int32) → Q ((1 : Int32)) t5)))) ∧ (x2 = 0 → w_X7_isOpen t1 x1 (fun r7 t8 => (r7 = 0 ∨ r7 = 1) ∧ Q r7 t8)))) ∧ (¬ (t1 20 7) ≤ 0 → Q ((0 : Int32)) t1))
def w_X7_is (σ : Nat → Nat → Int32) (x1 x2 : Int32) (Q : Int32 → (Nat → Nat → Int32) → Prop) : Prop :=
  w_X7_isPool σ x1 (fun r10 t11 => ((¬ r10 = 0 → w_X7_in x2 ((0 : Int32)) ((5 : Int32)) (fun r13 => ((¬ r13 = 0 → w_X7_is_J27 Q t11 x1 x2 ((0 : Int32))) ∧ (r13 = 0 → w_X7_is_J27 Q t11 x1 x2 ((2 : Int32)))))) ∧ (r10 = 0 → w_X7_is_J27 Q t11 x1 x2 ((1 : Int32)))))
set_option maxHeartbeats 4000000 in
theorem k_X7_is_J27 {x : vC} {l : Launch} {D : va_G} {a : Nat → Nat}  {Q : Int32 → (Nat → Nat → Int32) → Prop} (hF : vF x l D "BrookWeirsModel" cX7_is (rmk 3 0 0 64) 3 (some .boolean)) (hR : vRi x (moW D a) Q 0 0)   : ∀ (σ : Nat → Nat → Int32) (x1 x2 s1 : Int32), w_X7_is_J27 Q  σ x1 x2 s1 → vV x 0 0 (moW D a σ ++ []) [(0, .ref (a 0)), (1, .int x1), (2, .int x2)] 27 [.int s1, .ref (a 0)] := by
  intro σ x1 x2 s1 h
  unfold w_X7_is_J27 at h
  refine M_put7 27 hF q1911 dX7_is_27 (fun t1 et1 => ?_)
  replace h := h t1 et1
  refine v_aload_n 30 hF dX7_is_30 rfl 0 rfl ?_
  refine M_get 31 7 hF (Nat.le_of_ble_eq_true rfl) q1911 rfl rfl dX7_is_31 ?_
  refine v_if_le 34 39 hF dX7_is_34 (by decide) (fun c2 => ?_) (fun c2 => ?_)
  · replace h := h.1 c2
    refine v_iload_n 39 hF dX7_is_39 rfl 2 rfl ?_
    refine v_if_ne 40 51 hF dX7_is_40 (by decide) (fun c3 => ?_) (fun c3 => ?_)
    · replace h := h.1 c3
      refine v_aload_n 51 hF dX7_is_51 rfl 0 rfl ?_
      refine v_iload_n 52 hF dX7_is_52 rfl 1 rfl ?_
      refine v_iconst (v := 5) 53 hF dX7_is_53 (by decide) ?_
      refine v_iload_n 54 hF dX7_is_54 rfl 2 rfl ?_
      refine v_iadd 55 hF dX7_is_55 ?_
      refine v_callVi (As := [.int x1, .int (((5 : Int32) + x2))]) 56 hF (c_X7_get l D a t1 x1 (((5 : Int32) + x2)) _ h) (List.Perm.refl _) ⟨0, 10, _, TX7, 18, rfl, rfl⟩ q1999 q2001 qs35 q82 q2002 ds_X7_get ⟨rfl, rfl, Nat.le_of_ble_eq_true rfl, Nat.le_of_ble_eq_true rfl⟩ (Nat.le_of_ble_eq_true rfl) ⟨Nat.zero_le _, Nat.zero_le _⟩ dX7_is_56 (fun r4 t5 h => ?_)
      refine v_iconst (v := 1) 59 hF dX7_is_59 (by decide) ?_
      refine v_icmp_ne 60 67 hF dX7_is_60 (by decide) (fun c6 => ?_) (fun c6 => ?_)
      · replace h := h.1 c6
        refine v_iconst (v := 0) 67 hF dX7_is_67 (by decide) ?_
        exact v_zretA 68 hF hR (Nat.zero_le _) (Nat.zero_le _) rfl dX7_is_68 h
      · replace h := h.2 c6
        refine v_iconst (v := 1) 63 hF dX7_is_63 (by decide) ?_
        refine v_goto 64 68 hF dX7_is_64 (by decide) ?_
        exact v_zretA 68 hF hR (Nat.zero_le _) (Nat.zero_le _) rfl dX7_is_68 h
    · replace h := h.2 c3
      refine v_aload_n 43 hF dX7_is_43 rfl 0 rfl ?_
      refine v_iload_n 44 hF dX7_is_44 rfl 1 rfl ?_
      refine v_callVi (As := [.int x1]) 45 hF (c_X7_isOpen l D a t1 x1 _ h) (List.Perm.refl _) ⟨0, 10, _, TX7, 18, rfl, rfl⟩ q2003 q2005 qs36 q82 q2006 ds_X7_isOpen ⟨rfl, rfl, Nat.le_of_ble_eq_true rfl, Nat.le_of_ble_eq_true rfl⟩ (Nat.le_of_ble_eq_true rfl) ⟨Nat.zero_le _, Nat.zero_le _⟩ dX7_is_45 (fun r7 t8 h => ?_)
      refine v_goto 48 68 hF dX7_is_48 (by decide) ?_
      obtain ⟨o9, h⟩ := h
      exact v_zretA 68 hF hR (Nat.zero_le _) (Nat.zero_le _) (vbo_n o9) dX7_is_68 h
  · replace h := h.2 c2
    refine v_iconst (v := 0) 37 hF dX7_is_37 (by decide) ?_
    exact v_zretA 38 hF hR (Nat.zero_le _) (Nat.zero_le _) rfl dX7_is_38 h
theorem ds_X7_is : yX7_is.cls = yX7_is.cls ∧ yX7_is.cls ≠ "java/lang/invoke/MethodHandle" ∧ yX7_is.cls ≠ "java/lang/invoke/VarHandle" ∧ (parseMethodDescriptor yX7_is.desc).map (fun d => d.parameters.length) = some 2 := by decide +kernel
set_option maxHeartbeats 4000000 in
theorem c_X7_is (l : Launch) (D : va_G) (a : Nat → Nat) (σ : Nat → Nat → Int32) (x1 x2 : Int32) (Q : Int32 → (Nat → Nat → Int32) → Prop) (h : w_X7_is σ x1 x2 Q) : Cti l D yX7_is cX7_is 3 .boolean (rmk 3 0 0 64) [.ref (a 0), .int x1, .int x2] (moW D a σ) (moW D a) Q 0 0 := by
  refine Cti.of (by decide) (Nat.le_of_ble_eq_true rfl) (fun x hF hR => ?_)
  replace hF : vF x l D "BrookWeirsModel" cX7_is (rmk 3 0 0 64) 3 (some .boolean) := hF
  refine v_app0 ?_
  unfold w_X7_is at h
  refine v_aload_n 0 hF dX7_is_0 rfl 0 rfl ?_
  refine v_aload_n 1 hF dX7_is_1 rfl 0 rfl ?_
  refine v_iload_n 2 hF dX7_is_2 rfl 1 rfl ?_
  refine v_callVi (As := [.int x1]) 3 hF (c_X7_isPool l D a σ x1 _ h) (List.Perm.refl _) ⟨0, 10, _, TX7, 18, rfl, rfl⟩ q1995 q1997 qs34 q82 q1998 ds_X7_isPool ⟨rfl, rfl, Nat.le_of_ble_eq_true rfl, Nat.le_of_ble_eq_true rfl⟩ (Nat.le_of_ble_eq_true rfl) ⟨Nat.zero_le _, Nat.zero_le _⟩ dX7_is_3 (fun r10 t11 h => ?_)
  refine v_if_ne 6 13 hF dX7_is_6 (by decide) (fun c12 => ?_) (fun c12 => ?_)
  · replace h := h.1 c12
    refine v_iload_n 13 hF dX7_is_13 rfl 2 rfl ?_
    refine v_iconst (v := 0) 14 hF dX7_is_14 (by decide) ?_
    refine v_iconst (v := 5) 15 hF dX7_is_15 (by decide) ?_
    refine v_callS0i (As := [.int x2, .int ((0 : Int32)), .int ((5 : Int32))]) 16 hF (c_X7_in l D x2 ((0 : Int32)) ((5 : Int32)) _ h) q1968 q1969 q82 q1970 ds_X7_in ⟨rfl, rfl, Nat.le_of_ble_eq_true rfl, Nat.le_of_ble_eq_true rfl⟩ (Nat.le_of_ble_eq_true rfl) ⟨Nat.zero_le _, Nat.zero_le _⟩ dX7_is_16 (fun r13 h => ?_)
    refine v_if_ne 19 26 hF dX7_is_19 (by decide) (fun c14 => ?_) (fun c14 => ?_)
    · replace h := h.1 c14
      refine v_iconst (v := 0) 26 hF dX7_is_26 (by decide) ?_
      exact k_X7_is_J27 hF hR _ _ _ _ h
    · replace h := h.2 c14
      refine v_iconst (v := 2) 22 hF dX7_is_22 (by decide) ?_
      refine v_goto 23 27 hF dX7_is_23 (by decide) ?_
      exact k_X7_is_J27 hF hR _ _ _ _ h
  · replace h := h.2 c12
    refine v_iconst (v := 1) 9 hF dX7_is_9 (by decide) ?_
    refine v_goto 10 27 hF dX7_is_10 (by decide) ?_
    exact k_X7_is_J27 hF hR _ _ _ _ h
def w_X7_clutch_J35 (Q : Int32 → (Nat → Nat → Int32) → Prop)  (σ : Nat → Nat → Int32) (x1 x2 s1 : Int32) : Prop :=
  ∀ t1 : Nat → Nat → Int32, t1 = (upN σ 20 7 s1) → (((t1 20 7) ≤ 0 → w_X7_clutchAt x1 (fun r3 => vp_in ((r3 + x2)) 156 ∧ Q (((t1 0) ((r3 + x2)).toNatClampNeg)) t1)) ∧ (¬ (t1 20 7) ≤ 0 → Q ((0 : Int32)) t1))
def w_X7_clutch (σ : Nat → Nat → Int32) (x1 x2 : Int32) (Q : Int32 → (Nat → Nat → Int32) → Prop) : Prop :=
  vp_in ((1 : Int32)) 156 ∧ w_X7_in x1 ((0 : Int32)) ((((σ 0) ((1 : Int32)).toNatClampNeg) - (1 : Int32))) (fun r6 => ((¬ r6 = 0 → w_X7_in x2 ((0 : Int32)) ((3 : Int32)) (fun r8 => ((¬ r8 = 0 → w_X7_clutch_J35 Q σ x1 x2 ((0 : Int32))) ∧ (r8 = 0 → w_X7_clutch_J35 Q σ x1 x2 ((2 : Int32)))))) ∧ (r6 = 0 → w_X7_clutch_J35 Q σ x1 x2 ((1 : Int32)))))
set_option maxHeartbeats 4000000 in
theorem k_X7_clutch_J35 {x : vC} {l : Launch} {D : va_G} {a : Nat → Nat}  {Q : Int32 → (Nat → Nat → Int32) → Prop} (hF : vF x l D "BrookWeirsModel" cX7_clutch (rmk 1 0 0 22) 3 (some .int)) (hR : vRi x (moW D a) Q 0 0)   : ∀ (σ : Nat → Nat → Int32) (x1 x2 s1 : Int32), w_X7_clutch_J35 Q  σ x1 x2 s1 → vV x 0 0 (moW D a σ ++ []) [(0, .ref (a 0)), (1, .int x1), (2, .int x2)] 35 [.int s1, .ref (a 0)] := by
  intro σ x1 x2 s1 h
  unfold w_X7_clutch_J35 at h
  refine M_put7 35 hF q1911 dX7_clutch_35 (fun t1 et1 => ?_)
  replace h := h t1 et1
  refine v_aload_n 38 hF dX7_clutch_38 rfl 0 rfl ?_
  refine M_get 39 7 hF (Nat.le_of_ble_eq_true rfl) q1911 rfl rfl dX7_clutch_39 ?_
  refine v_if_le 42 49 hF dX7_clutch_42 (by decide) (fun c2 => ?_) (fun c2 => ?_)
  · replace h := h.1 c2
    refine v_aload_n 49 hF dX7_clutch_49 rfl 0 rfl ?_
    refine M_get 50 0 hF (Nat.le_of_ble_eq_true rfl) q1904 rfl rfl dX7_clutch_50 ?_
    refine v_iload_n 53 hF dX7_clutch_53 rfl 1 rfl ?_
    refine v_callS0i (As := [.int x1]) 54 hF (c_X7_clutchAt l D x1 _ h) q2035 q2036 q82 q2037 ds_X7_clutchAt ⟨rfl, rfl, Nat.le_of_ble_eq_true rfl, Nat.le_of_ble_eq_true rfl⟩ (Nat.le_of_ble_eq_true rfl) ⟨Nat.zero_le _, Nat.zero_le _⟩ dX7_clutch_54 (fun r3 h => ?_)
    refine v_iload_n 57 hF dX7_clutch_57 rfl 2 rfl ?_
    refine v_iadd 58 hF dX7_clutch_58 ?_
    obtain ⟨o4, h⟩ := h
    refine M_ald0 59 hF o4 dX7_clutch_59 ?_
    exact v_iretA 60 hF hR (Nat.zero_le _) (Nat.zero_le _) dX7_clutch_60 h
  · replace h := h.2 c2
    refine v_iconst (v := 0) 45 hF dX7_clutch_45 (by decide) ?_
    refine v_goto 46 60 hF dX7_clutch_46 (by decide) ?_
    exact v_iretA 60 hF hR (Nat.zero_le _) (Nat.zero_le _) dX7_clutch_60 h
theorem ds_X7_clutch : yX7_clutch.cls = yX7_clutch.cls ∧ yX7_clutch.cls ≠ "java/lang/invoke/MethodHandle" ∧ yX7_clutch.cls ≠ "java/lang/invoke/VarHandle" ∧ (parseMethodDescriptor yX7_clutch.desc).map (fun d => d.parameters.length) = some 2 := by decide +kernel
set_option maxHeartbeats 4000000 in
theorem c_X7_clutch (l : Launch) (D : va_G) (a : Nat → Nat) (σ : Nat → Nat → Int32) (x1 x2 : Int32) (Q : Int32 → (Nat → Nat → Int32) → Prop) (h : w_X7_clutch σ x1 x2 Q) : Cti l D yX7_clutch cX7_clutch 3 .int (rmk 1 0 0 22) [.ref (a 0), .int x1, .int x2] (moW D a σ) (moW D a) Q 0 0 := by
  refine Cti.of (by decide) (Nat.le_of_ble_eq_true rfl) (fun x hF hR => ?_)
  replace hF : vF x l D "BrookWeirsModel" cX7_clutch (rmk 1 0 0 22) 3 (some .int) := hF
  refine v_app0 ?_
  unfold w_X7_clutch at h
  refine v_aload_n 0 hF dX7_clutch_0 rfl 0 rfl ?_
  refine v_iload_n 1 hF dX7_clutch_1 rfl 1 rfl ?_
  refine v_iconst (v := 0) 2 hF dX7_clutch_2 (by decide) ?_
  refine v_aload_n 3 hF dX7_clutch_3 rfl 0 rfl ?_
  refine M_get 4 0 hF (Nat.le_of_ble_eq_true rfl) q1904 rfl rfl dX7_clutch_4 ?_
  refine v_iconst (v := 1) 7 hF dX7_clutch_7 (by decide) ?_
  obtain ⟨o5, h⟩ := h
  refine M_ald0 8 hF o5 dX7_clutch_8 ?_
  refine v_iconst (v := 1) 9 hF dX7_clutch_9 (by decide) ?_
  refine v_isub 10 hF dX7_clutch_10 ?_
  refine v_callS0i (As := [.int x1, .int ((0 : Int32)), .int ((((σ 0) ((1 : Int32)).toNatClampNeg) - (1 : Int32)))]) 11 hF (c_X7_in l D x1 ((0 : Int32)) ((((σ 0) ((1 : Int32)).toNatClampNeg) - (1 : Int32))) _ h) q1968 q1969 q82 q1970 ds_X7_in ⟨rfl, rfl, Nat.le_of_ble_eq_true rfl, Nat.le_of_ble_eq_true rfl⟩ (Nat.le_of_ble_eq_true rfl) ⟨Nat.zero_le _, Nat.zero_le _⟩ dX7_clutch_11 (fun r6 h => ?_)
  refine v_if_ne 14 21 hF dX7_clutch_14 (by decide) (fun c7 => ?_) (fun c7 => ?_)
  · replace h := h.1 c7
    refine v_iload_n 21 hF dX7_clutch_21 rfl 2 rfl ?_
    refine v_iconst (v := 0) 22 hF dX7_clutch_22 (by decide) ?_
    refine v_iconst (v := 3) 23 hF dX7_clutch_23 (by decide) ?_
    refine v_callS0i (As := [.int x2, .int ((0 : Int32)), .int ((3 : Int32))]) 24 hF (c_X7_in l D x2 ((0 : Int32)) ((3 : Int32)) _ h) q1968 q1969 q82 q1970 ds_X7_in ⟨rfl, rfl, Nat.le_of_ble_eq_true rfl, Nat.le_of_ble_eq_true rfl⟩ (Nat.le_of_ble_eq_true rfl) ⟨Nat.zero_le _, Nat.zero_le _⟩ dX7_clutch_24 (fun r8 h => ?_)
    refine v_if_ne 27 34 hF dX7_clutch_27 (by decide) (fun c9 => ?_) (fun c9 => ?_)
    · replace h := h.1 c9
      refine v_iconst (v := 0) 34 hF dX7_clutch_34 (by decide) ?_
      exact k_X7_clutch_J35 hF hR _ _ _ _ h
    · replace h := h.2 c9
      refine v_iconst (v := 2) 30 hF dX7_clutch_30 (by decide) ?_
      refine v_goto 31 35 hF dX7_clutch_31 (by decide) ?_
      exact k_X7_clutch_J35 hF hR _ _ _ _ h
  · replace h := h.2 c7
    refine v_iconst (v := 1) 17 hF dX7_clutch_17 (by decide) ?_
    refine v_goto 18 35 hF dX7_clutch_18 (by decide) ?_
    exact k_X7_clutch_J35 hF hR _ _ _ _ h
def w_X7_doTell_J16 (Q : Int32 → (Nat → Nat → Int32) → Prop)  (σ : Nat → Nat → Int32) (x1 s1 : Int32) : Prop :=
  ∀ t1 : Nat → Nat → Int32, t1 = (upN σ 20 7 s1) → (((t1 20 7) ≤ 0 → vp_in ((2 : Int32)) 156 ∧ ((¬ ((t1 0) ((2 : Int32)).toNatClampNeg) = (30 : Int32) → vp_in ((2 : Int32)) 156 ∧ vp_in (((126 : Int32) + ((t1 0) ((2 : Int32)).toNatClampNeg))) 156 ∧ ∀ t7 : Nat → Nat → Int32, t7 = (upN t1 0 (((126 : Int32) + ((t1 0) ((2 : Int32)).toNatClampNeg))).toNatClampNeg x1) → vp_in ((2 : Int32)) 156 ∧ vp_in ((2 : Int32)) 156 ∧ ∀ t10 : Nat → Nat → Int32, t10 = (upN t7 0 ((2 : Int32)).toNatClampNeg (((t7 0) ((2 : Int32)).toNatClampNeg) + (1 : Int32))) → vp_in ((2 : Int32)) 156 ∧ Q (((t10 0) ((2 : Int32)).toNatClampNeg)) t10) ∧ (((t1 0) ((2 : Int32)).toNatClampNeg) = (30 : Int32) → w_X7_refuse t1 ((2 : Int32)) ((4 : Int32)) (fun r12 t13 => Q r12 t13)))) ∧ (¬ (t1 20 7) ≤ 0 → Q ((0 : Int32)) t1))
def w_X7_doTell (σ : Nat → Nat → Int32) (x1 : Int32) (Q : Int32 → (Nat → Nat → Int32) → Prop) : Prop :=
  w_X7_in x1 ((0 : Int32)) ((99 : Int32)) (fun r14 => ((r14 = 0 → w_X7_doTell_J16 Q σ x1 ((1 : Int32))) ∧ (¬ r14 = 0 → w_X7_doTell_J16 Q σ x1 ((0 : Int32)))))
set_option maxHeartbeats 4000000 in
theorem k_X7_doTell_J16 {x : vC} {l : Launch} {D : va_G} {a : Nat → Nat}  {Q : Int32 → (Nat → Nat → Int32) → Prop} (hF : vF x l D "BrookWeirsModel" cX7_doTell (rmk 1 0 0 22) 2 (some .int)) (hR : vRi x (moW D a) Q 0 0)   : ∀ (σ : Nat → Nat → Int32) (x1 s1 : Int32), w_X7_doTell_J16 Q  σ x1 s1 → vV x 0 0 (moW D a σ ++ []) [(0, .ref (a 0)), (1, .int x1)] 16 [.int s1, .ref (a 0)] := by
  intro σ x1 s1 h
  unfold w_X7_doTell_J16 at h
  refine M_put7 16 hF q1911 dX7_doTell_16 (fun t1 et1 => ?_)
  replace h := h t1 et1
  refine v_aload_n 19 hF dX7_doTell_19 rfl 0 rfl ?_
  refine M_get 20 7 hF (Nat.le_of_ble_eq_true rfl) q1911 rfl rfl dX7_doTell_20 ?_
  refine v_if_le 23 28 hF dX7_doTell_23 (by decide) (fun c2 => ?_) (fun c2 => ?_)
  · replace h := h.1 c2
    refine v_aload_n 28 hF dX7_doTell_28 rfl 0 rfl ?_
    refine M_get 29 0 hF (Nat.le_of_ble_eq_true rfl) q1904 rfl rfl dX7_doTell_29 ?_
    refine v_iconst (v := 2) 32 hF dX7_doTell_32 (by decide) ?_
    obtain ⟨o3, h⟩ := h
    refine M_ald0 33 hF o3 dX7_doTell_33 ?_
    refine v_bipush (v := 30) 34 hF dX7_doTell_34 (by decide) ?_
    refine v_icmp_ne 36 46 hF dX7_doTell_36 (by decide) (fun c4 => ?_) (fun c4 => ?_)
    · replace h := h.1 c4
      refine v_aload_n 46 hF dX7_doTell_46 rfl 0 rfl ?_
      refine M_get 47 0 hF (Nat.le_of_ble_eq_true rfl) q1904 rfl rfl dX7_doTell_47 ?_
      refine v_bipush (v := 126) 50 hF dX7_doTell_50 (by decide) ?_
      refine v_aload_n 52 hF dX7_doTell_52 rfl 0 rfl ?_
      refine M_get 53 0 hF (Nat.le_of_ble_eq_true rfl) q1904 rfl rfl dX7_doTell_53 ?_
      refine v_iconst (v := 2) 56 hF dX7_doTell_56 (by decide) ?_
      obtain ⟨o5, h⟩ := h
      refine M_ald0 57 hF o5 dX7_doTell_57 ?_
      refine v_iadd 58 hF dX7_doTell_58 ?_
      refine v_iload_n 59 hF dX7_doTell_59 rfl 1 rfl ?_
      obtain ⟨o6, h⟩ := h
      refine M_ast0 60 hF o6 dX7_doTell_60 (fun t7 et7 => ?_)
      replace h := h t7 et7
      refine v_aload_n 61 hF dX7_doTell_61 rfl 0 rfl ?_
      refine M_get 62 0 hF (Nat.le_of_ble_eq_true rfl) q1904 rfl rfl dX7_doTell_62 ?_
      refine v_iconst (v := 2) 65 hF dX7_doTell_65 (by decide) ?_
      refine v_dup2 66 hF dX7_doTell_66 rfl rfl ?_
      obtain ⟨o8, h⟩ := h
      refine M_ald0 67 hF o8 dX7_doTell_67 ?_
      refine v_iconst (v := 1) 68 hF dX7_doTell_68 (by decide) ?_
      refine v_iadd 69 hF dX7_doTell_69 ?_
      obtain ⟨o9, h⟩ := h
      refine M_ast0 70 hF o9 dX7_doTell_70 (fun t10 et10 => ?_)
      replace h := h t10 et10
      refine v_aload_n 71 hF dX7_doTell_71 rfl 0 rfl ?_
      refine M_get 72 0 hF (Nat.le_of_ble_eq_true rfl) q1904 rfl rfl dX7_doTell_72 ?_
      refine v_iconst (v := 2) 75 hF dX7_doTell_75 (by decide) ?_
      obtain ⟨o11, h⟩ := h
      refine M_ald0 76 hF o11 dX7_doTell_76 ?_
      exact v_iretA 77 hF hR (Nat.zero_le _) (Nat.zero_le _) dX7_doTell_77 h
    · replace h := h.2 c4
      refine v_aload_n 39 hF dX7_doTell_39 rfl 0 rfl ?_
      refine v_iconst (v := 2) 40 hF dX7_doTell_40 (by decide) ?_
      refine v_iconst (v := 4) 41 hF dX7_doTell_41 (by decide) ?_
      refine v_callVi (As := [.int ((2 : Int32)), .int ((4 : Int32))]) 42 hF (c_X7_refuse l D a t1 ((2 : Int32)) ((4 : Int32)) _ h) (List.Perm.refl _) ⟨0, 10, _, TX7, 18, rfl, rfl⟩ q1971 q1973 qs30 q82 q1974 ds_X7_refuse ⟨rfl, rfl, Nat.le_of_ble_eq_true rfl, Nat.le_of_ble_eq_true rfl⟩ (Nat.le_of_ble_eq_true rfl) ⟨Nat.zero_le _, Nat.zero_le _⟩ dX7_doTell_42 (fun r12 t13 h => ?_)
      exact v_iretA 45 hF hR (Nat.zero_le _) (Nat.zero_le _) dX7_doTell_45 h
  · replace h := h.2 c2
    refine v_iconst (v := 0) 26 hF dX7_doTell_26 (by decide) ?_
    exact v_iretA 27 hF hR (Nat.zero_le _) (Nat.zero_le _) dX7_doTell_27 h
theorem ds_X7_doTell : yX7_doTell.cls = yX7_doTell.cls ∧ yX7_doTell.cls ≠ "java/lang/invoke/MethodHandle" ∧ yX7_doTell.cls ≠ "java/lang/invoke/VarHandle" ∧ (parseMethodDescriptor yX7_doTell.desc).map (fun d => d.parameters.length) = some 1 := by decide +kernel
set_option maxHeartbeats 4000000 in
theorem c_X7_doTell (l : Launch) (D : va_G) (a : Nat → Nat) (σ : Nat → Nat → Int32) (x1 : Int32) (Q : Int32 → (Nat → Nat → Int32) → Prop) (h : w_X7_doTell σ x1 Q) : Cti l D yX7_doTell cX7_doTell 2 .int (rmk 1 0 0 22) [.ref (a 0), .int x1] (moW D a σ) (moW D a) Q 0 0 := by
  refine Cti.of (by decide) (Nat.le_of_ble_eq_true rfl) (fun x hF hR => ?_)
  replace hF : vF x l D "BrookWeirsModel" cX7_doTell (rmk 1 0 0 22) 2 (some .int) := hF
  refine v_app0 ?_
  unfold w_X7_doTell at h
  refine v_aload_n 0 hF dX7_doTell_0 rfl 0 rfl ?_
  refine v_iload_n 1 hF dX7_doTell_1 rfl 1 rfl ?_
  refine v_iconst (v := 0) 2 hF dX7_doTell_2 (by decide) ?_
  refine v_bipush (v := 99) 3 hF dX7_doTell_3 (by decide) ?_
  refine v_callS0i (As := [.int x1, .int ((0 : Int32)), .int ((99 : Int32))]) 5 hF (c_X7_in l D x1 ((0 : Int32)) ((99 : Int32)) _ h) q1968 q1969 q82 q1970 ds_X7_in ⟨rfl, rfl, Nat.le_of_ble_eq_true rfl, Nat.le_of_ble_eq_true rfl⟩ (Nat.le_of_ble_eq_true rfl) ⟨Nat.zero_le _, Nat.zero_le _⟩ dX7_doTell_5 (fun r14 h => ?_)
  refine v_if_eq 8 15 hF dX7_doTell_8 (by decide) (fun c15 => ?_) (fun c15 => ?_)
  · replace h := h.1 c15
    refine v_iconst (v := 1) 15 hF dX7_doTell_15 (by decide) ?_
    exact k_X7_doTell_J16 hF hR _ _ _ h
  · replace h := h.2 c15
    refine v_iconst (v := 0) 11 hF dX7_doTell_11 (by decide) ?_
    refine v_goto 12 16 hF dX7_doTell_12 (by decide) ?_
    exact k_X7_doTell_J16 hF hR _ _ _ h
def w_X7_rain_J22 (Q : Int32 → (Nat → Nat → Int32) → Prop)  (σ : Nat → Nat → Int32) (x1 s1 : Int32) : Prop :=
  ∀ t1 : Nat → Nat → Int32, t1 = (upN σ 20 7 s1) → (((t1 20 7) ≤ 0 → vp_in (((126 : Int32) + x1)) 156 ∧ Q (((t1 0) (((126 : Int32) + x1)).toNatClampNeg)) t1) ∧ (¬ (t1 20 7) ≤ 0 → Q ((0 : Int32)) t1))
def w_X7_rain (σ : Nat → Nat → Int32) (x1 : Int32) (Q : Int32 → (Nat → Nat → Int32) → Prop) : Prop :=
  vp_in ((2 : Int32)) 156 ∧ w_X7_in x1 ((0 : Int32)) ((((σ 0) ((2 : Int32)).toNatClampNeg) - (1 : Int32))) (fun r5 => ((r5 = 0 → w_X7_rain_J22 Q σ x1 ((1 : Int32))) ∧ (¬ r5 = 0 → w_X7_rain_J22 Q σ x1 ((0 : Int32)))))
set_option maxHeartbeats 4000000 in
theorem k_X7_rain_J22 {x : vC} {l : Launch} {D : va_G} {a : Nat → Nat}  {Q : Int32 → (Nat → Nat → Int32) → Prop} (hF : vF x l D "BrookWeirsModel" cX7_rain (rmk 1 0 0 22) 2 (some .int)) (hR : vRi x (moW D a) Q 0 0)   : ∀ (σ : Nat → Nat → Int32) (x1 s1 : Int32), w_X7_rain_J22 Q  σ x1 s1 → vV x 0 0 (moW D a σ ++ []) [(0, .ref (a 0)), (1, .int x1)] 22 [.int s1, .ref (a 0)] := by
  intro σ x1 s1 h
  unfold w_X7_rain_J22 at h
  refine M_put7 22 hF q1911 dX7_rain_22 (fun t1 et1 => ?_)
  replace h := h t1 et1
  refine v_aload_n 25 hF dX7_rain_25 rfl 0 rfl ?_
  refine M_get 26 7 hF (Nat.le_of_ble_eq_true rfl) q1911 rfl rfl dX7_rain_26 ?_
  refine v_if_le 29 36 hF dX7_rain_29 (by decide) (fun c2 => ?_) (fun c2 => ?_)
  · replace h := h.1 c2
    refine v_aload_n 36 hF dX7_rain_36 rfl 0 rfl ?_
    refine M_get 37 0 hF (Nat.le_of_ble_eq_true rfl) q1904 rfl rfl dX7_rain_37 ?_
    refine v_bipush (v := 126) 40 hF dX7_rain_40 (by decide) ?_
    refine v_iload_n 42 hF dX7_rain_42 rfl 1 rfl ?_
    refine v_iadd 43 hF dX7_rain_43 ?_
    obtain ⟨o3, h⟩ := h
    refine M_ald0 44 hF o3 dX7_rain_44 ?_
    exact v_iretA 45 hF hR (Nat.zero_le _) (Nat.zero_le _) dX7_rain_45 h
  · replace h := h.2 c2
    refine v_iconst (v := 0) 32 hF dX7_rain_32 (by decide) ?_
    refine v_goto 33 45 hF dX7_rain_33 (by decide) ?_
    exact v_iretA 45 hF hR (Nat.zero_le _) (Nat.zero_le _) dX7_rain_45 h
theorem ds_X7_rain : yX7_rain.cls = yX7_rain.cls ∧ yX7_rain.cls ≠ "java/lang/invoke/MethodHandle" ∧ yX7_rain.cls ≠ "java/lang/invoke/VarHandle" ∧ (parseMethodDescriptor yX7_rain.desc).map (fun d => d.parameters.length) = some 1 := by decide +kernel
set_option maxHeartbeats 4000000 in
theorem c_X7_rain (l : Launch) (D : va_G) (a : Nat → Nat) (σ : Nat → Nat → Int32) (x1 : Int32) (Q : Int32 → (Nat → Nat → Int32) → Prop) (h : w_X7_rain σ x1 Q) : Cti l D yX7_rain cX7_rain 2 .int (rmk 1 0 0 22) [.ref (a 0), .int x1] (moW D a σ) (moW D a) Q 0 0 := by
  refine Cti.of (by decide) (Nat.le_of_ble_eq_true rfl) (fun x hF hR => ?_)
  replace hF : vF x l D "BrookWeirsModel" cX7_rain (rmk 1 0 0 22) 2 (some .int) := hF
  refine v_app0 ?_
  unfold w_X7_rain at h
  refine v_aload_n 0 hF dX7_rain_0 rfl 0 rfl ?_
  refine v_iload_n 1 hF dX7_rain_1 rfl 1 rfl ?_
  refine v_iconst (v := 0) 2 hF dX7_rain_2 (by decide) ?_
  refine v_aload_n 3 hF dX7_rain_3 rfl 0 rfl ?_
  refine M_get 4 0 hF (Nat.le_of_ble_eq_true rfl) q1904 rfl rfl dX7_rain_4 ?_
  refine v_iconst (v := 2) 7 hF dX7_rain_7 (by decide) ?_
  obtain ⟨o4, h⟩ := h
  refine M_ald0 8 hF o4 dX7_rain_8 ?_
  refine v_iconst (v := 1) 9 hF dX7_rain_9 (by decide) ?_
  refine v_isub 10 hF dX7_rain_10 ?_
  refine v_callS0i (As := [.int x1, .int ((0 : Int32)), .int ((((σ 0) ((2 : Int32)).toNatClampNeg) - (1 : Int32)))]) 11 hF (c_X7_in l D x1 ((0 : Int32)) ((((σ 0) ((2 : Int32)).toNatClampNeg) - (1 : Int32))) _ h) q1968 q1969 q82 q1970 ds_X7_in ⟨rfl, rfl, Nat.le_of_ble_eq_true rfl, Nat.le_of_ble_eq_true rfl⟩ (Nat.le_of_ble_eq_true rfl) ⟨Nat.zero_le _, Nat.zero_le _⟩ dX7_rain_11 (fun r5 h => ?_)
  refine v_if_eq 14 21 hF dX7_rain_14 (by decide) (fun c6 => ?_) (fun c6 => ?_)
  · replace h := h.1 c6
    refine v_iconst (v := 1) 21 hF dX7_rain_21 (by decide) ?_
    exact k_X7_rain_J22 hF hR _ _ _ h
  · replace h := h.2 c6
    refine v_iconst (v := 0) 17 hF dX7_rain_17 (by decide) ?_
    refine v_goto 18 22 hF dX7_rain_18 (by decide) ?_
    exact k_X7_rain_J22 hF hR _ _ _ h
def w_X7_flows (σ : Nat → Nat → Int32) (x1 x2 : Int32) (Q : (Nat → Nat → Int32) → Prop) : Prop :=
  w_X7_isPool σ x1 (fun r1 t2 => ((r1 = 0 → vp_in ((5 : Int32)) 156 ∧ vp_in ((5 : Int32)) 156 ∧ ∀ t6 : Nat → Nat → Int32, t6 = (upN t2 0 ((5 : Int32)).toNatClampNeg (((t2 0) ((5 : Int32)).toNatClampNeg) + x2)) → Q t6) ∧ (¬ r1 = 0 → w_X7_at x1 (fun r7 => vp_in ((r7 + (4 : Int32))) 156 ∧ vp_in ((r7 + (4 : Int32))) 156 ∧ ∀ t10 : Nat → Nat → Int32, t10 = (upN t2 0 ((r7 + (4 : Int32))).toNatClampNeg (((t2 0) ((r7 + (4 : Int32))).toNatClampNeg) + x2)) → Q t10))))
theorem ds_X7_flows : yX7_flows.cls = yX7_flows.cls ∧ yX7_flows.cls ≠ "java/lang/invoke/MethodHandle" ∧ yX7_flows.cls ≠ "java/lang/invoke/VarHandle" ∧ (parseMethodDescriptor yX7_flows.desc).map (fun d => d.parameters.length) = some 2 := by decide +kernel
set_option maxHeartbeats 4000000 in
theorem c_X7_flows (l : Launch) (D : va_G) (a : Nat → Nat) (σ : Nat → Nat → Int32) (x1 x2 : Int32) (Q : (Nat → Nat → Int32) → Prop) (h : w_X7_flows σ x1 x2 Q) : Ctv l D yX7_flows cX7_flows 3 (rmk 2 0 0 43) [.ref (a 0), .int x1, .int x2] (moW D a σ) (moW D a) Q 0 0 := by
  refine Ctv.of (by decide) (Nat.le_of_ble_eq_true rfl) (fun x hF hR => ?_)
  replace hF : vF x l D "BrookWeirsModel" cX7_flows (rmk 2 0 0 43) 3 none := hF
  refine v_app0 ?_
  unfold w_X7_flows at h
  refine v_aload_n 0 hF dX7_flows_0 rfl 0 rfl ?_
  refine v_iload_n 1 hF dX7_flows_1 rfl 1 rfl ?_
  refine v_callVi (As := [.int x1]) 2 hF (c_X7_isPool l D a σ x1 _ h) (List.Perm.refl _) ⟨0, 10, _, TX7, 18, rfl, rfl⟩ q1995 q1997 qs34 q82 q1998 ds_X7_isPool ⟨rfl, rfl, Nat.le_of_ble_eq_true rfl, Nat.le_of_ble_eq_true rfl⟩ (Nat.le_of_ble_eq_true rfl) ⟨Nat.zero_le _, Nat.zero_le _⟩ dX7_flows_2 (fun r1 t2 h => ?_)
  refine v_if_eq 5 26 hF dX7_flows_5 (by decide) (fun c3 => ?_) (fun c3 => ?_)
  · replace h := h.1 c3
    refine v_aload_n 26 hF dX7_flows_26 rfl 0 rfl ?_
    refine M_get 27 0 hF (Nat.le_of_ble_eq_true rfl) q1904 rfl rfl dX7_flows_27 ?_
    refine v_iconst (v := 5) 30 hF dX7_flows_30 (by decide) ?_
    refine v_dup2 31 hF dX7_flows_31 rfl rfl ?_
    obtain ⟨o4, h⟩ := h
    refine M_ald0 32 hF o4 dX7_flows_32 ?_
    refine v_iload_n 33 hF dX7_flows_33 rfl 2 rfl ?_
    refine v_iadd 34 hF dX7_flows_34 ?_
    obtain ⟨o5, h⟩ := h
    refine M_ast0 35 hF o5 dX7_flows_35 (fun t6 et6 => ?_)
    replace h := h t6 et6
    exact v_vretA 36 hF hR (Nat.zero_le _) (Nat.zero_le _) dX7_flows_36 h
  · replace h := h.2 c3
    refine v_aload_n 8 hF dX7_flows_8 rfl 0 rfl ?_
    refine M_get 9 0 hF (Nat.le_of_ble_eq_true rfl) q1904 rfl rfl dX7_flows_9 ?_
    refine v_iload_n 12 hF dX7_flows_12 rfl 1 rfl ?_
    refine v_callS0i (As := [.int x1]) 13 hF (c_X7_at l D x1 _ h) q1980 q1981 q82 q1982 ds_X7_at ⟨rfl, rfl, Nat.le_of_ble_eq_true rfl, Nat.le_of_ble_eq_true rfl⟩ (Nat.le_of_ble_eq_true rfl) ⟨Nat.zero_le _, Nat.zero_le _⟩ dX7_flows_13 (fun r7 h => ?_)
    refine v_iconst (v := 4) 16 hF dX7_flows_16 (by decide) ?_
    refine v_iadd 17 hF dX7_flows_17 ?_
    refine v_dup2 18 hF dX7_flows_18 rfl rfl ?_
    obtain ⟨o8, h⟩ := h
    refine M_ald0 19 hF o8 dX7_flows_19 ?_
    refine v_iload_n 20 hF dX7_flows_20 rfl 2 rfl ?_
    refine v_iadd 21 hF dX7_flows_21 ?_
    obtain ⟨o9, h⟩ := h
    refine M_ast0 22 hF o9 dX7_flows_22 (fun t10 et10 => ?_)
    replace h := h t10 et10
    refine v_goto 23 36 hF dX7_flows_23 (by decide) ?_
    exact v_vretA 36 hF hR (Nat.zero_le _) (Nat.zero_le _) dX7_flows_36 h
def w_X7_goesDown (σ : Nat → Nat → Int32) (x1 x2 : Int32) (Q : (Nat → Nat → Int32) → Prop) : Prop :=
  w_X7_at x1 (fun r1 => vp_in ((r1 + (4 : Int32))) 156 ∧ vp_in ((r1 + (4 : Int32))) 156 ∧ ∀ t4 : Nat → Nat → Int32, t4 = (upN σ 0 ((r1 + (4 : Int32))).toNatClampNeg (((σ 0) ((r1 + (4 : Int32))).toNatClampNeg) - x2)) → w_X7_flows t4 ((x1 + (1 : Int32))) x2 (fun t5 => Q t5))
theorem ds_X7_goesDown : yX7_goesDown.cls = yX7_goesDown.cls ∧ yX7_goesDown.cls ≠ "java/lang/invoke/MethodHandle" ∧ yX7_goesDown.cls ≠ "java/lang/invoke/VarHandle" ∧ (parseMethodDescriptor yX7_goesDown.desc).map (fun d => d.parameters.length) = some 2 := by decide +kernel
set_option maxHeartbeats 4000000 in
theorem c_X7_goesDown (l : Launch) (D : va_G) (a : Nat → Nat) (σ : Nat → Nat → Int32) (x1 x2 : Int32) (Q : (Nat → Nat → Int32) → Prop) (h : w_X7_goesDown σ x1 x2 Q) : Ctv l D yX7_goesDown cX7_goesDown 3 (rmk 3 0 0 65) [.ref (a 0), .int x1, .int x2] (moW D a σ) (moW D a) Q 0 0 := by
  refine Ctv.of (by decide) (Nat.le_of_ble_eq_true rfl) (fun x hF hR => ?_)
  replace hF : vF x l D "BrookWeirsModel" cX7_goesDown (rmk 3 0 0 65) 3 none := hF
  refine v_app0 ?_
  unfold w_X7_goesDown at h
  refine v_aload_n 0 hF dX7_goesDown_0 rfl 0 rfl ?_
  refine M_get 1 0 hF (Nat.le_of_ble_eq_true rfl) q1904 rfl rfl dX7_goesDown_1 ?_
  refine v_iload_n 4 hF dX7_goesDown_4 rfl 1 rfl ?_
  refine v_callS0i (As := [.int x1]) 5 hF (c_X7_at l D x1 _ h) q1980 q1981 q82 q1982 ds_X7_at ⟨rfl, rfl, Nat.le_of_ble_eq_true rfl, Nat.le_of_ble_eq_true rfl⟩ (Nat.le_of_ble_eq_true rfl) ⟨Nat.zero_le _, Nat.zero_le _⟩ dX7_goesDown_5 (fun r1 h => ?_)
  refine v_iconst (v := 4) 8 hF dX7_goesDown_8 (by decide) ?_
  refine v_iadd 9 hF dX7_goesDown_9 ?_
  refine v_dup2 10 hF dX7_goesDown_10 rfl rfl ?_
  obtain ⟨o2, h⟩ := h
  refine M_ald0 11 hF o2 dX7_goesDown_11 ?_
  refine v_iload_n 12 hF dX7_goesDown_12 rfl 2 rfl ?_
  refine v_isub 13 hF dX7_goesDown_13 ?_
  obtain ⟨o3, h⟩ := h
  refine M_ast0 14 hF o3 dX7_goesDown_14 (fun t4 et4 => ?_)
  replace h := h t4 et4
  refine v_aload_n 15 hF dX7_goesDown_15 rfl 0 rfl ?_
  refine v_iload_n 16 hF dX7_goesDown_16 rfl 1 rfl ?_
  refine v_iconst (v := 1) 17 hF dX7_goesDown_17 (by decide) ?_
  refine v_iadd 18 hF dX7_goesDown_18 ?_
  refine v_iload_n 19 hF dX7_goesDown_19 rfl 2 rfl ?_
  refine v_callVv (As := [.int ((x1 + (1 : Int32))), .int x2]) 20 hF (c_X7_flows l D a t4 ((x1 + (1 : Int32))) x2 _ h) (List.Perm.refl _) ⟨0, 10, _, TX7, 18, rfl, rfl⟩ q2083 q2085 qs45 q82 q2086 ds_X7_flows ⟨rfl, rfl, Nat.le_of_ble_eq_true rfl, Nat.le_of_ble_eq_true rfl⟩ (Nat.le_of_ble_eq_true rfl) ⟨Nat.zero_le _, Nat.zero_le _⟩ dX7_goesDown_20 (fun t5 h => ?_)
  exact v_vretA 23 hF hR (Nat.zero_le _) (Nat.zero_le _) dX7_goesDown_23 h
def w_X7_flood_J54 (Q : Int32 → (Nat → Nat → Int32) → Prop) (K4 : (Nat → Nat → Int32) → Int32 → Int32 → Prop) (σ : Nat → Nat → Int32) (x1 x2 x3 s2 s1 : Int32) : Prop :=
  vp_in s1 156 ∧ ∀ t2 : Nat → Nat → Int32, t2 = (upN σ 0 s1.toNatClampNeg s2) → ((x3 = 0 → ∀ y4 : Int32, y4 = x2 + (1 : Int32) → K4 t2 x1 y4) ∧ (¬ x3 = 0 → w_X7_get t2 x2 ((4 : Int32)) (fun r5 t6 => w_X7_get t6 x2 ((1 : Int32)) (fun r7 t8 => w_X7_get t8 x2 ((0 : Int32)) (fun r9 t10 => w_X7_goesDown t10 x2 ((r5 - (r7 * r9))) (fun t11 => ∀ y12 : Int32, y12 = x1 + (1 : Int32) → ∀ y13 : Int32, y13 = x2 + (1 : Int32) → K4 t11 y12 y13))))))
def w_X7_flood_J33 (Q : Int32 → (Nat → Nat → Int32) → Prop) (K4 : (Nat → Nat → Int32) → Int32 → Int32 → Prop) (σ : Nat → Nat → Int32) (x1 x2 s0 : Int32) : Prop :=
  w_X7_at x2 (fun r14 => ((s0 = 0 → w_X7_flood_J54 Q K4 σ x1 x2 s0 ((0 : Int32)) ((r14 + (9 : Int32)))) ∧ (¬ s0 = 0 → w_X7_flood_J54 Q K4 σ x1 x2 s0 ((1 : Int32)) ((r14 + (9 : Int32))))))
def w_X7_flood_L4 (Q : Int32 → (Nat → Nat → Int32) → Prop) (K4 : (Nat → Nat → Int32) → Int32 → Int32 → Prop) (σ : Nat → Nat → Int32) (x1 x2 : Int32) : Prop :=
  vp_in ((0 : Int32)) 156 ∧ ((((σ 0) ((0 : Int32)).toNatClampNeg) ≤ x2 → vp_in ((7 : Int32)) 156 ∧ vp_in ((7 : Int32)) 156 ∧ ∀ t20 : Nat → Nat → Int32, t20 = (upN σ 0 ((7 : Int32)).toNatClampNeg (((σ 0) ((7 : Int32)).toNatClampNeg) + x1)) → Q x1 t20) ∧ (¬ ((σ 0) ((0 : Int32)).toNatClampNeg) ≤ x2 → w_X7_level σ x2 (fun r21 t22 => w_X7_get t22 x2 ((1 : Int32)) (fun r23 t24 => ((r21 ≤ r23 → w_X7_flood_J33 Q K4 t24 x1 x2 ((0 : Int32))) ∧ (¬ r21 ≤ r23 → w_X7_flood_J33 Q K4 t24 x1 x2 ((1 : Int32))))))))
def w_X7_flood (σ : Nat → Nat → Int32) (Q : Int32 → (Nat → Nat → Int32) → Prop) : Prop :=
  wLoop (fun K s => w_X7_flood_L4 Q (fun v0 v1 v2 => K (v0, v1, v2)) s.1 s.2.1 s.2.2) (σ, (0 : Int32), (0 : Int32))
set_option maxHeartbeats 4000000 in
theorem k_X7_flood_J54 {x : vC} {l : Launch} {D : va_G} {a : Nat → Nat}  {Q : Int32 → (Nat → Nat → Int32) → Prop} (hF : vF x l D "BrookWeirsModel" cX7_flood (rmk 4 0 0 87) 4 (some .int)) (hR : vRi x (moW D a) Q 0 0) {K4 : (Nat → Nat → Int32) → Int32 → Int32 → Prop} (hK4 : ∀ (σ : Nat → Nat → Int32) (x1 x2 : Int32), K4 σ x1 x2 → vV x 0 0 (moW D a σ ++ []) [(0, .ref (a 0)), (1, .int x1), (2, .int x2)] 4 []) : ∀ (σ : Nat → Nat → Int32) (x1 x2 x3 s2 s1 : Int32), w_X7_flood_J54 Q K4 σ x1 x2 x3 s2 s1 → vV x 0 0 (moW D a σ ++ []) [(0, .ref (a 0)), (1, .int x1), (2, .int x2), (3, .int x3)] 54 [.int s2, .int s1, .ref (a 1)] := by
  intro σ x1 x2 x3 s2 s1 h
  unfold w_X7_flood_J54 at h
  obtain ⟨o1, h⟩ := h
  refine M_ast0 54 hF o1 dX7_flood_54 (fun t2 et2 => ?_)
  replace h := h t2 et2
  refine v_iload_n 55 hF dX7_flood_55 rfl 3 rfl ?_
  refine v_if_eq 56 87 hF dX7_flood_56 (by decide) (fun c3 => ?_) (fun c3 => ?_)
  · replace h := h.1 c3
    obtain ⟨y4, ey4⟩ : ∃ y : Int32, y = x2 + (1 : Int32) := ⟨_, rfl⟩
    replace h := h y4 ey4
    refine v_iinc [(0, .ref (a 0)), (1, .int x1), (2, .int y4), (3, .int x3)] [1, 2, 0, 3] 87 hF dX7_flood_87 2 rfl (by rw [ey4]; rfl) (Nat.le_of_ble_eq_true rfl) rfl ?_
    refine v_goto 90 4 hF dX7_flood_90 (by decide) ?_
    refine v_sub [(0, .ref (a 0)), (1, .int x1), (2, .int y4)] [0, 1, 2] rfl ?_
    exact hK4 _ _ _ h
  · replace h := h.2 c3
    refine v_aload_n 59 hF dX7_flood_59 rfl 0 rfl ?_
    refine v_iload_n 60 hF dX7_flood_60 rfl 2 rfl ?_
    refine v_aload_n 61 hF dX7_flood_61 rfl 0 rfl ?_
    refine v_iload_n 62 hF dX7_flood_62 rfl 2 rfl ?_
    refine v_iconst (v := 4) 63 hF dX7_flood_63 (by decide) ?_
    refine v_callVi (As := [.int x2, .int ((4 : Int32))]) 64 hF (c_X7_get l D a t2 x2 ((4 : Int32)) _ h) (List.Perm.refl _) ⟨0, 10, _, TX7, 18, rfl, rfl⟩ q1999 q2001 qs35 q82 q2002 ds_X7_get ⟨rfl, rfl, Nat.le_of_ble_eq_true rfl, Nat.le_of_ble_eq_true rfl⟩ (Nat.le_of_ble_eq_true rfl) ⟨Nat.zero_le _, Nat.zero_le _⟩ dX7_flood_64 (fun r5 t6 h => ?_)
    refine v_aload_n 67 hF dX7_flood_67 rfl 0 rfl ?_
    refine v_iload_n 68 hF dX7_flood_68 rfl 2 rfl ?_
    refine v_iconst (v := 1) 69 hF dX7_flood_69 (by decide) ?_
    refine v_callVi (As := [.int x2, .int ((1 : Int32))]) 70 hF (c_X7_get l D a t6 x2 ((1 : Int32)) _ h) (List.Perm.refl _) ⟨0, 10, _, TX7, 18, rfl, rfl⟩ q1999 q2001 qs35 q82 q2002 ds_X7_get ⟨rfl, rfl, Nat.le_of_ble_eq_true rfl, Nat.le_of_ble_eq_true rfl⟩ (Nat.le_of_ble_eq_true rfl) ⟨Nat.zero_le _, Nat.zero_le _⟩ dX7_flood_70 (fun r7 t8 h => ?_)
    refine v_aload_n 73 hF dX7_flood_73 rfl 0 rfl ?_
    refine v_iload_n 74 hF dX7_flood_74 rfl 2 rfl ?_
    refine v_iconst (v := 0) 75 hF dX7_flood_75 (by decide) ?_
    refine v_callVi (As := [.int x2, .int ((0 : Int32))]) 76 hF (c_X7_get l D a t8 x2 ((0 : Int32)) _ h) (List.Perm.refl _) ⟨0, 10, _, TX7, 18, rfl, rfl⟩ q1999 q2001 qs35 q82 q2002 ds_X7_get ⟨rfl, rfl, Nat.le_of_ble_eq_true rfl, Nat.le_of_ble_eq_true rfl⟩ (Nat.le_of_ble_eq_true rfl) ⟨Nat.zero_le _, Nat.zero_le _⟩ dX7_flood_76 (fun r9 t10 h => ?_)
    refine v_imul 79 hF dX7_flood_79 ?_
    refine v_isub 80 hF dX7_flood_80 ?_
    refine v_callVv (As := [.int x2, .int ((r5 - (r7 * r9)))]) 81 hF (c_X7_goesDown l D a t10 x2 ((r5 - (r7 * r9))) _ h) (List.Perm.refl _) ⟨0, 10, _, TX7, 18, rfl, rfl⟩ q2087 q2089 qs46 q82 q2090 ds_X7_goesDown ⟨rfl, rfl, Nat.le_of_ble_eq_true rfl, Nat.le_of_ble_eq_true rfl⟩ (Nat.le_of_ble_eq_true rfl) ⟨Nat.zero_le _, Nat.zero_le _⟩ dX7_flood_81 (fun t11 h => ?_)
    obtain ⟨y12, ey12⟩ : ∃ y : Int32, y = x1 + (1 : Int32) := ⟨_, rfl⟩
    replace h := h y12 ey12
    refine v_iinc [(0, .ref (a 0)), (1, .int y12), (2, .int x2), (3, .int x3)] [1, 0, 2, 3] 84 hF dX7_flood_84 1 rfl (by rw [ey12]; rfl) (Nat.le_of_ble_eq_true rfl) rfl ?_
    obtain ⟨y13, ey13⟩ : ∃ y : Int32, y = x2 + (1 : Int32) := ⟨_, rfl⟩
    replace h := h y13 ey13
    refine v_iinc [(0, .ref (a 0)), (1, .int y12), (2, .int y13), (3, .int x3)] [1, 2, 0, 3] 87 hF dX7_flood_87 2 rfl (by rw [ey13]; rfl) (Nat.le_of_ble_eq_true rfl) rfl ?_
    refine v_goto 90 4 hF dX7_flood_90 (by decide) ?_
    refine v_sub [(0, .ref (a 0)), (1, .int y12), (2, .int y13)] [0, 1, 2] rfl ?_
    exact hK4 _ _ _ h
set_option maxHeartbeats 4000000 in
theorem k_X7_flood_J33 {x : vC} {l : Launch} {D : va_G} {a : Nat → Nat}  {Q : Int32 → (Nat → Nat → Int32) → Prop} (hF : vF x l D "BrookWeirsModel" cX7_flood (rmk 4 0 0 87) 4 (some .int)) (hR : vRi x (moW D a) Q 0 0) {K4 : (Nat → Nat → Int32) → Int32 → Int32 → Prop} (hK4 : ∀ (σ : Nat → Nat → Int32) (x1 x2 : Int32), K4 σ x1 x2 → vV x 0 0 (moW D a σ ++ []) [(0, .ref (a 0)), (1, .int x1), (2, .int x2)] 4 []) : ∀ (σ : Nat → Nat → Int32) (x1 x2 s0 : Int32), w_X7_flood_J33 Q K4 σ x1 x2 s0 → vV x 0 0 (moW D a σ ++ []) [(0, .ref (a 0)), (1, .int x1), (2, .int x2)] 33 [.int s0] := by
  intro σ x1 x2 s0 h
  unfold w_X7_flood_J33 at h
  refine v_istore_n [(0, .ref (a 0)), (1, .int x1), (2, .int x2), (3, .int s0)] [1, 2, 3, 0] 33 hF dX7_flood_33 rfl (Nat.le_of_ble_eq_true rfl) rfl ?_
  refine v_aload_n 34 hF dX7_flood_34 rfl 0 rfl ?_
  refine M_get 35 0 hF (Nat.le_of_ble_eq_true rfl) q1904 rfl rfl dX7_flood_35 ?_
  refine v_iload_n 38 hF dX7_flood_38 rfl 2 rfl ?_
  refine v_callS0i (As := [.int x2]) 39 hF (c_X7_at l D x2 _ h) q1980 q1981 q82 q1982 ds_X7_at ⟨rfl, rfl, Nat.le_of_ble_eq_true rfl, Nat.le_of_ble_eq_true rfl⟩ (Nat.le_of_ble_eq_true rfl) ⟨Nat.zero_le _, Nat.zero_le _⟩ dX7_flood_39 (fun r14 h => ?_)
  refine v_bipush (v := 9) 42 hF dX7_flood_42 (by decide) ?_
  refine v_iadd 44 hF dX7_flood_44 ?_
  refine v_iload_n 45 hF dX7_flood_45 rfl 3 rfl ?_
  refine v_if_eq 46 53 hF dX7_flood_46 (by decide) (fun c15 => ?_) (fun c15 => ?_)
  · replace h := h.1 c15
    refine v_iconst (v := 0) 53 hF dX7_flood_53 (by decide) ?_
    exact k_X7_flood_J54 hF hR hK4 _ _ _ _ _ _ h
  · replace h := h.2 c15
    refine v_iconst (v := 1) 49 hF dX7_flood_49 (by decide) ?_
    refine v_goto 50 54 hF dX7_flood_50 (by decide) ?_
    exact k_X7_flood_J54 hF hR hK4 _ _ _ _ _ _ h
set_option maxHeartbeats 4000000 in
theorem k_X7_flood_L4 {x : vC} {l : Launch} {D : va_G} {a : Nat → Nat}  {Q : Int32 → (Nat → Nat → Int32) → Prop} (hF : vF x l D "BrookWeirsModel" cX7_flood (rmk 4 0 0 87) 4 (some .int)) (hR : vRi x (moW D a) Q 0 0) {K4 : (Nat → Nat → Int32) → Int32 → Int32 → Prop} (hK4 : ∀ (σ : Nat → Nat → Int32) (x1 x2 : Int32), K4 σ x1 x2 → vV x 0 0 (moW D a σ ++ []) [(0, .ref (a 0)), (1, .int x1), (2, .int x2)] 4 []) : ∀ (σ : Nat → Nat → Int32) (x1 x2 : Int32), w_X7_flood_L4 Q K4 σ x1 x2 → vV x 0 0 (moW D a σ ++ []) [(0, .ref (a 0)), (1, .int x1), (2, .int x2)] 4 [] := by
  intro σ x1 x2 h
  unfold w_X7_flood_L4 at h
  refine v_iload_n 4 hF dX7_flood_4 rfl 2 rfl ?_
  refine v_aload_n 5 hF dX7_flood_5 rfl 0 rfl ?_
  refine M_get 6 0 hF (Nat.le_of_ble_eq_true rfl) q1904 rfl rfl dX7_flood_6 ?_
  refine v_iconst (v := 0) 9 hF dX7_flood_9 (by decide) ?_
  obtain ⟨o16, h⟩ := h
  refine M_ald0 10 hF o16 dX7_flood_10 ?_
  refine v_icmp_ge 11 93 hF dX7_flood_11 (by decide) (fun c17 => ?_) (fun c17 => ?_)
  · replace h := h.1 c17
    refine v_aload_n 93 hF dX7_flood_93 rfl 0 rfl ?_
    refine M_get 94 0 hF (Nat.le_of_ble_eq_true rfl) q1904 rfl rfl dX7_flood_94 ?_
    refine v_bipush (v := 7) 97 hF dX7_flood_97 (by decide) ?_
    refine v_dup2 99 hF dX7_flood_99 rfl rfl ?_
    obtain ⟨o18, h⟩ := h
    refine M_ald0 100 hF o18 dX7_flood_100 ?_
    refine v_iload_n 101 hF dX7_flood_101 rfl 1 rfl ?_
    refine v_iadd 102 hF dX7_flood_102 ?_
    obtain ⟨o19, h⟩ := h
    refine M_ast0 103 hF o19 dX7_flood_103 (fun t20 et20 => ?_)
    replace h := h t20 et20
    refine v_iload_n 104 hF dX7_flood_104 rfl 1 rfl ?_
    exact v_iretA 105 hF hR (Nat.zero_le _) (Nat.zero_le _) dX7_flood_105 h
  · replace h := h.2 c17
    refine v_aload_n 14 hF dX7_flood_14 rfl 0 rfl ?_
    refine v_iload_n 15 hF dX7_flood_15 rfl 2 rfl ?_
    refine v_callVi (As := [.int x2]) 16 hF (c_X7_level l D a σ x2 _ h) (List.Perm.refl _) ⟨0, 10, _, TX7, 18, rfl, rfl⟩ q2031 q2033 qs39 q82 q2034 ds_X7_level ⟨rfl, rfl, Nat.le_of_ble_eq_true rfl, Nat.le_of_ble_eq_true rfl⟩ (Nat.le_of_ble_eq_true rfl) ⟨Nat.zero_le _, Nat.zero_le _⟩ dX7_flood_16 (fun r21 t22 h => ?_)
    refine v_aload_n 19 hF dX7_flood_19 rfl 0 rfl ?_
    refine v_iload_n 20 hF dX7_flood_20 rfl 2 rfl ?_
    refine v_iconst (v := 1) 21 hF dX7_flood_21 (by decide) ?_
    refine v_callVi (As := [.int x2, .int ((1 : Int32))]) 22 hF (c_X7_get l D a t22 x2 ((1 : Int32)) _ h) (List.Perm.refl _) ⟨0, 10, _, TX7, 18, rfl, rfl⟩ q1999 q2001 qs35 q82 q2002 ds_X7_get ⟨rfl, rfl, Nat.le_of_ble_eq_true rfl, Nat.le_of_ble_eq_true rfl⟩ (Nat.le_of_ble_eq_true rfl) ⟨Nat.zero_le _, Nat.zero_le _⟩ dX7_flood_22 (fun r23 t24 h => ?_)
    refine v_icmp_le 25 32 hF dX7_flood_25 (by decide) (fun c25 => ?_) (fun c25 => ?_)
    · replace h := h.1 c25
      refine v_iconst (v := 0) 32 hF dX7_flood_32 (by decide) ?_
      exact k_X7_flood_J33 hF hR hK4 _ _ _ _ h
    · replace h := h.2 c25
      refine v_iconst (v := 1) 28 hF dX7_flood_28 (by decide) ?_
      refine v_goto 29 33 hF dX7_flood_29 (by decide) ?_
      exact k_X7_flood_J33 hF hR hK4 _ _ _ _ h
theorem ds_X7_flood : yX7_flood.cls = yX7_flood.cls ∧ yX7_flood.cls ≠ "java/lang/invoke/MethodHandle" ∧ yX7_flood.cls ≠ "java/lang/invoke/VarHandle" ∧ (parseMethodDescriptor yX7_flood.desc).map (fun d => d.parameters.length) = some 0 := by decide +kernel
set_option maxHeartbeats 4000000 in
theorem c_X7_flood (l : Launch) (D : va_G) (a : Nat → Nat) (σ : Nat → Nat → Int32) (Q : Int32 → (Nat → Nat → Int32) → Prop) (h : w_X7_flood σ Q) : Cti l D yX7_flood cX7_flood 4 .int (rmk 4 0 0 87) [.ref (a 0)] (moW D a σ) (moW D a) Q 0 0 := by
  refine Cti.of (by decide) (Nat.le_of_ble_eq_true rfl) (fun x hF hR => ?_)
  replace hF : vF x l D "BrookWeirsModel" cX7_flood (rmk 4 0 0 87) 4 (some .int) := hF
  refine v_app0 ?_
  unfold w_X7_flood at h
  refine v_iconst (v := 0) 0 hF dX7_flood_0 (by decide) ?_
  refine v_istore_n [(0, .ref (a 0)), (1, .int ((0 : Int32)))] [1, 0] 1 hF dX7_flood_1 rfl (Nat.le_of_ble_eq_true rfl) rfl ?_
  refine v_iconst (v := 0) 2 hF dX7_flood_2 (by decide) ?_
  refine v_istore_n [(0, .ref (a 0)), (1, .int ((0 : Int32))), (2, .int ((0 : Int32)))] [1, 2, 0] 3 hF dX7_flood_3 rfl (Nat.le_of_ble_eq_true rfl) rfl ?_
  exact vLoop (V := fun s => vV x 0 0 (moW D a s.1 ++ []) [(0, .ref (a 0)), (1, .int s.2.1), (2, .int s.2.2)] 4 []) (fun K hK s hs => k_X7_flood_L4 hF hR (fun v0 v1 v2 q => hK (v0, v1, v2) q) s.1 s.2.1 s.2.2 hs) _ h
def w_X7_takeForFields_J40 (Q : (Nat → Nat → Int32) → Prop) (K2 : (Nat → Nat → Int32) → Int32 → Prop) (σ : Nat → Nat → Int32) (x1 s0 : Int32) : Prop :=
  w_X7_at x1 (fun r1 => vp_in ((r1 + (4 : Int32))) 156 ∧ vp_in ((r1 + (4 : Int32))) 156 ∧ ∀ t4 : Nat → Nat → Int32, t4 = (upN σ 0 ((r1 + (4 : Int32))).toNatClampNeg (((σ 0) ((r1 + (4 : Int32))).toNatClampNeg) - s0)) → vp_in ((6 : Int32)) 156 ∧ vp_in ((6 : Int32)) 156 ∧ ∀ t7 : Nat → Nat → Int32, t7 = (upN t4 0 ((6 : Int32)).toNatClampNeg (((t4 0) ((6 : Int32)).toNatClampNeg) + s0)) → ∀ y8 : Int32, y8 = x1 + (1 : Int32) → K2 t7 y8)
def w_X7_takeForFields_L2 (Q : (Nat → Nat → Int32) → Prop) (K2 : (Nat → Nat → Int32) → Int32 → Prop) (σ : Nat → Nat → Int32) (x1 : Int32) : Prop :=
  vp_in ((0 : Int32)) 156 ∧ ((((σ 0) ((0 : Int32)).toNatClampNeg) ≤ x1 → Q σ) ∧ (¬ ((σ 0) ((0 : Int32)).toNatClampNeg) ≤ x1 → w_X7_level σ x1 (fun r11 t12 => ((r11 < (2 : Int32) → w_X7_takeForFields_J40 Q K2 t12 x1 ((0 : Int32))) ∧ (¬ r11 < (2 : Int32) → w_X7_get t12 x1 ((2 : Int32)) (fun r14 t15 => w_X7_get t15 x1 ((4 : Int32)) (fun r16 t17 => w_X7_takeForFields_J40 Q K2 t17 x1 ((if r16 < r14 then r16 else r14)))))))))
def w_X7_takeForFields (σ : Nat → Nat → Int32) (Q : (Nat → Nat → Int32) → Prop) : Prop :=
  wLoop (fun K s => w_X7_takeForFields_L2 Q (fun v0 v1 => K (v0, v1)) s.1 s.2) (σ, (0 : Int32))
set_option maxHeartbeats 4000000 in
theorem k_X7_takeForFields_J40 {x : vC} {l : Launch} {D : va_G} {a : Nat → Nat}  {Q : (Nat → Nat → Int32) → Prop} (hF : vF x l D "BrookWeirsModel" cX7_takeForFields (rmk 3 0 0 64) 3 none) (hR : vRv x (moW D a) Q 0 0) {K2 : (Nat → Nat → Int32) → Int32 → Prop} (hK2 : ∀ (σ : Nat → Nat → Int32) (x1 : Int32), K2 σ x1 → vV x 0 0 (moW D a σ ++ []) [(0, .ref (a 0)), (1, .int x1)] 2 []) : ∀ (σ : Nat → Nat → Int32) (x1 s0 : Int32), w_X7_takeForFields_J40 Q K2 σ x1 s0 → vV x 0 0 (moW D a σ ++ []) [(0, .ref (a 0)), (1, .int x1)] 40 [.int s0] := by
  intro σ x1 s0 h
  unfold w_X7_takeForFields_J40 at h
  refine v_istore_n [(0, .ref (a 0)), (1, .int x1), (2, .int s0)] [1, 2, 0] 40 hF dX7_takeForFields_40 rfl (Nat.le_of_ble_eq_true rfl) rfl ?_
  refine v_aload_n 41 hF dX7_takeForFields_41 rfl 0 rfl ?_
  refine M_get 42 0 hF (Nat.le_of_ble_eq_true rfl) q1904 rfl rfl dX7_takeForFields_42 ?_
  refine v_iload_n 45 hF dX7_takeForFields_45 rfl 1 rfl ?_
  refine v_callS0i (As := [.int x1]) 46 hF (c_X7_at l D x1 _ h) q1980 q1981 q82 q1982 ds_X7_at ⟨rfl, rfl, Nat.le_of_ble_eq_true rfl, Nat.le_of_ble_eq_true rfl⟩ (Nat.le_of_ble_eq_true rfl) ⟨Nat.zero_le _, Nat.zero_le _⟩ dX7_takeForFields_46 (fun r1 h => ?_)
  refine v_iconst (v := 4) 49 hF dX7_takeForFields_49 (by decide) ?_
  refine v_iadd 50 hF dX7_takeForFields_50 ?_
  refine v_dup2 51 hF dX7_takeForFields_51 rfl rfl ?_
  obtain ⟨o2, h⟩ := h
  refine M_ald0 52 hF o2 dX7_takeForFields_52 ?_
  refine v_iload_n 53 hF dX7_takeForFields_53 rfl 2 rfl ?_
  refine v_isub 54 hF dX7_takeForFields_54 ?_
  obtain ⟨o3, h⟩ := h
  refine M_ast0 55 hF o3 dX7_takeForFields_55 (fun t4 et4 => ?_)
  replace h := h t4 et4
  refine v_aload_n 56 hF dX7_takeForFields_56 rfl 0 rfl ?_
  refine M_get 57 0 hF (Nat.le_of_ble_eq_true rfl) q1904 rfl rfl dX7_takeForFields_57 ?_
  refine v_bipush (v := 6) 60 hF dX7_takeForFields_60 (by decide) ?_
  refine v_dup2 62 hF dX7_takeForFields_62 rfl rfl ?_
  obtain ⟨o5, h⟩ := h
  refine M_ald0 63 hF o5 dX7_takeForFields_63 ?_
  refine v_iload_n 64 hF dX7_takeForFields_64 rfl 2 rfl ?_
  refine v_iadd 65 hF dX7_takeForFields_65 ?_
  obtain ⟨o6, h⟩ := h
  refine M_ast0 66 hF o6 dX7_takeForFields_66 (fun t7 et7 => ?_)
  replace h := h t7 et7
  obtain ⟨y8, ey8⟩ : ∃ y : Int32, y = x1 + (1 : Int32) := ⟨_, rfl⟩
  replace h := h y8 ey8
  refine v_iinc [(0, .ref (a 0)), (1, .int y8), (2, .int s0)] [1, 0, 2] 67 hF dX7_takeForFields_67 1 rfl (by rw [ey8]; rfl) (Nat.le_of_ble_eq_true rfl) rfl ?_
  refine v_goto 70 2 hF dX7_takeForFields_70 (by decide) ?_
  refine v_sub [(0, .ref (a 0)), (1, .int y8)] [0, 1] rfl ?_
  exact hK2 _ _ h
set_option maxHeartbeats 4000000 in
theorem k_X7_takeForFields_L2 {x : vC} {l : Launch} {D : va_G} {a : Nat → Nat}  {Q : (Nat → Nat → Int32) → Prop} (hF : vF x l D "BrookWeirsModel" cX7_takeForFields (rmk 3 0 0 64) 3 none) (hR : vRv x (moW D a) Q 0 0) {K2 : (Nat → Nat → Int32) → Int32 → Prop} (hK2 : ∀ (σ : Nat → Nat → Int32) (x1 : Int32), K2 σ x1 → vV x 0 0 (moW D a σ ++ []) [(0, .ref (a 0)), (1, .int x1)] 2 []) : ∀ (σ : Nat → Nat → Int32) (x1 : Int32), w_X7_takeForFields_L2 Q K2 σ x1 → vV x 0 0 (moW D a σ ++ []) [(0, .ref (a 0)), (1, .int x1)] 2 [] := by
  intro σ x1 h
  unfold w_X7_takeForFields_L2 at h
  refine v_iload_n 2 hF dX7_takeForFields_2 rfl 1 rfl ?_
  refine v_aload_n 3 hF dX7_takeForFields_3 rfl 0 rfl ?_
  refine M_get 4 0 hF (Nat.le_of_ble_eq_true rfl) q1904 rfl rfl dX7_takeForFields_4 ?_
  refine v_iconst (v := 0) 7 hF dX7_takeForFields_7 (by decide) ?_
  obtain ⟨o9, h⟩ := h
  refine M_ald0 8 hF o9 dX7_takeForFields_8 ?_
  refine v_icmp_ge 9 73 hF dX7_takeForFields_9 (by decide) (fun c10 => ?_) (fun c10 => ?_)
  · replace h := h.1 c10
    exact v_vretA 73 hF hR (Nat.zero_le _) (Nat.zero_le _) dX7_takeForFields_73 h
  · replace h := h.2 c10
    refine v_aload_n 12 hF dX7_takeForFields_12 rfl 0 rfl ?_
    refine v_iload_n 13 hF dX7_takeForFields_13 rfl 1 rfl ?_
    refine v_callVi (As := [.int x1]) 14 hF (c_X7_level l D a σ x1 _ h) (List.Perm.refl _) ⟨0, 10, _, TX7, 18, rfl, rfl⟩ q2031 q2033 qs39 q82 q2034 ds_X7_level ⟨rfl, rfl, Nat.le_of_ble_eq_true rfl, Nat.le_of_ble_eq_true rfl⟩ (Nat.le_of_ble_eq_true rfl) ⟨Nat.zero_le _, Nat.zero_le _⟩ dX7_takeForFields_14 (fun r11 t12 h => ?_)
    refine v_iconst (v := 2) 17 hF dX7_takeForFields_17 (by decide) ?_
    refine v_icmp_lt 18 39 hF dX7_takeForFields_18 (by decide) (fun c13 => ?_) (fun c13 => ?_)
    · replace h := h.1 c13
      refine v_iconst (v := 0) 39 hF dX7_takeForFields_39 (by decide) ?_
      exact k_X7_takeForFields_J40 hF hR hK2 _ _ _ h
    · replace h := h.2 c13
      refine v_aload_n 21 hF dX7_takeForFields_21 rfl 0 rfl ?_
      refine v_iload_n 22 hF dX7_takeForFields_22 rfl 1 rfl ?_
      refine v_iconst (v := 2) 23 hF dX7_takeForFields_23 (by decide) ?_
      refine v_callVi (As := [.int x1, .int ((2 : Int32))]) 24 hF (c_X7_get l D a t12 x1 ((2 : Int32)) _ h) (List.Perm.refl _) ⟨0, 10, _, TX7, 18, rfl, rfl⟩ q1999 q2001 qs35 q82 q2002 ds_X7_get ⟨rfl, rfl, Nat.le_of_ble_eq_true rfl, Nat.le_of_ble_eq_true rfl⟩ (Nat.le_of_ble_eq_true rfl) ⟨Nat.zero_le _, Nat.zero_le _⟩ dX7_takeForFields_24 (fun r14 t15 h => ?_)
      refine v_aload_n 27 hF dX7_takeForFields_27 rfl 0 rfl ?_
      refine v_iload_n 28 hF dX7_takeForFields_28 rfl 1 rfl ?_
      refine v_iconst (v := 4) 29 hF dX7_takeForFields_29 (by decide) ?_
      refine v_callVi (As := [.int x1, .int ((4 : Int32))]) 30 hF (c_X7_get l D a t15 x1 ((4 : Int32)) _ h) (List.Perm.refl _) ⟨0, 10, _, TX7, 18, rfl, rfl⟩ q1999 q2001 qs35 q82 q2002 ds_X7_get ⟨rfl, rfl, Nat.le_of_ble_eq_true rfl, Nat.le_of_ble_eq_true rfl⟩ (Nat.le_of_ble_eq_true rfl) ⟨Nat.zero_le _, Nat.zero_le _⟩ dX7_takeForFields_30 (fun r16 t17 h => ?_)
      refine v_mmin 33 hF q2054 q429 q92 q430 (Nat.le_of_ble_eq_true rfl) (Nat.le_of_ble_eq_true rfl) ⟨Nat.zero_le _, Nat.zero_le _⟩ dX7_takeForFields_33 ?_
      refine v_goto 36 40 hF dX7_takeForFields_36 (by decide) ?_
      exact k_X7_takeForFields_J40 hF hR hK2 _ _ _ h
theorem ds_X7_takeForFields : yX7_takeForFields.cls = yX7_takeForFields.cls ∧ yX7_takeForFields.cls ≠ "java/lang/invoke/MethodHandle" ∧ yX7_takeForFields.cls ≠ "java/lang/invoke/VarHandle" ∧ (parseMethodDescriptor yX7_takeForFields.desc).map (fun d => d.parameters.length) = some 0 := by decide +kernel
set_option maxHeartbeats 4000000 in
theorem c_X7_takeForFields (l : Launch) (D : va_G) (a : Nat → Nat) (σ : Nat → Nat → Int32) (Q : (Nat → Nat → Int32) → Prop) (h : w_X7_takeForFields σ Q) : Ctv l D yX7_takeForFields cX7_takeForFields 3 (rmk 3 0 0 64) [.ref (a 0)] (moW D a σ) (moW D a) Q 0 0 := by
  refine Ctv.of (by decide) (Nat.le_of_ble_eq_true rfl) (fun x hF hR => ?_)
  replace hF : vF x l D "BrookWeirsModel" cX7_takeForFields (rmk 3 0 0 64) 3 none := hF
  refine v_app0 ?_
  unfold w_X7_takeForFields at h
  refine v_iconst (v := 0) 0 hF dX7_takeForFields_0 (by decide) ?_
  refine v_istore_n [(0, .ref (a 0)), (1, .int ((0 : Int32)))] [1, 0] 1 hF dX7_takeForFields_1 rfl (Nat.le_of_ble_eq_true rfl) rfl ?_
  exact vLoop (V := fun s => vV x 0 0 (moW D a s.1 ++ []) [(0, .ref (a 0)), (1, .int s.2)] 2 []) (fun K hK s hs => k_X7_takeForFields_L2 hF hR (fun v0 v1 q => hK (v0, v1) q) s.1 s.2 hs) _ h
def w_X7_lose (σ : Nat → Nat → Int32) (x1 x2 : Int32) (Q : (Nat → Nat → Int32) → Prop) : Prop :=
  w_X7_clutchAt x1 (fun r1 => vp_in ((r1 + (1 : Int32))) 156 ∧ vp_in ((r1 + (1 : Int32))) 156 ∧ ∀ t4 : Nat → Nat → Int32, t4 = (upN σ 0 ((r1 + (1 : Int32))).toNatClampNeg (((σ 0) ((r1 + (1 : Int32))).toNatClampNeg) - x2)) → vp_in ((11 : Int32)) 156 ∧ vp_in ((11 : Int32)) 156 ∧ ∀ t7 : Nat → Nat → Int32, t7 = (upN t4 0 ((11 : Int32)).toNatClampNeg (((t4 0) ((11 : Int32)).toNatClampNeg) + x2)) → Q t7)
theorem ds_X7_lose : yX7_lose.cls = yX7_lose.cls ∧ yX7_lose.cls ≠ "java/lang/invoke/MethodHandle" ∧ yX7_lose.cls ≠ "java/lang/invoke/VarHandle" ∧ (parseMethodDescriptor yX7_lose.desc).map (fun d => d.parameters.length) = some 2 := by decide +kernel
set_option maxHeartbeats 4000000 in
theorem c_X7_lose (l : Launch) (D : va_G) (a : Nat → Nat) (σ : Nat → Nat → Int32) (x1 x2 : Int32) (Q : (Nat → Nat → Int32) → Prop) (h : w_X7_lose σ x1 x2 Q) : Ctv l D yX7_lose cX7_lose 3 (rmk 1 0 0 20) [.ref (a 0), .int x1, .int x2] (moW D a σ) (moW D a) Q 0 0 := by
  refine Ctv.of (by decide) (Nat.le_of_ble_eq_true rfl) (fun x hF hR => ?_)
  replace hF : vF x l D "BrookWeirsModel" cX7_lose (rmk 1 0 0 20) 3 none := hF
  refine v_app0 ?_
  unfold w_X7_lose at h
  refine v_aload_n 0 hF dX7_lose_0 rfl 0 rfl ?_
  refine M_get 1 0 hF (Nat.le_of_ble_eq_true rfl) q1904 rfl rfl dX7_lose_1 ?_
  refine v_iload_n 4 hF dX7_lose_4 rfl 1 rfl ?_
  refine v_callS0i (As := [.int x1]) 5 hF (c_X7_clutchAt l D x1 _ h) q2035 q2036 q82 q2037 ds_X7_clutchAt ⟨rfl, rfl, Nat.le_of_ble_eq_true rfl, Nat.le_of_ble_eq_true rfl⟩ (Nat.le_of_ble_eq_true rfl) ⟨Nat.zero_le _, Nat.zero_le _⟩ dX7_lose_5 (fun r1 h => ?_)
  refine v_iconst (v := 1) 8 hF dX7_lose_8 (by decide) ?_
  refine v_iadd 9 hF dX7_lose_9 ?_
  refine v_dup2 10 hF dX7_lose_10 rfl rfl ?_
  obtain ⟨o2, h⟩ := h
  refine M_ald0 11 hF o2 dX7_lose_11 ?_
  refine v_iload_n 12 hF dX7_lose_12 rfl 2 rfl ?_
  refine v_isub 13 hF dX7_lose_13 ?_
  obtain ⟨o3, h⟩ := h
  refine M_ast0 14 hF o3 dX7_lose_14 (fun t4 et4 => ?_)
  replace h := h t4 et4
  refine v_aload_n 15 hF dX7_lose_15 rfl 0 rfl ?_
  refine M_get 16 0 hF (Nat.le_of_ble_eq_true rfl) q1904 rfl rfl dX7_lose_16 ?_
  refine v_bipush (v := 11) 19 hF dX7_lose_19 (by decide) ?_
  refine v_dup2 21 hF dX7_lose_21 rfl rfl ?_
  obtain ⟨o5, h⟩ := h
  refine M_ald0 22 hF o5 dX7_lose_22 ?_
  refine v_iload_n 23 hF dX7_lose_23 rfl 2 rfl ?_
  refine v_iadd 24 hF dX7_lose_24 ?_
  obtain ⟨o6, h⟩ := h
  refine M_ast0 25 hF o6 dX7_lose_25 (fun t7 et7 => ?_)
  replace h := h t7 et7
  exact v_vretA 26 hF hR (Nat.zero_le _) (Nat.zero_le _) dX7_lose_26 h
def w_X7_night_J67 (Q : (Nat → Nat → Int32) → Prop) (K4 : (Nat → Nat → Int32) → Int32 → Int32 → Prop) (σ : Nat → Nat → Int32) (x1 x2 x3 s2 s1 : Int32) : Prop :=
  vp_in s1 156 ∧ ∀ t2 : Nat → Nat → Int32, t2 = (upN σ 0 s1.toNatClampNeg s2) → ((x1 = 0 → ∀ y4 : Int32, y4 = x2 + (1 : Int32) → K4 t2 ((0 : Int32)) y4) ∧ (¬ x1 = 0 → ((¬ x3 = 0 → ∀ y6 : Int32, y6 = x2 + (1 : Int32) → K4 t2 ((0 : Int32)) y6) ∧ (x3 = 0 → ∀ y7 : Int32, y7 = x2 + (1 : Int32) → K4 t2 ((1 : Int32)) y7))))
def w_X7_night_J46 (Q : (Nat → Nat → Int32) → Prop) (K4 : (Nat → Nat → Int32) → Int32 → Int32 → Prop) (σ : Nat → Nat → Int32) (x1 x2 s0 : Int32) : Prop :=
  w_X7_at x2 (fun r8 => ((s0 = 0 → w_X7_night_J67 Q K4 σ x1 x2 s0 ((0 : Int32)) ((r8 + (10 : Int32)))) ∧ (¬ s0 = 0 → w_X7_night_J67 Q K4 σ x1 x2 s0 ((1 : Int32)) ((r8 + (10 : Int32))))))
def w_X7_night_J45 (Q : (Nat → Nat → Int32) → Prop) (K4 : (Nat → Nat → Int32) → Int32 → Int32 → Prop) (σ : Nat → Nat → Int32) (x1 x2 : Int32) : Prop :=
  w_X7_night_J46 Q K4 σ x1 x2 ((0 : Int32))
def w_X7_night_L4 (Q : (Nat → Nat → Int32) → Prop) (K4 : (Nat → Nat → Int32) → Int32 → Int32 → Prop) (σ : Nat → Nat → Int32) (x1 x2 : Int32) : Prop :=
  vp_in ((0 : Int32)) 156 ∧ ((((σ 0) ((0 : Int32)).toNatClampNeg) ≤ x2 → vp_in ((8 : Int32)) 156 ∧ ((x1 = 0 → vp_in ((8 : Int32)) 156 ∧ ∀ t15 : Nat → Nat → Int32, t15 = (upN σ 0 ((8 : Int32)).toNatClampNeg (((σ 0) ((8 : Int32)).toNatClampNeg) + (0 : Int32))) → Q t15) ∧ (¬ x1 = 0 → vp_in ((8 : Int32)) 156 ∧ ∀ t17 : Nat → Nat → Int32, t17 = (upN σ 0 ((8 : Int32)).toNatClampNeg (((σ 0) ((8 : Int32)).toNatClampNeg) + (1 : Int32))) → Q t17))) ∧ (¬ ((σ 0) ((0 : Int32)).toNatClampNeg) ≤ x2 → w_X7_get σ x2 ((5 : Int32)) (fun r18 t19 => ((r18 ≤ 0 → w_X7_night_J45 Q K4 t19 x1 x2) ∧ (¬ r18 ≤ 0 → w_X7_level t19 x2 (fun r21 t22 => w_X7_get t22 x2 ((1 : Int32)) (fun r23 t24 => w_X7_in r21 ((2 : Int32)) r23 (fun r25 => ((r25 = 0 → w_X7_night_J45 Q K4 t24 x1 x2) ∧ (¬ r25 = 0 → w_X7_night_J46 Q K4 t24 x1 x2 ((1 : Int32))))))))))))
def w_X7_night (σ : Nat → Nat → Int32) (Q : (Nat → Nat → Int32) → Prop) : Prop :=
  wLoop (fun K s => w_X7_night_L4 Q (fun v0 v1 v2 => K (v0, v1, v2)) s.1 s.2.1 s.2.2) (σ, (1 : Int32), (0 : Int32))
set_option maxHeartbeats 4000000 in
theorem k_X7_night_J67 {x : vC} {l : Launch} {D : va_G} {a : Nat → Nat}  {Q : (Nat → Nat → Int32) → Prop} (hF : vF x l D "BrookWeirsModel" cX7_night (rmk 3 0 0 63) 4 none) (hR : vRv x (moW D a) Q 0 0) {K4 : (Nat → Nat → Int32) → Int32 → Int32 → Prop} (hK4 : ∀ (σ : Nat → Nat → Int32) (x1 x2 : Int32), K4 σ x1 x2 → vV x 0 0 (moW D a σ ++ []) [(0, .ref (a 0)), (1, .int x1), (2, .int x2)] 4 []) : ∀ (σ : Nat → Nat → Int32) (x1 x2 x3 s2 s1 : Int32), w_X7_night_J67 Q K4 σ x1 x2 x3 s2 s1 → vV x 0 0 (moW D a σ ++ []) [(0, .ref (a 0)), (1, .int x1), (2, .int x2), (3, .int x3)] 67 [.int s2, .int s1, .ref (a 1)] := by
  intro σ x1 x2 x3 s2 s1 h
  unfold w_X7_night_J67 at h
  obtain ⟨o1, h⟩ := h
  refine M_ast0 67 hF o1 dX7_night_67 (fun t2 et2 => ?_)
  replace h := h t2 et2
  refine v_iload_n 68 hF dX7_night_68 rfl 1 rfl ?_
  refine v_if_eq 69 80 hF dX7_night_69 (by decide) (fun c3 => ?_) (fun c3 => ?_)
  · replace h := h.1 c3
    refine v_iconst (v := 0) 80 hF dX7_night_80 (by decide) ?_
    refine v_istore_n [(0, .ref (a 0)), (1, .int ((0 : Int32))), (2, .int x2), (3, .int x3)] [1, 0, 2, 3] 81 hF dX7_night_81 rfl (Nat.le_of_ble_eq_true rfl) rfl ?_
    obtain ⟨y4, ey4⟩ : ∃ y : Int32, y = x2 + (1 : Int32) := ⟨_, rfl⟩
    replace h := h y4 ey4
    refine v_iinc [(0, .ref (a 0)), (1, .int ((0 : Int32))), (2, .int y4), (3, .int x3)] [1, 2, 0, 3] 82 hF dX7_night_82 2 rfl (by rw [ey4]; rfl) (Nat.le_of_ble_eq_true rfl) rfl ?_
    refine v_goto 85 4 hF dX7_night_85 (by decide) ?_
    refine v_sub [(0, .ref (a 0)), (1, .int ((0 : Int32))), (2, .int y4)] [0, 1, 2] rfl ?_
    exact hK4 _ _ _ h
  · replace h := h.2 c3
    refine v_iload_n 72 hF dX7_night_72 rfl 3 rfl ?_
    refine v_if_ne 73 80 hF dX7_night_73 (by decide) (fun c5 => ?_) (fun c5 => ?_)
    · replace h := h.1 c5
      refine v_iconst (v := 0) 80 hF dX7_night_80 (by decide) ?_
      refine v_istore_n [(0, .ref (a 0)), (1, .int ((0 : Int32))), (2, .int x2), (3, .int x3)] [1, 0, 2, 3] 81 hF dX7_night_81 rfl (Nat.le_of_ble_eq_true rfl) rfl ?_
      obtain ⟨y6, ey6⟩ : ∃ y : Int32, y = x2 + (1 : Int32) := ⟨_, rfl⟩
      replace h := h y6 ey6
      refine v_iinc [(0, .ref (a 0)), (1, .int ((0 : Int32))), (2, .int y6), (3, .int x3)] [1, 2, 0, 3] 82 hF dX7_night_82 2 rfl (by rw [ey6]; rfl) (Nat.le_of_ble_eq_true rfl) rfl ?_
      refine v_goto 85 4 hF dX7_night_85 (by decide) ?_
      refine v_sub [(0, .ref (a 0)), (1, .int ((0 : Int32))), (2, .int y6)] [0, 1, 2] rfl ?_
      exact hK4 _ _ _ h
    · replace h := h.2 c5
      refine v_iconst (v := 1) 76 hF dX7_night_76 (by decide) ?_
      refine v_goto 77 81 hF dX7_night_77 (by decide) ?_
      refine v_istore_n [(0, .ref (a 0)), (1, .int ((1 : Int32))), (2, .int x2), (3, .int x3)] [1, 0, 2, 3] 81 hF dX7_night_81 rfl (Nat.le_of_ble_eq_true rfl) rfl ?_
      obtain ⟨y7, ey7⟩ : ∃ y : Int32, y = x2 + (1 : Int32) := ⟨_, rfl⟩
      replace h := h y7 ey7
      refine v_iinc [(0, .ref (a 0)), (1, .int ((1 : Int32))), (2, .int y7), (3, .int x3)] [1, 2, 0, 3] 82 hF dX7_night_82 2 rfl (by rw [ey7]; rfl) (Nat.le_of_ble_eq_true rfl) rfl ?_
      refine v_goto 85 4 hF dX7_night_85 (by decide) ?_
      refine v_sub [(0, .ref (a 0)), (1, .int ((1 : Int32))), (2, .int y7)] [0, 1, 2] rfl ?_
      exact hK4 _ _ _ h
set_option maxHeartbeats 4000000 in
theorem k_X7_night_J46 {x : vC} {l : Launch} {D : va_G} {a : Nat → Nat}  {Q : (Nat → Nat → Int32) → Prop} (hF : vF x l D "BrookWeirsModel" cX7_night (rmk 3 0 0 63) 4 none) (hR : vRv x (moW D a) Q 0 0) {K4 : (Nat → Nat → Int32) → Int32 → Int32 → Prop} (hK4 : ∀ (σ : Nat → Nat → Int32) (x1 x2 : Int32), K4 σ x1 x2 → vV x 0 0 (moW D a σ ++ []) [(0, .ref (a 0)), (1, .int x1), (2, .int x2)] 4 []) : ∀ (σ : Nat → Nat → Int32) (x1 x2 s0 : Int32), w_X7_night_J46 Q K4 σ x1 x2 s0 → vV x 0 0 (moW D a σ ++ []) [(0, .ref (a 0)), (1, .int x1), (2, .int x2)] 46 [.int s0] := by
  intro σ x1 x2 s0 h
  unfold w_X7_night_J46 at h
  refine v_istore_n [(0, .ref (a 0)), (1, .int x1), (2, .int x2), (3, .int s0)] [1, 2, 3, 0] 46 hF dX7_night_46 rfl (Nat.le_of_ble_eq_true rfl) rfl ?_
  refine v_aload_n 47 hF dX7_night_47 rfl 0 rfl ?_
  refine M_get 48 0 hF (Nat.le_of_ble_eq_true rfl) q1904 rfl rfl dX7_night_48 ?_
  refine v_iload_n 51 hF dX7_night_51 rfl 2 rfl ?_
  refine v_callS0i (As := [.int x2]) 52 hF (c_X7_at l D x2 _ h) q1980 q1981 q82 q1982 ds_X7_at ⟨rfl, rfl, Nat.le_of_ble_eq_true rfl, Nat.le_of_ble_eq_true rfl⟩ (Nat.le_of_ble_eq_true rfl) ⟨Nat.zero_le _, Nat.zero_le _⟩ dX7_night_52 (fun r8 h => ?_)
  refine v_bipush (v := 10) 55 hF dX7_night_55 (by decide) ?_
  refine v_iadd 57 hF dX7_night_57 ?_
  refine v_iload_n 58 hF dX7_night_58 rfl 3 rfl ?_
  refine v_if_eq 59 66 hF dX7_night_59 (by decide) (fun c9 => ?_) (fun c9 => ?_)
  · replace h := h.1 c9
    refine v_iconst (v := 0) 66 hF dX7_night_66 (by decide) ?_
    exact k_X7_night_J67 hF hR hK4 _ _ _ _ _ _ h
  · replace h := h.2 c9
    refine v_iconst (v := 1) 62 hF dX7_night_62 (by decide) ?_
    refine v_goto 63 67 hF dX7_night_63 (by decide) ?_
    exact k_X7_night_J67 hF hR hK4 _ _ _ _ _ _ h
set_option maxHeartbeats 4000000 in
theorem k_X7_night_J45 {x : vC} {l : Launch} {D : va_G} {a : Nat → Nat}  {Q : (Nat → Nat → Int32) → Prop} (hF : vF x l D "BrookWeirsModel" cX7_night (rmk 3 0 0 63) 4 none) (hR : vRv x (moW D a) Q 0 0) {K4 : (Nat → Nat → Int32) → Int32 → Int32 → Prop} (hK4 : ∀ (σ : Nat → Nat → Int32) (x1 x2 : Int32), K4 σ x1 x2 → vV x 0 0 (moW D a σ ++ []) [(0, .ref (a 0)), (1, .int x1), (2, .int x2)] 4 []) : ∀ (σ : Nat → Nat → Int32) (x1 x2 : Int32), w_X7_night_J45 Q K4 σ x1 x2 → vV x 0 0 (moW D a σ ++ []) [(0, .ref (a 0)), (1, .int x1), (2, .int x2)] 45 [] := by
  intro σ x1 x2 h
  unfold w_X7_night_J45 at h
  refine v_iconst (v := 0) 45 hF dX7_night_45 (by decide) ?_
  exact k_X7_night_J46 hF hR hK4 _ _ _ _ h
set_option maxHeartbeats 4000000 in
theorem k_X7_night_L4 {x : vC} {l : Launch} {D : va_G} {a : Nat → Nat}  {Q : (Nat → Nat → Int32) → Prop} (hF : vF x l D "BrookWeirsModel" cX7_night (rmk 3 0 0 63) 4 none) (hR : vRv x (moW D a) Q 0 0) {K4 : (Nat → Nat → Int32) → Int32 → Int32 → Prop} (hK4 : ∀ (σ : Nat → Nat → Int32) (x1 x2 : Int32), K4 σ x1 x2 → vV x 0 0 (moW D a σ ++ []) [(0, .ref (a 0)), (1, .int x1), (2, .int x2)] 4 []) : ∀ (σ : Nat → Nat → Int32) (x1 x2 : Int32), w_X7_night_L4 Q K4 σ x1 x2 → vV x 0 0 (moW D a σ ++ []) [(0, .ref (a 0)), (1, .int x1), (2, .int x2)] 4 [] := by
  intro σ x1 x2 h
  unfold w_X7_night_L4 at h
  refine v_iload_n 4 hF dX7_night_4 rfl 2 rfl ?_
  refine v_aload_n 5 hF dX7_night_5 rfl 0 rfl ?_
  refine M_get 6 0 hF (Nat.le_of_ble_eq_true rfl) q1904 rfl rfl dX7_night_6 ?_
  refine v_iconst (v := 0) 9 hF dX7_night_9 (by decide) ?_
  obtain ⟨o10, h⟩ := h
  refine M_ald0 10 hF o10 dX7_night_10 ?_
  refine v_icmp_ge 11 88 hF dX7_night_11 (by decide) (fun c11 => ?_) (fun c11 => ?_)
  · replace h := h.1 c11
    refine v_aload_n 88 hF dX7_night_88 rfl 0 rfl ?_
    refine M_get 89 0 hF (Nat.le_of_ble_eq_true rfl) q1904 rfl rfl dX7_night_89 ?_
    refine v_bipush (v := 8) 92 hF dX7_night_92 (by decide) ?_
    refine v_dup2 94 hF dX7_night_94 rfl rfl ?_
    obtain ⟨o12, h⟩ := h
    refine M_ald0 95 hF o12 dX7_night_95 ?_
    refine v_iload_n 96 hF dX7_night_96 rfl 1 rfl ?_
    refine v_if_eq 97 104 hF dX7_night_97 (by decide) (fun c13 => ?_) (fun c13 => ?_)
    · replace h := h.1 c13
      refine v_iconst (v := 0) 104 hF dX7_night_104 (by decide) ?_
      refine v_iadd 105 hF dX7_night_105 ?_
      obtain ⟨o14, h⟩ := h
      refine M_ast0 106 hF o14 dX7_night_106 (fun t15 et15 => ?_)
      replace h := h t15 et15
      exact v_vretA 107 hF hR (Nat.zero_le _) (Nat.zero_le _) dX7_night_107 h
    · replace h := h.2 c13
      refine v_iconst (v := 1) 100 hF dX7_night_100 (by decide) ?_
      refine v_goto 101 105 hF dX7_night_101 (by decide) ?_
      refine v_iadd 105 hF dX7_night_105 ?_
      obtain ⟨o16, h⟩ := h
      refine M_ast0 106 hF o16 dX7_night_106 (fun t17 et17 => ?_)
      replace h := h t17 et17
      exact v_vretA 107 hF hR (Nat.zero_le _) (Nat.zero_le _) dX7_night_107 h
  · replace h := h.2 c11
    refine v_aload_n 14 hF dX7_night_14 rfl 0 rfl ?_
    refine v_iload_n 15 hF dX7_night_15 rfl 2 rfl ?_
    refine v_iconst (v := 5) 16 hF dX7_night_16 (by decide) ?_
    refine v_callVi (As := [.int x2, .int ((5 : Int32))]) 17 hF (c_X7_get l D a σ x2 ((5 : Int32)) _ h) (List.Perm.refl _) ⟨0, 10, _, TX7, 18, rfl, rfl⟩ q1999 q2001 qs35 q82 q2002 ds_X7_get ⟨rfl, rfl, Nat.le_of_ble_eq_true rfl, Nat.le_of_ble_eq_true rfl⟩ (Nat.le_of_ble_eq_true rfl) ⟨Nat.zero_le _, Nat.zero_le _⟩ dX7_night_17 (fun r18 t19 h => ?_)
    refine v_if_le 20 45 hF dX7_night_20 (by decide) (fun c20 => ?_) (fun c20 => ?_)
    · replace h := h.1 c20
      exact k_X7_night_J45 hF hR hK4 _ _ _ h
    · replace h := h.2 c20
      refine v_aload_n 23 hF dX7_night_23 rfl 0 rfl ?_
      refine v_iload_n 24 hF dX7_night_24 rfl 2 rfl ?_
      refine v_callVi (As := [.int x2]) 25 hF (c_X7_level l D a t19 x2 _ h) (List.Perm.refl _) ⟨0, 10, _, TX7, 18, rfl, rfl⟩ q2031 q2033 qs39 q82 q2034 ds_X7_level ⟨rfl, rfl, Nat.le_of_ble_eq_true rfl, Nat.le_of_ble_eq_true rfl⟩ (Nat.le_of_ble_eq_true rfl) ⟨Nat.zero_le _, Nat.zero_le _⟩ dX7_night_25 (fun r21 t22 h => ?_)
      refine v_iconst (v := 2) 28 hF dX7_night_28 (by decide) ?_
      refine v_aload_n 29 hF dX7_night_29 rfl 0 rfl ?_
      refine v_iload_n 30 hF dX7_night_30 rfl 2 rfl ?_
      refine v_iconst (v := 1) 31 hF dX7_night_31 (by decide) ?_
      refine v_callVi (As := [.int x2, .int ((1 : Int32))]) 32 hF (c_X7_get l D a t22 x2 ((1 : Int32)) _ h) (List.Perm.refl _) ⟨0, 10, _, TX7, 18, rfl, rfl⟩ q1999 q2001 qs35 q82 q2002 ds_X7_get ⟨rfl, rfl, Nat.le_of_ble_eq_true rfl, Nat.le_of_ble_eq_true rfl⟩ (Nat.le_of_ble_eq_true rfl) ⟨Nat.zero_le _, Nat.zero_le _⟩ dX7_night_32 (fun r23 t24 h => ?_)
      refine v_callS0i (As := [.int r21, .int ((2 : Int32)), .int r23]) 35 hF (c_X7_in l D r21 ((2 : Int32)) r23 _ h) q1968 q1969 q82 q1970 ds_X7_in ⟨rfl, rfl, Nat.le_of_ble_eq_true rfl, Nat.le_of_ble_eq_true rfl⟩ (Nat.le_of_ble_eq_true rfl) ⟨Nat.zero_le _, Nat.zero_le _⟩ dX7_night_35 (fun r25 h => ?_)
      refine v_if_eq 38 45 hF dX7_night_38 (by decide) (fun c26 => ?_) (fun c26 => ?_)
      · replace h := h.1 c26
        exact k_X7_night_J45 hF hR hK4 _ _ _ h
      · replace h := h.2 c26
        refine v_iconst (v := 1) 41 hF dX7_night_41 (by decide) ?_
        refine v_goto 42 46 hF dX7_night_42 (by decide) ?_
        exact k_X7_night_J46 hF hR hK4 _ _ _ _ h
theorem ds_X7_night : yX7_night.cls = yX7_night.cls ∧ yX7_night.cls ≠ "java/lang/invoke/MethodHandle" ∧ yX7_night.cls ≠ "java/lang/invoke/VarHandle" ∧ (parseMethodDescriptor yX7_night.desc).map (fun d => d.parameters.length) = some 0 := by decide +kernel
set_option maxHeartbeats 4000000 in
theorem c_X7_night (l : Launch) (D : va_G) (a : Nat → Nat) (σ : Nat → Nat → Int32) (Q : (Nat → Nat → Int32) → Prop) (h : w_X7_night σ Q) : Ctv l D yX7_night cX7_night 4 (rmk 3 0 0 63) [.ref (a 0)] (moW D a σ) (moW D a) Q 0 0 := by
  refine Ctv.of (by decide) (Nat.le_of_ble_eq_true rfl) (fun x hF hR => ?_)
  replace hF : vF x l D "BrookWeirsModel" cX7_night (rmk 3 0 0 63) 4 none := hF
  refine v_app0 ?_
  unfold w_X7_night at h
  refine v_iconst (v := 1) 0 hF dX7_night_0 (by decide) ?_
  refine v_istore_n [(0, .ref (a 0)), (1, .int ((1 : Int32)))] [1, 0] 1 hF dX7_night_1 rfl (Nat.le_of_ble_eq_true rfl) rfl ?_
  refine v_iconst (v := 0) 2 hF dX7_night_2 (by decide) ?_
  refine v_istore_n [(0, .ref (a 0)), (1, .int ((1 : Int32))), (2, .int ((0 : Int32)))] [1, 2, 0] 3 hF dX7_night_3 rfl (Nat.le_of_ble_eq_true rfl) rfl ?_
  exact vLoop (V := fun s => vV x 0 0 (moW D a s.1 ++ []) [(0, .ref (a 0)), (1, .int s.2.1), (2, .int s.2.2)] 4 []) (fun K hK s hs => k_X7_night_L4 hF hR (fun v0 v1 v2 q => hK (v0, v1, v2) q) s.1 s.2.1 s.2.2 hs) _ h
def w_X7_layAside (σ : Nat → Nat → Int32) (Q : (Nat → Nat → Int32) → Prop) : Prop :=
  ¬ (0 : Int32) < 0 ∧ ¬ (0 : Int32) < 0 ∧ ¬ (156 : Int32) < 0 ∧ ((0 : Int32)).toNatClampNeg + ((156 : Int32)).toNatClampNeg ≤ 156 ∧ ((0 : Int32)).toNatClampNeg + ((156 : Int32)).toNatClampNeg ≤ 156 ∧ ∀ t6 : Nat → Nat → Int32, t6 = upR σ 2 (va_cpy (σ 0) (σ 2) ((0 : Int32)).toNatClampNeg ((0 : Int32)).toNatClampNeg ((156 : Int32)).toNatClampNeg) → Q t6
theorem ds_X7_layAside : yX7_layAside.cls = yX7_layAside.cls ∧ yX7_layAside.cls ≠ "java/lang/invoke/MethodHandle" ∧ yX7_layAside.cls ≠ "java/lang/invoke/VarHandle" ∧ (parseMethodDescriptor yX7_layAside.desc).map (fun d => d.parameters.length) = some 0 := by decide +kernel
set_option maxHeartbeats 4000000 in
theorem c_X7_layAside (l : Launch) (D : va_G) (a : Nat → Nat) (σ : Nat → Nat → Int32) (Q : (Nat → Nat → Int32) → Prop) (h : w_X7_layAside σ Q) : Ctv l D yX7_layAside cX7_layAside 1 (rmk 1 0 0 64) [.ref (a 0)] (moW D a σ) (moW D a) Q 0 0 := by
  refine Ctv.of (by decide) (Nat.le_of_ble_eq_true rfl) (fun x hF hR => ?_)
  replace hF : vF x l D "BrookWeirsModel" cX7_layAside (rmk 1 0 0 64) 1 none := hF
  refine v_app0 ?_
  unfold w_X7_layAside at h
  refine v_aload_n 0 hF dX7_layAside_0 rfl 0 rfl ?_
  refine M_get 1 0 hF (Nat.le_of_ble_eq_true rfl) q1904 rfl rfl dX7_layAside_1 ?_
  refine v_iconst (v := 0) 4 hF dX7_layAside_4 (by decide) ?_
  refine v_aload_n 5 hF dX7_layAside_5 rfl 0 rfl ?_
  refine M_get 6 2 hF (Nat.le_of_ble_eq_true rfl) q1906 rfl rfl dX7_layAside_6 ?_
  refine v_iconst (v := 0) 9 hF dX7_layAside_9 (by decide) ?_
  refine v_sipush (v := 156) 10 hF dX7_layAside_10 (by decide) ?_
  obtain ⟨o1, o2, o3, o4, o5, h⟩ := h
  refine M_cpy0_2 13 hF q1979 o1 o2 o3 o4 o5 (Nat.le_of_ble_eq_true rfl) (Nat.le_of_ble_eq_true rfl) dX7_layAside_13 (fun t6 et6 => ?_)
  replace h := h t6 et6
  exact v_vretA 16 hF hR (Nat.zero_le _) (Nat.zero_le _) dX7_layAside_16 h
def w_X7_bringBack (σ : Nat → Nat → Int32) (Q : (Nat → Nat → Int32) → Prop) : Prop :=
  ¬ (0 : Int32) < 0 ∧ ¬ (0 : Int32) < 0 ∧ ¬ (156 : Int32) < 0 ∧ ((0 : Int32)).toNatClampNeg + ((156 : Int32)).toNatClampNeg ≤ 156 ∧ ((0 : Int32)).toNatClampNeg + ((156 : Int32)).toNatClampNeg ≤ 156 ∧ ∀ t6 : Nat → Nat → Int32, t6 = upR σ 0 (va_cpy (σ 2) (σ 0) ((0 : Int32)).toNatClampNeg ((0 : Int32)).toNatClampNeg ((156 : Int32)).toNatClampNeg) → Q t6
theorem ds_X7_bringBack : yX7_bringBack.cls = yX7_bringBack.cls ∧ yX7_bringBack.cls ≠ "java/lang/invoke/MethodHandle" ∧ yX7_bringBack.cls ≠ "java/lang/invoke/VarHandle" ∧ (parseMethodDescriptor yX7_bringBack.desc).map (fun d => d.parameters.length) = some 0 := by decide +kernel
set_option maxHeartbeats 4000000 in
theorem c_X7_bringBack (l : Launch) (D : va_G) (a : Nat → Nat) (σ : Nat → Nat → Int32) (Q : (Nat → Nat → Int32) → Prop) (h : w_X7_bringBack σ Q) : Ctv l D yX7_bringBack cX7_bringBack 1 (rmk 1 0 0 64) [.ref (a 0)] (moW D a σ) (moW D a) Q 0 0 := by
  refine Ctv.of (by decide) (Nat.le_of_ble_eq_true rfl) (fun x hF hR => ?_)
  replace hF : vF x l D "BrookWeirsModel" cX7_bringBack (rmk 1 0 0 64) 1 none := hF
  refine v_app0 ?_
  unfold w_X7_bringBack at h
  refine v_aload_n 0 hF dX7_bringBack_0 rfl 0 rfl ?_
  refine M_get 1 2 hF (Nat.le_of_ble_eq_true rfl) q1906 rfl rfl dX7_bringBack_1 ?_
  refine v_iconst (v := 0) 4 hF dX7_bringBack_4 (by decide) ?_
  refine v_aload_n 5 hF dX7_bringBack_5 rfl 0 rfl ?_
  refine M_get 6 0 hF (Nat.le_of_ble_eq_true rfl) q1904 rfl rfl dX7_bringBack_6 ?_
  refine v_iconst (v := 0) 9 hF dX7_bringBack_9 (by decide) ?_
  refine v_sipush (v := 156) 10 hF dX7_bringBack_10 (by decide) ?_
  obtain ⟨o1, o2, o3, o4, o5, h⟩ := h
  refine M_cpy2_0 13 hF q1979 o1 o2 o3 o4 o5 (Nat.le_of_ble_eq_true rfl) (Nat.le_of_ble_eq_true rfl) dX7_bringBack_13 (fun t6 et6 => ?_)
  replace h := h t6 et6
  exact v_vretA 16 hF hR (Nat.zero_le _) (Nat.zero_le _) dX7_bringBack_16 h
def w_X7_setLatches_J31 (Q : (Nat → Nat → Int32) → Prop) (K2 : (Nat → Nat → Int32) → Int32 → Int32 → Int32 → Prop) (σ : Nat → Nat → Int32) (x1 x2 x3 s2 s1 : Int32) : Prop :=
  vp_in ((s1 + s2)) 156 ∧ ∀ t2 : Nat → Nat → Int32, t2 = (upN σ 0 ((s1 + s2)).toNatClampNeg ((x2 >>> (x3 &&& 31)) &&& (1 : Int32))) → ∀ y3 : Int32, y3 = x3 + (1 : Int32) → K2 t2 x1 x2 y3
def w_X7_setLatches_L2 (Q : (Nat → Nat → Int32) → Prop) (K2 : (Nat → Nat → Int32) → Int32 → Int32 → Int32 → Prop) (σ : Nat → Nat → Int32) (x1 x2 x3 : Int32) : Prop :=
  vp_in ((0 : Int32)) 156 ∧ ((((σ 0) ((0 : Int32)).toNatClampNeg) ≤ x3 → Q σ) ∧ (¬ ((σ 0) ((0 : Int32)).toNatClampNeg) ≤ x3 → w_X7_at x3 (fun r6 => ((x1 = 0 → w_X7_setLatches_J31 Q K2 σ x1 x2 x3 ((8 : Int32)) r6) ∧ (¬ x1 = 0 → w_X7_setLatches_J31 Q K2 σ x1 x2 x3 ((7 : Int32)) r6)))))
def w_X7_setLatches (σ : Nat → Nat → Int32) (x1 x2 : Int32) (Q : (Nat → Nat → Int32) → Prop) : Prop :=
  wLoop (fun K s => w_X7_setLatches_L2 Q (fun v0 v1 v2 v3 => K (v0, v1, v2, v3)) s.1 s.2.1 s.2.2.1 s.2.2.2) (σ, x1, x2, (0 : Int32))
set_option maxHeartbeats 4000000 in
theorem k_X7_setLatches_J31 {x : vC} {l : Launch} {D : va_G} {a : Nat → Nat}  {Q : (Nat → Nat → Int32) → Prop} (hF : vF x l D "BrookWeirsModel" cX7_setLatches (rmk 1 0 0 20) 4 none) (hR : vRv x (moW D a) Q 0 0) {K2 : (Nat → Nat → Int32) → Int32 → Int32 → Int32 → Prop} (hK2 : ∀ (σ : Nat → Nat → Int32) (x1 x2 x3 : Int32), K2 σ x1 x2 x3 → vV x 0 0 (moW D a σ ++ []) [(0, .ref (a 0)), (1, .int x1), (2, .int x2), (3, .int x3)] 2 []) : ∀ (σ : Nat → Nat → Int32) (x1 x2 x3 s2 s1 : Int32), w_X7_setLatches_J31 Q K2 σ x1 x2 x3 s2 s1 → vV x 0 0 (moW D a σ ++ []) [(0, .ref (a 0)), (1, .int x1), (2, .int x2), (3, .int x3)] 31 [.int s2, .int s1, .ref (a 1)] := by
  intro σ x1 x2 x3 s2 s1 h
  unfold w_X7_setLatches_J31 at h
  refine v_iadd 31 hF dX7_setLatches_31 ?_
  refine v_iload_n 32 hF dX7_setLatches_32 rfl 2 rfl ?_
  refine v_iload_n 33 hF dX7_setLatches_33 rfl 3 rfl ?_
  refine v_ishr 34 hF dX7_setLatches_34 ?_
  refine v_iconst (v := 1) 35 hF dX7_setLatches_35 (by decide) ?_
  refine v_iand 36 hF dX7_setLatches_36 ?_
  obtain ⟨o1, h⟩ := h
  refine M_ast0 37 hF o1 dX7_setLatches_37 (fun t2 et2 => ?_)
  replace h := h t2 et2
  obtain ⟨y3, ey3⟩ : ∃ y : Int32, y = x3 + (1 : Int32) := ⟨_, rfl⟩
  replace h := h y3 ey3
  refine v_iinc [(0, .ref (a 0)), (1, .int x1), (2, .int x2), (3, .int y3)] [1, 2, 3, 0] 38 hF dX7_setLatches_38 3 rfl (by rw [ey3]; rfl) (Nat.le_of_ble_eq_true rfl) rfl ?_
  refine v_goto 41 2 hF dX7_setLatches_41 (by decide) ?_
  exact hK2 _ _ _ _ h
set_option maxHeartbeats 4000000 in
theorem k_X7_setLatches_L2 {x : vC} {l : Launch} {D : va_G} {a : Nat → Nat}  {Q : (Nat → Nat → Int32) → Prop} (hF : vF x l D "BrookWeirsModel" cX7_setLatches (rmk 1 0 0 20) 4 none) (hR : vRv x (moW D a) Q 0 0) {K2 : (Nat → Nat → Int32) → Int32 → Int32 → Int32 → Prop} (hK2 : ∀ (σ : Nat → Nat → Int32) (x1 x2 x3 : Int32), K2 σ x1 x2 x3 → vV x 0 0 (moW D a σ ++ []) [(0, .ref (a 0)), (1, .int x1), (2, .int x2), (3, .int x3)] 2 []) : ∀ (σ : Nat → Nat → Int32) (x1 x2 x3 : Int32), w_X7_setLatches_L2 Q K2 σ x1 x2 x3 → vV x 0 0 (moW D a σ ++ []) [(0, .ref (a 0)), (1, .int x1), (2, .int x2), (3, .int x3)] 2 [] := by
  intro σ x1 x2 x3 h
  unfold w_X7_setLatches_L2 at h
  refine v_iload_n 2 hF dX7_setLatches_2 rfl 3 rfl ?_
  refine v_aload_n 3 hF dX7_setLatches_3 rfl 0 rfl ?_
  refine M_get 4 0 hF (Nat.le_of_ble_eq_true rfl) q1904 rfl rfl dX7_setLatches_4 ?_
  refine v_iconst (v := 0) 7 hF dX7_setLatches_7 (by decide) ?_
  obtain ⟨o4, h⟩ := h
  refine M_ald0 8 hF o4 dX7_setLatches_8 ?_
  refine v_icmp_ge 9 44 hF dX7_setLatches_9 (by decide) (fun c5 => ?_) (fun c5 => ?_)
  · replace h := h.1 c5
    exact v_vretA 44 hF hR (Nat.zero_le _) (Nat.zero_le _) dX7_setLatches_44 h
  · replace h := h.2 c5
    refine v_aload_n 12 hF dX7_setLatches_12 rfl 0 rfl ?_
    refine M_get 13 0 hF (Nat.le_of_ble_eq_true rfl) q1904 rfl rfl dX7_setLatches_13 ?_
    refine v_iload_n 16 hF dX7_setLatches_16 rfl 3 rfl ?_
    refine v_callS0i (As := [.int x3]) 17 hF (c_X7_at l D x3 _ h) q1980 q1981 q82 q1982 ds_X7_at ⟨rfl, rfl, Nat.le_of_ble_eq_true rfl, Nat.le_of_ble_eq_true rfl⟩ (Nat.le_of_ble_eq_true rfl) ⟨Nat.zero_le _, Nat.zero_le _⟩ dX7_setLatches_17 (fun r6 h => ?_)
    refine v_iload_n 20 hF dX7_setLatches_20 rfl 1 rfl ?_
    refine v_if_eq 21 29 hF dX7_setLatches_21 (by decide) (fun c7 => ?_) (fun c7 => ?_)
    · replace h := h.1 c7
      refine v_bipush (v := 8) 29 hF dX7_setLatches_29 (by decide) ?_
      exact k_X7_setLatches_J31 hF hR hK2 _ _ _ _ _ _ h
    · replace h := h.2 c7
      refine v_bipush (v := 7) 24 hF dX7_setLatches_24 (by decide) ?_
      refine v_goto 26 31 hF dX7_setLatches_26 (by decide) ?_
      exact k_X7_setLatches_J31 hF hR hK2 _ _ _ _ _ _ h
theorem ds_X7_setLatches : yX7_setLatches.cls = yX7_setLatches.cls ∧ yX7_setLatches.cls ≠ "java/lang/invoke/MethodHandle" ∧ yX7_setLatches.cls ≠ "java/lang/invoke/VarHandle" ∧ (parseMethodDescriptor yX7_setLatches.desc).map (fun d => d.parameters.length) = some 2 := by decide +kernel
set_option maxHeartbeats 4000000 in
theorem c_X7_setLatches (l : Launch) (D : va_G) (a : Nat → Nat) (σ : Nat → Nat → Int32) (x1 x2 : Int32) (Q : (Nat → Nat → Int32) → Prop) (h : w_X7_setLatches σ x1 x2 Q) : Ctv l D yX7_setLatches cX7_setLatches 4 (rmk 1 0 0 20) [.ref (a 0), .int x1, .int x2] (moW D a σ) (moW D a) Q 0 0 := by
  refine Ctv.of (by decide) (Nat.le_of_ble_eq_true rfl) (fun x hF hR => ?_)
  replace hF : vF x l D "BrookWeirsModel" cX7_setLatches (rmk 1 0 0 20) 4 none := hF
  refine v_app0 ?_
  unfold w_X7_setLatches at h
  refine v_iconst (v := 0) 0 hF dX7_setLatches_0 (by decide) ?_
  refine v_istore_n [(0, .ref (a 0)), (1, .int x1), (2, .int x2), (3, .int ((0 : Int32)))] [1, 2, 3, 0] 1 hF dX7_setLatches_1 rfl (Nat.le_of_ble_eq_true rfl) rfl ?_
  exact vLoop (V := fun s => vV x 0 0 (moW D a s.1 ++ []) [(0, .ref (a 0)), (1, .int s.2.1), (2, .int s.2.2.1), (3, .int s.2.2.2)] 2 []) (fun K hK s hs => k_X7_setLatches_L2 hF hR (fun v0 v1 v2 v3 q => hK (v0, v1, v2, v3) q) s.1 s.2.1 s.2.2.1 s.2.2.2 hs) _ h
def w_X7_frogsOfAll_L4 (Q : Int32 → (Nat → Nat → Int32) → Prop) (K4 : (Nat → Nat → Int32) → Int32 → Int32 → Prop) (σ : Nat → Nat → Int32) (x1 x2 : Int32) : Prop :=
  vp_in ((0 : Int32)) 156 ∧ ((((σ 0) ((0 : Int32)).toNatClampNeg) ≤ x2 → Q x1 σ) ∧ (¬ ((σ 0) ((0 : Int32)).toNatClampNeg) ≤ x2 → w_X7_get σ x2 ((5 : Int32)) (fun r3 t4 => ∀ y5 : Int32, y5 = (x1 + r3) → ∀ y6 : Int32, y6 = x2 + (1 : Int32) → K4 t4 y5 y6)))
def w_X7_frogsOfAll (σ : Nat → Nat → Int32) (Q : Int32 → (Nat → Nat → Int32) → Prop) : Prop :=
  wLoop (fun K s => w_X7_frogsOfAll_L4 Q (fun v0 v1 v2 => K (v0, v1, v2)) s.1 s.2.1 s.2.2) (σ, (0 : Int32), (0 : Int32))
set_option maxHeartbeats 4000000 in
theorem k_X7_frogsOfAll_L4 {x : vC} {l : Launch} {D : va_G} {a : Nat → Nat}  {Q : Int32 → (Nat → Nat → Int32) → Prop} (hF : vF x l D "BrookWeirsModel" cX7_frogsOfAll (rmk 2 0 0 42) 3 (some .int)) (hR : vRi x (moW D a) Q 0 0) {K4 : (Nat → Nat → Int32) → Int32 → Int32 → Prop} (hK4 : ∀ (σ : Nat → Nat → Int32) (x1 x2 : Int32), K4 σ x1 x2 → vV x 0 0 (moW D a σ ++ []) [(0, .ref (a 0)), (1, .int x1), (2, .int x2)] 4 []) : ∀ (σ : Nat → Nat → Int32) (x1 x2 : Int32), w_X7_frogsOfAll_L4 Q K4 σ x1 x2 → vV x 0 0 (moW D a σ ++ []) [(0, .ref (a 0)), (1, .int x1), (2, .int x2)] 4 [] := by
  intro σ x1 x2 h
  unfold w_X7_frogsOfAll_L4 at h
  refine v_iload_n 4 hF dX7_frogsOfAll_4 rfl 2 rfl ?_
  refine v_aload_n 5 hF dX7_frogsOfAll_5 rfl 0 rfl ?_
  refine M_get 6 0 hF (Nat.le_of_ble_eq_true rfl) q1904 rfl rfl dX7_frogsOfAll_6 ?_
  refine v_iconst (v := 0) 9 hF dX7_frogsOfAll_9 (by decide) ?_
  obtain ⟨o1, h⟩ := h
  refine M_ald0 10 hF o1 dX7_frogsOfAll_10 ?_
  refine v_icmp_ge 11 29 hF dX7_frogsOfAll_11 (by decide) (fun c2 => ?_) (fun c2 => ?_)
  · replace h := h.1 c2
    refine v_iload_n 29 hF dX7_frogsOfAll_29 rfl 1 rfl ?_
    exact v_iretA 30 hF hR (Nat.zero_le _) (Nat.zero_le _) dX7_frogsOfAll_30 h
  · replace h := h.2 c2
    refine v_iload_n 14 hF dX7_frogsOfAll_14 rfl 1 rfl ?_
    refine v_aload_n 15 hF dX7_frogsOfAll_15 rfl 0 rfl ?_
    refine v_iload_n 16 hF dX7_frogsOfAll_16 rfl 2 rfl ?_
    refine v_iconst (v := 5) 17 hF dX7_frogsOfAll_17 (by decide) ?_
    refine v_callVi (As := [.int x2, .int ((5 : Int32))]) 18 hF (c_X7_get l D a σ x2 ((5 : Int32)) _ h) (List.Perm.refl _) ⟨0, 10, _, TX7, 18, rfl, rfl⟩ q1999 q2001 qs35 q82 q2002 ds_X7_get ⟨rfl, rfl, Nat.le_of_ble_eq_true rfl, Nat.le_of_ble_eq_true rfl⟩ (Nat.le_of_ble_eq_true rfl) ⟨Nat.zero_le _, Nat.zero_le _⟩ dX7_frogsOfAll_18 (fun r3 t4 h => ?_)
    refine v_iadd 21 hF dX7_frogsOfAll_21 ?_
    refine v_nm (fun y5 ey5 => ?_)
    replace h := h y5 ey5
    refine v_istore_n [(0, .ref (a 0)), (1, .int y5), (2, .int x2)] [1, 0, 2] 22 hF dX7_frogsOfAll_22 rfl (Nat.le_of_ble_eq_true rfl) rfl ?_
    obtain ⟨y6, ey6⟩ : ∃ y : Int32, y = x2 + (1 : Int32) := ⟨_, rfl⟩
    replace h := h y6 ey6
    refine v_iinc [(0, .ref (a 0)), (1, .int y5), (2, .int y6)] [1, 2, 0] 23 hF dX7_frogsOfAll_23 2 rfl (by rw [ey6]; rfl) (Nat.le_of_ble_eq_true rfl) rfl ?_
    refine v_goto 26 4 hF dX7_frogsOfAll_26 (by decide) ?_
    exact hK4 _ _ _ h
theorem ds_X7_frogsOfAll : yX7_frogsOfAll.cls = yX7_frogsOfAll.cls ∧ yX7_frogsOfAll.cls ≠ "java/lang/invoke/MethodHandle" ∧ yX7_frogsOfAll.cls ≠ "java/lang/invoke/VarHandle" ∧ (parseMethodDescriptor yX7_frogsOfAll.desc).map (fun d => d.parameters.length) = some 0 := by decide +kernel
set_option maxHeartbeats 4000000 in
theorem c_X7_frogsOfAll (l : Launch) (D : va_G) (a : Nat → Nat) (σ : Nat → Nat → Int32) (Q : Int32 → (Nat → Nat → Int32) → Prop) (h : w_X7_frogsOfAll σ Q) : Cti l D yX7_frogsOfAll cX7_frogsOfAll 3 .int (rmk 2 0 0 42) [.ref (a 0)] (moW D a σ) (moW D a) Q 0 0 := by
  refine Cti.of (by decide) (Nat.le_of_ble_eq_true rfl) (fun x hF hR => ?_)
  replace hF : vF x l D "BrookWeirsModel" cX7_frogsOfAll (rmk 2 0 0 42) 3 (some .int) := hF
  refine v_app0 ?_
  unfold w_X7_frogsOfAll at h
  refine v_iconst (v := 0) 0 hF dX7_frogsOfAll_0 (by decide) ?_
  refine v_istore_n [(0, .ref (a 0)), (1, .int ((0 : Int32)))] [1, 0] 1 hF dX7_frogsOfAll_1 rfl (Nat.le_of_ble_eq_true rfl) rfl ?_
  refine v_iconst (v := 0) 2 hF dX7_frogsOfAll_2 (by decide) ?_
  refine v_istore_n [(0, .ref (a 0)), (1, .int ((0 : Int32))), (2, .int ((0 : Int32)))] [1, 2, 0] 3 hF dX7_frogsOfAll_3 rfl (Nat.le_of_ble_eq_true rfl) rfl ?_
  exact vLoop (V := fun s => vV x 0 0 (moW D a s.1 ++ []) [(0, .ref (a 0)), (1, .int s.2.1), (2, .int s.2.2)] 4 []) (fun K hK s hs => k_X7_frogsOfAll_L4 hF hR (fun v0 v1 v2 q => hK (v0, v1, v2) q) s.1 s.2.1 s.2.2 hs) _ h
def w_X7_latches_L4 (Q : Int32 → (Nat → Nat → Int32) → Prop) (K4 : (Nat → Nat → Int32) → Int32 → Int32 → Int32 → Prop) (σ : Nat → Nat → Int32) (x1 x2 x3 : Int32) : Prop :=
  vp_in ((0 : Int32)) 156 ∧ ((((σ 0) ((0 : Int32)).toNatClampNeg) ≤ x3 → Q x2 σ) ∧ (¬ ((σ 0) ((0 : Int32)).toNatClampNeg) ≤ x3 → ((x1 = 0 → w_X7_get σ x3 ((8 : Int32)) (fun r4 t5 => ∀ y6 : Int32, y6 = (x2 ||| (r4 <<< (x3 &&& 31))) → ∀ y7 : Int32, y7 = x3 + (1 : Int32) → K4 t5 x1 y6 y7)) ∧ (¬ x1 = 0 → w_X7_get σ x3 ((7 : Int32)) (fun r8 t9 => ∀ y10 : Int32, y10 = (x2 ||| (r8 <<< (x3 &&& 31))) → ∀ y11 : Int32, y11 = x3 + (1 : Int32) → K4 t9 x1 y10 y11)))))
def w_X7_latches (σ : Nat → Nat → Int32) (x1 : Int32) (Q : Int32 → (Nat → Nat → Int32) → Prop) : Prop :=
  wLoop (fun K s => w_X7_latches_L4 Q (fun v0 v1 v2 v3 => K (v0, v1, v2, v3)) s.1 s.2.1 s.2.2.1 s.2.2.2) (σ, x1, (0 : Int32), (0 : Int32))
set_option maxHeartbeats 4000000 in
theorem k_X7_latches_L4 {x : vC} {l : Launch} {D : va_G} {a : Nat → Nat}  {Q : Int32 → (Nat → Nat → Int32) → Prop} (hF : vF x l D "BrookWeirsModel" cX7_latches (rmk 2 0 0 42) 4 (some .int)) (hR : vRi x (moW D a) Q 0 0) {K4 : (Nat → Nat → Int32) → Int32 → Int32 → Int32 → Prop} (hK4 : ∀ (σ : Nat → Nat → Int32) (x1 x2 x3 : Int32), K4 σ x1 x2 x3 → vV x 0 0 (moW D a σ ++ []) [(0, .ref (a 0)), (1, .int x1), (2, .int x2), (3, .int x3)] 4 []) : ∀ (σ : Nat → Nat → Int32) (x1 x2 x3 : Int32), w_X7_latches_L4 Q K4 σ x1 x2 x3 → vV x 0 0 (moW D a σ ++ []) [(0, .ref (a 0)), (1, .int x1), (2, .int x2), (3, .int x3)] 4 [] := by
  intro σ x1 x2 x3 h
  unfold w_X7_latches_L4 at h
  refine v_iload_n 4 hF dX7_latches_4 rfl 3 rfl ?_
  refine v_aload_n 5 hF dX7_latches_5 rfl 0 rfl ?_
  refine M_get 6 0 hF (Nat.le_of_ble_eq_true rfl) q1904 rfl rfl dX7_latches_6 ?_
  refine v_iconst (v := 0) 9 hF dX7_latches_9 (by decide) ?_
  obtain ⟨o1, h⟩ := h
  refine M_ald0 10 hF o1 dX7_latches_10 ?_
  refine v_icmp_ge 11 41 hF dX7_latches_11 (by decide) (fun c2 => ?_) (fun c2 => ?_)
  · replace h := h.1 c2
    refine v_iload_n 41 hF dX7_latches_41 rfl 2 rfl ?_
    exact v_iretA 42 hF hR (Nat.zero_le _) (Nat.zero_le _) dX7_latches_42 h
  · replace h := h.2 c2
    refine v_iload_n 14 hF dX7_latches_14 rfl 2 rfl ?_
    refine v_aload_n 15 hF dX7_latches_15 rfl 0 rfl ?_
    refine v_iload_n 16 hF dX7_latches_16 rfl 3 rfl ?_
    refine v_iload_n 17 hF dX7_latches_17 rfl 1 rfl ?_
    refine v_if_eq 18 26 hF dX7_latches_18 (by decide) (fun c3 => ?_) (fun c3 => ?_)
    · replace h := h.1 c3
      refine v_bipush (v := 8) 26 hF dX7_latches_26 (by decide) ?_
      refine v_callVi (As := [.int x3, .int ((8 : Int32))]) 28 hF (c_X7_get l D a σ x3 ((8 : Int32)) _ h) (List.Perm.refl _) ⟨0, 10, _, TX7, 18, rfl, rfl⟩ q1999 q2001 qs35 q82 q2002 ds_X7_get ⟨rfl, rfl, Nat.le_of_ble_eq_true rfl, Nat.le_of_ble_eq_true rfl⟩ (Nat.le_of_ble_eq_true rfl) ⟨Nat.zero_le _, Nat.zero_le _⟩ dX7_latches_28 (fun r4 t5 h => ?_)
      refine v_iload_n 31 hF dX7_latches_31 rfl 3 rfl ?_
      refine v_ishl 32 hF dX7_latches_32 ?_
      refine v_ior 33 hF dX7_latches_33 ?_
      refine v_nm (fun y6 ey6 => ?_)
      replace h := h y6 ey6
      refine v_istore_n [(0, .ref (a 0)), (1, .int x1), (2, .int y6), (3, .int x3)] [1, 2, 0, 3] 34 hF dX7_latches_34 rfl (Nat.le_of_ble_eq_true rfl) rfl ?_
      obtain ⟨y7, ey7⟩ : ∃ y : Int32, y = x3 + (1 : Int32) := ⟨_, rfl⟩
      replace h := h y7 ey7
      refine v_iinc [(0, .ref (a 0)), (1, .int x1), (2, .int y6), (3, .int y7)] [1, 2, 3, 0] 35 hF dX7_latches_35 3 rfl (by rw [ey7]; rfl) (Nat.le_of_ble_eq_true rfl) rfl ?_
      refine v_goto 38 4 hF dX7_latches_38 (by decide) ?_
      exact hK4 _ _ _ _ h
    · replace h := h.2 c3
      refine v_bipush (v := 7) 21 hF dX7_latches_21 (by decide) ?_
      refine v_goto 23 28 hF dX7_latches_23 (by decide) ?_
      refine v_callVi (As := [.int x3, .int ((7 : Int32))]) 28 hF (c_X7_get l D a σ x3 ((7 : Int32)) _ h) (List.Perm.refl _) ⟨0, 10, _, TX7, 18, rfl, rfl⟩ q1999 q2001 qs35 q82 q2002 ds_X7_get ⟨rfl, rfl, Nat.le_of_ble_eq_true rfl, Nat.le_of_ble_eq_true rfl⟩ (Nat.le_of_ble_eq_true rfl) ⟨Nat.zero_le _, Nat.zero_le _⟩ dX7_latches_28 (fun r8 t9 h => ?_)
      refine v_iload_n 31 hF dX7_latches_31 rfl 3 rfl ?_
      refine v_ishl 32 hF dX7_latches_32 ?_
      refine v_ior 33 hF dX7_latches_33 ?_
      refine v_nm (fun y10 ey10 => ?_)
      replace h := h y10 ey10
      refine v_istore_n [(0, .ref (a 0)), (1, .int x1), (2, .int y10), (3, .int x3)] [1, 2, 0, 3] 34 hF dX7_latches_34 rfl (Nat.le_of_ble_eq_true rfl) rfl ?_
      obtain ⟨y11, ey11⟩ : ∃ y : Int32, y = x3 + (1 : Int32) := ⟨_, rfl⟩
      replace h := h y11 ey11
      refine v_iinc [(0, .ref (a 0)), (1, .int x1), (2, .int y10), (3, .int y11)] [1, 2, 3, 0] 35 hF dX7_latches_35 3 rfl (by rw [ey11]; rfl) (Nat.le_of_ble_eq_true rfl) rfl ?_
      refine v_goto 38 4 hF dX7_latches_38 (by decide) ?_
      exact hK4 _ _ _ _ h
theorem ds_X7_latches : yX7_latches.cls = yX7_latches.cls ∧ yX7_latches.cls ≠ "java/lang/invoke/MethodHandle" ∧ yX7_latches.cls ≠ "java/lang/invoke/VarHandle" ∧ (parseMethodDescriptor yX7_latches.desc).map (fun d => d.parameters.length) = some 1 := by decide +kernel
set_option maxHeartbeats 4000000 in
theorem c_X7_latches (l : Launch) (D : va_G) (a : Nat → Nat) (σ : Nat → Nat → Int32) (x1 : Int32) (Q : Int32 → (Nat → Nat → Int32) → Prop) (h : w_X7_latches σ x1 Q) : Cti l D yX7_latches cX7_latches 4 .int (rmk 2 0 0 42) [.ref (a 0), .int x1] (moW D a σ) (moW D a) Q 0 0 := by
  refine Cti.of (by decide) (Nat.le_of_ble_eq_true rfl) (fun x hF hR => ?_)
  replace hF : vF x l D "BrookWeirsModel" cX7_latches (rmk 2 0 0 42) 4 (some .int) := hF
  refine v_app0 ?_
  unfold w_X7_latches at h
  refine v_iconst (v := 0) 0 hF dX7_latches_0 (by decide) ?_
  refine v_istore_n [(0, .ref (a 0)), (1, .int x1), (2, .int ((0 : Int32)))] [1, 2, 0] 1 hF dX7_latches_1 rfl (Nat.le_of_ble_eq_true rfl) rfl ?_
  refine v_iconst (v := 0) 2 hF dX7_latches_2 (by decide) ?_
  refine v_istore_n [(0, .ref (a 0)), (1, .int x1), (2, .int ((0 : Int32))), (3, .int ((0 : Int32)))] [1, 2, 3, 0] 3 hF dX7_latches_3 rfl (Nat.le_of_ble_eq_true rfl) rfl ?_
  exact vLoop (V := fun s => vV x 0 0 (moW D a s.1 ++ []) [(0, .ref (a 0)), (1, .int s.2.1), (2, .int s.2.2.1), (3, .int s.2.2.2)] 4 []) (fun K hK s hs => k_X7_latches_L4 hF hR (fun v0 v1 v2 v3 q => hK (v0, v1, v2, v3) q) s.1 s.2.1 s.2.2.1 s.2.2.2 hs) _ h
