set_option maxRecDepth 100000
def w_X7_oneOf0_J46 (Q : Int32 → (Nat → Nat → Int32) → Prop)  (σ : Nat → Nat → Int32) (x2 s1 : Int32) : Prop :=
  (s1 = 0 ∨ s1 = 1) ∧ ∀ t2 : Nat → Nat → Int32, t2 = (upN σ 20 14 s1) → (((t2 20 14) = 0 → ∀ t4 : Nat → Nat → Int32, t4 = (upN t2 20 13 ((t2 20 13) + (1 : Int32))) → Q x2 t4) ∧ (¬ (t2 20 14) = 0 → ∀ t5 : Nat → Nat → Int32, t5 = (upN t2 20 13 ((t2 20 13) + (0 : Int32))) → Q x2 t5))
def w_X7_oneOf0_J35 (Q : Int32 → (Nat → Nat → Int32) → Prop)  (σ : Nat → Nat → Int32) (s0 : Int32) : Prop :=
  ((0 ≤ s0 → w_X7_oneOf0_J46 Q σ s0 ((0 : Int32))) ∧ (¬ 0 ≤ s0 → w_X7_oneOf0_J46 Q σ s0 ((1 : Int32))))
def w_X7_oneOf0_J34 (Q : Int32 → (Nat → Nat → Int32) → Prop)  (σ : Nat → Nat → Int32)  : Prop :=
  w_X7_oneOf0_J35 Q σ ((-1 : Int32))
def w_X7_oneOf0 (σ : Nat → Nat → Int32) (Q : Int32 → (Nat → Nat → Int32) → Prop) : Prop :=
  ((¬ (σ 20 14) = 0 → w_X7_oneOf0_J34 Q σ) ∧ ((σ 20 14) = 0 → (((σ 20 12) ≤ (σ 20 13) → w_X7_oneOf0_J34 Q σ) ∧ (¬ (σ 20 12) ≤ (σ 20 13) → vp_in ((σ 20 13)) 60 ∧ w_J4_indexOf 0 (((σ 11) ((σ 20 13)).toNatClampNeg)) (fun r10 _ => w_X7_oneOf0_J35 Q σ r10)))))
set_option maxHeartbeats 4000000 in
theorem k_X7_oneOf0_J46 {x : vC} {l : Launch} {D : va_G} {a : Nat → Nat}  {Q : Int32 → (Nat → Nat → Int32) → Prop} (hF : vF x l D "BrookWeirsModel" cX7_oneOf (rmk 4 0 0 130) 3 (some .int)) (hR : vRi x (moW D a) Q 0 0)   : ∀ (σ : Nat → Nat → Int32) (x2 s1 : Int32), w_X7_oneOf0_J46 Q  σ x2 s1 → vV x 0 0 (moW D a σ ++ []) [(0, .ref (a 0)), (1, .ref (D.2 1003 0)), (2, .int x2)] 46 [.int s1, .ref (a 0)] := by
  intro σ x2 s1 h
  unfold w_X7_oneOf0_J46 at h
  obtain ⟨o1, h⟩ := h
  refine M_put14 46 hF q1918 o1 dX7_oneOf_46 (fun t2 et2 => ?_)
  replace h := h t2 et2
  refine v_aload_n 49 hF dX7_oneOf_49 rfl 0 rfl ?_
  refine v_dup 50 hF dX7_oneOf_50 rfl ?_
  refine M_get 51 13 hF (Nat.le_of_ble_eq_true rfl) q1917 rfl rfl dX7_oneOf_51 ?_
  refine v_aload_n 54 hF dX7_oneOf_54 rfl 0 rfl ?_
  refine M_get 55 14 hF (Nat.le_of_ble_eq_true rfl) q1918 rfl rfl dX7_oneOf_55 ?_
  refine v_if_eq 58 65 hF dX7_oneOf_58 (by decide) (fun c3 => ?_) (fun c3 => ?_)
  · replace h := h.1 c3
    refine v_iconst (v := 1) 65 hF dX7_oneOf_65 (by decide) ?_
    refine v_iadd 66 hF dX7_oneOf_66 ?_
    refine M_put13 67 hF q1917 dX7_oneOf_67 (fun t4 et4 => ?_)
    replace h := h t4 et4
    refine v_iload_n 70 hF dX7_oneOf_70 rfl 2 rfl ?_
    exact v_iretA 71 hF hR (Nat.zero_le _) (Nat.zero_le _) dX7_oneOf_71 h
  · replace h := h.2 c3
    refine v_iconst (v := 0) 61 hF dX7_oneOf_61 (by decide) ?_
    refine v_goto 62 66 hF dX7_oneOf_62 (by decide) ?_
    refine v_iadd 66 hF dX7_oneOf_66 ?_
    refine M_put13 67 hF q1917 dX7_oneOf_67 (fun t5 et5 => ?_)
    replace h := h t5 et5
    refine v_iload_n 70 hF dX7_oneOf_70 rfl 2 rfl ?_
    exact v_iretA 71 hF hR (Nat.zero_le _) (Nat.zero_le _) dX7_oneOf_71 h
set_option maxHeartbeats 4000000 in
theorem k_X7_oneOf0_J35 {x : vC} {l : Launch} {D : va_G} {a : Nat → Nat}  {Q : Int32 → (Nat → Nat → Int32) → Prop} (hF : vF x l D "BrookWeirsModel" cX7_oneOf (rmk 4 0 0 130) 3 (some .int)) (hR : vRi x (moW D a) Q 0 0)   : ∀ (σ : Nat → Nat → Int32) (s0 : Int32), w_X7_oneOf0_J35 Q  σ s0 → vV x 0 0 (moW D a σ ++ []) [(0, .ref (a 0)), (1, .ref (D.2 1003 0))] 35 [.int s0] := by
  intro σ s0 h
  unfold w_X7_oneOf0_J35 at h
  refine v_istore_n [(0, .ref (a 0)), (1, .ref (D.2 1003 0)), (2, .int s0)] [1, 2, 0] 35 hF dX7_oneOf_35 rfl (Nat.le_of_ble_eq_true rfl) rfl ?_
  refine v_aload_n 36 hF dX7_oneOf_36 rfl 0 rfl ?_
  refine v_iload_n 37 hF dX7_oneOf_37 rfl 2 rfl ?_
  refine v_if_ge 38 45 hF dX7_oneOf_38 (by decide) (fun c6 => ?_) (fun c6 => ?_)
  · replace h := h.1 c6
    refine v_iconst (v := 0) 45 hF dX7_oneOf_45 (by decide) ?_
    exact k_X7_oneOf0_J46 hF hR _ _ _ h
  · replace h := h.2 c6
    refine v_iconst (v := 1) 41 hF dX7_oneOf_41 (by decide) ?_
    refine v_goto 42 46 hF dX7_oneOf_42 (by decide) ?_
    exact k_X7_oneOf0_J46 hF hR _ _ _ h
set_option maxHeartbeats 4000000 in
theorem k_X7_oneOf0_J34 {x : vC} {l : Launch} {D : va_G} {a : Nat → Nat}  {Q : Int32 → (Nat → Nat → Int32) → Prop} (hF : vF x l D "BrookWeirsModel" cX7_oneOf (rmk 4 0 0 130) 3 (some .int)) (hR : vRi x (moW D a) Q 0 0)   : ∀ (σ : Nat → Nat → Int32), w_X7_oneOf0_J34 Q  σ → vV x 0 0 (moW D a σ ++ []) [(0, .ref (a 0)), (1, .ref (D.2 1003 0))] 34 [] := by
  intro σ h
  unfold w_X7_oneOf0_J34 at h
  refine v_iconst (v := -1) 34 hF dX7_oneOf_34 (by decide) ?_
  exact k_X7_oneOf0_J35 hF hR _ _ h
theorem ds_X7_oneOf : yX7_oneOf.cls = yX7_oneOf.cls ∧ yX7_oneOf.cls ≠ "java/lang/invoke/MethodHandle" ∧ yX7_oneOf.cls ≠ "java/lang/invoke/VarHandle" ∧ (parseMethodDescriptor yX7_oneOf.desc).map (fun d => d.parameters.length) = some 1 := by decide +kernel
set_option maxHeartbeats 4000000 in
theorem c_X7_oneOf0 (l : Launch) (D : va_G) (a : Nat → Nat) (σ : Nat → Nat → Int32) (Q : Int32 → (Nat → Nat → Int32) → Prop) (h : w_X7_oneOf0 σ Q) : Cti l D yX7_oneOf cX7_oneOf 3 .int (rmk 4 0 0 130) [.ref (a 0), .ref (D.2 1003 0)] (moW D a σ) (moW D a) Q 0 0 := by
  refine Cti.of (by decide) (Nat.le_of_ble_eq_true rfl) (fun x hF hR => ?_)
  replace hF : vF x l D "BrookWeirsModel" cX7_oneOf (rmk 4 0 0 130) 3 (some .int) := hF
  refine v_app0 ?_
  unfold w_X7_oneOf0 at h
  refine v_aload_n 0 hF dX7_oneOf_0 rfl 0 rfl ?_
  refine M_get 1 14 hF (Nat.le_of_ble_eq_true rfl) q1918 rfl rfl dX7_oneOf_1 ?_
  refine v_if_ne 4 34 hF dX7_oneOf_4 (by decide) (fun c7 => ?_) (fun c7 => ?_)
  · replace h := h.1 c7
    exact k_X7_oneOf0_J34 hF hR _ h
  · replace h := h.2 c7
    refine v_aload_n 7 hF dX7_oneOf_7 rfl 0 rfl ?_
    refine M_get 8 13 hF (Nat.le_of_ble_eq_true rfl) q1917 rfl rfl dX7_oneOf_8 ?_
    refine v_aload_n 11 hF dX7_oneOf_11 rfl 0 rfl ?_
    refine M_get 12 12 hF (Nat.le_of_ble_eq_true rfl) q1916 rfl rfl dX7_oneOf_12 ?_
    refine v_icmp_ge 15 34 hF dX7_oneOf_15 (by decide) (fun c8 => ?_) (fun c8 => ?_)
    · replace h := h.1 c8
      exact k_X7_oneOf0_J34 hF hR _ h
    · replace h := h.2 c8
      refine v_aload_n 18 hF dX7_oneOf_18 rfl 1 rfl ?_
      refine v_aload_n 19 hF dX7_oneOf_19 rfl 0 rfl ?_
      refine M_get 20 11 hF (Nat.le_of_ble_eq_true rfl) q1915 rfl rfl dX7_oneOf_20 ?_
      refine v_aload_n 23 hF dX7_oneOf_23 rfl 0 rfl ?_
      refine M_get 24 13 hF (Nat.le_of_ble_eq_true rfl) q1917 rfl rfl dX7_oneOf_24 ?_
      obtain ⟨o9, h⟩ := h
      refine M_ald11 27 hF o9 dX7_oneOf_27 ?_
      refine v_callKi (As := [.int (((σ 11) ((σ 20 13)).toNatClampNeg))]) (wr := (moW D a σ ++ [])) 28 hF (c_J4_indexOf l D 0 (by decide) (((σ 11) ((σ 20 13)).toNatClampNeg)) _ h) (List.Perm.refl _) (by decide) rfl q2217 q2218 q2219 q77 q2220 ds_J4_indexOf ⟨rfl, rfl, (Nat.le_of_ble_eq_true rfl), (Nat.le_of_ble_eq_true rfl)⟩ (Nat.le_of_ble_eq_true rfl) ⟨Nat.zero_le _, Nat.zero_le _⟩ dX7_oneOf_28 (fun r10 _ h => ?_)
      refine v_eqw (ws1 := (moW D a σ ++ [])) rfl ?_
      refine v_goto 31 35 hF dX7_oneOf_31 (by decide) ?_
      exact k_X7_oneOf0_J35 hF hR _ _ h
def w_X7_oneOf1_J46 (Q : Int32 → (Nat → Nat → Int32) → Prop)  (σ : Nat → Nat → Int32) (x2 s1 : Int32) : Prop :=
  (s1 = 0 ∨ s1 = 1) ∧ ∀ t2 : Nat → Nat → Int32, t2 = (upN σ 20 14 s1) → (((t2 20 14) = 0 → ∀ t4 : Nat → Nat → Int32, t4 = (upN t2 20 13 ((t2 20 13) + (1 : Int32))) → Q x2 t4) ∧ (¬ (t2 20 14) = 0 → ∀ t5 : Nat → Nat → Int32, t5 = (upN t2 20 13 ((t2 20 13) + (0 : Int32))) → Q x2 t5))
def w_X7_oneOf1_J35 (Q : Int32 → (Nat → Nat → Int32) → Prop)  (σ : Nat → Nat → Int32) (s0 : Int32) : Prop :=
  ((0 ≤ s0 → w_X7_oneOf1_J46 Q σ s0 ((0 : Int32))) ∧ (¬ 0 ≤ s0 → w_X7_oneOf1_J46 Q σ s0 ((1 : Int32))))
def w_X7_oneOf1_J34 (Q : Int32 → (Nat → Nat → Int32) → Prop)  (σ : Nat → Nat → Int32)  : Prop :=
  w_X7_oneOf1_J35 Q σ ((-1 : Int32))
def w_X7_oneOf1 (σ : Nat → Nat → Int32) (Q : Int32 → (Nat → Nat → Int32) → Prop) : Prop :=
  ((¬ (σ 20 14) = 0 → w_X7_oneOf1_J34 Q σ) ∧ ((σ 20 14) = 0 → (((σ 20 12) ≤ (σ 20 13) → w_X7_oneOf1_J34 Q σ) ∧ (¬ (σ 20 12) ≤ (σ 20 13) → vp_in ((σ 20 13)) 60 ∧ w_J4_indexOf 1 (((σ 11) ((σ 20 13)).toNatClampNeg)) (fun r10 _ => w_X7_oneOf1_J35 Q σ r10)))))
set_option maxHeartbeats 4000000 in
theorem k_X7_oneOf1_J46 {x : vC} {l : Launch} {D : va_G} {a : Nat → Nat}  {Q : Int32 → (Nat → Nat → Int32) → Prop} (hF : vF x l D "BrookWeirsModel" cX7_oneOf (rmk 4 0 0 130) 3 (some .int)) (hR : vRi x (moW D a) Q 0 0)   : ∀ (σ : Nat → Nat → Int32) (x2 s1 : Int32), w_X7_oneOf1_J46 Q  σ x2 s1 → vV x 0 0 (moW D a σ ++ []) [(0, .ref (a 0)), (1, .ref (D.2 1003 1)), (2, .int x2)] 46 [.int s1, .ref (a 0)] := by
  intro σ x2 s1 h
  unfold w_X7_oneOf1_J46 at h
  obtain ⟨o1, h⟩ := h
  refine M_put14 46 hF q1918 o1 dX7_oneOf_46 (fun t2 et2 => ?_)
  replace h := h t2 et2
  refine v_aload_n 49 hF dX7_oneOf_49 rfl 0 rfl ?_
  refine v_dup 50 hF dX7_oneOf_50 rfl ?_
  refine M_get 51 13 hF (Nat.le_of_ble_eq_true rfl) q1917 rfl rfl dX7_oneOf_51 ?_
  refine v_aload_n 54 hF dX7_oneOf_54 rfl 0 rfl ?_
  refine M_get 55 14 hF (Nat.le_of_ble_eq_true rfl) q1918 rfl rfl dX7_oneOf_55 ?_
  refine v_if_eq 58 65 hF dX7_oneOf_58 (by decide) (fun c3 => ?_) (fun c3 => ?_)
  · replace h := h.1 c3
    refine v_iconst (v := 1) 65 hF dX7_oneOf_65 (by decide) ?_
    refine v_iadd 66 hF dX7_oneOf_66 ?_
    refine M_put13 67 hF q1917 dX7_oneOf_67 (fun t4 et4 => ?_)
    replace h := h t4 et4
    refine v_iload_n 70 hF dX7_oneOf_70 rfl 2 rfl ?_
    exact v_iretA 71 hF hR (Nat.zero_le _) (Nat.zero_le _) dX7_oneOf_71 h
  · replace h := h.2 c3
    refine v_iconst (v := 0) 61 hF dX7_oneOf_61 (by decide) ?_
    refine v_goto 62 66 hF dX7_oneOf_62 (by decide) ?_
    refine v_iadd 66 hF dX7_oneOf_66 ?_
    refine M_put13 67 hF q1917 dX7_oneOf_67 (fun t5 et5 => ?_)
    replace h := h t5 et5
    refine v_iload_n 70 hF dX7_oneOf_70 rfl 2 rfl ?_
    exact v_iretA 71 hF hR (Nat.zero_le _) (Nat.zero_le _) dX7_oneOf_71 h
set_option maxHeartbeats 4000000 in
theorem k_X7_oneOf1_J35 {x : vC} {l : Launch} {D : va_G} {a : Nat → Nat}  {Q : Int32 → (Nat → Nat → Int32) → Prop} (hF : vF x l D "BrookWeirsModel" cX7_oneOf (rmk 4 0 0 130) 3 (some .int)) (hR : vRi x (moW D a) Q 0 0)   : ∀ (σ : Nat → Nat → Int32) (s0 : Int32), w_X7_oneOf1_J35 Q  σ s0 → vV x 0 0 (moW D a σ ++ []) [(0, .ref (a 0)), (1, .ref (D.2 1003 1))] 35 [.int s0] := by
  intro σ s0 h
  unfold w_X7_oneOf1_J35 at h
  refine v_istore_n [(0, .ref (a 0)), (1, .ref (D.2 1003 1)), (2, .int s0)] [1, 2, 0] 35 hF dX7_oneOf_35 rfl (Nat.le_of_ble_eq_true rfl) rfl ?_
  refine v_aload_n 36 hF dX7_oneOf_36 rfl 0 rfl ?_
  refine v_iload_n 37 hF dX7_oneOf_37 rfl 2 rfl ?_
  refine v_if_ge 38 45 hF dX7_oneOf_38 (by decide) (fun c6 => ?_) (fun c6 => ?_)
  · replace h := h.1 c6
    refine v_iconst (v := 0) 45 hF dX7_oneOf_45 (by decide) ?_
    exact k_X7_oneOf1_J46 hF hR _ _ _ h
  · replace h := h.2 c6
    refine v_iconst (v := 1) 41 hF dX7_oneOf_41 (by decide) ?_
    refine v_goto 42 46 hF dX7_oneOf_42 (by decide) ?_
    exact k_X7_oneOf1_J46 hF hR _ _ _ h
set_option maxHeartbeats 4000000 in
theorem k_X7_oneOf1_J34 {x : vC} {l : Launch} {D : va_G} {a : Nat → Nat}  {Q : Int32 → (Nat → Nat → Int32) → Prop} (hF : vF x l D "BrookWeirsModel" cX7_oneOf (rmk 4 0 0 130) 3 (some .int)) (hR : vRi x (moW D a) Q 0 0)   : ∀ (σ : Nat → Nat → Int32), w_X7_oneOf1_J34 Q  σ → vV x 0 0 (moW D a σ ++ []) [(0, .ref (a 0)), (1, .ref (D.2 1003 1))] 34 [] := by
  intro σ h
  unfold w_X7_oneOf1_J34 at h
  refine v_iconst (v := -1) 34 hF dX7_oneOf_34 (by decide) ?_
  exact k_X7_oneOf1_J35 hF hR _ _ h
set_option maxHeartbeats 4000000 in
theorem c_X7_oneOf1 (l : Launch) (D : va_G) (a : Nat → Nat) (σ : Nat → Nat → Int32) (Q : Int32 → (Nat → Nat → Int32) → Prop) (h : w_X7_oneOf1 σ Q) : Cti l D yX7_oneOf cX7_oneOf 3 .int (rmk 4 0 0 130) [.ref (a 0), .ref (D.2 1003 1)] (moW D a σ) (moW D a) Q 0 0 := by
  refine Cti.of (by decide) (Nat.le_of_ble_eq_true rfl) (fun x hF hR => ?_)
  replace hF : vF x l D "BrookWeirsModel" cX7_oneOf (rmk 4 0 0 130) 3 (some .int) := hF
  refine v_app0 ?_
  unfold w_X7_oneOf1 at h
  refine v_aload_n 0 hF dX7_oneOf_0 rfl 0 rfl ?_
  refine M_get 1 14 hF (Nat.le_of_ble_eq_true rfl) q1918 rfl rfl dX7_oneOf_1 ?_
  refine v_if_ne 4 34 hF dX7_oneOf_4 (by decide) (fun c7 => ?_) (fun c7 => ?_)
  · replace h := h.1 c7
    exact k_X7_oneOf1_J34 hF hR _ h
  · replace h := h.2 c7
    refine v_aload_n 7 hF dX7_oneOf_7 rfl 0 rfl ?_
    refine M_get 8 13 hF (Nat.le_of_ble_eq_true rfl) q1917 rfl rfl dX7_oneOf_8 ?_
    refine v_aload_n 11 hF dX7_oneOf_11 rfl 0 rfl ?_
    refine M_get 12 12 hF (Nat.le_of_ble_eq_true rfl) q1916 rfl rfl dX7_oneOf_12 ?_
    refine v_icmp_ge 15 34 hF dX7_oneOf_15 (by decide) (fun c8 => ?_) (fun c8 => ?_)
    · replace h := h.1 c8
      exact k_X7_oneOf1_J34 hF hR _ h
    · replace h := h.2 c8
      refine v_aload_n 18 hF dX7_oneOf_18 rfl 1 rfl ?_
      refine v_aload_n 19 hF dX7_oneOf_19 rfl 0 rfl ?_
      refine M_get 20 11 hF (Nat.le_of_ble_eq_true rfl) q1915 rfl rfl dX7_oneOf_20 ?_
      refine v_aload_n 23 hF dX7_oneOf_23 rfl 0 rfl ?_
      refine M_get 24 13 hF (Nat.le_of_ble_eq_true rfl) q1917 rfl rfl dX7_oneOf_24 ?_
      obtain ⟨o9, h⟩ := h
      refine M_ald11 27 hF o9 dX7_oneOf_27 ?_
      refine v_callKi (As := [.int (((σ 11) ((σ 20 13)).toNatClampNeg))]) (wr := (moW D a σ ++ [])) 28 hF (c_J4_indexOf l D 1 (by decide) (((σ 11) ((σ 20 13)).toNatClampNeg)) _ h) (List.Perm.refl _) (by decide) rfl q2217 q2218 q2219 q77 q2220 ds_J4_indexOf ⟨rfl, rfl, (Nat.le_of_ble_eq_true rfl), (Nat.le_of_ble_eq_true rfl)⟩ (Nat.le_of_ble_eq_true rfl) ⟨Nat.zero_le _, Nat.zero_le _⟩ dX7_oneOf_28 (fun r10 _ h => ?_)
      refine v_eqw (ws1 := (moW D a σ ++ [])) rfl ?_
      refine v_goto 31 35 hF dX7_oneOf_31 (by decide) ?_
      exact k_X7_oneOf1_J35 hF hR _ _ h
def w_X7_readItem_J111 (Q : (Nat → Nat → Int32) → Prop)  (σ : Nat → Nat → Int32) (x1 x2 : Int32) : Prop :=
  ((¬ x2 = (5 : Int32) → ∀ t2 : Nat → Nat → Int32, t2 = (upN σ 20 17 ((σ 20 17) + (1 : Int32))) → Q t2) ∧ (x2 = (5 : Int32) → w_X7_sign σ ((58 : Int32)) ((58 : Int32)) (fun r3 t4 => w_X7_numberHere t4  (fun r5 t6 => vp_in ((x1 + (2 : Int32))) 180 ∧ ∀ t8 : Nat → Nat → Int32, t8 = (upN t6 16 ((x1 + (2 : Int32))).toNatClampNeg r5) → ∀ t9 : Nat → Nat → Int32, t9 = (upN t8 20 17 ((t8 20 17) + (1 : Int32))) → Q t9))))
def w_X7_readItem_J97 (Q : (Nat → Nat → Int32) → Prop)  (σ : Nat → Nat → Int32) (x1 x2 : Int32) : Prop :=
  w_X7_oneOf1 σ  (fun r10 t11 => vp_in ((x1 + (2 : Int32))) 180 ∧ ∀ t13 : Nat → Nat → Int32, t13 = (upN t11 16 ((x1 + (2 : Int32))).toNatClampNeg r10) → w_X7_readItem_J111 Q t13 x1 x2)
def w_X7_readItem_J87 (Q : (Nat → Nat → Int32) → Prop)  (σ : Nat → Nat → Int32) (x1 x2 : Int32) : Prop :=
  ((x2 = (3 : Int32) → w_X7_readItem_J97 Q σ x1 x2) ∧ (¬ x2 = (3 : Int32) → ((¬ x2 = (4 : Int32) → w_X7_readItem_J111 Q σ x1 x2) ∧ (x2 = (4 : Int32) → w_X7_readItem_J97 Q σ x1 x2))))
def w_X7_readItem_J56 (Q : (Nat → Nat → Int32) → Prop)  (σ : Nat → Nat → Int32) (x1 x2 s2 s1 : Int32) : Prop :=
  vp_in s1 180 ∧ ∀ t17 : Nat → Nat → Int32, t17 = (upN σ 16 s1.toNatClampNeg s2) → ((¬ x2 = (2 : Int32) → w_X7_readItem_J87 Q t17 x1 x2) ∧ (x2 = (2 : Int32) → w_X7_sign t17 ((61 : Int32)) ((61 : Int32)) (fun r19 t20 => w_X7_sign t20 ((48 : Int32)) ((57 : Int32)) (fun r21 t22 => vp_in ((x1 + (2 : Int32))) 180 ∧ ∀ t24 : Nat → Nat → Int32, t24 = (upN t22 16 ((x1 + (2 : Int32))).toNatClampNeg r21) → w_X7_readItem_J87 Q t24 x1 x2))))
def w_X7_readItem (σ : Nat → Nat → Int32) (Q : (Nat → Nat → Int32) → Prop) : Prop :=
  ∀ y25 : Int32, y25 = ((3 : Int32) * (σ 20 17)) → w_X7_oneOf0 σ  (fun r26 t27 => vp_in y25 180 ∧ ∀ t29 : Nat → Nat → Int32, t29 = (upN t27 16 y25.toNatClampNeg r26) → ((¬ r26 = 0 → ((r26 < (2 : Int32) → w_X7_readItem_J56 Q t29 y25 r26 ((0 : Int32)) ((y25 + (1 : Int32)))) ∧ (¬ r26 < (2 : Int32) → w_X7_sign t29 ((48 : Int32)) ((57 : Int32)) (fun r32 t33 => w_X7_readItem_J56 Q t33 y25 r26 r32 ((y25 + (1 : Int32))))))) ∧ (r26 = 0 → w_X7_numberHere t29  (fun r34 t35 => w_X7_readItem_J56 Q t35 y25 r26 r34 ((y25 + (1 : Int32)))))))
set_option maxHeartbeats 4000000 in
theorem k_X7_readItem_J111 {x : vC} {l : Launch} {D : va_G} {a : Nat → Nat}  {Q : (Nat → Nat → Int32) → Prop} (hF : vF x l D "BrookWeirsModel" cX7_readItem (rmk 5 0 0 152) 4 none) (hR : vRv x (moW D a) Q 0 0)   : ∀ (σ : Nat → Nat → Int32) (x1 x2 : Int32), w_X7_readItem_J111 Q  σ x1 x2 → vV x 0 0 (moW D a σ ++ []) [(0, .ref (a 0)), (1, .int x1), (2, .int x2)] 111 [] := by
  intro σ x1 x2 h
  unfold w_X7_readItem_J111 at h
  refine v_iload_n 111 hF dX7_readItem_111 rfl 2 rfl ?_
  refine v_iconst (v := 5) 112 hF dX7_readItem_112 (by decide) ?_
  refine v_icmp_ne 113 137 hF dX7_readItem_113 (by decide) (fun c1 => ?_) (fun c1 => ?_)
  · replace h := h.1 c1
    refine v_aload_n 137 hF dX7_readItem_137 rfl 0 rfl ?_
    refine v_dup 138 hF dX7_readItem_138 rfl ?_
    refine M_get 139 17 hF (Nat.le_of_ble_eq_true rfl) q1921 rfl rfl dX7_readItem_139 ?_
    refine v_iconst (v := 1) 142 hF dX7_readItem_142 (by decide) ?_
    refine v_iadd 143 hF dX7_readItem_143 ?_
    refine M_put17 144 hF q1921 dX7_readItem_144 (fun t2 et2 => ?_)
    replace h := h t2 et2
    exact v_vretA 147 hF hR (Nat.zero_le _) (Nat.zero_le _) dX7_readItem_147 h
  · replace h := h.2 c1
    refine v_aload_n 116 hF dX7_readItem_116 rfl 0 rfl ?_
    refine v_bipush (v := 58) 117 hF dX7_readItem_117 (by decide) ?_
    refine v_bipush (v := 58) 119 hF dX7_readItem_119 (by decide) ?_
    refine v_callVi (As := [.int ((58 : Int32)), .int ((58 : Int32))]) 121 hF (c_X7_sign l D a σ ((58 : Int32)) ((58 : Int32)) _ h) (List.Perm.refl _) ⟨0, 10, _, TX7, 18, rfl, rfl⟩ q2271 q2273 qs65 q82 q2274 ds_X7_sign ⟨rfl, rfl, Nat.le_of_ble_eq_true rfl, Nat.le_of_ble_eq_true rfl⟩ (Nat.le_of_ble_eq_true rfl) ⟨Nat.zero_le _, Nat.zero_le _⟩ dX7_readItem_121 (fun r3 t4 h => ?_)
    refine v_istore_n [(0, .ref (a 0)), (1, .int x1), (2, .int x2), (3, .int r3)] [1, 2, 3, 0] 124 hF dX7_readItem_124 rfl (Nat.le_of_ble_eq_true rfl) rfl ?_
    refine v_aload_n 125 hF dX7_readItem_125 rfl 0 rfl ?_
    refine M_get 126 16 hF (Nat.le_of_ble_eq_true rfl) q1920 rfl rfl dX7_readItem_126 ?_
    refine v_iload_n 129 hF dX7_readItem_129 rfl 1 rfl ?_
    refine v_iconst (v := 2) 130 hF dX7_readItem_130 (by decide) ?_
    refine v_iadd 131 hF dX7_readItem_131 ?_
    refine v_aload_n 132 hF dX7_readItem_132 rfl 0 rfl ?_
    refine v_callVi (As := []) 133 hF (c_X7_numberHere l D a t4 _ h) (List.Perm.refl _) ⟨0, 10, _, TX7, 18, rfl, rfl⟩ q2267 q2269 qs64 q82 q2270 ds_X7_numberHere ⟨rfl, rfl, Nat.le_of_ble_eq_true rfl, Nat.le_of_ble_eq_true rfl⟩ (Nat.le_of_ble_eq_true rfl) ⟨Nat.zero_le _, Nat.zero_le _⟩ dX7_readItem_133 (fun r5 t6 h => ?_)
    obtain ⟨o7, h⟩ := h
    refine M_ast16 136 hF o7 dX7_readItem_136 (fun t8 et8 => ?_)
    replace h := h t8 et8
    refine v_aload_n 137 hF dX7_readItem_137 rfl 0 rfl ?_
    refine v_dup 138 hF dX7_readItem_138 rfl ?_
    refine M_get 139 17 hF (Nat.le_of_ble_eq_true rfl) q1921 rfl rfl dX7_readItem_139 ?_
    refine v_iconst (v := 1) 142 hF dX7_readItem_142 (by decide) ?_
    refine v_iadd 143 hF dX7_readItem_143 ?_
    refine M_put17 144 hF q1921 dX7_readItem_144 (fun t9 et9 => ?_)
    replace h := h t9 et9
    exact v_vretA 147 hF hR (Nat.zero_le _) (Nat.zero_le _) dX7_readItem_147 h
set_option maxHeartbeats 4000000 in
theorem k_X7_readItem_J97 {x : vC} {l : Launch} {D : va_G} {a : Nat → Nat}  {Q : (Nat → Nat → Int32) → Prop} (hF : vF x l D "BrookWeirsModel" cX7_readItem (rmk 5 0 0 152) 4 none) (hR : vRv x (moW D a) Q 0 0)   : ∀ (σ : Nat → Nat → Int32) (x1 x2 : Int32), w_X7_readItem_J97 Q  σ x1 x2 → vV x 0 0 (moW D a σ ++ []) [(0, .ref (a 0)), (1, .int x1), (2, .int x2)] 97 [] := by
  intro σ x1 x2 h
  unfold w_X7_readItem_J97 at h
  refine v_aload_n 97 hF dX7_readItem_97 rfl 0 rfl ?_
  refine M_get 98 16 hF (Nat.le_of_ble_eq_true rfl) q1920 rfl rfl dX7_readItem_98 ?_
  refine v_iload_n 101 hF dX7_readItem_101 rfl 1 rfl ?_
  refine v_iconst (v := 2) 102 hF dX7_readItem_102 (by decide) ?_
  refine v_iadd 103 hF dX7_readItem_103 ?_
  refine v_aload_n 104 hF dX7_readItem_104 rfl 0 rfl ?_
  refine v_ldcS1 105 hF rfl dX7_readItem_105 ?_
  refine v_callVi (As := [.ref (D.2 1003 1)]) 107 hF (c_X7_oneOf1 l D a σ _ h) (List.Perm.refl _) ⟨0, 10, _, TX7, 18, rfl, rfl⟩ q2213 q2215 qs63 q82 q2216 ds_X7_oneOf ⟨rfl, rfl, Nat.le_of_ble_eq_true rfl, Nat.le_of_ble_eq_true rfl⟩ (Nat.le_of_ble_eq_true rfl) ⟨Nat.zero_le _, Nat.zero_le _⟩ dX7_readItem_107 (fun r10 t11 h => ?_)
  obtain ⟨o12, h⟩ := h
  refine M_ast16 110 hF o12 dX7_readItem_110 (fun t13 et13 => ?_)
  replace h := h t13 et13
  exact k_X7_readItem_J111 hF hR _ _ _ h
set_option maxHeartbeats 4000000 in
theorem k_X7_readItem_J87 {x : vC} {l : Launch} {D : va_G} {a : Nat → Nat}  {Q : (Nat → Nat → Int32) → Prop} (hF : vF x l D "BrookWeirsModel" cX7_readItem (rmk 5 0 0 152) 4 none) (hR : vRv x (moW D a) Q 0 0)   : ∀ (σ : Nat → Nat → Int32) (x1 x2 : Int32), w_X7_readItem_J87 Q  σ x1 x2 → vV x 0 0 (moW D a σ ++ []) [(0, .ref (a 0)), (1, .int x1), (2, .int x2)] 87 [] := by
  intro σ x1 x2 h
  unfold w_X7_readItem_J87 at h
  refine v_iload_n 87 hF dX7_readItem_87 rfl 2 rfl ?_
  refine v_iconst (v := 3) 88 hF dX7_readItem_88 (by decide) ?_
  refine v_icmp_eq 89 97 hF dX7_readItem_89 (by decide) (fun c14 => ?_) (fun c14 => ?_)
  · replace h := h.1 c14
    exact k_X7_readItem_J97 hF hR _ _ _ h
  · replace h := h.2 c14
    refine v_iload_n 92 hF dX7_readItem_92 rfl 2 rfl ?_
    refine v_iconst (v := 4) 93 hF dX7_readItem_93 (by decide) ?_
    refine v_icmp_ne 94 111 hF dX7_readItem_94 (by decide) (fun c15 => ?_) (fun c15 => ?_)
    · replace h := h.1 c15
      exact k_X7_readItem_J111 hF hR _ _ _ h
    · replace h := h.2 c15
      exact k_X7_readItem_J97 hF hR _ _ _ h
set_option maxHeartbeats 4000000 in
theorem k_X7_readItem_J56 {x : vC} {l : Launch} {D : va_G} {a : Nat → Nat}  {Q : (Nat → Nat → Int32) → Prop} (hF : vF x l D "BrookWeirsModel" cX7_readItem (rmk 5 0 0 152) 4 none) (hR : vRv x (moW D a) Q 0 0)   : ∀ (σ : Nat → Nat → Int32) (x1 x2 s2 s1 : Int32), w_X7_readItem_J56 Q  σ x1 x2 s2 s1 → vV x 0 0 (moW D a σ ++ []) [(0, .ref (a 0)), (1, .int x1), (2, .int x2)] 56 [.int s2, .int s1, .ref (a 7)] := by
  intro σ x1 x2 s2 s1 h
  unfold w_X7_readItem_J56 at h
  obtain ⟨o16, h⟩ := h
  refine M_ast16 56 hF o16 dX7_readItem_56 (fun t17 et17 => ?_)
  replace h := h t17 et17
  refine v_iload_n 57 hF dX7_readItem_57 rfl 2 rfl ?_
  refine v_iconst (v := 2) 58 hF dX7_readItem_58 (by decide) ?_
  refine v_icmp_ne 59 87 hF dX7_readItem_59 (by decide) (fun c18 => ?_) (fun c18 => ?_)
  · replace h := h.1 c18
    exact k_X7_readItem_J87 hF hR _ _ _ h
  · replace h := h.2 c18
    refine v_aload_n 62 hF dX7_readItem_62 rfl 0 rfl ?_
    refine v_bipush (v := 61) 63 hF dX7_readItem_63 (by decide) ?_
    refine v_bipush (v := 61) 65 hF dX7_readItem_65 (by decide) ?_
    refine v_callVi (As := [.int ((61 : Int32)), .int ((61 : Int32))]) 67 hF (c_X7_sign l D a t17 ((61 : Int32)) ((61 : Int32)) _ h) (List.Perm.refl _) ⟨0, 10, _, TX7, 18, rfl, rfl⟩ q2271 q2273 qs65 q82 q2274 ds_X7_sign ⟨rfl, rfl, Nat.le_of_ble_eq_true rfl, Nat.le_of_ble_eq_true rfl⟩ (Nat.le_of_ble_eq_true rfl) ⟨Nat.zero_le _, Nat.zero_le _⟩ dX7_readItem_67 (fun r19 t20 h => ?_)
    refine v_istore_n [(0, .ref (a 0)), (1, .int x1), (2, .int x2), (3, .int r19)] [1, 2, 3, 0] 70 hF dX7_readItem_70 rfl (Nat.le_of_ble_eq_true rfl) rfl ?_
    refine v_aload_n 71 hF dX7_readItem_71 rfl 0 rfl ?_
    refine M_get 72 16 hF (Nat.le_of_ble_eq_true rfl) q1920 rfl rfl dX7_readItem_72 ?_
    refine v_iload_n 75 hF dX7_readItem_75 rfl 1 rfl ?_
    refine v_iconst (v := 2) 76 hF dX7_readItem_76 (by decide) ?_
    refine v_iadd 77 hF dX7_readItem_77 ?_
    refine v_aload_n 78 hF dX7_readItem_78 rfl 0 rfl ?_
    refine v_bipush (v := 48) 79 hF dX7_readItem_79 (by decide) ?_
    refine v_bipush (v := 57) 81 hF dX7_readItem_81 (by decide) ?_
    refine v_callVi (As := [.int ((48 : Int32)), .int ((57 : Int32))]) 83 hF (c_X7_sign l D a t20 ((48 : Int32)) ((57 : Int32)) _ h) (List.Perm.refl _) ⟨0, 10, _, TX7, 18, rfl, rfl⟩ q2271 q2273 qs65 q82 q2274 ds_X7_sign ⟨rfl, rfl, Nat.le_of_ble_eq_true rfl, Nat.le_of_ble_eq_true rfl⟩ (Nat.le_of_ble_eq_true rfl) ⟨Nat.zero_le _, Nat.zero_le _⟩ dX7_readItem_83 (fun r21 t22 h => ?_)
    obtain ⟨o23, h⟩ := h
    refine M_ast16 86 hF o23 dX7_readItem_86 (fun t24 et24 => ?_)
    replace h := h t24 et24
    refine v_sub [(0, .ref (a 0)), (1, .int x1), (2, .int x2)] [0, 1, 2] rfl ?_
    exact k_X7_readItem_J87 hF hR _ _ _ h
theorem ds_X7_readItem : yX7_readItem.cls = yX7_readItem.cls ∧ yX7_readItem.cls ≠ "java/lang/invoke/MethodHandle" ∧ yX7_readItem.cls ≠ "java/lang/invoke/VarHandle" ∧ (parseMethodDescriptor yX7_readItem.desc).map (fun d => d.parameters.length) = some 0 := by decide +kernel
set_option maxHeartbeats 4000000 in
theorem c_X7_readItem (l : Launch) (D : va_G) (a : Nat → Nat) (σ : Nat → Nat → Int32) (Q : (Nat → Nat → Int32) → Prop) (h : w_X7_readItem σ Q) : Ctv l D yX7_readItem cX7_readItem 4 (rmk 5 0 0 152) [.ref (a 0)] (moW D a σ) (moW D a) Q 0 0 := by
  refine Ctv.of (by decide) (Nat.le_of_ble_eq_true rfl) (fun x hF hR => ?_)
  replace hF : vF x l D "BrookWeirsModel" cX7_readItem (rmk 5 0 0 152) 4 none := hF
  refine v_app0 ?_
  unfold w_X7_readItem at h
  refine v_iconst (v := 3) 0 hF dX7_readItem_0 (by decide) ?_
  refine v_aload_n 1 hF dX7_readItem_1 rfl 0 rfl ?_
  refine M_get 2 17 hF (Nat.le_of_ble_eq_true rfl) q1921 rfl rfl dX7_readItem_2 ?_
  refine v_imul 5 hF dX7_readItem_5 ?_
  refine v_nm (fun y25 ey25 => ?_)
  replace h := h y25 ey25
  refine v_istore_n [(0, .ref (a 0)), (1, .int y25)] [1, 0] 6 hF dX7_readItem_6 rfl (Nat.le_of_ble_eq_true rfl) rfl ?_
  refine v_aload_n 7 hF dX7_readItem_7 rfl 0 rfl ?_
  refine v_ldcS0 8 hF rfl dX7_readItem_8 ?_
  refine v_callVi (As := [.ref (D.2 1003 0)]) 10 hF (c_X7_oneOf0 l D a σ _ h) (List.Perm.refl _) ⟨0, 10, _, TX7, 18, rfl, rfl⟩ q2213 q2215 qs63 q82 q2216 ds_X7_oneOf ⟨rfl, rfl, Nat.le_of_ble_eq_true rfl, Nat.le_of_ble_eq_true rfl⟩ (Nat.le_of_ble_eq_true rfl) ⟨Nat.zero_le _, Nat.zero_le _⟩ dX7_readItem_10 (fun r26 t27 h => ?_)
  refine v_istore_n [(0, .ref (a 0)), (1, .int y25), (2, .int r26)] [1, 2, 0] 13 hF dX7_readItem_13 rfl (Nat.le_of_ble_eq_true rfl) rfl ?_
  refine v_aload_n 14 hF dX7_readItem_14 rfl 0 rfl ?_
  refine M_get 15 16 hF (Nat.le_of_ble_eq_true rfl) q1920 rfl rfl dX7_readItem_15 ?_
  refine v_iload_n 18 hF dX7_readItem_18 rfl 1 rfl ?_
  refine v_iload_n 19 hF dX7_readItem_19 rfl 2 rfl ?_
  obtain ⟨o28, h⟩ := h
  refine M_ast16 20 hF o28 dX7_readItem_20 (fun t29 et29 => ?_)
  replace h := h t29 et29
  refine v_aload_n 21 hF dX7_readItem_21 rfl 0 rfl ?_
  refine M_get 22 16 hF (Nat.le_of_ble_eq_true rfl) q1920 rfl rfl dX7_readItem_22 ?_
  refine v_iload_n 25 hF dX7_readItem_25 rfl 1 rfl ?_
  refine v_iconst (v := 1) 26 hF dX7_readItem_26 (by decide) ?_
  refine v_iadd 27 hF dX7_readItem_27 ?_
  refine v_iload_n 28 hF dX7_readItem_28 rfl 2 rfl ?_
  refine v_if_ne 29 39 hF dX7_readItem_29 (by decide) (fun c30 => ?_) (fun c30 => ?_)
  · replace h := h.1 c30
    refine v_iload_n 39 hF dX7_readItem_39 rfl 2 rfl ?_
    refine v_iconst (v := 2) 40 hF dX7_readItem_40 (by decide) ?_
    refine v_icmp_lt 41 55 hF dX7_readItem_41 (by decide) (fun c31 => ?_) (fun c31 => ?_)
    · replace h := h.1 c31
      refine v_iconst (v := 0) 55 hF dX7_readItem_55 (by decide) ?_
      exact k_X7_readItem_J56 hF hR _ _ _ _ _ h
    · replace h := h.2 c31
      refine v_aload_n 44 hF dX7_readItem_44 rfl 0 rfl ?_
      refine v_bipush (v := 48) 45 hF dX7_readItem_45 (by decide) ?_
      refine v_bipush (v := 57) 47 hF dX7_readItem_47 (by decide) ?_
      refine v_callVi (As := [.int ((48 : Int32)), .int ((57 : Int32))]) 49 hF (c_X7_sign l D a t29 ((48 : Int32)) ((57 : Int32)) _ h) (List.Perm.refl _) ⟨0, 10, _, TX7, 18, rfl, rfl⟩ q2271 q2273 qs65 q82 q2274 ds_X7_sign ⟨rfl, rfl, Nat.le_of_ble_eq_true rfl, Nat.le_of_ble_eq_true rfl⟩ (Nat.le_of_ble_eq_true rfl) ⟨Nat.zero_le _, Nat.zero_le _⟩ dX7_readItem_49 (fun r32 t33 h => ?_)
      refine v_goto 52 56 hF dX7_readItem_52 (by decide) ?_
      exact k_X7_readItem_J56 hF hR _ _ _ _ _ h
  · replace h := h.2 c30
    refine v_aload_n 32 hF dX7_readItem_32 rfl 0 rfl ?_
    refine v_callVi (As := []) 33 hF (c_X7_numberHere l D a t29 _ h) (List.Perm.refl _) ⟨0, 10, _, TX7, 18, rfl, rfl⟩ q2267 q2269 qs64 q82 q2270 ds_X7_numberHere ⟨rfl, rfl, Nat.le_of_ble_eq_true rfl, Nat.le_of_ble_eq_true rfl⟩ (Nat.le_of_ble_eq_true rfl) ⟨Nat.zero_le _, Nat.zero_le _⟩ dX7_readItem_33 (fun r34 t35 h => ?_)
    refine v_goto 36 56 hF dX7_readItem_36 (by decide) ?_
    exact k_X7_readItem_J56 hF hR _ _ _ _ _ h
def w_X7_read_J157 (Q : Int32 → (Nat → Nat → Int32) → Prop)  (σ : Nat → Nat → Int32) (x1 s1 : Int32) : Prop :=
  ∀ t1 : Nat → Nat → Int32, t1 = (upN σ 20 8 s1) → ∀ t2 : Nat → Nat → Int32, t2 = (upN t1 20 9 x1) → ∀ t3 : Nat → Nat → Int32, t3 = (upN t2 20 7 (2 : Int32)) → w_X7_ends t3 ((0 : Int32)) (fun r4 t5 => Q r4 t5)
def w_X7_read_L107 (Q : Int32 → (Nat → Nat → Int32) → Prop) (K107 : (Nat → Nat → Int32) → Int32 → Prop) (σ : Nat → Nat → Int32) (x1 : Int32) : Prop :=
  (((σ 20 17) ≤ x1 → w_X7_ends σ ((σ 20 17)) (fun r7 t8 => Q r7 t8)) ∧ (¬ (σ 20 17) ≤ x1 → ∀ t9 : Nat → Nat → Int32, t9 = (upN σ 20 7 (0 : Int32)) → w_X7_carryOut t9 x1 (fun t10 => (((t10 20 7) ≤ 0 → ∀ y12 : Int32, y12 = x1 + (1 : Int32) → K107 t10 y12) ∧ (¬ (t10 20 7) ≤ 0 → vp_in (((3 : Int32) * x1)) 180 ∧ w_X7_isRefused t10 (((t10 16) (((3 : Int32) * x1)).toNatClampNeg)) (fun r14 t15 => ((r14 = 0 → w_X7_read_J157 Q t15 x1 ((20 : Int32))) ∧ (¬ r14 = 0 → w_X7_read_J157 Q t15 x1 ((t15 20 8))))))))))
def w_X7_read_J71 (Q : Int32 → (Nat → Nat → Int32) → Prop)  (σ : Nat → Nat → Int32) (s1 : Int32) : Prop :=
  (s1 = 0 ∨ s1 = 1) ∧ ∀ t18 : Nat → Nat → Int32, t18 = (upN σ 20 14 s1) → ∀ t19 : Nat → Nat → Int32, t19 = (upN t18 20 12 (0 : Int32)) → (((t19 20 14) = 0 → w_X7_keep t19  (fun t21 => wLoop (fun K s => w_X7_read_L107 Q (fun v0 v1 => K (v0, v1)) s.1 s.2) (t21, (0 : Int32)))) ∧ (¬ (t19 20 14) = 0 → ∀ t22 : Nat → Nat → Int32, t22 = (upN t19 20 15 (t19 20 13)) → ∀ t23 : Nat → Nat → Int32, t23 = (upN t22 20 7 (1 : Int32)) → Q ((0 : Int32)) t23))
def w_X7_read_J66 (Q : Int32 → (Nat → Nat → Int32) → Prop)  (σ : Nat → Nat → Int32)  : Prop :=
  w_X7_read_J71 Q σ ((1 : Int32))
def w_X7_read_L19 (Q : Int32 → (Nat → Nat → Int32) → Prop) (K19 : (Nat → Nat → Int32) → Prop) (σ : Nat → Nat → Int32)  : Prop :=
  w_X7_isHere σ ((59 : Int32)) ((59 : Int32)) (fun r24 t25 => ((r24 = 0 → ((¬ (t25 20 14) = 0 → w_X7_read_J66 Q t25) ∧ ((t25 20 14) = 0 → (((t25 20 12) ≤ (t25 20 13) → w_X7_read_J71 Q t25 ((0 : Int32))) ∧ (¬ (t25 20 12) ≤ (t25 20 13) → w_X7_read_J66 Q t25))))) ∧ (¬ r24 = 0 → ∀ t29 : Nat → Nat → Int32, t29 = (upN t25 20 13 ((t25 20 13) + (1 : Int32))) → w_X7_readItem t29  (fun t30 => K19 t30))))
def w_X7_read (σ : Nat → Nat → Int32) (Q : Int32 → (Nat → Nat → Int32) → Prop) : Prop :=
  ∀ t31 : Nat → Nat → Int32, t31 = (upN σ 20 13 (0 : Int32)) → ∀ t32 : Nat → Nat → Int32, t32 = (upN t31 20 14 (0 : Int32)) → ∀ t33 : Nat → Nat → Int32, t33 = (upN t32 20 17 (0 : Int32)) → w_X7_readItem t33  (fun t34 => wLoop (fun K s => w_X7_read_L19 Q (fun v0 => K (v0)) s) t34)
set_option maxHeartbeats 4000000 in
theorem k_X7_read_J157 {x : vC} {l : Launch} {D : va_G} {a : Nat → Nat}  {Q : Int32 → (Nat → Nat → Int32) → Prop} (hF : vF x l D "BrookWeirsModel" cX7_read (rmk 7 0 0 175) 2 (some .int)) (hR : vRi x (moW D a) Q 0 0)   : ∀ (σ : Nat → Nat → Int32) (x1 s1 : Int32), w_X7_read_J157 Q  σ x1 s1 → vV x 0 0 (moW D a σ ++ []) [(0, .ref (a 0)), (1, .int x1)] 157 [.int s1, .ref (a 0)] := by
  intro σ x1 s1 h
  unfold w_X7_read_J157 at h
  refine M_put8 157 hF q1912 dX7_read_157 (fun t1 et1 => ?_)
  replace h := h t1 et1
  refine v_aload_n 160 hF dX7_read_160 rfl 0 rfl ?_
  refine v_iload_n 161 hF dX7_read_161 rfl 1 rfl ?_
  refine M_put9 162 hF q1913 dX7_read_162 (fun t2 et2 => ?_)
  replace h := h t2 et2
  refine v_aload_n 165 hF dX7_read_165 rfl 0 rfl ?_
  refine v_iconst (v := 2) 166 hF dX7_read_166 (by decide) ?_
  refine M_put7 167 hF q1911 dX7_read_167 (fun t3 et3 => ?_)
  replace h := h t3 et3
  refine v_aload_n 170 hF dX7_read_170 rfl 0 rfl ?_
  refine v_iconst (v := 0) 171 hF dX7_read_171 (by decide) ?_
  refine v_callVi (As := [.int ((0 : Int32))]) 172 hF (c_X7_ends l D a t3 ((0 : Int32)) _ h) (List.Perm.refl _) ⟨0, 10, _, TX7, 18, rfl, rfl⟩ q1983 q1985 qs32 q82 q1986 ds_X7_ends ⟨rfl, rfl, Nat.le_of_ble_eq_true rfl, Nat.le_of_ble_eq_true rfl⟩ (Nat.le_of_ble_eq_true rfl) ⟨Nat.zero_le _, Nat.zero_le _⟩ dX7_read_172 (fun r4 t5 h => ?_)
  exact v_iretA 175 hF hR (Nat.zero_le _) (Nat.zero_le _) dX7_read_175 h
set_option maxHeartbeats 4000000 in
theorem k_X7_read_L107 {x : vC} {l : Launch} {D : va_G} {a : Nat → Nat}  {Q : Int32 → (Nat → Nat → Int32) → Prop} (hF : vF x l D "BrookWeirsModel" cX7_read (rmk 7 0 0 175) 2 (some .int)) (hR : vRi x (moW D a) Q 0 0) {K107 : (Nat → Nat → Int32) → Int32 → Prop} (hK107 : ∀ (σ : Nat → Nat → Int32) (x1 : Int32), K107 σ x1 → vV x 0 0 (moW D a σ ++ []) [(0, .ref (a 0)), (1, .int x1)] 107 []) : ∀ (σ : Nat → Nat → Int32) (x1 : Int32), w_X7_read_L107 Q K107 σ x1 → vV x 0 0 (moW D a σ ++ []) [(0, .ref (a 0)), (1, .int x1)] 107 [] := by
  intro σ x1 h
  unfold w_X7_read_L107 at h
  refine v_iload_n 107 hF dX7_read_107 rfl 1 rfl ?_
  refine v_aload_n 108 hF dX7_read_108 rfl 0 rfl ?_
  refine M_get 109 17 hF (Nat.le_of_ble_eq_true rfl) q1921 rfl rfl dX7_read_109 ?_
  refine v_icmp_ge 112 182 hF dX7_read_112 (by decide) (fun c6 => ?_) (fun c6 => ?_)
  · replace h := h.1 c6
    refine v_aload_n 182 hF dX7_read_182 rfl 0 rfl ?_
    refine v_aload_n 183 hF dX7_read_183 rfl 0 rfl ?_
    refine M_get 184 17 hF (Nat.le_of_ble_eq_true rfl) q1921 rfl rfl dX7_read_184 ?_
    refine v_callVi (As := [.int ((σ 20 17))]) 187 hF (c_X7_ends l D a σ ((σ 20 17)) _ h) (List.Perm.refl _) ⟨0, 10, _, TX7, 18, rfl, rfl⟩ q1983 q1985 qs32 q82 q1986 ds_X7_ends ⟨rfl, rfl, Nat.le_of_ble_eq_true rfl, Nat.le_of_ble_eq_true rfl⟩ (Nat.le_of_ble_eq_true rfl) ⟨Nat.zero_le _, Nat.zero_le _⟩ dX7_read_187 (fun r7 t8 h => ?_)
    exact v_iretA 190 hF hR (Nat.zero_le _) (Nat.zero_le _) dX7_read_190 h
  · replace h := h.2 c6
    refine v_aload_n 115 hF dX7_read_115 rfl 0 rfl ?_
    refine v_iconst (v := 0) 116 hF dX7_read_116 (by decide) ?_
    refine M_put7 117 hF q1911 dX7_read_117 (fun t9 et9 => ?_)
    replace h := h t9 et9
    refine v_aload_n 120 hF dX7_read_120 rfl 0 rfl ?_
    refine v_iload_n 121 hF dX7_read_121 rfl 1 rfl ?_
    refine v_callVv (As := [.int x1]) 122 hF (c_X7_carryOut l D a t9 x1 _ h) (List.Perm.refl _) ⟨0, 10, _, TX7, 18, rfl, rfl⟩ q2280 q2282 qs67 q82 q2283 ds_X7_carryOut ⟨rfl, rfl, Nat.le_of_ble_eq_true rfl, Nat.le_of_ble_eq_true rfl⟩ (Nat.le_of_ble_eq_true rfl) ⟨Nat.zero_le _, Nat.zero_le _⟩ dX7_read_122 (fun t10 h => ?_)
    refine v_aload_n 125 hF dX7_read_125 rfl 0 rfl ?_
    refine M_get 126 7 hF (Nat.le_of_ble_eq_true rfl) q1911 rfl rfl dX7_read_126 ?_
    refine v_if_le 129 176 hF dX7_read_129 (by decide) (fun c11 => ?_) (fun c11 => ?_)
    · replace h := h.1 c11
      obtain ⟨y12, ey12⟩ : ∃ y : Int32, y = x1 + (1 : Int32) := ⟨_, rfl⟩
      replace h := h y12 ey12
      refine v_iinc [(0, .ref (a 0)), (1, .int y12)] [1, 0] 176 hF dX7_read_176 1 rfl (by rw [ey12]; rfl) (Nat.le_of_ble_eq_true rfl) rfl ?_
      refine v_goto 179 107 hF dX7_read_179 (by decide) ?_
      exact hK107 _ _ h
    · replace h := h.2 c11
      refine v_aload_n 132 hF dX7_read_132 rfl 0 rfl ?_
      refine v_aload_n 133 hF dX7_read_133 rfl 0 rfl ?_
      refine v_aload_n 134 hF dX7_read_134 rfl 0 rfl ?_
      refine M_get 135 16 hF (Nat.le_of_ble_eq_true rfl) q1920 rfl rfl dX7_read_135 ?_
      refine v_iconst (v := 3) 138 hF dX7_read_138 (by decide) ?_
      refine v_iload_n 139 hF dX7_read_139 rfl 1 rfl ?_
      refine v_imul 140 hF dX7_read_140 ?_
      obtain ⟨o13, h⟩ := h
      refine M_ald16 141 hF o13 dX7_read_141 ?_
      refine v_callVi (As := [.int (((t10 16) (((3 : Int32) * x1)).toNatClampNeg))]) 142 hF (c_X7_isRefused l D a t10 (((t10 16) (((3 : Int32) * x1)).toNatClampNeg)) _ h) (List.Perm.refl _) ⟨0, 10, _, TX7, 18, rfl, rfl⟩ q2284 q2286 qs68 q82 q2287 ds_X7_isRefused ⟨rfl, rfl, Nat.le_of_ble_eq_true rfl, Nat.le_of_ble_eq_true rfl⟩ (Nat.le_of_ble_eq_true rfl) ⟨Nat.zero_le _, Nat.zero_le _⟩ dX7_read_142 (fun r14 t15 h => ?_)
      refine v_if_eq 145 155 hF dX7_read_145 (by decide) (fun c16 => ?_) (fun c16 => ?_)
      · replace h := h.1 c16
        refine v_bipush (v := 20) 155 hF dX7_read_155 (by decide) ?_
        exact k_X7_read_J157 hF hR _ _ _ h
      · replace h := h.2 c16
        refine v_aload_n 148 hF dX7_read_148 rfl 0 rfl ?_
        refine M_get 149 8 hF (Nat.le_of_ble_eq_true rfl) q1912 rfl rfl dX7_read_149 ?_
        refine v_goto 152 157 hF dX7_read_152 (by decide) ?_
        exact k_X7_read_J157 hF hR _ _ _ h
set_option maxHeartbeats 4000000 in
theorem k_X7_read_J71 {x : vC} {l : Launch} {D : va_G} {a : Nat → Nat}  {Q : Int32 → (Nat → Nat → Int32) → Prop} (hF : vF x l D "BrookWeirsModel" cX7_read (rmk 7 0 0 175) 2 (some .int)) (hR : vRi x (moW D a) Q 0 0)   : ∀ (σ : Nat → Nat → Int32) (s1 : Int32), w_X7_read_J71 Q  σ s1 → vV x 0 0 (moW D a σ ++ []) [(0, .ref (a 0))] 71 [.int s1, .ref (a 0)] := by
  intro σ s1 h
  unfold w_X7_read_J71 at h
  obtain ⟨o17, h⟩ := h
  refine M_put14 71 hF q1918 o17 dX7_read_71 (fun t18 et18 => ?_)
  replace h := h t18 et18
  refine v_aload_n 74 hF dX7_read_74 rfl 0 rfl ?_
  refine v_iconst (v := 0) 75 hF dX7_read_75 (by decide) ?_
  refine M_put12 76 hF q1916 dX7_read_76 (fun t19 et19 => ?_)
  replace h := h t19 et19
  refine v_aload_n 79 hF dX7_read_79 rfl 0 rfl ?_
  refine M_get 80 14 hF (Nat.le_of_ble_eq_true rfl) q1918 rfl rfl dX7_read_80 ?_
  refine v_if_eq 83 101 hF dX7_read_83 (by decide) (fun c20 => ?_) (fun c20 => ?_)
  · replace h := h.1 c20
    refine v_aload_n 101 hF dX7_read_101 rfl 0 rfl ?_
    refine v_callVv (As := []) 102 hF (c_X7_keep l D a t19 _ h) (List.Perm.refl _) ⟨0, 10, _, TX7, 18, rfl, rfl⟩ q1975 q1977 qs31 q82 q1978 ds_X7_keep ⟨rfl, rfl, Nat.le_of_ble_eq_true rfl, Nat.le_of_ble_eq_true rfl⟩ (Nat.le_of_ble_eq_true rfl) ⟨Nat.zero_le _, Nat.zero_le _⟩ dX7_read_102 (fun t21 h => ?_)
    refine v_iconst (v := 0) 105 hF dX7_read_105 (by decide) ?_
    refine v_istore_n [(0, .ref (a 0)), (1, .int ((0 : Int32)))] [1, 0] 106 hF dX7_read_106 rfl (Nat.le_of_ble_eq_true rfl) rfl ?_
    exact vLoop (V := fun s => vV x 0 0 (moW D a s.1 ++ []) [(0, .ref (a 0)), (1, .int s.2)] 107 []) (fun K hK s hs => k_X7_read_L107 hF hR (fun v0 v1 q => hK (v0, v1) q) s.1 s.2 hs) _ h
  · replace h := h.2 c20
    refine v_aload_n 86 hF dX7_read_86 rfl 0 rfl ?_
    refine v_aload_n 87 hF dX7_read_87 rfl 0 rfl ?_
    refine M_get 88 13 hF (Nat.le_of_ble_eq_true rfl) q1917 rfl rfl dX7_read_88 ?_
    refine M_put15 91 hF q1919 dX7_read_91 (fun t22 et22 => ?_)
    replace h := h t22 et22
    refine v_aload_n 94 hF dX7_read_94 rfl 0 rfl ?_
    refine v_iconst (v := 1) 95 hF dX7_read_95 (by decide) ?_
    refine M_put7 96 hF q1911 dX7_read_96 (fun t23 et23 => ?_)
    replace h := h t23 et23
    refine v_iconst (v := 0) 99 hF dX7_read_99 (by decide) ?_
    exact v_iretA 100 hF hR (Nat.zero_le _) (Nat.zero_le _) dX7_read_100 h
set_option maxHeartbeats 4000000 in
theorem k_X7_read_J66 {x : vC} {l : Launch} {D : va_G} {a : Nat → Nat}  {Q : Int32 → (Nat → Nat → Int32) → Prop} (hF : vF x l D "BrookWeirsModel" cX7_read (rmk 7 0 0 175) 2 (some .int)) (hR : vRi x (moW D a) Q 0 0)   : ∀ (σ : Nat → Nat → Int32), w_X7_read_J66 Q  σ → vV x 0 0 (moW D a σ ++ []) [(0, .ref (a 0))] 66 [.ref (a 0)] := by
  intro σ h
  unfold w_X7_read_J66 at h
  refine v_iconst (v := 1) 66 hF dX7_read_66 (by decide) ?_
  refine v_goto 67 71 hF dX7_read_67 (by decide) ?_
  exact k_X7_read_J71 hF hR _ _ h
set_option maxHeartbeats 4000000 in
theorem k_X7_read_L19 {x : vC} {l : Launch} {D : va_G} {a : Nat → Nat}  {Q : Int32 → (Nat → Nat → Int32) → Prop} (hF : vF x l D "BrookWeirsModel" cX7_read (rmk 7 0 0 175) 2 (some .int)) (hR : vRi x (moW D a) Q 0 0) {K19 : (Nat → Nat → Int32) → Prop} (hK19 : ∀ (σ : Nat → Nat → Int32), K19 σ → vV x 0 0 (moW D a σ ++ []) [(0, .ref (a 0))] 19 []) : ∀ (σ : Nat → Nat → Int32), w_X7_read_L19 Q K19 σ → vV x 0 0 (moW D a σ ++ []) [(0, .ref (a 0))] 19 [] := by
  intro σ h
  unfold w_X7_read_L19 at h
  refine v_aload_n 19 hF dX7_read_19 rfl 0 rfl ?_
  refine v_bipush (v := 59) 20 hF dX7_read_20 (by decide) ?_
  refine v_bipush (v := 59) 22 hF dX7_read_22 (by decide) ?_
  refine v_callVi (As := [.int ((59 : Int32)), .int ((59 : Int32))]) 24 hF (c_X7_isHere l D a σ ((59 : Int32)) ((59 : Int32)) _ h) (List.Perm.refl _) ⟨0, 10, _, TX7, 18, rfl, rfl⟩ q2275 q2277 qs66 q82 q2278 ds_X7_isHere ⟨rfl, rfl, Nat.le_of_ble_eq_true rfl, Nat.le_of_ble_eq_true rfl⟩ (Nat.le_of_ble_eq_true rfl) ⟨Nat.zero_le _, Nat.zero_le _⟩ dX7_read_24 (fun r24 t25 h => ?_)
  refine v_if_eq 27 47 hF dX7_read_27 (by decide) (fun c26 => ?_) (fun c26 => ?_)
  · replace h := h.1 c26
    refine v_aload_n 47 hF dX7_read_47 rfl 0 rfl ?_
    refine v_aload_n 48 hF dX7_read_48 rfl 0 rfl ?_
    refine M_get 49 14 hF (Nat.le_of_ble_eq_true rfl) q1918 rfl rfl dX7_read_49 ?_
    refine v_if_ne 52 66 hF dX7_read_52 (by decide) (fun c27 => ?_) (fun c27 => ?_)
    · replace h := h.1 c27
      exact k_X7_read_J66 hF hR _ h
    · replace h := h.2 c27
      refine v_aload_n 55 hF dX7_read_55 rfl 0 rfl ?_
      refine M_get 56 13 hF (Nat.le_of_ble_eq_true rfl) q1917 rfl rfl dX7_read_56 ?_
      refine v_aload_n 59 hF dX7_read_59 rfl 0 rfl ?_
      refine M_get 60 12 hF (Nat.le_of_ble_eq_true rfl) q1916 rfl rfl dX7_read_60 ?_
      refine v_icmp_ge 63 70 hF dX7_read_63 (by decide) (fun c28 => ?_) (fun c28 => ?_)
      · replace h := h.1 c28
        refine v_iconst (v := 0) 70 hF dX7_read_70 (by decide) ?_
        exact k_X7_read_J71 hF hR _ _ h
      · replace h := h.2 c28
        exact k_X7_read_J66 hF hR _ h
  · replace h := h.2 c26
    refine v_aload_n 30 hF dX7_read_30 rfl 0 rfl ?_
    refine v_dup 31 hF dX7_read_31 rfl ?_
    refine M_get 32 13 hF (Nat.le_of_ble_eq_true rfl) q1917 rfl rfl dX7_read_32 ?_
    refine v_iconst (v := 1) 35 hF dX7_read_35 (by decide) ?_
    refine v_iadd 36 hF dX7_read_36 ?_
    refine M_put13 37 hF q1917 dX7_read_37 (fun t29 et29 => ?_)
    replace h := h t29 et29
    refine v_aload_n 40 hF dX7_read_40 rfl 0 rfl ?_
    refine v_callVv (As := []) 41 hF (c_X7_readItem l D a t29 _ h) (List.Perm.refl _) ⟨0, 10, _, TX7, 18, rfl, rfl⟩ q2208 q2210 qs62 q82 q2211 ds_X7_readItem ⟨rfl, rfl, Nat.le_of_ble_eq_true rfl, Nat.le_of_ble_eq_true rfl⟩ (Nat.le_of_ble_eq_true rfl) ⟨Nat.zero_le _, Nat.zero_le _⟩ dX7_read_41 (fun t30 h => ?_)
    refine v_goto 44 19 hF dX7_read_44 (by decide) ?_
    exact hK19 _ h
theorem ds_X7_read : yX7_read.cls = yX7_read.cls ∧ yX7_read.cls ≠ "java/lang/invoke/MethodHandle" ∧ yX7_read.cls ≠ "java/lang/invoke/VarHandle" ∧ (parseMethodDescriptor yX7_read.desc).map (fun d => d.parameters.length) = some 0 := by decide +kernel
set_option maxHeartbeats 4000000 in
theorem c_X7_read (l : Launch) (D : va_G) (a : Nat → Nat) (σ : Nat → Nat → Int32) (Q : Int32 → (Nat → Nat → Int32) → Prop) (h : w_X7_read σ Q) : Cti l D yX7_read cX7_read 2 .int (rmk 7 0 0 175) [.ref (a 0)] (moW D a σ) (moW D a) Q 0 0 := by
  refine Cti.of (by decide) (Nat.le_of_ble_eq_true rfl) (fun x hF hR => ?_)
  replace hF : vF x l D "BrookWeirsModel" cX7_read (rmk 7 0 0 175) 2 (some .int) := hF
  refine v_app0 ?_
  unfold w_X7_read at h
  refine v_aload_n 0 hF dX7_read_0 rfl 0 rfl ?_
  refine v_iconst (v := 0) 1 hF dX7_read_1 (by decide) ?_
  refine M_put13 2 hF q1917 dX7_read_2 (fun t31 et31 => ?_)
  replace h := h t31 et31
  refine v_aload_n 5 hF dX7_read_5 rfl 0 rfl ?_
  refine v_iconst (v := 0) 6 hF dX7_read_6 (by decide) ?_
  refine M_put14 7 hF q1918 (Or.inl rfl) dX7_read_7 (fun t32 et32 => ?_)
  replace h := h t32 et32
  refine v_aload_n 10 hF dX7_read_10 rfl 0 rfl ?_
  refine v_iconst (v := 0) 11 hF dX7_read_11 (by decide) ?_
  refine M_put17 12 hF q1921 dX7_read_12 (fun t33 et33 => ?_)
  replace h := h t33 et33
  refine v_aload_n 15 hF dX7_read_15 rfl 0 rfl ?_
  refine v_callVv (As := []) 16 hF (c_X7_readItem l D a t33 _ h) (List.Perm.refl _) ⟨0, 10, _, TX7, 18, rfl, rfl⟩ q2208 q2210 qs62 q82 q2211 ds_X7_readItem ⟨rfl, rfl, Nat.le_of_ble_eq_true rfl, Nat.le_of_ble_eq_true rfl⟩ (Nat.le_of_ble_eq_true rfl) ⟨Nat.zero_le _, Nat.zero_le _⟩ dX7_read_16 (fun t34 h => ?_)
  exact vLoop (V := fun s => vV x 0 0 (moW D a s ++ []) [(0, .ref (a 0))] 19 []) (fun K hK s hs => k_X7_read_L19 hF hR (fun v0 q => hK (v0) q) s hs) _ h
