set_option maxRecDepth 100000
def w_X7_water (σ : Nat → Nat → Int32) (Q : Int32 → (Nat → Nat → Int32) → Prop) : Prop :=
  ∀ t1 : Nat → Nat → Int32, t1 = (upN σ 20 7 (0 : Int32)) → w_X7_waterNow t1  (fun r2 t3 => Q r2 t3)
theorem ds_X7_water : yX7_water.cls = yX7_water.cls ∧ yX7_water.cls ≠ "java/lang/invoke/MethodHandle" ∧ yX7_water.cls ≠ "java/lang/invoke/VarHandle" ∧ (parseMethodDescriptor yX7_water.desc).map (fun d => d.parameters.length) = some 0 := by decide +kernel
set_option maxHeartbeats 4000000 in
theorem c_X7_water (l : Launch) (D : va_G) (a : Nat → Nat) (σ : Nat → Nat → Int32) (Q : Int32 → (Nat → Nat → Int32) → Prop) (h : w_X7_water σ Q) : Cti l D yX7_water cX7_water 1 .int (rmk 3 0 0 64) [.ref (a 0)] (moW D a σ) (moW D a) Q 0 0 := by
  refine Cti.of (by decide) (Nat.le_of_ble_eq_true rfl) (fun x hF hR => ?_)
  replace hF : vF x l D "BrookWeirsModel" cX7_water (rmk 3 0 0 64) 1 (some .int) := hF
  refine v_app0 ?_
  unfold w_X7_water at h
  refine v_aload_n 0 hF dX7_water_0 rfl 0 rfl ?_
  refine v_iconst (v := 0) 1 hF dX7_water_1 (by decide) ?_
  refine M_put7 2 hF q1911 dX7_water_2 (fun t1 et1 => ?_)
  replace h := h t1 et1
  refine v_aload_n 5 hF dX7_water_5 rfl 0 rfl ?_
  refine v_callVi (As := []) 6 hF (c_X7_waterNow l D a t1 _ h) (List.Perm.refl _) ⟨0, 10, _, TX7, 18, rfl, rfl⟩ q2180 q2182 qs61 q82 q2183 ds_X7_waterNow ⟨rfl, rfl, Nat.le_of_ble_eq_true rfl, Nat.le_of_ble_eq_true rfl⟩ (Nat.le_of_ble_eq_true rfl) ⟨Nat.zero_le _, Nat.zero_le _⟩ dX7_water_6 (fun r2 t3 h => ?_)
  exact v_iretA 9 hF hR (Nat.zero_le _) (Nat.zero_le _) dX7_water_9 h
def w_X7_sign_J15 (Q : Int32 → (Nat → Nat → Int32) → Prop)  (σ : Nat → Nat → Int32) (x1 x2 s1 : Int32) : Prop :=
  (s1 = 0 ∨ s1 = 1) ∧ ∀ t2 : Nat → Nat → Int32, t2 = (upN σ 20 14 s1) → (((t2 20 14) = 0 → ∀ t4 : Nat → Nat → Int32, t4 = (upN t2 20 13 ((t2 20 13) + (1 : Int32))) → vp_in (((t4 20 13) - (1 : Int32))) 60 ∧ Q ((((t4 11) (((t4 20 13) - (1 : Int32))).toNatClampNeg) - x1)) t4) ∧ (¬ (t2 20 14) = 0 → Q ((0 : Int32)) t2))
def w_X7_sign (σ : Nat → Nat → Int32) (x1 x2 : Int32) (Q : Int32 → (Nat → Nat → Int32) → Prop) : Prop :=
  w_X7_isHere σ x1 x2 (fun r6 t7 => ((¬ r6 = 0 → w_X7_sign_J15 Q t7 x1 x2 ((0 : Int32))) ∧ (r6 = 0 → w_X7_sign_J15 Q t7 x1 x2 ((1 : Int32)))))
set_option maxHeartbeats 4000000 in
theorem k_X7_sign_J15 {x : vC} {l : Launch} {D : va_G} {a : Nat → Nat}  {Q : Int32 → (Nat → Nat → Int32) → Prop} (hF : vF x l D "BrookWeirsModel" cX7_sign (rmk 2 0 0 44) 3 (some .int)) (hR : vRi x (moW D a) Q 0 0)   : ∀ (σ : Nat → Nat → Int32) (x1 x2 s1 : Int32), w_X7_sign_J15 Q  σ x1 x2 s1 → vV x 0 0 (moW D a σ ++ []) [(0, .ref (a 0)), (1, .int x1), (2, .int x2)] 15 [.int s1, .ref (a 0)] := by
  intro σ x1 x2 s1 h
  unfold w_X7_sign_J15 at h
  obtain ⟨o1, h⟩ := h
  refine M_put14 15 hF q1918 o1 dX7_sign_15 (fun t2 et2 => ?_)
  replace h := h t2 et2
  refine v_aload_n 18 hF dX7_sign_18 rfl 0 rfl ?_
  refine M_get 19 14 hF (Nat.le_of_ble_eq_true rfl) q1918 rfl rfl dX7_sign_19 ?_
  refine v_if_eq 22 27 hF dX7_sign_22 (by decide) (fun c3 => ?_) (fun c3 => ?_)
  · replace h := h.1 c3
    refine v_aload_n 27 hF dX7_sign_27 rfl 0 rfl ?_
    refine v_dup 28 hF dX7_sign_28 rfl ?_
    refine M_get 29 13 hF (Nat.le_of_ble_eq_true rfl) q1917 rfl rfl dX7_sign_29 ?_
    refine v_iconst (v := 1) 32 hF dX7_sign_32 (by decide) ?_
    refine v_iadd 33 hF dX7_sign_33 ?_
    refine M_put13 34 hF q1917 dX7_sign_34 (fun t4 et4 => ?_)
    replace h := h t4 et4
    refine v_aload_n 37 hF dX7_sign_37 rfl 0 rfl ?_
    refine M_get 38 11 hF (Nat.le_of_ble_eq_true rfl) q1915 rfl rfl dX7_sign_38 ?_
    refine v_aload_n 41 hF dX7_sign_41 rfl 0 rfl ?_
    refine M_get 42 13 hF (Nat.le_of_ble_eq_true rfl) q1917 rfl rfl dX7_sign_42 ?_
    refine v_iconst (v := 1) 45 hF dX7_sign_45 (by decide) ?_
    refine v_isub 46 hF dX7_sign_46 ?_
    obtain ⟨o5, h⟩ := h
    refine M_ald11 47 hF o5 dX7_sign_47 ?_
    refine v_iload_n 48 hF dX7_sign_48 rfl 1 rfl ?_
    refine v_isub 49 hF dX7_sign_49 ?_
    exact v_iretA 50 hF hR (Nat.zero_le _) (Nat.zero_le _) dX7_sign_50 h
  · replace h := h.2 c3
    refine v_iconst (v := 0) 25 hF dX7_sign_25 (by decide) ?_
    exact v_iretA 26 hF hR (Nat.zero_le _) (Nat.zero_le _) dX7_sign_26 h
theorem ds_X7_sign : yX7_sign.cls = yX7_sign.cls ∧ yX7_sign.cls ≠ "java/lang/invoke/MethodHandle" ∧ yX7_sign.cls ≠ "java/lang/invoke/VarHandle" ∧ (parseMethodDescriptor yX7_sign.desc).map (fun d => d.parameters.length) = some 2 := by decide +kernel
set_option maxHeartbeats 4000000 in
theorem c_X7_sign (l : Launch) (D : va_G) (a : Nat → Nat) (σ : Nat → Nat → Int32) (x1 x2 : Int32) (Q : Int32 → (Nat → Nat → Int32) → Prop) (h : w_X7_sign σ x1 x2 Q) : Cti l D yX7_sign cX7_sign 3 .int (rmk 2 0 0 44) [.ref (a 0), .int x1, .int x2] (moW D a σ) (moW D a) Q 0 0 := by
  refine Cti.of (by decide) (Nat.le_of_ble_eq_true rfl) (fun x hF hR => ?_)
  replace hF : vF x l D "BrookWeirsModel" cX7_sign (rmk 2 0 0 44) 3 (some .int) := hF
  refine v_app0 ?_
  unfold w_X7_sign at h
  refine v_aload_n 0 hF dX7_sign_0 rfl 0 rfl ?_
  refine v_aload_n 1 hF dX7_sign_1 rfl 0 rfl ?_
  refine v_iload_n 2 hF dX7_sign_2 rfl 1 rfl ?_
  refine v_iload_n 3 hF dX7_sign_3 rfl 2 rfl ?_
  refine v_callVi (As := [.int x1, .int x2]) 4 hF (c_X7_isHere l D a σ x1 x2 _ h) (List.Perm.refl _) ⟨0, 10, _, TX7, 18, rfl, rfl⟩ q2275 q2277 qs66 q82 q2278 ds_X7_isHere ⟨rfl, rfl, Nat.le_of_ble_eq_true rfl, Nat.le_of_ble_eq_true rfl⟩ (Nat.le_of_ble_eq_true rfl) ⟨Nat.zero_le _, Nat.zero_le _⟩ dX7_sign_4 (fun r6 t7 h => ?_)
  refine v_if_ne 7 14 hF dX7_sign_7 (by decide) (fun c8 => ?_) (fun c8 => ?_)
  · replace h := h.1 c8
    refine v_iconst (v := 0) 14 hF dX7_sign_14 (by decide) ?_
    exact k_X7_sign_J15 hF hR _ _ _ _ h
  · replace h := h.2 c8
    refine v_iconst (v := 1) 10 hF dX7_sign_10 (by decide) ?_
    refine v_goto 11 15 hF dX7_sign_11 (by decide) ?_
    exact k_X7_sign_J15 hF hR _ _ _ _ h
def w_X7_boards (σ : Nat → Nat → Int32) (x1 x2 : Int32) (Q : Int32 → (Nat → Nat → Int32) → Prop) : Prop :=
  w_X7_keep σ  (fun t1 => w_X7_doBoards t1 x1 x2 (fun r2 t3 => w_X7_ends t3 r2 (fun r4 t5 => Q r4 t5)))
theorem ds_X7_boards : yX7_boards.cls = yX7_boards.cls ∧ yX7_boards.cls ≠ "java/lang/invoke/MethodHandle" ∧ yX7_boards.cls ≠ "java/lang/invoke/VarHandle" ∧ (parseMethodDescriptor yX7_boards.desc).map (fun d => d.parameters.length) = some 2 := by decide +kernel
set_option maxHeartbeats 4000000 in
theorem c_X7_boards (l : Launch) (D : va_G) (a : Nat → Nat) (σ : Nat → Nat → Int32) (x1 x2 : Int32) (Q : Int32 → (Nat → Nat → Int32) → Prop) (h : w_X7_boards σ x1 x2 Q) : Cti l D yX7_boards cX7_boards 3 .int (rmk 4 0 0 87) [.ref (a 0), .int x1, .int x2] (moW D a σ) (moW D a) Q 0 0 := by
  refine Cti.of (by decide) (Nat.le_of_ble_eq_true rfl) (fun x hF hR => ?_)
  replace hF : vF x l D "BrookWeirsModel" cX7_boards (rmk 4 0 0 87) 3 (some .int) := hF
  refine v_app0 ?_
  unfold w_X7_boards at h
  refine v_aload_n 0 hF dX7_boards_0 rfl 0 rfl ?_
  refine v_callVv (As := []) 1 hF (c_X7_keep l D a σ _ h) (List.Perm.refl _) ⟨0, 10, _, TX7, 18, rfl, rfl⟩ q1975 q1977 qs31 q82 q1978 ds_X7_keep ⟨rfl, rfl, Nat.le_of_ble_eq_true rfl, Nat.le_of_ble_eq_true rfl⟩ (Nat.le_of_ble_eq_true rfl) ⟨Nat.zero_le _, Nat.zero_le _⟩ dX7_boards_1 (fun t1 h => ?_)
  refine v_aload_n 4 hF dX7_boards_4 rfl 0 rfl ?_
  refine v_aload_n 5 hF dX7_boards_5 rfl 0 rfl ?_
  refine v_iload_n 6 hF dX7_boards_6 rfl 1 rfl ?_
  refine v_iload_n 7 hF dX7_boards_7 rfl 2 rfl ?_
  refine v_callVi (As := [.int x1, .int x2]) 8 hF (c_X7_doBoards l D a t1 x1 x2 _ h) (List.Perm.refl _) ⟨0, 10, _, TX7, 18, rfl, rfl⟩ q1991 q1993 qs33 q82 q1994 ds_X7_doBoards ⟨rfl, rfl, Nat.le_of_ble_eq_true rfl, Nat.le_of_ble_eq_true rfl⟩ (Nat.le_of_ble_eq_true rfl) ⟨Nat.zero_le _, Nat.zero_le _⟩ dX7_boards_8 (fun r2 t3 h => ?_)
  refine v_callVi (As := [.int r2]) 11 hF (c_X7_ends l D a t3 r2 _ h) (List.Perm.refl _) ⟨0, 10, _, TX7, 18, rfl, rfl⟩ q1983 q1985 qs32 q82 q1986 ds_X7_ends ⟨rfl, rfl, Nat.le_of_ble_eq_true rfl, Nat.le_of_ble_eq_true rfl⟩ (Nat.le_of_ble_eq_true rfl) ⟨Nat.zero_le _, Nat.zero_le _⟩ dX7_boards_11 (fun r4 t5 h => ?_)
  exact v_iretA 14 hF hR (Nat.zero_le _) (Nat.zero_le _) dX7_boards_14 h
def w_X7_lay (σ : Nat → Nat → Int32) (x1 x2 : Int32) (Q : Int32 → (Nat → Nat → Int32) → Prop) : Prop :=
  w_X7_keep σ  (fun t1 => w_X7_doLay t1 x1 x2 (fun r2 t3 => w_X7_ends t3 r2 (fun r4 t5 => Q r4 t5)))
theorem ds_X7_lay : yX7_lay.cls = yX7_lay.cls ∧ yX7_lay.cls ≠ "java/lang/invoke/MethodHandle" ∧ yX7_lay.cls ≠ "java/lang/invoke/VarHandle" ∧ (parseMethodDescriptor yX7_lay.desc).map (fun d => d.parameters.length) = some 2 := by decide +kernel
set_option maxHeartbeats 4000000 in
theorem c_X7_lay (l : Launch) (D : va_G) (a : Nat → Nat) (σ : Nat → Nat → Int32) (x1 x2 : Int32) (Q : Int32 → (Nat → Nat → Int32) → Prop) (h : w_X7_lay σ x1 x2 Q) : Cti l D yX7_lay cX7_lay 3 .int (rmk 4 0 0 86) [.ref (a 0), .int x1, .int x2] (moW D a σ) (moW D a) Q 0 0 := by
  refine Cti.of (by decide) (Nat.le_of_ble_eq_true rfl) (fun x hF hR => ?_)
  replace hF : vF x l D "BrookWeirsModel" cX7_lay (rmk 4 0 0 86) 3 (some .int) := hF
  refine v_app0 ?_
  unfold w_X7_lay at h
  refine v_aload_n 0 hF dX7_lay_0 rfl 0 rfl ?_
  refine v_callVv (As := []) 1 hF (c_X7_keep l D a σ _ h) (List.Perm.refl _) ⟨0, 10, _, TX7, 18, rfl, rfl⟩ q1975 q1977 qs31 q82 q1978 ds_X7_keep ⟨rfl, rfl, Nat.le_of_ble_eq_true rfl, Nat.le_of_ble_eq_true rfl⟩ (Nat.le_of_ble_eq_true rfl) ⟨Nat.zero_le _, Nat.zero_le _⟩ dX7_lay_1 (fun t1 h => ?_)
  refine v_aload_n 4 hF dX7_lay_4 rfl 0 rfl ?_
  refine v_aload_n 5 hF dX7_lay_5 rfl 0 rfl ?_
  refine v_iload_n 6 hF dX7_lay_6 rfl 1 rfl ?_
  refine v_iload_n 7 hF dX7_lay_7 rfl 2 rfl ?_
  refine v_callVi (As := [.int x1, .int x2]) 8 hF (c_X7_doLay l D a t1 x1 x2 _ h) (List.Perm.refl _) ⟨0, 10, _, TX7, 18, rfl, rfl⟩ q2027 q2029 qs38 q82 q2030 ds_X7_doLay ⟨rfl, rfl, Nat.le_of_ble_eq_true rfl, Nat.le_of_ble_eq_true rfl⟩ (Nat.le_of_ble_eq_true rfl) ⟨Nat.zero_le _, Nat.zero_le _⟩ dX7_lay_8 (fun r2 t3 h => ?_)
  refine v_callVi (As := [.int r2]) 11 hF (c_X7_ends l D a t3 r2 _ h) (List.Perm.refl _) ⟨0, 10, _, TX7, 18, rfl, rfl⟩ q1983 q1985 qs32 q82 q1986 ds_X7_ends ⟨rfl, rfl, Nat.le_of_ble_eq_true rfl, Nat.le_of_ble_eq_true rfl⟩ (Nat.le_of_ble_eq_true rfl) ⟨Nat.zero_le _, Nat.zero_le _⟩ dX7_lay_11 (fun r4 t5 h => ?_)
  exact v_iretA 14 hF hR (Nat.zero_le _) (Nat.zero_le _) dX7_lay_14 h
def w_X7_of_J28 (Q : Int32 → (Nat → Nat → Int32) → Prop)  (σ : Nat → Nat → Int32) (x1 x2 s1 : Int32) : Prop :=
  ∀ t1 : Nat → Nat → Int32, t1 = (upN σ 20 7 s1) → (((t1 20 7) ≤ 0 → w_X7_numberOf t1 x1 x2 (fun r3 t4 => Q r3 t4)) ∧ (¬ (t1 20 7) ≤ 0 → Q ((0 : Int32)) t1))
def w_X7_of (σ : Nat → Nat → Int32) (x1 x2 : Int32) (Q : Int32 → (Nat → Nat → Int32) → Prop) : Prop :=
  w_X7_isPool σ x1 (fun r5 t6 => ((¬ r5 = 0 → w_X7_in x2 ((0 : Int32)) ((8 : Int32)) (fun r8 => ((¬ r8 = 0 → w_X7_of_J28 Q t6 x1 x2 ((0 : Int32))) ∧ (r8 = 0 → w_X7_of_J28 Q t6 x1 x2 ((2 : Int32)))))) ∧ (r5 = 0 → w_X7_of_J28 Q t6 x1 x2 ((1 : Int32)))))
set_option maxHeartbeats 4000000 in
theorem k_X7_of_J28 {x : vC} {l : Launch} {D : va_G} {a : Nat → Nat}  {Q : Int32 → (Nat → Nat → Int32) → Prop} (hF : vF x l D "BrookWeirsModel" cX7_of (rmk 5 0 0 109) 3 (some .int)) (hR : vRi x (moW D a) Q 0 0)   : ∀ (σ : Nat → Nat → Int32) (x1 x2 s1 : Int32), w_X7_of_J28 Q  σ x1 x2 s1 → vV x 0 0 (moW D a σ ++ []) [(0, .ref (a 0)), (1, .int x1), (2, .int x2)] 28 [.int s1, .ref (a 0)] := by
  intro σ x1 x2 s1 h
  unfold w_X7_of_J28 at h
  refine M_put7 28 hF q1911 dX7_of_28 (fun t1 et1 => ?_)
  replace h := h t1 et1
  refine v_aload_n 31 hF dX7_of_31 rfl 0 rfl ?_
  refine M_get 32 7 hF (Nat.le_of_ble_eq_true rfl) q1911 rfl rfl dX7_of_32 ?_
  refine v_if_le 35 42 hF dX7_of_35 (by decide) (fun c2 => ?_) (fun c2 => ?_)
  · replace h := h.1 c2
    refine v_aload_n 42 hF dX7_of_42 rfl 0 rfl ?_
    refine v_iload_n 43 hF dX7_of_43 rfl 1 rfl ?_
    refine v_iload_n 44 hF dX7_of_44 rfl 2 rfl ?_
    refine v_callVi (As := [.int x1, .int x2]) 45 hF (c_X7_numberOf l D a t1 x1 x2 _ h) (List.Perm.refl _) ⟨0, 10, _, TX7, 18, rfl, rfl⟩ q2042 q2044 qs40 q82 q2045 ds_X7_numberOf ⟨rfl, rfl, Nat.le_of_ble_eq_true rfl, Nat.le_of_ble_eq_true rfl⟩ (Nat.le_of_ble_eq_true rfl) ⟨Nat.zero_le _, Nat.zero_le _⟩ dX7_of_45 (fun r3 t4 h => ?_)
    exact v_iretA 48 hF hR (Nat.zero_le _) (Nat.zero_le _) dX7_of_48 h
  · replace h := h.2 c2
    refine v_iconst (v := 0) 38 hF dX7_of_38 (by decide) ?_
    refine v_goto 39 48 hF dX7_of_39 (by decide) ?_
    exact v_iretA 48 hF hR (Nat.zero_le _) (Nat.zero_le _) dX7_of_48 h
theorem ds_X7_of : yX7_of.cls = yX7_of.cls ∧ yX7_of.cls ≠ "java/lang/invoke/MethodHandle" ∧ yX7_of.cls ≠ "java/lang/invoke/VarHandle" ∧ (parseMethodDescriptor yX7_of.desc).map (fun d => d.parameters.length) = some 2 := by decide +kernel
set_option maxHeartbeats 4000000 in
theorem c_X7_of (l : Launch) (D : va_G) (a : Nat → Nat) (σ : Nat → Nat → Int32) (x1 x2 : Int32) (Q : Int32 → (Nat → Nat → Int32) → Prop) (h : w_X7_of σ x1 x2 Q) : Cti l D yX7_of cX7_of 3 .int (rmk 5 0 0 109) [.ref (a 0), .int x1, .int x2] (moW D a σ) (moW D a) Q 0 0 := by
  refine Cti.of (by decide) (Nat.le_of_ble_eq_true rfl) (fun x hF hR => ?_)
  replace hF : vF x l D "BrookWeirsModel" cX7_of (rmk 5 0 0 109) 3 (some .int) := hF
  refine v_app0 ?_
  unfold w_X7_of at h
  refine v_aload_n 0 hF dX7_of_0 rfl 0 rfl ?_
  refine v_aload_n 1 hF dX7_of_1 rfl 0 rfl ?_
  refine v_iload_n 2 hF dX7_of_2 rfl 1 rfl ?_
  refine v_callVi (As := [.int x1]) 3 hF (c_X7_isPool l D a σ x1 _ h) (List.Perm.refl _) ⟨0, 10, _, TX7, 18, rfl, rfl⟩ q1995 q1997 qs34 q82 q1998 ds_X7_isPool ⟨rfl, rfl, Nat.le_of_ble_eq_true rfl, Nat.le_of_ble_eq_true rfl⟩ (Nat.le_of_ble_eq_true rfl) ⟨Nat.zero_le _, Nat.zero_le _⟩ dX7_of_3 (fun r5 t6 h => ?_)
  refine v_if_ne 6 13 hF dX7_of_6 (by decide) (fun c7 => ?_) (fun c7 => ?_)
  · replace h := h.1 c7
    refine v_iload_n 13 hF dX7_of_13 rfl 2 rfl ?_
    refine v_iconst (v := 0) 14 hF dX7_of_14 (by decide) ?_
    refine v_bipush (v := 8) 15 hF dX7_of_15 (by decide) ?_
    refine v_callS0i (As := [.int x2, .int ((0 : Int32)), .int ((8 : Int32))]) 17 hF (c_X7_in l D x2 ((0 : Int32)) ((8 : Int32)) _ h) q1968 q1969 q82 q1970 ds_X7_in ⟨rfl, rfl, Nat.le_of_ble_eq_true rfl, Nat.le_of_ble_eq_true rfl⟩ (Nat.le_of_ble_eq_true rfl) ⟨Nat.zero_le _, Nat.zero_le _⟩ dX7_of_17 (fun r8 h => ?_)
    refine v_if_ne 20 27 hF dX7_of_20 (by decide) (fun c9 => ?_) (fun c9 => ?_)
    · replace h := h.1 c9
      refine v_iconst (v := 0) 27 hF dX7_of_27 (by decide) ?_
      exact k_X7_of_J28 hF hR _ _ _ _ h
    · replace h := h.2 c9
      refine v_iconst (v := 2) 23 hF dX7_of_23 (by decide) ?_
      refine v_goto 24 28 hF dX7_of_24 (by decide) ?_
      exact k_X7_of_J28 hF hR _ _ _ _ h
  · replace h := h.2 c7
    refine v_iconst (v := 1) 9 hF dX7_of_9 (by decide) ?_
    refine v_goto 10 28 hF dX7_of_10 (by decide) ?_
    exact k_X7_of_J28 hF hR _ _ _ _ h
def w_X7_liveAll_L4 (Q : (Nat → Nat → Int32) → Prop) (K4 : (Nat → Nat → Int32) → Int32 → Int32 → Prop) (σ : Nat → Nat → Int32) (x1 x2 : Int32) : Prop :=
  vp_in ((1 : Int32)) 156 ∧ ((((σ 0) ((1 : Int32)).toNatClampNeg) ≤ x2 → vp_in ((1 : Int32)) 156 ∧ ∀ t4 : Nat → Nat → Int32, t4 = (upN σ 0 ((1 : Int32)).toNatClampNeg x1) → Q t4) ∧ (¬ ((σ 0) ((1 : Int32)).toNatClampNeg) ≤ x2 → w_X7_live σ x2 (fun t5 => w_X7_clutchAt x2 (fun r6 => vp_in ((r6 + (1 : Int32))) 156 ∧ ((((t5 0) ((r6 + (1 : Int32))).toNatClampNeg) ≤ 0 → ∀ y9 : Int32, y9 = x2 + (1 : Int32) → K4 t5 x1 y9) ∧ (¬ ((t5 0) ((r6 + (1 : Int32))).toNatClampNeg) ≤ 0 → w_X7_clutchAt x2 (fun r10 => w_X7_clutchAt x1 (fun r11 => ¬ r10 < 0 ∧ ¬ r11 < 0 ∧ ¬ (4 : Int32) < 0 ∧ r10.toNatClampNeg + ((4 : Int32)).toNatClampNeg ≤ 156 ∧ r11.toNatClampNeg + ((4 : Int32)).toNatClampNeg ≤ 156 ∧ ∀ t17 : Nat → Nat → Int32, t17 = upR t5 0 (va_cpy (t5 0) (t5 0) r10.toNatClampNeg r11.toNatClampNeg ((4 : Int32)).toNatClampNeg) → ∀ y18 : Int32, y18 = x1 + (1 : Int32) → ∀ y19 : Int32, y19 = x2 + (1 : Int32) → K4 t17 y18 y19))))))))
def w_X7_liveAll (σ : Nat → Nat → Int32) (Q : (Nat → Nat → Int32) → Prop) : Prop :=
  wLoop (fun K s => w_X7_liveAll_L4 Q (fun v0 v1 v2 => K (v0, v1, v2)) s.1 s.2.1 s.2.2) (σ, (0 : Int32), (0 : Int32))
set_option maxHeartbeats 4000000 in
theorem k_X7_liveAll_L4 {x : vC} {l : Launch} {D : va_G} {a : Nat → Nat}  {Q : (Nat → Nat → Int32) → Prop} (hF : vF x l D "BrookWeirsModel" cX7_liveAll (rmk 4 0 0 89) 3 none) (hR : vRv x (moW D a) Q 0 0) {K4 : (Nat → Nat → Int32) → Int32 → Int32 → Prop} (hK4 : ∀ (σ : Nat → Nat → Int32) (x1 x2 : Int32), K4 σ x1 x2 → vV x 0 0 (moW D a σ ++ []) [(0, .ref (a 0)), (1, .int x1), (2, .int x2)] 4 []) : ∀ (σ : Nat → Nat → Int32) (x1 x2 : Int32), w_X7_liveAll_L4 Q K4 σ x1 x2 → vV x 0 0 (moW D a σ ++ []) [(0, .ref (a 0)), (1, .int x1), (2, .int x2)] 4 [] := by
  intro σ x1 x2 h
  unfold w_X7_liveAll_L4 at h
  refine v_iload_n 4 hF dX7_liveAll_4 rfl 2 rfl ?_
  refine v_aload_n 5 hF dX7_liveAll_5 rfl 0 rfl ?_
  refine M_get 6 0 hF (Nat.le_of_ble_eq_true rfl) q1904 rfl rfl dX7_liveAll_6 ?_
  refine v_iconst (v := 1) 9 hF dX7_liveAll_9 (by decide) ?_
  obtain ⟨o1, h⟩ := h
  refine M_ald0 10 hF o1 dX7_liveAll_10 ?_
  refine v_icmp_ge 11 62 hF dX7_liveAll_11 (by decide) (fun c2 => ?_) (fun c2 => ?_)
  · replace h := h.1 c2
    refine v_aload_n 62 hF dX7_liveAll_62 rfl 0 rfl ?_
    refine M_get 63 0 hF (Nat.le_of_ble_eq_true rfl) q1904 rfl rfl dX7_liveAll_63 ?_
    refine v_iconst (v := 1) 66 hF dX7_liveAll_66 (by decide) ?_
    refine v_iload_n 67 hF dX7_liveAll_67 rfl 1 rfl ?_
    obtain ⟨o3, h⟩ := h
    refine M_ast0 68 hF o3 dX7_liveAll_68 (fun t4 et4 => ?_)
    replace h := h t4 et4
    exact v_vretA 69 hF hR (Nat.zero_le _) (Nat.zero_le _) dX7_liveAll_69 h
  · replace h := h.2 c2
    refine v_aload_n 14 hF dX7_liveAll_14 rfl 0 rfl ?_
    refine v_iload_n 15 hF dX7_liveAll_15 rfl 2 rfl ?_
    refine v_callVv (As := [.int x2]) 16 hF (c_X7_live l D a σ x2 _ h) (List.Perm.refl _) ⟨0, 10, _, TX7, 18, rfl, rfl⟩ q2103 q2105 qs50 q82 q2106 ds_X7_live ⟨rfl, rfl, Nat.le_of_ble_eq_true rfl, Nat.le_of_ble_eq_true rfl⟩ (Nat.le_of_ble_eq_true rfl) ⟨Nat.zero_le _, Nat.zero_le _⟩ dX7_liveAll_16 (fun t5 h => ?_)
    refine v_aload_n 19 hF dX7_liveAll_19 rfl 0 rfl ?_
    refine M_get 20 0 hF (Nat.le_of_ble_eq_true rfl) q1904 rfl rfl dX7_liveAll_20 ?_
    refine v_iload_n 23 hF dX7_liveAll_23 rfl 2 rfl ?_
    refine v_callS0i (As := [.int x2]) 24 hF (c_X7_clutchAt l D x2 _ h) q2035 q2036 q82 q2037 ds_X7_clutchAt ⟨rfl, rfl, Nat.le_of_ble_eq_true rfl, Nat.le_of_ble_eq_true rfl⟩ (Nat.le_of_ble_eq_true rfl) ⟨Nat.zero_le _, Nat.zero_le _⟩ dX7_liveAll_24 (fun r6 h => ?_)
    refine v_iconst (v := 1) 27 hF dX7_liveAll_27 (by decide) ?_
    refine v_iadd 28 hF dX7_liveAll_28 ?_
    obtain ⟨o7, h⟩ := h
    refine M_ald0 29 hF o7 dX7_liveAll_29 ?_
    refine v_if_le 30 56 hF dX7_liveAll_30 (by decide) (fun c8 => ?_) (fun c8 => ?_)
    · replace h := h.1 c8
      obtain ⟨y9, ey9⟩ : ∃ y : Int32, y = x2 + (1 : Int32) := ⟨_, rfl⟩
      replace h := h y9 ey9
      refine v_iinc [(0, .ref (a 0)), (1, .int x1), (2, .int y9)] [1, 2, 0] 56 hF dX7_liveAll_56 2 rfl (by rw [ey9]; rfl) (Nat.le_of_ble_eq_true rfl) rfl ?_
      refine v_goto 59 4 hF dX7_liveAll_59 (by decide) ?_
      exact hK4 _ _ _ h
    · replace h := h.2 c8
      refine v_aload_n 33 hF dX7_liveAll_33 rfl 0 rfl ?_
      refine M_get 34 0 hF (Nat.le_of_ble_eq_true rfl) q1904 rfl rfl dX7_liveAll_34 ?_
      refine v_iload_n 37 hF dX7_liveAll_37 rfl 2 rfl ?_
      refine v_callS0i (As := [.int x2]) 38 hF (c_X7_clutchAt l D x2 _ h) q2035 q2036 q82 q2037 ds_X7_clutchAt ⟨rfl, rfl, Nat.le_of_ble_eq_true rfl, Nat.le_of_ble_eq_true rfl⟩ (Nat.le_of_ble_eq_true rfl) ⟨Nat.zero_le _, Nat.zero_le _⟩ dX7_liveAll_38 (fun r10 h => ?_)
      refine v_aload_n 41 hF dX7_liveAll_41 rfl 0 rfl ?_
      refine M_get 42 0 hF (Nat.le_of_ble_eq_true rfl) q1904 rfl rfl dX7_liveAll_42 ?_
      refine v_iload_n 45 hF dX7_liveAll_45 rfl 1 rfl ?_
      refine v_callS0i (As := [.int x1]) 46 hF (c_X7_clutchAt l D x1 _ h) q2035 q2036 q82 q2037 ds_X7_clutchAt ⟨rfl, rfl, Nat.le_of_ble_eq_true rfl, Nat.le_of_ble_eq_true rfl⟩ (Nat.le_of_ble_eq_true rfl) ⟨Nat.zero_le _, Nat.zero_le _⟩ dX7_liveAll_46 (fun r11 h => ?_)
      refine v_iconst (v := 4) 49 hF dX7_liveAll_49 (by decide) ?_
      obtain ⟨o12, o13, o14, o15, o16, h⟩ := h
      refine M_cpy0_0 50 hF q1979 o12 o13 o14 o15 o16 (Nat.le_of_ble_eq_true rfl) (Nat.le_of_ble_eq_true rfl) dX7_liveAll_50 (fun t17 et17 => ?_)
      replace h := h t17 et17
      obtain ⟨y18, ey18⟩ : ∃ y : Int32, y = x1 + (1 : Int32) := ⟨_, rfl⟩
      replace h := h y18 ey18
      refine v_iinc [(0, .ref (a 0)), (1, .int y18), (2, .int x2)] [1, 0, 2] 53 hF dX7_liveAll_53 1 rfl (by rw [ey18]; rfl) (Nat.le_of_ble_eq_true rfl) rfl ?_
      obtain ⟨y19, ey19⟩ : ∃ y : Int32, y = x2 + (1 : Int32) := ⟨_, rfl⟩
      replace h := h y19 ey19
      refine v_iinc [(0, .ref (a 0)), (1, .int y18), (2, .int y19)] [1, 2, 0] 56 hF dX7_liveAll_56 2 rfl (by rw [ey19]; rfl) (Nat.le_of_ble_eq_true rfl) rfl ?_
      refine v_goto 59 4 hF dX7_liveAll_59 (by decide) ?_
      exact hK4 _ _ _ h
theorem ds_X7_liveAll : yX7_liveAll.cls = yX7_liveAll.cls ∧ yX7_liveAll.cls ≠ "java/lang/invoke/MethodHandle" ∧ yX7_liveAll.cls ≠ "java/lang/invoke/VarHandle" ∧ (parseMethodDescriptor yX7_liveAll.desc).map (fun d => d.parameters.length) = some 0 := by decide +kernel
set_option maxHeartbeats 4000000 in
theorem c_X7_liveAll (l : Launch) (D : va_G) (a : Nat → Nat) (σ : Nat → Nat → Int32) (Q : (Nat → Nat → Int32) → Prop) (h : w_X7_liveAll σ Q) : Ctv l D yX7_liveAll cX7_liveAll 3 (rmk 4 0 0 89) [.ref (a 0)] (moW D a σ) (moW D a) Q 0 0 := by
  refine Ctv.of (by decide) (Nat.le_of_ble_eq_true rfl) (fun x hF hR => ?_)
  replace hF : vF x l D "BrookWeirsModel" cX7_liveAll (rmk 4 0 0 89) 3 none := hF
  refine v_app0 ?_
  unfold w_X7_liveAll at h
  refine v_iconst (v := 0) 0 hF dX7_liveAll_0 (by decide) ?_
  refine v_istore_n [(0, .ref (a 0)), (1, .int ((0 : Int32)))] [1, 0] 1 hF dX7_liveAll_1 rfl (Nat.le_of_ble_eq_true rfl) rfl ?_
  refine v_iconst (v := 0) 2 hF dX7_liveAll_2 (by decide) ?_
  refine v_istore_n [(0, .ref (a 0)), (1, .int ((0 : Int32))), (2, .int ((0 : Int32)))] [1, 2, 0] 3 hF dX7_liveAll_3 rfl (Nat.le_of_ble_eq_true rfl) rfl ?_
  exact vLoop (V := fun s => vV x 0 0 (moW D a s.1 ++ []) [(0, .ref (a 0)), (1, .int s.2.1), (2, .int s.2.2)] 4 []) (fun K hK s hs => k_X7_liveAll_L4 hF hR (fun v0 v1 v2 q => hK (v0, v1, v2) q) s.1 s.2.1 s.2.2 hs) _ h
def w_X7_numberHere (σ : Nat → Nat → Int32) (Q : Int32 → (Nat → Nat → Int32) → Prop) : Prop :=
  w_X7_sign σ ((48 : Int32)) ((57 : Int32)) (fun r1 t2 => w_X7_isHere t2 ((48 : Int32)) ((57 : Int32)) (fun r3 t4 => ((r3 = 0 → Q r1 t4) ∧ (¬ r3 = 0 → w_X7_sign t4 ((48 : Int32)) ((57 : Int32)) (fun r6 t7 => Q ((((10 : Int32) * r1) + r6)) t7)))))
theorem ds_X7_numberHere : yX7_numberHere.cls = yX7_numberHere.cls ∧ yX7_numberHere.cls ≠ "java/lang/invoke/MethodHandle" ∧ yX7_numberHere.cls ≠ "java/lang/invoke/VarHandle" ∧ (parseMethodDescriptor yX7_numberHere.desc).map (fun d => d.parameters.length) = some 0 := by decide +kernel
set_option maxHeartbeats 4000000 in
theorem c_X7_numberHere (l : Launch) (D : va_G) (a : Nat → Nat) (σ : Nat → Nat → Int32) (Q : Int32 → (Nat → Nat → Int32) → Prop) (h : w_X7_numberHere σ Q) : Cti l D yX7_numberHere cX7_numberHere 2 .int (rmk 3 0 0 66) [.ref (a 0)] (moW D a σ) (moW D a) Q 0 0 := by
  refine Cti.of (by decide) (Nat.le_of_ble_eq_true rfl) (fun x hF hR => ?_)
  replace hF : vF x l D "BrookWeirsModel" cX7_numberHere (rmk 3 0 0 66) 2 (some .int) := hF
  refine v_app0 ?_
  unfold w_X7_numberHere at h
  refine v_aload_n 0 hF dX7_numberHere_0 rfl 0 rfl ?_
  refine v_bipush (v := 48) 1 hF dX7_numberHere_1 (by decide) ?_
  refine v_bipush (v := 57) 3 hF dX7_numberHere_3 (by decide) ?_
  refine v_callVi (As := [.int ((48 : Int32)), .int ((57 : Int32))]) 5 hF (c_X7_sign l D a σ ((48 : Int32)) ((57 : Int32)) _ h) (List.Perm.refl _) ⟨0, 10, _, TX7, 18, rfl, rfl⟩ q2271 q2273 qs65 q82 q2274 ds_X7_sign ⟨rfl, rfl, Nat.le_of_ble_eq_true rfl, Nat.le_of_ble_eq_true rfl⟩ (Nat.le_of_ble_eq_true rfl) ⟨Nat.zero_le _, Nat.zero_le _⟩ dX7_numberHere_5 (fun r1 t2 h => ?_)
  refine v_istore_n [(0, .ref (a 0)), (1, .int r1)] [1, 0] 8 hF dX7_numberHere_8 rfl (Nat.le_of_ble_eq_true rfl) rfl ?_
  refine v_aload_n 9 hF dX7_numberHere_9 rfl 0 rfl ?_
  refine v_bipush (v := 48) 10 hF dX7_numberHere_10 (by decide) ?_
  refine v_bipush (v := 57) 12 hF dX7_numberHere_12 (by decide) ?_
  refine v_callVi (As := [.int ((48 : Int32)), .int ((57 : Int32))]) 14 hF (c_X7_isHere l D a t2 ((48 : Int32)) ((57 : Int32)) _ h) (List.Perm.refl _) ⟨0, 10, _, TX7, 18, rfl, rfl⟩ q2275 q2277 qs66 q82 q2278 ds_X7_isHere ⟨rfl, rfl, Nat.le_of_ble_eq_true rfl, Nat.le_of_ble_eq_true rfl⟩ (Nat.le_of_ble_eq_true rfl) ⟨Nat.zero_le _, Nat.zero_le _⟩ dX7_numberHere_14 (fun r3 t4 h => ?_)
  refine v_if_eq 17 36 hF dX7_numberHere_17 (by decide) (fun c5 => ?_) (fun c5 => ?_)
  · replace h := h.1 c5
    refine v_iload_n 36 hF dX7_numberHere_36 rfl 1 rfl ?_
    exact v_iretA 37 hF hR (Nat.zero_le _) (Nat.zero_le _) dX7_numberHere_37 h
  · replace h := h.2 c5
    refine v_bipush (v := 10) 20 hF dX7_numberHere_20 (by decide) ?_
    refine v_iload_n 22 hF dX7_numberHere_22 rfl 1 rfl ?_
    refine v_imul 23 hF dX7_numberHere_23 ?_
    refine v_aload_n 24 hF dX7_numberHere_24 rfl 0 rfl ?_
    refine v_bipush (v := 48) 25 hF dX7_numberHere_25 (by decide) ?_
    refine v_bipush (v := 57) 27 hF dX7_numberHere_27 (by decide) ?_
    refine v_callVi (As := [.int ((48 : Int32)), .int ((57 : Int32))]) 29 hF (c_X7_sign l D a t4 ((48 : Int32)) ((57 : Int32)) _ h) (List.Perm.refl _) ⟨0, 10, _, TX7, 18, rfl, rfl⟩ q2271 q2273 qs65 q82 q2274 ds_X7_sign ⟨rfl, rfl, Nat.le_of_ble_eq_true rfl, Nat.le_of_ble_eq_true rfl⟩ (Nat.le_of_ble_eq_true rfl) ⟨Nat.zero_le _, Nat.zero_le _⟩ dX7_numberHere_29 (fun r6 t7 h => ?_)
    refine v_iadd 32 hF dX7_numberHere_32 ?_
    refine v_goto 33 37 hF dX7_numberHere_33 (by decide) ?_
    exact v_iretA 37 hF hR (Nat.zero_le _) (Nat.zero_le _) dX7_numberHere_37 h
def w_X7_goBy_L89 (Q : Int32 → (Nat → Nat → Int32) → Prop) (K89 : (Nat → Nat → Int32) → Int32 → Int32 → Prop) (σ : Nat → Nat → Int32) (x1 x2 : Int32) : Prop :=
  vp_in ((0 : Int32)) 156 ∧ ((((σ 0) ((0 : Int32)).toNatClampNeg) ≤ x2 → w_X7_flood σ  (fun r3 t4 => w_X7_takeForFields t4  (fun t5 => w_X7_liveAll t5  (fun t6 => w_X7_night t6  (fun t7 => Q r3 t7))))) ∧ (¬ ((σ 0) ((0 : Int32)).toNatClampNeg) ≤ x2 → w_X7_letsDown σ x2 (fun r8 t9 => w_X7_goesDown t9 x2 r8 (fun t10 => ∀ y11 : Int32, y11 = x2 + (1 : Int32) → K89 t10 x1 y11))))
def w_X7_goBy_J61 (Q : Int32 → (Nat → Nat → Int32) → Prop)  (σ : Nat → Nat → Int32) (x1 : Int32) : Prop :=
  vp_in ((4 : Int32)) 156 ∧ vp_in ((4 : Int32)) 156 ∧ ∀ t14 : Nat → Nat → Int32, t14 = (upN σ 0 ((4 : Int32)).toNatClampNeg (((σ 0) ((4 : Int32)).toNatClampNeg) + x1)) → vp_in ((3 : Int32)) 156 ∧ vp_in ((3 : Int32)) 156 ∧ ∀ t17 : Nat → Nat → Int32, t17 = (upN t14 0 ((3 : Int32)).toNatClampNeg (((t14 0) ((3 : Int32)).toNatClampNeg) + (1 : Int32))) → w_X7_flows t17 ((0 : Int32)) x1 (fun t18 => wLoop (fun K s => w_X7_goBy_L89 Q (fun v0 v1 v2 => K (v0, v1, v2)) s.1 s.2.1 s.2.2) (t18, x1, (0 : Int32)))
def w_X7_goBy_J20 (Q : Int32 → (Nat → Nat → Int32) → Prop)  (σ : Nat → Nat → Int32) (s0 : Int32) : Prop :=
  vp_in ((2 : Int32)) 156 ∧ ((((σ 0) ((2 : Int32)).toNatClampNeg) ≤ 0 → w_X7_goBy_J61 Q σ s0) ∧ (¬ ((σ 0) ((2 : Int32)).toNatClampNeg) ≤ 0 → vp_in ((2 : Int32)) 156 ∧ vp_in ((2 : Int32)) 156 ∧ ∀ t23 : Nat → Nat → Int32, t23 = (upN σ 0 ((2 : Int32)).toNatClampNeg (((σ 0) ((2 : Int32)).toNatClampNeg) - (1 : Int32))) → vp_in ((2 : Int32)) 156 ∧ ¬ (127 : Int32) < 0 ∧ ¬ (126 : Int32) < 0 ∧ ¬ ((t23 0) ((2 : Int32)).toNatClampNeg) < 0 ∧ ((127 : Int32)).toNatClampNeg + (((t23 0) ((2 : Int32)).toNatClampNeg)).toNatClampNeg ≤ 156 ∧ ((126 : Int32)).toNatClampNeg + (((t23 0) ((2 : Int32)).toNatClampNeg)).toNatClampNeg ≤ 156 ∧ ∀ t30 : Nat → Nat → Int32, t30 = upR t23 0 (va_cpy (t23 0) (t23 0) ((127 : Int32)).toNatClampNeg ((126 : Int32)).toNatClampNeg (((t23 0) ((2 : Int32)).toNatClampNeg)).toNatClampNeg) → w_X7_goBy_J61 Q t30 s0))
def w_X7_goBy (σ : Nat → Nat → Int32) (Q : Int32 → (Nat → Nat → Int32) → Prop) : Prop :=
  vp_in ((2 : Int32)) 156 ∧ ((((σ 0) ((2 : Int32)).toNatClampNeg) ≤ 0 → w_X7_goBy_J20 Q σ ((0 : Int32))) ∧ (¬ ((σ 0) ((2 : Int32)).toNatClampNeg) ≤ 0 → vp_in ((126 : Int32)) 156 ∧ w_X7_goBy_J20 Q σ (((σ 0) ((126 : Int32)).toNatClampNeg))))
set_option maxHeartbeats 4000000 in
theorem k_X7_goBy_L89 {x : vC} {l : Launch} {D : va_G} {a : Nat → Nat}  {Q : Int32 → (Nat → Nat → Int32) → Prop} (hF : vF x l D "BrookWeirsModel" cX7_goBy (rmk 5 0 0 111) 3 (some .int)) (hR : vRi x (moW D a) Q 0 0) {K89 : (Nat → Nat → Int32) → Int32 → Int32 → Prop} (hK89 : ∀ (σ : Nat → Nat → Int32) (x1 x2 : Int32), K89 σ x1 x2 → vV x 0 0 (moW D a σ ++ []) [(0, .ref (a 0)), (1, .int x1), (2, .int x2)] 89 []) : ∀ (σ : Nat → Nat → Int32) (x1 x2 : Int32), w_X7_goBy_L89 Q K89 σ x1 x2 → vV x 0 0 (moW D a σ ++ []) [(0, .ref (a 0)), (1, .int x1), (2, .int x2)] 89 [] := by
  intro σ x1 x2 h
  unfold w_X7_goBy_L89 at h
  refine v_iload_n 89 hF dX7_goBy_89 rfl 2 rfl ?_
  refine v_aload_n 90 hF dX7_goBy_90 rfl 0 rfl ?_
  refine M_get 91 0 hF (Nat.le_of_ble_eq_true rfl) q1904 rfl rfl dX7_goBy_91 ?_
  refine v_iconst (v := 0) 94 hF dX7_goBy_94 (by decide) ?_
  obtain ⟨o1, h⟩ := h
  refine M_ald0 95 hF o1 dX7_goBy_95 ?_
  refine v_icmp_ge 96 115 hF dX7_goBy_96 (by decide) (fun c2 => ?_) (fun c2 => ?_)
  · replace h := h.1 c2
    refine v_aload_n 115 hF dX7_goBy_115 rfl 0 rfl ?_
    refine v_callVi (As := []) 116 hF (c_X7_flood l D a σ _ h) (List.Perm.refl _) ⟨0, 10, _, TX7, 18, rfl, rfl⟩ q2091 q2093 qs47 q82 q2094 ds_X7_flood ⟨rfl, rfl, Nat.le_of_ble_eq_true rfl, Nat.le_of_ble_eq_true rfl⟩ (Nat.le_of_ble_eq_true rfl) ⟨Nat.zero_le _, Nat.zero_le _⟩ dX7_goBy_116 (fun r3 t4 h => ?_)
    refine v_istore_n [(0, .ref (a 0)), (1, .int x1), (2, .int r3)] [1, 2, 0] 119 hF dX7_goBy_119 rfl (Nat.le_of_ble_eq_true rfl) rfl ?_
    refine v_aload_n 120 hF dX7_goBy_120 rfl 0 rfl ?_
    refine v_callVv (As := []) 121 hF (c_X7_takeForFields l D a t4 _ h) (List.Perm.refl _) ⟨0, 10, _, TX7, 18, rfl, rfl⟩ q2095 q2097 qs48 q82 q2098 ds_X7_takeForFields ⟨rfl, rfl, Nat.le_of_ble_eq_true rfl, Nat.le_of_ble_eq_true rfl⟩ (Nat.le_of_ble_eq_true rfl) ⟨Nat.zero_le _, Nat.zero_le _⟩ dX7_goBy_121 (fun t5 h => ?_)
    refine v_aload_n 124 hF dX7_goBy_124 rfl 0 rfl ?_
    refine v_callVv (As := []) 125 hF (c_X7_liveAll l D a t5 _ h) (List.Perm.refl _) ⟨0, 10, _, TX7, 18, rfl, rfl⟩ q2099 q2101 qs49 q82 q2102 ds_X7_liveAll ⟨rfl, rfl, Nat.le_of_ble_eq_true rfl, Nat.le_of_ble_eq_true rfl⟩ (Nat.le_of_ble_eq_true rfl) ⟨Nat.zero_le _, Nat.zero_le _⟩ dX7_goBy_125 (fun t6 h => ?_)
    refine v_aload_n 128 hF dX7_goBy_128 rfl 0 rfl ?_
    refine v_callVv (As := []) 129 hF (c_X7_night l D a t6 _ h) (List.Perm.refl _) ⟨0, 10, _, TX7, 18, rfl, rfl⟩ q2111 q2113 qs52 q82 q2114 ds_X7_night ⟨rfl, rfl, Nat.le_of_ble_eq_true rfl, Nat.le_of_ble_eq_true rfl⟩ (Nat.le_of_ble_eq_true rfl) ⟨Nat.zero_le _, Nat.zero_le _⟩ dX7_goBy_129 (fun t7 h => ?_)
    refine v_iload_n 132 hF dX7_goBy_132 rfl 2 rfl ?_
    exact v_iretA 133 hF hR (Nat.zero_le _) (Nat.zero_le _) dX7_goBy_133 h
  · replace h := h.2 c2
    refine v_aload_n 99 hF dX7_goBy_99 rfl 0 rfl ?_
    refine v_iload_n 100 hF dX7_goBy_100 rfl 2 rfl ?_
    refine v_aload_n 101 hF dX7_goBy_101 rfl 0 rfl ?_
    refine v_iload_n 102 hF dX7_goBy_102 rfl 2 rfl ?_
    refine v_callVi (As := [.int x2]) 103 hF (c_X7_letsDown l D a σ x2 _ h) (List.Perm.refl _) ⟨0, 10, _, TX7, 18, rfl, rfl⟩ q2050 q2052 qs42 q82 q2053 ds_X7_letsDown ⟨rfl, rfl, Nat.le_of_ble_eq_true rfl, Nat.le_of_ble_eq_true rfl⟩ (Nat.le_of_ble_eq_true rfl) ⟨Nat.zero_le _, Nat.zero_le _⟩ dX7_goBy_103 (fun r8 t9 h => ?_)
    refine v_callVv (As := [.int x2, .int r8]) 106 hF (c_X7_goesDown l D a t9 x2 r8 _ h) (List.Perm.refl _) ⟨0, 10, _, TX7, 18, rfl, rfl⟩ q2087 q2089 qs46 q82 q2090 ds_X7_goesDown ⟨rfl, rfl, Nat.le_of_ble_eq_true rfl, Nat.le_of_ble_eq_true rfl⟩ (Nat.le_of_ble_eq_true rfl) ⟨Nat.zero_le _, Nat.zero_le _⟩ dX7_goBy_106 (fun t10 h => ?_)
    obtain ⟨y11, ey11⟩ : ∃ y : Int32, y = x2 + (1 : Int32) := ⟨_, rfl⟩
    replace h := h y11 ey11
    refine v_iinc [(0, .ref (a 0)), (1, .int x1), (2, .int y11)] [1, 2, 0] 109 hF dX7_goBy_109 2 rfl (by rw [ey11]; rfl) (Nat.le_of_ble_eq_true rfl) rfl ?_
    refine v_goto 112 89 hF dX7_goBy_112 (by decide) ?_
    exact hK89 _ _ _ h
set_option maxHeartbeats 4000000 in
theorem k_X7_goBy_J61 {x : vC} {l : Launch} {D : va_G} {a : Nat → Nat}  {Q : Int32 → (Nat → Nat → Int32) → Prop} (hF : vF x l D "BrookWeirsModel" cX7_goBy (rmk 5 0 0 111) 3 (some .int)) (hR : vRi x (moW D a) Q 0 0)   : ∀ (σ : Nat → Nat → Int32) (x1 : Int32), w_X7_goBy_J61 Q  σ x1 → vV x 0 0 (moW D a σ ++ []) [(0, .ref (a 0)), (1, .int x1)] 61 [] := by
  intro σ x1 h
  unfold w_X7_goBy_J61 at h
  refine v_aload_n 61 hF dX7_goBy_61 rfl 0 rfl ?_
  refine M_get 62 0 hF (Nat.le_of_ble_eq_true rfl) q1904 rfl rfl dX7_goBy_62 ?_
  refine v_iconst (v := 4) 65 hF dX7_goBy_65 (by decide) ?_
  refine v_dup2 66 hF dX7_goBy_66 rfl rfl ?_
  obtain ⟨o12, h⟩ := h
  refine M_ald0 67 hF o12 dX7_goBy_67 ?_
  refine v_iload_n 68 hF dX7_goBy_68 rfl 1 rfl ?_
  refine v_iadd 69 hF dX7_goBy_69 ?_
  obtain ⟨o13, h⟩ := h
  refine M_ast0 70 hF o13 dX7_goBy_70 (fun t14 et14 => ?_)
  replace h := h t14 et14
  refine v_aload_n 71 hF dX7_goBy_71 rfl 0 rfl ?_
  refine M_get 72 0 hF (Nat.le_of_ble_eq_true rfl) q1904 rfl rfl dX7_goBy_72 ?_
  refine v_iconst (v := 3) 75 hF dX7_goBy_75 (by decide) ?_
  refine v_dup2 76 hF dX7_goBy_76 rfl rfl ?_
  obtain ⟨o15, h⟩ := h
  refine M_ald0 77 hF o15 dX7_goBy_77 ?_
  refine v_iconst (v := 1) 78 hF dX7_goBy_78 (by decide) ?_
  refine v_iadd 79 hF dX7_goBy_79 ?_
  obtain ⟨o16, h⟩ := h
  refine M_ast0 80 hF o16 dX7_goBy_80 (fun t17 et17 => ?_)
  replace h := h t17 et17
  refine v_aload_n 81 hF dX7_goBy_81 rfl 0 rfl ?_
  refine v_iconst (v := 0) 82 hF dX7_goBy_82 (by decide) ?_
  refine v_iload_n 83 hF dX7_goBy_83 rfl 1 rfl ?_
  refine v_callVv (As := [.int ((0 : Int32)), .int x1]) 84 hF (c_X7_flows l D a t17 ((0 : Int32)) x1 _ h) (List.Perm.refl _) ⟨0, 10, _, TX7, 18, rfl, rfl⟩ q2083 q2085 qs45 q82 q2086 ds_X7_flows ⟨rfl, rfl, Nat.le_of_ble_eq_true rfl, Nat.le_of_ble_eq_true rfl⟩ (Nat.le_of_ble_eq_true rfl) ⟨Nat.zero_le _, Nat.zero_le _⟩ dX7_goBy_84 (fun t18 h => ?_)
  refine v_iconst (v := 0) 87 hF dX7_goBy_87 (by decide) ?_
  refine v_istore_n [(0, .ref (a 0)), (1, .int x1), (2, .int ((0 : Int32)))] [1, 2, 0] 88 hF dX7_goBy_88 rfl (Nat.le_of_ble_eq_true rfl) rfl ?_
  exact vLoop (V := fun s => vV x 0 0 (moW D a s.1 ++ []) [(0, .ref (a 0)), (1, .int s.2.1), (2, .int s.2.2)] 89 []) (fun K hK s hs => k_X7_goBy_L89 hF hR (fun v0 v1 v2 q => hK (v0, v1, v2) q) s.1 s.2.1 s.2.2 hs) _ h
set_option maxHeartbeats 4000000 in
theorem k_X7_goBy_J20 {x : vC} {l : Launch} {D : va_G} {a : Nat → Nat}  {Q : Int32 → (Nat → Nat → Int32) → Prop} (hF : vF x l D "BrookWeirsModel" cX7_goBy (rmk 5 0 0 111) 3 (some .int)) (hR : vRi x (moW D a) Q 0 0)   : ∀ (σ : Nat → Nat → Int32) (s0 : Int32), w_X7_goBy_J20 Q  σ s0 → vV x 0 0 (moW D a σ ++ []) [(0, .ref (a 0))] 20 [.int s0] := by
  intro σ s0 h
  unfold w_X7_goBy_J20 at h
  refine v_istore_n [(0, .ref (a 0)), (1, .int s0)] [1, 0] 20 hF dX7_goBy_20 rfl (Nat.le_of_ble_eq_true rfl) rfl ?_
  refine v_aload_n 21 hF dX7_goBy_21 rfl 0 rfl ?_
  refine M_get 22 0 hF (Nat.le_of_ble_eq_true rfl) q1904 rfl rfl dX7_goBy_22 ?_
  refine v_iconst (v := 2) 25 hF dX7_goBy_25 (by decide) ?_
  obtain ⟨o19, h⟩ := h
  refine M_ald0 26 hF o19 dX7_goBy_26 ?_
  refine v_if_le 27 61 hF dX7_goBy_27 (by decide) (fun c20 => ?_) (fun c20 => ?_)
  · replace h := h.1 c20
    exact k_X7_goBy_J61 hF hR _ _ h
  · replace h := h.2 c20
    refine v_aload_n 30 hF dX7_goBy_30 rfl 0 rfl ?_
    refine M_get 31 0 hF (Nat.le_of_ble_eq_true rfl) q1904 rfl rfl dX7_goBy_31 ?_
    refine v_iconst (v := 2) 34 hF dX7_goBy_34 (by decide) ?_
    refine v_dup2 35 hF dX7_goBy_35 rfl rfl ?_
    obtain ⟨o21, h⟩ := h
    refine M_ald0 36 hF o21 dX7_goBy_36 ?_
    refine v_iconst (v := 1) 37 hF dX7_goBy_37 (by decide) ?_
    refine v_isub 38 hF dX7_goBy_38 ?_
    obtain ⟨o22, h⟩ := h
    refine M_ast0 39 hF o22 dX7_goBy_39 (fun t23 et23 => ?_)
    replace h := h t23 et23
    refine v_aload_n 40 hF dX7_goBy_40 rfl 0 rfl ?_
    refine M_get 41 0 hF (Nat.le_of_ble_eq_true rfl) q1904 rfl rfl dX7_goBy_41 ?_
    refine v_bipush (v := 127) 44 hF dX7_goBy_44 (by decide) ?_
    refine v_aload_n 46 hF dX7_goBy_46 rfl 0 rfl ?_
    refine M_get 47 0 hF (Nat.le_of_ble_eq_true rfl) q1904 rfl rfl dX7_goBy_47 ?_
    refine v_bipush (v := 126) 50 hF dX7_goBy_50 (by decide) ?_
    refine v_aload_n 52 hF dX7_goBy_52 rfl 0 rfl ?_
    refine M_get 53 0 hF (Nat.le_of_ble_eq_true rfl) q1904 rfl rfl dX7_goBy_53 ?_
    refine v_iconst (v := 2) 56 hF dX7_goBy_56 (by decide) ?_
    obtain ⟨o24, h⟩ := h
    refine M_ald0 57 hF o24 dX7_goBy_57 ?_
    obtain ⟨o25, o26, o27, o28, o29, h⟩ := h
    refine M_cpy0_0 58 hF q1979 o25 o26 o27 o28 o29 (Nat.le_of_ble_eq_true rfl) (Nat.le_of_ble_eq_true rfl) dX7_goBy_58 (fun t30 et30 => ?_)
    replace h := h t30 et30
    exact k_X7_goBy_J61 hF hR _ _ h
theorem ds_X7_goBy : yX7_goBy.cls = yX7_goBy.cls ∧ yX7_goBy.cls ≠ "java/lang/invoke/MethodHandle" ∧ yX7_goBy.cls ≠ "java/lang/invoke/VarHandle" ∧ (parseMethodDescriptor yX7_goBy.desc).map (fun d => d.parameters.length) = some 0 := by decide +kernel
set_option maxHeartbeats 4000000 in
theorem c_X7_goBy (l : Launch) (D : va_G) (a : Nat → Nat) (σ : Nat → Nat → Int32) (Q : Int32 → (Nat → Nat → Int32) → Prop) (h : w_X7_goBy σ Q) : Cti l D yX7_goBy cX7_goBy 3 .int (rmk 5 0 0 111) [.ref (a 0)] (moW D a σ) (moW D a) Q 0 0 := by
  refine Cti.of (by decide) (Nat.le_of_ble_eq_true rfl) (fun x hF hR => ?_)
  replace hF : vF x l D "BrookWeirsModel" cX7_goBy (rmk 5 0 0 111) 3 (some .int) := hF
  refine v_app0 ?_
  unfold w_X7_goBy at h
  refine v_aload_n 0 hF dX7_goBy_0 rfl 0 rfl ?_
  refine M_get 1 0 hF (Nat.le_of_ble_eq_true rfl) q1904 rfl rfl dX7_goBy_1 ?_
  refine v_iconst (v := 2) 4 hF dX7_goBy_4 (by decide) ?_
  obtain ⟨o31, h⟩ := h
  refine M_ald0 5 hF o31 dX7_goBy_5 ?_
  refine v_if_le 6 19 hF dX7_goBy_6 (by decide) (fun c32 => ?_) (fun c32 => ?_)
  · replace h := h.1 c32
    refine v_iconst (v := 0) 19 hF dX7_goBy_19 (by decide) ?_
    exact k_X7_goBy_J20 hF hR _ _ h
  · replace h := h.2 c32
    refine v_aload_n 9 hF dX7_goBy_9 rfl 0 rfl ?_
    refine M_get 10 0 hF (Nat.le_of_ble_eq_true rfl) q1904 rfl rfl dX7_goBy_10 ?_
    refine v_bipush (v := 126) 13 hF dX7_goBy_13 (by decide) ?_
    obtain ⟨o33, h⟩ := h
    refine M_ald0 15 hF o33 dX7_goBy_15 ?_
    refine v_goto 16 20 hF dX7_goBy_16 (by decide) ?_
    exact k_X7_goBy_J20 hF hR _ _ h
def w_X7_season_L35 (Q : Int32 → (Nat → Nat → Int32) → Prop) (K35 : (Nat → Nat → Int32) → Int32 → Int32 → Prop) (σ : Nat → Nat → Int32) (x1 x2 : Int32) : Prop :=
  ((x1 ≤ x2 → w_X7_ends σ x1 (fun r2 t3 => Q r2 t3)) ∧ (¬ x1 ≤ x2 → w_X7_goBy σ  (fun r4 t5 => ∀ y6 : Int32, y6 = x2 + (1 : Int32) → K35 t5 x1 y6)))
def w_X7_season (σ : Nat → Nat → Int32) (Q : Int32 → (Nat → Nat → Int32) → Prop) : Prop :=
  ∀ t7 : Nat → Nat → Int32, t7 = (upN σ 20 7 (0 : Int32)) → vp_in ((2 : Int32)) 156 ∧ ((¬ ((t7 0) ((2 : Int32)).toNatClampNeg) = 0 → w_X7_keep t7  (fun t10 => vp_in ((2 : Int32)) 156 ∧ ∀ y12 : Int32, y12 = ((t10 0) ((2 : Int32)).toNatClampNeg) → wLoop (fun K s => w_X7_season_L35 Q (fun v0 v1 v2 => K (v0, v1, v2)) s.1 s.2.1 s.2.2) (t10, y12, (0 : Int32)))) ∧ (((t7 0) ((2 : Int32)).toNatClampNeg) = 0 → w_X7_refuse t7 ((1 : Int32)) ((6 : Int32)) (fun r13 t14 => Q r13 t14)))
set_option maxHeartbeats 4000000 in
theorem k_X7_season_L35 {x : vC} {l : Launch} {D : va_G} {a : Nat → Nat}  {Q : Int32 → (Nat → Nat → Int32) → Prop} (hF : vF x l D "BrookWeirsModel" cX7_season (rmk 6 0 0 133) 4 (some .int)) (hR : vRi x (moW D a) Q 0 0) {K35 : (Nat → Nat → Int32) → Int32 → Int32 → Prop} (hK35 : ∀ (σ : Nat → Nat → Int32) (x1 x2 : Int32), K35 σ x1 x2 → vV x 0 0 (moW D a σ ++ []) [(0, .ref (a 0)), (1, .int x1), (2, .int x2)] 35 []) : ∀ (σ : Nat → Nat → Int32) (x1 x2 : Int32), w_X7_season_L35 Q K35 σ x1 x2 → vV x 0 0 (moW D a σ ++ []) [(0, .ref (a 0)), (1, .int x1), (2, .int x2)] 35 [] := by
  intro σ x1 x2 h
  unfold w_X7_season_L35 at h
  refine v_iload_n 35 hF dX7_season_35 rfl 2 rfl ?_
  refine v_iload_n 36 hF dX7_season_36 rfl 1 rfl ?_
  refine v_icmp_ge 37 51 hF dX7_season_37 (by decide) (fun c1 => ?_) (fun c1 => ?_)
  · replace h := h.1 c1
    refine v_aload_n 51 hF dX7_season_51 rfl 0 rfl ?_
    refine v_iload_n 52 hF dX7_season_52 rfl 1 rfl ?_
    refine v_callVi (As := [.int x1]) 53 hF (c_X7_ends l D a σ x1 _ h) (List.Perm.refl _) ⟨0, 10, _, TX7, 18, rfl, rfl⟩ q1983 q1985 qs32 q82 q1986 ds_X7_ends ⟨rfl, rfl, Nat.le_of_ble_eq_true rfl, Nat.le_of_ble_eq_true rfl⟩ (Nat.le_of_ble_eq_true rfl) ⟨Nat.zero_le _, Nat.zero_le _⟩ dX7_season_53 (fun r2 t3 h => ?_)
    exact v_iretA 56 hF hR (Nat.zero_le _) (Nat.zero_le _) dX7_season_56 h
  · replace h := h.2 c1
    refine v_aload_n 40 hF dX7_season_40 rfl 0 rfl ?_
    refine v_callVi (As := []) 41 hF (c_X7_goBy l D a σ _ h) (List.Perm.refl _) ⟨0, 10, _, TX7, 18, rfl, rfl⟩ q2079 q2081 qs44 q82 q2082 ds_X7_goBy ⟨rfl, rfl, Nat.le_of_ble_eq_true rfl, Nat.le_of_ble_eq_true rfl⟩ (Nat.le_of_ble_eq_true rfl) ⟨Nat.zero_le _, Nat.zero_le _⟩ dX7_season_41 (fun r4 t5 h => ?_)
    refine v_istore_n [(0, .ref (a 0)), (1, .int x1), (2, .int x2), (3, .int r4)] [1, 2, 3, 0] 44 hF dX7_season_44 rfl (Nat.le_of_ble_eq_true rfl) rfl ?_
    obtain ⟨y6, ey6⟩ : ∃ y : Int32, y = x2 + (1 : Int32) := ⟨_, rfl⟩
    replace h := h y6 ey6
    refine v_iinc [(0, .ref (a 0)), (1, .int x1), (2, .int y6), (3, .int r4)] [1, 2, 0, 3] 45 hF dX7_season_45 2 rfl (by rw [ey6]; rfl) (Nat.le_of_ble_eq_true rfl) rfl ?_
    refine v_goto 48 35 hF dX7_season_48 (by decide) ?_
    refine v_sub [(0, .ref (a 0)), (1, .int x1), (2, .int y6)] [0, 1, 2] rfl ?_
    exact hK35 _ _ _ h
theorem ds_X7_season : yX7_season.cls = yX7_season.cls ∧ yX7_season.cls ≠ "java/lang/invoke/MethodHandle" ∧ yX7_season.cls ≠ "java/lang/invoke/VarHandle" ∧ (parseMethodDescriptor yX7_season.desc).map (fun d => d.parameters.length) = some 0 := by decide +kernel
set_option maxHeartbeats 4000000 in
theorem c_X7_season (l : Launch) (D : va_G) (a : Nat → Nat) (σ : Nat → Nat → Int32) (Q : Int32 → (Nat → Nat → Int32) → Prop) (h : w_X7_season σ Q) : Cti l D yX7_season cX7_season 4 .int (rmk 6 0 0 133) [.ref (a 0)] (moW D a σ) (moW D a) Q 0 0 := by
  refine Cti.of (by decide) (Nat.le_of_ble_eq_true rfl) (fun x hF hR => ?_)
  replace hF : vF x l D "BrookWeirsModel" cX7_season (rmk 6 0 0 133) 4 (some .int) := hF
  refine v_app0 ?_
  unfold w_X7_season at h
  refine v_aload_n 0 hF dX7_season_0 rfl 0 rfl ?_
  refine v_iconst (v := 0) 1 hF dX7_season_1 (by decide) ?_
  refine M_put7 2 hF q1911 dX7_season_2 (fun t7 et7 => ?_)
  replace h := h t7 et7
  refine v_aload_n 5 hF dX7_season_5 rfl 0 rfl ?_
  refine M_get 6 0 hF (Nat.le_of_ble_eq_true rfl) q1904 rfl rfl dX7_season_6 ?_
  refine v_iconst (v := 2) 9 hF dX7_season_9 (by decide) ?_
  obtain ⟨o8, h⟩ := h
  refine M_ald0 10 hF o8 dX7_season_10 ?_
  refine v_if_ne 11 22 hF dX7_season_11 (by decide) (fun c9 => ?_) (fun c9 => ?_)
  · replace h := h.1 c9
    refine v_aload_n 22 hF dX7_season_22 rfl 0 rfl ?_
    refine v_callVv (As := []) 23 hF (c_X7_keep l D a t7 _ h) (List.Perm.refl _) ⟨0, 10, _, TX7, 18, rfl, rfl⟩ q1975 q1977 qs31 q82 q1978 ds_X7_keep ⟨rfl, rfl, Nat.le_of_ble_eq_true rfl, Nat.le_of_ble_eq_true rfl⟩ (Nat.le_of_ble_eq_true rfl) ⟨Nat.zero_le _, Nat.zero_le _⟩ dX7_season_23 (fun t10 h => ?_)
    refine v_aload_n 26 hF dX7_season_26 rfl 0 rfl ?_
    refine M_get 27 0 hF (Nat.le_of_ble_eq_true rfl) q1904 rfl rfl dX7_season_27 ?_
    refine v_iconst (v := 2) 30 hF dX7_season_30 (by decide) ?_
    obtain ⟨o11, h⟩ := h
    refine M_ald0 31 hF o11 dX7_season_31 ?_
    refine v_nm (fun y12 ey12 => ?_)
    replace h := h y12 ey12
    refine v_istore_n [(0, .ref (a 0)), (1, .int y12)] [1, 0] 32 hF dX7_season_32 rfl (Nat.le_of_ble_eq_true rfl) rfl ?_
    refine v_iconst (v := 0) 33 hF dX7_season_33 (by decide) ?_
    refine v_istore_n [(0, .ref (a 0)), (1, .int y12), (2, .int ((0 : Int32)))] [1, 2, 0] 34 hF dX7_season_34 rfl (Nat.le_of_ble_eq_true rfl) rfl ?_
    exact vLoop (V := fun s => vV x 0 0 (moW D a s.1 ++ []) [(0, .ref (a 0)), (1, .int s.2.1), (2, .int s.2.2)] 35 []) (fun K hK s hs => k_X7_season_L35 hF hR (fun v0 v1 v2 q => hK (v0, v1, v2) q) s.1 s.2.1 s.2.2 hs) _ h
  · replace h := h.2 c9
    refine v_aload_n 14 hF dX7_season_14 rfl 0 rfl ?_
    refine v_iconst (v := 1) 15 hF dX7_season_15 (by decide) ?_
    refine v_bipush (v := 6) 16 hF dX7_season_16 (by decide) ?_
    refine v_callVi (As := [.int ((1 : Int32)), .int ((6 : Int32))]) 18 hF (c_X7_refuse l D a t7 ((1 : Int32)) ((6 : Int32)) _ h) (List.Perm.refl _) ⟨0, 10, _, TX7, 18, rfl, rfl⟩ q1971 q1973 qs30 q82 q1974 ds_X7_refuse ⟨rfl, rfl, Nat.le_of_ble_eq_true rfl, Nat.le_of_ble_eq_true rfl⟩ (Nat.le_of_ble_eq_true rfl) ⟨Nat.zero_le _, Nat.zero_le _⟩ dX7_season_18 (fun r13 t14 h => ?_)
    exact v_iretA 21 hF hR (Nat.zero_le _) (Nat.zero_le _) dX7_season_21 h
def w_X7_foretold_L57 (Q : Int32 → (Nat → Nat → Int32) → Prop) (K57 : (Nat → Nat → Int32) → Int32 → Int32 → Int32 → Int32 → Prop) (σ : Nat → Nat → Int32) (x1 x2 x3 x4 : Int32) : Prop :=
  ((x1 ≤ x4 → w_X7_numberOf σ x2 x3 (fun r2 t3 => w_X7_bringBack t3  (fun t4 => Q r2 t4))) ∧ (¬ x1 ≤ x4 → w_X7_goBy σ  (fun r5 t6 => ∀ y7 : Int32, y7 = x4 + (1 : Int32) → K57 t6 x1 x2 x3 y7)))
def w_X7_foretold_J38 (Q : Int32 → (Nat → Nat → Int32) → Prop)  (σ : Nat → Nat → Int32) (x1 x2 x3 s1 : Int32) : Prop :=
  ∀ t8 : Nat → Nat → Int32, t8 = (upN σ 20 7 s1) → (((t8 20 7) ≤ 0 → w_X7_layAside t8  (fun t10 => wLoop (fun K s => w_X7_foretold_L57 Q (fun v0 v1 v2 v3 v4 => K (v0, v1, v2, v3, v4)) s.1 s.2.1 s.2.2.1 s.2.2.2.1 s.2.2.2.2) (t10, x1, x2, x3, (0 : Int32)))) ∧ (¬ (t8 20 7) ≤ 0 → Q ((0 : Int32)) t8))
def w_X7_foretold_J21 (Q : Int32 → (Nat → Nat → Int32) → Prop)  (σ : Nat → Nat → Int32) (x1 x2 x3 : Int32) : Prop :=
  w_X7_foretold_J38 Q σ x1 x2 x3 ((1 : Int32))
def w_X7_foretold (σ : Nat → Nat → Int32) (x1 x2 x3 : Int32) (Q : Int32 → (Nat → Nat → Int32) → Prop) : Prop :=
  w_X7_in x1 ((1 : Int32)) ((30 : Int32)) (fun r11 => ((r11 = 0 → w_X7_foretold_J21 Q σ x1 x2 x3) ∧ (¬ r11 = 0 → w_X7_in x3 ((0 : Int32)) ((8 : Int32)) (fun r13 => ((¬ r13 = 0 → w_X7_isPool σ x2 (fun r15 t16 => ((¬ r15 = 0 → w_X7_foretold_J38 Q t16 x1 x2 x3 ((0 : Int32))) ∧ (r15 = 0 → w_X7_foretold_J38 Q t16 x1 x2 x3 ((2 : Int32)))))) ∧ (r13 = 0 → w_X7_foretold_J21 Q σ x1 x2 x3))))))
set_option maxHeartbeats 4000000 in
theorem k_X7_foretold_L57 {x : vC} {l : Launch} {D : va_G} {a : Nat → Nat}  {Q : Int32 → (Nat → Nat → Int32) → Prop} (hF : vF x l D "BrookWeirsModel" cX7_foretold (rmk 6 0 0 133) 6 (some .int)) (hR : vRi x (moW D a) Q 0 0) {K57 : (Nat → Nat → Int32) → Int32 → Int32 → Int32 → Int32 → Prop} (hK57 : ∀ (σ : Nat → Nat → Int32) (x1 x2 x3 x4 : Int32), K57 σ x1 x2 x3 x4 → vV x 0 0 (moW D a σ ++ []) [(0, .ref (a 0)), (1, .int x1), (2, .int x2), (3, .int x3), (4, .int x4)] 57 []) : ∀ (σ : Nat → Nat → Int32) (x1 x2 x3 x4 : Int32), w_X7_foretold_L57 Q K57 σ x1 x2 x3 x4 → vV x 0 0 (moW D a σ ++ []) [(0, .ref (a 0)), (1, .int x1), (2, .int x2), (3, .int x3), (4, .int x4)] 57 [] := by
  intro σ x1 x2 x3 x4 h
  unfold w_X7_foretold_L57 at h
  refine v_iload 57 hF dX7_foretold_57 4 rfl ?_
  refine v_iload_n 59 hF dX7_foretold_59 rfl 1 rfl ?_
  refine v_icmp_ge 60 75 hF dX7_foretold_60 (by decide) (fun c1 => ?_) (fun c1 => ?_)
  · replace h := h.1 c1
    refine v_aload_n 75 hF dX7_foretold_75 rfl 0 rfl ?_
    refine v_iload_n 76 hF dX7_foretold_76 rfl 2 rfl ?_
    refine v_iload_n 77 hF dX7_foretold_77 rfl 3 rfl ?_
    refine v_callVi (As := [.int x2, .int x3]) 78 hF (c_X7_numberOf l D a σ x2 x3 _ h) (List.Perm.refl _) ⟨0, 10, _, TX7, 18, rfl, rfl⟩ q2042 q2044 qs40 q82 q2045 ds_X7_numberOf ⟨rfl, rfl, Nat.le_of_ble_eq_true rfl, Nat.le_of_ble_eq_true rfl⟩ (Nat.le_of_ble_eq_true rfl) ⟨Nat.zero_le _, Nat.zero_le _⟩ dX7_foretold_78 (fun r2 t3 h => ?_)
    refine v_istore [(0, .ref (a 0)), (1, .int x1), (2, .int x2), (3, .int x3), (4, .int r2)] [1, 2, 3, 4, 0] 81 hF dX7_foretold_81 (Nat.le_of_ble_eq_true rfl) rfl ?_
    refine v_aload_n 83 hF dX7_foretold_83 rfl 0 rfl ?_
    refine v_callVv (As := []) 84 hF (c_X7_bringBack l D a t3 _ h) (List.Perm.refl _) ⟨0, 10, _, TX7, 18, rfl, rfl⟩ q2127 q2129 qs54 q82 q2130 ds_X7_bringBack ⟨rfl, rfl, Nat.le_of_ble_eq_true rfl, Nat.le_of_ble_eq_true rfl⟩ (Nat.le_of_ble_eq_true rfl) ⟨Nat.zero_le _, Nat.zero_le _⟩ dX7_foretold_84 (fun t4 h => ?_)
    refine v_iload 87 hF dX7_foretold_87 4 rfl ?_
    exact v_iretA 89 hF hR (Nat.zero_le _) (Nat.zero_le _) dX7_foretold_89 h
  · replace h := h.2 c1
    refine v_aload_n 63 hF dX7_foretold_63 rfl 0 rfl ?_
    refine v_callVi (As := []) 64 hF (c_X7_goBy l D a σ _ h) (List.Perm.refl _) ⟨0, 10, _, TX7, 18, rfl, rfl⟩ q2079 q2081 qs44 q82 q2082 ds_X7_goBy ⟨rfl, rfl, Nat.le_of_ble_eq_true rfl, Nat.le_of_ble_eq_true rfl⟩ (Nat.le_of_ble_eq_true rfl) ⟨Nat.zero_le _, Nat.zero_le _⟩ dX7_foretold_64 (fun r5 t6 h => ?_)
    refine v_istore [(0, .ref (a 0)), (1, .int x1), (2, .int x2), (3, .int x3), (4, .int x4), (5, .int r5)] [1, 2, 3, 4, 5, 0] 67 hF dX7_foretold_67 (Nat.le_of_ble_eq_true rfl) rfl ?_
    obtain ⟨y7, ey7⟩ : ∃ y : Int32, y = x4 + (1 : Int32) := ⟨_, rfl⟩
    replace h := h y7 ey7
    refine v_iinc [(0, .ref (a 0)), (1, .int x1), (2, .int x2), (3, .int x3), (4, .int y7), (5, .int r5)] [1, 2, 3, 4, 0, 5] 69 hF dX7_foretold_69 4 rfl (by rw [ey7]; rfl) (Nat.le_of_ble_eq_true rfl) rfl ?_
    refine v_goto 72 57 hF dX7_foretold_72 (by decide) ?_
    refine v_sub [(0, .ref (a 0)), (1, .int x1), (2, .int x2), (3, .int x3), (4, .int y7)] [0, 1, 2, 3, 4] rfl ?_
    exact hK57 _ _ _ _ _ h
set_option maxHeartbeats 4000000 in
theorem k_X7_foretold_J38 {x : vC} {l : Launch} {D : va_G} {a : Nat → Nat}  {Q : Int32 → (Nat → Nat → Int32) → Prop} (hF : vF x l D "BrookWeirsModel" cX7_foretold (rmk 6 0 0 133) 6 (some .int)) (hR : vRi x (moW D a) Q 0 0)   : ∀ (σ : Nat → Nat → Int32) (x1 x2 x3 s1 : Int32), w_X7_foretold_J38 Q  σ x1 x2 x3 s1 → vV x 0 0 (moW D a σ ++ []) [(0, .ref (a 0)), (1, .int x1), (2, .int x2), (3, .int x3)] 38 [.int s1, .ref (a 0)] := by
  intro σ x1 x2 x3 s1 h
  unfold w_X7_foretold_J38 at h
  refine M_put7 38 hF q1911 dX7_foretold_38 (fun t8 et8 => ?_)
  replace h := h t8 et8
  refine v_aload_n 41 hF dX7_foretold_41 rfl 0 rfl ?_
  refine M_get 42 7 hF (Nat.le_of_ble_eq_true rfl) q1911 rfl rfl dX7_foretold_42 ?_
  refine v_if_le 45 50 hF dX7_foretold_45 (by decide) (fun c9 => ?_) (fun c9 => ?_)
  · replace h := h.1 c9
    refine v_aload_n 50 hF dX7_foretold_50 rfl 0 rfl ?_
    refine v_callVv (As := []) 51 hF (c_X7_layAside l D a t8 _ h) (List.Perm.refl _) ⟨0, 10, _, TX7, 18, rfl, rfl⟩ q2123 q2125 qs53 q82 q2126 ds_X7_layAside ⟨rfl, rfl, Nat.le_of_ble_eq_true rfl, Nat.le_of_ble_eq_true rfl⟩ (Nat.le_of_ble_eq_true rfl) ⟨Nat.zero_le _, Nat.zero_le _⟩ dX7_foretold_51 (fun t10 h => ?_)
    refine v_iconst (v := 0) 54 hF dX7_foretold_54 (by decide) ?_
    refine v_istore [(0, .ref (a 0)), (1, .int x1), (2, .int x2), (3, .int x3), (4, .int ((0 : Int32)))] [1, 2, 3, 4, 0] 55 hF dX7_foretold_55 (Nat.le_of_ble_eq_true rfl) rfl ?_
    exact vLoop (V := fun s => vV x 0 0 (moW D a s.1 ++ []) [(0, .ref (a 0)), (1, .int s.2.1), (2, .int s.2.2.1), (3, .int s.2.2.2.1), (4, .int s.2.2.2.2)] 57 []) (fun K hK s hs => k_X7_foretold_L57 hF hR (fun v0 v1 v2 v3 v4 q => hK (v0, v1, v2, v3, v4) q) s.1 s.2.1 s.2.2.1 s.2.2.2.1 s.2.2.2.2 hs) _ h
  · replace h := h.2 c9
    refine v_iconst (v := 0) 48 hF dX7_foretold_48 (by decide) ?_
    exact v_iretA 49 hF hR (Nat.zero_le _) (Nat.zero_le _) dX7_foretold_49 h
set_option maxHeartbeats 4000000 in
theorem k_X7_foretold_J21 {x : vC} {l : Launch} {D : va_G} {a : Nat → Nat}  {Q : Int32 → (Nat → Nat → Int32) → Prop} (hF : vF x l D "BrookWeirsModel" cX7_foretold (rmk 6 0 0 133) 6 (some .int)) (hR : vRi x (moW D a) Q 0 0)   : ∀ (σ : Nat → Nat → Int32) (x1 x2 x3 : Int32), w_X7_foretold_J21 Q  σ x1 x2 x3 → vV x 0 0 (moW D a σ ++ []) [(0, .ref (a 0)), (1, .int x1), (2, .int x2), (3, .int x3)] 21 [.ref (a 0)] := by
  intro σ x1 x2 x3 h
  unfold w_X7_foretold_J21 at h
  refine v_iconst (v := 1) 21 hF dX7_foretold_21 (by decide) ?_
  refine v_goto 22 38 hF dX7_foretold_22 (by decide) ?_
  exact k_X7_foretold_J38 hF hR _ _ _ _ _ h
theorem ds_X7_foretold : yX7_foretold.cls = yX7_foretold.cls ∧ yX7_foretold.cls ≠ "java/lang/invoke/MethodHandle" ∧ yX7_foretold.cls ≠ "java/lang/invoke/VarHandle" ∧ (parseMethodDescriptor yX7_foretold.desc).map (fun d => d.parameters.length) = some 3 := by decide +kernel
set_option maxHeartbeats 4000000 in
theorem c_X7_foretold (l : Launch) (D : va_G) (a : Nat → Nat) (σ : Nat → Nat → Int32) (x1 x2 x3 : Int32) (Q : Int32 → (Nat → Nat → Int32) → Prop) (h : w_X7_foretold σ x1 x2 x3 Q) : Cti l D yX7_foretold cX7_foretold 6 .int (rmk 6 0 0 133) [.ref (a 0), .int x1, .int x2, .int x3] (moW D a σ) (moW D a) Q 0 0 := by
  refine Cti.of (by decide) (Nat.le_of_ble_eq_true rfl) (fun x hF hR => ?_)
  replace hF : vF x l D "BrookWeirsModel" cX7_foretold (rmk 6 0 0 133) 6 (some .int) := hF
  refine v_app0 ?_
  unfold w_X7_foretold at h
  refine v_aload_n 0 hF dX7_foretold_0 rfl 0 rfl ?_
  refine v_iload_n 1 hF dX7_foretold_1 rfl 1 rfl ?_
  refine v_iconst (v := 1) 2 hF dX7_foretold_2 (by decide) ?_
  refine v_bipush (v := 30) 3 hF dX7_foretold_3 (by decide) ?_
  refine v_callS0i (As := [.int x1, .int ((1 : Int32)), .int ((30 : Int32))]) 5 hF (c_X7_in l D x1 ((1 : Int32)) ((30 : Int32)) _ h) q1968 q1969 q82 q1970 ds_X7_in ⟨rfl, rfl, Nat.le_of_ble_eq_true rfl, Nat.le_of_ble_eq_true rfl⟩ (Nat.le_of_ble_eq_true rfl) ⟨Nat.zero_le _, Nat.zero_le _⟩ dX7_foretold_5 (fun r11 h => ?_)
  refine v_if_eq 8 21 hF dX7_foretold_8 (by decide) (fun c12 => ?_) (fun c12 => ?_)
  · replace h := h.1 c12
    exact k_X7_foretold_J21 hF hR _ _ _ _ h
  · replace h := h.2 c12
    refine v_iload_n 11 hF dX7_foretold_11 rfl 3 rfl ?_
    refine v_iconst (v := 0) 12 hF dX7_foretold_12 (by decide) ?_
    refine v_bipush (v := 8) 13 hF dX7_foretold_13 (by decide) ?_
    refine v_callS0i (As := [.int x3, .int ((0 : Int32)), .int ((8 : Int32))]) 15 hF (c_X7_in l D x3 ((0 : Int32)) ((8 : Int32)) _ h) q1968 q1969 q82 q1970 ds_X7_in ⟨rfl, rfl, Nat.le_of_ble_eq_true rfl, Nat.le_of_ble_eq_true rfl⟩ (Nat.le_of_ble_eq_true rfl) ⟨Nat.zero_le _, Nat.zero_le _⟩ dX7_foretold_15 (fun r13 h => ?_)
    refine v_if_ne 18 25 hF dX7_foretold_18 (by decide) (fun c14 => ?_) (fun c14 => ?_)
    · replace h := h.1 c14
      refine v_aload_n 25 hF dX7_foretold_25 rfl 0 rfl ?_
      refine v_iload_n 26 hF dX7_foretold_26 rfl 2 rfl ?_
      refine v_callVi (As := [.int x2]) 27 hF (c_X7_isPool l D a σ x2 _ h) (List.Perm.refl _) ⟨0, 10, _, TX7, 18, rfl, rfl⟩ q1995 q1997 qs34 q82 q1998 ds_X7_isPool ⟨rfl, rfl, Nat.le_of_ble_eq_true rfl, Nat.le_of_ble_eq_true rfl⟩ (Nat.le_of_ble_eq_true rfl) ⟨Nat.zero_le _, Nat.zero_le _⟩ dX7_foretold_27 (fun r15 t16 h => ?_)
      refine v_if_ne 30 37 hF dX7_foretold_30 (by decide) (fun c17 => ?_) (fun c17 => ?_)
      · replace h := h.1 c17
        refine v_iconst (v := 0) 37 hF dX7_foretold_37 (by decide) ?_
        exact k_X7_foretold_J38 hF hR _ _ _ _ _ h
      · replace h := h.2 c17
        refine v_iconst (v := 2) 33 hF dX7_foretold_33 (by decide) ?_
        refine v_goto 34 38 hF dX7_foretold_34 (by decide) ?_
        exact k_X7_foretold_J38 hF hR _ _ _ _ _ h
    · replace h := h.2 c14
      exact k_X7_foretold_J21 hF hR _ _ _ _ h
def w_X7_firstFlood_J87 (Q : Int32 → (Nat → Nat → Int32) → Prop)  (σ : Nat → Nat → Int32) (x1 x2 x3 s1 : Int32) : Prop :=
  ∀ t1 : Nat → Nat → Int32, t1 = (upN σ 20 7 s1) → (((t1 20 7) ≤ 0 → Q x2 t1) ∧ (¬ (t1 20 7) ≤ 0 → Q ((0 : Int32)) t1))
def w_X7_firstFlood_J73 (Q : Int32 → (Nat → Nat → Int32) → Prop)  (σ : Nat → Nat → Int32) (x1 x2 x3 : Int32) : Prop :=
  w_X7_bringBack σ  (fun t3 => ((x3 = 0 → w_X7_firstFlood_J87 Q t3 x1 x2 x3 ((2 : Int32))) ∧ (¬ x3 = 0 → w_X7_firstFlood_J87 Q t3 x1 x2 x3 ((0 : Int32)))))
def w_X7_firstFlood_L34 (Q : Int32 → (Nat → Nat → Int32) → Prop) (K34 : (Nat → Nat → Int32) → Int32 → Int32 → Int32 → Prop) (σ : Nat → Nat → Int32) (x1 x2 x3 : Int32) : Prop :=
  (((30 : Int32) ≤ x2 → w_X7_firstFlood_J73 Q σ x1 x2 x3) ∧ (¬ (30 : Int32) ≤ x2 → ((¬ x3 = 0 → w_X7_firstFlood_J73 Q σ x1 x2 x3) ∧ (x3 = 0 → w_X7_goBy σ  (fun r7 t8 => ∀ y9 : Int32, y9 = x2 + (1 : Int32) → w_X7_get t8 x1 ((9 : Int32)) (fun r10 t11 => ((¬ r10 = (1 : Int32) → K34 t11 x1 y9 ((0 : Int32))) ∧ (r10 = (1 : Int32) → K34 t11 x1 y9 ((1 : Int32))))))))))
def w_X7_firstFlood_J14 (Q : Int32 → (Nat → Nat → Int32) → Prop)  (σ : Nat → Nat → Int32) (x1 s1 : Int32) : Prop :=
  ∀ t13 : Nat → Nat → Int32, t13 = (upN σ 20 7 s1) → (((t13 20 7) ≤ 0 → w_X7_layAside t13  (fun t15 => wLoop (fun K s => w_X7_firstFlood_L34 Q (fun v0 v1 v2 v3 => K (v0, v1, v2, v3)) s.1 s.2.1 s.2.2.1 s.2.2.2) (t15, x1, (0 : Int32), (0 : Int32)))) ∧ (¬ (t13 20 7) ≤ 0 → Q ((0 : Int32)) t13))
def w_X7_firstFlood (σ : Nat → Nat → Int32) (x1 : Int32) (Q : Int32 → (Nat → Nat → Int32) → Prop) : Prop :=
  w_X7_isPool σ x1 (fun r16 t17 => ((r16 = 0 → w_X7_firstFlood_J14 Q t17 x1 ((1 : Int32))) ∧ (¬ r16 = 0 → w_X7_firstFlood_J14 Q t17 x1 ((0 : Int32)))))
set_option maxHeartbeats 4000000 in
theorem k_X7_firstFlood_J87 {x : vC} {l : Launch} {D : va_G} {a : Nat → Nat}  {Q : Int32 → (Nat → Nat → Int32) → Prop} (hF : vF x l D "BrookWeirsModel" cX7_firstFlood (rmk 6 0 0 133) 5 (some .int)) (hR : vRi x (moW D a) Q 0 0)   : ∀ (σ : Nat → Nat → Int32) (x1 x2 x3 s1 : Int32), w_X7_firstFlood_J87 Q  σ x1 x2 x3 s1 → vV x 0 0 (moW D a σ ++ []) [(0, .ref (a 0)), (1, .int x1), (2, .int x2), (3, .int x3)] 87 [.int s1, .ref (a 0)] := by
  intro σ x1 x2 x3 s1 h
  unfold w_X7_firstFlood_J87 at h
  refine M_put7 87 hF q1911 dX7_firstFlood_87 (fun t1 et1 => ?_)
  replace h := h t1 et1
  refine v_aload_n 90 hF dX7_firstFlood_90 rfl 0 rfl ?_
  refine M_get 91 7 hF (Nat.le_of_ble_eq_true rfl) q1911 rfl rfl dX7_firstFlood_91 ?_
  refine v_if_le 94 101 hF dX7_firstFlood_94 (by decide) (fun c2 => ?_) (fun c2 => ?_)
  · replace h := h.1 c2
    refine v_iload_n 101 hF dX7_firstFlood_101 rfl 2 rfl ?_
    exact v_iretA 102 hF hR (Nat.zero_le _) (Nat.zero_le _) dX7_firstFlood_102 h
  · replace h := h.2 c2
    refine v_iconst (v := 0) 97 hF dX7_firstFlood_97 (by decide) ?_
    refine v_goto 98 102 hF dX7_firstFlood_98 (by decide) ?_
    exact v_iretA 102 hF hR (Nat.zero_le _) (Nat.zero_le _) dX7_firstFlood_102 h
set_option maxHeartbeats 4000000 in
theorem k_X7_firstFlood_J73 {x : vC} {l : Launch} {D : va_G} {a : Nat → Nat}  {Q : Int32 → (Nat → Nat → Int32) → Prop} (hF : vF x l D "BrookWeirsModel" cX7_firstFlood (rmk 6 0 0 133) 5 (some .int)) (hR : vRi x (moW D a) Q 0 0)   : ∀ (σ : Nat → Nat → Int32) (x1 x2 x3 : Int32), w_X7_firstFlood_J73 Q  σ x1 x2 x3 → vV x 0 0 (moW D a σ ++ []) [(0, .ref (a 0)), (1, .int x1), (2, .int x2), (3, .int x3)] 73 [] := by
  intro σ x1 x2 x3 h
  unfold w_X7_firstFlood_J73 at h
  refine v_aload_n 73 hF dX7_firstFlood_73 rfl 0 rfl ?_
  refine v_callVv (As := []) 74 hF (c_X7_bringBack l D a σ _ h) (List.Perm.refl _) ⟨0, 10, _, TX7, 18, rfl, rfl⟩ q2127 q2129 qs54 q82 q2130 ds_X7_bringBack ⟨rfl, rfl, Nat.le_of_ble_eq_true rfl, Nat.le_of_ble_eq_true rfl⟩ (Nat.le_of_ble_eq_true rfl) ⟨Nat.zero_le _, Nat.zero_le _⟩ dX7_firstFlood_74 (fun t3 h => ?_)
  refine v_aload_n 77 hF dX7_firstFlood_77 rfl 0 rfl ?_
  refine v_iload_n 78 hF dX7_firstFlood_78 rfl 3 rfl ?_
  refine v_if_eq 79 86 hF dX7_firstFlood_79 (by decide) (fun c4 => ?_) (fun c4 => ?_)
  · replace h := h.1 c4
    refine v_iconst (v := 2) 86 hF dX7_firstFlood_86 (by decide) ?_
    exact k_X7_firstFlood_J87 hF hR _ _ _ _ _ h
  · replace h := h.2 c4
    refine v_iconst (v := 0) 82 hF dX7_firstFlood_82 (by decide) ?_
    refine v_goto 83 87 hF dX7_firstFlood_83 (by decide) ?_
    exact k_X7_firstFlood_J87 hF hR _ _ _ _ _ h
set_option maxHeartbeats 4000000 in
theorem k_X7_firstFlood_L34 {x : vC} {l : Launch} {D : va_G} {a : Nat → Nat}  {Q : Int32 → (Nat → Nat → Int32) → Prop} (hF : vF x l D "BrookWeirsModel" cX7_firstFlood (rmk 6 0 0 133) 5 (some .int)) (hR : vRi x (moW D a) Q 0 0) {K34 : (Nat → Nat → Int32) → Int32 → Int32 → Int32 → Prop} (hK34 : ∀ (σ : Nat → Nat → Int32) (x1 x2 x3 : Int32), K34 σ x1 x2 x3 → vV x 0 0 (moW D a σ ++ []) [(0, .ref (a 0)), (1, .int x1), (2, .int x2), (3, .int x3)] 34 []) : ∀ (σ : Nat → Nat → Int32) (x1 x2 x3 : Int32), w_X7_firstFlood_L34 Q K34 σ x1 x2 x3 → vV x 0 0 (moW D a σ ++ []) [(0, .ref (a 0)), (1, .int x1), (2, .int x2), (3, .int x3)] 34 [] := by
  intro σ x1 x2 x3 h
  unfold w_X7_firstFlood_L34 at h
  refine v_iload_n 34 hF dX7_firstFlood_34 rfl 2 rfl ?_
  refine v_bipush (v := 30) 35 hF dX7_firstFlood_35 (by decide) ?_
  refine v_icmp_ge 37 73 hF dX7_firstFlood_37 (by decide) (fun c5 => ?_) (fun c5 => ?_)
  · replace h := h.1 c5
    exact k_X7_firstFlood_J73 hF hR _ _ _ _ h
  · replace h := h.2 c5
    refine v_iload_n 40 hF dX7_firstFlood_40 rfl 3 rfl ?_
    refine v_if_ne 41 73 hF dX7_firstFlood_41 (by decide) (fun c6 => ?_) (fun c6 => ?_)
    · replace h := h.1 c6
      exact k_X7_firstFlood_J73 hF hR _ _ _ _ h
    · replace h := h.2 c6
      refine v_aload_n 44 hF dX7_firstFlood_44 rfl 0 rfl ?_
      refine v_callVi (As := []) 45 hF (c_X7_goBy l D a σ _ h) (List.Perm.refl _) ⟨0, 10, _, TX7, 18, rfl, rfl⟩ q2079 q2081 qs44 q82 q2082 ds_X7_goBy ⟨rfl, rfl, Nat.le_of_ble_eq_true rfl, Nat.le_of_ble_eq_true rfl⟩ (Nat.le_of_ble_eq_true rfl) ⟨Nat.zero_le _, Nat.zero_le _⟩ dX7_firstFlood_45 (fun r7 t8 h => ?_)
      refine v_istore [(0, .ref (a 0)), (1, .int x1), (2, .int x2), (3, .int x3), (4, .int r7)] [1, 2, 3, 4, 0] 48 hF dX7_firstFlood_48 (Nat.le_of_ble_eq_true rfl) rfl ?_
      obtain ⟨y9, ey9⟩ : ∃ y : Int32, y = x2 + (1 : Int32) := ⟨_, rfl⟩
      replace h := h y9 ey9
      refine v_iinc [(0, .ref (a 0)), (1, .int x1), (2, .int y9), (3, .int x3), (4, .int r7)] [1, 2, 0, 3, 4] 50 hF dX7_firstFlood_50 2 rfl (by rw [ey9]; rfl) (Nat.le_of_ble_eq_true rfl) rfl ?_
      refine v_aload_n 53 hF dX7_firstFlood_53 rfl 0 rfl ?_
      refine v_iload_n 54 hF dX7_firstFlood_54 rfl 1 rfl ?_
      refine v_bipush (v := 9) 55 hF dX7_firstFlood_55 (by decide) ?_
      refine v_callVi (As := [.int x1, .int ((9 : Int32))]) 57 hF (c_X7_get l D a t8 x1 ((9 : Int32)) _ h) (List.Perm.refl _) ⟨0, 10, _, TX7, 18, rfl, rfl⟩ q1999 q2001 qs35 q82 q2002 ds_X7_get ⟨rfl, rfl, Nat.le_of_ble_eq_true rfl, Nat.le_of_ble_eq_true rfl⟩ (Nat.le_of_ble_eq_true rfl) ⟨Nat.zero_le _, Nat.zero_le _⟩ dX7_firstFlood_57 (fun r10 t11 h => ?_)
      refine v_iconst (v := 1) 60 hF dX7_firstFlood_60 (by decide) ?_
      refine v_icmp_ne 61 68 hF dX7_firstFlood_61 (by decide) (fun c12 => ?_) (fun c12 => ?_)
      · replace h := h.1 c12
        refine v_iconst (v := 0) 68 hF dX7_firstFlood_68 (by decide) ?_
        refine v_istore_n [(0, .ref (a 0)), (1, .int x1), (2, .int y9), (3, .int ((0 : Int32))), (4, .int r7)] [1, 2, 3, 0, 4] 69 hF dX7_firstFlood_69 rfl (Nat.le_of_ble_eq_true rfl) rfl ?_
        refine v_goto 70 34 hF dX7_firstFlood_70 (by decide) ?_
        refine v_sub [(0, .ref (a 0)), (1, .int x1), (2, .int y9), (3, .int ((0 : Int32)))] [0, 1, 2, 3] rfl ?_
        exact hK34 _ _ _ _ h
      · replace h := h.2 c12
        refine v_iconst (v := 1) 64 hF dX7_firstFlood_64 (by decide) ?_
        refine v_goto 65 69 hF dX7_firstFlood_65 (by decide) ?_
        refine v_istore_n [(0, .ref (a 0)), (1, .int x1), (2, .int y9), (3, .int ((1 : Int32))), (4, .int r7)] [1, 2, 3, 0, 4] 69 hF dX7_firstFlood_69 rfl (Nat.le_of_ble_eq_true rfl) rfl ?_
        refine v_goto 70 34 hF dX7_firstFlood_70 (by decide) ?_
        refine v_sub [(0, .ref (a 0)), (1, .int x1), (2, .int y9), (3, .int ((1 : Int32)))] [0, 1, 2, 3] rfl ?_
        exact hK34 _ _ _ _ h
set_option maxHeartbeats 4000000 in
theorem k_X7_firstFlood_J14 {x : vC} {l : Launch} {D : va_G} {a : Nat → Nat}  {Q : Int32 → (Nat → Nat → Int32) → Prop} (hF : vF x l D "BrookWeirsModel" cX7_firstFlood (rmk 6 0 0 133) 5 (some .int)) (hR : vRi x (moW D a) Q 0 0)   : ∀ (σ : Nat → Nat → Int32) (x1 s1 : Int32), w_X7_firstFlood_J14 Q  σ x1 s1 → vV x 0 0 (moW D a σ ++ []) [(0, .ref (a 0)), (1, .int x1)] 14 [.int s1, .ref (a 0)] := by
  intro σ x1 s1 h
  unfold w_X7_firstFlood_J14 at h
  refine M_put7 14 hF q1911 dX7_firstFlood_14 (fun t13 et13 => ?_)
  replace h := h t13 et13
  refine v_aload_n 17 hF dX7_firstFlood_17 rfl 0 rfl ?_
  refine M_get 18 7 hF (Nat.le_of_ble_eq_true rfl) q1911 rfl rfl dX7_firstFlood_18 ?_
  refine v_if_le 21 26 hF dX7_firstFlood_21 (by decide) (fun c14 => ?_) (fun c14 => ?_)
  · replace h := h.1 c14
    refine v_aload_n 26 hF dX7_firstFlood_26 rfl 0 rfl ?_
    refine v_callVv (As := []) 27 hF (c_X7_layAside l D a t13 _ h) (List.Perm.refl _) ⟨0, 10, _, TX7, 18, rfl, rfl⟩ q2123 q2125 qs53 q82 q2126 ds_X7_layAside ⟨rfl, rfl, Nat.le_of_ble_eq_true rfl, Nat.le_of_ble_eq_true rfl⟩ (Nat.le_of_ble_eq_true rfl) ⟨Nat.zero_le _, Nat.zero_le _⟩ dX7_firstFlood_27 (fun t15 h => ?_)
    refine v_iconst (v := 0) 30 hF dX7_firstFlood_30 (by decide) ?_
    refine v_istore_n [(0, .ref (a 0)), (1, .int x1), (2, .int ((0 : Int32)))] [1, 2, 0] 31 hF dX7_firstFlood_31 rfl (Nat.le_of_ble_eq_true rfl) rfl ?_
    refine v_iconst (v := 0) 32 hF dX7_firstFlood_32 (by decide) ?_
    refine v_istore_n [(0, .ref (a 0)), (1, .int x1), (2, .int ((0 : Int32))), (3, .int ((0 : Int32)))] [1, 2, 3, 0] 33 hF dX7_firstFlood_33 rfl (Nat.le_of_ble_eq_true rfl) rfl ?_
    exact vLoop (V := fun s => vV x 0 0 (moW D a s.1 ++ []) [(0, .ref (a 0)), (1, .int s.2.1), (2, .int s.2.2.1), (3, .int s.2.2.2)] 34 []) (fun K hK s hs => k_X7_firstFlood_L34 hF hR (fun v0 v1 v2 v3 q => hK (v0, v1, v2, v3) q) s.1 s.2.1 s.2.2.1 s.2.2.2 hs) _ h
  · replace h := h.2 c14
    refine v_iconst (v := 0) 24 hF dX7_firstFlood_24 (by decide) ?_
    exact v_iretA 25 hF hR (Nat.zero_le _) (Nat.zero_le _) dX7_firstFlood_25 h
theorem ds_X7_firstFlood : yX7_firstFlood.cls = yX7_firstFlood.cls ∧ yX7_firstFlood.cls ≠ "java/lang/invoke/MethodHandle" ∧ yX7_firstFlood.cls ≠ "java/lang/invoke/VarHandle" ∧ (parseMethodDescriptor yX7_firstFlood.desc).map (fun d => d.parameters.length) = some 1 := by decide +kernel
set_option maxHeartbeats 4000000 in
theorem c_X7_firstFlood (l : Launch) (D : va_G) (a : Nat → Nat) (σ : Nat → Nat → Int32) (x1 : Int32) (Q : Int32 → (Nat → Nat → Int32) → Prop) (h : w_X7_firstFlood σ x1 Q) : Cti l D yX7_firstFlood cX7_firstFlood 5 .int (rmk 6 0 0 133) [.ref (a 0), .int x1] (moW D a σ) (moW D a) Q 0 0 := by
  refine Cti.of (by decide) (Nat.le_of_ble_eq_true rfl) (fun x hF hR => ?_)
  replace hF : vF x l D "BrookWeirsModel" cX7_firstFlood (rmk 6 0 0 133) 5 (some .int) := hF
  refine v_app0 ?_
  unfold w_X7_firstFlood at h
  refine v_aload_n 0 hF dX7_firstFlood_0 rfl 0 rfl ?_
  refine v_aload_n 1 hF dX7_firstFlood_1 rfl 0 rfl ?_
  refine v_iload_n 2 hF dX7_firstFlood_2 rfl 1 rfl ?_
  refine v_callVi (As := [.int x1]) 3 hF (c_X7_isPool l D a σ x1 _ h) (List.Perm.refl _) ⟨0, 10, _, TX7, 18, rfl, rfl⟩ q1995 q1997 qs34 q82 q1998 ds_X7_isPool ⟨rfl, rfl, Nat.le_of_ble_eq_true rfl, Nat.le_of_ble_eq_true rfl⟩ (Nat.le_of_ble_eq_true rfl) ⟨Nat.zero_le _, Nat.zero_le _⟩ dX7_firstFlood_3 (fun r16 t17 h => ?_)
  refine v_if_eq 6 13 hF dX7_firstFlood_6 (by decide) (fun c18 => ?_) (fun c18 => ?_)
  · replace h := h.1 c18
    refine v_iconst (v := 1) 13 hF dX7_firstFlood_13 (by decide) ?_
    exact k_X7_firstFlood_J14 hF hR _ _ _ h
  · replace h := h.2 c18
    refine v_iconst (v := 0) 9 hF dX7_firstFlood_9 (by decide) ?_
    refine v_goto 10 14 hF dX7_firstFlood_10 (by decide) ?_
    exact k_X7_firstFlood_J14 hF hR _ _ _ h
def w_X7_worthOf_L22 (Q : Int32 → (Nat → Nat → Int32) → Prop) (K22 : (Nat → Nat → Int32) → Int32 → Int32 → Int32 → Int32 → Int32 → Prop) (σ : Nat → Nat → Int32) (x1 x2 x3 x4 x5 : Int32) : Prop :=
  ((x2 ≤ x5 → ((x1 = 0 → vp_in ((6 : Int32)) 156 ∧ ∀ y4 : Int32, y4 = (((σ 0) ((6 : Int32)).toNatClampNeg) - x4) → w_X7_bringBack σ  (fun t5 => Q y4 t5)) ∧ (¬ x1 = 0 → w_X7_eggsIn σ ((-1 : Int32)) (fun r6 t7 => w_X7_frogsOfAll t7  (fun r8 t9 => ∀ y10 : Int32, y10 = (r6 + r8) → w_X7_bringBack t9  (fun t11 => Q y10 t11)))))) ∧ (¬ x2 ≤ x5 → w_X7_goBy σ  (fun r12 t13 => ∀ y14 : Int32, y14 = x5 + (1 : Int32) → K22 t13 x1 x2 x3 x4 y14)))
def w_X7_worthOf (σ : Nat → Nat → Int32) (x1 x2 x3 : Int32) (Q : Int32 → (Nat → Nat → Int32) → Prop) : Prop :=
  w_X7_layAside σ  (fun t15 => vp_in ((6 : Int32)) 156 ∧ ∀ y17 : Int32, y17 = ((t15 0) ((6 : Int32)).toNatClampNeg) → w_X7_setLatches t15 x1 x3 (fun t18 => wLoop (fun K s => w_X7_worthOf_L22 Q (fun v0 v1 v2 v3 v4 v5 => K (v0, v1, v2, v3, v4, v5)) s.1 s.2.1 s.2.2.1 s.2.2.2.1 s.2.2.2.2.1 s.2.2.2.2.2) (t18, x1, x2, x3, y17, (0 : Int32))))
set_option maxHeartbeats 4000000 in
theorem k_X7_worthOf_L22 {x : vC} {l : Launch} {D : va_G} {a : Nat → Nat}  {Q : Int32 → (Nat → Nat → Int32) → Prop} (hF : vF x l D "BrookWeirsModel" cX7_worthOf (rmk 6 0 0 133) 7 (some .int)) (hR : vRi x (moW D a) Q 0 0) {K22 : (Nat → Nat → Int32) → Int32 → Int32 → Int32 → Int32 → Int32 → Prop} (hK22 : ∀ (σ : Nat → Nat → Int32) (x1 x2 x3 x4 x5 : Int32), K22 σ x1 x2 x3 x4 x5 → vV x 0 0 (moW D a σ ++ []) [(0, .ref (a 0)), (1, .int x1), (2, .int x2), (3, .int x3), (4, .int x4), (5, .int x5)] 22 []) : ∀ (σ : Nat → Nat → Int32) (x1 x2 x3 x4 x5 : Int32), w_X7_worthOf_L22 Q K22 σ x1 x2 x3 x4 x5 → vV x 0 0 (moW D a σ ++ []) [(0, .ref (a 0)), (1, .int x1), (2, .int x2), (3, .int x3), (4, .int x4), (5, .int x5)] 22 [] := by
  intro σ x1 x2 x3 x4 x5 h
  unfold w_X7_worthOf_L22 at h
  refine v_iload 22 hF dX7_worthOf_22 5 rfl ?_
  refine v_iload_n 24 hF dX7_worthOf_24 rfl 2 rfl ?_
  refine v_icmp_ge 25 40 hF dX7_worthOf_25 (by decide) (fun c1 => ?_) (fun c1 => ?_)
  · replace h := h.1 c1
    refine v_iload_n 40 hF dX7_worthOf_40 rfl 1 rfl ?_
    refine v_if_eq 41 57 hF dX7_worthOf_41 (by decide) (fun c2 => ?_) (fun c2 => ?_)
    · replace h := h.1 c2
      refine v_aload_n 57 hF dX7_worthOf_57 rfl 0 rfl ?_
      refine M_get 58 0 hF (Nat.le_of_ble_eq_true rfl) q1904 rfl rfl dX7_worthOf_58 ?_
      refine v_bipush (v := 6) 61 hF dX7_worthOf_61 (by decide) ?_
      obtain ⟨o3, h⟩ := h
      refine M_ald0 63 hF o3 dX7_worthOf_63 ?_
      refine v_iload 64 hF dX7_worthOf_64 4 rfl ?_
      refine v_isub 66 hF dX7_worthOf_66 ?_
      refine v_nm (fun y4 ey4 => ?_)
      replace h := h y4 ey4
      refine v_istore [(0, .ref (a 0)), (1, .int x1), (2, .int x2), (3, .int x3), (4, .int x4), (5, .int y4)] [1, 2, 3, 4, 5, 0] 67 hF dX7_worthOf_67 (Nat.le_of_ble_eq_true rfl) rfl ?_
      refine v_aload_n 69 hF dX7_worthOf_69 rfl 0 rfl ?_
      refine v_callVv (As := []) 70 hF (c_X7_bringBack l D a σ _ h) (List.Perm.refl _) ⟨0, 10, _, TX7, 18, rfl, rfl⟩ q2127 q2129 qs54 q82 q2130 ds_X7_bringBack ⟨rfl, rfl, Nat.le_of_ble_eq_true rfl, Nat.le_of_ble_eq_true rfl⟩ (Nat.le_of_ble_eq_true rfl) ⟨Nat.zero_le _, Nat.zero_le _⟩ dX7_worthOf_70 (fun t5 h => ?_)
      refine v_iload 73 hF dX7_worthOf_73 5 rfl ?_
      exact v_iretA 75 hF hR (Nat.zero_le _) (Nat.zero_le _) dX7_worthOf_75 h
    · replace h := h.2 c2
      refine v_aload_n 44 hF dX7_worthOf_44 rfl 0 rfl ?_
      refine v_iconst (v := -1) 45 hF dX7_worthOf_45 (by decide) ?_
      refine v_callVi (As := [.int ((-1 : Int32))]) 46 hF (c_X7_eggsIn l D a σ ((-1 : Int32)) _ h) (List.Perm.refl _) ⟨0, 10, _, TX7, 18, rfl, rfl⟩ q2046 q2048 qs41 q82 q2049 ds_X7_eggsIn ⟨rfl, rfl, Nat.le_of_ble_eq_true rfl, Nat.le_of_ble_eq_true rfl⟩ (Nat.le_of_ble_eq_true rfl) ⟨Nat.zero_le _, Nat.zero_le _⟩ dX7_worthOf_46 (fun r6 t7 h => ?_)
      refine v_aload_n 49 hF dX7_worthOf_49 rfl 0 rfl ?_
      refine v_callVi (As := []) 50 hF (c_X7_frogsOfAll l D a t7 _ h) (List.Perm.refl _) ⟨0, 10, _, TX7, 18, rfl, rfl⟩ q2151 q2153 qs58 q82 q2154 ds_X7_frogsOfAll ⟨rfl, rfl, Nat.le_of_ble_eq_true rfl, Nat.le_of_ble_eq_true rfl⟩ (Nat.le_of_ble_eq_true rfl) ⟨Nat.zero_le _, Nat.zero_le _⟩ dX7_worthOf_50 (fun r8 t9 h => ?_)
      refine v_iadd 53 hF dX7_worthOf_53 ?_
      refine v_goto 54 67 hF dX7_worthOf_54 (by decide) ?_
      refine v_nm (fun y10 ey10 => ?_)
      replace h := h y10 ey10
      refine v_istore [(0, .ref (a 0)), (1, .int x1), (2, .int x2), (3, .int x3), (4, .int x4), (5, .int y10)] [1, 2, 3, 4, 5, 0] 67 hF dX7_worthOf_67 (Nat.le_of_ble_eq_true rfl) rfl ?_
      refine v_aload_n 69 hF dX7_worthOf_69 rfl 0 rfl ?_
      refine v_callVv (As := []) 70 hF (c_X7_bringBack l D a t9 _ h) (List.Perm.refl _) ⟨0, 10, _, TX7, 18, rfl, rfl⟩ q2127 q2129 qs54 q82 q2130 ds_X7_bringBack ⟨rfl, rfl, Nat.le_of_ble_eq_true rfl, Nat.le_of_ble_eq_true rfl⟩ (Nat.le_of_ble_eq_true rfl) ⟨Nat.zero_le _, Nat.zero_le _⟩ dX7_worthOf_70 (fun t11 h => ?_)
      refine v_iload 73 hF dX7_worthOf_73 5 rfl ?_
      exact v_iretA 75 hF hR (Nat.zero_le _) (Nat.zero_le _) dX7_worthOf_75 h
  · replace h := h.2 c1
    refine v_aload_n 28 hF dX7_worthOf_28 rfl 0 rfl ?_
    refine v_callVi (As := []) 29 hF (c_X7_goBy l D a σ _ h) (List.Perm.refl _) ⟨0, 10, _, TX7, 18, rfl, rfl⟩ q2079 q2081 qs44 q82 q2082 ds_X7_goBy ⟨rfl, rfl, Nat.le_of_ble_eq_true rfl, Nat.le_of_ble_eq_true rfl⟩ (Nat.le_of_ble_eq_true rfl) ⟨Nat.zero_le _, Nat.zero_le _⟩ dX7_worthOf_29 (fun r12 t13 h => ?_)
    refine v_istore [(0, .ref (a 0)), (1, .int x1), (2, .int x2), (3, .int x3), (4, .int x4), (5, .int x5), (6, .int r12)] [1, 2, 3, 4, 5, 6, 0] 32 hF dX7_worthOf_32 (Nat.le_of_ble_eq_true rfl) rfl ?_
    obtain ⟨y14, ey14⟩ : ∃ y : Int32, y = x5 + (1 : Int32) := ⟨_, rfl⟩
    replace h := h y14 ey14
    refine v_iinc [(0, .ref (a 0)), (1, .int x1), (2, .int x2), (3, .int x3), (4, .int x4), (5, .int y14), (6, .int r12)] [1, 2, 3, 4, 5, 0, 6] 34 hF dX7_worthOf_34 5 rfl (by rw [ey14]; rfl) (Nat.le_of_ble_eq_true rfl) rfl ?_
    refine v_goto 37 22 hF dX7_worthOf_37 (by decide) ?_
    refine v_sub [(0, .ref (a 0)), (1, .int x1), (2, .int x2), (3, .int x3), (4, .int x4), (5, .int y14)] [0, 1, 2, 3, 4, 5] rfl ?_
    exact hK22 _ _ _ _ _ _ h
theorem ds_X7_worthOf : yX7_worthOf.cls = yX7_worthOf.cls ∧ yX7_worthOf.cls ≠ "java/lang/invoke/MethodHandle" ∧ yX7_worthOf.cls ≠ "java/lang/invoke/VarHandle" ∧ (parseMethodDescriptor yX7_worthOf.desc).map (fun d => d.parameters.length) = some 3 := by decide +kernel
set_option maxHeartbeats 4000000 in
theorem c_X7_worthOf (l : Launch) (D : va_G) (a : Nat → Nat) (σ : Nat → Nat → Int32) (x1 x2 x3 : Int32) (Q : Int32 → (Nat → Nat → Int32) → Prop) (h : w_X7_worthOf σ x1 x2 x3 Q) : Cti l D yX7_worthOf cX7_worthOf 7 .int (rmk 6 0 0 133) [.ref (a 0), .int x1, .int x2, .int x3] (moW D a σ) (moW D a) Q 0 0 := by
  refine Cti.of (by decide) (Nat.le_of_ble_eq_true rfl) (fun x hF hR => ?_)
  replace hF : vF x l D "BrookWeirsModel" cX7_worthOf (rmk 6 0 0 133) 7 (some .int) := hF
  refine v_app0 ?_
  unfold w_X7_worthOf at h
  refine v_aload_n 0 hF dX7_worthOf_0 rfl 0 rfl ?_
  refine v_callVv (As := []) 1 hF (c_X7_layAside l D a σ _ h) (List.Perm.refl _) ⟨0, 10, _, TX7, 18, rfl, rfl⟩ q2123 q2125 qs53 q82 q2126 ds_X7_layAside ⟨rfl, rfl, Nat.le_of_ble_eq_true rfl, Nat.le_of_ble_eq_true rfl⟩ (Nat.le_of_ble_eq_true rfl) ⟨Nat.zero_le _, Nat.zero_le _⟩ dX7_worthOf_1 (fun t15 h => ?_)
  refine v_aload_n 4 hF dX7_worthOf_4 rfl 0 rfl ?_
  refine M_get 5 0 hF (Nat.le_of_ble_eq_true rfl) q1904 rfl rfl dX7_worthOf_5 ?_
  refine v_bipush (v := 6) 8 hF dX7_worthOf_8 (by decide) ?_
  obtain ⟨o16, h⟩ := h
  refine M_ald0 10 hF o16 dX7_worthOf_10 ?_
  refine v_nm (fun y17 ey17 => ?_)
  replace h := h y17 ey17
  refine v_istore [(0, .ref (a 0)), (1, .int x1), (2, .int x2), (3, .int x3), (4, .int y17)] [1, 2, 3, 4, 0] 11 hF dX7_worthOf_11 (Nat.le_of_ble_eq_true rfl) rfl ?_
  refine v_aload_n 13 hF dX7_worthOf_13 rfl 0 rfl ?_
  refine v_iload_n 14 hF dX7_worthOf_14 rfl 1 rfl ?_
  refine v_iload_n 15 hF dX7_worthOf_15 rfl 3 rfl ?_
  refine v_callVv (As := [.int x1, .int x3]) 16 hF (c_X7_setLatches l D a t15 x1 x3 _ h) (List.Perm.refl _) ⟨0, 10, _, TX7, 18, rfl, rfl⟩ q2147 q2149 qs57 q82 q2150 ds_X7_setLatches ⟨rfl, rfl, Nat.le_of_ble_eq_true rfl, Nat.le_of_ble_eq_true rfl⟩ (Nat.le_of_ble_eq_true rfl) ⟨Nat.zero_le _, Nat.zero_le _⟩ dX7_worthOf_16 (fun t18 h => ?_)
  refine v_iconst (v := 0) 19 hF dX7_worthOf_19 (by decide) ?_
  refine v_istore [(0, .ref (a 0)), (1, .int x1), (2, .int x2), (3, .int x3), (4, .int y17), (5, .int ((0 : Int32)))] [1, 2, 3, 4, 5, 0] 20 hF dX7_worthOf_20 (Nat.le_of_ble_eq_true rfl) rfl ?_
  exact vLoop (V := fun s => vV x 0 0 (moW D a s.1 ++ []) [(0, .ref (a 0)), (1, .int s.2.1), (2, .int s.2.2.1), (3, .int s.2.2.2.1), (4, .int s.2.2.2.2.1), (5, .int s.2.2.2.2.2)] 22 []) (fun K hK s hs => k_X7_worthOf_L22 hF hR (fun v0 v1 v2 v3 v4 v5 q => hK (v0, v1, v2, v3, v4, v5) q) s.1 s.2.1 s.2.2.1 s.2.2.2.1 s.2.2.2.2.1 s.2.2.2.2.2 hs) _ h
def w_X7_worth_J37 (Q : Int32 → (Nat → Nat → Int32) → Prop)  (σ : Nat → Nat → Int32) (x1 x2 x3 s1 : Int32) : Prop :=
  ∀ t1 : Nat → Nat → Int32, t1 = (upN σ 20 7 s1) → (((t1 20 7) ≤ 0 → w_X7_worthOf t1 x1 x2 x3 (fun r3 t4 => Q r3 t4)) ∧ (¬ (t1 20 7) ≤ 0 → Q ((0 : Int32)) t1))
def w_X7_worth (σ : Nat → Nat → Int32) (x1 x2 x3 : Int32) (Q : Int32 → (Nat → Nat → Int32) → Prop) : Prop :=
  w_X7_in x2 ((1 : Int32)) ((5 : Int32)) (fun r5 => ((¬ r5 = 0 → vp_in ((0 : Int32)) 156 ∧ w_X7_in x3 ((0 : Int32)) ((((1 : Int32) <<< (((σ 0) ((0 : Int32)).toNatClampNeg) &&& 31)) - (1 : Int32))) (fun r8 => ((¬ r8 = 0 → w_X7_worth_J37 Q σ x1 x2 x3 ((0 : Int32))) ∧ (r8 = 0 → w_X7_worth_J37 Q σ x1 x2 x3 ((2 : Int32)))))) ∧ (r5 = 0 → w_X7_worth_J37 Q σ x1 x2 x3 ((1 : Int32)))))
set_option maxHeartbeats 4000000 in
theorem k_X7_worth_J37 {x : vC} {l : Launch} {D : va_G} {a : Nat → Nat}  {Q : Int32 → (Nat → Nat → Int32) → Prop} (hF : vF x l D "BrookWeirsModel" cX7_worth (rmk 7 0 0 159) 4 (some .int)) (hR : vRi x (moW D a) Q 0 0)   : ∀ (σ : Nat → Nat → Int32) (x1 x2 x3 s1 : Int32), w_X7_worth_J37 Q  σ x1 x2 x3 s1 → vV x 0 0 (moW D a σ ++ []) [(0, .ref (a 0)), (1, .int x1), (2, .int x2), (3, .int x3)] 37 [.int s1, .ref (a 0)] := by
  intro σ x1 x2 x3 s1 h
  unfold w_X7_worth_J37 at h
  refine M_put7 37 hF q1911 dX7_worth_37 (fun t1 et1 => ?_)
  replace h := h t1 et1
  refine v_aload_n 40 hF dX7_worth_40 rfl 0 rfl ?_
  refine M_get 41 7 hF (Nat.le_of_ble_eq_true rfl) q1911 rfl rfl dX7_worth_41 ?_
  refine v_if_le 44 51 hF dX7_worth_44 (by decide) (fun c2 => ?_) (fun c2 => ?_)
  · replace h := h.1 c2
    refine v_aload_n 51 hF dX7_worth_51 rfl 0 rfl ?_
    refine v_iload_n 52 hF dX7_worth_52 rfl 1 rfl ?_
    refine v_iload_n 53 hF dX7_worth_53 rfl 2 rfl ?_
    refine v_iload_n 54 hF dX7_worth_54 rfl 3 rfl ?_
    refine v_callVi (As := [.int x1, .int x2, .int x3]) 55 hF (c_X7_worthOf l D a t1 x1 x2 x3 _ h) (List.Perm.refl _) ⟨0, 10, _, TX7, 18, rfl, rfl⟩ q2143 q2145 qs56 q82 q2146 ds_X7_worthOf ⟨rfl, rfl, Nat.le_of_ble_eq_true rfl, Nat.le_of_ble_eq_true rfl⟩ (Nat.le_of_ble_eq_true rfl) ⟨Nat.zero_le _, Nat.zero_le _⟩ dX7_worth_55 (fun r3 t4 h => ?_)
    exact v_iretA 58 hF hR (Nat.zero_le _) (Nat.zero_le _) dX7_worth_58 h
  · replace h := h.2 c2
    refine v_iconst (v := 0) 47 hF dX7_worth_47 (by decide) ?_
    refine v_goto 48 58 hF dX7_worth_48 (by decide) ?_
    exact v_iretA 58 hF hR (Nat.zero_le _) (Nat.zero_le _) dX7_worth_58 h
theorem ds_X7_worth : yX7_worth.cls = yX7_worth.cls ∧ yX7_worth.cls ≠ "java/lang/invoke/MethodHandle" ∧ yX7_worth.cls ≠ "java/lang/invoke/VarHandle" ∧ (parseMethodDescriptor yX7_worth.desc).map (fun d => d.parameters.length) = some 3 := by decide +kernel
set_option maxHeartbeats 4000000 in
theorem c_X7_worth (l : Launch) (D : va_G) (a : Nat → Nat) (σ : Nat → Nat → Int32) (x1 x2 x3 : Int32) (Q : Int32 → (Nat → Nat → Int32) → Prop) (h : w_X7_worth σ x1 x2 x3 Q) : Cti l D yX7_worth cX7_worth 4 .int (rmk 7 0 0 159) [.ref (a 0), .int x1, .int x2, .int x3] (moW D a σ) (moW D a) Q 0 0 := by
  refine Cti.of (by decide) (Nat.le_of_ble_eq_true rfl) (fun x hF hR => ?_)
  replace hF : vF x l D "BrookWeirsModel" cX7_worth (rmk 7 0 0 159) 4 (some .int) := hF
  refine v_app0 ?_
  unfold w_X7_worth at h
  refine v_aload_n 0 hF dX7_worth_0 rfl 0 rfl ?_
  refine v_iload_n 1 hF dX7_worth_1 rfl 2 rfl ?_
  refine v_iconst (v := 1) 2 hF dX7_worth_2 (by decide) ?_
  refine v_iconst (v := 5) 3 hF dX7_worth_3 (by decide) ?_
  refine v_callS0i (As := [.int x2, .int ((1 : Int32)), .int ((5 : Int32))]) 4 hF (c_X7_in l D x2 ((1 : Int32)) ((5 : Int32)) _ h) q1968 q1969 q82 q1970 ds_X7_in ⟨rfl, rfl, Nat.le_of_ble_eq_true rfl, Nat.le_of_ble_eq_true rfl⟩ (Nat.le_of_ble_eq_true rfl) ⟨Nat.zero_le _, Nat.zero_le _⟩ dX7_worth_4 (fun r5 h => ?_)
  refine v_if_ne 7 14 hF dX7_worth_7 (by decide) (fun c6 => ?_) (fun c6 => ?_)
  · replace h := h.1 c6
    refine v_iload_n 14 hF dX7_worth_14 rfl 3 rfl ?_
    refine v_iconst (v := 0) 15 hF dX7_worth_15 (by decide) ?_
    refine v_iconst (v := 1) 16 hF dX7_worth_16 (by decide) ?_
    refine v_aload_n 17 hF dX7_worth_17 rfl 0 rfl ?_
    refine M_get 18 0 hF (Nat.le_of_ble_eq_true rfl) q1904 rfl rfl dX7_worth_18 ?_
    refine v_iconst (v := 0) 21 hF dX7_worth_21 (by decide) ?_
    obtain ⟨o7, h⟩ := h
    refine M_ald0 22 hF o7 dX7_worth_22 ?_
    refine v_ishl 23 hF dX7_worth_23 ?_
    refine v_iconst (v := 1) 24 hF dX7_worth_24 (by decide) ?_
    refine v_isub 25 hF dX7_worth_25 ?_
    refine v_callS0i (As := [.int x3, .int ((0 : Int32)), .int ((((1 : Int32) <<< (((σ 0) ((0 : Int32)).toNatClampNeg) &&& 31)) - (1 : Int32)))]) 26 hF (c_X7_in l D x3 ((0 : Int32)) ((((1 : Int32) <<< (((σ 0) ((0 : Int32)).toNatClampNeg) &&& 31)) - (1 : Int32))) _ h) q1968 q1969 q82 q1970 ds_X7_in ⟨rfl, rfl, Nat.le_of_ble_eq_true rfl, Nat.le_of_ble_eq_true rfl⟩ (Nat.le_of_ble_eq_true rfl) ⟨Nat.zero_le _, Nat.zero_le _⟩ dX7_worth_26 (fun r8 h => ?_)
    refine v_if_ne 29 36 hF dX7_worth_29 (by decide) (fun c9 => ?_) (fun c9 => ?_)
    · replace h := h.1 c9
      refine v_iconst (v := 0) 36 hF dX7_worth_36 (by decide) ?_
      exact k_X7_worth_J37 hF hR _ _ _ _ _ h
    · replace h := h.2 c9
      refine v_iconst (v := 2) 32 hF dX7_worth_32 (by decide) ?_
      refine v_goto 33 37 hF dX7_worth_33 (by decide) ?_
      exact k_X7_worth_J37 hF hR _ _ _ _ _ h
  · replace h := h.2 c6
    refine v_iconst (v := 1) 10 hF dX7_worth_10 (by decide) ?_
    refine v_goto 11 37 hF dX7_worth_11 (by decide) ?_
    exact k_X7_worth_J37 hF hR _ _ _ _ _ h
def w_X7_carryOut_J122 (Q : (Nat → Nat → Int32) → Prop)  (σ : Nat → Nat → Int32) (x1 x2 x3 s2 s1 : Int32) : Prop :=
  vp_in (((3 : Int32) * x1)) 180 ∧ ((¬ ((σ 16) (((3 : Int32) * x1)).toNatClampNeg) = (3 : Int32) → w_X7_becomes σ s1 s2 ((0 : Int32)) (fun r3 t4 => Q t4)) ∧ (((σ 16) (((3 : Int32) * x1)).toNatClampNeg) = (3 : Int32) → w_X7_becomes σ s1 s2 ((1 : Int32)) (fun r5 t6 => Q t6)))
def w_X7_carryOut (σ : Nat → Nat → Int32) (x1 : Int32) (Q : (Nat → Nat → Int32) → Prop) : Prop :=
  vp_in ((((3 : Int32) * x1) + (1 : Int32))) 180 ∧ ∀ y8 : Int32, y8 = ((σ 16) ((((3 : Int32) * x1) + (1 : Int32))).toNatClampNeg) → vp_in ((((3 : Int32) * x1) + (2 : Int32))) 180 ∧ ∀ y10 : Int32, y10 = ((σ 16) ((((3 : Int32) * x1) + (2 : Int32))).toNatClampNeg) → vp_in (((3 : Int32) * x1)) 180 ∧ ((((((σ 16) (((3 : Int32) * x1)).toNatClampNeg)).toInt < 0 ∨ 5 < (((σ 16) (((3 : Int32) * x1)).toNatClampNeg)).toInt) → ((¬ y10 = 0 → w_X7_carryOut_J122 Q σ x1 y8 y10 ((8 : Int32)) y8) ∧ (y10 = 0 → w_X7_carryOut_J122 Q σ x1 y8 y10 ((7 : Int32)) y8))) ∧ (((σ 16) (((3 : Int32) * x1)).toNatClampNeg) = (0 : Int32) → w_X7_doTell σ y8 (fun r14 t15 => Q t15)) ∧ (((σ 16) (((3 : Int32) * x1)).toNatClampNeg) = (1 : Int32) → w_X7_goBy σ  (fun r16 t17 => Q t17)) ∧ (((σ 16) (((3 : Int32) * x1)).toNatClampNeg) = (2 : Int32) → w_X7_doBoards σ y8 y10 (fun r18 t19 => Q t19)) ∧ (((σ 16) (((3 : Int32) * x1)).toNatClampNeg) = (3 : Int32) → ((¬ y10 = 0 → w_X7_carryOut_J122 Q σ x1 y8 y10 ((8 : Int32)) y8) ∧ (y10 = 0 → w_X7_carryOut_J122 Q σ x1 y8 y10 ((7 : Int32)) y8))) ∧ (((σ 16) (((3 : Int32) * x1)).toNatClampNeg) = (4 : Int32) → ((¬ y10 = 0 → w_X7_carryOut_J122 Q σ x1 y8 y10 ((8 : Int32)) y8) ∧ (y10 = 0 → w_X7_carryOut_J122 Q σ x1 y8 y10 ((7 : Int32)) y8))) ∧ (((σ 16) (((3 : Int32) * x1)).toNatClampNeg) = (5 : Int32) → w_X7_doLay σ y8 y10 (fun r22 t23 => Q t23)))
set_option maxHeartbeats 4000000 in
theorem k_X7_carryOut_J122 {x : vC} {l : Launch} {D : va_G} {a : Nat → Nat}  {Q : (Nat → Nat → Int32) → Prop} (hF : vF x l D "BrookWeirsModel" cX7_carryOut (rmk 6 0 0 133) 5 none) (hR : vRv x (moW D a) Q 0 0)   : ∀ (σ : Nat → Nat → Int32) (x1 x2 x3 s2 s1 : Int32), w_X7_carryOut_J122 Q  σ x1 x2 x3 s2 s1 → vV x 0 0 (moW D a σ ++ []) [(0, .ref (a 0)), (1, .int x1), (2, .int x2), (3, .int x3)] 122 [.int s2, .int s1, .ref (a 0)] := by
  intro σ x1 x2 x3 s2 s1 h
  unfold w_X7_carryOut_J122 at h
  refine v_aload_n 122 hF dX7_carryOut_122 rfl 0 rfl ?_
  refine M_get 123 16 hF (Nat.le_of_ble_eq_true rfl) q1920 rfl rfl dX7_carryOut_123 ?_
  refine v_iconst (v := 3) 126 hF dX7_carryOut_126 (by decide) ?_
  refine v_iload_n 127 hF dX7_carryOut_127 rfl 1 rfl ?_
  refine v_imul 128 hF dX7_carryOut_128 ?_
  obtain ⟨o1, h⟩ := h
  refine M_ald16 129 hF o1 dX7_carryOut_129 ?_
  refine v_iconst (v := 3) 130 hF dX7_carryOut_130 (by decide) ?_
  refine v_icmp_ne 131 138 hF dX7_carryOut_131 (by decide) (fun c2 => ?_) (fun c2 => ?_)
  · replace h := h.1 c2
    refine v_iconst (v := 0) 138 hF dX7_carryOut_138 (by decide) ?_
    refine v_callVi (As := [.int s1, .int s2, .int ((0 : Int32))]) 139 hF (c_X7_becomes l D a σ s1 s2 ((0 : Int32)) _ h) (List.Perm.refl _) ⟨0, 10, _, TX7, 18, rfl, rfl⟩ q2011 q2013 qs37 q82 q2014 ds_X7_becomes ⟨rfl, rfl, Nat.le_of_ble_eq_true rfl, Nat.le_of_ble_eq_true rfl⟩ (Nat.le_of_ble_eq_true rfl) ⟨Nat.zero_le _, Nat.zero_le _⟩ dX7_carryOut_139 (fun r3 t4 h => ?_)
    refine v_istore [(0, .ref (a 0)), (1, .int x1), (2, .int x2), (3, .int x3), (4, .int r3)] [1, 2, 3, 4, 0] 142 hF dX7_carryOut_142 (Nat.le_of_ble_eq_true rfl) rfl ?_
    exact v_vretA 144 hF hR (Nat.zero_le _) (Nat.zero_le _) dX7_carryOut_144 h
  · replace h := h.2 c2
    refine v_iconst (v := 1) 134 hF dX7_carryOut_134 (by decide) ?_
    refine v_goto 135 139 hF dX7_carryOut_135 (by decide) ?_
    refine v_callVi (As := [.int s1, .int s2, .int ((1 : Int32))]) 139 hF (c_X7_becomes l D a σ s1 s2 ((1 : Int32)) _ h) (List.Perm.refl _) ⟨0, 10, _, TX7, 18, rfl, rfl⟩ q2011 q2013 qs37 q82 q2014 ds_X7_becomes ⟨rfl, rfl, Nat.le_of_ble_eq_true rfl, Nat.le_of_ble_eq_true rfl⟩ (Nat.le_of_ble_eq_true rfl) ⟨Nat.zero_le _, Nat.zero_le _⟩ dX7_carryOut_139 (fun r5 t6 h => ?_)
    refine v_istore [(0, .ref (a 0)), (1, .int x1), (2, .int x2), (3, .int x3), (4, .int r5)] [1, 2, 3, 4, 0] 142 hF dX7_carryOut_142 (Nat.le_of_ble_eq_true rfl) rfl ?_
    exact v_vretA 144 hF hR (Nat.zero_le _) (Nat.zero_le _) dX7_carryOut_144 h
theorem ds_X7_carryOut : yX7_carryOut.cls = yX7_carryOut.cls ∧ yX7_carryOut.cls ≠ "java/lang/invoke/MethodHandle" ∧ yX7_carryOut.cls ≠ "java/lang/invoke/VarHandle" ∧ (parseMethodDescriptor yX7_carryOut.desc).map (fun d => d.parameters.length) = some 1 := by decide +kernel
set_option maxHeartbeats 4000000 in
theorem c_X7_carryOut (l : Launch) (D : va_G) (a : Nat → Nat) (σ : Nat → Nat → Int32) (x1 : Int32) (Q : (Nat → Nat → Int32) → Prop) (h : w_X7_carryOut σ x1 Q) : Ctv l D yX7_carryOut cX7_carryOut 5 (rmk 6 0 0 133) [.ref (a 0), .int x1] (moW D a σ) (moW D a) Q 0 0 := by
  refine Ctv.of (by decide) (Nat.le_of_ble_eq_true rfl) (fun x hF hR => ?_)
  replace hF : vF x l D "BrookWeirsModel" cX7_carryOut (rmk 6 0 0 133) 5 none := hF
  refine v_app0 ?_
  unfold w_X7_carryOut at h
  refine v_aload_n 0 hF dX7_carryOut_0 rfl 0 rfl ?_
  refine M_get 1 16 hF (Nat.le_of_ble_eq_true rfl) q1920 rfl rfl dX7_carryOut_1 ?_
  refine v_iconst (v := 3) 4 hF dX7_carryOut_4 (by decide) ?_
  refine v_iload_n 5 hF dX7_carryOut_5 rfl 1 rfl ?_
  refine v_imul 6 hF dX7_carryOut_6 ?_
  refine v_iconst (v := 1) 7 hF dX7_carryOut_7 (by decide) ?_
  refine v_iadd 8 hF dX7_carryOut_8 ?_
  obtain ⟨o7, h⟩ := h
  refine M_ald16 9 hF o7 dX7_carryOut_9 ?_
  refine v_nm (fun y8 ey8 => ?_)
  replace h := h y8 ey8
  refine v_istore_n [(0, .ref (a 0)), (1, .int x1), (2, .int y8)] [1, 2, 0] 10 hF dX7_carryOut_10 rfl (Nat.le_of_ble_eq_true rfl) rfl ?_
  refine v_aload_n 11 hF dX7_carryOut_11 rfl 0 rfl ?_
  refine M_get 12 16 hF (Nat.le_of_ble_eq_true rfl) q1920 rfl rfl dX7_carryOut_12 ?_
  refine v_iconst (v := 3) 15 hF dX7_carryOut_15 (by decide) ?_
  refine v_iload_n 16 hF dX7_carryOut_16 rfl 1 rfl ?_
  refine v_imul 17 hF dX7_carryOut_17 ?_
  refine v_iconst (v := 2) 18 hF dX7_carryOut_18 (by decide) ?_
  refine v_iadd 19 hF dX7_carryOut_19 ?_
  obtain ⟨o9, h⟩ := h
  refine M_ald16 20 hF o9 dX7_carryOut_20 ?_
  refine v_nm (fun y10 ey10 => ?_)
  replace h := h y10 ey10
  refine v_istore_n [(0, .ref (a 0)), (1, .int x1), (2, .int y8), (3, .int y10)] [1, 2, 3, 0] 21 hF dX7_carryOut_21 rfl (Nat.le_of_ble_eq_true rfl) rfl ?_
  refine v_aload_n 22 hF dX7_carryOut_22 rfl 0 rfl ?_
  refine M_get 23 16 hF (Nat.le_of_ble_eq_true rfl) q1920 rfl rfl dX7_carryOut_23 ?_
  refine v_iconst (v := 3) 26 hF dX7_carryOut_26 (by decide) ?_
  refine v_iload_n 27 hF dX7_carryOut_27 rfl 1 rfl ?_
  refine v_imul 28 hF dX7_carryOut_28 ?_
  obtain ⟨o11, h⟩ := h
  refine M_ald16 29 hF o11 dX7_carryOut_29 ?_
  rcases tsw_cases (((σ 16) (((3 : Int32) * x1)).toNatClampNeg)) 0 6 with c12 | c12
  · replace h := h.1 c12
    refine v_tableOut 30 109 hF dX7_carryOut_30 c12 (by decide) ?_
    refine v_aload_n 109 hF dX7_carryOut_109 rfl 0 rfl ?_
    refine v_iload_n 110 hF dX7_carryOut_110 rfl 2 rfl ?_
    refine v_iload_n 111 hF dX7_carryOut_111 rfl 3 rfl ?_
    refine v_if_ne 112 120 hF dX7_carryOut_112 (by decide) (fun c13 => ?_) (fun c13 => ?_)
    · replace h := h.1 c13
      refine v_bipush (v := 8) 120 hF dX7_carryOut_120 (by decide) ?_
      exact k_X7_carryOut_J122 hF hR _ _ _ _ _ _ h
    · replace h := h.2 c13
      refine v_bipush (v := 7) 115 hF dX7_carryOut_115 (by decide) ?_
      refine v_goto 117 122 hF dX7_carryOut_117 (by decide) ?_
      exact k_X7_carryOut_J122 hF hR _ _ _ _ _ _ h
  · replace h := h.2
    obtain ⟨j, hj, ej⟩ := c12
    rcases (show j = 0 ∨ j = 1 ∨ j = 2 ∨ j = 3 ∨ j = 4 ∨ j = 5 by omega) with rfl | rfl | rfl | rfl | rfl | rfl
    · have ev : ((σ 16) (((3 : Int32) * x1)).toNatClampNeg) = (0 : Int32) := ej
      replace h := h.1 ev
      refine v_tableIn 30 68 hF dX7_carryOut_30 (by rw [ev]; decide) (by rw [ev]; decide) (off := 38) (by rw [ev]; decide) (by decide) ?_
      refine v_aload_n 68 hF dX7_carryOut_68 rfl 0 rfl ?_
      refine v_iload_n 69 hF dX7_carryOut_69 rfl 2 rfl ?_
      refine v_callVi (As := [.int y8]) 70 hF (c_X7_doTell l D a σ y8 _ h) (List.Perm.refl _) ⟨0, 10, _, TX7, 18, rfl, rfl⟩ q2067 q2069 qs43 q82 q2070 ds_X7_doTell ⟨rfl, rfl, Nat.le_of_ble_eq_true rfl, Nat.le_of_ble_eq_true rfl⟩ (Nat.le_of_ble_eq_true rfl) ⟨Nat.zero_le _, Nat.zero_le _⟩ dX7_carryOut_70 (fun r14 t15 h => ?_)
      refine v_istore [(0, .ref (a 0)), (1, .int x1), (2, .int y8), (3, .int y10), (4, .int r14)] [1, 2, 3, 4, 0] 73 hF dX7_carryOut_73 (Nat.le_of_ble_eq_true rfl) rfl ?_
      refine v_goto 75 144 hF dX7_carryOut_75 (by decide) ?_
      exact v_vretA 144 hF hR (Nat.zero_le _) (Nat.zero_le _) dX7_carryOut_144 h
    · have ev : ((σ 16) (((3 : Int32) * x1)).toNatClampNeg) = (1 : Int32) := ej
      replace h := h.2.1 ev
      refine v_tableIn 30 78 hF dX7_carryOut_30 (by rw [ev]; decide) (by rw [ev]; decide) (off := 48) (by rw [ev]; decide) (by decide) ?_
      refine v_aload_n 78 hF dX7_carryOut_78 rfl 0 rfl ?_
      refine v_callVi (As := []) 79 hF (c_X7_goBy l D a σ _ h) (List.Perm.refl _) ⟨0, 10, _, TX7, 18, rfl, rfl⟩ q2079 q2081 qs44 q82 q2082 ds_X7_goBy ⟨rfl, rfl, Nat.le_of_ble_eq_true rfl, Nat.le_of_ble_eq_true rfl⟩ (Nat.le_of_ble_eq_true rfl) ⟨Nat.zero_le _, Nat.zero_le _⟩ dX7_carryOut_79 (fun r16 t17 h => ?_)
      refine v_istore [(0, .ref (a 0)), (1, .int x1), (2, .int y8), (3, .int y10), (4, .int r16)] [1, 2, 3, 4, 0] 82 hF dX7_carryOut_82 (Nat.le_of_ble_eq_true rfl) rfl ?_
      refine v_goto 84 144 hF dX7_carryOut_84 (by decide) ?_
      exact v_vretA 144 hF hR (Nat.zero_le _) (Nat.zero_le _) dX7_carryOut_144 h
    · have ev : ((σ 16) (((3 : Int32) * x1)).toNatClampNeg) = (2 : Int32) := ej
      replace h := h.2.2.1 ev
      refine v_tableIn 30 87 hF dX7_carryOut_30 (by rw [ev]; decide) (by rw [ev]; decide) (off := 57) (by rw [ev]; decide) (by decide) ?_
      refine v_aload_n 87 hF dX7_carryOut_87 rfl 0 rfl ?_
      refine v_iload_n 88 hF dX7_carryOut_88 rfl 2 rfl ?_
      refine v_iload_n 89 hF dX7_carryOut_89 rfl 3 rfl ?_
      refine v_callVi (As := [.int y8, .int y10]) 90 hF (c_X7_doBoards l D a σ y8 y10 _ h) (List.Perm.refl _) ⟨0, 10, _, TX7, 18, rfl, rfl⟩ q1991 q1993 qs33 q82 q1994 ds_X7_doBoards ⟨rfl, rfl, Nat.le_of_ble_eq_true rfl, Nat.le_of_ble_eq_true rfl⟩ (Nat.le_of_ble_eq_true rfl) ⟨Nat.zero_le _, Nat.zero_le _⟩ dX7_carryOut_90 (fun r18 t19 h => ?_)
      refine v_istore [(0, .ref (a 0)), (1, .int x1), (2, .int y8), (3, .int y10), (4, .int r18)] [1, 2, 3, 4, 0] 93 hF dX7_carryOut_93 (Nat.le_of_ble_eq_true rfl) rfl ?_
      refine v_goto 95 144 hF dX7_carryOut_95 (by decide) ?_
      exact v_vretA 144 hF hR (Nat.zero_le _) (Nat.zero_le _) dX7_carryOut_144 h
    · have ev : ((σ 16) (((3 : Int32) * x1)).toNatClampNeg) = (3 : Int32) := ej
      replace h := h.2.2.2.1 ev
      refine v_tableIn 30 109 hF dX7_carryOut_30 (by rw [ev]; decide) (by rw [ev]; decide) (off := 79) (by rw [ev]; decide) (by decide) ?_
      refine v_aload_n 109 hF dX7_carryOut_109 rfl 0 rfl ?_
      refine v_iload_n 110 hF dX7_carryOut_110 rfl 2 rfl ?_
      refine v_iload_n 111 hF dX7_carryOut_111 rfl 3 rfl ?_
      refine v_if_ne 112 120 hF dX7_carryOut_112 (by decide) (fun c20 => ?_) (fun c20 => ?_)
      · replace h := h.1 c20
        refine v_bipush (v := 8) 120 hF dX7_carryOut_120 (by decide) ?_
        exact k_X7_carryOut_J122 hF hR _ _ _ _ _ _ h
      · replace h := h.2 c20
        refine v_bipush (v := 7) 115 hF dX7_carryOut_115 (by decide) ?_
        refine v_goto 117 122 hF dX7_carryOut_117 (by decide) ?_
        exact k_X7_carryOut_J122 hF hR _ _ _ _ _ _ h
    · have ev : ((σ 16) (((3 : Int32) * x1)).toNatClampNeg) = (4 : Int32) := ej
      replace h := h.2.2.2.2.1 ev
      refine v_tableIn 30 109 hF dX7_carryOut_30 (by rw [ev]; decide) (by rw [ev]; decide) (off := 79) (by rw [ev]; decide) (by decide) ?_
      refine v_aload_n 109 hF dX7_carryOut_109 rfl 0 rfl ?_
      refine v_iload_n 110 hF dX7_carryOut_110 rfl 2 rfl ?_
      refine v_iload_n 111 hF dX7_carryOut_111 rfl 3 rfl ?_
      refine v_if_ne 112 120 hF dX7_carryOut_112 (by decide) (fun c21 => ?_) (fun c21 => ?_)
      · replace h := h.1 c21
        refine v_bipush (v := 8) 120 hF dX7_carryOut_120 (by decide) ?_
        exact k_X7_carryOut_J122 hF hR _ _ _ _ _ _ h
      · replace h := h.2 c21
        refine v_bipush (v := 7) 115 hF dX7_carryOut_115 (by decide) ?_
        refine v_goto 117 122 hF dX7_carryOut_117 (by decide) ?_
        exact k_X7_carryOut_J122 hF hR _ _ _ _ _ _ h
    · have ev : ((σ 16) (((3 : Int32) * x1)).toNatClampNeg) = (5 : Int32) := ej
      replace h := h.2.2.2.2.2 ev
      refine v_tableIn 30 98 hF dX7_carryOut_30 (by rw [ev]; decide) (by rw [ev]; decide) (off := 68) (by rw [ev]; decide) (by decide) ?_
      refine v_aload_n 98 hF dX7_carryOut_98 rfl 0 rfl ?_
      refine v_iload_n 99 hF dX7_carryOut_99 rfl 2 rfl ?_
      refine v_iload_n 100 hF dX7_carryOut_100 rfl 3 rfl ?_
      refine v_callVi (As := [.int y8, .int y10]) 101 hF (c_X7_doLay l D a σ y8 y10 _ h) (List.Perm.refl _) ⟨0, 10, _, TX7, 18, rfl, rfl⟩ q2027 q2029 qs38 q82 q2030 ds_X7_doLay ⟨rfl, rfl, Nat.le_of_ble_eq_true rfl, Nat.le_of_ble_eq_true rfl⟩ (Nat.le_of_ble_eq_true rfl) ⟨Nat.zero_le _, Nat.zero_le _⟩ dX7_carryOut_101 (fun r22 t23 h => ?_)
      refine v_istore [(0, .ref (a 0)), (1, .int x1), (2, .int y8), (3, .int y10), (4, .int r22)] [1, 2, 3, 4, 0] 104 hF dX7_carryOut_104 (Nat.le_of_ble_eq_true rfl) rfl ?_
      refine v_goto 106 144 hF dX7_carryOut_106 (by decide) ?_
      exact v_vretA 144 hF hR (Nat.zero_le _) (Nat.zero_le _) dX7_carryOut_144 h
def w_X7_day (σ : Nat → Nat → Int32) (Q : Int32 → (Nat → Nat → Int32) → Prop) : Prop :=
  ∀ t1 : Nat → Nat → Int32, t1 = (upN σ 20 7 (0 : Int32)) → w_X7_keep t1  (fun t2 => w_X7_goBy t2  (fun r3 t4 => w_X7_ends t4 r3 (fun r5 t6 => Q r5 t6)))
theorem ds_X7_day : yX7_day.cls = yX7_day.cls ∧ yX7_day.cls ≠ "java/lang/invoke/MethodHandle" ∧ yX7_day.cls ≠ "java/lang/invoke/VarHandle" ∧ (parseMethodDescriptor yX7_day.desc).map (fun d => d.parameters.length) = some 0 := by decide +kernel
set_option maxHeartbeats 4000000 in
theorem c_X7_day (l : Launch) (D : va_G) (a : Nat → Nat) (σ : Nat → Nat → Int32) (Q : Int32 → (Nat → Nat → Int32) → Prop) (h : w_X7_day σ Q) : Cti l D yX7_day cX7_day 1 .int (rmk 6 0 0 133) [.ref (a 0)] (moW D a σ) (moW D a) Q 0 0 := by
  refine Cti.of (by decide) (Nat.le_of_ble_eq_true rfl) (fun x hF hR => ?_)
  replace hF : vF x l D "BrookWeirsModel" cX7_day (rmk 6 0 0 133) 1 (some .int) := hF
  refine v_app0 ?_
  unfold w_X7_day at h
  refine v_aload_n 0 hF dX7_day_0 rfl 0 rfl ?_
  refine v_iconst (v := 0) 1 hF dX7_day_1 (by decide) ?_
  refine M_put7 2 hF q1911 dX7_day_2 (fun t1 et1 => ?_)
  replace h := h t1 et1
  refine v_aload_n 5 hF dX7_day_5 rfl 0 rfl ?_
  refine v_callVv (As := []) 6 hF (c_X7_keep l D a t1 _ h) (List.Perm.refl _) ⟨0, 10, _, TX7, 18, rfl, rfl⟩ q1975 q1977 qs31 q82 q1978 ds_X7_keep ⟨rfl, rfl, Nat.le_of_ble_eq_true rfl, Nat.le_of_ble_eq_true rfl⟩ (Nat.le_of_ble_eq_true rfl) ⟨Nat.zero_le _, Nat.zero_le _⟩ dX7_day_6 (fun t2 h => ?_)
  refine v_aload_n 9 hF dX7_day_9 rfl 0 rfl ?_
  refine v_aload_n 10 hF dX7_day_10 rfl 0 rfl ?_
  refine v_callVi (As := []) 11 hF (c_X7_goBy l D a t2 _ h) (List.Perm.refl _) ⟨0, 10, _, TX7, 18, rfl, rfl⟩ q2079 q2081 qs44 q82 q2082 ds_X7_goBy ⟨rfl, rfl, Nat.le_of_ble_eq_true rfl, Nat.le_of_ble_eq_true rfl⟩ (Nat.le_of_ble_eq_true rfl) ⟨Nat.zero_le _, Nat.zero_le _⟩ dX7_day_11 (fun r3 t4 h => ?_)
  refine v_callVi (As := [.int r3]) 14 hF (c_X7_ends l D a t4 r3 _ h) (List.Perm.refl _) ⟨0, 10, _, TX7, 18, rfl, rfl⟩ q1983 q1985 qs32 q82 q1986 ds_X7_ends ⟨rfl, rfl, Nat.le_of_ble_eq_true rfl, Nat.le_of_ble_eq_true rfl⟩ (Nat.le_of_ble_eq_true rfl) ⟨Nat.zero_le _, Nat.zero_le _⟩ dX7_day_14 (fun r5 t6 h => ?_)
  exact v_iretA 17 hF hR (Nat.zero_le _) (Nat.zero_le _) dX7_day_17 h
def w_X7_bestOf_L16 (Q : Int32 → (Nat → Nat → Int32) → Prop) (K16 : (Nat → Nat → Int32) → Int32 → Int32 → Int32 → Int32 → Prop) (σ : Nat → Nat → Int32) (x1 x2 x3 x4 : Int32) : Prop :=
  vp_in ((0 : Int32)) 156 ∧ ((((1 : Int32) <<< (((σ 0) ((0 : Int32)).toNatClampNeg) &&& 31)) ≤ x4 → Q x3 σ) ∧ (¬ ((1 : Int32) <<< (((σ 0) ((0 : Int32)).toNatClampNeg) &&& 31)) ≤ x4 → w_X7_worthOf σ x1 x2 x4 (fun r3 t4 => (((t4 20 10) < r3 → ∀ t6 : Nat → Nat → Int32, t6 = (upN t4 20 10 r3) → ∀ y7 : Int32, y7 = x4 + (1 : Int32) → K16 t6 x1 x2 x4 y7) ∧ (¬ (t4 20 10) < r3 → ((¬ r3 = (t4 20 10) → ∀ y9 : Int32, y9 = x4 + (1 : Int32) → K16 t4 x1 x2 x3 y9) ∧ (r3 = (t4 20 10) → w_J20_bitCount x4 (fun r10 => w_J20_bitCount x3 (fun r11 => ((r11 ≤ r10 → ∀ y13 : Int32, y13 = x4 + (1 : Int32) → K16 t4 x1 x2 x3 y13) ∧ (¬ r11 ≤ r10 → ∀ t14 : Nat → Nat → Int32, t14 = (upN t4 20 10 r3) → ∀ y15 : Int32, y15 = x4 + (1 : Int32) → K16 t14 x1 x2 x4 y15)))))))))))
def w_X7_bestOf (σ : Nat → Nat → Int32) (x1 x2 : Int32) (Q : Int32 → (Nat → Nat → Int32) → Prop) : Prop :=
  w_X7_worthOf σ x1 x2 ((0 : Int32)) (fun r16 t17 => ∀ t18 : Nat → Nat → Int32, t18 = (upN t17 20 10 r16) → wLoop (fun K s => w_X7_bestOf_L16 Q (fun v0 v1 v2 v3 v4 => K (v0, v1, v2, v3, v4)) s.1 s.2.1 s.2.2.1 s.2.2.2.1 s.2.2.2.2) (t18, x1, x2, (0 : Int32), (1 : Int32)))
set_option maxHeartbeats 4000000 in
theorem k_X7_bestOf_L16 {x : vC} {l : Launch} {D : va_G} {a : Nat → Nat}  {Q : Int32 → (Nat → Nat → Int32) → Prop} (hF : vF x l D "BrookWeirsModel" cX7_bestOf (rmk 7 0 0 159) 6 (some .int)) (hR : vRi x (moW D a) Q 0 0) {K16 : (Nat → Nat → Int32) → Int32 → Int32 → Int32 → Int32 → Prop} (hK16 : ∀ (σ : Nat → Nat → Int32) (x1 x2 x3 x4 : Int32), K16 σ x1 x2 x3 x4 → vV x 0 0 (moW D a σ ++ []) [(0, .ref (a 0)), (1, .int x1), (2, .int x2), (3, .int x3), (4, .int x4)] 16 []) : ∀ (σ : Nat → Nat → Int32) (x1 x2 x3 x4 : Int32), w_X7_bestOf_L16 Q K16 σ x1 x2 x3 x4 → vV x 0 0 (moW D a σ ++ []) [(0, .ref (a 0)), (1, .int x1), (2, .int x2), (3, .int x3), (4, .int x4)] 16 [] := by
  intro σ x1 x2 x3 x4 h
  unfold w_X7_bestOf_L16 at h
  refine v_iload 16 hF dX7_bestOf_16 4 rfl ?_
  refine v_iconst (v := 1) 18 hF dX7_bestOf_18 (by decide) ?_
  refine v_aload_n 19 hF dX7_bestOf_19 rfl 0 rfl ?_
  refine M_get 20 0 hF (Nat.le_of_ble_eq_true rfl) q1904 rfl rfl dX7_bestOf_20 ?_
  refine v_iconst (v := 0) 23 hF dX7_bestOf_23 (by decide) ?_
  obtain ⟨o1, h⟩ := h
  refine M_ald0 24 hF o1 dX7_bestOf_24 ?_
  refine v_ishl 25 hF dX7_bestOf_25 ?_
  refine v_icmp_ge 26 84 hF dX7_bestOf_26 (by decide) (fun c2 => ?_) (fun c2 => ?_)
  · replace h := h.1 c2
    refine v_iload_n 84 hF dX7_bestOf_84 rfl 3 rfl ?_
    exact v_iretA 85 hF hR (Nat.zero_le _) (Nat.zero_le _) dX7_bestOf_85 h
  · replace h := h.2 c2
    refine v_aload_n 29 hF dX7_bestOf_29 rfl 0 rfl ?_
    refine v_iload_n 30 hF dX7_bestOf_30 rfl 1 rfl ?_
    refine v_iload_n 31 hF dX7_bestOf_31 rfl 2 rfl ?_
    refine v_iload 32 hF dX7_bestOf_32 4 rfl ?_
    refine v_callVi (As := [.int x1, .int x2, .int x4]) 34 hF (c_X7_worthOf l D a σ x1 x2 x4 _ h) (List.Perm.refl _) ⟨0, 10, _, TX7, 18, rfl, rfl⟩ q2143 q2145 qs56 q82 q2146 ds_X7_worthOf ⟨rfl, rfl, Nat.le_of_ble_eq_true rfl, Nat.le_of_ble_eq_true rfl⟩ (Nat.le_of_ble_eq_true rfl) ⟨Nat.zero_le _, Nat.zero_le _⟩ dX7_bestOf_34 (fun r3 t4 h => ?_)
    refine v_istore [(0, .ref (a 0)), (1, .int x1), (2, .int x2), (3, .int x3), (4, .int x4), (5, .int r3)] [1, 2, 3, 4, 5, 0] 37 hF dX7_bestOf_37 (Nat.le_of_ble_eq_true rfl) rfl ?_
    refine v_iload 39 hF dX7_bestOf_39 5 rfl ?_
    refine v_aload_n 41 hF dX7_bestOf_41 rfl 0 rfl ?_
    refine M_get 42 10 hF (Nat.le_of_ble_eq_true rfl) q1914 rfl rfl dX7_bestOf_42 ?_
    refine v_icmp_gt 45 69 hF dX7_bestOf_45 (by decide) (fun c5 => ?_) (fun c5 => ?_)
    · replace h := h.1 c5
      refine v_iload 69 hF dX7_bestOf_69 4 rfl ?_
      refine v_istore_n [(0, .ref (a 0)), (1, .int x1), (2, .int x2), (3, .int x4), (4, .int x4), (5, .int r3)] [1, 2, 3, 0, 4, 5] 71 hF dX7_bestOf_71 rfl (Nat.le_of_ble_eq_true rfl) rfl ?_
      refine v_aload_n 72 hF dX7_bestOf_72 rfl 0 rfl ?_
      refine v_iload 73 hF dX7_bestOf_73 5 rfl ?_
      refine M_put10 75 hF q1914 dX7_bestOf_75 (fun t6 et6 => ?_)
      replace h := h t6 et6
      obtain ⟨y7, ey7⟩ : ∃ y : Int32, y = x4 + (1 : Int32) := ⟨_, rfl⟩
      replace h := h y7 ey7
      refine v_iinc [(0, .ref (a 0)), (1, .int x1), (2, .int x2), (3, .int x4), (4, .int y7), (5, .int r3)] [1, 2, 3, 4, 0, 5] 78 hF dX7_bestOf_78 4 rfl (by rw [ey7]; rfl) (Nat.le_of_ble_eq_true rfl) rfl ?_
      refine v_goto 81 16 hF dX7_bestOf_81 (by decide) ?_
      refine v_sub [(0, .ref (a 0)), (1, .int x1), (2, .int x2), (3, .int x4), (4, .int y7)] [0, 1, 2, 3, 4] rfl ?_
      exact hK16 _ _ _ _ _ h
    · replace h := h.2 c5
      refine v_iload 48 hF dX7_bestOf_48 5 rfl ?_
      refine v_aload_n 50 hF dX7_bestOf_50 rfl 0 rfl ?_
      refine M_get 51 10 hF (Nat.le_of_ble_eq_true rfl) q1914 rfl rfl dX7_bestOf_51 ?_
      refine v_icmp_ne 54 78 hF dX7_bestOf_54 (by decide) (fun c8 => ?_) (fun c8 => ?_)
      · replace h := h.1 c8
        obtain ⟨y9, ey9⟩ : ∃ y : Int32, y = x4 + (1 : Int32) := ⟨_, rfl⟩
        replace h := h y9 ey9
        refine v_iinc [(0, .ref (a 0)), (1, .int x1), (2, .int x2), (3, .int x3), (4, .int y9), (5, .int r3)] [1, 2, 3, 4, 0, 5] 78 hF dX7_bestOf_78 4 rfl (by rw [ey9]; rfl) (Nat.le_of_ble_eq_true rfl) rfl ?_
        refine v_goto 81 16 hF dX7_bestOf_81 (by decide) ?_
        refine v_sub [(0, .ref (a 0)), (1, .int x1), (2, .int x2), (3, .int x3), (4, .int y9)] [0, 1, 2, 3, 4] rfl ?_
        exact hK16 _ _ _ _ _ h
      · replace h := h.2 c8
        refine v_iload 57 hF dX7_bestOf_57 4 rfl ?_
        refine v_callS0i (As := [.int x4]) 59 hF (c_J20_bitCount l D x4 _ h) q2155 q478 q101 q479 ds_J20_bitCount ⟨rfl, rfl, Nat.le_of_ble_eq_true rfl, Nat.le_of_ble_eq_true rfl⟩ (Nat.le_of_ble_eq_true rfl) ⟨Nat.zero_le _, Nat.zero_le _⟩ dX7_bestOf_59 (fun r10 h => ?_)
        refine v_iload_n 62 hF dX7_bestOf_62 rfl 3 rfl ?_
        refine v_callS0i (As := [.int x3]) 63 hF (c_J20_bitCount l D x3 _ h) q2155 q478 q101 q479 ds_J20_bitCount ⟨rfl, rfl, Nat.le_of_ble_eq_true rfl, Nat.le_of_ble_eq_true rfl⟩ (Nat.le_of_ble_eq_true rfl) ⟨Nat.zero_le _, Nat.zero_le _⟩ dX7_bestOf_63 (fun r11 h => ?_)
        refine v_icmp_ge 66 78 hF dX7_bestOf_66 (by decide) (fun c12 => ?_) (fun c12 => ?_)
        · replace h := h.1 c12
          obtain ⟨y13, ey13⟩ : ∃ y : Int32, y = x4 + (1 : Int32) := ⟨_, rfl⟩
          replace h := h y13 ey13
          refine v_iinc [(0, .ref (a 0)), (1, .int x1), (2, .int x2), (3, .int x3), (4, .int y13), (5, .int r3)] [1, 2, 3, 4, 0, 5] 78 hF dX7_bestOf_78 4 rfl (by rw [ey13]; rfl) (Nat.le_of_ble_eq_true rfl) rfl ?_
          refine v_goto 81 16 hF dX7_bestOf_81 (by decide) ?_
          refine v_sub [(0, .ref (a 0)), (1, .int x1), (2, .int x2), (3, .int x3), (4, .int y13)] [0, 1, 2, 3, 4] rfl ?_
          exact hK16 _ _ _ _ _ h
        · replace h := h.2 c12
          refine v_iload 69 hF dX7_bestOf_69 4 rfl ?_
          refine v_istore_n [(0, .ref (a 0)), (1, .int x1), (2, .int x2), (3, .int x4), (4, .int x4), (5, .int r3)] [1, 2, 3, 0, 4, 5] 71 hF dX7_bestOf_71 rfl (Nat.le_of_ble_eq_true rfl) rfl ?_
          refine v_aload_n 72 hF dX7_bestOf_72 rfl 0 rfl ?_
          refine v_iload 73 hF dX7_bestOf_73 5 rfl ?_
          refine M_put10 75 hF q1914 dX7_bestOf_75 (fun t14 et14 => ?_)
          replace h := h t14 et14
          obtain ⟨y15, ey15⟩ : ∃ y : Int32, y = x4 + (1 : Int32) := ⟨_, rfl⟩
          replace h := h y15 ey15
          refine v_iinc [(0, .ref (a 0)), (1, .int x1), (2, .int x2), (3, .int x4), (4, .int y15), (5, .int r3)] [1, 2, 3, 4, 0, 5] 78 hF dX7_bestOf_78 4 rfl (by rw [ey15]; rfl) (Nat.le_of_ble_eq_true rfl) rfl ?_
          refine v_goto 81 16 hF dX7_bestOf_81 (by decide) ?_
          refine v_sub [(0, .ref (a 0)), (1, .int x1), (2, .int x2), (3, .int x4), (4, .int y15)] [0, 1, 2, 3, 4] rfl ?_
          exact hK16 _ _ _ _ _ h
theorem ds_X7_bestOf : yX7_bestOf.cls = yX7_bestOf.cls ∧ yX7_bestOf.cls ≠ "java/lang/invoke/MethodHandle" ∧ yX7_bestOf.cls ≠ "java/lang/invoke/VarHandle" ∧ (parseMethodDescriptor yX7_bestOf.desc).map (fun d => d.parameters.length) = some 2 := by decide +kernel
set_option maxHeartbeats 4000000 in
theorem c_X7_bestOf (l : Launch) (D : va_G) (a : Nat → Nat) (σ : Nat → Nat → Int32) (x1 x2 : Int32) (Q : Int32 → (Nat → Nat → Int32) → Prop) (h : w_X7_bestOf σ x1 x2 Q) : Cti l D yX7_bestOf cX7_bestOf 6 .int (rmk 7 0 0 159) [.ref (a 0), .int x1, .int x2] (moW D a σ) (moW D a) Q 0 0 := by
  refine Cti.of (by decide) (Nat.le_of_ble_eq_true rfl) (fun x hF hR => ?_)
  replace hF : vF x l D "BrookWeirsModel" cX7_bestOf (rmk 7 0 0 159) 6 (some .int) := hF
  refine v_app0 ?_
  unfold w_X7_bestOf at h
  refine v_iconst (v := 0) 0 hF dX7_bestOf_0 (by decide) ?_
  refine v_istore_n [(0, .ref (a 0)), (1, .int x1), (2, .int x2), (3, .int ((0 : Int32)))] [1, 2, 3, 0] 1 hF dX7_bestOf_1 rfl (Nat.le_of_ble_eq_true rfl) rfl ?_
  refine v_aload_n 2 hF dX7_bestOf_2 rfl 0 rfl ?_
  refine v_aload_n 3 hF dX7_bestOf_3 rfl 0 rfl ?_
  refine v_iload_n 4 hF dX7_bestOf_4 rfl 1 rfl ?_
  refine v_iload_n 5 hF dX7_bestOf_5 rfl 2 rfl ?_
  refine v_iconst (v := 0) 6 hF dX7_bestOf_6 (by decide) ?_
  refine v_callVi (As := [.int x1, .int x2, .int ((0 : Int32))]) 7 hF (c_X7_worthOf l D a σ x1 x2 ((0 : Int32)) _ h) (List.Perm.refl _) ⟨0, 10, _, TX7, 18, rfl, rfl⟩ q2143 q2145 qs56 q82 q2146 ds_X7_worthOf ⟨rfl, rfl, Nat.le_of_ble_eq_true rfl, Nat.le_of_ble_eq_true rfl⟩ (Nat.le_of_ble_eq_true rfl) ⟨Nat.zero_le _, Nat.zero_le _⟩ dX7_bestOf_7 (fun r16 t17 h => ?_)
  refine M_put10 10 hF q1914 dX7_bestOf_10 (fun t18 et18 => ?_)
  replace h := h t18 et18
  refine v_iconst (v := 1) 13 hF dX7_bestOf_13 (by decide) ?_
  refine v_istore [(0, .ref (a 0)), (1, .int x1), (2, .int x2), (3, .int ((0 : Int32))), (4, .int ((1 : Int32)))] [1, 2, 3, 4, 0] 14 hF dX7_bestOf_14 (Nat.le_of_ble_eq_true rfl) rfl ?_
  exact vLoop (V := fun s => vV x 0 0 (moW D a s.1 ++ []) [(0, .ref (a 0)), (1, .int s.2.1), (2, .int s.2.2.1), (3, .int s.2.2.2.1), (4, .int s.2.2.2.2)] 16 []) (fun K hK s hs => k_X7_bestOf_L16 hF hR (fun v0 v1 v2 v3 v4 q => hK (v0, v1, v2, v3, v4) q) s.1 s.2.1 s.2.2.1 s.2.2.2.1 s.2.2.2.2 hs) _ h
def w_X7_chooses (σ : Nat → Nat → Int32) (x1 x2 : Int32) (Q : Int32 → (Nat → Nat → Int32) → Prop) : Prop :=
  w_X7_latches σ x1 (fun r1 t2 => w_X7_bestOf t2 x1 x2 (fun r3 t4 => w_X7_setLatches t4 x1 r3 (fun t5 => w_J20_bitCount ((r1 ^^^ r3)) (fun r6 => Q r6 t5))))
theorem ds_X7_chooses : yX7_chooses.cls = yX7_chooses.cls ∧ yX7_chooses.cls ≠ "java/lang/invoke/MethodHandle" ∧ yX7_chooses.cls ≠ "java/lang/invoke/VarHandle" ∧ (parseMethodDescriptor yX7_chooses.desc).map (fun d => d.parameters.length) = some 2 := by decide +kernel
set_option maxHeartbeats 4000000 in
theorem c_X7_chooses (l : Launch) (D : va_G) (a : Nat → Nat) (σ : Nat → Nat → Int32) (x1 x2 : Int32) (Q : Int32 → (Nat → Nat → Int32) → Prop) (h : w_X7_chooses σ x1 x2 Q) : Cti l D yX7_chooses cX7_chooses 5 .int (rmk 8 0 0 184) [.ref (a 0), .int x1, .int x2] (moW D a σ) (moW D a) Q 0 0 := by
  refine Cti.of (by decide) (Nat.le_of_ble_eq_true rfl) (fun x hF hR => ?_)
  replace hF : vF x l D "BrookWeirsModel" cX7_chooses (rmk 8 0 0 184) 5 (some .int) := hF
  refine v_app0 ?_
  unfold w_X7_chooses at h
  refine v_aload_n 0 hF dX7_chooses_0 rfl 0 rfl ?_
  refine v_iload_n 1 hF dX7_chooses_1 rfl 1 rfl ?_
  refine v_callVi (As := [.int x1]) 2 hF (c_X7_latches l D a σ x1 _ h) (List.Perm.refl _) ⟨0, 10, _, TX7, 18, rfl, rfl⟩ q2168 q2170 qs60 q82 q2171 ds_X7_latches ⟨rfl, rfl, Nat.le_of_ble_eq_true rfl, Nat.le_of_ble_eq_true rfl⟩ (Nat.le_of_ble_eq_true rfl) ⟨Nat.zero_le _, Nat.zero_le _⟩ dX7_chooses_2 (fun r1 t2 h => ?_)
  refine v_istore_n [(0, .ref (a 0)), (1, .int x1), (2, .int x2), (3, .int r1)] [1, 2, 3, 0] 5 hF dX7_chooses_5 rfl (Nat.le_of_ble_eq_true rfl) rfl ?_
  refine v_aload_n 6 hF dX7_chooses_6 rfl 0 rfl ?_
  refine v_iload_n 7 hF dX7_chooses_7 rfl 1 rfl ?_
  refine v_iload_n 8 hF dX7_chooses_8 rfl 2 rfl ?_
  refine v_callVi (As := [.int x1, .int x2]) 9 hF (c_X7_bestOf l D a t2 x1 x2 _ h) (List.Perm.refl _) ⟨0, 10, _, TX7, 18, rfl, rfl⟩ q2139 q2141 qs55 q82 q2142 ds_X7_bestOf ⟨rfl, rfl, Nat.le_of_ble_eq_true rfl, Nat.le_of_ble_eq_true rfl⟩ (Nat.le_of_ble_eq_true rfl) ⟨Nat.zero_le _, Nat.zero_le _⟩ dX7_chooses_9 (fun r3 t4 h => ?_)
  refine v_istore [(0, .ref (a 0)), (1, .int x1), (2, .int x2), (3, .int r1), (4, .int r3)] [1, 2, 3, 4, 0] 12 hF dX7_chooses_12 (Nat.le_of_ble_eq_true rfl) rfl ?_
  refine v_aload_n 14 hF dX7_chooses_14 rfl 0 rfl ?_
  refine v_iload_n 15 hF dX7_chooses_15 rfl 1 rfl ?_
  refine v_iload 16 hF dX7_chooses_16 4 rfl ?_
  refine v_callVv (As := [.int x1, .int r3]) 18 hF (c_X7_setLatches l D a t4 x1 r3 _ h) (List.Perm.refl _) ⟨0, 10, _, TX7, 18, rfl, rfl⟩ q2147 q2149 qs57 q82 q2150 ds_X7_setLatches ⟨rfl, rfl, Nat.le_of_ble_eq_true rfl, Nat.le_of_ble_eq_true rfl⟩ (Nat.le_of_ble_eq_true rfl) ⟨Nat.zero_le _, Nat.zero_le _⟩ dX7_chooses_18 (fun t5 h => ?_)
  refine v_iload_n 21 hF dX7_chooses_21 rfl 3 rfl ?_
  refine v_iload 22 hF dX7_chooses_22 4 rfl ?_
  refine v_ixor 24 hF dX7_chooses_24 ?_
  refine v_callS0i (As := [.int ((r1 ^^^ r3))]) 25 hF (c_J20_bitCount l D ((r1 ^^^ r3)) _ h) q2155 q478 q101 q479 ds_J20_bitCount ⟨rfl, rfl, Nat.le_of_ble_eq_true rfl, Nat.le_of_ble_eq_true rfl⟩ (Nat.le_of_ble_eq_true rfl) ⟨Nat.zero_le _, Nat.zero_le _⟩ dX7_chooses_25 (fun r6 h => ?_)
  exact v_iretA 28 hF hR (Nat.zero_le _) (Nat.zero_le _) dX7_chooses_28 h
def w_X7_rest_J81 (Q : Int32 → (Nat → Nat → Int32) → Prop)  (σ : Nat → Nat → Int32) (x1 x2 x3 : Int32) : Prop :=
  ((x3 = 0 → ∀ t2 : Nat → Nat → Int32, t2 = (upN σ 20 7 (2 : Int32)) → w_X7_ends t2 x2 (fun r3 t4 => Q r3 t4)) ∧ (¬ x3 = 0 → ∀ t5 : Nat → Nat → Int32, t5 = (upN σ 20 7 (0 : Int32)) → w_X7_ends t5 x2 (fun r6 t7 => Q r6 t7)))
def w_X7_rest_L35 (Q : Int32 → (Nat → Nat → Int32) → Prop) (K35 : (Nat → Nat → Int32) → Int32 → Int32 → Int32 → Prop) (σ : Nat → Nat → Int32) (x1 x2 x3 : Int32) : Prop :=
  (((10 : Int32) ≤ x2 → w_X7_rest_J81 Q σ x1 x2 x3) ∧ (¬ (10 : Int32) ≤ x2 → ((¬ x3 = 0 → w_X7_rest_J81 Q σ x1 x2 x3) ∧ (x3 = 0 → w_X7_chooses σ ((1 : Int32)) x1 (fun r10 t11 => w_X7_chooses t11 ((0 : Int32)) x1 (fun r12 t13 => ((¬ (r10 + r12) = 0 → ∀ y15 : Int32, y15 = x2 + (1 : Int32) → K35 t13 x1 y15 ((0 : Int32))) ∧ ((r10 + r12) = 0 → ∀ y16 : Int32, y16 = x2 + (1 : Int32) → K35 t13 x1 y16 ((1 : Int32))))))))))
def w_X7_rest_J15 (Q : Int32 → (Nat → Nat → Int32) → Prop)  (σ : Nat → Nat → Int32) (x1 s1 : Int32) : Prop :=
  ∀ t17 : Nat → Nat → Int32, t17 = (upN σ 20 7 s1) → (((t17 20 7) ≤ 0 → w_X7_keep t17  (fun t19 => wLoop (fun K s => w_X7_rest_L35 Q (fun v0 v1 v2 v3 => K (v0, v1, v2, v3)) s.1 s.2.1 s.2.2.1 s.2.2.2) (t19, x1, (0 : Int32), (0 : Int32)))) ∧ (¬ (t17 20 7) ≤ 0 → Q ((0 : Int32)) t17))
def w_X7_rest (σ : Nat → Nat → Int32) (x1 : Int32) (Q : Int32 → (Nat → Nat → Int32) → Prop) : Prop :=
  w_X7_in x1 ((1 : Int32)) ((5 : Int32)) (fun r20 => ((r20 = 0 → w_X7_rest_J15 Q σ x1 ((1 : Int32))) ∧ (¬ r20 = 0 → w_X7_rest_J15 Q σ x1 ((0 : Int32)))))
set_option maxHeartbeats 4000000 in
theorem k_X7_rest_J81 {x : vC} {l : Launch} {D : va_G} {a : Nat → Nat}  {Q : Int32 → (Nat → Nat → Int32) → Prop} (hF : vF x l D "BrookWeirsModel" cX7_rest (rmk 9 0 0 208) 6 (some .int)) (hR : vRi x (moW D a) Q 0 0)   : ∀ (σ : Nat → Nat → Int32) (x1 x2 x3 : Int32), w_X7_rest_J81 Q  σ x1 x2 x3 → vV x 0 0 (moW D a σ ++ []) [(0, .ref (a 0)), (1, .int x1), (2, .int x2), (3, .int x3)] 81 [] := by
  intro σ x1 x2 x3 h
  unfold w_X7_rest_J81 at h
  refine v_aload_n 81 hF dX7_rest_81 rfl 0 rfl ?_
  refine v_iload_n 82 hF dX7_rest_82 rfl 3 rfl ?_
  refine v_if_eq 83 90 hF dX7_rest_83 (by decide) (fun c1 => ?_) (fun c1 => ?_)
  · replace h := h.1 c1
    refine v_iconst (v := 2) 90 hF dX7_rest_90 (by decide) ?_
    refine M_put7 91 hF q1911 dX7_rest_91 (fun t2 et2 => ?_)
    replace h := h t2 et2
    refine v_aload_n 94 hF dX7_rest_94 rfl 0 rfl ?_
    refine v_iload_n 95 hF dX7_rest_95 rfl 2 rfl ?_
    refine v_callVi (As := [.int x2]) 96 hF (c_X7_ends l D a t2 x2 _ h) (List.Perm.refl _) ⟨0, 10, _, TX7, 18, rfl, rfl⟩ q1983 q1985 qs32 q82 q1986 ds_X7_ends ⟨rfl, rfl, Nat.le_of_ble_eq_true rfl, Nat.le_of_ble_eq_true rfl⟩ (Nat.le_of_ble_eq_true rfl) ⟨Nat.zero_le _, Nat.zero_le _⟩ dX7_rest_96 (fun r3 t4 h => ?_)
    exact v_iretA 99 hF hR (Nat.zero_le _) (Nat.zero_le _) dX7_rest_99 h
  · replace h := h.2 c1
    refine v_iconst (v := 0) 86 hF dX7_rest_86 (by decide) ?_
    refine v_goto 87 91 hF dX7_rest_87 (by decide) ?_
    refine M_put7 91 hF q1911 dX7_rest_91 (fun t5 et5 => ?_)
    replace h := h t5 et5
    refine v_aload_n 94 hF dX7_rest_94 rfl 0 rfl ?_
    refine v_iload_n 95 hF dX7_rest_95 rfl 2 rfl ?_
    refine v_callVi (As := [.int x2]) 96 hF (c_X7_ends l D a t5 x2 _ h) (List.Perm.refl _) ⟨0, 10, _, TX7, 18, rfl, rfl⟩ q1983 q1985 qs32 q82 q1986 ds_X7_ends ⟨rfl, rfl, Nat.le_of_ble_eq_true rfl, Nat.le_of_ble_eq_true rfl⟩ (Nat.le_of_ble_eq_true rfl) ⟨Nat.zero_le _, Nat.zero_le _⟩ dX7_rest_96 (fun r6 t7 h => ?_)
    exact v_iretA 99 hF hR (Nat.zero_le _) (Nat.zero_le _) dX7_rest_99 h
set_option maxHeartbeats 4000000 in
theorem k_X7_rest_L35 {x : vC} {l : Launch} {D : va_G} {a : Nat → Nat}  {Q : Int32 → (Nat → Nat → Int32) → Prop} (hF : vF x l D "BrookWeirsModel" cX7_rest (rmk 9 0 0 208) 6 (some .int)) (hR : vRi x (moW D a) Q 0 0) {K35 : (Nat → Nat → Int32) → Int32 → Int32 → Int32 → Prop} (hK35 : ∀ (σ : Nat → Nat → Int32) (x1 x2 x3 : Int32), K35 σ x1 x2 x3 → vV x 0 0 (moW D a σ ++ []) [(0, .ref (a 0)), (1, .int x1), (2, .int x2), (3, .int x3)] 35 []) : ∀ (σ : Nat → Nat → Int32) (x1 x2 x3 : Int32), w_X7_rest_L35 Q K35 σ x1 x2 x3 → vV x 0 0 (moW D a σ ++ []) [(0, .ref (a 0)), (1, .int x1), (2, .int x2), (3, .int x3)] 35 [] := by
  intro σ x1 x2 x3 h
  unfold w_X7_rest_L35 at h
  refine v_iload_n 35 hF dX7_rest_35 rfl 2 rfl ?_
  refine v_bipush (v := 10) 36 hF dX7_rest_36 (by decide) ?_
  refine v_icmp_ge 38 81 hF dX7_rest_38 (by decide) (fun c8 => ?_) (fun c8 => ?_)
  · replace h := h.1 c8
    exact k_X7_rest_J81 hF hR _ _ _ _ h
  · replace h := h.2 c8
    refine v_iload_n 41 hF dX7_rest_41 rfl 3 rfl ?_
    refine v_if_ne 42 81 hF dX7_rest_42 (by decide) (fun c9 => ?_) (fun c9 => ?_)
    · replace h := h.1 c9
      exact k_X7_rest_J81 hF hR _ _ _ _ h
    · replace h := h.2 c9
      refine v_aload_n 45 hF dX7_rest_45 rfl 0 rfl ?_
      refine v_iconst (v := 1) 46 hF dX7_rest_46 (by decide) ?_
      refine v_iload_n 47 hF dX7_rest_47 rfl 1 rfl ?_
      refine v_callVi (As := [.int ((1 : Int32)), .int x1]) 48 hF (c_X7_chooses l D a σ ((1 : Int32)) x1 _ h) (List.Perm.refl _) ⟨0, 10, _, TX7, 18, rfl, rfl⟩ q2164 q2166 qs59 q82 q2167 ds_X7_chooses ⟨rfl, rfl, Nat.le_of_ble_eq_true rfl, Nat.le_of_ble_eq_true rfl⟩ (Nat.le_of_ble_eq_true rfl) ⟨Nat.zero_le _, Nat.zero_le _⟩ dX7_rest_48 (fun r10 t11 h => ?_)
      refine v_istore [(0, .ref (a 0)), (1, .int x1), (2, .int x2), (3, .int x3), (4, .int r10)] [1, 2, 3, 4, 0] 51 hF dX7_rest_51 (Nat.le_of_ble_eq_true rfl) rfl ?_
      refine v_aload_n 53 hF dX7_rest_53 rfl 0 rfl ?_
      refine v_iconst (v := 0) 54 hF dX7_rest_54 (by decide) ?_
      refine v_iload_n 55 hF dX7_rest_55 rfl 1 rfl ?_
      refine v_callVi (As := [.int ((0 : Int32)), .int x1]) 56 hF (c_X7_chooses l D a t11 ((0 : Int32)) x1 _ h) (List.Perm.refl _) ⟨0, 10, _, TX7, 18, rfl, rfl⟩ q2164 q2166 qs59 q82 q2167 ds_X7_chooses ⟨rfl, rfl, Nat.le_of_ble_eq_true rfl, Nat.le_of_ble_eq_true rfl⟩ (Nat.le_of_ble_eq_true rfl) ⟨Nat.zero_le _, Nat.zero_le _⟩ dX7_rest_56 (fun r12 t13 h => ?_)
      refine v_istore [(0, .ref (a 0)), (1, .int x1), (2, .int x2), (3, .int x3), (4, .int r10), (5, .int r12)] [1, 2, 3, 4, 5, 0] 59 hF dX7_rest_59 (Nat.le_of_ble_eq_true rfl) rfl ?_
      refine v_iload 61 hF dX7_rest_61 4 rfl ?_
      refine v_iload 63 hF dX7_rest_63 5 rfl ?_
      refine v_iadd 65 hF dX7_rest_65 ?_
      refine v_if_ne 66 73 hF dX7_rest_66 (by decide) (fun c14 => ?_) (fun c14 => ?_)
      · replace h := h.1 c14
        refine v_iconst (v := 0) 73 hF dX7_rest_73 (by decide) ?_
        refine v_istore_n [(0, .ref (a 0)), (1, .int x1), (2, .int x2), (3, .int ((0 : Int32))), (4, .int r10), (5, .int r12)] [1, 2, 3, 0, 4, 5] 74 hF dX7_rest_74 rfl (Nat.le_of_ble_eq_true rfl) rfl ?_
        obtain ⟨y15, ey15⟩ : ∃ y : Int32, y = x2 + (1 : Int32) := ⟨_, rfl⟩
        replace h := h y15 ey15
        refine v_iinc [(0, .ref (a 0)), (1, .int x1), (2, .int y15), (3, .int ((0 : Int32))), (4, .int r10), (5, .int r12)] [1, 2, 0, 3, 4, 5] 75 hF dX7_rest_75 2 rfl (by rw [ey15]; rfl) (Nat.le_of_ble_eq_true rfl) rfl ?_
        refine v_goto 78 35 hF dX7_rest_78 (by decide) ?_
        refine v_sub [(0, .ref (a 0)), (1, .int x1), (2, .int y15), (3, .int ((0 : Int32)))] [0, 1, 2, 3] rfl ?_
        exact hK35 _ _ _ _ h
      · replace h := h.2 c14
        refine v_iconst (v := 1) 69 hF dX7_rest_69 (by decide) ?_
        refine v_goto 70 74 hF dX7_rest_70 (by decide) ?_
        refine v_istore_n [(0, .ref (a 0)), (1, .int x1), (2, .int x2), (3, .int ((1 : Int32))), (4, .int r10), (5, .int r12)] [1, 2, 3, 0, 4, 5] 74 hF dX7_rest_74 rfl (Nat.le_of_ble_eq_true rfl) rfl ?_
        obtain ⟨y16, ey16⟩ : ∃ y : Int32, y = x2 + (1 : Int32) := ⟨_, rfl⟩
        replace h := h y16 ey16
        refine v_iinc [(0, .ref (a 0)), (1, .int x1), (2, .int y16), (3, .int ((1 : Int32))), (4, .int r10), (5, .int r12)] [1, 2, 0, 3, 4, 5] 75 hF dX7_rest_75 2 rfl (by rw [ey16]; rfl) (Nat.le_of_ble_eq_true rfl) rfl ?_
        refine v_goto 78 35 hF dX7_rest_78 (by decide) ?_
        refine v_sub [(0, .ref (a 0)), (1, .int x1), (2, .int y16), (3, .int ((1 : Int32)))] [0, 1, 2, 3] rfl ?_
        exact hK35 _ _ _ _ h
set_option maxHeartbeats 4000000 in
theorem k_X7_rest_J15 {x : vC} {l : Launch} {D : va_G} {a : Nat → Nat}  {Q : Int32 → (Nat → Nat → Int32) → Prop} (hF : vF x l D "BrookWeirsModel" cX7_rest (rmk 9 0 0 208) 6 (some .int)) (hR : vRi x (moW D a) Q 0 0)   : ∀ (σ : Nat → Nat → Int32) (x1 s1 : Int32), w_X7_rest_J15 Q  σ x1 s1 → vV x 0 0 (moW D a σ ++ []) [(0, .ref (a 0)), (1, .int x1)] 15 [.int s1, .ref (a 0)] := by
  intro σ x1 s1 h
  unfold w_X7_rest_J15 at h
  refine M_put7 15 hF q1911 dX7_rest_15 (fun t17 et17 => ?_)
  replace h := h t17 et17
  refine v_aload_n 18 hF dX7_rest_18 rfl 0 rfl ?_
  refine M_get 19 7 hF (Nat.le_of_ble_eq_true rfl) q1911 rfl rfl dX7_rest_19 ?_
  refine v_if_le 22 27 hF dX7_rest_22 (by decide) (fun c18 => ?_) (fun c18 => ?_)
  · replace h := h.1 c18
    refine v_aload_n 27 hF dX7_rest_27 rfl 0 rfl ?_
    refine v_callVv (As := []) 28 hF (c_X7_keep l D a t17 _ h) (List.Perm.refl _) ⟨0, 10, _, TX7, 18, rfl, rfl⟩ q1975 q1977 qs31 q82 q1978 ds_X7_keep ⟨rfl, rfl, Nat.le_of_ble_eq_true rfl, Nat.le_of_ble_eq_true rfl⟩ (Nat.le_of_ble_eq_true rfl) ⟨Nat.zero_le _, Nat.zero_le _⟩ dX7_rest_28 (fun t19 h => ?_)
    refine v_iconst (v := 0) 31 hF dX7_rest_31 (by decide) ?_
    refine v_istore_n [(0, .ref (a 0)), (1, .int x1), (2, .int ((0 : Int32)))] [1, 2, 0] 32 hF dX7_rest_32 rfl (Nat.le_of_ble_eq_true rfl) rfl ?_
    refine v_iconst (v := 0) 33 hF dX7_rest_33 (by decide) ?_
    refine v_istore_n [(0, .ref (a 0)), (1, .int x1), (2, .int ((0 : Int32))), (3, .int ((0 : Int32)))] [1, 2, 3, 0] 34 hF dX7_rest_34 rfl (Nat.le_of_ble_eq_true rfl) rfl ?_
    exact vLoop (V := fun s => vV x 0 0 (moW D a s.1 ++ []) [(0, .ref (a 0)), (1, .int s.2.1), (2, .int s.2.2.1), (3, .int s.2.2.2)] 35 []) (fun K hK s hs => k_X7_rest_L35 hF hR (fun v0 v1 v2 v3 q => hK (v0, v1, v2, v3) q) s.1 s.2.1 s.2.2.1 s.2.2.2 hs) _ h
  · replace h := h.2 c18
    refine v_iconst (v := 0) 25 hF dX7_rest_25 (by decide) ?_
    exact v_iretA 26 hF hR (Nat.zero_le _) (Nat.zero_le _) dX7_rest_26 h
theorem ds_X7_rest : yX7_rest.cls = yX7_rest.cls ∧ yX7_rest.cls ≠ "java/lang/invoke/MethodHandle" ∧ yX7_rest.cls ≠ "java/lang/invoke/VarHandle" ∧ (parseMethodDescriptor yX7_rest.desc).map (fun d => d.parameters.length) = some 1 := by decide +kernel
set_option maxHeartbeats 4000000 in
theorem c_X7_rest (l : Launch) (D : va_G) (a : Nat → Nat) (σ : Nat → Nat → Int32) (x1 : Int32) (Q : Int32 → (Nat → Nat → Int32) → Prop) (h : w_X7_rest σ x1 Q) : Cti l D yX7_rest cX7_rest 6 .int (rmk 9 0 0 208) [.ref (a 0), .int x1] (moW D a σ) (moW D a) Q 0 0 := by
  refine Cti.of (by decide) (Nat.le_of_ble_eq_true rfl) (fun x hF hR => ?_)
  replace hF : vF x l D "BrookWeirsModel" cX7_rest (rmk 9 0 0 208) 6 (some .int) := hF
  refine v_app0 ?_
  unfold w_X7_rest at h
  refine v_aload_n 0 hF dX7_rest_0 rfl 0 rfl ?_
  refine v_iload_n 1 hF dX7_rest_1 rfl 1 rfl ?_
  refine v_iconst (v := 1) 2 hF dX7_rest_2 (by decide) ?_
  refine v_iconst (v := 5) 3 hF dX7_rest_3 (by decide) ?_
  refine v_callS0i (As := [.int x1, .int ((1 : Int32)), .int ((5 : Int32))]) 4 hF (c_X7_in l D x1 ((1 : Int32)) ((5 : Int32)) _ h) q1968 q1969 q82 q1970 ds_X7_in ⟨rfl, rfl, Nat.le_of_ble_eq_true rfl, Nat.le_of_ble_eq_true rfl⟩ (Nat.le_of_ble_eq_true rfl) ⟨Nat.zero_le _, Nat.zero_le _⟩ dX7_rest_4 (fun r20 h => ?_)
  refine v_if_eq 7 14 hF dX7_rest_7 (by decide) (fun c21 => ?_) (fun c21 => ?_)
  · replace h := h.1 c21
    refine v_iconst (v := 1) 14 hF dX7_rest_14 (by decide) ?_
    exact k_X7_rest_J15 hF hR _ _ _ h
  · replace h := h.2 c21
    refine v_iconst (v := 0) 10 hF dX7_rest_10 (by decide) ?_
    refine v_goto 11 15 hF dX7_rest_11 (by decide) ?_
    exact k_X7_rest_J15 hF hR _ _ _ h
def w_X7_best_J15 (Q : Int32 → (Nat → Nat → Int32) → Prop)  (σ : Nat → Nat → Int32) (x1 x2 x3 s1 : Int32) : Prop :=
  ∀ t1 : Nat → Nat → Int32, t1 = (upN σ 20 7 s1) → (((t1 20 7) ≤ 0 → w_X7_bestOf t1 x1 x2 (fun r3 t4 => ((x3 = 0 → Q r3 t4) ∧ (¬ x3 = 0 → Q ((t4 20 10)) t4)))) ∧ (¬ (t1 20 7) ≤ 0 → Q ((0 : Int32)) t1))
def w_X7_best (σ : Nat → Nat → Int32) (x1 x2 x3 : Int32) (Q : Int32 → (Nat → Nat → Int32) → Prop) : Prop :=
  w_X7_in x2 ((1 : Int32)) ((5 : Int32)) (fun r6 => ((r6 = 0 → w_X7_best_J15 Q σ x1 x2 x3 ((1 : Int32))) ∧ (¬ r6 = 0 → w_X7_best_J15 Q σ x1 x2 x3 ((0 : Int32)))))
set_option maxHeartbeats 4000000 in
theorem k_X7_best_J15 {x : vC} {l : Launch} {D : va_G} {a : Nat → Nat}  {Q : Int32 → (Nat → Nat → Int32) → Prop} (hF : vF x l D "BrookWeirsModel" cX7_best (rmk 8 0 0 184) 5 (some .int)) (hR : vRi x (moW D a) Q 0 0)   : ∀ (σ : Nat → Nat → Int32) (x1 x2 x3 s1 : Int32), w_X7_best_J15 Q  σ x1 x2 x3 s1 → vV x 0 0 (moW D a σ ++ []) [(0, .ref (a 0)), (1, .int x1), (2, .int x2), (3, .int x3)] 15 [.int s1, .ref (a 0)] := by
  intro σ x1 x2 x3 s1 h
  unfold w_X7_best_J15 at h
  refine M_put7 15 hF q1911 dX7_best_15 (fun t1 et1 => ?_)
  replace h := h t1 et1
  refine v_aload_n 18 hF dX7_best_18 rfl 0 rfl ?_
  refine M_get 19 7 hF (Nat.le_of_ble_eq_true rfl) q1911 rfl rfl dX7_best_19 ?_
  refine v_if_le 22 27 hF dX7_best_22 (by decide) (fun c2 => ?_) (fun c2 => ?_)
  · replace h := h.1 c2
    refine v_aload_n 27 hF dX7_best_27 rfl 0 rfl ?_
    refine v_iload_n 28 hF dX7_best_28 rfl 1 rfl ?_
    refine v_iload_n 29 hF dX7_best_29 rfl 2 rfl ?_
    refine v_callVi (As := [.int x1, .int x2]) 30 hF (c_X7_bestOf l D a t1 x1 x2 _ h) (List.Perm.refl _) ⟨0, 10, _, TX7, 18, rfl, rfl⟩ q2139 q2141 qs55 q82 q2142 ds_X7_bestOf ⟨rfl, rfl, Nat.le_of_ble_eq_true rfl, Nat.le_of_ble_eq_true rfl⟩ (Nat.le_of_ble_eq_true rfl) ⟨Nat.zero_le _, Nat.zero_le _⟩ dX7_best_30 (fun r3 t4 h => ?_)
    refine v_istore [(0, .ref (a 0)), (1, .int x1), (2, .int x2), (3, .int x3), (4, .int r3)] [1, 2, 3, 4, 0] 33 hF dX7_best_33 (Nat.le_of_ble_eq_true rfl) rfl ?_
    refine v_iload_n 35 hF dX7_best_35 rfl 3 rfl ?_
    refine v_if_eq 36 46 hF dX7_best_36 (by decide) (fun c5 => ?_) (fun c5 => ?_)
    · replace h := h.1 c5
      refine v_iload 46 hF dX7_best_46 4 rfl ?_
      exact v_iretA 48 hF hR (Nat.zero_le _) (Nat.zero_le _) dX7_best_48 h
    · replace h := h.2 c5
      refine v_aload_n 39 hF dX7_best_39 rfl 0 rfl ?_
      refine M_get 40 10 hF (Nat.le_of_ble_eq_true rfl) q1914 rfl rfl dX7_best_40 ?_
      refine v_goto 43 48 hF dX7_best_43 (by decide) ?_
      exact v_iretA 48 hF hR (Nat.zero_le _) (Nat.zero_le _) dX7_best_48 h
  · replace h := h.2 c2
    refine v_iconst (v := 0) 25 hF dX7_best_25 (by decide) ?_
    exact v_iretA 26 hF hR (Nat.zero_le _) (Nat.zero_le _) dX7_best_26 h
theorem ds_X7_best : yX7_best.cls = yX7_best.cls ∧ yX7_best.cls ≠ "java/lang/invoke/MethodHandle" ∧ yX7_best.cls ≠ "java/lang/invoke/VarHandle" ∧ (parseMethodDescriptor yX7_best.desc).map (fun d => d.parameters.length) = some 3 := by decide +kernel
set_option maxHeartbeats 4000000 in
theorem c_X7_best (l : Launch) (D : va_G) (a : Nat → Nat) (σ : Nat → Nat → Int32) (x1 x2 x3 : Int32) (Q : Int32 → (Nat → Nat → Int32) → Prop) (h : w_X7_best σ x1 x2 x3 Q) : Cti l D yX7_best cX7_best 5 .int (rmk 8 0 0 184) [.ref (a 0), .int x1, .int x2, .int x3] (moW D a σ) (moW D a) Q 0 0 := by
  refine Cti.of (by decide) (Nat.le_of_ble_eq_true rfl) (fun x hF hR => ?_)
  replace hF : vF x l D "BrookWeirsModel" cX7_best (rmk 8 0 0 184) 5 (some .int) := hF
  refine v_app0 ?_
  unfold w_X7_best at h
  refine v_aload_n 0 hF dX7_best_0 rfl 0 rfl ?_
  refine v_iload_n 1 hF dX7_best_1 rfl 2 rfl ?_
  refine v_iconst (v := 1) 2 hF dX7_best_2 (by decide) ?_
  refine v_iconst (v := 5) 3 hF dX7_best_3 (by decide) ?_
  refine v_callS0i (As := [.int x2, .int ((1 : Int32)), .int ((5 : Int32))]) 4 hF (c_X7_in l D x2 ((1 : Int32)) ((5 : Int32)) _ h) q1968 q1969 q82 q1970 ds_X7_in ⟨rfl, rfl, Nat.le_of_ble_eq_true rfl, Nat.le_of_ble_eq_true rfl⟩ (Nat.le_of_ble_eq_true rfl) ⟨Nat.zero_le _, Nat.zero_le _⟩ dX7_best_4 (fun r6 h => ?_)
  refine v_if_eq 7 14 hF dX7_best_7 (by decide) (fun c7 => ?_) (fun c7 => ?_)
  · replace h := h.1 c7
    refine v_iconst (v := 1) 14 hF dX7_best_14 (by decide) ?_
    exact k_X7_best_J15 hF hR _ _ _ _ _ h
  · replace h := h.2 c7
    refine v_iconst (v := 0) 10 hF dX7_best_10 (by decide) ?_
    refine v_goto 11 15 hF dX7_best_11 (by decide) ?_
    exact k_X7_best_J15 hF hR _ _ _ _ _ h
def w_X7_choose_J15 (Q : Int32 → (Nat → Nat → Int32) → Prop)  (σ : Nat → Nat → Int32) (x1 x2 s1 : Int32) : Prop :=
  ∀ t1 : Nat → Nat → Int32, t1 = (upN σ 20 7 s1) → (((t1 20 7) ≤ 0 → w_X7_keep t1  (fun t3 => w_X7_chooses t3 x1 x2 (fun r4 t5 => w_X7_ends t5 r4 (fun r6 t7 => Q r6 t7)))) ∧ (¬ (t1 20 7) ≤ 0 → Q ((0 : Int32)) t1))
def w_X7_choose (σ : Nat → Nat → Int32) (x1 x2 : Int32) (Q : Int32 → (Nat → Nat → Int32) → Prop) : Prop :=
  w_X7_in x2 ((1 : Int32)) ((5 : Int32)) (fun r8 => ((r8 = 0 → w_X7_choose_J15 Q σ x1 x2 ((1 : Int32))) ∧ (¬ r8 = 0 → w_X7_choose_J15 Q σ x1 x2 ((0 : Int32)))))
set_option maxHeartbeats 4000000 in
theorem k_X7_choose_J15 {x : vC} {l : Launch} {D : va_G} {a : Nat → Nat}  {Q : Int32 → (Nat → Nat → Int32) → Prop} (hF : vF x l D "BrookWeirsModel" cX7_choose (rmk 9 0 0 208) 3 (some .int)) (hR : vRi x (moW D a) Q 0 0)   : ∀ (σ : Nat → Nat → Int32) (x1 x2 s1 : Int32), w_X7_choose_J15 Q  σ x1 x2 s1 → vV x 0 0 (moW D a σ ++ []) [(0, .ref (a 0)), (1, .int x1), (2, .int x2)] 15 [.int s1, .ref (a 0)] := by
  intro σ x1 x2 s1 h
  unfold w_X7_choose_J15 at h
  refine M_put7 15 hF q1911 dX7_choose_15 (fun t1 et1 => ?_)
  replace h := h t1 et1
  refine v_aload_n 18 hF dX7_choose_18 rfl 0 rfl ?_
  refine M_get 19 7 hF (Nat.le_of_ble_eq_true rfl) q1911 rfl rfl dX7_choose_19 ?_
  refine v_if_le 22 27 hF dX7_choose_22 (by decide) (fun c2 => ?_) (fun c2 => ?_)
  · replace h := h.1 c2
    refine v_aload_n 27 hF dX7_choose_27 rfl 0 rfl ?_
    refine v_callVv (As := []) 28 hF (c_X7_keep l D a t1 _ h) (List.Perm.refl _) ⟨0, 10, _, TX7, 18, rfl, rfl⟩ q1975 q1977 qs31 q82 q1978 ds_X7_keep ⟨rfl, rfl, Nat.le_of_ble_eq_true rfl, Nat.le_of_ble_eq_true rfl⟩ (Nat.le_of_ble_eq_true rfl) ⟨Nat.zero_le _, Nat.zero_le _⟩ dX7_choose_28 (fun t3 h => ?_)
    refine v_aload_n 31 hF dX7_choose_31 rfl 0 rfl ?_
    refine v_aload_n 32 hF dX7_choose_32 rfl 0 rfl ?_
    refine v_iload_n 33 hF dX7_choose_33 rfl 1 rfl ?_
    refine v_iload_n 34 hF dX7_choose_34 rfl 2 rfl ?_
    refine v_callVi (As := [.int x1, .int x2]) 35 hF (c_X7_chooses l D a t3 x1 x2 _ h) (List.Perm.refl _) ⟨0, 10, _, TX7, 18, rfl, rfl⟩ q2164 q2166 qs59 q82 q2167 ds_X7_chooses ⟨rfl, rfl, Nat.le_of_ble_eq_true rfl, Nat.le_of_ble_eq_true rfl⟩ (Nat.le_of_ble_eq_true rfl) ⟨Nat.zero_le _, Nat.zero_le _⟩ dX7_choose_35 (fun r4 t5 h => ?_)
    refine v_callVi (As := [.int r4]) 38 hF (c_X7_ends l D a t5 r4 _ h) (List.Perm.refl _) ⟨0, 10, _, TX7, 18, rfl, rfl⟩ q1983 q1985 qs32 q82 q1986 ds_X7_ends ⟨rfl, rfl, Nat.le_of_ble_eq_true rfl, Nat.le_of_ble_eq_true rfl⟩ (Nat.le_of_ble_eq_true rfl) ⟨Nat.zero_le _, Nat.zero_le _⟩ dX7_choose_38 (fun r6 t7 h => ?_)
    exact v_iretA 41 hF hR (Nat.zero_le _) (Nat.zero_le _) dX7_choose_41 h
  · replace h := h.2 c2
    refine v_iconst (v := 0) 25 hF dX7_choose_25 (by decide) ?_
    exact v_iretA 26 hF hR (Nat.zero_le _) (Nat.zero_le _) dX7_choose_26 h
theorem ds_X7_choose : yX7_choose.cls = yX7_choose.cls ∧ yX7_choose.cls ≠ "java/lang/invoke/MethodHandle" ∧ yX7_choose.cls ≠ "java/lang/invoke/VarHandle" ∧ (parseMethodDescriptor yX7_choose.desc).map (fun d => d.parameters.length) = some 2 := by decide +kernel
set_option maxHeartbeats 4000000 in
theorem c_X7_choose (l : Launch) (D : va_G) (a : Nat → Nat) (σ : Nat → Nat → Int32) (x1 x2 : Int32) (Q : Int32 → (Nat → Nat → Int32) → Prop) (h : w_X7_choose σ x1 x2 Q) : Cti l D yX7_choose cX7_choose 3 .int (rmk 9 0 0 208) [.ref (a 0), .int x1, .int x2] (moW D a σ) (moW D a) Q 0 0 := by
  refine Cti.of (by decide) (Nat.le_of_ble_eq_true rfl) (fun x hF hR => ?_)
  replace hF : vF x l D "BrookWeirsModel" cX7_choose (rmk 9 0 0 208) 3 (some .int) := hF
  refine v_app0 ?_
  unfold w_X7_choose at h
  refine v_aload_n 0 hF dX7_choose_0 rfl 0 rfl ?_
  refine v_iload_n 1 hF dX7_choose_1 rfl 2 rfl ?_
  refine v_iconst (v := 1) 2 hF dX7_choose_2 (by decide) ?_
  refine v_iconst (v := 5) 3 hF dX7_choose_3 (by decide) ?_
  refine v_callS0i (As := [.int x2, .int ((1 : Int32)), .int ((5 : Int32))]) 4 hF (c_X7_in l D x2 ((1 : Int32)) ((5 : Int32)) _ h) q1968 q1969 q82 q1970 ds_X7_in ⟨rfl, rfl, Nat.le_of_ble_eq_true rfl, Nat.le_of_ble_eq_true rfl⟩ (Nat.le_of_ble_eq_true rfl) ⟨Nat.zero_le _, Nat.zero_le _⟩ dX7_choose_4 (fun r8 h => ?_)
  refine v_if_eq 7 14 hF dX7_choose_7 (by decide) (fun c9 => ?_) (fun c9 => ?_)
  · replace h := h.1 c9
    refine v_iconst (v := 1) 14 hF dX7_choose_14 (by decide) ?_
    exact k_X7_choose_J15 hF hR _ _ _ _ h
  · replace h := h.2 c9
    refine v_iconst (v := 0) 10 hF dX7_choose_10 (by decide) ?_
    refine v_goto 11 15 hF dX7_choose_11 (by decide) ?_
    exact k_X7_choose_J15 hF hR _ _ _ _ h
