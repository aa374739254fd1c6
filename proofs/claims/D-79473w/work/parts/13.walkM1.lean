set_option maxRecDepth 100000
def w_X7_waterNow_L4 (Q : Int32 → (Nat → Nat → Int32) → Prop) (K4 : (Nat → Nat → Int32) → Int32 → Int32 → Prop) (σ : Nat → Nat → Int32) (x1 x2 : Int32) : Prop :=
  vp_in ((0 : Int32)) 156 ∧ ((((σ 0) ((0 : Int32)).toNatClampNeg) ≤ x2 → Q x1 σ) ∧ (¬ ((σ 0) ((0 : Int32)).toNatClampNeg) ≤ x2 → w_X7_get σ x2 ((4 : Int32)) (fun r3 t4 => ∀ y5 : Int32, y5 = (x1 + r3) → ∀ y6 : Int32, y6 = x2 + (1 : Int32) → K4 t4 y5 y6)))
def w_X7_waterNow (σ : Nat → Nat → Int32) (Q : Int32 → (Nat → Nat → Int32) → Prop) : Prop :=
  wLoop (fun K s => w_X7_waterNow_L4 Q (fun v0 v1 v2 => K (v0, v1, v2)) s.1 s.2.1 s.2.2) (σ, (0 : Int32), (0 : Int32))
set_option maxHeartbeats 4000000 in
theorem k_X7_waterNow_L4 {x : vC} {l : Launch} {D : va_G} {a : Nat → Nat}  {Q : Int32 → (Nat → Nat → Int32) → Prop} (hF : vF x l D "BrookWeirsModel" cX7_waterNow (rmk 2 0 0 42) 3 (some .int)) (hR : vRi x (moW D a) Q 0 0) {K4 : (Nat → Nat → Int32) → Int32 → Int32 → Prop} (hK4 : ∀ (σ : Nat → Nat → Int32) (x1 x2 : Int32), K4 σ x1 x2 → vV x 0 0 (moW D a σ ++ []) [(0, .ref (a 0)), (1, .int x1), (2, .int x2)] 4 []) : ∀ (σ : Nat → Nat → Int32) (x1 x2 : Int32), w_X7_waterNow_L4 Q K4 σ x1 x2 → vV x 0 0 (moW D a σ ++ []) [(0, .ref (a 0)), (1, .int x1), (2, .int x2)] 4 [] := by
  intro σ x1 x2 h
  unfold w_X7_waterNow_L4 at h
  refine v_iload_n 4 hF dX7_waterNow_4 rfl 2 rfl ?_
  refine v_aload_n 5 hF dX7_waterNow_5 rfl 0 rfl ?_
  refine M_get 6 0 hF (Nat.le_of_ble_eq_true rfl) q1904 rfl rfl dX7_waterNow_6 ?_
  refine v_iconst (v := 0) 9 hF dX7_waterNow_9 (by decide) ?_
  obtain ⟨o1, h⟩ := h
  refine M_ald0 10 hF o1 dX7_waterNow_10 ?_
  refine v_icmp_ge 11 29 hF dX7_waterNow_11 (by decide) (fun c2 => ?_) (fun c2 => ?_)
  · replace h := h.1 c2
    refine v_iload_n 29 hF dX7_waterNow_29 rfl 1 rfl ?_
    exact v_iretA 30 hF hR (Nat.zero_le _) (Nat.zero_le _) dX7_waterNow_30 h
  · replace h := h.2 c2
    refine v_iload_n 14 hF dX7_waterNow_14 rfl 1 rfl ?_
    refine v_aload_n 15 hF dX7_waterNow_15 rfl 0 rfl ?_
    refine v_iload_n 16 hF dX7_waterNow_16 rfl 2 rfl ?_
    refine v_iconst (v := 4) 17 hF dX7_waterNow_17 (by decide) ?_
    refine v_callVi (As := [.int x2, .int ((4 : Int32))]) 18 hF (c_X7_get l D a σ x2 ((4 : Int32)) _ h) (List.Perm.refl _) ⟨0, 10, _, TX7, 18, rfl, rfl⟩ q1999 q2001 qs35 q82 q2002 ds_X7_get ⟨rfl, rfl, Nat.le_of_ble_eq_true rfl, Nat.le_of_ble_eq_true rfl⟩ (Nat.le_of_ble_eq_true rfl) ⟨Nat.zero_le _, Nat.zero_le _⟩ dX7_waterNow_18 (fun r3 t4 h => ?_)
    refine v_iadd 21 hF dX7_waterNow_21 ?_
    refine v_nm (fun y5 ey5 => ?_)
    replace h := h y5 ey5
    refine v_istore_n [(0, .ref (a 0)), (1, .int y5), (2, .int x2)] [1, 0, 2] 22 hF dX7_waterNow_22 rfl (Nat.le_of_ble_eq_true rfl) rfl ?_
    obtain ⟨y6, ey6⟩ : ∃ y : Int32, y = x2 + (1 : Int32) := ⟨_, rfl⟩
    replace h := h y6 ey6
    refine v_iinc [(0, .ref (a 0)), (1, .int y5), (2, .int y6)] [1, 2, 0] 23 hF dX7_waterNow_23 2 rfl (by rw [ey6]; rfl) (Nat.le_of_ble_eq_true rfl) rfl ?_
    refine v_goto 26 4 hF dX7_waterNow_26 (by decide) ?_
    exact hK4 _ _ _ h
theorem ds_X7_waterNow : yX7_waterNow.cls = yX7_waterNow.cls ∧ yX7_waterNow.cls ≠ "java/lang/invoke/MethodHandle" ∧ yX7_waterNow.cls ≠ "java/lang/invoke/VarHandle" ∧ (parseMethodDescriptor yX7_waterNow.desc).map (fun d => d.parameters.length) = some 0 := by decide +kernel
set_option maxHeartbeats 4000000 in
theorem c_X7_waterNow (l : Launch) (D : va_G) (a : Nat → Nat) (σ : Nat → Nat → Int32) (Q : Int32 → (Nat → Nat → Int32) → Prop) (h : w_X7_waterNow σ Q) : Cti l D yX7_waterNow cX7_waterNow 3 .int (rmk 2 0 0 42) [.ref (a 0)] (moW D a σ) (moW D a) Q 0 0 := by
  refine Cti.of (by decide) (Nat.le_of_ble_eq_true rfl) (fun x hF hR => ?_)
  replace hF : vF x l D "BrookWeirsModel" cX7_waterNow (rmk 2 0 0 42) 3 (some .int) := hF
  refine v_app0 ?_
  unfold w_X7_waterNow at h
  refine v_iconst (v := 0) 0 hF dX7_waterNow_0 (by decide) ?_
  refine v_istore_n [(0, .ref (a 0)), (1, .int ((0 : Int32)))] [1, 0] 1 hF dX7_waterNow_1 rfl (Nat.le_of_ble_eq_true rfl) rfl ?_
  refine v_iconst (v := 0) 2 hF dX7_waterNow_2 (by decide) ?_
  refine v_istore_n [(0, .ref (a 0)), (1, .int ((0 : Int32))), (2, .int ((0 : Int32)))] [1, 2, 0] 3 hF dX7_waterNow_3 rfl (Nat.le_of_ble_eq_true rfl) rfl ?_
  exact vLoop (V := fun s => vV x 0 0 (moW D a s.1 ++ []) [(0, .ref (a 0)), (1, .int s.2.1), (2, .int s.2.2)] 4 []) (fun K hK s hs => k_X7_waterNow_L4 hF hR (fun v0 v1 v2 q => hK (v0, v1, v2) q) s.1 s.2.1 s.2.2 hs) _ h
def w_X7_waterAgain (σ : Nat → Nat → Int32) (Q : Int32 → (Nat → Nat → Int32) → Prop) : Prop :=
  ∀ t1 : Nat → Nat → Int32, t1 = (upN σ 20 7 (0 : Int32)) → vp_in ((4 : Int32)) 156 ∧ vp_in ((5 : Int32)) 156 ∧ vp_in ((6 : Int32)) 156 ∧ Q (((((t1 0) ((4 : Int32)).toNatClampNeg) - ((t1 0) ((5 : Int32)).toNatClampNeg)) - ((t1 0) ((6 : Int32)).toNatClampNeg))) t1
theorem ds_X7_waterAgain : yX7_waterAgain.cls = yX7_waterAgain.cls ∧ yX7_waterAgain.cls ≠ "java/lang/invoke/MethodHandle" ∧ yX7_waterAgain.cls ≠ "java/lang/invoke/VarHandle" ∧ (parseMethodDescriptor yX7_waterAgain.desc).map (fun d => d.parameters.length) = some 0 := by decide +kernel
set_option maxHeartbeats 4000000 in
theorem c_X7_waterAgain (l : Launch) (D : va_G) (a : Nat → Nat) (σ : Nat → Nat → Int32) (Q : Int32 → (Nat → Nat → Int32) → Prop) (h : w_X7_waterAgain σ Q) : Cti l D yX7_waterAgain cX7_waterAgain 1 .int (rmk 0 0 0 0) [.ref (a 0)] (moW D a σ) (moW D a) Q 0 0 := by
  refine Cti.of (by decide) (Nat.le_of_ble_eq_true rfl) (fun x hF hR => ?_)
  replace hF : vF x l D "BrookWeirsModel" cX7_waterAgain (rmk 0 0 0 0) 1 (some .int) := hF
  refine v_app0 ?_
  unfold w_X7_waterAgain at h
  refine v_aload_n 0 hF dX7_waterAgain_0 rfl 0 rfl ?_
  refine v_iconst (v := 0) 1 hF dX7_waterAgain_1 (by decide) ?_
  refine M_put7 2 hF q1911 dX7_waterAgain_2 (fun t1 et1 => ?_)
  replace h := h t1 et1
  refine v_aload_n 5 hF dX7_waterAgain_5 rfl 0 rfl ?_
  refine M_get 6 0 hF (Nat.le_of_ble_eq_true rfl) q1904 rfl rfl dX7_waterAgain_6 ?_
  refine v_iconst (v := 4) 9 hF dX7_waterAgain_9 (by decide) ?_
  obtain ⟨o2, h⟩ := h
  refine M_ald0 10 hF o2 dX7_waterAgain_10 ?_
  refine v_aload_n 11 hF dX7_waterAgain_11 rfl 0 rfl ?_
  refine M_get 12 0 hF (Nat.le_of_ble_eq_true rfl) q1904 rfl rfl dX7_waterAgain_12 ?_
  refine v_iconst (v := 5) 15 hF dX7_waterAgain_15 (by decide) ?_
  obtain ⟨o3, h⟩ := h
  refine M_ald0 16 hF o3 dX7_waterAgain_16 ?_
  refine v_isub 17 hF dX7_waterAgain_17 ?_
  refine v_aload_n 18 hF dX7_waterAgain_18 rfl 0 rfl ?_
  refine M_get 19 0 hF (Nat.le_of_ble_eq_true rfl) q1904 rfl rfl dX7_waterAgain_19 ?_
  refine v_bipush (v := 6) 22 hF dX7_waterAgain_22 (by decide) ?_
  obtain ⟨o4, h⟩ := h
  refine M_ald0 24 hF o4 dX7_waterAgain_24 ?_
  refine v_isub 25 hF dX7_waterAgain_25 ?_
  exact v_iretA 26 hF hR (Nat.zero_le _) (Nat.zero_le _) dX7_waterAgain_26 h
def w_X7_number_J16 (Q : Int32 → (Nat → Nat → Int32) → Prop)  (σ : Nat → Nat → Int32) (x1 s1 : Int32) : Prop :=
  ∀ t1 : Nat → Nat → Int32, t1 = (upN σ 20 7 s1) → (((t1 20 7) ≤ 0 → (((x1.toInt < 0 ∨ 15 < x1.toInt) → vp_in ((((3 : Int32) + x1) - (1 : Int32))) 156 ∧ Q (((t1 0) ((((3 : Int32) + x1) - (1 : Int32))).toNatClampNeg)) t1) ∧ (x1 = (0 : Int32) → vp_in ((0 : Int32)) 156 ∧ Q (((t1 0) ((0 : Int32)).toNatClampNeg)) t1) ∧ (x1 = (1 : Int32) → vp_in ((((3 : Int32) + x1) - (1 : Int32))) 156 ∧ Q (((t1 0) ((((3 : Int32) + x1) - (1 : Int32))).toNatClampNeg)) t1) ∧ (x1 = (2 : Int32) → vp_in ((((3 : Int32) + x1) - (1 : Int32))) 156 ∧ Q (((t1 0) ((((3 : Int32) + x1) - (1 : Int32))).toNatClampNeg)) t1) ∧ (x1 = (3 : Int32) → vp_in ((((3 : Int32) + x1) - (1 : Int32))) 156 ∧ Q (((t1 0) ((((3 : Int32) + x1) - (1 : Int32))).toNatClampNeg)) t1) ∧ (x1 = (4 : Int32) → vp_in ((((3 : Int32) + x1) - (1 : Int32))) 156 ∧ Q (((t1 0) ((((3 : Int32) + x1) - (1 : Int32))).toNatClampNeg)) t1) ∧ (x1 = (5 : Int32) → vp_in ((((3 : Int32) + x1) - (1 : Int32))) 156 ∧ Q (((t1 0) ((((3 : Int32) + x1) - (1 : Int32))).toNatClampNeg)) t1) ∧ (x1 = (6 : Int32) → vp_in ((((3 : Int32) + x1) - (1 : Int32))) 156 ∧ Q (((t1 0) ((((3 : Int32) + x1) - (1 : Int32))).toNatClampNeg)) t1) ∧ (x1 = (7 : Int32) → vp_in ((1 : Int32)) 156 ∧ Q (((t1 0) ((1 : Int32)).toNatClampNeg)) t1) ∧ (x1 = (8 : Int32) → w_X7_eggsIn t1 ((-1 : Int32)) (fun r13 t14 => Q r13 t14)) ∧ (x1 = (9 : Int32) → vp_in ((((9 : Int32) + x1) - (9 : Int32))) 156 ∧ Q (((t1 0) ((((9 : Int32) + x1) - (9 : Int32))).toNatClampNeg)) t1) ∧ (x1 = (10 : Int32) → vp_in ((((9 : Int32) + x1) - (9 : Int32))) 156 ∧ Q (((t1 0) ((((9 : Int32) + x1) - (9 : Int32))).toNatClampNeg)) t1) ∧ (x1 = (11 : Int32) → vp_in ((((9 : Int32) + x1) - (9 : Int32))) 156 ∧ Q (((t1 0) ((((9 : Int32) + x1) - (9 : Int32))).toNatClampNeg)) t1) ∧ (x1 = (12 : Int32) → w_X7_frogsOfAll t1  (fun r18 t19 => Q r18 t19)) ∧ (x1 = (13 : Int32) → vp_in ((2 : Int32)) 156 ∧ Q (((t1 0) ((2 : Int32)).toNatClampNeg)) t1) ∧ (x1 = (14 : Int32) → Q ((t1 20 6)) t1) ∧ (x1 = (15 : Int32) → Q ((t1 20 12)) t1))) ∧ (¬ (t1 20 7) ≤ 0 → Q ((0 : Int32)) t1))
def w_X7_number (σ : Nat → Nat → Int32) (x1 : Int32) (Q : Int32 → (Nat → Nat → Int32) → Prop) : Prop :=
  w_X7_in x1 ((0 : Int32)) ((15 : Int32)) (fun r21 => ((r21 = 0 → w_X7_number_J16 Q σ x1 ((1 : Int32))) ∧ (¬ r21 = 0 → w_X7_number_J16 Q σ x1 ((0 : Int32)))))
set_option maxHeartbeats 4000000 in
theorem k_X7_number_J16 {x : vC} {l : Launch} {D : va_G} {a : Nat → Nat}  {Q : Int32 → (Nat → Nat → Int32) → Prop} (hF : vF x l D "BrookWeirsModel" cX7_number (rmk 3 0 0 64) 2 (some .int)) (hR : vRi x (moW D a) Q 0 0)   : ∀ (σ : Nat → Nat → Int32) (x1 s1 : Int32), w_X7_number_J16 Q  σ x1 s1 → vV x 0 0 (moW D a σ ++ []) [(0, .ref (a 0)), (1, .int x1)] 16 [.int s1, .ref (a 0)] := by
  intro σ x1 s1 h
  unfold w_X7_number_J16 at h
  refine M_put7 16 hF q1911 dX7_number_16 (fun t1 et1 => ?_)
  replace h := h t1 et1
  refine v_aload_n 19 hF dX7_number_19 rfl 0 rfl ?_
  refine M_get 20 7 hF (Nat.le_of_ble_eq_true rfl) q1911 rfl rfl dX7_number_20 ?_
  refine v_if_le 23 28 hF dX7_number_23 (by decide) (fun c2 => ?_) (fun c2 => ?_)
  · replace h := h.1 c2
    refine v_iload_n 28 hF dX7_number_28 rfl 1 rfl ?_
    rcases tsw_cases x1 0 16 with c3 | c3
    · replace h := h.1 c3
      refine v_tableOut 29 163 hF dX7_number_29 c3 (by decide) ?_
      refine v_aload_n 163 hF dX7_number_163 rfl 0 rfl ?_
      refine M_get 164 0 hF (Nat.le_of_ble_eq_true rfl) q1904 rfl rfl dX7_number_164 ?_
      refine v_iconst (v := 3) 167 hF dX7_number_167 (by decide) ?_
      refine v_iload_n 168 hF dX7_number_168 rfl 1 rfl ?_
      refine v_iadd 169 hF dX7_number_169 ?_
      refine v_iconst (v := 1) 170 hF dX7_number_170 (by decide) ?_
      refine v_isub 171 hF dX7_number_171 ?_
      obtain ⟨o4, h⟩ := h
      refine M_ald0 172 hF o4 dX7_number_172 ?_
      exact v_iretA 173 hF hR (Nat.zero_le _) (Nat.zero_le _) dX7_number_173 h
    · replace h := h.2
      obtain ⟨j, hj, ej⟩ := c3
      rcases (show j = 0 ∨ j = 1 ∨ j = 2 ∨ j = 3 ∨ j = 4 ∨ j = 5 ∨ j = 6 ∨ j = 7 ∨ j = 8 ∨ j = 9 ∨ j = 10 ∨ j = 11 ∨ j = 12 ∨ j = 13 ∨ j = 14 ∨ j = 15 by omega) with rfl | rfl | rfl | rfl | rfl | rfl | rfl | rfl | rfl | rfl | rfl | rfl | rfl | rfl | rfl | rfl
      · have ev : x1 = (0 : Int32) := ej
        replace h := h.1 ev
        refine v_tableIn 29 108 hF dX7_number_29 (by rw [ev]; decide) (by rw [ev]; decide) (off := 79) (by rw [ev]; decide) (by decide) ?_
        refine v_aload_n 108 hF dX7_number_108 rfl 0 rfl ?_
        refine M_get 109 0 hF (Nat.le_of_ble_eq_true rfl) q1904 rfl rfl dX7_number_109 ?_
        refine v_iconst (v := 0) 112 hF dX7_number_112 (by decide) ?_
        obtain ⟨o5, h⟩ := h
        refine M_ald0 113 hF o5 dX7_number_113 ?_
        exact v_iretA 114 hF hR (Nat.zero_le _) (Nat.zero_le _) dX7_number_114 h
      · have ev : x1 = (1 : Int32) := ej
        replace h := h.2.1 ev
        refine v_tableIn 29 163 hF dX7_number_29 (by rw [ev]; decide) (by rw [ev]; decide) (off := 134) (by rw [ev]; decide) (by decide) ?_
        refine v_aload_n 163 hF dX7_number_163 rfl 0 rfl ?_
        refine M_get 164 0 hF (Nat.le_of_ble_eq_true rfl) q1904 rfl rfl dX7_number_164 ?_
        refine v_iconst (v := 3) 167 hF dX7_number_167 (by decide) ?_
        refine v_iload_n 168 hF dX7_number_168 rfl 1 rfl ?_
        refine v_iadd 169 hF dX7_number_169 ?_
        refine v_iconst (v := 1) 170 hF dX7_number_170 (by decide) ?_
        refine v_isub 171 hF dX7_number_171 ?_
        obtain ⟨o6, h⟩ := h
        refine M_ald0 172 hF o6 dX7_number_172 ?_
        exact v_iretA 173 hF hR (Nat.zero_le _) (Nat.zero_le _) dX7_number_173 h
      · have ev : x1 = (2 : Int32) := ej
        replace h := h.2.2.1 ev
        refine v_tableIn 29 163 hF dX7_number_29 (by rw [ev]; decide) (by rw [ev]; decide) (off := 134) (by rw [ev]; decide) (by decide) ?_
        refine v_aload_n 163 hF dX7_number_163 rfl 0 rfl ?_
        refine M_get 164 0 hF (Nat.le_of_ble_eq_true rfl) q1904 rfl rfl dX7_number_164 ?_
        refine v_iconst (v := 3) 167 hF dX7_number_167 (by decide) ?_
        refine v_iload_n 168 hF dX7_number_168 rfl 1 rfl ?_
        refine v_iadd 169 hF dX7_number_169 ?_
        refine v_iconst (v := 1) 170 hF dX7_number_170 (by decide) ?_
        refine v_isub 171 hF dX7_number_171 ?_
        obtain ⟨o7, h⟩ := h
        refine M_ald0 172 hF o7 dX7_number_172 ?_
        exact v_iretA 173 hF hR (Nat.zero_le _) (Nat.zero_le _) dX7_number_173 h
      · have ev : x1 = (3 : Int32) := ej
        replace h := h.2.2.2.1 ev
        refine v_tableIn 29 163 hF dX7_number_29 (by rw [ev]; decide) (by rw [ev]; decide) (off := 134) (by rw [ev]; decide) (by decide) ?_
        refine v_aload_n 163 hF dX7_number_163 rfl 0 rfl ?_
        refine M_get 164 0 hF (Nat.le_of_ble_eq_true rfl) q1904 rfl rfl dX7_number_164 ?_
        refine v_iconst (v := 3) 167 hF dX7_number_167 (by decide) ?_
        refine v_iload_n 168 hF dX7_number_168 rfl 1 rfl ?_
        refine v_iadd 169 hF dX7_number_169 ?_
        refine v_iconst (v := 1) 170 hF dX7_number_170 (by decide) ?_
        refine v_isub 171 hF dX7_number_171 ?_
        obtain ⟨o8, h⟩ := h
        refine M_ald0 172 hF o8 dX7_number_172 ?_
        exact v_iretA 173 hF hR (Nat.zero_le _) (Nat.zero_le _) dX7_number_173 h
      · have ev : x1 = (4 : Int32) := ej
        replace h := h.2.2.2.2.1 ev
        refine v_tableIn 29 163 hF dX7_number_29 (by rw [ev]; decide) (by rw [ev]; decide) (off := 134) (by rw [ev]; decide) (by decide) ?_
        refine v_aload_n 163 hF dX7_number_163 rfl 0 rfl ?_
        refine M_get 164 0 hF (Nat.le_of_ble_eq_true rfl) q1904 rfl rfl dX7_number_164 ?_
        refine v_iconst (v := 3) 167 hF dX7_number_167 (by decide) ?_
        refine v_iload_n 168 hF dX7_number_168 rfl 1 rfl ?_
        refine v_iadd 169 hF dX7_number_169 ?_
        refine v_iconst (v := 1) 170 hF dX7_number_170 (by decide) ?_
        refine v_isub 171 hF dX7_number_171 ?_
        obtain ⟨o9, h⟩ := h
        refine M_ald0 172 hF o9 dX7_number_172 ?_
        exact v_iretA 173 hF hR (Nat.zero_le _) (Nat.zero_le _) dX7_number_173 h
      · have ev : x1 = (5 : Int32) := ej
        replace h := h.2.2.2.2.2.1 ev
        refine v_tableIn 29 163 hF dX7_number_29 (by rw [ev]; decide) (by rw [ev]; decide) (off := 134) (by rw [ev]; decide) (by decide) ?_
        refine v_aload_n 163 hF dX7_number_163 rfl 0 rfl ?_
        refine M_get 164 0 hF (Nat.le_of_ble_eq_true rfl) q1904 rfl rfl dX7_number_164 ?_
        refine v_iconst (v := 3) 167 hF dX7_number_167 (by decide) ?_
        refine v_iload_n 168 hF dX7_number_168 rfl 1 rfl ?_
        refine v_iadd 169 hF dX7_number_169 ?_
        refine v_iconst (v := 1) 170 hF dX7_number_170 (by decide) ?_
        refine v_isub 171 hF dX7_number_171 ?_
        obtain ⟨o10, h⟩ := h
        refine M_ald0 172 hF o10 dX7_number_172 ?_
        exact v_iretA 173 hF hR (Nat.zero_le _) (Nat.zero_le _) dX7_number_173 h
      · have ev : x1 = (6 : Int32) := ej
        replace h := h.2.2.2.2.2.2.1 ev
        refine v_tableIn 29 163 hF dX7_number_29 (by rw [ev]; decide) (by rw [ev]; decide) (off := 134) (by rw [ev]; decide) (by decide) ?_
        refine v_aload_n 163 hF dX7_number_163 rfl 0 rfl ?_
        refine M_get 164 0 hF (Nat.le_of_ble_eq_true rfl) q1904 rfl rfl dX7_number_164 ?_
        refine v_iconst (v := 3) 167 hF dX7_number_167 (by decide) ?_
        refine v_iload_n 168 hF dX7_number_168 rfl 1 rfl ?_
        refine v_iadd 169 hF dX7_number_169 ?_
        refine v_iconst (v := 1) 170 hF dX7_number_170 (by decide) ?_
        refine v_isub 171 hF dX7_number_171 ?_
        obtain ⟨o11, h⟩ := h
        refine M_ald0 172 hF o11 dX7_number_172 ?_
        exact v_iretA 173 hF hR (Nat.zero_le _) (Nat.zero_le _) dX7_number_173 h
      · have ev : x1 = (7 : Int32) := ej
        replace h := h.2.2.2.2.2.2.2.1 ev
        refine v_tableIn 29 115 hF dX7_number_29 (by rw [ev]; decide) (by rw [ev]; decide) (off := 86) (by rw [ev]; decide) (by decide) ?_
        refine v_aload_n 115 hF dX7_number_115 rfl 0 rfl ?_
        refine M_get 116 0 hF (Nat.le_of_ble_eq_true rfl) q1904 rfl rfl dX7_number_116 ?_
        refine v_iconst (v := 1) 119 hF dX7_number_119 (by decide) ?_
        obtain ⟨o12, h⟩ := h
        refine M_ald0 120 hF o12 dX7_number_120 ?_
        exact v_iretA 121 hF hR (Nat.zero_le _) (Nat.zero_le _) dX7_number_121 h
      · have ev : x1 = (8 : Int32) := ej
        replace h := h.2.2.2.2.2.2.2.2.1 ev
        refine v_tableIn 29 122 hF dX7_number_29 (by rw [ev]; decide) (by rw [ev]; decide) (off := 93) (by rw [ev]; decide) (by decide) ?_
        refine v_aload_n 122 hF dX7_number_122 rfl 0 rfl ?_
        refine v_iconst (v := -1) 123 hF dX7_number_123 (by decide) ?_
        refine v_callVi (As := [.int ((-1 : Int32))]) 124 hF (c_X7_eggsIn l D a t1 ((-1 : Int32)) _ h) (List.Perm.refl _) ⟨0, 10, _, TX7, 18, rfl, rfl⟩ q2046 q2048 qs41 q82 q2049 ds_X7_eggsIn ⟨rfl, rfl, Nat.le_of_ble_eq_true rfl, Nat.le_of_ble_eq_true rfl⟩ (Nat.le_of_ble_eq_true rfl) ⟨Nat.zero_le _, Nat.zero_le _⟩ dX7_number_124 (fun r13 t14 h => ?_)
        exact v_iretA 127 hF hR (Nat.zero_le _) (Nat.zero_le _) dX7_number_127 h
      · have ev : x1 = (9 : Int32) := ej
        replace h := h.2.2.2.2.2.2.2.2.2.1 ev
        refine v_tableIn 29 128 hF dX7_number_29 (by rw [ev]; decide) (by rw [ev]; decide) (off := 99) (by rw [ev]; decide) (by decide) ?_
        refine v_aload_n 128 hF dX7_number_128 rfl 0 rfl ?_
        refine M_get 129 0 hF (Nat.le_of_ble_eq_true rfl) q1904 rfl rfl dX7_number_129 ?_
        refine v_bipush (v := 9) 132 hF dX7_number_132 (by decide) ?_
        refine v_iload_n 134 hF dX7_number_134 rfl 1 rfl ?_
        refine v_iadd 135 hF dX7_number_135 ?_
        refine v_bipush (v := 9) 136 hF dX7_number_136 (by decide) ?_
        refine v_isub 138 hF dX7_number_138 ?_
        obtain ⟨o15, h⟩ := h
        refine M_ald0 139 hF o15 dX7_number_139 ?_
        exact v_iretA 140 hF hR (Nat.zero_le _) (Nat.zero_le _) dX7_number_140 h
      · have ev : x1 = (10 : Int32) := ej
        replace h := h.2.2.2.2.2.2.2.2.2.2.1 ev
        refine v_tableIn 29 128 hF dX7_number_29 (by rw [ev]; decide) (by rw [ev]; decide) (off := 99) (by rw [ev]; decide) (by decide) ?_
        refine v_aload_n 128 hF dX7_number_128 rfl 0 rfl ?_
        refine M_get 129 0 hF (Nat.le_of_ble_eq_true rfl) q1904 rfl rfl dX7_number_129 ?_
        refine v_bipush (v := 9) 132 hF dX7_number_132 (by decide) ?_
        refine v_iload_n 134 hF dX7_number_134 rfl 1 rfl ?_
        refine v_iadd 135 hF dX7_number_135 ?_
        refine v_bipush (v := 9) 136 hF dX7_number_136 (by decide) ?_
        refine v_isub 138 hF dX7_number_138 ?_
        obtain ⟨o16, h⟩ := h
        refine M_ald0 139 hF o16 dX7_number_139 ?_
        exact v_iretA 140 hF hR (Nat.zero_le _) (Nat.zero_le _) dX7_number_140 h
      · have ev : x1 = (11 : Int32) := ej
        replace h := h.2.2.2.2.2.2.2.2.2.2.2.1 ev
        refine v_tableIn 29 128 hF dX7_number_29 (by rw [ev]; decide) (by rw [ev]; decide) (off := 99) (by rw [ev]; decide) (by decide) ?_
        refine v_aload_n 128 hF dX7_number_128 rfl 0 rfl ?_
        refine M_get 129 0 hF (Nat.le_of_ble_eq_true rfl) q1904 rfl rfl dX7_number_129 ?_
        refine v_bipush (v := 9) 132 hF dX7_number_132 (by decide) ?_
        refine v_iload_n 134 hF dX7_number_134 rfl 1 rfl ?_
        refine v_iadd 135 hF dX7_number_135 ?_
        refine v_bipush (v := 9) 136 hF dX7_number_136 (by decide) ?_
        refine v_isub 138 hF dX7_number_138 ?_
        obtain ⟨o17, h⟩ := h
        refine M_ald0 139 hF o17 dX7_number_139 ?_
        exact v_iretA 140 hF hR (Nat.zero_le _) (Nat.zero_le _) dX7_number_140 h
      · have ev : x1 = (12 : Int32) := ej
        replace h := h.2.2.2.2.2.2.2.2.2.2.2.2.1 ev
        refine v_tableIn 29 141 hF dX7_number_29 (by rw [ev]; decide) (by rw [ev]; decide) (off := 112) (by rw [ev]; decide) (by decide) ?_
        refine v_aload_n 141 hF dX7_number_141 rfl 0 rfl ?_
        refine v_callVi (As := []) 142 hF (c_X7_frogsOfAll l D a t1 _ h) (List.Perm.refl _) ⟨0, 10, _, TX7, 18, rfl, rfl⟩ q2151 q2153 qs58 q82 q2154 ds_X7_frogsOfAll ⟨rfl, rfl, Nat.le_of_ble_eq_true rfl, Nat.le_of_ble_eq_true rfl⟩ (Nat.le_of_ble_eq_true rfl) ⟨Nat.zero_le _, Nat.zero_le _⟩ dX7_number_142 (fun r18 t19 h => ?_)
        exact v_iretA 145 hF hR (Nat.zero_le _) (Nat.zero_le _) dX7_number_145 h
      · have ev : x1 = (13 : Int32) := ej
        replace h := h.2.2.2.2.2.2.2.2.2.2.2.2.2.1 ev
        refine v_tableIn 29 146 hF dX7_number_29 (by rw [ev]; decide) (by rw [ev]; decide) (off := 117) (by rw [ev]; decide) (by decide) ?_
        refine v_aload_n 146 hF dX7_number_146 rfl 0 rfl ?_
        refine M_get 147 0 hF (Nat.le_of_ble_eq_true rfl) q1904 rfl rfl dX7_number_147 ?_
        refine v_iconst (v := 2) 150 hF dX7_number_150 (by decide) ?_
        obtain ⟨o20, h⟩ := h
        refine M_ald0 151 hF o20 dX7_number_151 ?_
        exact v_iretA 152 hF hR (Nat.zero_le _) (Nat.zero_le _) dX7_number_152 h
      · have ev : x1 = (14 : Int32) := ej
        replace h := h.2.2.2.2.2.2.2.2.2.2.2.2.2.2.1 ev
        refine v_tableIn 29 153 hF dX7_number_29 (by rw [ev]; decide) (by rw [ev]; decide) (off := 124) (by rw [ev]; decide) (by decide) ?_
        refine v_aload_n 153 hF dX7_number_153 rfl 0 rfl ?_
        refine M_get 154 6 hF (Nat.le_of_ble_eq_true rfl) q1910 rfl rfl dX7_number_154 ?_
        exact v_iretA 157 hF hR (Nat.zero_le _) (Nat.zero_le _) dX7_number_157 h
      · have ev : x1 = (15 : Int32) := ej
        replace h := h.2.2.2.2.2.2.2.2.2.2.2.2.2.2.2 ev
        refine v_tableIn 29 158 hF dX7_number_29 (by rw [ev]; decide) (by rw [ev]; decide) (off := 129) (by rw [ev]; decide) (by decide) ?_
        refine v_aload_n 158 hF dX7_number_158 rfl 0 rfl ?_
        refine M_get 159 12 hF (Nat.le_of_ble_eq_true rfl) q1916 rfl rfl dX7_number_159 ?_
        exact v_iretA 162 hF hR (Nat.zero_le _) (Nat.zero_le _) dX7_number_162 h
  · replace h := h.2 c2
    refine v_iconst (v := 0) 26 hF dX7_number_26 (by decide) ?_
    exact v_iretA 27 hF hR (Nat.zero_le _) (Nat.zero_le _) dX7_number_27 h
theorem ds_X7_number : yX7_number.cls = yX7_number.cls ∧ yX7_number.cls ≠ "java/lang/invoke/MethodHandle" ∧ yX7_number.cls ≠ "java/lang/invoke/VarHandle" ∧ (parseMethodDescriptor yX7_number.desc).map (fun d => d.parameters.length) = some 1 := by decide +kernel
set_option maxHeartbeats 4000000 in
theorem c_X7_number (l : Launch) (D : va_G) (a : Nat → Nat) (σ : Nat → Nat → Int32) (x1 : Int32) (Q : Int32 → (Nat → Nat → Int32) → Prop) (h : w_X7_number σ x1 Q) : Cti l D yX7_number cX7_number 2 .int (rmk 3 0 0 64) [.ref (a 0), .int x1] (moW D a σ) (moW D a) Q 0 0 := by
  refine Cti.of (by decide) (Nat.le_of_ble_eq_true rfl) (fun x hF hR => ?_)
  replace hF : vF x l D "BrookWeirsModel" cX7_number (rmk 3 0 0 64) 2 (some .int) := hF
  refine v_app0 ?_
  unfold w_X7_number at h
  refine v_aload_n 0 hF dX7_number_0 rfl 0 rfl ?_
  refine v_iload_n 1 hF dX7_number_1 rfl 1 rfl ?_
  refine v_iconst (v := 0) 2 hF dX7_number_2 (by decide) ?_
  refine v_bipush (v := 15) 3 hF dX7_number_3 (by decide) ?_
  refine v_callS0i (As := [.int x1, .int ((0 : Int32)), .int ((15 : Int32))]) 5 hF (c_X7_in l D x1 ((0 : Int32)) ((15 : Int32)) _ h) q1968 q1969 q82 q1970 ds_X7_in ⟨rfl, rfl, Nat.le_of_ble_eq_true rfl, Nat.le_of_ble_eq_true rfl⟩ (Nat.le_of_ble_eq_true rfl) ⟨Nat.zero_le _, Nat.zero_le _⟩ dX7_number_5 (fun r21 h => ?_)
  refine v_if_eq 8 15 hF dX7_number_8 (by decide) (fun c22 => ?_) (fun c22 => ?_)
  · replace h := h.1 c22
    refine v_iconst (v := 1) 15 hF dX7_number_15 (by decide) ?_
    exact k_X7_number_J16 hF hR _ _ _ h
  · replace h := h.2 c22
    refine v_iconst (v := 0) 11 hF dX7_number_11 (by decide) ?_
    refine v_goto 12 16 hF dX7_number_12 (by decide) ?_
    exact k_X7_number_J16 hF hR _ _ _ h
def w_X7_meanLevel_L31 (Q : UInt64 → (Nat → Nat → Int32) → Prop) (K31 : (Nat → Nat → Int32) → Int32 → Int32 → Prop) (σ : Nat → Nat → Int32) (x1 x2 : Int32) : Prop :=
  vp_in ((0 : Int32)) 156 ∧ ((((σ 0) ((0 : Int32)).toNatClampNeg) ≤ x2 → vp_in ((0 : Int32)) 156 ∧ vf_n64 (FP.ddiv ((FP.i2d x1)) ((FP.i2d (((σ 0) ((0 : Int32)).toNatClampNeg))))) ∧ Q ((FP.ddiv ((FP.i2d x1)) ((FP.i2d (((σ 0) ((0 : Int32)).toNatClampNeg)))))) σ) ∧ (¬ ((σ 0) ((0 : Int32)).toNatClampNeg) ≤ x2 → w_X7_level σ x2 (fun r5 t6 => ∀ y7 : Int32, y7 = (x1 + r5) → ∀ y8 : Int32, y8 = x2 + (1 : Int32) → K31 t6 y7 y8)))
def w_X7_meanLevel_J15 (Q : UInt64 → (Nat → Nat → Int32) → Prop)  (σ : Nat → Nat → Int32) (s1 : Int32) : Prop :=
  ∀ t9 : Nat → Nat → Int32, t9 = (upN σ 20 7 s1) → (((t9 20 7) ≤ 0 → wLoop (fun K s => w_X7_meanLevel_L31 Q (fun v0 v1 v2 => K (v0, v1, v2)) s.1 s.2.1 s.2.2) (t9, (0 : Int32), (0 : Int32))) ∧ (¬ (t9 20 7) ≤ 0 → Q (FP.dconst0) t9))
def w_X7_meanLevel (σ : Nat → Nat → Int32) (Q : UInt64 → (Nat → Nat → Int32) → Prop) : Prop :=
  vp_in ((0 : Int32)) 156 ∧ ((¬ ((σ 0) ((0 : Int32)).toNatClampNeg) = 0 → w_X7_meanLevel_J15 Q σ ((0 : Int32))) ∧ (((σ 0) ((0 : Int32)).toNatClampNeg) = 0 → w_X7_meanLevel_J15 Q σ ((1 : Int32))))
set_option maxHeartbeats 4000000 in
theorem k_X7_meanLevel_L31 {x : vC} {l : Launch} {D : va_G} {a : Nat → Nat}  {Q : UInt64 → (Nat → Nat → Int32) → Prop} (hF : vF x l D "BrookWeirsModel" cX7_meanLevel (rmk 3 0 0 63) 3 (some .double)) (hR : vRd x (moW D a) Q 0 0) {K31 : (Nat → Nat → Int32) → Int32 → Int32 → Prop} (hK31 : ∀ (σ : Nat → Nat → Int32) (x1 x2 : Int32), K31 σ x1 x2 → vV x 0 0 (moW D a σ ++ []) [(0, .ref (a 0)), (1, .int x1), (2, .int x2)] 31 []) : ∀ (σ : Nat → Nat → Int32) (x1 x2 : Int32), w_X7_meanLevel_L31 Q K31 σ x1 x2 → vV x 0 0 (moW D a σ ++ []) [(0, .ref (a 0)), (1, .int x1), (2, .int x2)] 31 [] := by
  intro σ x1 x2 h
  unfold w_X7_meanLevel_L31 at h
  refine v_iload_n 31 hF dX7_meanLevel_31 rfl 2 rfl ?_
  refine v_aload_n 32 hF dX7_meanLevel_32 rfl 0 rfl ?_
  refine M_get 33 0 hF (Nat.le_of_ble_eq_true rfl) q1904 rfl rfl dX7_meanLevel_33 ?_
  refine v_iconst (v := 0) 36 hF dX7_meanLevel_36 (by decide) ?_
  obtain ⟨o1, h⟩ := h
  refine M_ald0 37 hF o1 dX7_meanLevel_37 ?_
  refine v_icmp_ge 38 55 hF dX7_meanLevel_38 (by decide) (fun c2 => ?_) (fun c2 => ?_)
  · replace h := h.1 c2
    refine v_iload_n 55 hF dX7_meanLevel_55 rfl 1 rfl ?_
    refine v_i2d 56 hF dX7_meanLevel_56 ?_
    refine v_aload_n 57 hF dX7_meanLevel_57 rfl 0 rfl ?_
    refine M_get 58 0 hF (Nat.le_of_ble_eq_true rfl) q1904 rfl rfl dX7_meanLevel_58 ?_
    refine v_iconst (v := 0) 61 hF dX7_meanLevel_61 (by decide) ?_
    obtain ⟨o3, h⟩ := h
    refine M_ald0 62 hF o3 dX7_meanLevel_62 ?_
    refine v_i2d 63 hF dX7_meanLevel_63 ?_
    obtain ⟨o4, h⟩ := h
    refine v_ddiv 64 hF dX7_meanLevel_64 o4 ?_
    exact v_dretA 65 hF hR (Nat.zero_le _) (Nat.zero_le _) dX7_meanLevel_65 h
  · replace h := h.2 c2
    refine v_iload_n 41 hF dX7_meanLevel_41 rfl 1 rfl ?_
    refine v_aload_n 42 hF dX7_meanLevel_42 rfl 0 rfl ?_
    refine v_iload_n 43 hF dX7_meanLevel_43 rfl 2 rfl ?_
    refine v_callVi (As := [.int x2]) 44 hF (c_X7_level l D a σ x2 _ h) (List.Perm.refl _) ⟨0, 10, _, TX7, 18, rfl, rfl⟩ q2031 q2033 qs39 q82 q2034 ds_X7_level ⟨rfl, rfl, Nat.le_of_ble_eq_true rfl, Nat.le_of_ble_eq_true rfl⟩ (Nat.le_of_ble_eq_true rfl) ⟨Nat.zero_le _, Nat.zero_le _⟩ dX7_meanLevel_44 (fun r5 t6 h => ?_)
    refine v_iadd 47 hF dX7_meanLevel_47 ?_
    refine v_nm (fun y7 ey7 => ?_)
    replace h := h y7 ey7
    refine v_istore_n [(0, .ref (a 0)), (1, .int y7), (2, .int x2)] [1, 0, 2] 48 hF dX7_meanLevel_48 rfl (Nat.le_of_ble_eq_true rfl) rfl ?_
    obtain ⟨y8, ey8⟩ : ∃ y : Int32, y = x2 + (1 : Int32) := ⟨_, rfl⟩
    replace h := h y8 ey8
    refine v_iinc [(0, .ref (a 0)), (1, .int y7), (2, .int y8)] [1, 2, 0] 49 hF dX7_meanLevel_49 2 rfl (by rw [ey8]; rfl) (Nat.le_of_ble_eq_true rfl) rfl ?_
    refine v_goto 52 31 hF dX7_meanLevel_52 (by decide) ?_
    exact hK31 _ _ _ h
set_option maxHeartbeats 4000000 in
theorem k_X7_meanLevel_J15 {x : vC} {l : Launch} {D : va_G} {a : Nat → Nat}  {Q : UInt64 → (Nat → Nat → Int32) → Prop} (hF : vF x l D "BrookWeirsModel" cX7_meanLevel (rmk 3 0 0 63) 3 (some .double)) (hR : vRd x (moW D a) Q 0 0)   : ∀ (σ : Nat → Nat → Int32) (s1 : Int32), w_X7_meanLevel_J15 Q  σ s1 → vV x 0 0 (moW D a σ ++ []) [(0, .ref (a 0))] 15 [.int s1, .ref (a 0)] := by
  intro σ s1 h
  unfold w_X7_meanLevel_J15 at h
  refine M_put7 15 hF q1911 dX7_meanLevel_15 (fun t9 et9 => ?_)
  replace h := h t9 et9
  refine v_aload_n 18 hF dX7_meanLevel_18 rfl 0 rfl ?_
  refine M_get 19 7 hF (Nat.le_of_ble_eq_true rfl) q1911 rfl rfl dX7_meanLevel_19 ?_
  refine v_if_le 22 27 hF dX7_meanLevel_22 (by decide) (fun c10 => ?_) (fun c10 => ?_)
  · replace h := h.1 c10
    refine v_iconst (v := 0) 27 hF dX7_meanLevel_27 (by decide) ?_
    refine v_istore_n [(0, .ref (a 0)), (1, .int ((0 : Int32)))] [1, 0] 28 hF dX7_meanLevel_28 rfl (Nat.le_of_ble_eq_true rfl) rfl ?_
    refine v_iconst (v := 0) 29 hF dX7_meanLevel_29 (by decide) ?_
    refine v_istore_n [(0, .ref (a 0)), (1, .int ((0 : Int32))), (2, .int ((0 : Int32)))] [1, 2, 0] 30 hF dX7_meanLevel_30 rfl (Nat.le_of_ble_eq_true rfl) rfl ?_
    exact vLoop (V := fun s => vV x 0 0 (moW D a s.1 ++ []) [(0, .ref (a 0)), (1, .int s.2.1), (2, .int s.2.2)] 31 []) (fun K hK s hs => k_X7_meanLevel_L31 hF hR (fun v0 v1 v2 q => hK (v0, v1, v2) q) s.1 s.2.1 s.2.2 hs) _ h
  · replace h := h.2 c10
    refine v_dconst0 25 hF dX7_meanLevel_25 ?_
    exact v_dretA 26 hF hR (Nat.zero_le _) (Nat.zero_le _) dX7_meanLevel_26 h
theorem ds_X7_meanLevel : yX7_meanLevel.cls = yX7_meanLevel.cls ∧ yX7_meanLevel.cls ≠ "java/lang/invoke/MethodHandle" ∧ yX7_meanLevel.cls ≠ "java/lang/invoke/VarHandle" ∧ (parseMethodDescriptor yX7_meanLevel.desc).map (fun d => d.parameters.length) = some 0 := by decide +kernel
set_option maxHeartbeats 4000000 in
theorem c_X7_meanLevel (l : Launch) (D : va_G) (a : Nat → Nat) (σ : Nat → Nat → Int32) (Q : UInt64 → (Nat → Nat → Int32) → Prop) (h : w_X7_meanLevel σ Q) : Ctd l D yX7_meanLevel cX7_meanLevel 3 (rmk 3 0 0 63) [.ref (a 0)] (moW D a σ) (moW D a) Q 0 0 := by
  refine Ctd.of (by decide) (Nat.le_of_ble_eq_true rfl) (fun x hF hR => ?_)
  replace hF : vF x l D "BrookWeirsModel" cX7_meanLevel (rmk 3 0 0 63) 3 (some .double) := hF
  refine v_app0 ?_
  unfold w_X7_meanLevel at h
  refine v_aload_n 0 hF dX7_meanLevel_0 rfl 0 rfl ?_
  refine v_aload_n 1 hF dX7_meanLevel_1 rfl 0 rfl ?_
  refine M_get 2 0 hF (Nat.le_of_ble_eq_true rfl) q1904 rfl rfl dX7_meanLevel_2 ?_
  refine v_iconst (v := 0) 5 hF dX7_meanLevel_5 (by decide) ?_
  obtain ⟨o11, h⟩ := h
  refine M_ald0 6 hF o11 dX7_meanLevel_6 ?_
  refine v_if_ne 7 14 hF dX7_meanLevel_7 (by decide) (fun c12 => ?_) (fun c12 => ?_)
  · replace h := h.1 c12
    refine v_iconst (v := 0) 14 hF dX7_meanLevel_14 (by decide) ?_
    exact k_X7_meanLevel_J15 hF hR _ _ h
  · replace h := h.2 c12
    refine v_iconst (v := 1) 10 hF dX7_meanLevel_10 (by decide) ?_
    refine v_goto 11 15 hF dX7_meanLevel_11 (by decide) ?_
    exact k_X7_meanLevel_J15 hF hR _ _ h
def w_X7_silence_J15 (Q : UInt32 → (Nat → Nat → Int32) → Prop)  (σ : Nat → Nat → Int32) (s1 : Int32) : Prop :=
  ∀ t1 : Nat → Nat → Int32, t1 = (upN σ 20 7 s1) → (((t1 20 7) ≤ 0 → vp_in ((8 : Int32)) 156 ∧ vp_in ((3 : Int32)) 156 ∧ vf_n32 (FP.fdiv ((FP.i2f (((t1 0) ((8 : Int32)).toNatClampNeg)))) ((FP.i2f (((t1 0) ((3 : Int32)).toNatClampNeg))))) ∧ Q ((FP.fdiv ((FP.i2f (((t1 0) ((8 : Int32)).toNatClampNeg)))) ((FP.i2f (((t1 0) ((3 : Int32)).toNatClampNeg)))))) t1) ∧ (¬ (t1 20 7) ≤ 0 → Q (FP.fconst0) t1))
def w_X7_silence (σ : Nat → Nat → Int32) (Q : UInt32 → (Nat → Nat → Int32) → Prop) : Prop :=
  vp_in ((3 : Int32)) 156 ∧ ((¬ ((σ 0) ((3 : Int32)).toNatClampNeg) = 0 → w_X7_silence_J15 Q σ ((0 : Int32))) ∧ (((σ 0) ((3 : Int32)).toNatClampNeg) = 0 → w_X7_silence_J15 Q σ ((1 : Int32))))
set_option maxHeartbeats 4000000 in
theorem k_X7_silence_J15 {x : vC} {l : Launch} {D : va_G} {a : Nat → Nat}  {Q : UInt32 → (Nat → Nat → Int32) → Prop} (hF : vF x l D "BrookWeirsModel" cX7_silence (rmk 0 0 0 0) 1 (some .float)) (hR : vRf x (moW D a) Q 0 0)   : ∀ (σ : Nat → Nat → Int32) (s1 : Int32), w_X7_silence_J15 Q  σ s1 → vV x 0 0 (moW D a σ ++ []) [(0, .ref (a 0))] 15 [.int s1, .ref (a 0)] := by
  intro σ s1 h
  unfold w_X7_silence_J15 at h
  refine M_put7 15 hF q1911 dX7_silence_15 (fun t1 et1 => ?_)
  replace h := h t1 et1
  refine v_aload_n 18 hF dX7_silence_18 rfl 0 rfl ?_
  refine M_get 19 7 hF (Nat.le_of_ble_eq_true rfl) q1911 rfl rfl dX7_silence_19 ?_
  refine v_if_le 22 29 hF dX7_silence_22 (by decide) (fun c2 => ?_) (fun c2 => ?_)
  · replace h := h.1 c2
    refine v_aload_n 29 hF dX7_silence_29 rfl 0 rfl ?_
    refine M_get 30 0 hF (Nat.le_of_ble_eq_true rfl) q1904 rfl rfl dX7_silence_30 ?_
    refine v_bipush (v := 8) 33 hF dX7_silence_33 (by decide) ?_
    obtain ⟨o3, h⟩ := h
    refine M_ald0 35 hF o3 dX7_silence_35 ?_
    refine v_i2f 36 hF dX7_silence_36 ?_
    refine v_aload_n 37 hF dX7_silence_37 rfl 0 rfl ?_
    refine M_get 38 0 hF (Nat.le_of_ble_eq_true rfl) q1904 rfl rfl dX7_silence_38 ?_
    refine v_iconst (v := 3) 41 hF dX7_silence_41 (by decide) ?_
    obtain ⟨o4, h⟩ := h
    refine M_ald0 42 hF o4 dX7_silence_42 ?_
    refine v_i2f 43 hF dX7_silence_43 ?_
    obtain ⟨o5, h⟩ := h
    refine v_fdiv 44 hF dX7_silence_44 o5 ?_
    exact v_fretA 45 hF hR (Nat.zero_le _) (Nat.zero_le _) dX7_silence_45 h
  · replace h := h.2 c2
    refine v_fconst0 25 hF dX7_silence_25 ?_
    refine v_goto 26 45 hF dX7_silence_26 (by decide) ?_
    exact v_fretA 45 hF hR (Nat.zero_le _) (Nat.zero_le _) dX7_silence_45 h
theorem ds_X7_silence : yX7_silence.cls = yX7_silence.cls ∧ yX7_silence.cls ≠ "java/lang/invoke/MethodHandle" ∧ yX7_silence.cls ≠ "java/lang/invoke/VarHandle" ∧ (parseMethodDescriptor yX7_silence.desc).map (fun d => d.parameters.length) = some 0 := by decide +kernel
set_option maxHeartbeats 4000000 in
theorem c_X7_silence (l : Launch) (D : va_G) (a : Nat → Nat) (σ : Nat → Nat → Int32) (Q : UInt32 → (Nat → Nat → Int32) → Prop) (h : w_X7_silence σ Q) : Ctf l D yX7_silence cX7_silence 1 (rmk 0 0 0 0) [.ref (a 0)] (moW D a σ) (moW D a) Q 0 0 := by
  refine Ctf.of (by decide) (Nat.le_of_ble_eq_true rfl) (fun x hF hR => ?_)
  replace hF : vF x l D "BrookWeirsModel" cX7_silence (rmk 0 0 0 0) 1 (some .float) := hF
  refine v_app0 ?_
  unfold w_X7_silence at h
  refine v_aload_n 0 hF dX7_silence_0 rfl 0 rfl ?_
  refine v_aload_n 1 hF dX7_silence_1 rfl 0 rfl ?_
  refine M_get 2 0 hF (Nat.le_of_ble_eq_true rfl) q1904 rfl rfl dX7_silence_2 ?_
  refine v_iconst (v := 3) 5 hF dX7_silence_5 (by decide) ?_
  obtain ⟨o6, h⟩ := h
  refine M_ald0 6 hF o6 dX7_silence_6 ?_
  refine v_if_ne 7 14 hF dX7_silence_7 (by decide) (fun c7 => ?_) (fun c7 => ?_)
  · replace h := h.1 c7
    refine v_iconst (v := 0) 14 hF dX7_silence_14 (by decide) ?_
    exact k_X7_silence_J15 hF hR _ _ h
  · replace h := h.2 c7
    refine v_iconst (v := 1) 10 hF dX7_silence_10 (by decide) ?_
    refine v_goto 11 15 hF dX7_silence_11 (by decide) ?_
    exact k_X7_silence_J15 hF hR _ _ h
def w_X7_feed_J15 (Q : Int32 → (Nat → Nat → Int32) → Prop)  (σ : Nat → Nat → Int32) (x1 s1 : Int32) : Prop :=
  ∀ t1 : Nat → Nat → Int32, t1 = (upN σ 20 7 s1) → (((t1 20 7) ≤ 0 → vp_in ((t1 20 12)) 60 ∧ ∀ t4 : Nat → Nat → Int32, t4 = (upN t1 11 ((t1 20 12)).toNatClampNeg (vp_nar .char x1)) → ∀ t5 : Nat → Nat → Int32, t5 = (upN t4 20 12 ((t4 20 12) + (1 : Int32))) → Q ((t5 20 12)) t5) ∧ (¬ (t1 20 7) ≤ 0 → Q ((0 : Int32)) t1))
def w_X7_feed (σ : Nat → Nat → Int32) (x1 : Int32) (Q : Int32 → (Nat → Nat → Int32) → Prop) : Prop :=
  ((¬ (σ 20 12) = (60 : Int32) → w_X7_feed_J15 Q σ x1 ((0 : Int32))) ∧ ((σ 20 12) = (60 : Int32) → w_X7_feed_J15 Q σ x1 ((1 : Int32))))
set_option maxHeartbeats 4000000 in
theorem k_X7_feed_J15 {x : vC} {l : Launch} {D : va_G} {a : Nat → Nat}  {Q : Int32 → (Nat → Nat → Int32) → Prop} (hF : vF x l D "BrookWeirsModel" cX7_feed (rmk 0 0 0 0) 2 (some .int)) (hR : vRi x (moW D a) Q 0 0)   : ∀ (σ : Nat → Nat → Int32) (x1 s1 : Int32), w_X7_feed_J15 Q  σ x1 s1 → vV x 0 0 (moW D a σ ++ []) [(0, .ref (a 0)), (1, .int x1)] 15 [.int s1, .ref (a 0)] := by
  intro σ x1 s1 h
  unfold w_X7_feed_J15 at h
  refine M_put7 15 hF q1911 dX7_feed_15 (fun t1 et1 => ?_)
  replace h := h t1 et1
  refine v_aload_n 18 hF dX7_feed_18 rfl 0 rfl ?_
  refine M_get 19 7 hF (Nat.le_of_ble_eq_true rfl) q1911 rfl rfl dX7_feed_19 ?_
  refine v_if_le 22 27 hF dX7_feed_22 (by decide) (fun c2 => ?_) (fun c2 => ?_)
  · replace h := h.1 c2
    refine v_aload_n 27 hF dX7_feed_27 rfl 0 rfl ?_
    refine M_get 28 11 hF (Nat.le_of_ble_eq_true rfl) q1915 rfl rfl dX7_feed_28 ?_
    refine v_aload_n 31 hF dX7_feed_31 rfl 0 rfl ?_
    refine M_get 32 12 hF (Nat.le_of_ble_eq_true rfl) q1916 rfl rfl dX7_feed_32 ?_
    refine v_iload_n 35 hF dX7_feed_35 rfl 1 rfl ?_
    obtain ⟨o3, h⟩ := h
    refine M_ast11 36 hF o3 dX7_feed_36 (fun t4 et4 => ?_)
    replace h := h t4 et4
    refine v_aload_n 37 hF dX7_feed_37 rfl 0 rfl ?_
    refine v_dup 38 hF dX7_feed_38 rfl ?_
    refine M_get 39 12 hF (Nat.le_of_ble_eq_true rfl) q1916 rfl rfl dX7_feed_39 ?_
    refine v_iconst (v := 1) 42 hF dX7_feed_42 (by decide) ?_
    refine v_iadd 43 hF dX7_feed_43 ?_
    refine M_put12 44 hF q1916 dX7_feed_44 (fun t5 et5 => ?_)
    replace h := h t5 et5
    refine v_aload_n 47 hF dX7_feed_47 rfl 0 rfl ?_
    refine M_get 48 12 hF (Nat.le_of_ble_eq_true rfl) q1916 rfl rfl dX7_feed_48 ?_
    exact v_iretA 51 hF hR (Nat.zero_le _) (Nat.zero_le _) dX7_feed_51 h
  · replace h := h.2 c2
    refine v_iconst (v := 0) 25 hF dX7_feed_25 (by decide) ?_
    exact v_iretA 26 hF hR (Nat.zero_le _) (Nat.zero_le _) dX7_feed_26 h
theorem ds_X7_feed : yX7_feed.cls = yX7_feed.cls ∧ yX7_feed.cls ≠ "java/lang/invoke/MethodHandle" ∧ yX7_feed.cls ≠ "java/lang/invoke/VarHandle" ∧ (parseMethodDescriptor yX7_feed.desc).map (fun d => d.parameters.length) = some 1 := by decide +kernel
set_option maxHeartbeats 4000000 in
theorem c_X7_feed (l : Launch) (D : va_G) (a : Nat → Nat) (σ : Nat → Nat → Int32) (x1 : Int32) (Q : Int32 → (Nat → Nat → Int32) → Prop) (h : w_X7_feed σ x1 Q) : Cti l D yX7_feed cX7_feed 2 .int (rmk 0 0 0 0) [.ref (a 0), .int x1] (moW D a σ) (moW D a) Q 0 0 := by
  refine Cti.of (by decide) (Nat.le_of_ble_eq_true rfl) (fun x hF hR => ?_)
  replace hF : vF x l D "BrookWeirsModel" cX7_feed (rmk 0 0 0 0) 2 (some .int) := hF
  refine v_app0 ?_
  unfold w_X7_feed at h
  refine v_aload_n 0 hF dX7_feed_0 rfl 0 rfl ?_
  refine v_aload_n 1 hF dX7_feed_1 rfl 0 rfl ?_
  refine M_get 2 12 hF (Nat.le_of_ble_eq_true rfl) q1916 rfl rfl dX7_feed_2 ?_
  refine v_bipush (v := 60) 5 hF dX7_feed_5 (by decide) ?_
  refine v_icmp_ne 7 14 hF dX7_feed_7 (by decide) (fun c6 => ?_) (fun c6 => ?_)
  · replace h := h.1 c6
    refine v_iconst (v := 0) 14 hF dX7_feed_14 (by decide) ?_
    exact k_X7_feed_J15 hF hR _ _ _ h
  · replace h := h.2 c6
    refine v_iconst (v := 1) 10 hF dX7_feed_10 (by decide) ?_
    refine v_goto 11 15 hF dX7_feed_11 (by decide) ?_
    exact k_X7_feed_J15 hF hR _ _ _ h
def w_X7_isHere (σ : Nat → Nat → Int32) (x1 x2 : Int32) (Q : Int32 → (Nat → Nat → Int32) → Prop) : Prop :=
  ((¬ (σ 20 14) = 0 → Q ((0 : Int32)) σ) ∧ ((σ 20 14) = 0 → (((σ 20 12) ≤ (σ 20 13) → Q ((0 : Int32)) σ) ∧ (¬ (σ 20 12) ≤ (σ 20 13) → vp_in ((σ 20 13)) 60 ∧ w_X7_in (((σ 11) ((σ 20 13)).toNatClampNeg)) x1 x2 (fun r4 => ((r4 = 0 → Q ((0 : Int32)) σ) ∧ (¬ r4 = 0 → Q ((1 : Int32)) σ)))))))
theorem ds_X7_isHere : yX7_isHere.cls = yX7_isHere.cls ∧ yX7_isHere.cls ≠ "java/lang/invoke/MethodHandle" ∧ yX7_isHere.cls ≠ "java/lang/invoke/VarHandle" ∧ (parseMethodDescriptor yX7_isHere.desc).map (fun d => d.parameters.length) = some 2 := by decide +kernel
set_option maxHeartbeats 4000000 in
theorem c_X7_isHere (l : Launch) (D : va_G) (a : Nat → Nat) (σ : Nat → Nat → Int32) (x1 x2 : Int32) (Q : Int32 → (Nat → Nat → Int32) → Prop) (h : w_X7_isHere σ x1 x2 Q) : Cti l D yX7_isHere cX7_isHere 3 .boolean (rmk 1 0 0 22) [.ref (a 0), .int x1, .int x2] (moW D a σ) (moW D a) Q 0 0 := by
  refine Cti.of (by decide) (Nat.le_of_ble_eq_true rfl) (fun x hF hR => ?_)
  replace hF : vF x l D "BrookWeirsModel" cX7_isHere (rmk 1 0 0 22) 3 (some .boolean) := hF
  refine v_app0 ?_
  unfold w_X7_isHere at h
  refine v_aload_n 0 hF dX7_isHere_0 rfl 0 rfl ?_
  refine M_get 1 14 hF (Nat.le_of_ble_eq_true rfl) q1918 rfl rfl dX7_isHere_1 ?_
  refine v_if_ne 4 39 hF dX7_isHere_4 (by decide) (fun c1 => ?_) (fun c1 => ?_)
  · replace h := h.1 c1
    refine v_iconst (v := 0) 39 hF dX7_isHere_39 (by decide) ?_
    exact v_zretA 40 hF hR (Nat.zero_le _) (Nat.zero_le _) rfl dX7_isHere_40 h
  · replace h := h.2 c1
    refine v_aload_n 7 hF dX7_isHere_7 rfl 0 rfl ?_
    refine M_get 8 13 hF (Nat.le_of_ble_eq_true rfl) q1917 rfl rfl dX7_isHere_8 ?_
    refine v_aload_n 11 hF dX7_isHere_11 rfl 0 rfl ?_
    refine M_get 12 12 hF (Nat.le_of_ble_eq_true rfl) q1916 rfl rfl dX7_isHere_12 ?_
    refine v_icmp_ge 15 39 hF dX7_isHere_15 (by decide) (fun c2 => ?_) (fun c2 => ?_)
    · replace h := h.1 c2
      refine v_iconst (v := 0) 39 hF dX7_isHere_39 (by decide) ?_
      exact v_zretA 40 hF hR (Nat.zero_le _) (Nat.zero_le _) rfl dX7_isHere_40 h
    · replace h := h.2 c2
      refine v_aload_n 18 hF dX7_isHere_18 rfl 0 rfl ?_
      refine M_get 19 11 hF (Nat.le_of_ble_eq_true rfl) q1915 rfl rfl dX7_isHere_19 ?_
      refine v_aload_n 22 hF dX7_isHere_22 rfl 0 rfl ?_
      refine M_get 23 13 hF (Nat.le_of_ble_eq_true rfl) q1917 rfl rfl dX7_isHere_23 ?_
      obtain ⟨o3, h⟩ := h
      refine M_ald11 26 hF o3 dX7_isHere_26 ?_
      refine v_iload_n 27 hF dX7_isHere_27 rfl 1 rfl ?_
      refine v_iload_n 28 hF dX7_isHere_28 rfl 2 rfl ?_
      refine v_callS0i (As := [.int (((σ 11) ((σ 20 13)).toNatClampNeg)), .int x1, .int x2]) 29 hF (c_X7_in l D (((σ 11) ((σ 20 13)).toNatClampNeg)) x1 x2 _ h) q1968 q1969 q82 q1970 ds_X7_in ⟨rfl, rfl, Nat.le_of_ble_eq_true rfl, Nat.le_of_ble_eq_true rfl⟩ (Nat.le_of_ble_eq_true rfl) ⟨Nat.zero_le _, Nat.zero_le _⟩ dX7_isHere_29 (fun r4 h => ?_)
      refine v_if_eq 32 39 hF dX7_isHere_32 (by decide) (fun c5 => ?_) (fun c5 => ?_)
      · replace h := h.1 c5
        refine v_iconst (v := 0) 39 hF dX7_isHere_39 (by decide) ?_
        exact v_zretA 40 hF hR (Nat.zero_le _) (Nat.zero_le _) rfl dX7_isHere_40 h
      · replace h := h.2 c5
        refine v_iconst (v := 1) 35 hF dX7_isHere_35 (by decide) ?_
        refine v_goto 36 40 hF dX7_isHere_36 (by decide) ?_
        exact v_zretA 40 hF hR (Nat.zero_le _) (Nat.zero_le _) rfl dX7_isHere_40 h
def w_X7_isRefused_J22 (Q : Int32 → (Nat → Nat → Int32) → Prop)  (σ : Nat → Nat → Int32) (x1 : Int32) : Prop :=
  ((¬ (σ 20 7) = (3 : Int32) → Q ((0 : Int32)) σ) ∧ ((σ 20 7) = (3 : Int32) → Q ((1 : Int32)) σ))
def w_X7_isRefused_J12 (Q : Int32 → (Nat → Nat → Int32) → Prop)  (σ : Nat → Nat → Int32) (x1 : Int32) : Prop :=
  ((x1 = (2 : Int32) → w_X7_isRefused_J22 Q σ x1) ∧ (¬ x1 = (2 : Int32) → ((¬ x1 = (5 : Int32) → Q ((0 : Int32)) σ) ∧ (x1 = (5 : Int32) → w_X7_isRefused_J22 Q σ x1))))
def w_X7_isRefused (σ : Nat → Nat → Int32) (x1 : Int32) (Q : Int32 → (Nat → Nat → Int32) → Prop) : Prop :=
  ((¬ x1 = 0 → w_X7_isRefused_J12 Q σ x1) ∧ (x1 = 0 → (((σ 20 7) = (2 : Int32) → Q ((1 : Int32)) σ) ∧ (¬ (σ 20 7) = (2 : Int32) → w_X7_isRefused_J12 Q σ x1))))
set_option maxHeartbeats 4000000 in
theorem k_X7_isRefused_J22 {x : vC} {l : Launch} {D : va_G} {a : Nat → Nat}  {Q : Int32 → (Nat → Nat → Int32) → Prop} (hF : vF x l D "BrookWeirsModel" cX7_isRefused (rmk 0 0 0 0) 2 (some .boolean)) (hR : vRi x (moW D a) Q 0 0)   : ∀ (σ : Nat → Nat → Int32) (x1 : Int32), w_X7_isRefused_J22 Q  σ x1 → vV x 0 0 (moW D a σ ++ []) [(0, .ref (a 0)), (1, .int x1)] 22 [] := by
  intro σ x1 h
  unfold w_X7_isRefused_J22 at h
  refine v_aload_n 22 hF dX7_isRefused_22 rfl 0 rfl ?_
  refine M_get 23 7 hF (Nat.le_of_ble_eq_true rfl) q1911 rfl rfl dX7_isRefused_23 ?_
  refine v_iconst (v := 3) 26 hF dX7_isRefused_26 (by decide) ?_
  refine v_icmp_ne 27 34 hF dX7_isRefused_27 (by decide) (fun c1 => ?_) (fun c1 => ?_)
  · replace h := h.1 c1
    refine v_iconst (v := 0) 34 hF dX7_isRefused_34 (by decide) ?_
    exact v_zretA 35 hF hR (Nat.zero_le _) (Nat.zero_le _) rfl dX7_isRefused_35 h
  · replace h := h.2 c1
    refine v_iconst (v := 1) 30 hF dX7_isRefused_30 (by decide) ?_
    refine v_goto 31 35 hF dX7_isRefused_31 (by decide) ?_
    exact v_zretA 35 hF hR (Nat.zero_le _) (Nat.zero_le _) rfl dX7_isRefused_35 h
set_option maxHeartbeats 4000000 in
theorem k_X7_isRefused_J12 {x : vC} {l : Launch} {D : va_G} {a : Nat → Nat}  {Q : Int32 → (Nat → Nat → Int32) → Prop} (hF : vF x l D "BrookWeirsModel" cX7_isRefused (rmk 0 0 0 0) 2 (some .boolean)) (hR : vRi x (moW D a) Q 0 0)   : ∀ (σ : Nat → Nat → Int32) (x1 : Int32), w_X7_isRefused_J12 Q  σ x1 → vV x 0 0 (moW D a σ ++ []) [(0, .ref (a 0)), (1, .int x1)] 12 [] := by
  intro σ x1 h
  unfold w_X7_isRefused_J12 at h
  refine v_iload_n 12 hF dX7_isRefused_12 rfl 1 rfl ?_
  refine v_iconst (v := 2) 13 hF dX7_isRefused_13 (by decide) ?_
  refine v_icmp_eq 14 22 hF dX7_isRefused_14 (by decide) (fun c2 => ?_) (fun c2 => ?_)
  · replace h := h.1 c2
    exact k_X7_isRefused_J22 hF hR _ _ h
  · replace h := h.2 c2
    refine v_iload_n 17 hF dX7_isRefused_17 rfl 1 rfl ?_
    refine v_iconst (v := 5) 18 hF dX7_isRefused_18 (by decide) ?_
    refine v_icmp_ne 19 34 hF dX7_isRefused_19 (by decide) (fun c3 => ?_) (fun c3 => ?_)
    · replace h := h.1 c3
      refine v_iconst (v := 0) 34 hF dX7_isRefused_34 (by decide) ?_
      exact v_zretA 35 hF hR (Nat.zero_le _) (Nat.zero_le _) rfl dX7_isRefused_35 h
    · replace h := h.2 c3
      exact k_X7_isRefused_J22 hF hR _ _ h
theorem ds_X7_isRefused : yX7_isRefused.cls = yX7_isRefused.cls ∧ yX7_isRefused.cls ≠ "java/lang/invoke/MethodHandle" ∧ yX7_isRefused.cls ≠ "java/lang/invoke/VarHandle" ∧ (parseMethodDescriptor yX7_isRefused.desc).map (fun d => d.parameters.length) = some 1 := by decide +kernel
set_option maxHeartbeats 4000000 in
theorem c_X7_isRefused (l : Launch) (D : va_G) (a : Nat → Nat) (σ : Nat → Nat → Int32) (x1 : Int32) (Q : Int32 → (Nat → Nat → Int32) → Prop) (h : w_X7_isRefused σ x1 Q) : Cti l D yX7_isRefused cX7_isRefused 2 .boolean (rmk 0 0 0 0) [.ref (a 0), .int x1] (moW D a σ) (moW D a) Q 0 0 := by
  refine Cti.of (by decide) (Nat.le_of_ble_eq_true rfl) (fun x hF hR => ?_)
  replace hF : vF x l D "BrookWeirsModel" cX7_isRefused (rmk 0 0 0 0) 2 (some .boolean) := hF
  refine v_app0 ?_
  unfold w_X7_isRefused at h
  refine v_iload_n 0 hF dX7_isRefused_0 rfl 1 rfl ?_
  refine v_if_ne 1 12 hF dX7_isRefused_1 (by decide) (fun c4 => ?_) (fun c4 => ?_)
  · replace h := h.1 c4
    exact k_X7_isRefused_J12 hF hR _ _ h
  · replace h := h.2 c4
    refine v_aload_n 4 hF dX7_isRefused_4 rfl 0 rfl ?_
    refine M_get 5 7 hF (Nat.le_of_ble_eq_true rfl) q1911 rfl rfl dX7_isRefused_5 ?_
    refine v_iconst (v := 2) 8 hF dX7_isRefused_8 (by decide) ?_
    refine v_icmp_eq 9 30 hF dX7_isRefused_9 (by decide) (fun c5 => ?_) (fun c5 => ?_)
    · replace h := h.1 c5
      refine v_iconst (v := 1) 30 hF dX7_isRefused_30 (by decide) ?_
      refine v_goto 31 35 hF dX7_isRefused_31 (by decide) ?_
      exact v_zretA 35 hF hR (Nat.zero_le _) (Nat.zero_le _) rfl dX7_isRefused_35 h
    · replace h := h.2 c5
      exact k_X7_isRefused_J12 hF hR _ _ h
def w_X7_faultPosition_J13 (Q : Int32 → (Nat → Nat → Int32) → Prop)  (σ : Nat → Nat → Int32) (s1 : Int32) : Prop :=
  ∀ t1 : Nat → Nat → Int32, t1 = (upN σ 20 7 s1) → (((t1 20 7) ≤ 0 → Q ((t1 20 15)) t1) ∧ (¬ (t1 20 7) ≤ 0 → Q ((0 : Int32)) t1))
def w_X7_faultPosition (σ : Nat → Nat → Int32) (Q : Int32 → (Nat → Nat → Int32) → Prop) : Prop :=
  ((0 ≤ (σ 20 15) → w_X7_faultPosition_J13 Q σ ((0 : Int32))) ∧ (¬ 0 ≤ (σ 20 15) → w_X7_faultPosition_J13 Q σ ((1 : Int32))))
set_option maxHeartbeats 4000000 in
theorem k_X7_faultPosition_J13 {x : vC} {l : Launch} {D : va_G} {a : Nat → Nat}  {Q : Int32 → (Nat → Nat → Int32) → Prop} (hF : vF x l D "BrookWeirsModel" cX7_faultPosition (rmk 0 0 0 0) 1 (some .int)) (hR : vRi x (moW D a) Q 0 0)   : ∀ (σ : Nat → Nat → Int32) (s1 : Int32), w_X7_faultPosition_J13 Q  σ s1 → vV x 0 0 (moW D a σ ++ []) [(0, .ref (a 0))] 13 [.int s1, .ref (a 0)] := by
  intro σ s1 h
  unfold w_X7_faultPosition_J13 at h
  refine M_put7 13 hF q1911 dX7_faultPosition_13 (fun t1 et1 => ?_)
  replace h := h t1 et1
  refine v_aload_n 16 hF dX7_faultPosition_16 rfl 0 rfl ?_
  refine M_get 17 7 hF (Nat.le_of_ble_eq_true rfl) q1911 rfl rfl dX7_faultPosition_17 ?_
  refine v_if_le 20 27 hF dX7_faultPosition_20 (by decide) (fun c2 => ?_) (fun c2 => ?_)
  · replace h := h.1 c2
    refine v_aload_n 27 hF dX7_faultPosition_27 rfl 0 rfl ?_
    refine M_get 28 15 hF (Nat.le_of_ble_eq_true rfl) q1919 rfl rfl dX7_faultPosition_28 ?_
    exact v_iretA 31 hF hR (Nat.zero_le _) (Nat.zero_le _) dX7_faultPosition_31 h
  · replace h := h.2 c2
    refine v_iconst (v := 0) 23 hF dX7_faultPosition_23 (by decide) ?_
    refine v_goto 24 31 hF dX7_faultPosition_24 (by decide) ?_
    exact v_iretA 31 hF hR (Nat.zero_le _) (Nat.zero_le _) dX7_faultPosition_31 h
theorem ds_X7_faultPosition : yX7_faultPosition.cls = yX7_faultPosition.cls ∧ yX7_faultPosition.cls ≠ "java/lang/invoke/MethodHandle" ∧ yX7_faultPosition.cls ≠ "java/lang/invoke/VarHandle" ∧ (parseMethodDescriptor yX7_faultPosition.desc).map (fun d => d.parameters.length) = some 0 := by decide +kernel
set_option maxHeartbeats 4000000 in
theorem c_X7_faultPosition (l : Launch) (D : va_G) (a : Nat → Nat) (σ : Nat → Nat → Int32) (Q : Int32 → (Nat → Nat → Int32) → Prop) (h : w_X7_faultPosition σ Q) : Cti l D yX7_faultPosition cX7_faultPosition 1 .int (rmk 0 0 0 0) [.ref (a 0)] (moW D a σ) (moW D a) Q 0 0 := by
  refine Cti.of (by decide) (Nat.le_of_ble_eq_true rfl) (fun x hF hR => ?_)
  replace hF : vF x l D "BrookWeirsModel" cX7_faultPosition (rmk 0 0 0 0) 1 (some .int) := hF
  refine v_app0 ?_
  unfold w_X7_faultPosition at h
  refine v_aload_n 0 hF dX7_faultPosition_0 rfl 0 rfl ?_
  refine v_aload_n 1 hF dX7_faultPosition_1 rfl 0 rfl ?_
  refine M_get 2 15 hF (Nat.le_of_ble_eq_true rfl) q1919 rfl rfl dX7_faultPosition_2 ?_
  refine v_if_ge 5 12 hF dX7_faultPosition_5 (by decide) (fun c3 => ?_) (fun c3 => ?_)
  · replace h := h.1 c3
    refine v_iconst (v := 0) 12 hF dX7_faultPosition_12 (by decide) ?_
    exact k_X7_faultPosition_J13 hF hR _ _ h
  · replace h := h.2 c3
    refine v_iconst (v := 1) 8 hF dX7_faultPosition_8 (by decide) ?_
    refine v_goto 9 13 hF dX7_faultPosition_9 (by decide) ?_
    exact k_X7_faultPosition_J13 hF hR _ _ h
def w_X7_refusal_J13 (Q : Int32 → (Nat → Nat → Int32) → Prop)  (σ : Nat → Nat → Int32) (x1 s1 : Int32) : Prop :=
  ∀ t1 : Nat → Nat → Int32, t1 = (upN σ 20 7 s1) → (((t1 20 7) ≤ 0 → ((x1 = 0 → Q ((t1 20 9)) t1) ∧ (¬ x1 = 0 → Q ((t1 20 8)) t1))) ∧ (¬ (t1 20 7) ≤ 0 → Q ((0 : Int32)) t1))
def w_X7_refusal (σ : Nat → Nat → Int32) (x1 : Int32) (Q : Int32 → (Nat → Nat → Int32) → Prop) : Prop :=
  ((¬ (σ 20 8) = 0 → w_X7_refusal_J13 Q σ x1 ((0 : Int32))) ∧ ((σ 20 8) = 0 → w_X7_refusal_J13 Q σ x1 ((1 : Int32))))
set_option maxHeartbeats 4000000 in
theorem k_X7_refusal_J13 {x : vC} {l : Launch} {D : va_G} {a : Nat → Nat}  {Q : Int32 → (Nat → Nat → Int32) → Prop} (hF : vF x l D "BrookWeirsModel" cX7_refusal (rmk 0 0 0 0) 2 (some .int)) (hR : vRi x (moW D a) Q 0 0)   : ∀ (σ : Nat → Nat → Int32) (x1 s1 : Int32), w_X7_refusal_J13 Q  σ x1 s1 → vV x 0 0 (moW D a σ ++ []) [(0, .ref (a 0)), (1, .int x1)] 13 [.int s1, .ref (a 0)] := by
  intro σ x1 s1 h
  unfold w_X7_refusal_J13 at h
  refine M_put7 13 hF q1911 dX7_refusal_13 (fun t1 et1 => ?_)
  replace h := h t1 et1
  refine v_aload_n 16 hF dX7_refusal_16 rfl 0 rfl ?_
  refine M_get 17 7 hF (Nat.le_of_ble_eq_true rfl) q1911 rfl rfl dX7_refusal_17 ?_
  refine v_if_le 20 27 hF dX7_refusal_20 (by decide) (fun c2 => ?_) (fun c2 => ?_)
  · replace h := h.1 c2
    refine v_iload_n 27 hF dX7_refusal_27 rfl 1 rfl ?_
    refine v_if_eq 28 38 hF dX7_refusal_28 (by decide) (fun c3 => ?_) (fun c3 => ?_)
    · replace h := h.1 c3
      refine v_aload_n 38 hF dX7_refusal_38 rfl 0 rfl ?_
      refine M_get 39 9 hF (Nat.le_of_ble_eq_true rfl) q1913 rfl rfl dX7_refusal_39 ?_
      exact v_iretA 42 hF hR (Nat.zero_le _) (Nat.zero_le _) dX7_refusal_42 h
    · replace h := h.2 c3
      refine v_aload_n 31 hF dX7_refusal_31 rfl 0 rfl ?_
      refine M_get 32 8 hF (Nat.le_of_ble_eq_true rfl) q1912 rfl rfl dX7_refusal_32 ?_
      refine v_goto 35 42 hF dX7_refusal_35 (by decide) ?_
      exact v_iretA 42 hF hR (Nat.zero_le _) (Nat.zero_le _) dX7_refusal_42 h
  · replace h := h.2 c2
    refine v_iconst (v := 0) 23 hF dX7_refusal_23 (by decide) ?_
    refine v_goto 24 42 hF dX7_refusal_24 (by decide) ?_
    exact v_iretA 42 hF hR (Nat.zero_le _) (Nat.zero_le _) dX7_refusal_42 h
theorem ds_X7_refusal : yX7_refusal.cls = yX7_refusal.cls ∧ yX7_refusal.cls ≠ "java/lang/invoke/MethodHandle" ∧ yX7_refusal.cls ≠ "java/lang/invoke/VarHandle" ∧ (parseMethodDescriptor yX7_refusal.desc).map (fun d => d.parameters.length) = some 1 := by decide +kernel
set_option maxHeartbeats 4000000 in
theorem c_X7_refusal (l : Launch) (D : va_G) (a : Nat → Nat) (σ : Nat → Nat → Int32) (x1 : Int32) (Q : Int32 → (Nat → Nat → Int32) → Prop) (h : w_X7_refusal σ x1 Q) : Cti l D yX7_refusal cX7_refusal 2 .int (rmk 0 0 0 0) [.ref (a 0), .int x1] (moW D a σ) (moW D a) Q 0 0 := by
  refine Cti.of (by decide) (Nat.le_of_ble_eq_true rfl) (fun x hF hR => ?_)
  replace hF : vF x l D "BrookWeirsModel" cX7_refusal (rmk 0 0 0 0) 2 (some .int) := hF
  refine v_app0 ?_
  unfold w_X7_refusal at h
  refine v_aload_n 0 hF dX7_refusal_0 rfl 0 rfl ?_
  refine v_aload_n 1 hF dX7_refusal_1 rfl 0 rfl ?_
  refine M_get 2 8 hF (Nat.le_of_ble_eq_true rfl) q1912 rfl rfl dX7_refusal_2 ?_
  refine v_if_ne 5 12 hF dX7_refusal_5 (by decide) (fun c4 => ?_) (fun c4 => ?_)
  · replace h := h.1 c4
    refine v_iconst (v := 0) 12 hF dX7_refusal_12 (by decide) ?_
    exact k_X7_refusal_J13 hF hR _ _ _ h
  · replace h := h.2 c4
    refine v_iconst (v := 1) 8 hF dX7_refusal_8 (by decide) ?_
    refine v_goto 9 13 hF dX7_refusal_9 (by decide) ?_
    exact k_X7_refusal_J13 hF hR _ _ _ h
def w_X7_undo_J13 (Q : Int32 → (Nat → Nat → Int32) → Prop)  (σ : Nat → Nat → Int32) (s1 : Int32) : Prop :=
  ∀ t1 : Nat → Nat → Int32, t1 = (upN σ 20 7 s1) → (((t1 20 7) ≤ 0 → ∀ t3 : Nat → Nat → Int32, t3 = (upN t1 20 6 ((t1 20 6) - (1 : Int32))) → ¬ ((156 : Int32) * (t3 20 6)) < 0 ∧ ¬ (0 : Int32) < 0 ∧ ¬ (156 : Int32) < 0 ∧ (((156 : Int32) * (t3 20 6))).toNatClampNeg + ((156 : Int32)).toNatClampNeg ≤ 1248 ∧ ((0 : Int32)).toNatClampNeg + ((156 : Int32)).toNatClampNeg ≤ 156 ∧ ∀ t9 : Nat → Nat → Int32, t9 = upR t3 0 (va_cpy (t3 5) (t3 0) (((156 : Int32) * (t3 20 6))).toNatClampNeg ((0 : Int32)).toNatClampNeg ((156 : Int32)).toNatClampNeg) → Q ((t9 20 6)) t9) ∧ (¬ (t1 20 7) ≤ 0 → Q ((0 : Int32)) t1))
def w_X7_undo (σ : Nat → Nat → Int32) (Q : Int32 → (Nat → Nat → Int32) → Prop) : Prop :=
  ((¬ (σ 20 6) = 0 → w_X7_undo_J13 Q σ ((0 : Int32))) ∧ ((σ 20 6) = 0 → w_X7_undo_J13 Q σ ((1 : Int32))))
set_option maxHeartbeats 4000000 in
theorem k_X7_undo_J13 {x : vC} {l : Launch} {D : va_G} {a : Nat → Nat}  {Q : Int32 → (Nat → Nat → Int32) → Prop} (hF : vF x l D "BrookWeirsModel" cX7_undo (rmk 1 0 0 64) 1 (some .int)) (hR : vRi x (moW D a) Q 0 0)   : ∀ (σ : Nat → Nat → Int32) (s1 : Int32), w_X7_undo_J13 Q  σ s1 → vV x 0 0 (moW D a σ ++ []) [(0, .ref (a 0))] 13 [.int s1, .ref (a 0)] := by
  intro σ s1 h
  unfold w_X7_undo_J13 at h
  refine M_put7 13 hF q1911 dX7_undo_13 (fun t1 et1 => ?_)
  replace h := h t1 et1
  refine v_aload_n 16 hF dX7_undo_16 rfl 0 rfl ?_
  refine M_get 17 7 hF (Nat.le_of_ble_eq_true rfl) q1911 rfl rfl dX7_undo_17 ?_
  refine v_if_le 20 25 hF dX7_undo_20 (by decide) (fun c2 => ?_) (fun c2 => ?_)
  · replace h := h.1 c2
    refine v_aload_n 25 hF dX7_undo_25 rfl 0 rfl ?_
    refine v_dup 26 hF dX7_undo_26 rfl ?_
    refine M_get 27 6 hF (Nat.le_of_ble_eq_true rfl) q1910 rfl rfl dX7_undo_27 ?_
    refine v_iconst (v := 1) 30 hF dX7_undo_30 (by decide) ?_
    refine v_isub 31 hF dX7_undo_31 ?_
    refine M_put6 32 hF q1910 dX7_undo_32 (fun t3 et3 => ?_)
    replace h := h t3 et3
    refine v_aload_n 35 hF dX7_undo_35 rfl 0 rfl ?_
    refine M_get 36 5 hF (Nat.le_of_ble_eq_true rfl) q1909 rfl rfl dX7_undo_36 ?_
    refine v_sipush (v := 156) 39 hF dX7_undo_39 (by decide) ?_
    refine v_aload_n 42 hF dX7_undo_42 rfl 0 rfl ?_
    refine M_get 43 6 hF (Nat.le_of_ble_eq_true rfl) q1910 rfl rfl dX7_undo_43 ?_
    refine v_imul 46 hF dX7_undo_46 ?_
    refine v_aload_n 47 hF dX7_undo_47 rfl 0 rfl ?_
    refine M_get 48 0 hF (Nat.le_of_ble_eq_true rfl) q1904 rfl rfl dX7_undo_48 ?_
    refine v_iconst (v := 0) 51 hF dX7_undo_51 (by decide) ?_
    refine v_sipush (v := 156) 52 hF dX7_undo_52 (by decide) ?_
    obtain ⟨o4, o5, o6, o7, o8, h⟩ := h
    refine M_cpy5_0 55 hF q1979 o4 o5 o6 o7 o8 (Nat.le_of_ble_eq_true rfl) (Nat.le_of_ble_eq_true rfl) dX7_undo_55 (fun t9 et9 => ?_)
    replace h := h t9 et9
    refine v_aload_n 58 hF dX7_undo_58 rfl 0 rfl ?_
    refine M_get 59 6 hF (Nat.le_of_ble_eq_true rfl) q1910 rfl rfl dX7_undo_59 ?_
    exact v_iretA 62 hF hR (Nat.zero_le _) (Nat.zero_le _) dX7_undo_62 h
  · replace h := h.2 c2
    refine v_iconst (v := 0) 23 hF dX7_undo_23 (by decide) ?_
    exact v_iretA 24 hF hR (Nat.zero_le _) (Nat.zero_le _) dX7_undo_24 h
theorem ds_X7_undo : yX7_undo.cls = yX7_undo.cls ∧ yX7_undo.cls ≠ "java/lang/invoke/MethodHandle" ∧ yX7_undo.cls ≠ "java/lang/invoke/VarHandle" ∧ (parseMethodDescriptor yX7_undo.desc).map (fun d => d.parameters.length) = some 0 := by decide +kernel
set_option maxHeartbeats 4000000 in
theorem c_X7_undo (l : Launch) (D : va_G) (a : Nat → Nat) (σ : Nat → Nat → Int32) (Q : Int32 → (Nat → Nat → Int32) → Prop) (h : w_X7_undo σ Q) : Cti l D yX7_undo cX7_undo 1 .int (rmk 1 0 0 64) [.ref (a 0)] (moW D a σ) (moW D a) Q 0 0 := by
  refine Cti.of (by decide) (Nat.le_of_ble_eq_true rfl) (fun x hF hR => ?_)
  replace hF : vF x l D "BrookWeirsModel" cX7_undo (rmk 1 0 0 64) 1 (some .int) := hF
  refine v_app0 ?_
  unfold w_X7_undo at h
  refine v_aload_n 0 hF dX7_undo_0 rfl 0 rfl ?_
  refine v_aload_n 1 hF dX7_undo_1 rfl 0 rfl ?_
  refine M_get 2 6 hF (Nat.le_of_ble_eq_true rfl) q1910 rfl rfl dX7_undo_2 ?_
  refine v_if_ne 5 12 hF dX7_undo_5 (by decide) (fun c10 => ?_) (fun c10 => ?_)
  · replace h := h.1 c10
    refine v_iconst (v := 0) 12 hF dX7_undo_12 (by decide) ?_
    exact k_X7_undo_J13 hF hR _ _ h
  · replace h := h.2 c10
    refine v_iconst (v := 1) 8 hF dX7_undo_8 (by decide) ?_
    refine v_goto 9 13 hF dX7_undo_9 (by decide) ?_
    exact k_X7_undo_J13 hF hR _ _ h
def w_X7_saveSnapshot (σ : Nat → Nat → Int32) (Q : Int32 → (Nat → Nat → Int32) → Prop) : Prop :=
  ∀ t1 : Nat → Nat → Int32, t1 = (upN σ 20 7 (0 : Int32)) → ¬ (0 : Int32) < 0 ∧ ¬ (0 : Int32) < 0 ∧ ¬ (156 : Int32) < 0 ∧ ((0 : Int32)).toNatClampNeg + ((156 : Int32)).toNatClampNeg ≤ 156 ∧ ((0 : Int32)).toNatClampNeg + ((156 : Int32)).toNatClampNeg ≤ 156 ∧ ∀ t7 : Nat → Nat → Int32, t7 = upR t1 3 (va_cpy (t1 0) (t1 3) ((0 : Int32)).toNatClampNeg ((0 : Int32)).toNatClampNeg ((156 : Int32)).toNatClampNeg) → ∀ t8 : Nat → Nat → Int32, t8 = (upN t7 20 4 (1 : Int32)) → vp_in ((0 : Int32)) 156 ∧ Q (((t8 0) ((0 : Int32)).toNatClampNeg)) t8
theorem ds_X7_saveSnapshot : yX7_saveSnapshot.cls = yX7_saveSnapshot.cls ∧ yX7_saveSnapshot.cls ≠ "java/lang/invoke/MethodHandle" ∧ yX7_saveSnapshot.cls ≠ "java/lang/invoke/VarHandle" ∧ (parseMethodDescriptor yX7_saveSnapshot.desc).map (fun d => d.parameters.length) = some 0 := by decide +kernel
set_option maxHeartbeats 4000000 in
theorem c_X7_saveSnapshot (l : Launch) (D : va_G) (a : Nat → Nat) (σ : Nat → Nat → Int32) (Q : Int32 → (Nat → Nat → Int32) → Prop) (h : w_X7_saveSnapshot σ Q) : Cti l D yX7_saveSnapshot cX7_saveSnapshot 1 .int (rmk 1 0 0 64) [.ref (a 0)] (moW D a σ) (moW D a) Q 0 0 := by
  refine Cti.of (by decide) (Nat.le_of_ble_eq_true rfl) (fun x hF hR => ?_)
  replace hF : vF x l D "BrookWeirsModel" cX7_saveSnapshot (rmk 1 0 0 64) 1 (some .int) := hF
  refine v_app0 ?_
  unfold w_X7_saveSnapshot at h
  refine v_aload_n 0 hF dX7_saveSnapshot_0 rfl 0 rfl ?_
  refine v_iconst (v := 0) 1 hF dX7_saveSnapshot_1 (by decide) ?_
  refine M_put7 2 hF q1911 dX7_saveSnapshot_2 (fun t1 et1 => ?_)
  replace h := h t1 et1
  refine v_aload_n 5 hF dX7_saveSnapshot_5 rfl 0 rfl ?_
  refine M_get 6 0 hF (Nat.le_of_ble_eq_true rfl) q1904 rfl rfl dX7_saveSnapshot_6 ?_
  refine v_iconst (v := 0) 9 hF dX7_saveSnapshot_9 (by decide) ?_
  refine v_aload_n 10 hF dX7_saveSnapshot_10 rfl 0 rfl ?_
  refine M_get 11 3 hF (Nat.le_of_ble_eq_true rfl) q1907 rfl rfl dX7_saveSnapshot_11 ?_
  refine v_iconst (v := 0) 14 hF dX7_saveSnapshot_14 (by decide) ?_
  refine v_sipush (v := 156) 15 hF dX7_saveSnapshot_15 (by decide) ?_
  obtain ⟨o2, o3, o4, o5, o6, h⟩ := h
  refine M_cpy0_3 18 hF q1979 o2 o3 o4 o5 o6 (Nat.le_of_ble_eq_true rfl) (Nat.le_of_ble_eq_true rfl) dX7_saveSnapshot_18 (fun t7 et7 => ?_)
  replace h := h t7 et7
  refine v_aload_n 21 hF dX7_saveSnapshot_21 rfl 0 rfl ?_
  refine v_iconst (v := 1) 22 hF dX7_saveSnapshot_22 (by decide) ?_
  refine M_put4 23 hF q1908 (Or.inr rfl) dX7_saveSnapshot_23 (fun t8 et8 => ?_)
  replace h := h t8 et8
  refine v_aload_n 26 hF dX7_saveSnapshot_26 rfl 0 rfl ?_
  refine M_get 27 0 hF (Nat.le_of_ble_eq_true rfl) q1904 rfl rfl dX7_saveSnapshot_27 ?_
  refine v_iconst (v := 0) 30 hF dX7_saveSnapshot_30 (by decide) ?_
  obtain ⟨o9, h⟩ := h
  refine M_ald0 31 hF o9 dX7_saveSnapshot_31 ?_
  exact v_iretA 32 hF hR (Nat.zero_le _) (Nat.zero_le _) dX7_saveSnapshot_32 h
def w_X7_restoreSnapshot_J13 (Q : Int32 → (Nat → Nat → Int32) → Prop)  (σ : Nat → Nat → Int32) (s1 : Int32) : Prop :=
  ∀ t1 : Nat → Nat → Int32, t1 = (upN σ 20 7 s1) → (((t1 20 7) ≤ 0 → ¬ (0 : Int32) < 0 ∧ ¬ (0 : Int32) < 0 ∧ ¬ (156 : Int32) < 0 ∧ ((0 : Int32)).toNatClampNeg + ((156 : Int32)).toNatClampNeg ≤ 156 ∧ ((0 : Int32)).toNatClampNeg + ((156 : Int32)).toNatClampNeg ≤ 156 ∧ ∀ t8 : Nat → Nat → Int32, t8 = upR t1 0 (va_cpy (t1 3) (t1 0) ((0 : Int32)).toNatClampNeg ((0 : Int32)).toNatClampNeg ((156 : Int32)).toNatClampNeg) → ∀ t9 : Nat → Nat → Int32, t9 = (upN t8 20 6 (0 : Int32)) → vp_in ((0 : Int32)) 156 ∧ Q (((t9 0) ((0 : Int32)).toNatClampNeg)) t9) ∧ (¬ (t1 20 7) ≤ 0 → Q ((0 : Int32)) t1))
def w_X7_restoreSnapshot (σ : Nat → Nat → Int32) (Q : Int32 → (Nat → Nat → Int32) → Prop) : Prop :=
  (((σ 20 4) = 0 → w_X7_restoreSnapshot_J13 Q σ ((1 : Int32))) ∧ (¬ (σ 20 4) = 0 → w_X7_restoreSnapshot_J13 Q σ ((0 : Int32))))
set_option maxHeartbeats 4000000 in
theorem k_X7_restoreSnapshot_J13 {x : vC} {l : Launch} {D : va_G} {a : Nat → Nat}  {Q : Int32 → (Nat → Nat → Int32) → Prop} (hF : vF x l D "BrookWeirsModel" cX7_restoreSnapshot (rmk 1 0 0 64) 1 (some .int)) (hR : vRi x (moW D a) Q 0 0)   : ∀ (σ : Nat → Nat → Int32) (s1 : Int32), w_X7_restoreSnapshot_J13 Q  σ s1 → vV x 0 0 (moW D a σ ++ []) [(0, .ref (a 0))] 13 [.int s1, .ref (a 0)] := by
  intro σ s1 h
  unfold w_X7_restoreSnapshot_J13 at h
  refine M_put7 13 hF q1911 dX7_restoreSnapshot_13 (fun t1 et1 => ?_)
  replace h := h t1 et1
  refine v_aload_n 16 hF dX7_restoreSnapshot_16 rfl 0 rfl ?_
  refine M_get 17 7 hF (Nat.le_of_ble_eq_true rfl) q1911 rfl rfl dX7_restoreSnapshot_17 ?_
  refine v_if_le 20 25 hF dX7_restoreSnapshot_20 (by decide) (fun c2 => ?_) (fun c2 => ?_)
  · replace h := h.1 c2
    refine v_aload_n 25 hF dX7_restoreSnapshot_25 rfl 0 rfl ?_
    refine M_get 26 3 hF (Nat.le_of_ble_eq_true rfl) q1907 rfl rfl dX7_restoreSnapshot_26 ?_
    refine v_iconst (v := 0) 29 hF dX7_restoreSnapshot_29 (by decide) ?_
    refine v_aload_n 30 hF dX7_restoreSnapshot_30 rfl 0 rfl ?_
    refine M_get 31 0 hF (Nat.le_of_ble_eq_true rfl) q1904 rfl rfl dX7_restoreSnapshot_31 ?_
    refine v_iconst (v := 0) 34 hF dX7_restoreSnapshot_34 (by decide) ?_
    refine v_sipush (v := 156) 35 hF dX7_restoreSnapshot_35 (by decide) ?_
    obtain ⟨o3, o4, o5, o6, o7, h⟩ := h
    refine M_cpy3_0 38 hF q1979 o3 o4 o5 o6 o7 (Nat.le_of_ble_eq_true rfl) (Nat.le_of_ble_eq_true rfl) dX7_restoreSnapshot_38 (fun t8 et8 => ?_)
    replace h := h t8 et8
    refine v_aload_n 41 hF dX7_restoreSnapshot_41 rfl 0 rfl ?_
    refine v_iconst (v := 0) 42 hF dX7_restoreSnapshot_42 (by decide) ?_
    refine M_put6 43 hF q1910 dX7_restoreSnapshot_43 (fun t9 et9 => ?_)
    replace h := h t9 et9
    refine v_aload_n 46 hF dX7_restoreSnapshot_46 rfl 0 rfl ?_
    refine M_get 47 0 hF (Nat.le_of_ble_eq_true rfl) q1904 rfl rfl dX7_restoreSnapshot_47 ?_
    refine v_iconst (v := 0) 50 hF dX7_restoreSnapshot_50 (by decide) ?_
    obtain ⟨o10, h⟩ := h
    refine M_ald0 51 hF o10 dX7_restoreSnapshot_51 ?_
    exact v_iretA 52 hF hR (Nat.zero_le _) (Nat.zero_le _) dX7_restoreSnapshot_52 h
  · replace h := h.2 c2
    refine v_iconst (v := 0) 23 hF dX7_restoreSnapshot_23 (by decide) ?_
    exact v_iretA 24 hF hR (Nat.zero_le _) (Nat.zero_le _) dX7_restoreSnapshot_24 h
theorem ds_X7_restoreSnapshot : yX7_restoreSnapshot.cls = yX7_restoreSnapshot.cls ∧ yX7_restoreSnapshot.cls ≠ "java/lang/invoke/MethodHandle" ∧ yX7_restoreSnapshot.cls ≠ "java/lang/invoke/VarHandle" ∧ (parseMethodDescriptor yX7_restoreSnapshot.desc).map (fun d => d.parameters.length) = some 0 := by decide +kernel
set_option maxHeartbeats 4000000 in
theorem c_X7_restoreSnapshot (l : Launch) (D : va_G) (a : Nat → Nat) (σ : Nat → Nat → Int32) (Q : Int32 → (Nat → Nat → Int32) → Prop) (h : w_X7_restoreSnapshot σ Q) : Cti l D yX7_restoreSnapshot cX7_restoreSnapshot 1 .int (rmk 1 0 0 64) [.ref (a 0)] (moW D a σ) (moW D a) Q 0 0 := by
  refine Cti.of (by decide) (Nat.le_of_ble_eq_true rfl) (fun x hF hR => ?_)
  replace hF : vF x l D "BrookWeirsModel" cX7_restoreSnapshot (rmk 1 0 0 64) 1 (some .int) := hF
  refine v_app0 ?_
  unfold w_X7_restoreSnapshot at h
  refine v_aload_n 0 hF dX7_restoreSnapshot_0 rfl 0 rfl ?_
  refine v_aload_n 1 hF dX7_restoreSnapshot_1 rfl 0 rfl ?_
  refine M_get 2 4 hF (Nat.le_of_ble_eq_true rfl) q1908 rfl rfl dX7_restoreSnapshot_2 ?_
  refine v_if_eq 5 12 hF dX7_restoreSnapshot_5 (by decide) (fun c11 => ?_) (fun c11 => ?_)
  · replace h := h.1 c11
    refine v_iconst (v := 1) 12 hF dX7_restoreSnapshot_12 (by decide) ?_
    exact k_X7_restoreSnapshot_J13 hF hR _ _ h
  · replace h := h.2 c11
    refine v_iconst (v := 0) 8 hF dX7_restoreSnapshot_8 (by decide) ?_
    refine v_goto 9 13 hF dX7_restoreSnapshot_9 (by decide) ?_
    exact k_X7_restoreSnapshot_J13 hF hR _ _ h
def w_X7_pool_L77 (Q : Int32 → (Nat → Nat → Int32) → Prop) (K77 : (Nat → Nat → Int32) → Int32 → Int32 → Int32 → Int32 → Int32 → Prop) (σ : Nat → Nat → Int32) (x1 x2 x3 x4 x5 : Int32) : Prop :=
  (((11 : Int32) ≤ x5 → w_X7_at x4 (fun r2 => vp_in ((r2 + (0 : Int32))) 156 ∧ ∀ t4 : Nat → Nat → Int32, t4 = (upN σ 0 ((r2 + (0 : Int32))).toNatClampNeg x1) → w_X7_at x4 (fun r5 => vp_in ((r5 + (1 : Int32))) 156 ∧ ∀ t7 : Nat → Nat → Int32, t7 = (upN t4 0 ((r5 + (1 : Int32))).toNatClampNeg x2) → w_X7_at x4 (fun r8 => vp_in ((r8 + (2 : Int32))) 156 ∧ ∀ t10 : Nat → Nat → Int32, t10 = (upN t7 0 ((r8 + (2 : Int32))).toNatClampNeg x3) → w_X7_at x4 (fun r11 => vp_in ((r11 + (3 : Int32))) 156 ∧ ∀ t13 : Nat → Nat → Int32, t13 = (upN t10 0 ((r11 + (3 : Int32))).toNatClampNeg (3 : Int32)) → vp_in ((0 : Int32)) 156 ∧ vp_in ((0 : Int32)) 156 ∧ ∀ t16 : Nat → Nat → Int32, t16 = (upN t13 0 ((0 : Int32)).toNatClampNeg (((t13 0) ((0 : Int32)).toNatClampNeg) + (1 : Int32))) → w_X7_ends t16 x4 (fun r17 t18 => Q r17 t18)))))) ∧ (¬ (11 : Int32) ≤ x5 → w_X7_at x4 (fun r19 => vp_in ((r19 + x5)) 156 ∧ ∀ t21 : Nat → Nat → Int32, t21 = (upN σ 0 ((r19 + x5)).toNatClampNeg (0 : Int32)) → ∀ y22 : Int32, y22 = x5 + (1 : Int32) → K77 t21 x1 x2 x3 x4 y22)))
def w_X7_pool_J36 (Q : Int32 → (Nat → Nat → Int32) → Prop)  (σ : Nat → Nat → Int32) (x1 x2 x3 s1 : Int32) : Prop :=
  ∀ t23 : Nat → Nat → Int32, t23 = (upN σ 20 7 s1) → (((t23 20 7) ≤ 0 → vp_in ((0 : Int32)) 156 ∧ ∀ y26 : Int32, y26 = ((t23 0) ((0 : Int32)).toNatClampNeg) → ((¬ y26 = (6 : Int32) → w_X7_keep t23  (fun t28 => wLoop (fun K s => w_X7_pool_L77 Q (fun v0 v1 v2 v3 v4 v5 => K (v0, v1, v2, v3, v4, v5)) s.1 s.2.1 s.2.2.1 s.2.2.2.1 s.2.2.2.2.1 s.2.2.2.2.2) (t28, x1, x2, x3, y26, (0 : Int32)))) ∧ (y26 = (6 : Int32) → w_X7_refuse t23 ((2 : Int32)) ((1 : Int32)) (fun r29 t30 => Q r29 t30)))) ∧ (¬ (t23 20 7) ≤ 0 → Q ((0 : Int32)) t23))
def w_X7_pool_J31 (Q : Int32 → (Nat → Nat → Int32) → Prop)  (σ : Nat → Nat → Int32) (x1 x2 x3 : Int32) : Prop :=
  w_X7_pool_J36 Q σ x1 x2 x3 ((1 : Int32))
def w_X7_pool (σ : Nat → Nat → Int32) (x1 x2 x3 : Int32) (Q : Int32 → (Nat → Nat → Int32) → Prop) : Prop :=
  w_X7_in x1 ((1 : Int32)) ((9 : Int32)) (fun r31 => ((r31 = 0 → w_X7_pool_J31 Q σ x1 x2 x3) ∧ (¬ r31 = 0 → w_X7_in x2 ((2 : Int32)) ((20 : Int32)) (fun r33 => ((r33 = 0 → w_X7_pool_J31 Q σ x1 x2 x3) ∧ (¬ r33 = 0 → w_X7_in x3 ((0 : Int32)) ((9 : Int32)) (fun r35 => ((¬ r35 = 0 → w_X7_pool_J36 Q σ x1 x2 x3 ((0 : Int32))) ∧ (r35 = 0 → w_X7_pool_J31 Q σ x1 x2 x3)))))))))
set_option maxHeartbeats 4000000 in
theorem k_X7_pool_L77 {x : vC} {l : Launch} {D : va_G} {a : Nat → Nat}  {Q : Int32 → (Nat → Nat → Int32) → Prop} (hF : vF x l D "BrookWeirsModel" cX7_pool (rmk 2 0 0 85) 6 (some .int)) (hR : vRi x (moW D a) Q 0 0) {K77 : (Nat → Nat → Int32) → Int32 → Int32 → Int32 → Int32 → Int32 → Prop} (hK77 : ∀ (σ : Nat → Nat → Int32) (x1 x2 x3 x4 x5 : Int32), K77 σ x1 x2 x3 x4 x5 → vV x 0 0 (moW D a σ ++ []) [(0, .ref (a 0)), (1, .int x1), (2, .int x2), (3, .int x3), (4, .int x4), (5, .int x5)] 77 []) : ∀ (σ : Nat → Nat → Int32) (x1 x2 x3 x4 x5 : Int32), w_X7_pool_L77 Q K77 σ x1 x2 x3 x4 x5 → vV x 0 0 (moW D a σ ++ []) [(0, .ref (a 0)), (1, .int x1), (2, .int x2), (3, .int x3), (4, .int x4), (5, .int x5)] 77 [] := by
  intro σ x1 x2 x3 x4 x5 h
  unfold w_X7_pool_L77 at h
  refine v_iload 77 hF dX7_pool_77 5 rfl ?_
  refine v_bipush (v := 11) 79 hF dX7_pool_79 (by decide) ?_
  refine v_icmp_ge 81 104 hF dX7_pool_81 (by decide) (fun c1 => ?_) (fun c1 => ?_)
  · replace h := h.1 c1
    refine v_aload_n 104 hF dX7_pool_104 rfl 0 rfl ?_
    refine M_get 105 0 hF (Nat.le_of_ble_eq_true rfl) q1904 rfl rfl dX7_pool_105 ?_
    refine v_iload 108 hF dX7_pool_108 4 rfl ?_
    refine v_callS0i (As := [.int x4]) 110 hF (c_X7_at l D x4 _ h) q1980 q1981 q82 q1982 ds_X7_at ⟨rfl, rfl, Nat.le_of_ble_eq_true rfl, Nat.le_of_ble_eq_true rfl⟩ (Nat.le_of_ble_eq_true rfl) ⟨Nat.zero_le _, Nat.zero_le _⟩ dX7_pool_110 (fun r2 h => ?_)
    refine v_iconst (v := 0) 113 hF dX7_pool_113 (by decide) ?_
    refine v_iadd 114 hF dX7_pool_114 ?_
    refine v_iload_n 115 hF dX7_pool_115 rfl 1 rfl ?_
    obtain ⟨o3, h⟩ := h
    refine M_ast0 116 hF o3 dX7_pool_116 (fun t4 et4 => ?_)
    replace h := h t4 et4
    refine v_aload_n 117 hF dX7_pool_117 rfl 0 rfl ?_
    refine M_get 118 0 hF (Nat.le_of_ble_eq_true rfl) q1904 rfl rfl dX7_pool_118 ?_
    refine v_iload 121 hF dX7_pool_121 4 rfl ?_
    refine v_callS0i (As := [.int x4]) 123 hF (c_X7_at l D x4 _ h) q1980 q1981 q82 q1982 ds_X7_at ⟨rfl, rfl, Nat.le_of_ble_eq_true rfl, Nat.le_of_ble_eq_true rfl⟩ (Nat.le_of_ble_eq_true rfl) ⟨Nat.zero_le _, Nat.zero_le _⟩ dX7_pool_123 (fun r5 h => ?_)
    refine v_iconst (v := 1) 126 hF dX7_pool_126 (by decide) ?_
    refine v_iadd 127 hF dX7_pool_127 ?_
    refine v_iload_n 128 hF dX7_pool_128 rfl 2 rfl ?_
    obtain ⟨o6, h⟩ := h
    refine M_ast0 129 hF o6 dX7_pool_129 (fun t7 et7 => ?_)
    replace h := h t7 et7
    refine v_aload_n 130 hF dX7_pool_130 rfl 0 rfl ?_
    refine M_get 131 0 hF (Nat.le_of_ble_eq_true rfl) q1904 rfl rfl dX7_pool_131 ?_
    refine v_iload 134 hF dX7_pool_134 4 rfl ?_
    refine v_callS0i (As := [.int x4]) 136 hF (c_X7_at l D x4 _ h) q1980 q1981 q82 q1982 ds_X7_at ⟨rfl, rfl, Nat.le_of_ble_eq_true rfl, Nat.le_of_ble_eq_true rfl⟩ (Nat.le_of_ble_eq_true rfl) ⟨Nat.zero_le _, Nat.zero_le _⟩ dX7_pool_136 (fun r8 h => ?_)
    refine v_iconst (v := 2) 139 hF dX7_pool_139 (by decide) ?_
    refine v_iadd 140 hF dX7_pool_140 ?_
    refine v_iload_n 141 hF dX7_pool_141 rfl 3 rfl ?_
    obtain ⟨o9, h⟩ := h
    refine M_ast0 142 hF o9 dX7_pool_142 (fun t10 et10 => ?_)
    replace h := h t10 et10
    refine v_aload_n 143 hF dX7_pool_143 rfl 0 rfl ?_
    refine M_get 144 0 hF (Nat.le_of_ble_eq_true rfl) q1904 rfl rfl dX7_pool_144 ?_
    refine v_iload 147 hF dX7_pool_147 4 rfl ?_
    refine v_callS0i (As := [.int x4]) 149 hF (c_X7_at l D x4 _ h) q1980 q1981 q82 q1982 ds_X7_at ⟨rfl, rfl, Nat.le_of_ble_eq_true rfl, Nat.le_of_ble_eq_true rfl⟩ (Nat.le_of_ble_eq_true rfl) ⟨Nat.zero_le _, Nat.zero_le _⟩ dX7_pool_149 (fun r11 h => ?_)
    refine v_iconst (v := 3) 152 hF dX7_pool_152 (by decide) ?_
    refine v_iadd 153 hF dX7_pool_153 ?_
    refine v_iconst (v := 3) 154 hF dX7_pool_154 (by decide) ?_
    obtain ⟨o12, h⟩ := h
    refine M_ast0 155 hF o12 dX7_pool_155 (fun t13 et13 => ?_)
    replace h := h t13 et13
    refine v_aload_n 156 hF dX7_pool_156 rfl 0 rfl ?_
    refine M_get 157 0 hF (Nat.le_of_ble_eq_true rfl) q1904 rfl rfl dX7_pool_157 ?_
    refine v_iconst (v := 0) 160 hF dX7_pool_160 (by decide) ?_
    refine v_dup2 161 hF dX7_pool_161 rfl rfl ?_
    obtain ⟨o14, h⟩ := h
    refine M_ald0 162 hF o14 dX7_pool_162 ?_
    refine v_iconst (v := 1) 163 hF dX7_pool_163 (by decide) ?_
    refine v_iadd 164 hF dX7_pool_164 ?_
    obtain ⟨o15, h⟩ := h
    refine M_ast0 165 hF o15 dX7_pool_165 (fun t16 et16 => ?_)
    replace h := h t16 et16
    refine v_aload_n 166 hF dX7_pool_166 rfl 0 rfl ?_
    refine v_iload 167 hF dX7_pool_167 4 rfl ?_
    refine v_callVi (As := [.int x4]) 169 hF (c_X7_ends l D a t16 x4 _ h) (List.Perm.refl _) ⟨0, 10, _, TX7, 18, rfl, rfl⟩ q1983 q1985 qs32 q82 q1986 ds_X7_ends ⟨rfl, rfl, Nat.le_of_ble_eq_true rfl, Nat.le_of_ble_eq_true rfl⟩ (Nat.le_of_ble_eq_true rfl) ⟨Nat.zero_le _, Nat.zero_le _⟩ dX7_pool_169 (fun r17 t18 h => ?_)
    exact v_iretA 172 hF hR (Nat.zero_le _) (Nat.zero_le _) dX7_pool_172 h
  · replace h := h.2 c1
    refine v_aload_n 84 hF dX7_pool_84 rfl 0 rfl ?_
    refine M_get 85 0 hF (Nat.le_of_ble_eq_true rfl) q1904 rfl rfl dX7_pool_85 ?_
    refine v_iload 88 hF dX7_pool_88 4 rfl ?_
    refine v_callS0i (As := [.int x4]) 90 hF (c_X7_at l D x4 _ h) q1980 q1981 q82 q1982 ds_X7_at ⟨rfl, rfl, Nat.le_of_ble_eq_true rfl, Nat.le_of_ble_eq_true rfl⟩ (Nat.le_of_ble_eq_true rfl) ⟨Nat.zero_le _, Nat.zero_le _⟩ dX7_pool_90 (fun r19 h => ?_)
    refine v_iload 93 hF dX7_pool_93 5 rfl ?_
    refine v_iadd 95 hF dX7_pool_95 ?_
    refine v_iconst (v := 0) 96 hF dX7_pool_96 (by decide) ?_
    obtain ⟨o20, h⟩ := h
    refine M_ast0 97 hF o20 dX7_pool_97 (fun t21 et21 => ?_)
    replace h := h t21 et21
    obtain ⟨y22, ey22⟩ : ∃ y : Int32, y = x5 + (1 : Int32) := ⟨_, rfl⟩
    replace h := h y22 ey22
    refine v_iinc [(0, .ref (a 0)), (1, .int x1), (2, .int x2), (3, .int x3), (4, .int x4), (5, .int y22)] [1, 2, 3, 4, 5, 0] 98 hF dX7_pool_98 5 rfl (by rw [ey22]; rfl) (Nat.le_of_ble_eq_true rfl) rfl ?_
    refine v_goto 101 77 hF dX7_pool_101 (by decide) ?_
    exact hK77 _ _ _ _ _ _ h
set_option maxHeartbeats 4000000 in
theorem k_X7_pool_J36 {x : vC} {l : Launch} {D : va_G} {a : Nat → Nat}  {Q : Int32 → (Nat → Nat → Int32) → Prop} (hF : vF x l D "BrookWeirsModel" cX7_pool (rmk 2 0 0 85) 6 (some .int)) (hR : vRi x (moW D a) Q 0 0)   : ∀ (σ : Nat → Nat → Int32) (x1 x2 x3 s1 : Int32), w_X7_pool_J36 Q  σ x1 x2 x3 s1 → vV x 0 0 (moW D a σ ++ []) [(0, .ref (a 0)), (1, .int x1), (2, .int x2), (3, .int x3)] 36 [.int s1, .ref (a 0)] := by
  intro σ x1 x2 x3 s1 h
  unfold w_X7_pool_J36 at h
  refine M_put7 36 hF q1911 dX7_pool_36 (fun t23 et23 => ?_)
  replace h := h t23 et23
  refine v_aload_n 39 hF dX7_pool_39 rfl 0 rfl ?_
  refine M_get 40 7 hF (Nat.le_of_ble_eq_true rfl) q1911 rfl rfl dX7_pool_40 ?_
  refine v_if_le 43 48 hF dX7_pool_43 (by decide) (fun c24 => ?_) (fun c24 => ?_)
  · replace h := h.1 c24
    refine v_aload_n 48 hF dX7_pool_48 rfl 0 rfl ?_
    refine M_get 49 0 hF (Nat.le_of_ble_eq_true rfl) q1904 rfl rfl dX7_pool_49 ?_
    refine v_iconst (v := 0) 52 hF dX7_pool_52 (by decide) ?_
    obtain ⟨o25, h⟩ := h
    refine M_ald0 53 hF o25 dX7_pool_53 ?_
    refine v_nm (fun y26 ey26 => ?_)
    replace h := h y26 ey26
    refine v_istore [(0, .ref (a 0)), (1, .int x1), (2, .int x2), (3, .int x3), (4, .int y26)] [1, 2, 3, 4, 0] 54 hF dX7_pool_54 (Nat.le_of_ble_eq_true rfl) rfl ?_
    refine v_iload 56 hF dX7_pool_56 4 rfl ?_
    refine v_bipush (v := 6) 58 hF dX7_pool_58 (by decide) ?_
    refine v_icmp_ne 60 70 hF dX7_pool_60 (by decide) (fun c27 => ?_) (fun c27 => ?_)
    · replace h := h.1 c27
      refine v_aload_n 70 hF dX7_pool_70 rfl 0 rfl ?_
      refine v_callVv (As := []) 71 hF (c_X7_keep l D a t23 _ h) (List.Perm.refl _) ⟨0, 10, _, TX7, 18, rfl, rfl⟩ q1975 q1977 qs31 q82 q1978 ds_X7_keep ⟨rfl, rfl, Nat.le_of_ble_eq_true rfl, Nat.le_of_ble_eq_true rfl⟩ (Nat.le_of_ble_eq_true rfl) ⟨Nat.zero_le _, Nat.zero_le _⟩ dX7_pool_71 (fun t28 h => ?_)
      refine v_iconst (v := 0) 74 hF dX7_pool_74 (by decide) ?_
      refine v_istore [(0, .ref (a 0)), (1, .int x1), (2, .int x2), (3, .int x3), (4, .int y26), (5, .int ((0 : Int32)))] [1, 2, 3, 4, 5, 0] 75 hF dX7_pool_75 (Nat.le_of_ble_eq_true rfl) rfl ?_
      exact vLoop (V := fun s => vV x 0 0 (moW D a s.1 ++ []) [(0, .ref (a 0)), (1, .int s.2.1), (2, .int s.2.2.1), (3, .int s.2.2.2.1), (4, .int s.2.2.2.2.1), (5, .int s.2.2.2.2.2)] 77 []) (fun K hK s hs => k_X7_pool_L77 hF hR (fun v0 v1 v2 v3 v4 v5 q => hK (v0, v1, v2, v3, v4, v5) q) s.1 s.2.1 s.2.2.1 s.2.2.2.1 s.2.2.2.2.1 s.2.2.2.2.2 hs) _ h
    · replace h := h.2 c27
      refine v_aload_n 63 hF dX7_pool_63 rfl 0 rfl ?_
      refine v_iconst (v := 2) 64 hF dX7_pool_64 (by decide) ?_
      refine v_iconst (v := 1) 65 hF dX7_pool_65 (by decide) ?_
      refine v_callVi (As := [.int ((2 : Int32)), .int ((1 : Int32))]) 66 hF (c_X7_refuse l D a t23 ((2 : Int32)) ((1 : Int32)) _ h) (List.Perm.refl _) ⟨0, 10, _, TX7, 18, rfl, rfl⟩ q1971 q1973 qs30 q82 q1974 ds_X7_refuse ⟨rfl, rfl, Nat.le_of_ble_eq_true rfl, Nat.le_of_ble_eq_true rfl⟩ (Nat.le_of_ble_eq_true rfl) ⟨Nat.zero_le _, Nat.zero_le _⟩ dX7_pool_66 (fun r29 t30 h => ?_)
      exact v_iretA 69 hF hR (Nat.zero_le _) (Nat.zero_le _) dX7_pool_69 h
  · replace h := h.2 c24
    refine v_iconst (v := 0) 46 hF dX7_pool_46 (by decide) ?_
    exact v_iretA 47 hF hR (Nat.zero_le _) (Nat.zero_le _) dX7_pool_47 h
set_option maxHeartbeats 4000000 in
theorem k_X7_pool_J31 {x : vC} {l : Launch} {D : va_G} {a : Nat → Nat}  {Q : Int32 → (Nat → Nat → Int32) → Prop} (hF : vF x l D "BrookWeirsModel" cX7_pool (rmk 2 0 0 85) 6 (some .int)) (hR : vRi x (moW D a) Q 0 0)   : ∀ (σ : Nat → Nat → Int32) (x1 x2 x3 : Int32), w_X7_pool_J31 Q  σ x1 x2 x3 → vV x 0 0 (moW D a σ ++ []) [(0, .ref (a 0)), (1, .int x1), (2, .int x2), (3, .int x3)] 31 [.ref (a 0)] := by
  intro σ x1 x2 x3 h
  unfold w_X7_pool_J31 at h
  refine v_iconst (v := 1) 31 hF dX7_pool_31 (by decide) ?_
  refine v_goto 32 36 hF dX7_pool_32 (by decide) ?_
  exact k_X7_pool_J36 hF hR _ _ _ _ _ h
theorem ds_X7_pool : yX7_pool.cls = yX7_pool.cls ∧ yX7_pool.cls ≠ "java/lang/invoke/MethodHandle" ∧ yX7_pool.cls ≠ "java/lang/invoke/VarHandle" ∧ (parseMethodDescriptor yX7_pool.desc).map (fun d => d.parameters.length) = some 3 := by decide +kernel
set_option maxHeartbeats 4000000 in
theorem c_X7_pool (l : Launch) (D : va_G) (a : Nat → Nat) (σ : Nat → Nat → Int32) (x1 x2 x3 : Int32) (Q : Int32 → (Nat → Nat → Int32) → Prop) (h : w_X7_pool σ x1 x2 x3 Q) : Cti l D yX7_pool cX7_pool 6 .int (rmk 2 0 0 85) [.ref (a 0), .int x1, .int x2, .int x3] (moW D a σ) (moW D a) Q 0 0 := by
  refine Cti.of (by decide) (Nat.le_of_ble_eq_true rfl) (fun x hF hR => ?_)
  replace hF : vF x l D "BrookWeirsModel" cX7_pool (rmk 2 0 0 85) 6 (some .int) := hF
  refine v_app0 ?_
  unfold w_X7_pool at h
  refine v_aload_n 0 hF dX7_pool_0 rfl 0 rfl ?_
  refine v_iload_n 1 hF dX7_pool_1 rfl 1 rfl ?_
  refine v_iconst (v := 1) 2 hF dX7_pool_2 (by decide) ?_
  refine v_bipush (v := 9) 3 hF dX7_pool_3 (by decide) ?_
  refine v_callS0i (As := [.int x1, .int ((1 : Int32)), .int ((9 : Int32))]) 5 hF (c_X7_in l D x1 ((1 : Int32)) ((9 : Int32)) _ h) q1968 q1969 q82 q1970 ds_X7_in ⟨rfl, rfl, Nat.le_of_ble_eq_true rfl, Nat.le_of_ble_eq_true rfl⟩ (Nat.le_of_ble_eq_true rfl) ⟨Nat.zero_le _, Nat.zero_le _⟩ dX7_pool_5 (fun r31 h => ?_)
  refine v_if_eq 8 31 hF dX7_pool_8 (by decide) (fun c32 => ?_) (fun c32 => ?_)
  · replace h := h.1 c32
    exact k_X7_pool_J31 hF hR _ _ _ _ h
  · replace h := h.2 c32
    refine v_iload_n 11 hF dX7_pool_11 rfl 2 rfl ?_
    refine v_iconst (v := 2) 12 hF dX7_pool_12 (by decide) ?_
    refine v_bipush (v := 20) 13 hF dX7_pool_13 (by decide) ?_
    refine v_callS0i (As := [.int x2, .int ((2 : Int32)), .int ((20 : Int32))]) 15 hF (c_X7_in l D x2 ((2 : Int32)) ((20 : Int32)) _ h) q1968 q1969 q82 q1970 ds_X7_in ⟨rfl, rfl, Nat.le_of_ble_eq_true rfl, Nat.le_of_ble_eq_true rfl⟩ (Nat.le_of_ble_eq_true rfl) ⟨Nat.zero_le _, Nat.zero_le _⟩ dX7_pool_15 (fun r33 h => ?_)
    refine v_if_eq 18 31 hF dX7_pool_18 (by decide) (fun c34 => ?_) (fun c34 => ?_)
    · replace h := h.1 c34
      exact k_X7_pool_J31 hF hR _ _ _ _ h
    · replace h := h.2 c34
      refine v_iload_n 21 hF dX7_pool_21 rfl 3 rfl ?_
      refine v_iconst (v := 0) 22 hF dX7_pool_22 (by decide) ?_
      refine v_bipush (v := 9) 23 hF dX7_pool_23 (by decide) ?_
      refine v_callS0i (As := [.int x3, .int ((0 : Int32)), .int ((9 : Int32))]) 25 hF (c_X7_in l D x3 ((0 : Int32)) ((9 : Int32)) _ h) q1968 q1969 q82 q1970 ds_X7_in ⟨rfl, rfl, Nat.le_of_ble_eq_true rfl, Nat.le_of_ble_eq_true rfl⟩ (Nat.le_of_ble_eq_true rfl) ⟨Nat.zero_le _, Nat.zero_le _⟩ dX7_pool_25 (fun r35 h => ?_)
      refine v_if_ne 28 35 hF dX7_pool_28 (by decide) (fun c36 => ?_) (fun c36 => ?_)
      · replace h := h.1 c36
        refine v_iconst (v := 0) 35 hF dX7_pool_35 (by decide) ?_
        exact k_X7_pool_J36 hF hR _ _ _ _ _ h
      · replace h := h.2 c36
        exact k_X7_pool_J31 hF hR _ _ _ _ h
def w_X7_doBoards_J84 (Q : Int32 → (Nat → Nat → Int32) → Prop)  (σ : Nat → Nat → Int32) (x1 x2 x3 : Int32) : Prop :=
  w_X7_at x1 (fun r1 => vp_in ((r1 + (3 : Int32))) 156 ∧ ∀ t3 : Nat → Nat → Int32, t3 = (upN σ 0 ((r1 + (3 : Int32))).toNatClampNeg x2) → Q x3 t3)
def w_X7_doBoards_J28 (Q : Int32 → (Nat → Nat → Int32) → Prop)  (σ : Nat → Nat → Int32) (x1 x2 s1 : Int32) : Prop :=
  ∀ t4 : Nat → Nat → Int32, t4 = (upN σ 20 7 s1) → (((t4 20 7) ≤ 0 → w_X7_get t4 x1 ((3 : Int32)) (fun r6 t7 => ((r6 ≤ x2 → w_X7_doBoards_J84 Q t7 x1 x2 r6) ∧ (¬ r6 ≤ x2 → w_X7_isOpen t7 x1 (fun r9 t10 => ((¬ r9 = 0 → w_X7_doBoards_J84 Q t10 x1 x2 r6) ∧ (r9 = 0 → w_X7_get t10 x1 ((4 : Int32)) (fun r12 t13 => w_X7_get t13 x1 ((0 : Int32)) (fun r14 t15 => ((r12 ≤ (x2 * r14) → w_X7_doBoards_J84 Q t15 x1 x2 r6) ∧ (¬ r12 ≤ (x2 * r14) → w_X7_refuse t15 ((3 : Int32)) ((5 : Int32)) (fun r17 t18 => Q r17 t18)))))))))))) ∧ (¬ (t4 20 7) ≤ 0 → Q ((0 : Int32)) t4))
def w_X7_doBoards (σ : Nat → Nat → Int32) (x1 x2 : Int32) (Q : Int32 → (Nat → Nat → Int32) → Prop) : Prop :=
  w_X7_isPool σ x1 (fun r19 t20 => ((¬ r19 = 0 → w_X7_in x2 ((0 : Int32)) ((9 : Int32)) (fun r22 => ((¬ r22 = 0 → w_X7_doBoards_J28 Q t20 x1 x2 ((0 : Int32))) ∧ (r22 = 0 → w_X7_doBoards_J28 Q t20 x1 x2 ((2 : Int32)))))) ∧ (r19 = 0 → w_X7_doBoards_J28 Q t20 x1 x2 ((1 : Int32)))))
set_option maxHeartbeats 4000000 in
theorem k_X7_doBoards_J84 {x : vC} {l : Launch} {D : va_G} {a : Nat → Nat}  {Q : Int32 → (Nat → Nat → Int32) → Prop} (hF : vF x l D "BrookWeirsModel" cX7_doBoards (rmk 3 0 0 64) 4 (some .int)) (hR : vRi x (moW D a) Q 0 0)   : ∀ (σ : Nat → Nat → Int32) (x1 x2 x3 : Int32), w_X7_doBoards_J84 Q  σ x1 x2 x3 → vV x 0 0 (moW D a σ ++ []) [(0, .ref (a 0)), (1, .int x1), (2, .int x2), (3, .int x3)] 84 [] := by
  intro σ x1 x2 x3 h
  unfold w_X7_doBoards_J84 at h
  refine v_aload_n 84 hF dX7_doBoards_84 rfl 0 rfl ?_
  refine M_get 85 0 hF (Nat.le_of_ble_eq_true rfl) q1904 rfl rfl dX7_doBoards_85 ?_
  refine v_iload_n 88 hF dX7_doBoards_88 rfl 1 rfl ?_
  refine v_callS0i (As := [.int x1]) 89 hF (c_X7_at l D x1 _ h) q1980 q1981 q82 q1982 ds_X7_at ⟨rfl, rfl, Nat.le_of_ble_eq_true rfl, Nat.le_of_ble_eq_true rfl⟩ (Nat.le_of_ble_eq_true rfl) ⟨Nat.zero_le _, Nat.zero_le _⟩ dX7_doBoards_89 (fun r1 h => ?_)
  refine v_iconst (v := 3) 92 hF dX7_doBoards_92 (by decide) ?_
  refine v_iadd 93 hF dX7_doBoards_93 ?_
  refine v_iload_n 94 hF dX7_doBoards_94 rfl 2 rfl ?_
  obtain ⟨o2, h⟩ := h
  refine M_ast0 95 hF o2 dX7_doBoards_95 (fun t3 et3 => ?_)
  replace h := h t3 et3
  refine v_iload_n 96 hF dX7_doBoards_96 rfl 3 rfl ?_
  exact v_iretA 97 hF hR (Nat.zero_le _) (Nat.zero_le _) dX7_doBoards_97 h
set_option maxHeartbeats 4000000 in
theorem k_X7_doBoards_J28 {x : vC} {l : Launch} {D : va_G} {a : Nat → Nat}  {Q : Int32 → (Nat → Nat → Int32) → Prop} (hF : vF x l D "BrookWeirsModel" cX7_doBoards (rmk 3 0 0 64) 4 (some .int)) (hR : vRi x (moW D a) Q 0 0)   : ∀ (σ : Nat → Nat → Int32) (x1 x2 s1 : Int32), w_X7_doBoards_J28 Q  σ x1 x2 s1 → vV x 0 0 (moW D a σ ++ []) [(0, .ref (a 0)), (1, .int x1), (2, .int x2)] 28 [.int s1, .ref (a 0)] := by
  intro σ x1 x2 s1 h
  unfold w_X7_doBoards_J28 at h
  refine M_put7 28 hF q1911 dX7_doBoards_28 (fun t4 et4 => ?_)
  replace h := h t4 et4
  refine v_aload_n 31 hF dX7_doBoards_31 rfl 0 rfl ?_
  refine M_get 32 7 hF (Nat.le_of_ble_eq_true rfl) q1911 rfl rfl dX7_doBoards_32 ?_
  refine v_if_le 35 40 hF dX7_doBoards_35 (by decide) (fun c5 => ?_) (fun c5 => ?_)
  · replace h := h.1 c5
    refine v_aload_n 40 hF dX7_doBoards_40 rfl 0 rfl ?_
    refine v_iload_n 41 hF dX7_doBoards_41 rfl 1 rfl ?_
    refine v_iconst (v := 3) 42 hF dX7_doBoards_42 (by decide) ?_
    refine v_callVi (As := [.int x1, .int ((3 : Int32))]) 43 hF (c_X7_get l D a t4 x1 ((3 : Int32)) _ h) (List.Perm.refl _) ⟨0, 10, _, TX7, 18, rfl, rfl⟩ q1999 q2001 qs35 q82 q2002 ds_X7_get ⟨rfl, rfl, Nat.le_of_ble_eq_true rfl, Nat.le_of_ble_eq_true rfl⟩ (Nat.le_of_ble_eq_true rfl) ⟨Nat.zero_le _, Nat.zero_le _⟩ dX7_doBoards_43 (fun r6 t7 h => ?_)
    refine v_istore_n [(0, .ref (a 0)), (1, .int x1), (2, .int x2), (3, .int r6)] [1, 2, 3, 0] 46 hF dX7_doBoards_46 rfl (Nat.le_of_ble_eq_true rfl) rfl ?_
    refine v_iload_n 47 hF dX7_doBoards_47 rfl 2 rfl ?_
    refine v_iload_n 48 hF dX7_doBoards_48 rfl 3 rfl ?_
    refine v_icmp_ge 49 84 hF dX7_doBoards_49 (by decide) (fun c8 => ?_) (fun c8 => ?_)
    · replace h := h.1 c8
      exact k_X7_doBoards_J84 hF hR _ _ _ _ h
    · replace h := h.2 c8
      refine v_aload_n 52 hF dX7_doBoards_52 rfl 0 rfl ?_
      refine v_iload_n 53 hF dX7_doBoards_53 rfl 1 rfl ?_
      refine v_callVi (As := [.int x1]) 54 hF (c_X7_isOpen l D a t7 x1 _ h) (List.Perm.refl _) ⟨0, 10, _, TX7, 18, rfl, rfl⟩ q2003 q2005 qs36 q82 q2006 ds_X7_isOpen ⟨rfl, rfl, Nat.le_of_ble_eq_true rfl, Nat.le_of_ble_eq_true rfl⟩ (Nat.le_of_ble_eq_true rfl) ⟨Nat.zero_le _, Nat.zero_le _⟩ dX7_doBoards_54 (fun r9 t10 h => ?_)
      refine v_if_ne 57 84 hF dX7_doBoards_57 (by decide) (fun c11 => ?_) (fun c11 => ?_)
      · replace h := h.1 c11
        exact k_X7_doBoards_J84 hF hR _ _ _ _ h
      · replace h := h.2 c11
        refine v_aload_n 60 hF dX7_doBoards_60 rfl 0 rfl ?_
        refine v_iload_n 61 hF dX7_doBoards_61 rfl 1 rfl ?_
        refine v_iconst (v := 4) 62 hF dX7_doBoards_62 (by decide) ?_
        refine v_callVi (As := [.int x1, .int ((4 : Int32))]) 63 hF (c_X7_get l D a t10 x1 ((4 : Int32)) _ h) (List.Perm.refl _) ⟨0, 10, _, TX7, 18, rfl, rfl⟩ q1999 q2001 qs35 q82 q2002 ds_X7_get ⟨rfl, rfl, Nat.le_of_ble_eq_true rfl, Nat.le_of_ble_eq_true rfl⟩ (Nat.le_of_ble_eq_true rfl) ⟨Nat.zero_le _, Nat.zero_le _⟩ dX7_doBoards_63 (fun r12 t13 h => ?_)
        refine v_iload_n 66 hF dX7_doBoards_66 rfl 2 rfl ?_
        refine v_aload_n 67 hF dX7_doBoards_67 rfl 0 rfl ?_
        refine v_iload_n 68 hF dX7_doBoards_68 rfl 1 rfl ?_
        refine v_iconst (v := 0) 69 hF dX7_doBoards_69 (by decide) ?_
        refine v_callVi (As := [.int x1, .int ((0 : Int32))]) 70 hF (c_X7_get l D a t13 x1 ((0 : Int32)) _ h) (List.Perm.refl _) ⟨0, 10, _, TX7, 18, rfl, rfl⟩ q1999 q2001 qs35 q82 q2002 ds_X7_get ⟨rfl, rfl, Nat.le_of_ble_eq_true rfl, Nat.le_of_ble_eq_true rfl⟩ (Nat.le_of_ble_eq_true rfl) ⟨Nat.zero_le _, Nat.zero_le _⟩ dX7_doBoards_70 (fun r14 t15 h => ?_)
        refine v_imul 73 hF dX7_doBoards_73 ?_
        refine v_icmp_le 74 84 hF dX7_doBoards_74 (by decide) (fun c16 => ?_) (fun c16 => ?_)
        · replace h := h.1 c16
          exact k_X7_doBoards_J84 hF hR _ _ _ _ h
        · replace h := h.2 c16
          refine v_aload_n 77 hF dX7_doBoards_77 rfl 0 rfl ?_
          refine v_iconst (v := 3) 78 hF dX7_doBoards_78 (by decide) ?_
          refine v_iconst (v := 5) 79 hF dX7_doBoards_79 (by decide) ?_
          refine v_callVi (As := [.int ((3 : Int32)), .int ((5 : Int32))]) 80 hF (c_X7_refuse l D a t15 ((3 : Int32)) ((5 : Int32)) _ h) (List.Perm.refl _) ⟨0, 10, _, TX7, 18, rfl, rfl⟩ q1971 q1973 qs30 q82 q1974 ds_X7_refuse ⟨rfl, rfl, Nat.le_of_ble_eq_true rfl, Nat.le_of_ble_eq_true rfl⟩ (Nat.le_of_ble_eq_true rfl) ⟨Nat.zero_le _, Nat.zero_le _⟩ dX7_doBoards_80 (fun r17 t18 h => ?_)
          exact v_iretA 83 hF hR (Nat.zero_le _) (Nat.zero_le _) dX7_doBoards_83 h
  · replace h := h.2 c5
    refine v_iconst (v := 0) 38 hF dX7_doBoards_38 (by decide) ?_
    exact v_iretA 39 hF hR (Nat.zero_le _) (Nat.zero_le _) dX7_doBoards_39 h
theorem ds_X7_doBoards : yX7_doBoards.cls = yX7_doBoards.cls ∧ yX7_doBoards.cls ≠ "java/lang/invoke/MethodHandle" ∧ yX7_doBoards.cls ≠ "java/lang/invoke/VarHandle" ∧ (parseMethodDescriptor yX7_doBoards.desc).map (fun d => d.parameters.length) = some 2 := by decide +kernel
set_option maxHeartbeats 4000000 in
theorem c_X7_doBoards (l : Launch) (D : va_G) (a : Nat → Nat) (σ : Nat → Nat → Int32) (x1 x2 : Int32) (Q : Int32 → (Nat → Nat → Int32) → Prop) (h : w_X7_doBoards σ x1 x2 Q) : Cti l D yX7_doBoards cX7_doBoards 4 .int (rmk 3 0 0 64) [.ref (a 0), .int x1, .int x2] (moW D a σ) (moW D a) Q 0 0 := by
  refine Cti.of (by decide) (Nat.le_of_ble_eq_true rfl) (fun x hF hR => ?_)
  replace hF : vF x l D "BrookWeirsModel" cX7_doBoards (rmk 3 0 0 64) 4 (some .int) := hF
  refine v_app0 ?_
  unfold w_X7_doBoards at h
  refine v_aload_n 0 hF dX7_doBoards_0 rfl 0 rfl ?_
  refine v_aload_n 1 hF dX7_doBoards_1 rfl 0 rfl ?_
  refine v_iload_n 2 hF dX7_doBoards_2 rfl 1 rfl ?_
  refine v_callVi (As := [.int x1]) 3 hF (c_X7_isPool l D a σ x1 _ h) (List.Perm.refl _) ⟨0, 10, _, TX7, 18, rfl, rfl⟩ q1995 q1997 qs34 q82 q1998 ds_X7_isPool ⟨rfl, rfl, Nat.le_of_ble_eq_true rfl, Nat.le_of_ble_eq_true rfl⟩ (Nat.le_of_ble_eq_true rfl) ⟨Nat.zero_le _, Nat.zero_le _⟩ dX7_doBoards_3 (fun r19 t20 h => ?_)
  refine v_if_ne 6 13 hF dX7_doBoards_6 (by decide) (fun c21 => ?_) (fun c21 => ?_)
  · replace h := h.1 c21
    refine v_iload_n 13 hF dX7_doBoards_13 rfl 2 rfl ?_
    refine v_iconst (v := 0) 14 hF dX7_doBoards_14 (by decide) ?_
    refine v_bipush (v := 9) 15 hF dX7_doBoards_15 (by decide) ?_
    refine v_callS0i (As := [.int x2, .int ((0 : Int32)), .int ((9 : Int32))]) 17 hF (c_X7_in l D x2 ((0 : Int32)) ((9 : Int32)) _ h) q1968 q1969 q82 q1970 ds_X7_in ⟨rfl, rfl, Nat.le_of_ble_eq_true rfl, Nat.le_of_ble_eq_true rfl⟩ (Nat.le_of_ble_eq_true rfl) ⟨Nat.zero_le _, Nat.zero_le _⟩ dX7_doBoards_17 (fun r22 h => ?_)
    refine v_if_ne 20 27 hF dX7_doBoards_20 (by decide) (fun c23 => ?_) (fun c23 => ?_)
    · replace h := h.1 c23
      refine v_iconst (v := 0) 27 hF dX7_doBoards_27 (by decide) ?_
      exact k_X7_doBoards_J28 hF hR _ _ _ _ h
    · replace h := h.2 c23
      refine v_iconst (v := 2) 23 hF dX7_doBoards_23 (by decide) ?_
      refine v_goto 24 28 hF dX7_doBoards_24 (by decide) ?_
      exact k_X7_doBoards_J28 hF hR _ _ _ _ h
  · replace h := h.2 c21
    refine v_iconst (v := 1) 9 hF dX7_doBoards_9 (by decide) ?_
    refine v_goto 10 28 hF dX7_doBoards_10 (by decide) ?_
    exact k_X7_doBoards_J28 hF hR _ _ _ _ h
def w_X7_weir (σ : Nat → Nat → Int32) (x1 x2 : Int32) (Q : Int32 → (Nat → Nat → Int32) → Prop) : Prop :=
  w_X7_keep σ  (fun t1 => w_X7_becomes t1 x1 ((6 : Int32)) x2 (fun r2 t3 => w_X7_ends t3 r2 (fun r4 t5 => ((¬ r4 = (1 : Int32) → Q ((0 : Int32)) t5) ∧ (r4 = (1 : Int32) → Q ((1 : Int32)) t5)))))
theorem ds_X7_weir : yX7_weir.cls = yX7_weir.cls ∧ yX7_weir.cls ≠ "java/lang/invoke/MethodHandle" ∧ yX7_weir.cls ≠ "java/lang/invoke/VarHandle" ∧ (parseMethodDescriptor yX7_weir.desc).map (fun d => d.parameters.length) = some 2 := by decide +kernel
set_option maxHeartbeats 4000000 in
theorem c_X7_weir (l : Launch) (D : va_G) (a : Nat → Nat) (σ : Nat → Nat → Int32) (x1 x2 : Int32) (Q : Int32 → (Nat → Nat → Int32) → Prop) (h : w_X7_weir σ x1 x2 Q) : Cti l D yX7_weir cX7_weir 3 .boolean (rmk 3 0 0 85) [.ref (a 0), .int x1, .int x2] (moW D a σ) (moW D a) Q 0 0 := by
  refine Cti.of (by decide) (Nat.le_of_ble_eq_true rfl) (fun x hF hR => ?_)
  replace hF : vF x l D "BrookWeirsModel" cX7_weir (rmk 3 0 0 85) 3 (some .boolean) := hF
  refine v_app0 ?_
  unfold w_X7_weir at h
  refine v_aload_n 0 hF dX7_weir_0 rfl 0 rfl ?_
  refine v_callVv (As := []) 1 hF (c_X7_keep l D a σ _ h) (List.Perm.refl _) ⟨0, 10, _, TX7, 18, rfl, rfl⟩ q1975 q1977 qs31 q82 q1978 ds_X7_keep ⟨rfl, rfl, Nat.le_of_ble_eq_true rfl, Nat.le_of_ble_eq_true rfl⟩ (Nat.le_of_ble_eq_true rfl) ⟨Nat.zero_le _, Nat.zero_le _⟩ dX7_weir_1 (fun t1 h => ?_)
  refine v_aload_n 4 hF dX7_weir_4 rfl 0 rfl ?_
  refine v_aload_n 5 hF dX7_weir_5 rfl 0 rfl ?_
  refine v_iload_n 6 hF dX7_weir_6 rfl 1 rfl ?_
  refine v_bipush (v := 6) 7 hF dX7_weir_7 (by decide) ?_
  refine v_iload_n 9 hF dX7_weir_9 rfl 2 rfl ?_
  refine v_callVi (As := [.int x1, .int ((6 : Int32)), .int x2]) 10 hF (c_X7_becomes l D a t1 x1 ((6 : Int32)) x2 _ h) (List.Perm.refl _) ⟨0, 10, _, TX7, 18, rfl, rfl⟩ q2011 q2013 qs37 q82 q2014 ds_X7_becomes ⟨rfl, rfl, Nat.le_of_ble_eq_true rfl, Nat.le_of_ble_eq_true rfl⟩ (Nat.le_of_ble_eq_true rfl) ⟨Nat.zero_le _, Nat.zero_le _⟩ dX7_weir_10 (fun r2 t3 h => ?_)
  refine v_callVi (As := [.int r2]) 13 hF (c_X7_ends l D a t3 r2 _ h) (List.Perm.refl _) ⟨0, 10, _, TX7, 18, rfl, rfl⟩ q1983 q1985 qs32 q82 q1986 ds_X7_ends ⟨rfl, rfl, Nat.le_of_ble_eq_true rfl, Nat.le_of_ble_eq_true rfl⟩ (Nat.le_of_ble_eq_true rfl) ⟨Nat.zero_le _, Nat.zero_le _⟩ dX7_weir_13 (fun r4 t5 h => ?_)
  refine v_iconst (v := 1) 16 hF dX7_weir_16 (by decide) ?_
  refine v_icmp_ne 17 24 hF dX7_weir_17 (by decide) (fun c6 => ?_) (fun c6 => ?_)
  · replace h := h.1 c6
    refine v_iconst (v := 0) 24 hF dX7_weir_24 (by decide) ?_
    exact v_zretA 25 hF hR (Nat.zero_le _) (Nat.zero_le _) rfl dX7_weir_25 h
  · replace h := h.2 c6
    refine v_iconst (v := 1) 20 hF dX7_weir_20 (by decide) ?_
    refine v_goto 21 25 hF dX7_weir_21 (by decide) ?_
    exact v_zretA 25 hF hR (Nat.zero_le _) (Nat.zero_le _) rfl dX7_weir_25 h
def w_X7_doLay_J28 (Q : Int32 → (Nat → Nat → Int32) → Prop)  (σ : Nat → Nat → Int32) (x1 x2 s1 : Int32) : Prop :=
  ∀ t1 : Nat → Nat → Int32, t1 = (upN σ 20 7 s1) → (((t1 20 7) ≤ 0 → w_X7_level t1 x1 (fun r3 t4 => (((1 : Int32) ≤ r3 → vp_in ((1 : Int32)) 156 ∧ ∀ y7 : Int32, y7 = ((t4 0) ((1 : Int32)).toNatClampNeg) → ((¬ y7 = (12 : Int32) → w_X7_clutchAt y7 (fun r9 => vp_in r9 156 ∧ ∀ t11 : Nat → Nat → Int32, t11 = (upN t4 0 r9.toNatClampNeg x1) → w_X7_clutchAt y7 (fun r12 => vp_in ((r12 + (1 : Int32))) 156 ∧ ∀ t14 : Nat → Nat → Int32, t14 = (upN t11 0 ((r12 + (1 : Int32))).toNatClampNeg x2) → w_X7_clutchAt y7 (fun r15 => vp_in ((r15 + (2 : Int32))) 156 ∧ ∀ t17 : Nat → Nat → Int32, t17 = (upN t14 0 ((r15 + (2 : Int32))).toNatClampNeg (0 : Int32)) → w_X7_clutchAt y7 (fun r18 => w_X7_level t17 x1 (fun r19 t20 => vp_in ((r18 + (3 : Int32))) 156 ∧ ∀ t22 : Nat → Nat → Int32, t22 = (upN t20 0 ((r18 + (3 : Int32))).toNatClampNeg r19) → vp_in ((1 : Int32)) 156 ∧ vp_in ((1 : Int32)) 156 ∧ ∀ t25 : Nat → Nat → Int32, t25 = (upN t22 0 ((1 : Int32)).toNatClampNeg (((t22 0) ((1 : Int32)).toNatClampNeg) + (1 : Int32))) → vp_in ((9 : Int32)) 156 ∧ vp_in ((9 : Int32)) 156 ∧ ∀ t28 : Nat → Nat → Int32, t28 = (upN t25 0 ((9 : Int32)).toNatClampNeg (((t25 0) ((9 : Int32)).toNatClampNeg) + x2)) → Q y7 t28)))))) ∧ (y7 = (12 : Int32) → w_X7_refuse t4 ((3 : Int32)) ((3 : Int32)) (fun r29 t30 => Q r29 t30)))) ∧ (¬ (1 : Int32) ≤ r3 → w_X7_refuse t4 ((3 : Int32)) ((2 : Int32)) (fun r31 t32 => Q r31 t32))))) ∧ (¬ (t1 20 7) ≤ 0 → Q ((0 : Int32)) t1))
def w_X7_doLay (σ : Nat → Nat → Int32) (x1 x2 : Int32) (Q : Int32 → (Nat → Nat → Int32) → Prop) : Prop :=
  w_X7_isPool σ x1 (fun r33 t34 => ((¬ r33 = 0 → w_X7_in x2 ((1 : Int32)) ((99 : Int32)) (fun r36 => ((¬ r36 = 0 → w_X7_doLay_J28 Q t34 x1 x2 ((0 : Int32))) ∧ (r36 = 0 → w_X7_doLay_J28 Q t34 x1 x2 ((2 : Int32)))))) ∧ (r33 = 0 → w_X7_doLay_J28 Q t34 x1 x2 ((1 : Int32)))))
set_option maxHeartbeats 4000000 in
theorem k_X7_doLay_J28 {x : vC} {l : Launch} {D : va_G} {a : Nat → Nat}  {Q : Int32 → (Nat → Nat → Int32) → Prop} (hF : vF x l D "BrookWeirsModel" cX7_doLay (rmk 3 0 0 63) 4 (some .int)) (hR : vRi x (moW D a) Q 0 0)   : ∀ (σ : Nat → Nat → Int32) (x1 x2 s1 : Int32), w_X7_doLay_J28 Q  σ x1 x2 s1 → vV x 0 0 (moW D a σ ++ []) [(0, .ref (a 0)), (1, .int x1), (2, .int x2)] 28 [.int s1, .ref (a 0)] := by
  intro σ x1 x2 s1 h
  unfold w_X7_doLay_J28 at h
  refine M_put7 28 hF q1911 dX7_doLay_28 (fun t1 et1 => ?_)
  replace h := h t1 et1
  refine v_aload_n 31 hF dX7_doLay_31 rfl 0 rfl ?_
  refine M_get 32 7 hF (Nat.le_of_ble_eq_true rfl) q1911 rfl rfl dX7_doLay_32 ?_
  refine v_if_le 35 40 hF dX7_doLay_35 (by decide) (fun c2 => ?_) (fun c2 => ?_)
  · replace h := h.1 c2
    refine v_aload_n 40 hF dX7_doLay_40 rfl 0 rfl ?_
    refine v_iload_n 41 hF dX7_doLay_41 rfl 1 rfl ?_
    refine v_callVi (As := [.int x1]) 42 hF (c_X7_level l D a t1 x1 _ h) (List.Perm.refl _) ⟨0, 10, _, TX7, 18, rfl, rfl⟩ q2031 q2033 qs39 q82 q2034 ds_X7_level ⟨rfl, rfl, Nat.le_of_ble_eq_true rfl, Nat.le_of_ble_eq_true rfl⟩ (Nat.le_of_ble_eq_true rfl) ⟨Nat.zero_le _, Nat.zero_le _⟩ dX7_doLay_42 (fun r3 t4 h => ?_)
    refine v_iconst (v := 1) 45 hF dX7_doLay_45 (by decide) ?_
    refine v_icmp_ge 46 56 hF dX7_doLay_46 (by decide) (fun c5 => ?_) (fun c5 => ?_)
    · replace h := h.1 c5
      refine v_aload_n 56 hF dX7_doLay_56 rfl 0 rfl ?_
      refine M_get 57 0 hF (Nat.le_of_ble_eq_true rfl) q1904 rfl rfl dX7_doLay_57 ?_
      refine v_iconst (v := 1) 60 hF dX7_doLay_60 (by decide) ?_
      obtain ⟨o6, h⟩ := h
      refine M_ald0 61 hF o6 dX7_doLay_61 ?_
      refine v_nm (fun y7 ey7 => ?_)
      replace h := h y7 ey7
      refine v_istore_n [(0, .ref (a 0)), (1, .int x1), (2, .int x2), (3, .int y7)] [1, 2, 3, 0] 62 hF dX7_doLay_62 rfl (Nat.le_of_ble_eq_true rfl) rfl ?_
      refine v_iload_n 63 hF dX7_doLay_63 rfl 3 rfl ?_
      refine v_bipush (v := 12) 64 hF dX7_doLay_64 (by decide) ?_
      refine v_icmp_ne 66 76 hF dX7_doLay_66 (by decide) (fun c8 => ?_) (fun c8 => ?_)
      · replace h := h.1 c8
        refine v_aload_n 76 hF dX7_doLay_76 rfl 0 rfl ?_
        refine M_get 77 0 hF (Nat.le_of_ble_eq_true rfl) q1904 rfl rfl dX7_doLay_77 ?_
        refine v_iload_n 80 hF dX7_doLay_80 rfl 3 rfl ?_
        refine v_callS0i (As := [.int y7]) 81 hF (c_X7_clutchAt l D y7 _ h) q2035 q2036 q82 q2037 ds_X7_clutchAt ⟨rfl, rfl, Nat.le_of_ble_eq_true rfl, Nat.le_of_ble_eq_true rfl⟩ (Nat.le_of_ble_eq_true rfl) ⟨Nat.zero_le _, Nat.zero_le _⟩ dX7_doLay_81 (fun r9 h => ?_)
        refine v_iload_n 84 hF dX7_doLay_84 rfl 1 rfl ?_
        obtain ⟨o10, h⟩ := h
        refine M_ast0 85 hF o10 dX7_doLay_85 (fun t11 et11 => ?_)
        replace h := h t11 et11
        refine v_aload_n 86 hF dX7_doLay_86 rfl 0 rfl ?_
        refine M_get 87 0 hF (Nat.le_of_ble_eq_true rfl) q1904 rfl rfl dX7_doLay_87 ?_
        refine v_iload_n 90 hF dX7_doLay_90 rfl 3 rfl ?_
        refine v_callS0i (As := [.int y7]) 91 hF (c_X7_clutchAt l D y7 _ h) q2035 q2036 q82 q2037 ds_X7_clutchAt ⟨rfl, rfl, Nat.le_of_ble_eq_true rfl, Nat.le_of_ble_eq_true rfl⟩ (Nat.le_of_ble_eq_true rfl) ⟨Nat.zero_le _, Nat.zero_le _⟩ dX7_doLay_91 (fun r12 h => ?_)
        refine v_iconst (v := 1) 94 hF dX7_doLay_94 (by decide) ?_
        refine v_iadd 95 hF dX7_doLay_95 ?_
        refine v_iload_n 96 hF dX7_doLay_96 rfl 2 rfl ?_
        obtain ⟨o13, h⟩ := h
        refine M_ast0 97 hF o13 dX7_doLay_97 (fun t14 et14 => ?_)
        replace h := h t14 et14
        refine v_aload_n 98 hF dX7_doLay_98 rfl 0 rfl ?_
        refine M_get 99 0 hF (Nat.le_of_ble_eq_true rfl) q1904 rfl rfl dX7_doLay_99 ?_
        refine v_iload_n 102 hF dX7_doLay_102 rfl 3 rfl ?_
        refine v_callS0i (As := [.int y7]) 103 hF (c_X7_clutchAt l D y7 _ h) q2035 q2036 q82 q2037 ds_X7_clutchAt ⟨rfl, rfl, Nat.le_of_ble_eq_true rfl, Nat.le_of_ble_eq_true rfl⟩ (Nat.le_of_ble_eq_true rfl) ⟨Nat.zero_le _, Nat.zero_le _⟩ dX7_doLay_103 (fun r15 h => ?_)
        refine v_iconst (v := 2) 106 hF dX7_doLay_106 (by decide) ?_
        refine v_iadd 107 hF dX7_doLay_107 ?_
        refine v_iconst (v := 0) 108 hF dX7_doLay_108 (by decide) ?_
        obtain ⟨o16, h⟩ := h
        refine M_ast0 109 hF o16 dX7_doLay_109 (fun t17 et17 => ?_)
        replace h := h t17 et17
        refine v_aload_n 110 hF dX7_doLay_110 rfl 0 rfl ?_
        refine M_get 111 0 hF (Nat.le_of_ble_eq_true rfl) q1904 rfl rfl dX7_doLay_111 ?_
        refine v_iload_n 114 hF dX7_doLay_114 rfl 3 rfl ?_
        refine v_callS0i (As := [.int y7]) 115 hF (c_X7_clutchAt l D y7 _ h) q2035 q2036 q82 q2037 ds_X7_clutchAt ⟨rfl, rfl, Nat.le_of_ble_eq_true rfl, Nat.le_of_ble_eq_true rfl⟩ (Nat.le_of_ble_eq_true rfl) ⟨Nat.zero_le _, Nat.zero_le _⟩ dX7_doLay_115 (fun r18 h => ?_)
        refine v_iconst (v := 3) 118 hF dX7_doLay_118 (by decide) ?_
        refine v_iadd 119 hF dX7_doLay_119 ?_
        refine v_aload_n 120 hF dX7_doLay_120 rfl 0 rfl ?_
        refine v_iload_n 121 hF dX7_doLay_121 rfl 1 rfl ?_
        refine v_callVi (As := [.int x1]) 122 hF (c_X7_level l D a t17 x1 _ h) (List.Perm.refl _) ⟨0, 10, _, TX7, 18, rfl, rfl⟩ q2031 q2033 qs39 q82 q2034 ds_X7_level ⟨rfl, rfl, Nat.le_of_ble_eq_true rfl, Nat.le_of_ble_eq_true rfl⟩ (Nat.le_of_ble_eq_true rfl) ⟨Nat.zero_le _, Nat.zero_le _⟩ dX7_doLay_122 (fun r19 t20 h => ?_)
        obtain ⟨o21, h⟩ := h
        refine M_ast0 125 hF o21 dX7_doLay_125 (fun t22 et22 => ?_)
        replace h := h t22 et22
        refine v_aload_n 126 hF dX7_doLay_126 rfl 0 rfl ?_
        refine M_get 127 0 hF (Nat.le_of_ble_eq_true rfl) q1904 rfl rfl dX7_doLay_127 ?_
        refine v_iconst (v := 1) 130 hF dX7_doLay_130 (by decide) ?_
        refine v_dup2 131 hF dX7_doLay_131 rfl rfl ?_
        obtain ⟨o23, h⟩ := h
        refine M_ald0 132 hF o23 dX7_doLay_132 ?_
        refine v_iconst (v := 1) 133 hF dX7_doLay_133 (by decide) ?_
        refine v_iadd 134 hF dX7_doLay_134 ?_
        obtain ⟨o24, h⟩ := h
        refine M_ast0 135 hF o24 dX7_doLay_135 (fun t25 et25 => ?_)
        replace h := h t25 et25
        refine v_aload_n 136 hF dX7_doLay_136 rfl 0 rfl ?_
        refine M_get 137 0 hF (Nat.le_of_ble_eq_true rfl) q1904 rfl rfl dX7_doLay_137 ?_
        refine v_bipush (v := 9) 140 hF dX7_doLay_140 (by decide) ?_
        refine v_dup2 142 hF dX7_doLay_142 rfl rfl ?_
        obtain ⟨o26, h⟩ := h
        refine M_ald0 143 hF o26 dX7_doLay_143 ?_
        refine v_iload_n 144 hF dX7_doLay_144 rfl 2 rfl ?_
        refine v_iadd 145 hF dX7_doLay_145 ?_
        obtain ⟨o27, h⟩ := h
        refine M_ast0 146 hF o27 dX7_doLay_146 (fun t28 et28 => ?_)
        replace h := h t28 et28
        refine v_iload_n 147 hF dX7_doLay_147 rfl 3 rfl ?_
        exact v_iretA 148 hF hR (Nat.zero_le _) (Nat.zero_le _) dX7_doLay_148 h
      · replace h := h.2 c8
        refine v_aload_n 69 hF dX7_doLay_69 rfl 0 rfl ?_
        refine v_iconst (v := 3) 70 hF dX7_doLay_70 (by decide) ?_
        refine v_iconst (v := 3) 71 hF dX7_doLay_71 (by decide) ?_
        refine v_callVi (As := [.int ((3 : Int32)), .int ((3 : Int32))]) 72 hF (c_X7_refuse l D a t4 ((3 : Int32)) ((3 : Int32)) _ h) (List.Perm.refl _) ⟨0, 10, _, TX7, 18, rfl, rfl⟩ q1971 q1973 qs30 q82 q1974 ds_X7_refuse ⟨rfl, rfl, Nat.le_of_ble_eq_true rfl, Nat.le_of_ble_eq_true rfl⟩ (Nat.le_of_ble_eq_true rfl) ⟨Nat.zero_le _, Nat.zero_le _⟩ dX7_doLay_72 (fun r29 t30 h => ?_)
        exact v_iretA 75 hF hR (Nat.zero_le _) (Nat.zero_le _) dX7_doLay_75 h
    · replace h := h.2 c5
      refine v_aload_n 49 hF dX7_doLay_49 rfl 0 rfl ?_
      refine v_iconst (v := 3) 50 hF dX7_doLay_50 (by decide) ?_
      refine v_iconst (v := 2) 51 hF dX7_doLay_51 (by decide) ?_
      refine v_callVi (As := [.int ((3 : Int32)), .int ((2 : Int32))]) 52 hF (c_X7_refuse l D a t4 ((3 : Int32)) ((2 : Int32)) _ h) (List.Perm.refl _) ⟨0, 10, _, TX7, 18, rfl, rfl⟩ q1971 q1973 qs30 q82 q1974 ds_X7_refuse ⟨rfl, rfl, Nat.le_of_ble_eq_true rfl, Nat.le_of_ble_eq_true rfl⟩ (Nat.le_of_ble_eq_true rfl) ⟨Nat.zero_le _, Nat.zero_le _⟩ dX7_doLay_52 (fun r31 t32 h => ?_)
      exact v_iretA 55 hF hR (Nat.zero_le _) (Nat.zero_le _) dX7_doLay_55 h
  · replace h := h.2 c2
    refine v_iconst (v := 0) 38 hF dX7_doLay_38 (by decide) ?_
    exact v_iretA 39 hF hR (Nat.zero_le _) (Nat.zero_le _) dX7_doLay_39 h
theorem ds_X7_doLay : yX7_doLay.cls = yX7_doLay.cls ∧ yX7_doLay.cls ≠ "java/lang/invoke/MethodHandle" ∧ yX7_doLay.cls ≠ "java/lang/invoke/VarHandle" ∧ (parseMethodDescriptor yX7_doLay.desc).map (fun d => d.parameters.length) = some 2 := by decide +kernel
set_option maxHeartbeats 4000000 in
theorem c_X7_doLay (l : Launch) (D : va_G) (a : Nat → Nat) (σ : Nat → Nat → Int32) (x1 x2 : Int32) (Q : Int32 → (Nat → Nat → Int32) → Prop) (h : w_X7_doLay σ x1 x2 Q) : Cti l D yX7_doLay cX7_doLay 4 .int (rmk 3 0 0 63) [.ref (a 0), .int x1, .int x2] (moW D a σ) (moW D a) Q 0 0 := by
  refine Cti.of (by decide) (Nat.le_of_ble_eq_true rfl) (fun x hF hR => ?_)
  replace hF : vF x l D "BrookWeirsModel" cX7_doLay (rmk 3 0 0 63) 4 (some .int) := hF
  refine v_app0 ?_
  unfold w_X7_doLay at h
  refine v_aload_n 0 hF dX7_doLay_0 rfl 0 rfl ?_
  refine v_aload_n 1 hF dX7_doLay_1 rfl 0 rfl ?_
  refine v_iload_n 2 hF dX7_doLay_2 rfl 1 rfl ?_
  refine v_callVi (As := [.int x1]) 3 hF (c_X7_isPool l D a σ x1 _ h) (List.Perm.refl _) ⟨0, 10, _, TX7, 18, rfl, rfl⟩ q1995 q1997 qs34 q82 q1998 ds_X7_isPool ⟨rfl, rfl, Nat.le_of_ble_eq_true rfl, Nat.le_of_ble_eq_true rfl⟩ (Nat.le_of_ble_eq_true rfl) ⟨Nat.zero_le _, Nat.zero_le _⟩ dX7_doLay_3 (fun r33 t34 h => ?_)
  refine v_if_ne 6 13 hF dX7_doLay_6 (by decide) (fun c35 => ?_) (fun c35 => ?_)
  · replace h := h.1 c35
    refine v_iload_n 13 hF dX7_doLay_13 rfl 2 rfl ?_
    refine v_iconst (v := 1) 14 hF dX7_doLay_14 (by decide) ?_
    refine v_bipush (v := 99) 15 hF dX7_doLay_15 (by decide) ?_
    refine v_callS0i (As := [.int x2, .int ((1 : Int32)), .int ((99 : Int32))]) 17 hF (c_X7_in l D x2 ((1 : Int32)) ((99 : Int32)) _ h) q1968 q1969 q82 q1970 ds_X7_in ⟨rfl, rfl, Nat.le_of_ble_eq_true rfl, Nat.le_of_ble_eq_true rfl⟩ (Nat.le_of_ble_eq_true rfl) ⟨Nat.zero_le _, Nat.zero_le _⟩ dX7_doLay_17 (fun r36 h => ?_)
    refine v_if_ne 20 27 hF dX7_doLay_20 (by decide) (fun c37 => ?_) (fun c37 => ?_)
    · replace h := h.1 c37
      refine v_iconst (v := 0) 27 hF dX7_doLay_27 (by decide) ?_
      exact k_X7_doLay_J28 hF hR _ _ _ _ h
    · replace h := h.2 c37
      refine v_iconst (v := 2) 23 hF dX7_doLay_23 (by decide) ?_
      refine v_goto 24 28 hF dX7_doLay_24 (by decide) ?_
      exact k_X7_doLay_J28 hF hR _ _ _ _ h
  · replace h := h.2 c35
    refine v_iconst (v := 1) 9 hF dX7_doLay_9 (by decide) ?_
    refine v_goto 10 28 hF dX7_doLay_10 (by decide) ?_
    exact k_X7_doLay_J28 hF hR _ _ _ _ h
def w_X7_numberOf (σ : Nat → Nat → Int32) (x1 x2 : Int32) (Q : Int32 → (Nat → Nat → Int32) → Prop) : Prop :=
  (((x2.toInt < 5 ∨ 8 < x2.toInt) → w_X7_get σ x1 x2 (fun r2 t3 => Q r2 t3)) ∧ (x2 = (5 : Int32) → w_X7_level σ x1 (fun r4 t5 => Q r4 t5)) ∧ (x2 = (6 : Int32) → w_X7_get σ x1 ((5 : Int32)) (fun r6 t7 => Q r6 t7)) ∧ (x2 = (7 : Int32) → w_X7_eggsIn σ x1 (fun r8 t9 => Q r8 t9)) ∧ (x2 = (8 : Int32) → w_X7_letsDown σ x1 (fun r10 t11 => Q r10 t11)))
theorem ds_X7_numberOf : yX7_numberOf.cls = yX7_numberOf.cls ∧ yX7_numberOf.cls ≠ "java/lang/invoke/MethodHandle" ∧ yX7_numberOf.cls ≠ "java/lang/invoke/VarHandle" ∧ (parseMethodDescriptor yX7_numberOf.desc).map (fun d => d.parameters.length) = some 2 := by decide +kernel
set_option maxHeartbeats 4000000 in
theorem c_X7_numberOf (l : Launch) (D : va_G) (a : Nat → Nat) (σ : Nat → Nat → Int32) (x1 x2 : Int32) (Q : Int32 → (Nat → Nat → Int32) → Prop) (h : w_X7_numberOf σ x1 x2 Q) : Cti l D yX7_numberOf cX7_numberOf 3 .int (rmk 4 0 0 87) [.ref (a 0), .int x1, .int x2] (moW D a σ) (moW D a) Q 0 0 := by
  refine Cti.of (by decide) (Nat.le_of_ble_eq_true rfl) (fun x hF hR => ?_)
  replace hF : vF x l D "BrookWeirsModel" cX7_numberOf (rmk 4 0 0 87) 3 (some .int) := hF
  refine v_app0 ?_
  unfold w_X7_numberOf at h
  refine v_iload_n 0 hF dX7_numberOf_0 rfl 2 rfl ?_
  rcases tsw_cases x2 5 4 with c1 | c1
  · replace h := h.1 c1
    refine v_tableOut 1 57 hF dX7_numberOf_1 c1 (by decide) ?_
    refine v_aload_n 57 hF dX7_numberOf_57 rfl 0 rfl ?_
    refine v_iload_n 58 hF dX7_numberOf_58 rfl 1 rfl ?_
    refine v_iload_n 59 hF dX7_numberOf_59 rfl 2 rfl ?_
    refine v_callVi (As := [.int x1, .int x2]) 60 hF (c_X7_get l D a σ x1 x2 _ h) (List.Perm.refl _) ⟨0, 10, _, TX7, 18, rfl, rfl⟩ q1999 q2001 qs35 q82 q2002 ds_X7_get ⟨rfl, rfl, Nat.le_of_ble_eq_true rfl, Nat.le_of_ble_eq_true rfl⟩ (Nat.le_of_ble_eq_true rfl) ⟨Nat.zero_le _, Nat.zero_le _⟩ dX7_numberOf_60 (fun r2 t3 h => ?_)
    exact v_iretA 63 hF hR (Nat.zero_le _) (Nat.zero_le _) dX7_numberOf_63 h
  · replace h := h.2
    obtain ⟨j, hj, ej⟩ := c1
    rcases (show j = 0 ∨ j = 1 ∨ j = 2 ∨ j = 3 by omega) with rfl | rfl | rfl | rfl
    · have ev : x2 = (5 : Int32) := ej
      replace h := h.1 ev
      refine v_tableIn 1 32 hF dX7_numberOf_1 (by rw [ev]; decide) (by rw [ev]; decide) (off := 31) (by rw [ev]; decide) (by decide) ?_
      refine v_aload_n 32 hF dX7_numberOf_32 rfl 0 rfl ?_
      refine v_iload_n 33 hF dX7_numberOf_33 rfl 1 rfl ?_
      refine v_callVi (As := [.int x1]) 34 hF (c_X7_level l D a σ x1 _ h) (List.Perm.refl _) ⟨0, 10, _, TX7, 18, rfl, rfl⟩ q2031 q2033 qs39 q82 q2034 ds_X7_level ⟨rfl, rfl, Nat.le_of_ble_eq_true rfl, Nat.le_of_ble_eq_true rfl⟩ (Nat.le_of_ble_eq_true rfl) ⟨Nat.zero_le _, Nat.zero_le _⟩ dX7_numberOf_34 (fun r4 t5 h => ?_)
      exact v_iretA 37 hF hR (Nat.zero_le _) (Nat.zero_le _) dX7_numberOf_37 h
    · have ev : x2 = (6 : Int32) := ej
      replace h := h.2.1 ev
      refine v_tableIn 1 38 hF dX7_numberOf_1 (by rw [ev]; decide) (by rw [ev]; decide) (off := 37) (by rw [ev]; decide) (by decide) ?_
      refine v_aload_n 38 hF dX7_numberOf_38 rfl 0 rfl ?_
      refine v_iload_n 39 hF dX7_numberOf_39 rfl 1 rfl ?_
      refine v_iconst (v := 5) 40 hF dX7_numberOf_40 (by decide) ?_
      refine v_callVi (As := [.int x1, .int ((5 : Int32))]) 41 hF (c_X7_get l D a σ x1 ((5 : Int32)) _ h) (List.Perm.refl _) ⟨0, 10, _, TX7, 18, rfl, rfl⟩ q1999 q2001 qs35 q82 q2002 ds_X7_get ⟨rfl, rfl, Nat.le_of_ble_eq_true rfl, Nat.le_of_ble_eq_true rfl⟩ (Nat.le_of_ble_eq_true rfl) ⟨Nat.zero_le _, Nat.zero_le _⟩ dX7_numberOf_41 (fun r6 t7 h => ?_)
      exact v_iretA 44 hF hR (Nat.zero_le _) (Nat.zero_le _) dX7_numberOf_44 h
    · have ev : x2 = (7 : Int32) := ej
      replace h := h.2.2.1 ev
      refine v_tableIn 1 45 hF dX7_numberOf_1 (by rw [ev]; decide) (by rw [ev]; decide) (off := 44) (by rw [ev]; decide) (by decide) ?_
      refine v_aload_n 45 hF dX7_numberOf_45 rfl 0 rfl ?_
      refine v_iload_n 46 hF dX7_numberOf_46 rfl 1 rfl ?_
      refine v_callVi (As := [.int x1]) 47 hF (c_X7_eggsIn l D a σ x1 _ h) (List.Perm.refl _) ⟨0, 10, _, TX7, 18, rfl, rfl⟩ q2046 q2048 qs41 q82 q2049 ds_X7_eggsIn ⟨rfl, rfl, Nat.le_of_ble_eq_true rfl, Nat.le_of_ble_eq_true rfl⟩ (Nat.le_of_ble_eq_true rfl) ⟨Nat.zero_le _, Nat.zero_le _⟩ dX7_numberOf_47 (fun r8 t9 h => ?_)
      exact v_iretA 50 hF hR (Nat.zero_le _) (Nat.zero_le _) dX7_numberOf_50 h
    · have ev : x2 = (8 : Int32) := ej
      replace h := h.2.2.2 ev
      refine v_tableIn 1 51 hF dX7_numberOf_1 (by rw [ev]; decide) (by rw [ev]; decide) (off := 50) (by rw [ev]; decide) (by decide) ?_
      refine v_aload_n 51 hF dX7_numberOf_51 rfl 0 rfl ?_
      refine v_iload_n 52 hF dX7_numberOf_52 rfl 1 rfl ?_
      refine v_callVi (As := [.int x1]) 53 hF (c_X7_letsDown l D a σ x1 _ h) (List.Perm.refl _) ⟨0, 10, _, TX7, 18, rfl, rfl⟩ q2050 q2052 qs42 q82 q2053 ds_X7_letsDown ⟨rfl, rfl, Nat.le_of_ble_eq_true rfl, Nat.le_of_ble_eq_true rfl⟩ (Nat.le_of_ble_eq_true rfl) ⟨Nat.zero_le _, Nat.zero_le _⟩ dX7_numberOf_53 (fun r10 t11 h => ?_)
      exact v_iretA 56 hF hR (Nat.zero_le _) (Nat.zero_le _) dX7_numberOf_56 h
def w_X7_tell (σ : Nat → Nat → Int32) (x1 : Int32) (Q : Int32 → (Nat → Nat → Int32) → Prop) : Prop :=
  w_X7_keep σ  (fun t1 => w_X7_doTell t1 x1 (fun r2 t3 => w_X7_ends t3 r2 (fun r4 t5 => Q r4 t5)))
theorem ds_X7_tell : yX7_tell.cls = yX7_tell.cls ∧ yX7_tell.cls ≠ "java/lang/invoke/MethodHandle" ∧ yX7_tell.cls ≠ "java/lang/invoke/VarHandle" ∧ (parseMethodDescriptor yX7_tell.desc).map (fun d => d.parameters.length) = some 1 := by decide +kernel
set_option maxHeartbeats 4000000 in
theorem c_X7_tell (l : Launch) (D : va_G) (a : Nat → Nat) (σ : Nat → Nat → Int32) (x1 : Int32) (Q : Int32 → (Nat → Nat → Int32) → Prop) (h : w_X7_tell σ x1 Q) : Cti l D yX7_tell cX7_tell 2 .int (rmk 2 0 0 85) [.ref (a 0), .int x1] (moW D a σ) (moW D a) Q 0 0 := by
  refine Cti.of (by decide) (Nat.le_of_ble_eq_true rfl) (fun x hF hR => ?_)
  replace hF : vF x l D "BrookWeirsModel" cX7_tell (rmk 2 0 0 85) 2 (some .int) := hF
  refine v_app0 ?_
  unfold w_X7_tell at h
  refine v_aload_n 0 hF dX7_tell_0 rfl 0 rfl ?_
  refine v_callVv (As := []) 1 hF (c_X7_keep l D a σ _ h) (List.Perm.refl _) ⟨0, 10, _, TX7, 18, rfl, rfl⟩ q1975 q1977 qs31 q82 q1978 ds_X7_keep ⟨rfl, rfl, Nat.le_of_ble_eq_true rfl, Nat.le_of_ble_eq_true rfl⟩ (Nat.le_of_ble_eq_true rfl) ⟨Nat.zero_le _, Nat.zero_le _⟩ dX7_tell_1 (fun t1 h => ?_)
  refine v_aload_n 4 hF dX7_tell_4 rfl 0 rfl ?_
  refine v_aload_n 5 hF dX7_tell_5 rfl 0 rfl ?_
  refine v_iload_n 6 hF dX7_tell_6 rfl 1 rfl ?_
  refine v_callVi (As := [.int x1]) 7 hF (c_X7_doTell l D a t1 x1 _ h) (List.Perm.refl _) ⟨0, 10, _, TX7, 18, rfl, rfl⟩ q2067 q2069 qs43 q82 q2070 ds_X7_doTell ⟨rfl, rfl, Nat.le_of_ble_eq_true rfl, Nat.le_of_ble_eq_true rfl⟩ (Nat.le_of_ble_eq_true rfl) ⟨Nat.zero_le _, Nat.zero_le _⟩ dX7_tell_7 (fun r2 t3 h => ?_)
  refine v_callVi (As := [.int r2]) 10 hF (c_X7_ends l D a t3 r2 _ h) (List.Perm.refl _) ⟨0, 10, _, TX7, 18, rfl, rfl⟩ q1983 q1985 qs32 q82 q1986 ds_X7_ends ⟨rfl, rfl, Nat.le_of_ble_eq_true rfl, Nat.le_of_ble_eq_true rfl⟩ (Nat.le_of_ble_eq_true rfl) ⟨Nat.zero_le _, Nat.zero_le _⟩ dX7_tell_10 (fun r4 t5 h => ?_)
  exact v_iretA 13 hF hR (Nat.zero_le _) (Nat.zero_le _) dX7_tell_13 h
def w_X7_live_J124 (Q : (Nat → Nat → Int32) → Prop)  (σ : Nat → Nat → Int32) (x1 x2 x3 x4 : Int32) : Prop :=
  vp_in ((x2 + (2 : Int32))) 156 ∧ vp_in ((x2 + (2 : Int32))) 156 ∧ ∀ t3 : Nat → Nat → Int32, t3 = (upN σ 0 ((x2 + (2 : Int32))).toNatClampNeg (((σ 0) ((x2 + (2 : Int32))).toNatClampNeg) + (1 : Int32))) → vp_in ((x2 + (2 : Int32))) 156 ∧ ((¬ ((t3 0) ((x2 + (2 : Int32))).toNatClampNeg) = (5 : Int32) → Q t3) ∧ (((t3 0) ((x2 + (2 : Int32))).toNatClampNeg) = (5 : Int32) → vp_in x2 156 ∧ w_X7_at (((t3 0) x2.toNatClampNeg)) (fun r7 => ∀ y8 : Int32, y8 = (r7 + (5 : Int32)) → vp_in ((10 : Int32)) 156 ∧ vp_in ((x2 + (1 : Int32))) 156 ∧ vp_in ((10 : Int32)) 156 ∧ ∀ t12 : Nat → Nat → Int32, t12 = (upN t3 0 ((10 : Int32)).toNatClampNeg (((t3 0) ((10 : Int32)).toNatClampNeg) + ((t3 0) ((x2 + (1 : Int32))).toNatClampNeg))) → vp_in y8 156 ∧ vp_in ((x2 + (1 : Int32))) 156 ∧ vp_in y8 156 ∧ ∀ t16 : Nat → Nat → Int32, t16 = (upN t12 0 y8.toNatClampNeg (if (((t12 0) y8.toNatClampNeg) + ((t12 0) ((x2 + (1 : Int32))).toNatClampNeg)) < (999 : Int32) then (((t12 0) y8.toNatClampNeg) + ((t12 0) ((x2 + (1 : Int32))).toNatClampNeg)) else (999 : Int32))) → vp_in ((x2 + (1 : Int32))) 156 ∧ ∀ t18 : Nat → Nat → Int32, t18 = (upN t16 0 ((x2 + (1 : Int32))).toNatClampNeg (0 : Int32)) → Q t18)))
def w_X7_live_J90 (Q : (Nat → Nat → Int32) → Prop)  (σ : Nat → Nat → Int32) (x1 x2 x3 x4 x5 s3 s2 s1 : Int32) : Prop :=
  vp_in s1 156 ∧ ∀ t20 : Nat → Nat → Int32, t20 = (upN σ 0 s1.toNatClampNeg (s2 + s3)) → w_X7_live_J124 Q t20 x1 x2 x3 x4
def w_X7_live_J70 (Q : (Nat → Nat → Int32) → Prop)  (σ : Nat → Nat → Int32) (x1 x2 x3 x4 x5 s2 s1 : Int32) : Prop :=
  w_X7_lose σ s1 s2 (fun t21 => vp_in x2 156 ∧ ((x5 = 0 → w_X7_live_J90 Q t21 x1 x2 x3 x4 x5 ((1 : Int32)) (((t21 0) x2.toNatClampNeg)) x2) ∧ (¬ x5 = 0 → w_X7_live_J90 Q t21 x1 x2 x3 x4 x5 ((0 : Int32)) (((t21 0) x2.toNatClampNeg)) x2)))
def w_X7_live_J50 (Q : (Nat → Nat → Int32) → Prop)  (σ : Nat → Nat → Int32) (x1 x2 x3 x4 s0 : Int32) : Prop :=
  ((s0 = 0 → ¬ (2 : Int32) = 0 ∧ w_X7_live_J70 Q σ x1 x2 x3 x4 s0 (((x4 + (1 : Int32)) / (2 : Int32))) x1) ∧ (¬ s0 = 0 → w_X7_live_J70 Q σ x1 x2 x3 x4 s0 x4 x1))
def w_X7_live (σ : Nat → Nat → Int32) (x1 : Int32) (Q : (Nat → Nat → Int32) → Prop) : Prop :=
  w_X7_clutchAt x1 (fun r26 => vp_in r26 156 ∧ ∀ y28 : Int32, y28 = ((σ 0) r26.toNatClampNeg) → vp_in ((r26 + (1 : Int32))) 156 ∧ ∀ y30 : Int32, y30 = ((σ 0) ((r26 + (1 : Int32))).toNatClampNeg) → w_X7_get σ y28 ((9 : Int32)) (fun r31 t32 => ((¬ r31 = (1 : Int32) → w_X7_level t32 y28 (fun r34 t35 => vp_in ((r26 + (3 : Int32))) 156 ∧ ((((t35 0) ((r26 + (3 : Int32))).toNatClampNeg) ≤ ((2 : Int32) * r34) → w_X7_live_J124 Q t35 x1 r26 y28 y30) ∧ (¬ ((t35 0) ((r26 + (3 : Int32))).toNatClampNeg) ≤ ((2 : Int32) * r34) → ¬ (4 : Int32) = 0 ∧ w_X7_lose t35 x1 (((y30 + (3 : Int32)) / (4 : Int32))) (fun t39 => w_X7_live_J124 Q t39 x1 r26 y28 y30))))) ∧ (r31 = (1 : Int32) → vp_in ((0 : Int32)) 156 ∧ ((¬ y28 = (((t32 0) ((0 : Int32)).toNatClampNeg) - (1 : Int32)) → w_X7_live_J50 Q t32 x1 r26 y28 y30 ((0 : Int32))) ∧ (y28 = (((t32 0) ((0 : Int32)).toNatClampNeg) - (1 : Int32)) → w_X7_live_J50 Q t32 x1 r26 y28 y30 ((1 : Int32))))))))
set_option maxHeartbeats 4000000 in
theorem k_X7_live_J124 {x : vC} {l : Launch} {D : va_G} {a : Nat → Nat}  {Q : (Nat → Nat → Int32) → Prop} (hF : vF x l D "BrookWeirsModel" cX7_live (rmk 3 0 0 64) 6 none) (hR : vRv x (moW D a) Q 0 0)   : ∀ (σ : Nat → Nat → Int32) (x1 x2 x3 x4 : Int32), w_X7_live_J124 Q  σ x1 x2 x3 x4 → vV x 0 0 (moW D a σ ++ []) [(0, .ref (a 0)), (1, .int x1), (2, .int x2), (3, .int x3), (4, .int x4)] 124 [] := by
  intro σ x1 x2 x3 x4 h
  unfold w_X7_live_J124 at h
  refine v_aload_n 124 hF dX7_live_124 rfl 0 rfl ?_
  refine M_get 125 0 hF (Nat.le_of_ble_eq_true rfl) q1904 rfl rfl dX7_live_125 ?_
  refine v_iload_n 128 hF dX7_live_128 rfl 2 rfl ?_
  refine v_iconst (v := 2) 129 hF dX7_live_129 (by decide) ?_
  refine v_iadd 130 hF dX7_live_130 ?_
  refine v_dup2 131 hF dX7_live_131 rfl rfl ?_
  obtain ⟨o1, h⟩ := h
  refine M_ald0 132 hF o1 dX7_live_132 ?_
  refine v_iconst (v := 1) 133 hF dX7_live_133 (by decide) ?_
  refine v_iadd 134 hF dX7_live_134 ?_
  obtain ⟨o2, h⟩ := h
  refine M_ast0 135 hF o2 dX7_live_135 (fun t3 et3 => ?_)
  replace h := h t3 et3
  refine v_aload_n 136 hF dX7_live_136 rfl 0 rfl ?_
  refine M_get 137 0 hF (Nat.le_of_ble_eq_true rfl) q1904 rfl rfl dX7_live_137 ?_
  refine v_iload_n 140 hF dX7_live_140 rfl 2 rfl ?_
  refine v_iconst (v := 2) 141 hF dX7_live_141 (by decide) ?_
  refine v_iadd 142 hF dX7_live_142 ?_
  obtain ⟨o4, h⟩ := h
  refine M_ald0 143 hF o4 dX7_live_143 ?_
  refine v_iconst (v := 5) 144 hF dX7_live_144 (by decide) ?_
  refine v_icmp_ne 145 217 hF dX7_live_145 (by decide) (fun c5 => ?_) (fun c5 => ?_)
  · replace h := h.1 c5
    exact v_vretA 217 hF hR (Nat.zero_le _) (Nat.zero_le _) dX7_live_217 h
  · replace h := h.2 c5
    refine v_aload_n 148 hF dX7_live_148 rfl 0 rfl ?_
    refine M_get 149 0 hF (Nat.le_of_ble_eq_true rfl) q1904 rfl rfl dX7_live_149 ?_
    refine v_iload_n 152 hF dX7_live_152 rfl 2 rfl ?_
    obtain ⟨o6, h⟩ := h
    refine M_ald0 153 hF o6 dX7_live_153 ?_
    refine v_callS0i (As := [.int (((t3 0) x2.toNatClampNeg))]) 154 hF (c_X7_at l D (((t3 0) x2.toNatClampNeg)) _ h) q1980 q1981 q82 q1982 ds_X7_at ⟨rfl, rfl, Nat.le_of_ble_eq_true rfl, Nat.le_of_ble_eq_true rfl⟩ (Nat.le_of_ble_eq_true rfl) ⟨Nat.zero_le _, Nat.zero_le _⟩ dX7_live_154 (fun r7 h => ?_)
    refine v_iconst (v := 5) 157 hF dX7_live_157 (by decide) ?_
    refine v_iadd 158 hF dX7_live_158 ?_
    refine v_nm (fun y8 ey8 => ?_)
    replace h := h y8 ey8
    refine v_istore [(0, .ref (a 0)), (1, .int x1), (2, .int x2), (3, .int x3), (4, .int x4), (5, .int y8)] [1, 2, 3, 4, 5, 0] 159 hF dX7_live_159 (Nat.le_of_ble_eq_true rfl) rfl ?_
    refine v_aload_n 161 hF dX7_live_161 rfl 0 rfl ?_
    refine M_get 162 0 hF (Nat.le_of_ble_eq_true rfl) q1904 rfl rfl dX7_live_162 ?_
    refine v_bipush (v := 10) 165 hF dX7_live_165 (by decide) ?_
    refine v_dup2 167 hF dX7_live_167 rfl rfl ?_
    obtain ⟨o9, h⟩ := h
    refine M_ald0 168 hF o9 dX7_live_168 ?_
    refine v_aload_n 169 hF dX7_live_169 rfl 0 rfl ?_
    refine M_get 170 0 hF (Nat.le_of_ble_eq_true rfl) q1904 rfl rfl dX7_live_170 ?_
    refine v_iload_n 173 hF dX7_live_173 rfl 2 rfl ?_
    refine v_iconst (v := 1) 174 hF dX7_live_174 (by decide) ?_
    refine v_iadd 175 hF dX7_live_175 ?_
    obtain ⟨o10, h⟩ := h
    refine M_ald0 176 hF o10 dX7_live_176 ?_
    refine v_iadd 177 hF dX7_live_177 ?_
    obtain ⟨o11, h⟩ := h
    refine M_ast0 178 hF o11 dX7_live_178 (fun t12 et12 => ?_)
    replace h := h t12 et12
    refine v_aload_n 179 hF dX7_live_179 rfl 0 rfl ?_
    refine M_get 180 0 hF (Nat.le_of_ble_eq_true rfl) q1904 rfl rfl dX7_live_180 ?_
    refine v_iload 183 hF dX7_live_183 5 rfl ?_
    refine v_sipush (v := 999) 185 hF dX7_live_185 (by decide) ?_
    refine v_aload_n 188 hF dX7_live_188 rfl 0 rfl ?_
    refine M_get 189 0 hF (Nat.le_of_ble_eq_true rfl) q1904 rfl rfl dX7_live_189 ?_
    refine v_iload 192 hF dX7_live_192 5 rfl ?_
    obtain ⟨o13, h⟩ := h
    refine M_ald0 194 hF o13 dX7_live_194 ?_
    refine v_aload_n 195 hF dX7_live_195 rfl 0 rfl ?_
    refine M_get 196 0 hF (Nat.le_of_ble_eq_true rfl) q1904 rfl rfl dX7_live_196 ?_
    refine v_iload_n 199 hF dX7_live_199 rfl 2 rfl ?_
    refine v_iconst (v := 1) 200 hF dX7_live_200 (by decide) ?_
    refine v_iadd 201 hF dX7_live_201 ?_
    obtain ⟨o14, h⟩ := h
    refine M_ald0 202 hF o14 dX7_live_202 ?_
    refine v_iadd 203 hF dX7_live_203 ?_
    refine v_mmin 204 hF q2054 q429 q92 q430 (Nat.le_of_ble_eq_true rfl) (Nat.le_of_ble_eq_true rfl) ⟨Nat.zero_le _, Nat.zero_le _⟩ dX7_live_204 ?_
    obtain ⟨o15, h⟩ := h
    refine M_ast0 207 hF o15 dX7_live_207 (fun t16 et16 => ?_)
    replace h := h t16 et16
    refine v_aload_n 208 hF dX7_live_208 rfl 0 rfl ?_
    refine M_get 209 0 hF (Nat.le_of_ble_eq_true rfl) q1904 rfl rfl dX7_live_209 ?_
    refine v_iload_n 212 hF dX7_live_212 rfl 2 rfl ?_
    refine v_iconst (v := 1) 213 hF dX7_live_213 (by decide) ?_
    refine v_iadd 214 hF dX7_live_214 ?_
    refine v_iconst (v := 0) 215 hF dX7_live_215 (by decide) ?_
    obtain ⟨o17, h⟩ := h
    refine M_ast0 216 hF o17 dX7_live_216 (fun t18 et18 => ?_)
    replace h := h t18 et18
    exact v_vretA 217 hF hR (Nat.zero_le _) (Nat.zero_le _) dX7_live_217 h
set_option maxHeartbeats 4000000 in
theorem k_X7_live_J90 {x : vC} {l : Launch} {D : va_G} {a : Nat → Nat}  {Q : (Nat → Nat → Int32) → Prop} (hF : vF x l D "BrookWeirsModel" cX7_live (rmk 3 0 0 64) 6 none) (hR : vRv x (moW D a) Q 0 0)   : ∀ (σ : Nat → Nat → Int32) (x1 x2 x3 x4 x5 s3 s2 s1 : Int32), w_X7_live_J90 Q  σ x1 x2 x3 x4 x5 s3 s2 s1 → vV x 0 0 (moW D a σ ++ []) [(0, .ref (a 0)), (1, .int x1), (2, .int x2), (3, .int x3), (4, .int x4), (5, .int x5)] 90 [.int s3, .int s2, .int s1, .ref (a 1)] := by
  intro σ x1 x2 x3 x4 x5 s3 s2 s1 h
  unfold w_X7_live_J90 at h
  refine v_iadd 90 hF dX7_live_90 ?_
  obtain ⟨o19, h⟩ := h
  refine M_ast0 91 hF o19 dX7_live_91 (fun t20 et20 => ?_)
  replace h := h t20 et20
  refine v_goto 92 124 hF dX7_live_92 (by decide) ?_
  refine v_sub [(0, .ref (a 0)), (1, .int x1), (2, .int x2), (3, .int x3), (4, .int x4)] [0, 1, 2, 3, 4] rfl ?_
  exact k_X7_live_J124 hF hR _ _ _ _ _ h
set_option maxHeartbeats 4000000 in
theorem k_X7_live_J70 {x : vC} {l : Launch} {D : va_G} {a : Nat → Nat}  {Q : (Nat → Nat → Int32) → Prop} (hF : vF x l D "BrookWeirsModel" cX7_live (rmk 3 0 0 64) 6 none) (hR : vRv x (moW D a) Q 0 0)   : ∀ (σ : Nat → Nat → Int32) (x1 x2 x3 x4 x5 s2 s1 : Int32), w_X7_live_J70 Q  σ x1 x2 x3 x4 x5 s2 s1 → vV x 0 0 (moW D a σ ++ []) [(0, .ref (a 0)), (1, .int x1), (2, .int x2), (3, .int x3), (4, .int x4), (5, .int x5)] 70 [.int s2, .int s1, .ref (a 0)] := by
  intro σ x1 x2 x3 x4 x5 s2 s1 h
  unfold w_X7_live_J70 at h
  refine v_callVv (As := [.int s1, .int s2]) 70 hF (c_X7_lose l D a σ s1 s2 _ h) (List.Perm.refl _) ⟨0, 10, _, TX7, 18, rfl, rfl⟩ q2107 q2109 qs51 q82 q2110 ds_X7_lose ⟨rfl, rfl, Nat.le_of_ble_eq_true rfl, Nat.le_of_ble_eq_true rfl⟩ (Nat.le_of_ble_eq_true rfl) ⟨Nat.zero_le _, Nat.zero_le _⟩ dX7_live_70 (fun t21 h => ?_)
  refine v_aload_n 73 hF dX7_live_73 rfl 0 rfl ?_
  refine M_get 74 0 hF (Nat.le_of_ble_eq_true rfl) q1904 rfl rfl dX7_live_74 ?_
  refine v_iload_n 77 hF dX7_live_77 rfl 2 rfl ?_
  refine v_dup2 78 hF dX7_live_78 rfl rfl ?_
  obtain ⟨o22, h⟩ := h
  refine M_ald0 79 hF o22 dX7_live_79 ?_
  refine v_iload 80 hF dX7_live_80 5 rfl ?_
  refine v_if_eq 82 89 hF dX7_live_82 (by decide) (fun c23 => ?_) (fun c23 => ?_)
  · replace h := h.1 c23
    refine v_iconst (v := 1) 89 hF dX7_live_89 (by decide) ?_
    exact k_X7_live_J90 hF hR _ _ _ _ _ _ _ _ _ h
  · replace h := h.2 c23
    refine v_iconst (v := 0) 85 hF dX7_live_85 (by decide) ?_
    refine v_goto 86 90 hF dX7_live_86 (by decide) ?_
    exact k_X7_live_J90 hF hR _ _ _ _ _ _ _ _ _ h
set_option maxHeartbeats 4000000 in
theorem k_X7_live_J50 {x : vC} {l : Launch} {D : va_G} {a : Nat → Nat}  {Q : (Nat → Nat → Int32) → Prop} (hF : vF x l D "BrookWeirsModel" cX7_live (rmk 3 0 0 64) 6 none) (hR : vRv x (moW D a) Q 0 0)   : ∀ (σ : Nat → Nat → Int32) (x1 x2 x3 x4 s0 : Int32), w_X7_live_J50 Q  σ x1 x2 x3 x4 s0 → vV x 0 0 (moW D a σ ++ []) [(0, .ref (a 0)), (1, .int x1), (2, .int x2), (3, .int x3), (4, .int x4)] 50 [.int s0] := by
  intro σ x1 x2 x3 x4 s0 h
  unfold w_X7_live_J50 at h
  refine v_istore [(0, .ref (a 0)), (1, .int x1), (2, .int x2), (3, .int x3), (4, .int x4), (5, .int s0)] [1, 2, 3, 4, 5, 0] 50 hF dX7_live_50 (Nat.le_of_ble_eq_true rfl) rfl ?_
  refine v_aload_n 52 hF dX7_live_52 rfl 0 rfl ?_
  refine v_iload_n 53 hF dX7_live_53 rfl 1 rfl ?_
  refine v_iload 54 hF dX7_live_54 5 rfl ?_
  refine v_if_eq 56 64 hF dX7_live_56 (by decide) (fun c24 => ?_) (fun c24 => ?_)
  · replace h := h.1 c24
    refine v_iload 64 hF dX7_live_64 4 rfl ?_
    refine v_iconst (v := 1) 66 hF dX7_live_66 (by decide) ?_
    refine v_iadd 67 hF dX7_live_67 ?_
    refine v_iconst (v := 2) 68 hF dX7_live_68 (by decide) ?_
    obtain ⟨o25, h⟩ := h
    refine v_idiv 69 hF dX7_live_69 o25 ?_
    exact k_X7_live_J70 hF hR _ _ _ _ _ _ _ _ h
  · replace h := h.2 c24
    refine v_iload 59 hF dX7_live_59 4 rfl ?_
    refine v_goto 61 70 hF dX7_live_61 (by decide) ?_
    exact k_X7_live_J70 hF hR _ _ _ _ _ _ _ _ h
theorem ds_X7_live : yX7_live.cls = yX7_live.cls ∧ yX7_live.cls ≠ "java/lang/invoke/MethodHandle" ∧ yX7_live.cls ≠ "java/lang/invoke/VarHandle" ∧ (parseMethodDescriptor yX7_live.desc).map (fun d => d.parameters.length) = some 1 := by decide +kernel
set_option maxHeartbeats 4000000 in
theorem c_X7_live (l : Launch) (D : va_G) (a : Nat → Nat) (σ : Nat → Nat → Int32) (x1 : Int32) (Q : (Nat → Nat → Int32) → Prop) (h : w_X7_live σ x1 Q) : Ctv l D yX7_live cX7_live 6 (rmk 3 0 0 64) [.ref (a 0), .int x1] (moW D a σ) (moW D a) Q 0 0 := by
  refine Ctv.of (by decide) (Nat.le_of_ble_eq_true rfl) (fun x hF hR => ?_)
  replace hF : vF x l D "BrookWeirsModel" cX7_live (rmk 3 0 0 64) 6 none := hF
  refine v_app0 ?_
  unfold w_X7_live at h
  refine v_iload_n 0 hF dX7_live_0 rfl 1 rfl ?_
  refine v_callS0i (As := [.int x1]) 1 hF (c_X7_clutchAt l D x1 _ h) q2035 q2036 q82 q2037 ds_X7_clutchAt ⟨rfl, rfl, Nat.le_of_ble_eq_true rfl, Nat.le_of_ble_eq_true rfl⟩ (Nat.le_of_ble_eq_true rfl) ⟨Nat.zero_le _, Nat.zero_le _⟩ dX7_live_1 (fun r26 h => ?_)
  refine v_istore_n [(0, .ref (a 0)), (1, .int x1), (2, .int r26)] [1, 2, 0] 4 hF dX7_live_4 rfl (Nat.le_of_ble_eq_true rfl) rfl ?_
  refine v_aload_n 5 hF dX7_live_5 rfl 0 rfl ?_
  refine M_get 6 0 hF (Nat.le_of_ble_eq_true rfl) q1904 rfl rfl dX7_live_6 ?_
  refine v_iload_n 9 hF dX7_live_9 rfl 2 rfl ?_
  obtain ⟨o27, h⟩ := h
  refine M_ald0 10 hF o27 dX7_live_10 ?_
  refine v_nm (fun y28 ey28 => ?_)
  replace h := h y28 ey28
  refine v_istore_n [(0, .ref (a 0)), (1, .int x1), (2, .int r26), (3, .int y28)] [1, 2, 3, 0] 11 hF dX7_live_11 rfl (Nat.le_of_ble_eq_true rfl) rfl ?_
  refine v_aload_n 12 hF dX7_live_12 rfl 0 rfl ?_
  refine M_get 13 0 hF (Nat.le_of_ble_eq_true rfl) q1904 rfl rfl dX7_live_13 ?_
  refine v_iload_n 16 hF dX7_live_16 rfl 2 rfl ?_
  refine v_iconst (v := 1) 17 hF dX7_live_17 (by decide) ?_
  refine v_iadd 18 hF dX7_live_18 ?_
  obtain ⟨o29, h⟩ := h
  refine M_ald0 19 hF o29 dX7_live_19 ?_
  refine v_nm (fun y30 ey30 => ?_)
  replace h := h y30 ey30
  refine v_istore [(0, .ref (a 0)), (1, .int x1), (2, .int r26), (3, .int y28), (4, .int y30)] [1, 2, 3, 4, 0] 20 hF dX7_live_20 (Nat.le_of_ble_eq_true rfl) rfl ?_
  refine v_aload_n 22 hF dX7_live_22 rfl 0 rfl ?_
  refine v_iload_n 23 hF dX7_live_23 rfl 3 rfl ?_
  refine v_bipush (v := 9) 24 hF dX7_live_24 (by decide) ?_
  refine v_callVi (As := [.int y28, .int ((9 : Int32))]) 26 hF (c_X7_get l D a σ y28 ((9 : Int32)) _ h) (List.Perm.refl _) ⟨0, 10, _, TX7, 18, rfl, rfl⟩ q1999 q2001 qs35 q82 q2002 ds_X7_get ⟨rfl, rfl, Nat.le_of_ble_eq_true rfl, Nat.le_of_ble_eq_true rfl⟩ (Nat.le_of_ble_eq_true rfl) ⟨Nat.zero_le _, Nat.zero_le _⟩ dX7_live_26 (fun r31 t32 h => ?_)
  refine v_iconst (v := 1) 29 hF dX7_live_29 (by decide) ?_
  refine v_icmp_ne 30 95 hF dX7_live_30 (by decide) (fun c33 => ?_) (fun c33 => ?_)
  · replace h := h.1 c33
    refine v_iconst (v := 2) 95 hF dX7_live_95 (by decide) ?_
    refine v_aload_n 96 hF dX7_live_96 rfl 0 rfl ?_
    refine v_iload_n 97 hF dX7_live_97 rfl 3 rfl ?_
    refine v_callVi (As := [.int y28]) 98 hF (c_X7_level l D a t32 y28 _ h) (List.Perm.refl _) ⟨0, 10, _, TX7, 18, rfl, rfl⟩ q2031 q2033 qs39 q82 q2034 ds_X7_level ⟨rfl, rfl, Nat.le_of_ble_eq_true rfl, Nat.le_of_ble_eq_true rfl⟩ (Nat.le_of_ble_eq_true rfl) ⟨Nat.zero_le _, Nat.zero_le _⟩ dX7_live_98 (fun r34 t35 h => ?_)
    refine v_imul 101 hF dX7_live_101 ?_
    refine v_aload_n 102 hF dX7_live_102 rfl 0 rfl ?_
    refine M_get 103 0 hF (Nat.le_of_ble_eq_true rfl) q1904 rfl rfl dX7_live_103 ?_
    refine v_iload_n 106 hF dX7_live_106 rfl 2 rfl ?_
    refine v_iconst (v := 3) 107 hF dX7_live_107 (by decide) ?_
    refine v_iadd 108 hF dX7_live_108 ?_
    obtain ⟨o36, h⟩ := h
    refine M_ald0 109 hF o36 dX7_live_109 ?_
    refine v_icmp_ge 110 124 hF dX7_live_110 (by decide) (fun c37 => ?_) (fun c37 => ?_)
    · replace h := h.1 c37
      exact k_X7_live_J124 hF hR _ _ _ _ _ h
    · replace h := h.2 c37
      refine v_aload_n 113 hF dX7_live_113 rfl 0 rfl ?_
      refine v_iload_n 114 hF dX7_live_114 rfl 1 rfl ?_
      refine v_iload 115 hF dX7_live_115 4 rfl ?_
      refine v_iconst (v := 3) 117 hF dX7_live_117 (by decide) ?_
      refine v_iadd 118 hF dX7_live_118 ?_
      refine v_iconst (v := 4) 119 hF dX7_live_119 (by decide) ?_
      obtain ⟨o38, h⟩ := h
      refine v_idiv 120 hF dX7_live_120 o38 ?_
      refine v_callVv (As := [.int x1, .int (((y30 + (3 : Int32)) / (4 : Int32)))]) 121 hF (c_X7_lose l D a t35 x1 (((y30 + (3 : Int32)) / (4 : Int32))) _ h) (List.Perm.refl _) ⟨0, 10, _, TX7, 18, rfl, rfl⟩ q2107 q2109 qs51 q82 q2110 ds_X7_lose ⟨rfl, rfl, Nat.le_of_ble_eq_true rfl, Nat.le_of_ble_eq_true rfl⟩ (Nat.le_of_ble_eq_true rfl) ⟨Nat.zero_le _, Nat.zero_le _⟩ dX7_live_121 (fun t39 h => ?_)
      exact k_X7_live_J124 hF hR _ _ _ _ _ h
  · replace h := h.2 c33
    refine v_iload_n 33 hF dX7_live_33 rfl 3 rfl ?_
    refine v_aload_n 34 hF dX7_live_34 rfl 0 rfl ?_
    refine M_get 35 0 hF (Nat.le_of_ble_eq_true rfl) q1904 rfl rfl dX7_live_35 ?_
    refine v_iconst (v := 0) 38 hF dX7_live_38 (by decide) ?_
    obtain ⟨o40, h⟩ := h
    refine M_ald0 39 hF o40 dX7_live_39 ?_
    refine v_iconst (v := 1) 40 hF dX7_live_40 (by decide) ?_
    refine v_isub 41 hF dX7_live_41 ?_
    refine v_icmp_ne 42 49 hF dX7_live_42 (by decide) (fun c41 => ?_) (fun c41 => ?_)
    · replace h := h.1 c41
      refine v_iconst (v := 0) 49 hF dX7_live_49 (by decide) ?_
      exact k_X7_live_J50 hF hR _ _ _ _ _ _ h
    · replace h := h.2 c41
      refine v_iconst (v := 1) 45 hF dX7_live_45 (by decide) ?_
      refine v_goto 46 50 hF dX7_live_46 (by decide) ?_
      exact k_X7_live_J50 hF hR _ _ _ _ _ _ h
