set_option maxRecDepth 100000
def w_X10_search (o : Nat) (nx : Int32) (z : Nat) (at_ : Int32) (a : Nat → Nat) (σ : Nat → Nat → Int32) (Q : ((Int32)) → Prop) : Prop :=
  wLoop (fun (K0 : (Int32) → Prop) (z2 : (Int32)) => (fun (v1 : Int32) => (((σ 40 4) ≤ v1 → Q v1) ∧ (¬ (σ 40 4) ≤ v1 → vp_in v1 12 ∧ (((σ 30 v1.toNatClampNeg) = at_ → Q v1) ∧ (¬ (σ 30 v1.toNatClampNeg) = at_ → ∀ y6 : Int32, y6 = (v1 + (1 : Int32)) → K0 y6))))) z2) nx
theorem ds_X10_search : yX10_search.cls = yX10_search.cls ∧ yX10_search.cls ≠ "java/lang/invoke/MethodHandle" ∧ yX10_search.cls ≠ "java/lang/invoke/VarHandle" ∧ (parseMethodDescriptor yX10_search.desc).map (fun d => d.parameters.length) = some 0 := by decide +kernel
set_option maxHeartbeats 4000000 in
theorem c_X10_search (l : Launch) (D : va_G) (o : Nat) (nx : Int32) (z : Nat) (at_ : Int32) (a : Nat → Nat) (σ : Nat → Nat → Int32) (Q : ((Int32)) → Prop) (h : w_X10_search o nx z at_ a σ Q) : Ctv l D yX10_search cX10_search 1 (rmk 0 0 0 0) [.ref o] ([(o, .inr (1, [.int nx, .ref z]))] ++ ([(z, .inr (12, [.int at_, .ref (a 8)]))] ++ (bkW D a σ ++ []))) (fun u : (Int32) => ([(o, .inr (1, [.int u, .ref z]))] ++ ([(z, .inr (12, [.int at_, .ref (a 8)]))] ++ (bkW D a σ ++ [])))) Q 0 0 := by
  refine Ctv.of (by decide) (Nat.le_of_ble_eq_true rfl) (fun x hF hR => ?_)
  replace hF : vF x l D "BrookWeirs$Clutches$1$1" cX10_search (rmk 0 0 0 0) 1 none := hF
  unfold w_X10_search at h
  refine vLoop (V := fun z2 : (Int32) => vV x 0 0 ([(o, .inr (1, [.int z2, .ref z]))] ++ ([(z, .inr (12, [.int at_, .ref (a 8)]))] ++ (bkW D a σ ++ []))) [(0, .ref o)] 0 []) (fun K0 hK0 z2 hs => ?_) _ h
  revert hs
  revert z2
  intro v1 hs
  have h : (((σ 40 4) ≤ v1 → Q v1) ∧ (¬ (σ 40 4) ≤ v1 → vp_in v1 12 ∧ (((σ 30 v1.toNatClampNeg) = at_ → Q v1) ∧ (¬ (σ 30 v1.toNatClampNeg) = at_ → ∀ y6 : Int32, y6 = (v1 + (1 : Int32)) → K0 y6)))) := hs
  refine v_aload_n 0 hF dX10_search_0 rfl 0 rfl ?_
  refine v_get 1 hF in_X10 0 rfl rfl 0 (Nat.le_of_ble_eq_true rfl) q940 rfl rfl dX10_search_1 ?_
  refine v_aload_n 4 hF dX10_search_4 rfl 0 rfl ?_
  refine v_get 5 hF in_X10 0 rfl rfl 1 (Nat.le_of_ble_eq_true rfl) q941 rfl rfl dX10_search_5 ?_
  refine v_get 8 hF in_X9 1 rfl rfl 1 (Nat.le_of_ble_eq_true rfl) q918 rfl rfl dX10_search_8 ?_
  refine v_getN 11 hF in_X3 10 rfl rfl 4 (Nat.le_of_ble_eq_true rfl) q149 rfl rfl dX10_search_11 ?_
  refine v_icmp_ge 14 55 hF dX10_search_14 (by decide) (fun c3 => ?_) (fun c3 => ?_)
  · replace h := h.1 c3
    exact v_vret (u := v1) 55 hF hR (Nat.le_of_ble_eq_true rfl) (Nat.le_of_ble_eq_true rfl) dX10_search_55 h
  · replace h := h.2 c3
    refine v_aload_n 17 hF dX10_search_17 rfl 0 rfl ?_
    refine v_get 18 hF in_X10 0 rfl rfl 1 (Nat.le_of_ble_eq_true rfl) q941 rfl rfl dX10_search_18 ?_
    refine v_get 21 hF in_X9 1 rfl rfl 1 (Nat.le_of_ble_eq_true rfl) q918 rfl rfl dX10_search_21 ?_
    refine v_getN 24 hF in_X3 10 rfl rfl 0 (Nat.le_of_ble_eq_true rfl) q136 rfl rfl dX10_search_24 ?_
    refine v_aload_n 27 hF dX10_search_27 rfl 0 rfl ?_
    refine v_get 28 hF in_X10 0 rfl rfl 0 (Nat.le_of_ble_eq_true rfl) q940 rfl rfl dX10_search_28 ?_
    obtain ⟨o4, h⟩ := h
    refine v_iald 31 hF 11 rfl o4 dX10_search_31 ?_
    refine v_aload_n 32 hF dX10_search_32 rfl 0 rfl ?_
    refine v_get 33 hF in_X10 0 rfl rfl 1 (Nat.le_of_ble_eq_true rfl) q941 rfl rfl dX10_search_33 ?_
    refine v_get 36 hF in_X9 1 rfl rfl 0 (Nat.le_of_ble_eq_true rfl) q916 rfl rfl dX10_search_36 ?_
    refine v_icmp_eq 39 55 hF dX10_search_39 (by decide) (fun c5 => ?_) (fun c5 => ?_)
    · replace h := h.1 c5
      exact v_vret (u := v1) 55 hF hR (Nat.le_of_ble_eq_true rfl) (Nat.le_of_ble_eq_true rfl) dX10_search_55 h
    · replace h := h.2 c5
      refine v_aload_n 42 hF dX10_search_42 rfl 0 rfl ?_
      refine v_dup 43 hF dX10_search_43 rfl ?_
      refine v_get 44 hF in_X10 0 rfl rfl 0 (Nat.le_of_ble_eq_true rfl) q940 rfl rfl dX10_search_44 ?_
      refine v_iconst (v := 1) 47 hF dX10_search_47 (by decide) ?_
      refine v_iadd 48 hF dX10_search_48 ?_
      refine v_nm (fun y6 ey6 => ?_)
      replace h := h y6 ey6
      refine v_put ([(o, .inr (1, [.int y6, .ref z]))] ++ ([(z, .inr (12, [.int at_, .ref (a 8)]))] ++ (bkW D a σ ++ []))) 49 hF in_X10 tyX10_ok nmX10 0 rfl rfl 0 (Nat.le_of_ble_eq_true rfl) q940 rfl rfl rfl rfl rfl (Nat.le_of_ble_eq_true rfl) rfl dX10_search_49 ?_
      refine v_goto 52 0 hF dX10_search_52 (by decide) ?_
      exact hK0 y6 h
def w_X10_hasNext (o : Nat) (nx : Int32) (z : Nat) (at_ : Int32) (a : Nat → Nat) (σ : Nat → Nat → Int32) (Q : Int32 → ((Int32)) → Prop) : Prop :=
  w_X10_search o nx z at_ a σ (fun u1 => (((σ 40 4) ≤ u1 → Q ((0 : Int32)) u1) ∧ (¬ (σ 40 4) ≤ u1 → Q ((1 : Int32)) u1)))
theorem ds_X10_hasNext : yX10_hasNext.cls = yX10_hasNext.cls ∧ yX10_hasNext.cls ≠ "java/lang/invoke/MethodHandle" ∧ yX10_hasNext.cls ≠ "java/lang/invoke/VarHandle" ∧ (parseMethodDescriptor yX10_hasNext.desc).map (fun d => d.parameters.length) = some 0 := by decide +kernel
set_option maxHeartbeats 4000000 in
theorem c_X10_hasNext (l : Launch) (D : va_G) (o : Nat) (nx : Int32) (z : Nat) (at_ : Int32) (a : Nat → Nat) (σ : Nat → Nat → Int32) (Q : Int32 → ((Int32)) → Prop) (h : w_X10_hasNext o nx z at_ a σ Q) : Cti l D yX10_hasNext cX10_hasNext 1 .boolean (rmk 1 0 0 20) [.ref o] ([(o, .inr (1, [.int nx, .ref z]))] ++ ([(z, .inr (12, [.int at_, .ref (a 8)]))] ++ (bkW D a σ ++ []))) (fun u : (Int32) => ([(o, .inr (1, [.int u, .ref z]))] ++ ([(z, .inr (12, [.int at_, .ref (a 8)]))] ++ (bkW D a σ ++ [])))) Q 0 0 := by
  refine Cti.of (by decide) (Nat.le_of_ble_eq_true rfl) (fun x hF hR => ?_)
  replace hF : vF x l D "BrookWeirs$Clutches$1$1" cX10_hasNext (rmk 1 0 0 20) 1 (some .boolean) := hF
  unfold w_X10_hasNext at h
  refine v_aload_n 0 hF dX10_hasNext_0 rfl 0 rfl ?_
  refine v_callVv (As := []) (b := o) (wr := ([])) 1 hF (c_X10_search l D o nx z at_ a σ _ h) (((List.Perm.refl _)).trans (List.Perm.of_eq (by simp only [List.append_assoc, List.nil_append, List.append_nil]))) ⟨0, 1, _, TX10, 2, rfl, rfl⟩ q1014 q1016 qs15 q97 q1017 ds_X10_search ⟨rfl, rfl, (Nat.le_of_ble_eq_true rfl), (Nat.le_of_ble_eq_true rfl)⟩ (Nat.le_of_ble_eq_true rfl) ⟨(Nat.le_of_ble_eq_true rfl), (Nat.le_of_ble_eq_true rfl)⟩ dX10_hasNext_1 (fun u1 h => ?_)
  refine v_eqw (ws1 := ([(o, .inr (1, [.int u1, .ref z]))] ++ ([(z, .inr (12, [.int at_, .ref (a 8)]))] ++ (bkW D a σ ++ [])))) (by simp only [List.append_assoc, List.nil_append, List.append_nil]) ?_
  refine v_aload_n 4 hF dX10_hasNext_4 rfl 0 rfl ?_
  refine v_get 5 hF in_X10 0 rfl rfl 0 (Nat.le_of_ble_eq_true rfl) q940 rfl rfl dX10_hasNext_5 ?_
  refine v_aload_n 8 hF dX10_hasNext_8 rfl 0 rfl ?_
  refine v_get 9 hF in_X10 0 rfl rfl 1 (Nat.le_of_ble_eq_true rfl) q941 rfl rfl dX10_hasNext_9 ?_
  refine v_get 12 hF in_X9 1 rfl rfl 1 (Nat.le_of_ble_eq_true rfl) q918 rfl rfl dX10_hasNext_12 ?_
  refine v_getN 15 hF in_X3 10 rfl rfl 4 (Nat.le_of_ble_eq_true rfl) q149 rfl rfl dX10_hasNext_15 ?_
  refine v_icmp_ge 18 25 hF dX10_hasNext_18 (by decide) (fun c2 => ?_) (fun c2 => ?_)
  · replace h := h.1 c2
    refine v_iconst (v := 0) 25 hF dX10_hasNext_25 (by decide) ?_
    exact v_zret (u := u1) 26 hF hR (Nat.le_of_ble_eq_true rfl) (Nat.le_of_ble_eq_true rfl) rfl dX10_hasNext_26 h
  · replace h := h.2 c2
    refine v_iconst (v := 1) 21 hF dX10_hasNext_21 (by decide) ?_
    refine v_goto 22 26 hF dX10_hasNext_22 (by decide) ?_
    exact v_zret (u := u1) 26 hF hR (Nat.le_of_ble_eq_true rfl) (Nat.le_of_ble_eq_true rfl) rfl dX10_hasNext_26 h
def w_X1_requireElement_ok (x0 : Int32) (Q : (Unit) → Prop) : Prop :=
  ((¬ x0 = 0 → Q ()) ∧ (x0 = 0 → False))
set_option maxHeartbeats 4000000 in
theorem c_X1_requireElement_ok (l : Launch) (D : va_G) (x0 : Int32) (Q : (Unit) → Prop) (h : w_X1_requireElement_ok x0 Q) : Ctv l D yX1_requireElement cX1_requireElement 1 (rmk 0 0 0 0) [.int x0] ([]) (fun u : Unit => ([])) Q 0 0 := by
  refine Ctv.of (by decide) (Nat.le_of_ble_eq_true rfl) (fun x hF hR => ?_)
  replace hF : vF x l D "BrookWeirs" cX1_requireElement (rmk 0 0 0 0) 1 none := hF
  unfold w_X1_requireElement_ok at h
  refine v_iload_n 0 hF dX1_requireElement_0 rfl 0 rfl ?_
  refine v_if_ne 1 12 hF dX1_requireElement_1 (by decide) (fun c1 => ?_) (fun c1 => ?_)
  · replace h := h.1 c1
    exact v_vret (u := ()) 12 hF hR (Nat.le_of_ble_eq_true rfl) (Nat.le_of_ble_eq_true rfl) dX1_requireElement_12 h
  · replace h := h.2 c1
    exact h.elim
def w_X10_next_2 (o : Nat) (nx : Int32) (z : Nat) (at_ : Int32) (a : Nat → Nat) (σ : Nat → Nat → Int32) (Q : ((Int32)) → Prop) : Prop :=
  w_X10_hasNext o nx z at_ a σ (fun r1 u2 => w_X1_requireElement_ok r1 (fun u3 => ∀ y4 : Int32, y4 = (u2 + (1 : Int32)) → vp_in ((y4 - (1 : Int32))) 12 ∧ w_J20_valueOf ((σ 31 ((y4 - (1 : Int32))).toNatClampNeg)) (fun u6 => Q y4)))
theorem ds_X10_next_2 : yX10_next_2.cls = yX10_next_2.cls ∧ yX10_next_2.cls ≠ "java/lang/invoke/MethodHandle" ∧ yX10_next_2.cls ≠ "java/lang/invoke/VarHandle" ∧ (parseMethodDescriptor yX10_next_2.desc).map (fun d => d.parameters.length) = some 0 := by decide +kernel
set_option maxHeartbeats 4000000 in
theorem c_X10_next_2 (l : Launch) (D : va_G) (o : Nat) (nx : Int32) (z : Nat) (at_ : Int32) (a : Nat → Nat) (σ : Nat → Nat → Int32) (Q : ((Int32)) → Prop) (h : w_X10_next_2 o nx z at_ a σ Q) : Ctr l D yX10_next_2 cX10_next_2 1 (.object "java/lang/Integer") (rmk 2 0 0 40) [.ref o] ([(o, .inr (1, [.int nx, .ref z]))] ++ ([(z, .inr (12, [.int at_, .ref (a 8)]))] ++ (bkW D a σ ++ []))) (fun u : (Int32) => ([(o, .inr (1, [.int u, .ref z]))] ++ ([(z, .inr (12, [.int at_, .ref (a 8)]))] ++ (bkW D a σ ++ [])))) (fun u : (Int32) => D.2 1001 ((σ 31 (u - 1).toNatClampNeg) + 128).toNatClampNeg) Q 0 0 := by
  refine Ctr.of (by decide) (Nat.le_of_ble_eq_true rfl) (fun x hF hR => ?_)
  replace hF : vF x l D "BrookWeirs$Clutches$1$1" cX10_next_2 (rmk 2 0 0 40) 1 (some (.object "java/lang/Integer")) := hF
  unfold w_X10_next_2 at h
  refine v_aload_n 0 hF dX10_next_2_0 rfl 0 rfl ?_
  refine v_callVi (As := []) (b := o) (wr := ([])) 1 hF (c_X10_hasNext l D o nx z at_ a σ _ h) (((List.Perm.refl _)).trans (List.Perm.of_eq (by simp only [List.append_assoc, List.nil_append, List.append_nil]))) ⟨0, 1, _, TX10, 2, rfl, rfl⟩ q1152 q1011 q2313 q97 q1013 ds_X10_hasNext ⟨rfl, rfl, (Nat.le_of_ble_eq_true rfl), (Nat.le_of_ble_eq_true rfl)⟩ (Nat.le_of_ble_eq_true rfl) ⟨(Nat.le_of_ble_eq_true rfl), (Nat.le_of_ble_eq_true rfl)⟩ dX10_next_2_1 (fun r1 u2 h => ?_)
  refine v_eqw (ws1 := ([(o, .inr (1, [.int u2, .ref z]))] ++ ([(z, .inr (12, [.int at_, .ref (a 8)]))] ++ (bkW D a σ ++ [])))) (by simp only [List.append_assoc, List.nil_append, List.append_nil]) ?_
  refine v_callSNv (As := [.int r1]) (wr := ([(o, .inr (1, [.int u2, .ref z]))] ++ ([(z, .inr (12, [.int at_, .ref (a 8)]))] ++ (bkW D a σ ++ [])))) 4 hF (c_X1_requireElement_ok l D r1 _ h) (((List.Perm.refl _)).trans (List.Perm.of_eq (by simp only [List.append_assoc, List.nil_append, List.append_nil]))) q1153 q1045 q70 q1046 ds_X1_requireElement ⟨rfl, rfl, (Nat.le_of_ble_eq_true rfl), (Nat.le_of_ble_eq_true rfl)⟩ (Nat.le_of_ble_eq_true rfl) ⟨(Nat.le_of_ble_eq_true rfl), (Nat.le_of_ble_eq_true rfl)⟩ dX10_next_2_4 (fun u3 h => ?_)
  refine v_eqw (ws1 := ([(o, .inr (1, [.int u2, .ref z]))] ++ ([(z, .inr (12, [.int at_, .ref (a 8)]))] ++ (bkW D a σ ++ [])))) (by simp only [List.append_assoc, List.nil_append, List.append_nil]) ?_
  refine v_aload_n 7 hF dX10_next_2_7 rfl 0 rfl ?_
  refine v_dup 8 hF dX10_next_2_8 rfl ?_
  refine v_get 9 hF in_X10 0 rfl rfl 0 (Nat.le_of_ble_eq_true rfl) q940 rfl rfl dX10_next_2_9 ?_
  refine v_iconst (v := 1) 12 hF dX10_next_2_12 (by decide) ?_
  refine v_iadd 13 hF dX10_next_2_13 ?_
  refine v_nm (fun y4 ey4 => ?_)
  replace h := h y4 ey4
  refine v_put ([(o, .inr (1, [.int y4, .ref z]))] ++ ([(z, .inr (12, [.int at_, .ref (a 8)]))] ++ (bkW D a σ ++ []))) 14 hF in_X10 tyX10_ok nmX10 0 rfl rfl 0 (Nat.le_of_ble_eq_true rfl) q940 rfl rfl rfl rfl rfl (Nat.le_of_ble_eq_true rfl) rfl dX10_next_2_14 ?_
  refine v_aload_n 17 hF dX10_next_2_17 rfl 0 rfl ?_
  refine v_get 18 hF in_X10 0 rfl rfl 1 (Nat.le_of_ble_eq_true rfl) q941 rfl rfl dX10_next_2_18 ?_
  refine v_get 21 hF in_X9 1 rfl rfl 1 (Nat.le_of_ble_eq_true rfl) q918 rfl rfl dX10_next_2_21 ?_
  refine v_getN 24 hF in_X3 10 rfl rfl 1 (Nat.le_of_ble_eq_true rfl) q140 rfl rfl dX10_next_2_24 ?_
  refine v_aload_n 27 hF dX10_next_2_27 rfl 0 rfl ?_
  refine v_get 28 hF in_X10 0 rfl rfl 0 (Nat.le_of_ble_eq_true rfl) q940 rfl rfl dX10_next_2_28 ?_
  refine v_iconst (v := 1) 31 hF dX10_next_2_31 (by decide) ?_
  refine v_isub 32 hF dX10_next_2_32 ?_
  obtain ⟨o5, h⟩ := h
  refine v_iald 33 hF 12 rfl o5 dX10_next_2_33 ?_
  refine v_callSr (As := [.int ((σ 31 ((y4 - (1 : Int32))).toNatClampNeg))]) (wr := ([(o, .inr (1, [.int y4, .ref z]))] ++ ([(z, .inr (12, [.int at_, .ref (a 8)]))] ++ (bkW D a σ ++ [])))) 34 hF (c_J20_valueOf l D ((σ 31 ((y4 - (1 : Int32))).toNatClampNeg)) _ h) (((List.Perm.refl _)).trans (List.Perm.of_eq (by simp only [List.append_assoc, List.nil_append, List.append_nil]))) q1154 q1124 q101 q1125 ds_J20_valueOf ⟨rfl, rfl, (Nat.le_of_ble_eq_true rfl), (Nat.le_of_ble_eq_true rfl)⟩ (Nat.le_of_ble_eq_true rfl) ⟨(Nat.le_of_ble_eq_true rfl), (Nat.le_of_ble_eq_true rfl)⟩ dX10_next_2_34 (fun u6 h => ?_)
  refine v_eqw (ws1 := ([(o, .inr (1, [.int y4, .ref z]))] ++ ([(z, .inr (12, [.int at_, .ref (a 8)]))] ++ (bkW D a σ ++ [])))) (by simp only [List.append_assoc, List.nil_append, List.append_nil]) ?_
  exact v_aret (u := y4) 37 hF (Or.inl ⟨_, rfl⟩) hR (Nat.le_of_ble_eq_true rfl) (Nat.le_of_ble_eq_true rfl) dX10_next_2_37 rfl h
def w_X10_next (o : Nat) (nx : Int32) (z : Nat) (at_ : Int32) (a : Nat → Nat) (σ : Nat → Nat → Int32) (Q : ((Int32)) → Prop) : Prop :=
  w_X10_next_2 o nx z at_ a σ (fun u1 => Q u1)
theorem ds_X10_next : yX10_next.cls = yX10_next.cls ∧ yX10_next.cls ≠ "java/lang/invoke/MethodHandle" ∧ yX10_next.cls ≠ "java/lang/invoke/VarHandle" ∧ (parseMethodDescriptor yX10_next.desc).map (fun d => d.parameters.length) = some 0 := by decide +kernel
set_option maxHeartbeats 4000000 in
theorem c_X10_next (l : Launch) (D : va_G) (o : Nat) (nx : Int32) (z : Nat) (at_ : Int32) (a : Nat → Nat) (σ : Nat → Nat → Int32) (Q : ((Int32)) → Prop) (h : w_X10_next o nx z at_ a σ Q) : Ctr l D yX10_next cX10_next 1 (.object "java/lang/Object") (rmk 3 0 0 60) [.ref o] ([(o, .inr (1, [.int nx, .ref z]))] ++ ([(z, .inr (12, [.int at_, .ref (a 8)]))] ++ (bkW D a σ ++ []))) (fun u : (Int32) => ([(o, .inr (1, [.int u, .ref z]))] ++ ([(z, .inr (12, [.int at_, .ref (a 8)]))] ++ (bkW D a σ ++ [])))) (fun u : (Int32) => D.2 1001 ((σ 31 (u - 1).toNatClampNeg) + 128).toNatClampNeg) Q 0 0 := by
  refine Ctr.of (by decide) (Nat.le_of_ble_eq_true rfl) (fun x hF hR => ?_)
  replace hF : vF x l D "BrookWeirs$Clutches$1$1" cX10_next (rmk 3 0 0 60) 1 (some (.object "java/lang/Object")) := hF
  unfold w_X10_next at h
  refine v_aload_n 0 hF dX10_next_0 rfl 0 rfl ?_
  refine v_callVr (As := []) (b := o) (wr := ([])) 1 hF (c_X10_next_2 l D o nx z at_ a σ _ h) (((List.Perm.refl _)).trans (List.Perm.of_eq (by simp only [List.append_assoc, List.nil_append, List.append_nil]))) ⟨0, 1, _, TX10, 2, rfl, rfl⟩ q1148 q1149 q1150 q97 q1151 ds_X10_next_2 ⟨rfl, rfl, (Nat.le_of_ble_eq_true rfl), (Nat.le_of_ble_eq_true rfl)⟩ (Nat.le_of_ble_eq_true rfl) ⟨(Nat.le_of_ble_eq_true rfl), (Nat.le_of_ble_eq_true rfl)⟩ dX10_next_1 (fun u1 h => ?_)
  refine v_eqw (ws1 := ([(o, .inr (1, [.int u1, .ref z]))] ++ ([(z, .inr (12, [.int at_, .ref (a 8)]))] ++ (bkW D a σ ++ [])))) (by simp only [List.append_assoc, List.nil_append, List.append_nil]) ?_
  exact v_aret (u := u1) 4 hF (Or.inl ⟨_, rfl⟩) hR (Nat.le_of_ble_eq_true rfl) (Nat.le_of_ble_eq_true rfl) dX10_next_4 rfl h
def w_X10_init (o : Nat) (nx : Int32) (z : Nat) (Q : (Unit) → Prop) : Prop :=
  Q ()
theorem ds_X10_init : yX10_init.cls = yX10_init.cls ∧ yX10_init.cls ≠ "java/lang/invoke/MethodHandle" ∧ yX10_init.cls ≠ "java/lang/invoke/VarHandle" ∧ (parseMethodDescriptor yX10_init.desc).map (fun d => d.parameters.length) = some 1 := by decide +kernel
set_option maxHeartbeats 4000000 in
theorem c_X10_init (l : Launch) (D : va_G) (o : Nat) (nx : Int32) (z : Nat) (Q : (Unit) → Prop) (h : w_X10_init o nx z Q) : Ctv l D yX10_init cX10_init 2 (rmk 1 0 0 64) [.ref o, .ref z] ([(o, .inr (1, [.int nx, .null]))] ++ []) (fun u : Unit => ([(o, .inr (1, [.int nx, .ref z]))] ++ [])) Q 0 0 := by
  refine Ctv.ofI rfl (by decide) (Nat.le_of_ble_eq_true rfl) (fun x hF hR hI => ?_)
  replace hF : vF x l D "BrookWeirs$Clutches$1$1" cX10_init (rmk 1 0 0 64) 2 none := hF
  unfold w_X10_init at h
  refine v_aload_n 0 hF dX10_init_0 rfl 0 rfl ?_
  refine v_aload_n 1 hF dX10_init_1 rfl 1 rfl ?_
  refine v_putF ([(o, .inr (1, [.int nx, .ref z]))] ++ []) 2 hF hI in_X10 tyX10_ok nmX10 0 rfl rfl 1 (Nat.le_of_ble_eq_true rfl) q941 rfl rfl rfl rfl rfl rfl (Nat.le_of_ble_eq_true rfl) rfl dX10_init_2 ?_
  refine v_aload_n 5 hF dX10_init_5 rfl 0 rfl ?_
  refine v_objInit 6 hF q939 q121 q122 dX10_init_6 (Nat.le_of_ble_eq_true rfl) (Nat.le_of_ble_eq_true rfl) ?_
  exact v_vret (u := ()) 9 hF hR (Nat.le_of_ble_eq_true rfl) (Nat.le_of_ble_eq_true rfl) dX10_init_9 h
def w_X9_init (z : Nat) (at_ : Int32) (k : Nat) (x2 : Int32) (Q : (Unit) → Prop) : Prop :=
  Q ()
theorem ds_X9_init : yX9_init.cls = yX9_init.cls ∧ yX9_init.cls ≠ "java/lang/invoke/MethodHandle" ∧ yX9_init.cls ≠ "java/lang/invoke/VarHandle" ∧ (parseMethodDescriptor yX9_init.desc).map (fun d => d.parameters.length) = some 2 := by decide +kernel
set_option maxHeartbeats 4000000 in
theorem c_X9_init (l : Launch) (D : va_G) (z : Nat) (at_ : Int32) (k : Nat) (x2 : Int32) (Q : (Unit) → Prop) (h : w_X9_init z at_ k x2 Q) : Ctv l D yX9_init cX9_init 3 (rmk 1 0 0 64) [.ref z, .ref k, .int x2] ([(z, .inr (12, [.int at_, .null]))] ++ []) (fun u : Unit => ([(z, .inr (12, [.int x2, .ref k]))] ++ [])) Q 0 0 := by
  refine Ctv.ofI rfl (by decide) (Nat.le_of_ble_eq_true rfl) (fun x hF hR hI => ?_)
  replace hF : vF x l D "BrookWeirs$Clutches$1" cX9_init (rmk 1 0 0 64) 3 none := hF
  unfold w_X9_init at h
  refine v_aload_n 0 hF dX9_init_0 rfl 0 rfl ?_
  refine v_aload_n 1 hF dX9_init_1 rfl 1 rfl ?_
  refine v_putF ([(z, .inr (12, [.int at_, .ref k]))] ++ []) 2 hF hI in_X9 tyX9_ok nmX9 0 rfl rfl 1 (Nat.le_of_ble_eq_true rfl) q917 rfl rfl rfl rfl rfl rfl (Nat.le_of_ble_eq_true rfl) rfl dX9_init_2 ?_
  refine v_aload_n 5 hF dX9_init_5 rfl 0 rfl ?_
  refine v_iload_n 6 hF dX9_init_6 rfl 2 rfl ?_
  refine v_putF ([(z, .inr (12, [.int x2, .ref k]))] ++ []) 7 hF hI in_X9 tyX9_ok nmX9 0 rfl rfl 0 (Nat.le_of_ble_eq_true rfl) q915 rfl rfl rfl rfl rfl rfl (Nat.le_of_ble_eq_true rfl) rfl dX9_init_7 ?_
  refine v_aload_n 10 hF dX9_init_10 rfl 0 rfl ?_
  refine v_objInit 11 hF q914 q121 q122 dX9_init_11 (Nat.le_of_ble_eq_true rfl) (Nat.le_of_ble_eq_true rfl) ?_
  exact v_vret (u := ()) 14 hF hR (Nat.le_of_ble_eq_true rfl) (Nat.le_of_ble_eq_true rfl) dX9_init_14 h
def w_X9_iterator (z : Nat) (at_ : Int32) (a : Nat → Nat) (Q : ((Nat)) → Prop) : Prop :=
  ∀ q1 : Nat, w_X10_init q1 ((0 : Int32)) z (fun u2 => Q q1)
theorem ds_X9_iterator : yX9_iterator.cls = yX9_iterator.cls ∧ yX9_iterator.cls ≠ "java/lang/invoke/MethodHandle" ∧ yX9_iterator.cls ≠ "java/lang/invoke/VarHandle" ∧ (parseMethodDescriptor yX9_iterator.desc).map (fun d => d.parameters.length) = some 0 := by decide +kernel
set_option maxHeartbeats 4000000 in
theorem c_X9_iterator (l : Launch) (D : va_G) (z : Nat) (at_ : Int32) (a : Nat → Nat) (Q : ((Nat)) → Prop) (h : w_X9_iterator z at_ a Q) : Ctr l D yX9_iterator cX9_iterator 1 (.object "java/util/Iterator") (rmk 2 1 2 85) [.ref z] ([(z, .inr (12, [.int at_, .ref (a 8)]))] ++ []) (fun u : (Nat) => ([(z, .inr (12, [.int at_, .ref (a 8)]))] ++ ([(u, .inr (1, [.int ((0 : Int32)), .ref z]))] ++ []))) (fun u : (Nat) => u) Q 1 2 := by
  refine Ctr.of (by decide) (Nat.le_of_ble_eq_true rfl) (fun x hF hR => ?_)
  replace hF : vF x l D "BrookWeirs$Clutches$1" cX9_iterator (rmk 2 1 2 85) 1 (some (.object "java/util/Iterator")) := hF
  unfold w_X9_iterator at h
  refine v_new [.int ((0 : Int32)), .null] 0 hF in_X10 tyX10_ok q934 q935 q97 (ci := 1) rfl (fun j hj => by rcases (show j = 0 ∨ j = 1 by omega) with rfl | rfl <;> rfl) ⟨(Nat.le_of_ble_eq_true rfl), (Nat.le_of_ble_eq_true rfl)⟩ dX9_iterator_0 (fun q1 => ?_)
  replace h := h q1
  refine v_eqw (ws1 := ([(z, .inr (12, [.int at_, .ref (a 8)]))] ++ ([(q1, .inr (1, [.int ((0 : Int32)), .null]))] ++ []))) (by simp only [List.append_assoc, List.nil_append, List.append_nil]) ?_
  refine v_dup 3 hF dX9_iterator_3 rfl ?_
  refine v_aload_n 4 hF dX9_iterator_4 rfl 0 rfl ?_
  refine v_callIv (As := [.ref z]) (b := q1) (wr := ([(z, .inr (12, [.int at_, .ref (a 8)]))] ++ [])) 5 hF (c_X10_init l D q1 ((0 : Int32)) z _ h) ((((((List.Perm.refl _)).append_left _).trans (pm_sw _ _ _))).trans (List.Perm.of_eq (by simp only [List.append_assoc, List.nil_append, List.append_nil]))) rfl q936 q937 q97 q938 ds_X10_init ⟨rfl, rfl, (Nat.le_of_ble_eq_true rfl), (Nat.le_of_ble_eq_true rfl)⟩ (Nat.le_of_ble_eq_true rfl) ⟨(Nat.le_of_ble_eq_true rfl), (Nat.le_of_ble_eq_true rfl)⟩ dX9_iterator_5 (fun u2 h => ?_)
  refine v_eqw (ws1 := ([(q1, .inr (1, [.int ((0 : Int32)), .ref z]))] ++ ([(z, .inr (12, [.int at_, .ref (a 8)]))] ++ []))) (by simp only [List.append_assoc, List.nil_append, List.append_nil]) ?_
  refine v_perm (ws' := ([(z, .inr (12, [.int at_, .ref (a 8)]))] ++ ([(q1, .inr (1, [.int ((0 : Int32)), .ref z]))] ++ []))) ((((List.Perm.refl _)).append_left _).trans (pm_sw _ _ _)) ?_
  exact v_aret (u := q1) 8 hF (Or.inl ⟨_, rfl⟩) hR (Nat.le_of_ble_eq_true rfl) (Nat.le_of_ble_eq_true rfl) dX9_iterator_8 rfl h
def w_X3_in (a : Nat → Nat) (σ : Nat → Nat → Int32) (x1 : Int32) (Q : ((Nat)) → Prop) : Prop :=
  ∀ q1 : Nat, w_X9_init q1 ((0 : Int32)) (a 8) x1 (fun u2 => Q q1)
theorem ds_X3_in : yX3_in.cls = yX3_in.cls ∧ yX3_in.cls ≠ "java/lang/invoke/MethodHandle" ∧ yX3_in.cls ≠ "java/lang/invoke/VarHandle" ∧ (parseMethodDescriptor yX3_in.desc).map (fun d => d.parameters.length) = some 1 := by decide +kernel
set_option maxHeartbeats 4000000 in
theorem c_X3_in (l : Launch) (D : va_G) (a : Nat → Nat) (σ : Nat → Nat → Int32) (x1 : Int32) (Q : ((Nat)) → Prop) (h : w_X3_in a σ x1 Q) : Ctr l D yX3_in cX3_in 2 (.object "java/lang/Iterable") (rmk 2 1 2 86) [.ref (a 8), .int x1] (bkW D a σ ++ []) (fun u : (Nat) => (bkW D a σ ++ ([(u, .inr (12, [.int x1, .ref (a 8)]))] ++ []))) (fun u : (Nat) => u) Q 1 2 := by
  refine Ctr.of (by decide) (Nat.le_of_ble_eq_true rfl) (fun x hF hR => ?_)
  replace hF : vF x l D "BrookWeirs$Clutches" cX3_in (rmk 2 1 2 86) 2 (some (.object "java/lang/Iterable")) := hF
  unfold w_X3_in at h
  refine v_new [.int ((0 : Int32)), .null] 0 hF in_X9 tyX9_ok q909 q910 q96 (ci := 12) rfl (fun j hj => by rcases (show j = 0 ∨ j = 1 by omega) with rfl | rfl <;> rfl) ⟨(Nat.le_of_ble_eq_true rfl), (Nat.le_of_ble_eq_true rfl)⟩ dX3_in_0 (fun q1 => ?_)
  replace h := h q1
  refine v_eqw (ws1 := (bkW D a σ ++ ([(q1, .inr (12, [.int ((0 : Int32)), .null]))] ++ []))) (by simp only [List.append_assoc, List.nil_append, List.append_nil]) ?_
  refine v_dup 3 hF dX3_in_3 rfl ?_
  refine v_aload_n 4 hF dX3_in_4 rfl 0 rfl ?_
  refine v_iload_n 5 hF dX3_in_5 rfl 1 rfl ?_
  refine v_callIv (As := [.ref (a 8), .int x1]) (b := q1) (wr := (bkW D a σ ++ [])) 6 hF (c_X9_init l D q1 ((0 : Int32)) (a 8) x1 _ h) ((((((List.Perm.refl _)).append_left _).trans (pm_sw _ _ _))).trans (List.Perm.of_eq (by simp only [List.append_assoc, List.nil_append, List.append_nil]))) rfl q911 q912 q96 q913 ds_X9_init ⟨rfl, rfl, (Nat.le_of_ble_eq_true rfl), (Nat.le_of_ble_eq_true rfl)⟩ (Nat.le_of_ble_eq_true rfl) ⟨(Nat.le_of_ble_eq_true rfl), (Nat.le_of_ble_eq_true rfl)⟩ dX3_in_6 (fun u2 h => ?_)
  refine v_eqw (ws1 := ([(q1, .inr (12, [.int x1, .ref (a 8)]))] ++ (bkW D a σ ++ []))) (by simp only [List.append_assoc, List.nil_append, List.append_nil]) ?_
  refine v_perm (ws' := (bkW D a σ ++ ([(q1, .inr (12, [.int x1, .ref (a 8)]))] ++ []))) ((((List.Perm.refl _)).append_left _).trans (pm_sw _ _ _)) ?_
  exact v_aret (u := q1) 9 hF (Or.inl ⟨_, rfl⟩) hR (Nat.le_of_ble_eq_true rfl) (Nat.le_of_ble_eq_true rfl) dX3_in_9 rfl h
def w_X1_of_2 (b : Nat → Nat) (σ : Nat → Nat → Int32) (x1 : Int32) (x2 : Int32) (Q : Int32 → ((Nat → Nat → Int32)) → Prop) : Prop :=
  (((x2.toInt < 0 ∨ 7 < x2.toInt) → w_X2_down σ x1 (fun r2 u3 => Q r2 u3)) ∧ (x2 = (0 : Int32) → vp_in x1 6 ∧ Q ((σ 0 x1.toNatClampNeg)) σ) ∧ (x2 = (1 : Int32) → vp_in x1 6 ∧ Q ((σ 1 x1.toNatClampNeg)) σ) ∧ (x2 = (2 : Int32) → vp_in x1 6 ∧ Q ((σ 2 x1.toNatClampNeg)) σ) ∧ (x2 = (3 : Int32) → vp_in x1 6 ∧ Q ((σ 3 x1.toNatClampNeg)) σ) ∧ (x2 = (4 : Int32) → vp_in x1 6 ∧ Q ((σ 4 x1.toNatClampNeg)) σ) ∧ (x2 = (5 : Int32) → w_X2_level σ x1 (fun r9 u10 => Q r9 u10)) ∧ (x2 = (6 : Int32) → vp_in x1 6 ∧ Q ((σ 5 x1.toNatClampNeg)) σ) ∧ (x2 = (7 : Int32) → w_X3_in b σ x1 (fun u12 => w_X9_iterator u12 x1 b (fun u13 => wLoop (fun (K113 : (Int32) × (Int32) → Prop) (z16 : (Int32) × (Int32)) => (fun (v14 : Int32) (v15 : Int32) => w_X10_hasNext u13 v15 u12 x1 b σ (fun r17 u18 => ((r17 = 0 → Q v14 σ) ∧ (¬ r17 = 0 → w_X10_next u13 u18 u12 x1 b σ (fun u20 => ((σ 31 (u20 - 1).toNatClampNeg) + 128).toNatClampNeg < 256 ∧ ((σ 31 (u20 - 1).toNatClampNeg) + 128).toNatClampNeg < 256 ∧ ∀ r23 : Int32, r23 = vb_c ((σ 31 (u20 - 1).toNatClampNeg) + 128).toNatClampNeg → ∀ y24 : Int32, y24 = (v14 + r23) → K113 ((y24, u20))))))) z16.1 z16.2) (((0 : Int32), (0 : Int32)))))))
theorem ds_X1_of_2 : yX1_of_2.cls = yX1_of_2.cls ∧ yX1_of_2.cls ≠ "java/lang/invoke/MethodHandle" ∧ yX1_of_2.cls ≠ "java/lang/invoke/VarHandle" ∧ (parseMethodDescriptor yX1_of_2.desc).map (fun d => d.parameters.length) = some 3 := by decide +kernel
set_option maxHeartbeats 4000000 in
theorem c_X1_of_2 (l : Launch) (D : va_G) (b : Nat → Nat) (σ : Nat → Nat → Int32) (x1 : Int32) (x2 : Int32) (Q : Int32 → ((Nat → Nat → Int32)) → Prop) (h : w_X1_of_2 b σ x1 x2 Q) : Cti l D yX1_of_2 cX1_of_2 6 .int (rmk 4 2 4 107) [.ref (b 0), .int x1, .int x2] (bkW D b σ ++ []) (fun u : (Nat → Nat → Int32) => (bkW D b u ++ [])) Q 2 4 := by
  refine Cti.of (by decide) (Nat.le_of_ble_eq_true rfl) (fun x hF hR => ?_)
  replace hF : vF x l D "BrookWeirs" cX1_of_2 (rmk 4 2 4 107) 6 (some .int) := hF
  unfold w_X1_of_2 at h
  refine v_iload_n 0 hF dX1_of_2_0 rfl 2 rfl ?_
  rcases tsw_cases x2 0 8 with c1 | c1
  · replace h := h.1 c1
    refine v_tableOut 1 148 hF dX1_of_2_1 c1 (by decide) ?_
    refine v_aload_n 148 hF dX1_of_2_148 rfl 0 rfl ?_
    refine v_iload_n 149 hF dX1_of_2_149 rfl 1 rfl ?_
    refine v_callVi (As := [.int x1]) (b := b 0) (wr := ([])) 150 hF (c_X2_down l D b σ x1 _ h) (((List.Perm.refl _)).trans (List.Perm.of_eq (by simp only [List.append_assoc, List.nil_append, List.append_nil]))) ⟨0, 6, _, TX2, 24, rfl, rfl⟩ q1184 q418 q419 q71 q420 ds_X2_down ⟨rfl, rfl, (Nat.le_of_ble_eq_true rfl), (Nat.le_of_ble_eq_true rfl)⟩ (Nat.le_of_ble_eq_true rfl) ⟨(Nat.le_of_ble_eq_true rfl), (Nat.le_of_ble_eq_true rfl)⟩ dX1_of_2_150 (fun r2 u3 h => ?_)
    refine v_eqw (ws1 := (bkW D b u3 ++ [])) (by simp only [List.append_assoc, List.nil_append, List.append_nil]) ?_
    exact v_iret (u := u3) 153 hF hR (Nat.le_of_ble_eq_true rfl) (Nat.le_of_ble_eq_true rfl) dX1_of_2_153 h
  · replace h := h.2
    obtain ⟨j, hj, ej⟩ := c1
    rcases (show j = 0 ∨ j = 1 ∨ j = 2 ∨ j = 3 ∨ j = 4 ∨ j = 5 ∨ j = 6 ∨ j = 7 by omega) with rfl | rfl | rfl | rfl | rfl | rfl | rfl | rfl
    · have ev : x2 = (0 : Int32) := ej
      replace h := h.1 ev
      refine v_tableIn 1 48 hF dX1_of_2_1 (by rw [ev]; decide) (by rw [ev]; decide) (off := 47) (by rw [ev]; decide) (by decide) ?_
      refine v_aload_n 48 hF dX1_of_2_48 rfl 0 rfl ?_
      refine v_getN 49 hF in_X2 0 rfl rfl 0 (Nat.le_of_ble_eq_true rfl) q166 rfl rfl dX1_of_2_49 ?_
      refine v_iload_n 52 hF dX1_of_2_52 rfl 1 rfl ?_
      obtain ⟨o4, h⟩ := h
      refine v_iald 53 hF 1 rfl o4 dX1_of_2_53 ?_
      exact v_iret (u := σ) 54 hF hR (Nat.le_of_ble_eq_true rfl) (Nat.le_of_ble_eq_true rfl) dX1_of_2_54 h
    · have ev : x2 = (1 : Int32) := ej
      replace h := h.2.1 ev
      refine v_tableIn 1 55 hF dX1_of_2_1 (by rw [ev]; decide) (by rw [ev]; decide) (off := 54) (by rw [ev]; decide) (by decide) ?_
      refine v_aload_n 55 hF dX1_of_2_55 rfl 0 rfl ?_
      refine v_getN 56 hF in_X2 0 rfl rfl 1 (Nat.le_of_ble_eq_true rfl) q168 rfl rfl dX1_of_2_56 ?_
      refine v_iload_n 59 hF dX1_of_2_59 rfl 1 rfl ?_
      obtain ⟨o5, h⟩ := h
      refine v_iald 60 hF 2 rfl o5 dX1_of_2_60 ?_
      exact v_iret (u := σ) 61 hF hR (Nat.le_of_ble_eq_true rfl) (Nat.le_of_ble_eq_true rfl) dX1_of_2_61 h
    · have ev : x2 = (2 : Int32) := ej
      replace h := h.2.2.1 ev
      refine v_tableIn 1 62 hF dX1_of_2_1 (by rw [ev]; decide) (by rw [ev]; decide) (off := 61) (by rw [ev]; decide) (by decide) ?_
      refine v_aload_n 62 hF dX1_of_2_62 rfl 0 rfl ?_
      refine v_getN 63 hF in_X2 0 rfl rfl 2 (Nat.le_of_ble_eq_true rfl) q170 rfl rfl dX1_of_2_63 ?_
      refine v_iload_n 66 hF dX1_of_2_66 rfl 1 rfl ?_
      obtain ⟨o6, h⟩ := h
      refine v_iald 67 hF 3 rfl o6 dX1_of_2_67 ?_
      exact v_iret (u := σ) 68 hF hR (Nat.le_of_ble_eq_true rfl) (Nat.le_of_ble_eq_true rfl) dX1_of_2_68 h
    · have ev : x2 = (3 : Int32) := ej
      replace h := h.2.2.2.1 ev
      refine v_tableIn 1 69 hF dX1_of_2_1 (by rw [ev]; decide) (by rw [ev]; decide) (off := 68) (by rw [ev]; decide) (by decide) ?_
      refine v_aload_n 69 hF dX1_of_2_69 rfl 0 rfl ?_
      refine v_getN 70 hF in_X2 0 rfl rfl 3 (Nat.le_of_ble_eq_true rfl) q172 rfl rfl dX1_of_2_70 ?_
      refine v_iload_n 73 hF dX1_of_2_73 rfl 1 rfl ?_
      obtain ⟨o7, h⟩ := h
      refine v_iald 74 hF 4 rfl o7 dX1_of_2_74 ?_
      exact v_iret (u := σ) 75 hF hR (Nat.le_of_ble_eq_true rfl) (Nat.le_of_ble_eq_true rfl) dX1_of_2_75 h
    · have ev : x2 = (4 : Int32) := ej
      replace h := h.2.2.2.2.1 ev
      refine v_tableIn 1 76 hF dX1_of_2_1 (by rw [ev]; decide) (by rw [ev]; decide) (off := 75) (by rw [ev]; decide) (by decide) ?_
      refine v_aload_n 76 hF dX1_of_2_76 rfl 0 rfl ?_
      refine v_getN 77 hF in_X2 0 rfl rfl 4 (Nat.le_of_ble_eq_true rfl) q174 rfl rfl dX1_of_2_77 ?_
      refine v_iload_n 80 hF dX1_of_2_80 rfl 1 rfl ?_
      obtain ⟨o8, h⟩ := h
      refine v_iald 81 hF 5 rfl o8 dX1_of_2_81 ?_
      exact v_iret (u := σ) 82 hF hR (Nat.le_of_ble_eq_true rfl) (Nat.le_of_ble_eq_true rfl) dX1_of_2_82 h
    · have ev : x2 = (5 : Int32) := ej
      replace h := h.2.2.2.2.2.1 ev
      refine v_tableIn 1 83 hF dX1_of_2_1 (by rw [ev]; decide) (by rw [ev]; decide) (off := 82) (by rw [ev]; decide) (by decide) ?_
      refine v_aload_n 83 hF dX1_of_2_83 rfl 0 rfl ?_
      refine v_iload_n 84 hF dX1_of_2_84 rfl 1 rfl ?_
      refine v_callVi (As := [.int x1]) (b := b 0) (wr := ([])) 85 hF (c_X2_level l D b σ x1 _ h) (((List.Perm.refl _)).trans (List.Perm.of_eq (by simp only [List.append_assoc, List.nil_append, List.append_nil]))) ⟨0, 6, _, TX2, 24, rfl, rfl⟩ q904 q443 q444 q71 q445 ds_X2_level ⟨rfl, rfl, (Nat.le_of_ble_eq_true rfl), (Nat.le_of_ble_eq_true rfl)⟩ (Nat.le_of_ble_eq_true rfl) ⟨(Nat.le_of_ble_eq_true rfl), (Nat.le_of_ble_eq_true rfl)⟩ dX1_of_2_85 (fun r9 u10 h => ?_)
      refine v_eqw (ws1 := (bkW D b u10 ++ [])) (by simp only [List.append_assoc, List.nil_append, List.append_nil]) ?_
      exact v_iret (u := u10) 88 hF hR (Nat.le_of_ble_eq_true rfl) (Nat.le_of_ble_eq_true rfl) dX1_of_2_88 h
    · have ev : x2 = (6 : Int32) := ej
      replace h := h.2.2.2.2.2.2.1 ev
      refine v_tableIn 1 89 hF dX1_of_2_1 (by rw [ev]; decide) (by rw [ev]; decide) (off := 88) (by rw [ev]; decide) (by decide) ?_
      refine v_aload_n 89 hF dX1_of_2_89 rfl 0 rfl ?_
      refine v_getN 90 hF in_X2 0 rfl rfl 5 (Nat.le_of_ble_eq_true rfl) q177 rfl rfl dX1_of_2_90 ?_
      refine v_iload_n 93 hF dX1_of_2_93 rfl 1 rfl ?_
      obtain ⟨o11, h⟩ := h
      refine v_iald 94 hF 6 rfl o11 dX1_of_2_94 ?_
      exact v_iret (u := σ) 95 hF hR (Nat.le_of_ble_eq_true rfl) (Nat.le_of_ble_eq_true rfl) dX1_of_2_95 h
    · have ev : x2 = (7 : Int32) := ej
      replace h := h.2.2.2.2.2.2.2 ev
      refine v_tableIn 1 96 hF dX1_of_2_1 (by rw [ev]; decide) (by rw [ev]; decide) (off := 95) (by rw [ev]; decide) (by decide) ?_
      refine v_iconst (v := 0) 96 hF dX1_of_2_96 (by decide) ?_
      refine v_istore_n [(0, .ref (b 0)), (1, .int x1), (2, .int x2), (3, .int ((0 : Int32)))] [1, 2, 3, 0] 97 hF dX1_of_2_97 rfl (Nat.le_of_ble_eq_true rfl) rfl ?_
      refine v_aload_n 98 hF dX1_of_2_98 rfl 0 rfl ?_
      refine v_getN 99 hF in_X2 0 rfl rfl 7 (Nat.le_of_ble_eq_true rfl) q182 rfl rfl dX1_of_2_99 ?_
      refine v_iload_n 102 hF dX1_of_2_102 rfl 1 rfl ?_
      refine v_callVr (As := [.int x1]) (b := b 8) (wr := ([])) 103 hF (c_X3_in l D b σ x1 _ h) (((List.Perm.refl _)).trans (List.Perm.of_eq (by simp only [List.append_assoc, List.nil_append, List.append_nil]))) ⟨8, 7, _, TX3, 5, rfl, rfl⟩ q905 q906 q907 q72 q908 ds_X3_in ⟨rfl, rfl, (Nat.le_of_ble_eq_true rfl), (Nat.le_of_ble_eq_true rfl)⟩ (Nat.le_of_ble_eq_true rfl) ⟨(Nat.le_of_ble_eq_true rfl), (Nat.le_of_ble_eq_true rfl)⟩ dX1_of_2_103 (fun u12 h => ?_)
      refine v_eqw (ws1 := (bkW D b σ ++ ([(u12, .inr (12, [.int x1, .ref (b 8)]))] ++ []))) (by simp only [List.append_assoc, List.nil_append, List.append_nil]) ?_
      refine v_callFr (As := []) (x0 := ({ cls := "java/lang/Iterable", name := "iterator", desc := "()Ljava/util/Iterator;" } : Jvm.MethodName)) (b := u12) (wr := (bkW D b σ ++ [])) 106 hF (c_X9_iterator l D u12 x1 b _ h) ((((((List.Perm.refl _)).append_left _).trans (pm_sw _ _ _))).trans (List.Perm.of_eq (by simp only [List.append_assoc, List.nil_append, List.append_nil]))) ⟨0, 12, _, TX9, 2, rfl, rfl⟩ (List.mem_of_getElem? (i := 0) rfl) q925 q931 q929 q96 q933 ⟨by decide, by decide, (show (parseMethodDescriptor "()Ljava/util/Iterator;").map (fun d => d.parameters.length) = some 0 from by decide +kernel)⟩ ⟨rfl, rfl, (Nat.le_of_ble_eq_true rfl), (Nat.le_of_ble_eq_true rfl)⟩ (Nat.le_of_ble_eq_true rfl) ⟨(Nat.le_of_ble_eq_true rfl), (Nat.le_of_ble_eq_true rfl)⟩ dX1_of_2_106 (fun u13 h => ?_)
      refine v_eqw (ws1 := ([(u12, .inr (12, [.int x1, .ref (b 8)]))] ++ ([(u13, .inr (1, [.int ((0 : Int32)), .ref u12]))] ++ (bkW D b σ ++ [])))) (by simp only [List.append_assoc, List.nil_append, List.append_nil]) ?_
      refine v_perm (ws' := (bkW D b σ ++ ([(u12, .inr (12, [.int x1, .ref (b 8)]))] ++ ([(u13, .inr (1, [.int ((0 : Int32)), .ref u12]))] ++ [])))) (((((((List.Perm.refl _)).append_left _).trans (pm_sw _ _ _))).append_left _).trans (pm_sw _ _ _)) ?_
      refine v_astore [(0, .ref (b 0)), (1, .int x1), (2, .int x2), (3, .int ((0 : Int32))), (4, .ref u13)] [1, 2, 3, 4, 0] 111 hF dX1_of_2_111 (Nat.le_of_ble_eq_true rfl) rfl ?_
      refine vLoop (V := fun z16 : (Int32) × (Int32) => vV x 2 4 (bkW D b σ ++ ([(u12, .inr (12, [.int x1, .ref (b 8)]))] ++ ([(u13, .inr (1, [.int (z16.2), .ref u12]))] ++ []))) [(0, .ref (b 0)), (1, .int x1), (2, .int x2), (3, .int (z16.1)), (4, .ref u13)] 113 []) (fun K113 hK113 z16 hs => ?_) _ h
      obtain ⟨v14, v15⟩ := z16
      have h : w_X10_hasNext u13 v15 u12 x1 b σ (fun r17 u18 => ((r17 = 0 → Q v14 σ) ∧ (¬ r17 = 0 → w_X10_next u13 u18 u12 x1 b σ (fun u20 => ((σ 31 (u20 - 1).toNatClampNeg) + 128).toNatClampNeg < 256 ∧ ((σ 31 (u20 - 1).toNatClampNeg) + 128).toNatClampNeg < 256 ∧ ∀ r23 : Int32, r23 = vb_c ((σ 31 (u20 - 1).toNatClampNeg) + 128).toNatClampNeg → ∀ y24 : Int32, y24 = (v14 + r23) → K113 ((y24, u20)))))) := hs
      refine v_aload 113 hF dX1_of_2_113 4 rfl ?_
      refine v_callFi (As := []) (x0 := ({ cls := "java/util/Iterator", name := "hasNext", desc := "()Z" } : Jvm.MethodName)) (b := u13) (wr := ([])) 115 hF (c_X10_hasNext l D u13 v15 u12 x1 b σ _ h) ((((((((((List.Perm.refl _)).append_left _).trans (pm_sw _ _ _))).append_left _).trans (pm_sw _ _ _)).trans ((((((List.Perm.refl _)).append_left _).trans (pm_sw _ _ _))).append_left _))).trans (List.Perm.of_eq (by simp only [List.append_assoc, List.nil_append, List.append_nil]))) ⟨0, 1, _, TX10, 2, rfl, rfl⟩ (List.mem_of_getElem? (i := 1) rfl) q999 q1011 q1009 q97 q1013 ⟨by decide, by decide, (show (parseMethodDescriptor "()Z").map (fun d => d.parameters.length) = some 0 from by decide +kernel)⟩ ⟨rfl, rfl, (Nat.le_of_ble_eq_true rfl), (Nat.le_of_ble_eq_true rfl)⟩ (Nat.le_of_ble_eq_true rfl) ⟨(Nat.le_of_ble_eq_true rfl), (Nat.le_of_ble_eq_true rfl)⟩ dX1_of_2_115 (fun r17 u18 h => ?_)
      refine v_eqw (ws1 := ([(u13, .inr (1, [.int u18, .ref u12]))] ++ ([(u12, .inr (12, [.int x1, .ref (b 8)]))] ++ (bkW D b σ ++ [])))) (by simp only [List.append_assoc, List.nil_append, List.append_nil]) ?_
      refine v_perm (ws' := (bkW D b σ ++ ([(u12, .inr (12, [.int x1, .ref (b 8)]))] ++ ([(u13, .inr (1, [.int u18, .ref u12]))] ++ [])))) ((((((((List.Perm.refl _)).append_left _).trans (pm_sw _ _ _))).append_left _).trans (pm_sw _ _ _)).trans ((((((List.Perm.refl _)).append_left _).trans (pm_sw _ _ _))).append_left _)) ?_
      refine v_if_eq 120 146 hF dX1_of_2_120 (by decide) (fun c19 => ?_) (fun c19 => ?_)
      · replace h := h.1 c19
        refine v_iload_n 146 hF dX1_of_2_146 rfl 3 rfl ?_
        refine v_dropS (ws' := (bkW D b σ ++ [])) (List.Sublist.append (List.Sublist.refl _) (List.nil_sublist _)) ?_
        exact v_iret (u := σ) 147 hF hR (Nat.le_of_ble_eq_true rfl) (Nat.le_of_ble_eq_true rfl) dX1_of_2_147 h
      · replace h := h.2 c19
        refine v_aload 123 hF dX1_of_2_123 4 rfl ?_
        refine v_callFr (As := []) (x0 := ({ cls := "java/util/Iterator", name := "next", desc := "()Ljava/lang/Object;" } : Jvm.MethodName)) (b := u13) (wr := ([])) 125 hF (c_X10_next l D u13 u18 u12 x1 b σ _ h) ((((((((((List.Perm.refl _)).append_left _).trans (pm_sw _ _ _))).append_left _).trans (pm_sw _ _ _)).trans ((((((List.Perm.refl _)).append_left _).trans (pm_sw _ _ _))).append_left _))).trans (List.Perm.of_eq (by simp only [List.append_assoc, List.nil_append, List.append_nil]))) ⟨0, 1, _, TX10, 2, rfl, rfl⟩ (List.mem_of_getElem? (i := 2) rfl) q1031 q1145 q1143 q97 q1147 ⟨by decide, by decide, (show (parseMethodDescriptor "()Ljava/lang/Object;").map (fun d => d.parameters.length) = some 0 from by decide +kernel)⟩ ⟨rfl, rfl, (Nat.le_of_ble_eq_true rfl), (Nat.le_of_ble_eq_true rfl)⟩ (Nat.le_of_ble_eq_true rfl) ⟨(Nat.le_of_ble_eq_true rfl), (Nat.le_of_ble_eq_true rfl)⟩ dX1_of_2_125 (fun u20 h => ?_)
        refine v_eqw (ws1 := ([(u13, .inr (1, [.int u20, .ref u12]))] ++ ([(u12, .inr (12, [.int x1, .ref (b 8)]))] ++ (bkW D b σ ++ [])))) (by simp only [List.append_assoc, List.nil_append, List.append_nil]) ?_
        refine v_perm (ws' := (bkW D b σ ++ ([(u12, .inr (12, [.int x1, .ref (b 8)]))] ++ ([(u13, .inr (1, [.int u20, .ref u12]))] ++ [])))) ((((((((List.Perm.refl _)).append_left _).trans (pm_sw _ _ _))).append_left _).trans (pm_sw _ _ _)).trans ((((((List.Perm.refl _)).append_left _).trans (pm_sw _ _ _))).append_left _)) ?_
        obtain ⟨o21, h⟩ := h
        refine v_castI 130 hF o21 q1179 dX1_of_2_130 ?_
        obtain ⟨o22, h⟩ := h
        refine v_callBi (As := []) (wr := (bkW D b σ ++ ([(u12, .inr (12, [.int x1, .ref (b 8)]))] ++ ([(u13, .inr (1, [.int u20, .ref u12]))] ++ [])))) 133 hF (c_J20_intValue l D ((σ 31 (u20 - 1).toNatClampNeg) + 128).toNatClampNeg o22 (fun r _ => r = vb_c ((σ 31 (u20 - 1).toNatClampNeg) + 128).toNatClampNeg) rfl) (List.Perm.refl _) o22 rfl q1180 q1181 q1182 q101 q1183 ds_J20_intValue ⟨rfl, rfl, (Nat.le_of_ble_eq_true rfl), (Nat.le_of_ble_eq_true rfl)⟩ (Nat.le_of_ble_eq_true rfl) ⟨(Nat.le_of_ble_eq_true rfl), (Nat.le_of_ble_eq_true rfl)⟩ dX1_of_2_133 (fun r23 _ er23 => ?_)
        replace h := h r23 er23
        refine v_eqw (ws1 := (bkW D b σ ++ ([(u12, .inr (12, [.int x1, .ref (b 8)]))] ++ ([(u13, .inr (1, [.int u20, .ref u12]))] ++ [])))) rfl ?_
        refine v_istore [(0, .ref (b 0)), (1, .int x1), (2, .int x2), (3, .int v14), (4, .ref u13), (5, .int r23)] [1, 2, 3, 4, 5, 0] 136 hF dX1_of_2_136 (Nat.le_of_ble_eq_true rfl) rfl ?_
        refine v_iload_n 138 hF dX1_of_2_138 rfl 3 rfl ?_
        refine v_iload 139 hF dX1_of_2_139 5 rfl ?_
        refine v_iadd 141 hF dX1_of_2_141 ?_
        refine v_nm (fun y24 ey24 => ?_)
        replace h := h y24 ey24
        refine v_istore_n [(0, .ref (b 0)), (1, .int x1), (2, .int x2), (3, .int y24), (4, .ref u13), (5, .int r23)] [1, 2, 3, 0, 4, 5] 142 hF dX1_of_2_142 rfl (Nat.le_of_ble_eq_true rfl) rfl ?_
        refine v_goto 143 113 hF dX1_of_2_143 (by decide) ?_
        refine v_sub [(0, .ref (b 0)), (1, .int x1), (2, .int x2), (3, .int y24), (4, .ref u13)] [0, 1, 2, 3, 4] rfl ?_
        exact hK113 ((y24, u20)) h
def w_X1_of (w : Nat) (b : Nat → Nat) (t : Nat → Nat) (p : Nat → Nat) (i : Nat → Nat) (fr : Nat) (fa : Nat) (ft : Int32) (rs : Int32) (rf : Int32) (sv : Value) (σ : Nat → Nat → Int32) (x1 : Int32) (x2 : Int32) (X : String → ((Nat → Nat → Int32)) → Prop) (Y : String → Int32 → ((Nat → Nat → Int32)) → Prop) (Q : Int32 → ((Nat → Nat → Int32)) → Prop) : Prop :=
  w_X2_at σ x1 (fun E ux => X E ux) (fun E r ux => Y E r ux) (fun r1 u2 => w_X1_inRange x2 ((0 : Int32)) ((8 : Int32)) (fun r3 => w_X1_require r3 (fun E => X E u2) (fun E r => Y E r u2) (w_X1_of_2 b u2 r1 x2 (fun r4 u5 => Q r4 u5))))
theorem ds_X1_of : yX1_of.cls = yX1_of.cls ∧ yX1_of.cls ≠ "java/lang/invoke/MethodHandle" ∧ yX1_of.cls ≠ "java/lang/invoke/VarHandle" ∧ (parseMethodDescriptor yX1_of.desc).map (fun d => d.parameters.length) = some 2 := by decide +kernel
set_option maxHeartbeats 4000000 in
theorem c_X1_of (l : Launch) (D : va_G) (hl : l.stackTraces = false) (w : Nat) (b : Nat → Nat) (t : Nat → Nat) (p : Nat → Nat) (i : Nat → Nat) (fr : Nat) (fa : Nat) (ft : Int32) (rs : Int32) (rf : Int32) (sv : Value) (σ : Nat → Nat → Int32) (x1 : Int32) (x2 : Int32) (X : String → ((Nat → Nat → Int32)) → Prop) (Y : String → Int32 → ((Nat → Nat → Int32)) → Prop) (Q : Int32 → ((Nat → Nat → Int32)) → Prop) (h : w_X1_of w b t p i fr fa ft rs rf sv σ x1 x2 X Y Q) : Cxi l D yX1_of cX1_of 4 .int (rmk 8 4 16 137) [.ref w, .int x1, .int x2] ([(w, .inr (0, [.ref (b 0), .ref (t 0), .ref (p 0), .ref (i 0), .int ft, .int rs, .int rf, .ref fr, .ref fa, sv]))] ++ (bkW D b σ ++ [])) (fun u : (Nat → Nat → Int32) => ([(w, .inr (0, [.ref (b 0), .ref (t 0), .ref (p 0), .ref (i 0), .int ft, .int rs, .int rf, .ref fr, .ref fa, sv]))] ++ (bkW D b u ++ []))) Q X Y 4 16 := by
  refine Cxi.of (by decide) (Nat.le_of_ble_eq_true rfl) (fun x hF hR hN => ?_)
  replace hF : vF x l D "BrookWeirs" cX1_of (rmk 8 4 16 137) 4 (some .int) := hF
  unfold w_X1_of at h
  refine v_aload_n 0 hF dX1_of_0 rfl 0 rfl ?_
  refine v_get 1 hF in_X1 0 rfl rfl 0 (Nat.le_of_ble_eq_true rfl) q362 rfl rfl dX1_of_1 ?_
  refine v_iload_n 4 hF dX1_of_4 rfl 1 rfl ?_
  refine v_callXVi (As := [.int x1]) (b := b 0) (wr := ([(w, .inr (0, [.ref (b 0), .ref (t 0), .ref (p 0), .ref (i 0), .int ft, .int rs, .int rf, .ref fr, .ref fa, sv]))] ++ [])) 5 hF (c_X2_at l D hl b σ x1 _ _ _ h) ((((((List.Perm.refl _)).append_left _).trans (pm_sw _ _ _))).trans (List.Perm.of_eq (by simp only [List.append_assoc, List.nil_append, List.append_nil]))) ⟨0, 6, _, TX2, 24, rfl, rfl⟩ q813 q814 q815 q71 q816 ds_X2_at ⟨rfl, rfl, (Nat.le_of_ble_eq_true rfl), (Nat.le_of_ble_eq_true rfl)⟩ (Nat.le_of_ble_eq_true rfl) ⟨(Nat.le_of_ble_eq_true rfl), (Nat.le_of_ble_eq_true rfl)⟩ dX1_of_5 (fun E q ux hx => vT_gar (w := ([(w, .inr (0, [.ref (b 0), .ref (t 0), .ref (p 0), .ref (i 0), .int ft, .int rs, .int rf, .ref fr, .ref fa, sv]))] ++ (bkW D b ux ++ []))) (g := ([])) ((List.Perm.of_eq (show (bkW D b ux ++ []) ++ ([(w, .inr (0, [.ref (b 0), .ref (t 0), .ref (p 0), .ref (i 0), .int ft, .int rs, .int rf, .ref fr, .ref fa, sv]))] ++ []) = (bkW D b ux ++ ([(w, .inr (0, [.ref (b 0), .ref (t 0), .ref (p 0), .ref (i 0), .int ft, .int rs, .int rf, .ref fr, .ref fa, sv]))] ++ [])) by simp only [List.append_assoc, List.nil_append, List.append_nil])).trans ((((((List.Perm.refl _)).append_left _).trans (pm_sw _ _ _))).trans (List.Perm.of_eq (by simp only [List.append_assoc, List.nil_append, List.append_nil])))) (v_outi (u := ux) hF hR hN (Nat.le_of_ble_eq_true rfl) (Nat.le_of_ble_eq_true rfl) hx)) (fun E q ci r ux hy hp => vT_garY (w := ([(w, .inr (0, [.ref (b 0), .ref (t 0), .ref (p 0), .ref (i 0), .int ft, .int rs, .int rf, .ref fr, .ref fa, sv]))] ++ (bkW D b ux ++ []))) (g := ([])) ((List.Perm.of_eq (show (bkW D b ux ++ []) ++ ([(w, .inr (0, [.ref (b 0), .ref (t 0), .ref (p 0), .ref (i 0), .int ft, .int rs, .int rf, .ref fr, .ref fa, sv]))] ++ []) = (bkW D b ux ++ ([(w, .inr (0, [.ref (b 0), .ref (t 0), .ref (p 0), .ref (i 0), .int ft, .int rs, .int rf, .ref fr, .ref fa, sv]))] ++ [])) by simp only [List.append_assoc, List.nil_append, List.append_nil])).trans ((((((List.Perm.refl _)).append_left _).trans (pm_sw _ _ _))).trans (List.Perm.of_eq (by simp only [List.append_assoc, List.nil_append, List.append_nil])))) (v_outYi (u := ux) hF hR hN (Nat.le_of_ble_eq_true rfl) (Nat.le_of_ble_eq_true rfl) hp hy)) (fun r1 u2 h => ?_)
  refine v_eqw (ws1 := (bkW D b u2 ++ ([(w, .inr (0, [.ref (b 0), .ref (t 0), .ref (p 0), .ref (i 0), .int ft, .int rs, .int rf, .ref fr, .ref fa, sv]))] ++ []))) (by simp only [List.append_assoc, List.nil_append, List.append_nil]) ?_
  refine v_perm (ws' := ([(w, .inr (0, [.ref (b 0), .ref (t 0), .ref (p 0), .ref (i 0), .int ft, .int rs, .int rf, .ref fr, .ref fa, sv]))] ++ (bkW D b u2 ++ []))) ((((List.Perm.refl _)).append_left _).trans (pm_sw _ _ _)) ?_
  refine v_istore_n [(0, .ref w), (1, .int x1), (2, .int x2), (3, .int r1)] [1, 2, 3, 0] 8 hF dX1_of_8 rfl (Nat.le_of_ble_eq_true rfl) rfl ?_
  refine v_iload_n 9 hF dX1_of_9 rfl 2 rfl ?_
  refine v_iconst (v := 0) 10 hF dX1_of_10 (by decide) ?_
  refine v_bipush (v := 8) 11 hF dX1_of_11 (by decide) ?_
  refine v_callS0i (As := [.int x2, .int ((0 : Int32)), .int ((8 : Int32))]) 13 hF (c_X1_inRange l D x2 ((0 : Int32)) ((8 : Int32)) _ h) q729 q475 q70 q476 ds_X1_inRange ⟨rfl, rfl, (Nat.le_of_ble_eq_true rfl), (Nat.le_of_ble_eq_true rfl)⟩ (Nat.le_of_ble_eq_true rfl) ⟨(Nat.le_of_ble_eq_true rfl), (Nat.le_of_ble_eq_true rfl)⟩ dX1_of_13 (fun r3 h => ?_)
  refine v_callXS0v (As := [.int r3]) 16 hF (c_X1_require l D hl r3 _ _ _ h) q730 q731 q70 q732 ds_X1_require ⟨rfl, rfl, (Nat.le_of_ble_eq_true rfl), (Nat.le_of_ble_eq_true rfl)⟩ (Nat.le_of_ble_eq_true rfl) ⟨(Nat.le_of_ble_eq_true rfl), (Nat.le_of_ble_eq_true rfl)⟩ dX1_of_16 (fun E q hx => vT_gar (w := ([(w, .inr (0, [.ref (b 0), .ref (t 0), .ref (p 0), .ref (i 0), .int ft, .int rs, .int rf, .ref fr, .ref fa, sv]))] ++ (bkW D b u2 ++ []))) (g := ([])) (((List.Perm.refl _)).trans (List.Perm.of_eq (by simp only [List.append_assoc, List.nil_append, List.append_nil]))) (v_outi (u := u2) hF hR hN (Nat.le_of_ble_eq_true rfl) (Nat.le_of_ble_eq_true rfl) hx)) (fun E q ci r hy hp => vT_garY (w := ([(w, .inr (0, [.ref (b 0), .ref (t 0), .ref (p 0), .ref (i 0), .int ft, .int rs, .int rf, .ref fr, .ref fa, sv]))] ++ (bkW D b u2 ++ []))) (g := ([])) (((List.Perm.refl _)).trans (List.Perm.of_eq (by simp only [List.append_assoc, List.nil_append, List.append_nil]))) (v_outYi (u := u2) hF hR hN (Nat.le_of_ble_eq_true rfl) (Nat.le_of_ble_eq_true rfl) hp hy)) (fun h => ?_)
  refine v_aload_n 19 hF dX1_of_19 rfl 0 rfl ?_
  refine v_get 20 hF in_X1 0 rfl rfl 0 (Nat.le_of_ble_eq_true rfl) q362 rfl rfl dX1_of_20 ?_
  refine v_iload_n 23 hF dX1_of_23 rfl 3 rfl ?_
  refine v_iload_n 24 hF dX1_of_24 rfl 2 rfl ?_
  refine v_callSi (As := [.ref (b 0), .int r1, .int x2]) (wr := ([(w, .inr (0, [.ref (b 0), .ref (t 0), .ref (p 0), .ref (i 0), .int ft, .int rs, .int rf, .ref fr, .ref fa, sv]))] ++ [])) 25 hF (c_X1_of_2 l D b u2 r1 x2 _ h) ((((((List.Perm.refl _)).append_left _).trans (pm_sw _ _ _))).trans (List.Perm.of_eq (by simp only [List.append_assoc, List.nil_append, List.append_nil]))) q901 q902 q70 q903 ds_X1_of_2 ⟨rfl, rfl, (Nat.le_of_ble_eq_true rfl), (Nat.le_of_ble_eq_true rfl)⟩ (Nat.le_of_ble_eq_true rfl) ⟨(Nat.le_of_ble_eq_true rfl), (Nat.le_of_ble_eq_true rfl)⟩ dX1_of_25 (fun r4 u5 h => ?_)
  refine v_eqw (ws1 := (bkW D b u5 ++ ([(w, .inr (0, [.ref (b 0), .ref (t 0), .ref (p 0), .ref (i 0), .int ft, .int rs, .int rf, .ref fr, .ref fa, sv]))] ++ []))) (by simp only [List.append_assoc, List.nil_append, List.append_nil]) ?_
  refine v_perm (ws' := ([(w, .inr (0, [.ref (b 0), .ref (t 0), .ref (p 0), .ref (i 0), .int ft, .int rs, .int rf, .ref fr, .ref fa, sv]))] ++ (bkW D b u5 ++ []))) ((((List.Perm.refl _)).append_left _).trans (pm_sw _ _ _)) ?_
  exact v_iretX (u := u5) 28 hF hR (Nat.le_of_ble_eq_true rfl) (Nat.le_of_ble_eq_true rfl) dX1_of_28 h
def w_X1_foretold (w : Nat) (b : Nat → Nat) (t : Nat → Nat) (p : Nat → Nat) (i : Nat → Nat) (fr : Nat) (fa : Nat) (ft : Int32) (rs : Int32) (rf : Int32) (sv : Value) (σ : Nat → Nat → Int32) (τ : Nat → Nat → Int32) (x1 : Int32) (x2 : Int32) (x3 : Int32) (X : String → ((Nat → Nat → Int32) × (Nat → Nat → Int32)) → Prop) (Y : String → Int32 → ((Nat → Nat → Int32) × (Nat → Nat → Int32)) → Prop) (Q : Int32 → ((Nat → Nat → Int32) × (Nat → Nat → Int32)) → Prop) : Prop :=
  w_X1_inRange x1 ((1 : Int32)) ((30 : Int32)) (fun r1 => ((r1 = 0 → w_X1_require ((0 : Int32)) (fun E => X E ((σ, τ))) (fun E r => Y E r ((σ, τ))) (w_X2_at σ x2 (fun E ux => X E ((ux, τ))) (fun E r ux => Y E r ((ux, τ))) (fun r3 u4 => ∀ u5 : Unit, w_X2_pass u4 x1 (fun u6 => w_X1_of_2 t u6 r3 x3 (fun r7 u8 => Q r7 ((u4, u8))))))) ∧ (¬ r1 = 0 → w_X1_inRange x3 ((0 : Int32)) ((8 : Int32)) (fun r9 => ((r9 = 0 → w_X1_require ((0 : Int32)) (fun E => X E ((σ, τ))) (fun E r => Y E r ((σ, τ))) (w_X2_at σ x2 (fun E ux => X E ((ux, τ))) (fun E r ux => Y E r ((ux, τ))) (fun r11 u12 => ∀ u13 : Unit, w_X2_pass u12 x1 (fun u14 => w_X1_of_2 t u14 r11 x3 (fun r15 u16 => Q r15 ((u12, u16))))))) ∧ (¬ r9 = 0 → w_X1_require ((1 : Int32)) (fun E => X E ((σ, τ))) (fun E r => Y E r ((σ, τ))) (w_X2_at σ x2 (fun E ux => X E ((ux, τ))) (fun E r ux => Y E r ((ux, τ))) (fun r17 u18 => ∀ u19 : Unit, w_X2_pass u18 x1 (fun u20 => w_X1_of_2 t u20 r17 x3 (fun r21 u22 => Q r21 ((u18, u22))))))))))))
theorem ds_X1_foretold : yX1_foretold.cls = yX1_foretold.cls ∧ yX1_foretold.cls ≠ "java/lang/invoke/MethodHandle" ∧ yX1_foretold.cls ≠ "java/lang/invoke/VarHandle" ∧ (parseMethodDescriptor yX1_foretold.desc).map (fun d => d.parameters.length) = some 3 := by decide +kernel
set_option maxHeartbeats 4000000 in
theorem c_X1_foretold (l : Launch) (D : va_G) (hl : l.stackTraces = false) (w : Nat) (b : Nat → Nat) (t : Nat → Nat) (p : Nat → Nat) (i : Nat → Nat) (fr : Nat) (fa : Nat) (ft : Int32) (rs : Int32) (rf : Int32) (sv : Value) (σ : Nat → Nat → Int32) (τ : Nat → Nat → Int32) (x1 : Int32) (x2 : Int32) (x3 : Int32) (X : String → ((Nat → Nat → Int32) × (Nat → Nat → Int32)) → Prop) (Y : String → Int32 → ((Nat → Nat → Int32) × (Nat → Nat → Int32)) → Prop) (Q : Int32 → ((Nat → Nat → Int32) × (Nat → Nat → Int32)) → Prop) (h : w_X1_foretold w b t p i fr fa ft rs rf sv σ τ x1 x2 x3 X Y Q) : Cxi l D yX1_foretold cX1_foretold 5 .int (rmk 8 4 16 153) [.ref w, .int x1, .int x2, .int x3] ([(w, .inr (0, [.ref (b 0), .ref (t 0), .ref (p 0), .ref (i 0), .int ft, .int rs, .int rf, .ref fr, .ref fa, sv]))] ++ (bkW D b σ ++ (bkW D t τ ++ []))) (fun u : (Nat → Nat → Int32) × (Nat → Nat → Int32) => ([(w, .inr (0, [.ref (b 0), .ref (t 0), .ref (p 0), .ref (i 0), .int ft, .int rs, .int rf, .ref fr, .ref fa, sv]))] ++ (bkW D b (u.1) ++ (bkW D t (u.2) ++ [])))) Q X Y 4 16 := by
  refine Cxi.of (by decide) (Nat.le_of_ble_eq_true rfl) (fun x hF hR hN => ?_)
  replace hF : vF x l D "BrookWeirs" cX1_foretold (rmk 8 4 16 153) 5 (some .int) := hF
  unfold w_X1_foretold at h
  refine v_iload_n 0 hF dX1_foretold_0 rfl 1 rfl ?_
  refine v_iconst (v := 1) 1 hF dX1_foretold_1 (by decide) ?_
  refine v_bipush (v := 30) 2 hF dX1_foretold_2 (by decide) ?_
  refine v_callS0i (As := [.int x1, .int ((1 : Int32)), .int ((30 : Int32))]) 4 hF (c_X1_inRange l D x1 ((1 : Int32)) ((30 : Int32)) _ h) q729 q475 q70 q476 ds_X1_inRange ⟨rfl, rfl, (Nat.le_of_ble_eq_true rfl), (Nat.le_of_ble_eq_true rfl)⟩ (Nat.le_of_ble_eq_true rfl) ⟨(Nat.le_of_ble_eq_true rfl), (Nat.le_of_ble_eq_true rfl)⟩ dX1_foretold_4 (fun r1 h => ?_)
  refine v_if_eq 7 24 hF dX1_foretold_7 (by decide) (fun c2 => ?_) (fun c2 => ?_)
  · replace h := h.1 c2
    refine v_iconst (v := 0) 24 hF dX1_foretold_24 (by decide) ?_
    refine v_callXS0v (As := [.int ((0 : Int32))]) 25 hF (c_X1_require l D hl ((0 : Int32)) _ _ _ h) q730 q731 q70 q732 ds_X1_require ⟨rfl, rfl, (Nat.le_of_ble_eq_true rfl), (Nat.le_of_ble_eq_true rfl)⟩ (Nat.le_of_ble_eq_true rfl) ⟨(Nat.le_of_ble_eq_true rfl), (Nat.le_of_ble_eq_true rfl)⟩ dX1_foretold_25 (fun E q hx => vT_gar (w := ([(w, .inr (0, [.ref (b 0), .ref (t 0), .ref (p 0), .ref (i 0), .int ft, .int rs, .int rf, .ref fr, .ref fa, sv]))] ++ (bkW D b σ ++ (bkW D t τ ++ [])))) (g := ([])) (((List.Perm.refl _)).trans (List.Perm.of_eq (by simp only [List.append_assoc, List.nil_append, List.append_nil]))) (v_outi (u := (σ, τ)) hF hR hN (Nat.le_of_ble_eq_true rfl) (Nat.le_of_ble_eq_true rfl) hx)) (fun E q ci r hy hp => vT_garY (w := ([(w, .inr (0, [.ref (b 0), .ref (t 0), .ref (p 0), .ref (i 0), .int ft, .int rs, .int rf, .ref fr, .ref fa, sv]))] ++ (bkW D b σ ++ (bkW D t τ ++ [])))) (g := ([])) (((List.Perm.refl _)).trans (List.Perm.of_eq (by simp only [List.append_assoc, List.nil_append, List.append_nil]))) (v_outYi (u := (σ, τ)) hF hR hN (Nat.le_of_ble_eq_true rfl) (Nat.le_of_ble_eq_true rfl) hp hy)) (fun h => ?_)
    refine v_aload_n 28 hF dX1_foretold_28 rfl 0 rfl ?_
    refine v_get 29 hF in_X1 0 rfl rfl 0 (Nat.le_of_ble_eq_true rfl) q362 rfl rfl dX1_foretold_29 ?_
    refine v_iload_n 32 hF dX1_foretold_32 rfl 2 rfl ?_
    refine v_callXVi (As := [.int x2]) (b := b 0) (wr := ([(w, .inr (0, [.ref (b 0), .ref (t 0), .ref (p 0), .ref (i 0), .int ft, .int rs, .int rf, .ref fr, .ref fa, sv]))] ++ (bkW D t τ ++ []))) 33 hF (c_X2_at l D hl b σ x2 _ _ _ h) ((((((List.Perm.refl _)).append_left _).trans (pm_sw _ _ _))).trans (List.Perm.of_eq (by simp only [List.append_assoc, List.nil_append, List.append_nil]))) ⟨0, 6, _, TX2, 24, rfl, rfl⟩ q813 q814 q815 q71 q816 ds_X2_at ⟨rfl, rfl, (Nat.le_of_ble_eq_true rfl), (Nat.le_of_ble_eq_true rfl)⟩ (Nat.le_of_ble_eq_true rfl) ⟨(Nat.le_of_ble_eq_true rfl), (Nat.le_of_ble_eq_true rfl)⟩ dX1_foretold_33 (fun E q ux hx => vT_gar (w := ([(w, .inr (0, [.ref (b 0), .ref (t 0), .ref (p 0), .ref (i 0), .int ft, .int rs, .int rf, .ref fr, .ref fa, sv]))] ++ (bkW D b ux ++ (bkW D t τ ++ [])))) (g := ([])) ((List.Perm.of_eq (show (bkW D b ux ++ []) ++ ([(w, .inr (0, [.ref (b 0), .ref (t 0), .ref (p 0), .ref (i 0), .int ft, .int rs, .int rf, .ref fr, .ref fa, sv]))] ++ (bkW D t τ ++ [])) = (bkW D b ux ++ ([(w, .inr (0, [.ref (b 0), .ref (t 0), .ref (p 0), .ref (i 0), .int ft, .int rs, .int rf, .ref fr, .ref fa, sv]))] ++ (bkW D t τ ++ []))) by simp only [List.append_assoc, List.nil_append, List.append_nil])).trans ((((((List.Perm.refl _)).append_left _).trans (pm_sw _ _ _))).trans (List.Perm.of_eq (by simp only [List.append_assoc, List.nil_append, List.append_nil])))) (v_outi (u := (ux, τ)) hF hR hN (Nat.le_of_ble_eq_true rfl) (Nat.le_of_ble_eq_true rfl) hx)) (fun E q ci r ux hy hp => vT_garY (w := ([(w, .inr (0, [.ref (b 0), .ref (t 0), .ref (p 0), .ref (i 0), .int ft, .int rs, .int rf, .ref fr, .ref fa, sv]))] ++ (bkW D b ux ++ (bkW D t τ ++ [])))) (g := ([])) ((List.Perm.of_eq (show (bkW D b ux ++ []) ++ ([(w, .inr (0, [.ref (b 0), .ref (t 0), .ref (p 0), .ref (i 0), .int ft, .int rs, .int rf, .ref fr, .ref fa, sv]))] ++ (bkW D t τ ++ [])) = (bkW D b ux ++ ([(w, .inr (0, [.ref (b 0), .ref (t 0), .ref (p 0), .ref (i 0), .int ft, .int rs, .int rf, .ref fr, .ref fa, sv]))] ++ (bkW D t τ ++ []))) by simp only [List.append_assoc, List.nil_append, List.append_nil])).trans ((((((List.Perm.refl _)).append_left _).trans (pm_sw _ _ _))).trans (List.Perm.of_eq (by simp only [List.append_assoc, List.nil_append, List.append_nil])))) (v_outYi (u := (ux, τ)) hF hR hN (Nat.le_of_ble_eq_true rfl) (Nat.le_of_ble_eq_true rfl) hp hy)) (fun r3 u4 h => ?_)
    refine v_eqw (ws1 := (bkW D b u4 ++ ([(w, .inr (0, [.ref (b 0), .ref (t 0), .ref (p 0), .ref (i 0), .int ft, .int rs, .int rf, .ref fr, .ref fa, sv]))] ++ (bkW D t τ ++ [])))) (by simp only [List.append_assoc, List.nil_append, List.append_nil]) ?_
    refine v_perm (ws' := ([(w, .inr (0, [.ref (b 0), .ref (t 0), .ref (p 0), .ref (i 0), .int ft, .int rs, .int rf, .ref fr, .ref fa, sv]))] ++ (bkW D b u4 ++ (bkW D t τ ++ [])))) ((((List.Perm.refl _)).append_left _).trans (pm_sw _ _ _)) ?_
    refine v_istore [(0, .ref w), (1, .int x1), (2, .int x2), (3, .int x3), (4, .int r3)] [1, 2, 3, 4, 0] 36 hF dX1_foretold_36 (Nat.le_of_ble_eq_true rfl) rfl ?_
    refine v_aload_n 38 hF dX1_foretold_38 rfl 0 rfl ?_
    refine v_get 39 hF in_X1 0 rfl rfl 1 (Nat.le_of_ble_eq_true rfl) q364 rfl rfl dX1_foretold_39 ?_
    refine v_aload_n 42 hF dX1_foretold_42 rfl 0 rfl ?_
    refine v_get 43 hF in_X1 0 rfl rfl 0 (Nat.le_of_ble_eq_true rfl) q362 rfl rfl dX1_foretold_43 ?_
    refine v_callVr (As := [.ref (b 0)]) (b := t 0) (wr := ([(w, .inr (0, [.ref (b 0), .ref (t 0), .ref (p 0), .ref (i 0), .int ft, .int rs, .int rf, .ref fr, .ref fa, sv]))] ++ [])) 46 hF (c_X2_become l D t b τ u4) ((((((((((List.Perm.refl _)).append_left _).trans (pm_sw _ _ _))).append_left _).trans (pm_sw _ _ _)).trans ((((((List.Perm.refl _)).append_left _).trans (pm_sw _ _ _))).append_left _))).trans (List.Perm.of_eq (by simp only [List.append_assoc, List.nil_append, List.append_nil]))) ⟨0, 6, _, TX2, 24, rfl, rfl⟩ q491 q492 q493 q71 q494 ds_X2_become ⟨rfl, rfl, (Nat.le_of_ble_eq_true rfl), (Nat.le_of_ble_eq_true rfl)⟩ (Nat.le_of_ble_eq_true rfl) ⟨(Nat.le_of_ble_eq_true rfl), (Nat.le_of_ble_eq_true rfl)⟩ dX1_foretold_46 (fun u5 _ => ?_)
    replace h := h u5
    refine v_eqw (ws1 := (bkW D t u4 ++ (bkW D b u4 ++ ([(w, .inr (0, [.ref (b 0), .ref (t 0), .ref (p 0), .ref (i 0), .int ft, .int rs, .int rf, .ref fr, .ref fa, sv]))] ++ [])))) (by simp only [List.append_assoc, List.nil_append, List.append_nil]) ?_
    refine v_perm (ws' := ([(w, .inr (0, [.ref (b 0), .ref (t 0), .ref (p 0), .ref (i 0), .int ft, .int rs, .int rf, .ref fr, .ref fa, sv]))] ++ (bkW D b u4 ++ (bkW D t u4 ++ [])))) ((((((((List.Perm.refl _)).append_left _).trans (pm_sw _ _ _))).append_left _).trans (pm_sw _ _ _)).trans ((((((List.Perm.refl _)).append_left _).trans (pm_sw _ _ _))).append_left _)) ?_
    refine v_iload_n 49 hF dX1_foretold_49 rfl 1 rfl ?_
    refine v_callVr (As := [.int x1]) (b := t 0) (wr := ([(w, .inr (0, [.ref (b 0), .ref (t 0), .ref (p 0), .ref (i 0), .int ft, .int rs, .int rf, .ref fr, .ref fa, sv]))] ++ (bkW D b u4 ++ []))) 50 hF (c_X2_pass l D t u4 x1 _ h) (((((((((List.Perm.refl _)).append_left _).trans (pm_sw _ _ _))).append_left _).trans (pm_sw _ _ _))).trans (List.Perm.of_eq (by simp only [List.append_assoc, List.nil_append, List.append_nil]))) ⟨0, 6, _, TX2, 24, rfl, rfl⟩ q1246 q1099 q1100 q71 q1101 ds_X2_pass ⟨rfl, rfl, (Nat.le_of_ble_eq_true rfl), (Nat.le_of_ble_eq_true rfl)⟩ (Nat.le_of_ble_eq_true rfl) ⟨(Nat.le_of_ble_eq_true rfl), (Nat.le_of_ble_eq_true rfl)⟩ dX1_foretold_50 (fun u6 h => ?_)
    refine v_eqw (ws1 := (bkW D t u6 ++ ([(w, .inr (0, [.ref (b 0), .ref (t 0), .ref (p 0), .ref (i 0), .int ft, .int rs, .int rf, .ref fr, .ref fa, sv]))] ++ (bkW D b u4 ++ [])))) (by simp only [List.append_assoc, List.nil_append, List.append_nil]) ?_
    refine v_perm (ws' := ([(w, .inr (0, [.ref (b 0), .ref (t 0), .ref (p 0), .ref (i 0), .int ft, .int rs, .int rf, .ref fr, .ref fa, sv]))] ++ (bkW D b u4 ++ (bkW D t u6 ++ [])))) (((((List.Perm.refl _)).append_left _).trans (pm_sw _ _ _)).trans ((((((List.Perm.refl _)).append_left _).trans (pm_sw _ _ _))).append_left _)) ?_
    refine v_iload 53 hF dX1_foretold_53 4 rfl ?_
    refine v_iload_n 55 hF dX1_foretold_55 rfl 3 rfl ?_
    refine v_callSi (As := [.ref (t 0), .int r3, .int x3]) (wr := ([(w, .inr (0, [.ref (b 0), .ref (t 0), .ref (p 0), .ref (i 0), .int ft, .int rs, .int rf, .ref fr, .ref fa, sv]))] ++ (bkW D b u4 ++ []))) 56 hF (c_X1_of_2 l D t u6 r3 x3 _ h) (((((((((List.Perm.refl _)).append_left _).trans (pm_sw _ _ _))).append_left _).trans (pm_sw _ _ _))).trans (List.Perm.of_eq (by simp only [List.append_assoc, List.nil_append, List.append_nil]))) q901 q902 q70 q903 ds_X1_of_2 ⟨rfl, rfl, (Nat.le_of_ble_eq_true rfl), (Nat.le_of_ble_eq_true rfl)⟩ (Nat.le_of_ble_eq_true rfl) ⟨(Nat.le_of_ble_eq_true rfl), (Nat.le_of_ble_eq_true rfl)⟩ dX1_foretold_56 (fun r7 u8 h => ?_)
    refine v_eqw (ws1 := (bkW D t u8 ++ ([(w, .inr (0, [.ref (b 0), .ref (t 0), .ref (p 0), .ref (i 0), .int ft, .int rs, .int rf, .ref fr, .ref fa, sv]))] ++ (bkW D b u4 ++ [])))) (by simp only [List.append_assoc, List.nil_append, List.append_nil]) ?_
    refine v_perm (ws' := ([(w, .inr (0, [.ref (b 0), .ref (t 0), .ref (p 0), .ref (i 0), .int ft, .int rs, .int rf, .ref fr, .ref fa, sv]))] ++ (bkW D b u4 ++ (bkW D t u8 ++ [])))) (((((List.Perm.refl _)).append_left _).trans (pm_sw _ _ _)).trans ((((((List.Perm.refl _)).append_left _).trans (pm_sw _ _ _))).append_left _)) ?_
    exact v_iretX (u := (u4, u8)) 59 hF hR (Nat.le_of_ble_eq_true rfl) (Nat.le_of_ble_eq_true rfl) dX1_foretold_59 h
  · replace h := h.2 c2
    refine v_iload_n 10 hF dX1_foretold_10 rfl 3 rfl ?_
    refine v_iconst (v := 0) 11 hF dX1_foretold_11 (by decide) ?_
    refine v_bipush (v := 8) 12 hF dX1_foretold_12 (by decide) ?_
    refine v_callS0i (As := [.int x3, .int ((0 : Int32)), .int ((8 : Int32))]) 14 hF (c_X1_inRange l D x3 ((0 : Int32)) ((8 : Int32)) _ h) q729 q475 q70 q476 ds_X1_inRange ⟨rfl, rfl, (Nat.le_of_ble_eq_true rfl), (Nat.le_of_ble_eq_true rfl)⟩ (Nat.le_of_ble_eq_true rfl) ⟨(Nat.le_of_ble_eq_true rfl), (Nat.le_of_ble_eq_true rfl)⟩ dX1_foretold_14 (fun r9 h => ?_)
    refine v_if_eq 17 24 hF dX1_foretold_17 (by decide) (fun c10 => ?_) (fun c10 => ?_)
    · replace h := h.1 c10
      refine v_iconst (v := 0) 24 hF dX1_foretold_24 (by decide) ?_
      refine v_callXS0v (As := [.int ((0 : Int32))]) 25 hF (c_X1_require l D hl ((0 : Int32)) _ _ _ h) q730 q731 q70 q732 ds_X1_require ⟨rfl, rfl, (Nat.le_of_ble_eq_true rfl), (Nat.le_of_ble_eq_true rfl)⟩ (Nat.le_of_ble_eq_true rfl) ⟨(Nat.le_of_ble_eq_true rfl), (Nat.le_of_ble_eq_true rfl)⟩ dX1_foretold_25 (fun E q hx => vT_gar (w := ([(w, .inr (0, [.ref (b 0), .ref (t 0), .ref (p 0), .ref (i 0), .int ft, .int rs, .int rf, .ref fr, .ref fa, sv]))] ++ (bkW D b σ ++ (bkW D t τ ++ [])))) (g := ([])) (((List.Perm.refl _)).trans (List.Perm.of_eq (by simp only [List.append_assoc, List.nil_append, List.append_nil]))) (v_outi (u := (σ, τ)) hF hR hN (Nat.le_of_ble_eq_true rfl) (Nat.le_of_ble_eq_true rfl) hx)) (fun E q ci r hy hp => vT_garY (w := ([(w, .inr (0, [.ref (b 0), .ref (t 0), .ref (p 0), .ref (i 0), .int ft, .int rs, .int rf, .ref fr, .ref fa, sv]))] ++ (bkW D b σ ++ (bkW D t τ ++ [])))) (g := ([])) (((List.Perm.refl _)).trans (List.Perm.of_eq (by simp only [List.append_assoc, List.nil_append, List.append_nil]))) (v_outYi (u := (σ, τ)) hF hR hN (Nat.le_of_ble_eq_true rfl) (Nat.le_of_ble_eq_true rfl) hp hy)) (fun h => ?_)
      refine v_aload_n 28 hF dX1_foretold_28 rfl 0 rfl ?_
      refine v_get 29 hF in_X1 0 rfl rfl 0 (Nat.le_of_ble_eq_true rfl) q362 rfl rfl dX1_foretold_29 ?_
      refine v_iload_n 32 hF dX1_foretold_32 rfl 2 rfl ?_
      refine v_callXVi (As := [.int x2]) (b := b 0) (wr := ([(w, .inr (0, [.ref (b 0), .ref (t 0), .ref (p 0), .ref (i 0), .int ft, .int rs, .int rf, .ref fr, .ref fa, sv]))] ++ (bkW D t τ ++ []))) 33 hF (c_X2_at l D hl b σ x2 _ _ _ h) ((((((List.Perm.refl _)).append_left _).trans (pm_sw _ _ _))).trans (List.Perm.of_eq (by simp only [List.append_assoc, List.nil_append, List.append_nil]))) ⟨0, 6, _, TX2, 24, rfl, rfl⟩ q813 q814 q815 q71 q816 ds_X2_at ⟨rfl, rfl, (Nat.le_of_ble_eq_true rfl), (Nat.le_of_ble_eq_true rfl)⟩ (Nat.le_of_ble_eq_true rfl) ⟨(Nat.le_of_ble_eq_true rfl), (Nat.le_of_ble_eq_true rfl)⟩ dX1_foretold_33 (fun E q ux hx => vT_gar (w := ([(w, .inr (0, [.ref (b 0), .ref (t 0), .ref (p 0), .ref (i 0), .int ft, .int rs, .int rf, .ref fr, .ref fa, sv]))] ++ (bkW D b ux ++ (bkW D t τ ++ [])))) (g := ([])) ((List.Perm.of_eq (show (bkW D b ux ++ []) ++ ([(w, .inr (0, [.ref (b 0), .ref (t 0), .ref (p 0), .ref (i 0), .int ft, .int rs, .int rf, .ref fr, .ref fa, sv]))] ++ (bkW D t τ ++ [])) = (bkW D b ux ++ ([(w, .inr (0, [.ref (b 0), .ref (t 0), .ref (p 0), .ref (i 0), .int ft, .int rs, .int rf, .ref fr, .ref fa, sv]))] ++ (bkW D t τ ++ []))) by simp only [List.append_assoc, List.nil_append, List.append_nil])).trans ((((((List.Perm.refl _)).append_left _).trans (pm_sw _ _ _))).trans (List.Perm.of_eq (by simp only [List.append_assoc, List.nil_append, List.append_nil])))) (v_outi (u := (ux, τ)) hF hR hN (Nat.le_of_ble_eq_true rfl) (Nat.le_of_ble_eq_true rfl) hx)) (fun E q ci r ux hy hp => vT_garY (w := ([(w, .inr (0, [.ref (b 0), .ref (t 0), .ref (p 0), .ref (i 0), .int ft, .int rs, .int rf, .ref fr, .ref fa, sv]))] ++ (bkW D b ux ++ (bkW D t τ ++ [])))) (g := ([])) ((List.Perm.of_eq (show (bkW D b ux ++ []) ++ ([(w, .inr (0, [.ref (b 0), .ref (t 0), .ref (p 0), .ref (i 0), .int ft, .int rs, .int rf, .ref fr, .ref fa, sv]))] ++ (bkW D t τ ++ [])) = (bkW D b ux ++ ([(w, .inr (0, [.ref (b 0), .ref (t 0), .ref (p 0), .ref (i 0), .int ft, .int rs, .int rf, .ref fr, .ref fa, sv]))] ++ (bkW D t τ ++ []))) by simp only [List.append_assoc, List.nil_append, List.append_nil])).trans ((((((List.Perm.refl _)).append_left _).trans (pm_sw _ _ _))).trans (List.Perm.of_eq (by simp only [List.append_assoc, List.nil_append, List.append_nil])))) (v_outYi (u := (ux, τ)) hF hR hN (Nat.le_of_ble_eq_true rfl) (Nat.le_of_ble_eq_true rfl) hp hy)) (fun r11 u12 h => ?_)
      refine v_eqw (ws1 := (bkW D b u12 ++ ([(w, .inr (0, [.ref (b 0), .ref (t 0), .ref (p 0), .ref (i 0), .int ft, .int rs, .int rf, .ref fr, .ref fa, sv]))] ++ (bkW D t τ ++ [])))) (by simp only [List.append_assoc, List.nil_append, List.append_nil]) ?_
      refine v_perm (ws' := ([(w, .inr (0, [.ref (b 0), .ref (t 0), .ref (p 0), .ref (i 0), .int ft, .int rs, .int rf, .ref fr, .ref fa, sv]))] ++ (bkW D b u12 ++ (bkW D t τ ++ [])))) ((((List.Perm.refl _)).append_left _).trans (pm_sw _ _ _)) ?_
      refine v_istore [(0, .ref w), (1, .int x1), (2, .int x2), (3, .int x3), (4, .int r11)] [1, 2, 3, 4, 0] 36 hF dX1_foretold_36 (Nat.le_of_ble_eq_true rfl) rfl ?_
      refine v_aload_n 38 hF dX1_foretold_38 rfl 0 rfl ?_
      refine v_get 39 hF in_X1 0 rfl rfl 1 (Nat.le_of_ble_eq_true rfl) q364 rfl rfl dX1_foretold_39 ?_
      refine v_aload_n 42 hF dX1_foretold_42 rfl 0 rfl ?_
      refine v_get 43 hF in_X1 0 rfl rfl 0 (Nat.le_of_ble_eq_true rfl) q362 rfl rfl dX1_foretold_43 ?_
      refine v_callVr (As := [.ref (b 0)]) (b := t 0) (wr := ([(w, .inr (0, [.ref (b 0), .ref (t 0), .ref (p 0), .ref (i 0), .int ft, .int rs, .int rf, .ref fr, .ref fa, sv]))] ++ [])) 46 hF (c_X2_become l D t b τ u12) ((((((((((List.Perm.refl _)).append_left _).trans (pm_sw _ _ _))).append_left _).trans (pm_sw _ _ _)).trans ((((((List.Perm.refl _)).append_left _).trans (pm_sw _ _ _))).append_left _))).trans (List.Perm.of_eq (by simp only [List.append_assoc, List.nil_append, List.append_nil]))) ⟨0, 6, _, TX2, 24, rfl, rfl⟩ q491 q492 q493 q71 q494 ds_X2_become ⟨rfl, rfl, (Nat.le_of_ble_eq_true rfl), (Nat.le_of_ble_eq_true rfl)⟩ (Nat.le_of_ble_eq_true rfl) ⟨(Nat.le_of_ble_eq_true rfl), (Nat.le_of_ble_eq_true rfl)⟩ dX1_foretold_46 (fun u13 _ => ?_)
      replace h := h u13
      refine v_eqw (ws1 := (bkW D t u12 ++ (bkW D b u12 ++ ([(w, .inr (0, [.ref (b 0), .ref (t 0), .ref (p 0), .ref (i 0), .int ft, .int rs, .int rf, .ref fr, .ref fa, sv]))] ++ [])))) (by simp only [List.append_assoc, List.nil_append, List.append_nil]) ?_
      refine v_perm (ws' := ([(w, .inr (0, [.ref (b 0), .ref (t 0), .ref (p 0), .ref (i 0), .int ft, .int rs, .int rf, .ref fr, .ref fa, sv]))] ++ (bkW D b u12 ++ (bkW D t u12 ++ [])))) ((((((((List.Perm.refl _)).append_left _).trans (pm_sw _ _ _))).append_left _).trans (pm_sw _ _ _)).trans ((((((List.Perm.refl _)).append_left _).trans (pm_sw _ _ _))).append_left _)) ?_
      refine v_iload_n 49 hF dX1_foretold_49 rfl 1 rfl ?_
      refine v_callVr (As := [.int x1]) (b := t 0) (wr := ([(w, .inr (0, [.ref (b 0), .ref (t 0), .ref (p 0), .ref (i 0), .int ft, .int rs, .int rf, .ref fr, .ref fa, sv]))] ++ (bkW D b u12 ++ []))) 50 hF (c_X2_pass l D t u12 x1 _ h) (((((((((List.Perm.refl _)).append_left _).trans (pm_sw _ _ _))).append_left _).trans (pm_sw _ _ _))).trans (List.Perm.of_eq (by simp only [List.append_assoc, List.nil_append, List.append_nil]))) ⟨0, 6, _, TX2, 24, rfl, rfl⟩ q1246 q1099 q1100 q71 q1101 ds_X2_pass ⟨rfl, rfl, (Nat.le_of_ble_eq_true rfl), (Nat.le_of_ble_eq_true rfl)⟩ (Nat.le_of_ble_eq_true rfl) ⟨(Nat.le_of_ble_eq_true rfl), (Nat.le_of_ble_eq_true rfl)⟩ dX1_foretold_50 (fun u14 h => ?_)
      refine v_eqw (ws1 := (bkW D t u14 ++ ([(w, .inr (0, [.ref (b 0), .ref (t 0), .ref (p 0), .ref (i 0), .int ft, .int rs, .int rf, .ref fr, .ref fa, sv]))] ++ (bkW D b u12 ++ [])))) (by simp only [List.append_assoc, List.nil_append, List.append_nil]) ?_
      refine v_perm (ws' := ([(w, .inr (0, [.ref (b 0), .ref (t 0), .ref (p 0), .ref (i 0), .int ft, .int rs, .int rf, .ref fr, .ref fa, sv]))] ++ (bkW D b u12 ++ (bkW D t u14 ++ [])))) (((((List.Perm.refl _)).append_left _).trans (pm_sw _ _ _)).trans ((((((List.Perm.refl _)).append_left _).trans (pm_sw _ _ _))).append_left _)) ?_
      refine v_iload 53 hF dX1_foretold_53 4 rfl ?_
      refine v_iload_n 55 hF dX1_foretold_55 rfl 3 rfl ?_
      refine v_callSi (As := [.ref (t 0), .int r11, .int x3]) (wr := ([(w, .inr (0, [.ref (b 0), .ref (t 0), .ref (p 0), .ref (i 0), .int ft, .int rs, .int rf, .ref fr, .ref fa, sv]))] ++ (bkW D b u12 ++ []))) 56 hF (c_X1_of_2 l D t u14 r11 x3 _ h) (((((((((List.Perm.refl _)).append_left _).trans (pm_sw _ _ _))).append_left _).trans (pm_sw _ _ _))).trans (List.Perm.of_eq (by simp only [List.append_assoc, List.nil_append, List.append_nil]))) q901 q902 q70 q903 ds_X1_of_2 ⟨rfl, rfl, (Nat.le_of_ble_eq_true rfl), (Nat.le_of_ble_eq_true rfl)⟩ (Nat.le_of_ble_eq_true rfl) ⟨(Nat.le_of_ble_eq_true rfl), (Nat.le_of_ble_eq_true rfl)⟩ dX1_foretold_56 (fun r15 u16 h => ?_)
      refine v_eqw (ws1 := (bkW D t u16 ++ ([(w, .inr (0, [.ref (b 0), .ref (t 0), .ref (p 0), .ref (i 0), .int ft, .int rs, .int rf, .ref fr, .ref fa, sv]))] ++ (bkW D b u12 ++ [])))) (by simp only [List.append_assoc, List.nil_append, List.append_nil]) ?_
      refine v_perm (ws' := ([(w, .inr (0, [.ref (b 0), .ref (t 0), .ref (p 0), .ref (i 0), .int ft, .int rs, .int rf, .ref fr, .ref fa, sv]))] ++ (bkW D b u12 ++ (bkW D t u16 ++ [])))) (((((List.Perm.refl _)).append_left _).trans (pm_sw _ _ _)).trans ((((((List.Perm.refl _)).append_left _).trans (pm_sw _ _ _))).append_left _)) ?_
      exact v_iretX (u := (u12, u16)) 59 hF hR (Nat.le_of_ble_eq_true rfl) (Nat.le_of_ble_eq_true rfl) dX1_foretold_59 h
    · replace h := h.2 c10
      refine v_iconst (v := 1) 20 hF dX1_foretold_20 (by decide) ?_
      refine v_goto 21 25 hF dX1_foretold_21 (by decide) ?_
      refine v_callXS0v (As := [.int ((1 : Int32))]) 25 hF (c_X1_require l D hl ((1 : Int32)) _ _ _ h) q730 q731 q70 q732 ds_X1_require ⟨rfl, rfl, (Nat.le_of_ble_eq_true rfl), (Nat.le_of_ble_eq_true rfl)⟩ (Nat.le_of_ble_eq_true rfl) ⟨(Nat.le_of_ble_eq_true rfl), (Nat.le_of_ble_eq_true rfl)⟩ dX1_foretold_25 (fun E q hx => vT_gar (w := ([(w, .inr (0, [.ref (b 0), .ref (t 0), .ref (p 0), .ref (i 0), .int ft, .int rs, .int rf, .ref fr, .ref fa, sv]))] ++ (bkW D b σ ++ (bkW D t τ ++ [])))) (g := ([])) (((List.Perm.refl _)).trans (List.Perm.of_eq (by simp only [List.append_assoc, List.nil_append, List.append_nil]))) (v_outi (u := (σ, τ)) hF hR hN (Nat.le_of_ble_eq_true rfl) (Nat.le_of_ble_eq_true rfl) hx)) (fun E q ci r hy hp => vT_garY (w := ([(w, .inr (0, [.ref (b 0), .ref (t 0), .ref (p 0), .ref (i 0), .int ft, .int rs, .int rf, .ref fr, .ref fa, sv]))] ++ (bkW D b σ ++ (bkW D t τ ++ [])))) (g := ([])) (((List.Perm.refl _)).trans (List.Perm.of_eq (by simp only [List.append_assoc, List.nil_append, List.append_nil]))) (v_outYi (u := (σ, τ)) hF hR hN (Nat.le_of_ble_eq_true rfl) (Nat.le_of_ble_eq_true rfl) hp hy)) (fun h => ?_)
      refine v_aload_n 28 hF dX1_foretold_28 rfl 0 rfl ?_
      refine v_get 29 hF in_X1 0 rfl rfl 0 (Nat.le_of_ble_eq_true rfl) q362 rfl rfl dX1_foretold_29 ?_
      refine v_iload_n 32 hF dX1_foretold_32 rfl 2 rfl ?_
      refine v_callXVi (As := [.int x2]) (b := b 0) (wr := ([(w, .inr (0, [.ref (b 0), .ref (t 0), .ref (p 0), .ref (i 0), .int ft, .int rs, .int rf, .ref fr, .ref fa, sv]))] ++ (bkW D t τ ++ []))) 33 hF (c_X2_at l D hl b σ x2 _ _ _ h) ((((((List.Perm.refl _)).append_left _).trans (pm_sw _ _ _))).trans (List.Perm.of_eq (by simp only [List.append_assoc, List.nil_append, List.append_nil]))) ⟨0, 6, _, TX2, 24, rfl, rfl⟩ q813 q814 q815 q71 q816 ds_X2_at ⟨rfl, rfl, (Nat.le_of_ble_eq_true rfl), (Nat.le_of_ble_eq_true rfl)⟩ (Nat.le_of_ble_eq_true rfl) ⟨(Nat.le_of_ble_eq_true rfl), (Nat.le_of_ble_eq_true rfl)⟩ dX1_foretold_33 (fun E q ux hx => vT_gar (w := ([(w, .inr (0, [.ref (b 0), .ref (t 0), .ref (p 0), .ref (i 0), .int ft, .int rs, .int rf, .ref fr, .ref fa, sv]))] ++ (bkW D b ux ++ (bkW D t τ ++ [])))) (g := ([])) ((List.Perm.of_eq (show (bkW D b ux ++ []) ++ ([(w, .inr (0, [.ref (b 0), .ref (t 0), .ref (p 0), .ref (i 0), .int ft, .int rs, .int rf, .ref fr, .ref fa, sv]))] ++ (bkW D t τ ++ [])) = (bkW D b ux ++ ([(w, .inr (0, [.ref (b 0), .ref (t 0), .ref (p 0), .ref (i 0), .int ft, .int rs, .int rf, .ref fr, .ref fa, sv]))] ++ (bkW D t τ ++ []))) by simp only [List.append_assoc, List.nil_append, List.append_nil])).trans ((((((List.Perm.refl _)).append_left _).trans (pm_sw _ _ _))).trans (List.Perm.of_eq (by simp only [List.append_assoc, List.nil_append, List.append_nil])))) (v_outi (u := (ux, τ)) hF hR hN (Nat.le_of_ble_eq_true rfl) (Nat.le_of_ble_eq_true rfl) hx)) (fun E q ci r ux hy hp => vT_garY (w := ([(w, .inr (0, [.ref (b 0), .ref (t 0), .ref (p 0), .ref (i 0), .int ft, .int rs, .int rf, .ref fr, .ref fa, sv]))] ++ (bkW D b ux ++ (bkW D t τ ++ [])))) (g := ([])) ((List.Perm.of_eq (show (bkW D b ux ++ []) ++ ([(w, .inr (0, [.ref (b 0), .ref (t 0), .ref (p 0), .ref (i 0), .int ft, .int rs, .int rf, .ref fr, .ref fa, sv]))] ++ (bkW D t τ ++ [])) = (bkW D b ux ++ ([(w, .inr (0, [.ref (b 0), .ref (t 0), .ref (p 0), .ref (i 0), .int ft, .int rs, .int rf, .ref fr, .ref fa, sv]))] ++ (bkW D t τ ++ []))) by simp only [List.append_assoc, List.nil_append, List.append_nil])).trans ((((((List.Perm.refl _)).append_left _).trans (pm_sw _ _ _))).trans (List.Perm.of_eq (by simp only [List.append_assoc, List.nil_append, List.append_nil])))) (v_outYi (u := (ux, τ)) hF hR hN (Nat.le_of_ble_eq_true rfl) (Nat.le_of_ble_eq_true rfl) hp hy)) (fun r17 u18 h => ?_)
      refine v_eqw (ws1 := (bkW D b u18 ++ ([(w, .inr (0, [.ref (b 0), .ref (t 0), .ref (p 0), .ref (i 0), .int ft, .int rs, .int rf, .ref fr, .ref fa, sv]))] ++ (bkW D t τ ++ [])))) (by simp only [List.append_assoc, List.nil_append, List.append_nil]) ?_
      refine v_perm (ws' := ([(w, .inr (0, [.ref (b 0), .ref (t 0), .ref (p 0), .ref (i 0), .int ft, .int rs, .int rf, .ref fr, .ref fa, sv]))] ++ (bkW D b u18 ++ (bkW D t τ ++ [])))) ((((List.Perm.refl _)).append_left _).trans (pm_sw _ _ _)) ?_
      refine v_istore [(0, .ref w), (1, .int x1), (2, .int x2), (3, .int x3), (4, .int r17)] [1, 2, 3, 4, 0] 36 hF dX1_foretold_36 (Nat.le_of_ble_eq_true rfl) rfl ?_
      refine v_aload_n 38 hF dX1_foretold_38 rfl 0 rfl ?_
      refine v_get 39 hF in_X1 0 rfl rfl 1 (Nat.le_of_ble_eq_true rfl) q364 rfl rfl dX1_foretold_39 ?_
      refine v_aload_n 42 hF dX1_foretold_42 rfl 0 rfl ?_
      refine v_get 43 hF in_X1 0 rfl rfl 0 (Nat.le_of_ble_eq_true rfl) q362 rfl rfl dX1_foretold_43 ?_
      refine v_callVr (As := [.ref (b 0)]) (b := t 0) (wr := ([(w, .inr (0, [.ref (b 0), .ref (t 0), .ref (p 0), .ref (i 0), .int ft, .int rs, .int rf, .ref fr, .ref fa, sv]))] ++ [])) 46 hF (c_X2_become l D t b τ u18) ((((((((((List.Perm.refl _)).append_left _).trans (pm_sw _ _ _))).append_left _).trans (pm_sw _ _ _)).trans ((((((List.Perm.refl _)).append_left _).trans (pm_sw _ _ _))).append_left _))).trans (List.Perm.of_eq (by simp only [List.append_assoc, List.nil_append, List.append_nil]))) ⟨0, 6, _, TX2, 24, rfl, rfl⟩ q491 q492 q493 q71 q494 ds_X2_become ⟨rfl, rfl, (Nat.le_of_ble_eq_true rfl), (Nat.le_of_ble_eq_true rfl)⟩ (Nat.le_of_ble_eq_true rfl) ⟨(Nat.le_of_ble_eq_true rfl), (Nat.le_of_ble_eq_true rfl)⟩ dX1_foretold_46 (fun u19 _ => ?_)
      replace h := h u19
      refine v_eqw (ws1 := (bkW D t u18 ++ (bkW D b u18 ++ ([(w, .inr (0, [.ref (b 0), .ref (t 0), .ref (p 0), .ref (i 0), .int ft, .int rs, .int rf, .ref fr, .ref fa, sv]))] ++ [])))) (by simp only [List.append_assoc, List.nil_append, List.append_nil]) ?_
      refine v_perm (ws' := ([(w, .inr (0, [.ref (b 0), .ref (t 0), .ref (p 0), .ref (i 0), .int ft, .int rs, .int rf, .ref fr, .ref fa, sv]))] ++ (bkW D b u18 ++ (bkW D t u18 ++ [])))) ((((((((List.Perm.refl _)).append_left _).trans (pm_sw _ _ _))).append_left _).trans (pm_sw _ _ _)).trans ((((((List.Perm.refl _)).append_left _).trans (pm_sw _ _ _))).append_left _)) ?_
      refine v_iload_n 49 hF dX1_foretold_49 rfl 1 rfl ?_
      refine v_callVr (As := [.int x1]) (b := t 0) (wr := ([(w, .inr (0, [.ref (b 0), .ref (t 0), .ref (p 0), .ref (i 0), .int ft, .int rs, .int rf, .ref fr, .ref fa, sv]))] ++ (bkW D b u18 ++ []))) 50 hF (c_X2_pass l D t u18 x1 _ h) (((((((((List.Perm.refl _)).append_left _).trans (pm_sw _ _ _))).append_left _).trans (pm_sw _ _ _))).trans (List.Perm.of_eq (by simp only [List.append_assoc, List.nil_append, List.append_nil]))) ⟨0, 6, _, TX2, 24, rfl, rfl⟩ q1246 q1099 q1100 q71 q1101 ds_X2_pass ⟨rfl, rfl, (Nat.le_of_ble_eq_true rfl), (Nat.le_of_ble_eq_true rfl)⟩ (Nat.le_of_ble_eq_true rfl) ⟨(Nat.le_of_ble_eq_true rfl), (Nat.le_of_ble_eq_true rfl)⟩ dX1_foretold_50 (fun u20 h => ?_)
      refine v_eqw (ws1 := (bkW D t u20 ++ ([(w, .inr (0, [.ref (b 0), .ref (t 0), .ref (p 0), .ref (i 0), .int ft, .int rs, .int rf, .ref fr, .ref fa, sv]))] ++ (bkW D b u18 ++ [])))) (by simp only [List.append_assoc, List.nil_append, List.append_nil]) ?_
      refine v_perm (ws' := ([(w, .inr (0, [.ref (b 0), .ref (t 0), .ref (p 0), .ref (i 0), .int ft, .int rs, .int rf, .ref fr, .ref fa, sv]))] ++ (bkW D b u18 ++ (bkW D t u20 ++ [])))) (((((List.Perm.refl _)).append_left _).trans (pm_sw _ _ _)).trans ((((((List.Perm.refl _)).append_left _).trans (pm_sw _ _ _))).append_left _)) ?_
      refine v_iload 53 hF dX1_foretold_53 4 rfl ?_
      refine v_iload_n 55 hF dX1_foretold_55 rfl 3 rfl ?_
      refine v_callSi (As := [.ref (t 0), .int r17, .int x3]) (wr := ([(w, .inr (0, [.ref (b 0), .ref (t 0), .ref (p 0), .ref (i 0), .int ft, .int rs, .int rf, .ref fr, .ref fa, sv]))] ++ (bkW D b u18 ++ []))) 56 hF (c_X1_of_2 l D t u20 r17 x3 _ h) (((((((((List.Perm.refl _)).append_left _).trans (pm_sw _ _ _))).append_left _).trans (pm_sw _ _ _))).trans (List.Perm.of_eq (by simp only [List.append_assoc, List.nil_append, List.append_nil]))) q901 q902 q70 q903 ds_X1_of_2 ⟨rfl, rfl, (Nat.le_of_ble_eq_true rfl), (Nat.le_of_ble_eq_true rfl)⟩ (Nat.le_of_ble_eq_true rfl) ⟨(Nat.le_of_ble_eq_true rfl), (Nat.le_of_ble_eq_true rfl)⟩ dX1_foretold_56 (fun r21 u22 h => ?_)
      refine v_eqw (ws1 := (bkW D t u22 ++ ([(w, .inr (0, [.ref (b 0), .ref (t 0), .ref (p 0), .ref (i 0), .int ft, .int rs, .int rf, .ref fr, .ref fa, sv]))] ++ (bkW D b u18 ++ [])))) (by simp only [List.append_assoc, List.nil_append, List.append_nil]) ?_
      refine v_perm (ws' := ([(w, .inr (0, [.ref (b 0), .ref (t 0), .ref (p 0), .ref (i 0), .int ft, .int rs, .int rf, .ref fr, .ref fa, sv]))] ++ (bkW D b u18 ++ (bkW D t u22 ++ [])))) (((((List.Perm.refl _)).append_left _).trans (pm_sw _ _ _)).trans ((((((List.Perm.refl _)).append_left _).trans (pm_sw _ _ _))).append_left _)) ?_
      exact v_iretX (u := (u18, u22)) 59 hF hR (Nat.le_of_ble_eq_true rfl) (Nat.le_of_ble_eq_true rfl) dX1_foretold_59 h
def w_X1_firstFlood (w : Nat) (b : Nat → Nat) (t : Nat → Nat) (p : Nat → Nat) (i : Nat → Nat) (fr : Nat) (fa : Nat) (ft : Int32) (rs : Int32) (rf : Int32) (sv : Value) (σ : Nat → Nat → Int32) (τ : Nat → Nat → Int32) (x1 : Int32) (X : String → ((Nat → Nat → Int32) × (Nat → Nat → Int32)) → Prop) (Y : String → Int32 → ((Nat → Nat → Int32) × (Nat → Nat → Int32)) → Prop) (Q : Int32 → ((Nat → Nat → Int32) × (Nat → Nat → Int32)) → Prop) : Prop :=
  w_X2_at σ x1 (fun E ux => X E ((ux, τ))) (fun E r ux => Y E r ((ux, τ))) (fun r1 u2 => ∀ u3 : Unit, wLoop (fun (K23 : (Int32) × (Nat → Nat → Int32) → Prop) (z6 : (Int32) × (Nat → Nat → Int32)) => (fun (v4 : Int32) (v5 : Nat → Nat → Int32) => (((30 : Int32) < v4 → X "java/util/NoSuchElementException" (u2, v5)) ∧ (¬ (30 : Int32) < v4 → w_X2_day v5 (fun r8 u9 => w_X1_has ((u9 20 13)) r1 (fun r10 => ((r10 = 0 → ∀ y12 : Int32, y12 = v4 + (1 : Int32) → K23 ((y12, u9))) ∧ (¬ r10 = 0 → Q v4 ((u2, u9))))))))) z6.1 z6.2) (((1 : Int32), u2)))
theorem ds_X1_firstFlood : yX1_firstFlood.cls = yX1_firstFlood.cls ∧ yX1_firstFlood.cls ≠ "java/lang/invoke/MethodHandle" ∧ yX1_firstFlood.cls ≠ "java/lang/invoke/VarHandle" ∧ (parseMethodDescriptor yX1_firstFlood.desc).map (fun d => d.parameters.length) = some 1 := by decide +kernel
set_option maxHeartbeats 4000000 in
theorem c_X1_firstFlood (l : Launch) (D : va_G) (hl : l.stackTraces = false) (w : Nat) (b : Nat → Nat) (t : Nat → Nat) (p : Nat → Nat) (i : Nat → Nat) (fr : Nat) (fa : Nat) (ft : Int32) (rs : Int32) (rf : Int32) (sv : Value) (σ : Nat → Nat → Int32) (τ : Nat → Nat → Int32) (x1 : Int32) (X : String → ((Nat → Nat → Int32) × (Nat → Nat → Int32)) → Prop) (Y : String → Int32 → ((Nat → Nat → Int32) × (Nat → Nat → Int32)) → Prop) (Q : Int32 → ((Nat → Nat → Int32) × (Nat → Nat → Int32)) → Prop) (h : w_X1_firstFlood w b t p i fr fa ft rs rf sv σ τ x1 X Y Q) : Cxi l D yX1_firstFlood cX1_firstFlood 5 .int (rmk 8 2 12 137) [.ref w, .int x1] ([(w, .inr (0, [.ref (b 0), .ref (t 0), .ref (p 0), .ref (i 0), .int ft, .int rs, .int rf, .ref fr, .ref fa, sv]))] ++ (bkW D b σ ++ (bkW D t τ ++ []))) (fun u : (Nat → Nat → Int32) × (Nat → Nat → Int32) => ([(w, .inr (0, [.ref (b 0), .ref (t 0), .ref (p 0), .ref (i 0), .int ft, .int rs, .int rf, .ref fr, .ref fa, sv]))] ++ (bkW D b (u.1) ++ (bkW D t (u.2) ++ [])))) Q X Y 2 12 := by
  refine Cxi.of (by decide) (Nat.le_of_ble_eq_true rfl) (fun x hF hR hN => ?_)
  replace hF : vF x l D "BrookWeirs" cX1_firstFlood (rmk 8 2 12 137) 5 (some .int) := hF
  unfold w_X1_firstFlood at h
  refine v_aload_n 0 hF dX1_firstFlood_0 rfl 0 rfl ?_
  refine v_get 1 hF in_X1 0 rfl rfl 0 (Nat.le_of_ble_eq_true rfl) q362 rfl rfl dX1_firstFlood_1 ?_
  refine v_iload_n 4 hF dX1_firstFlood_4 rfl 1 rfl ?_
  refine v_callXVi (As := [.int x1]) (b := b 0) (wr := ([(w, .inr (0, [.ref (b 0), .ref (t 0), .ref (p 0), .ref (i 0), .int ft, .int rs, .int rf, .ref fr, .ref fa, sv]))] ++ (bkW D t τ ++ []))) 5 hF (c_X2_at l D hl b σ x1 _ _ _ h) ((((((List.Perm.refl _)).append_left _).trans (pm_sw _ _ _))).trans (List.Perm.of_eq (by simp only [List.append_assoc, List.nil_append, List.append_nil]))) ⟨0, 6, _, TX2, 24, rfl, rfl⟩ q813 q814 q815 q71 q816 ds_X2_at ⟨rfl, rfl, (Nat.le_of_ble_eq_true rfl), (Nat.le_of_ble_eq_true rfl)⟩ (Nat.le_of_ble_eq_true rfl) ⟨(Nat.le_of_ble_eq_true rfl), (Nat.le_of_ble_eq_true rfl)⟩ dX1_firstFlood_5 (fun E q ux hx => vT_gar (w := ([(w, .inr (0, [.ref (b 0), .ref (t 0), .ref (p 0), .ref (i 0), .int ft, .int rs, .int rf, .ref fr, .ref fa, sv]))] ++ (bkW D b ux ++ (bkW D t τ ++ [])))) (g := ([])) ((List.Perm.of_eq (show (bkW D b ux ++ []) ++ ([(w, .inr (0, [.ref (b 0), .ref (t 0), .ref (p 0), .ref (i 0), .int ft, .int rs, .int rf, .ref fr, .ref fa, sv]))] ++ (bkW D t τ ++ [])) = (bkW D b ux ++ ([(w, .inr (0, [.ref (b 0), .ref (t 0), .ref (p 0), .ref (i 0), .int ft, .int rs, .int rf, .ref fr, .ref fa, sv]))] ++ (bkW D t τ ++ []))) by simp only [List.append_assoc, List.nil_append, List.append_nil])).trans ((((((List.Perm.refl _)).append_left _).trans (pm_sw _ _ _))).trans (List.Perm.of_eq (by simp only [List.append_assoc, List.nil_append, List.append_nil])))) (v_outi (u := (ux, τ)) hF hR hN (Nat.le_of_ble_eq_true rfl) (Nat.le_of_ble_eq_true rfl) hx)) (fun E q ci r ux hy hp => vT_garY (w := ([(w, .inr (0, [.ref (b 0), .ref (t 0), .ref (p 0), .ref (i 0), .int ft, .int rs, .int rf, .ref fr, .ref fa, sv]))] ++ (bkW D b ux ++ (bkW D t τ ++ [])))) (g := ([])) ((List.Perm.of_eq (show (bkW D b ux ++ []) ++ ([(w, .inr (0, [.ref (b 0), .ref (t 0), .ref (p 0), .ref (i 0), .int ft, .int rs, .int rf, .ref fr, .ref fa, sv]))] ++ (bkW D t τ ++ [])) = (bkW D b ux ++ ([(w, .inr (0, [.ref (b 0), .ref (t 0), .ref (p 0), .ref (i 0), .int ft, .int rs, .int rf, .ref fr, .ref fa, sv]))] ++ (bkW D t τ ++ []))) by simp only [List.append_assoc, List.nil_append, List.append_nil])).trans ((((((List.Perm.refl _)).append_left _).trans (pm_sw _ _ _))).trans (List.Perm.of_eq (by simp only [List.append_assoc, List.nil_append, List.append_nil])))) (v_outYi (u := (ux, τ)) hF hR hN (Nat.le_of_ble_eq_true rfl) (Nat.le_of_ble_eq_true rfl) hp hy)) (fun r1 u2 h => ?_)
  refine v_eqw (ws1 := (bkW D b u2 ++ ([(w, .inr (0, [.ref (b 0), .ref (t 0), .ref (p 0), .ref (i 0), .int ft, .int rs, .int rf, .ref fr, .ref fa, sv]))] ++ (bkW D t τ ++ [])))) (by simp only [List.append_assoc, List.nil_append, List.append_nil]) ?_
  refine v_perm (ws' := ([(w, .inr (0, [.ref (b 0), .ref (t 0), .ref (p 0), .ref (i 0), .int ft, .int rs, .int rf, .ref fr, .ref fa, sv]))] ++ (bkW D b u2 ++ (bkW D t τ ++ [])))) ((((List.Perm.refl _)).append_left _).trans (pm_sw _ _ _)) ?_
  refine v_istore_n [(0, .ref w), (1, .int x1), (2, .int r1)] [1, 2, 0] 8 hF dX1_firstFlood_8 rfl (Nat.le_of_ble_eq_true rfl) rfl ?_
  refine v_aload_n 9 hF dX1_firstFlood_9 rfl 0 rfl ?_
  refine v_get 10 hF in_X1 0 rfl rfl 1 (Nat.le_of_ble_eq_true rfl) q364 rfl rfl dX1_firstFlood_10 ?_
  refine v_aload_n 13 hF dX1_firstFlood_13 rfl 0 rfl ?_
  refine v_get 14 hF in_X1 0 rfl rfl 0 (Nat.le_of_ble_eq_true rfl) q362 rfl rfl dX1_firstFlood_14 ?_
  refine v_callVr (As := [.ref (b 0)]) (b := t 0) (wr := ([(w, .inr (0, [.ref (b 0), .ref (t 0), .ref (p 0), .ref (i 0), .int ft, .int rs, .int rf, .ref fr, .ref fa, sv]))] ++ [])) 17 hF (c_X2_become l D t b τ u2) ((((((((((List.Perm.refl _)).append_left _).trans (pm_sw _ _ _))).append_left _).trans (pm_sw _ _ _)).trans ((((((List.Perm.refl _)).append_left _).trans (pm_sw _ _ _))).append_left _))).trans (List.Perm.of_eq (by simp only [List.append_assoc, List.nil_append, List.append_nil]))) ⟨0, 6, _, TX2, 24, rfl, rfl⟩ q491 q492 q493 q71 q494 ds_X2_become ⟨rfl, rfl, (Nat.le_of_ble_eq_true rfl), (Nat.le_of_ble_eq_true rfl)⟩ (Nat.le_of_ble_eq_true rfl) ⟨(Nat.le_of_ble_eq_true rfl), (Nat.le_of_ble_eq_true rfl)⟩ dX1_firstFlood_17 (fun u3 _ => ?_)
  replace h := h u3
  refine v_eqw (ws1 := (bkW D t u2 ++ (bkW D b u2 ++ ([(w, .inr (0, [.ref (b 0), .ref (t 0), .ref (p 0), .ref (i 0), .int ft, .int rs, .int rf, .ref fr, .ref fa, sv]))] ++ [])))) (by simp only [List.append_assoc, List.nil_append, List.append_nil]) ?_
  refine v_perm (ws' := ([(w, .inr (0, [.ref (b 0), .ref (t 0), .ref (p 0), .ref (i 0), .int ft, .int rs, .int rf, .ref fr, .ref fa, sv]))] ++ (bkW D b u2 ++ (bkW D t u2 ++ [])))) ((((((((List.Perm.refl _)).append_left _).trans (pm_sw _ _ _))).append_left _).trans (pm_sw _ _ _)).trans ((((((List.Perm.refl _)).append_left _).trans (pm_sw _ _ _))).append_left _)) ?_
  refine v_pop 20 hF dX1_firstFlood_20 rfl ?_
  refine v_iconst (v := 1) 21 hF dX1_firstFlood_21 (by decide) ?_
  refine v_istore_n [(0, .ref w), (1, .int x1), (2, .int r1), (3, .int ((1 : Int32)))] [1, 2, 3, 0] 22 hF dX1_firstFlood_22 rfl (Nat.le_of_ble_eq_true rfl) rfl ?_
  refine vLoop (V := fun z6 : (Int32) × (Nat → Nat → Int32) => vV x 1 6 ([(w, .inr (0, [.ref (b 0), .ref (t 0), .ref (p 0), .ref (i 0), .int ft, .int rs, .int rf, .ref fr, .ref fa, sv]))] ++ (bkW D b u2 ++ (bkW D t (z6.2) ++ []))) [(0, .ref w), (1, .int x1), (2, .int r1), (3, .int (z6.1))] 23 []) (fun K23 hK23 z6 hs => ?_) _ h
  obtain ⟨v4, v5⟩ := z6
  have h : (((30 : Int32) < v4 → X "java/util/NoSuchElementException" (u2, v5)) ∧ (¬ (30 : Int32) < v4 → w_X2_day v5 (fun r8 u9 => w_X1_has ((u9 20 13)) r1 (fun r10 => ((r10 = 0 → ∀ y12 : Int32, y12 = v4 + (1 : Int32) → K23 ((y12, u9))) ∧ (¬ r10 = 0 → Q v4 ((u2, u9)))))))) := hs
  refine v_iload_n 23 hF dX1_firstFlood_23 rfl 3 rfl ?_
  refine v_bipush (v := 30) 24 hF dX1_firstFlood_24 (by decide) ?_
  refine v_icmp_gt 26 60 hF dX1_firstFlood_26 (by decide) (fun c7 => ?_) (fun c7 => ?_)
  · replace h := h.1 c7
    exact v_throw0i (u := (u2, v5)) (names := ["java/lang/RuntimeException", "java/lang/Exception"]) (ps := [83, 551, 560, 571, 574, 576, 552, 553, 121, 122, 554, 559, 572, 589, 541, 590, 543, 591, 545, 555, 557, 547, 578, 579, 580, 581, 532, 581, 582, 583, 584, 534, 584, 585, 586, 552, 536, 1048, 530, 531, 538, 539, 540, 542, 544, 546, 587, 549, 548]) 60 hF hR hN hl (by decide +kernel) (by decide +kernel) q1047 q89 (by decide +kernel) (by decide +kernel) (by decide +kernel) dX1_firstFlood_60 dX1_firstFlood_63 dX1_firstFlood_64 dX1_firstFlood_67 ⟨(Nat.le_of_ble_eq_true rfl), (Nat.le_of_ble_eq_true rfl)⟩ ⟨(Nat.le_of_ble_eq_true rfl), (Nat.le_of_ble_eq_true rfl)⟩ (Nat.le_of_ble_eq_true rfl) (Nat.le_of_ble_eq_true rfl) h
  · replace h := h.2 c7
    refine v_aload_n 29 hF dX1_firstFlood_29 rfl 0 rfl ?_
    refine v_get 30 hF in_X1 0 rfl rfl 1 (Nat.le_of_ble_eq_true rfl) q364 rfl rfl dX1_firstFlood_30 ?_
    refine v_callVi (As := []) (b := t 0) (wr := ([(w, .inr (0, [.ref (b 0), .ref (t 0), .ref (p 0), .ref (i 0), .int ft, .int rs, .int rf, .ref fr, .ref fa, sv]))] ++ (bkW D b u2 ++ []))) 33 hF (c_X2_day l D t v5 _ h) (((((((((List.Perm.refl _)).append_left _).trans (pm_sw _ _ _))).append_left _).trans (pm_sw _ _ _))).trans (List.Perm.of_eq (by simp only [List.append_assoc, List.nil_append, List.append_nil]))) ⟨0, 6, _, TX2, 24, rfl, rfl⟩ q402 q403 q404 q71 q405 ds_X2_day ⟨rfl, rfl, (Nat.le_of_ble_eq_true rfl), (Nat.le_of_ble_eq_true rfl)⟩ (Nat.le_of_ble_eq_true rfl) ⟨(Nat.le_of_ble_eq_true rfl), (Nat.le_of_ble_eq_true rfl)⟩ dX1_firstFlood_33 (fun r8 u9 h => ?_)
    refine v_eqw (ws1 := (bkW D t u9 ++ ([(w, .inr (0, [.ref (b 0), .ref (t 0), .ref (p 0), .ref (i 0), .int ft, .int rs, .int rf, .ref fr, .ref fa, sv]))] ++ (bkW D b u2 ++ [])))) (by simp only [List.append_assoc, List.nil_append, List.append_nil]) ?_
    refine v_perm (ws' := ([(w, .inr (0, [.ref (b 0), .ref (t 0), .ref (p 0), .ref (i 0), .int ft, .int rs, .int rf, .ref fr, .ref fa, sv]))] ++ (bkW D b u2 ++ (bkW D t u9 ++ [])))) (((((List.Perm.refl _)).append_left _).trans (pm_sw _ _ _)).trans ((((((List.Perm.refl _)).append_left _).trans (pm_sw _ _ _))).append_left _)) ?_
    refine v_istore [(0, .ref w), (1, .int x1), (2, .int r1), (3, .int v4), (4, .int r8)] [1, 2, 3, 4, 0] 36 hF dX1_firstFlood_36 (Nat.le_of_ble_eq_true rfl) rfl ?_
    refine v_aload_n 38 hF dX1_firstFlood_38 rfl 0 rfl ?_
    refine v_get 39 hF in_X1 0 rfl rfl 1 (Nat.le_of_ble_eq_true rfl) q364 rfl rfl dX1_firstFlood_39 ?_
    refine v_getN 42 hF in_X2 14 rfl rfl 13 (Nat.le_of_ble_eq_true rfl) q197 rfl rfl dX1_firstFlood_42 ?_
    refine v_iload_n 45 hF dX1_firstFlood_45 rfl 2 rfl ?_
    refine v_callS0i (As := [.int ((u9 20 13)), .int r1]) 46 hF (c_X1_has l D ((u9 20 13)) r1 _ h) q849 q426 q70 q427 ds_X1_has ⟨rfl, rfl, (Nat.le_of_ble_eq_true rfl), (Nat.le_of_ble_eq_true rfl)⟩ (Nat.le_of_ble_eq_true rfl) ⟨(Nat.le_of_ble_eq_true rfl), (Nat.le_of_ble_eq_true rfl)⟩ dX1_firstFlood_46 (fun r10 h => ?_)
    refine v_if_eq 49 54 hF dX1_firstFlood_49 (by decide) (fun c11 => ?_) (fun c11 => ?_)
    · replace h := h.1 c11
      obtain ⟨y12, ey12⟩ : ∃ y : Int32, y = v4 + (1 : Int32) := ⟨_, rfl⟩
      replace h := h y12 ey12
      refine v_iinc [(0, .ref w), (1, .int x1), (2, .int r1), (3, .int y12), (4, .int r8)] [1, 2, 3, 0, 4] 54 hF dX1_firstFlood_54 3 rfl (by rw [ey12]; rfl) (Nat.le_of_ble_eq_true rfl) rfl ?_
      refine v_goto 57 23 hF dX1_firstFlood_57 (by decide) ?_
      refine v_sub [(0, .ref w), (1, .int x1), (2, .int r1), (3, .int y12)] [0, 1, 2, 3] rfl ?_
      exact hK23 ((y12, u9)) h
    · replace h := h.2 c11
      refine v_iload_n 52 hF dX1_firstFlood_52 rfl 3 rfl ?_
      exact v_iretX (u := (u2, u9)) 53 hF hR (Nat.le_of_ble_eq_true rfl) (Nat.le_of_ble_eq_true rfl) dX1_firstFlood_53 h
