set_option maxRecDepth 100000
def w_J23_canEncode_2 (x0 : Int32) (Q : Int32 → (Unit) → Prop) : Prop :=
  ((x0 < 0 → Q ((0 : Int32)) ()) ∧ (¬ x0 < 0 → (((255 : Int32) < x0 → Q ((0 : Int32)) ()) ∧ (¬ (255 : Int32) < x0 → Q ((1 : Int32)) ()))))
theorem ds_J23_canEncode_2 : yJ23_canEncode_2.cls = yJ23_canEncode_2.cls ∧ yJ23_canEncode_2.cls ≠ "java/lang/invoke/MethodHandle" ∧ yJ23_canEncode_2.cls ≠ "java/lang/invoke/VarHandle" ∧ (parseMethodDescriptor yJ23_canEncode_2.desc).map (fun d => d.parameters.length) = some 1 := by decide +kernel
set_option maxHeartbeats 4000000 in
theorem c_J23_canEncode_2 (l : Launch) (D : va_G) (x0 : Int32) (Q : Int32 → (Unit) → Prop) (h : w_J23_canEncode_2 x0 Q) : Cti l D yJ23_canEncode_2 cJ23_canEncode_2 1 .boolean (rmk 0 0 0 0) [.int x0] ([]) (fun u : Unit => ([])) Q 0 0 := by
  refine Cti.of (by decide) (Nat.le_of_ble_eq_true rfl) (fun x hF hR => ?_)
  replace hF : vF x l D "java/lang/StringLatin1" cJ23_canEncode_2 (rmk 0 0 0 0) 1 (some .boolean) := hF
  unfold w_J23_canEncode_2 at h
  refine v_iload_n 0 hF dJ23_canEncode_2_0 rfl 0 rfl ?_
  refine v_if_lt 1 15 hF dJ23_canEncode_2_1 (by decide) (fun c1 => ?_) (fun c1 => ?_)
  · replace h := h.1 c1
    refine v_iconst (v := 0) 15 hF dJ23_canEncode_2_15 (by decide) ?_
    exact v_zret (u := ()) 16 hF hR (Nat.le_of_ble_eq_true rfl) (Nat.le_of_ble_eq_true rfl) rfl dJ23_canEncode_2_16 h
  · replace h := h.2 c1
    refine v_iload_n 4 hF dJ23_canEncode_2_4 rfl 0 rfl ?_
    refine v_sipush (v := 255) 5 hF dJ23_canEncode_2_5 (by decide) ?_
    refine v_icmp_gt 8 15 hF dJ23_canEncode_2_8 (by decide) (fun c2 => ?_) (fun c2 => ?_)
    · replace h := h.1 c2
      refine v_iconst (v := 0) 15 hF dJ23_canEncode_2_15 (by decide) ?_
      exact v_zret (u := ()) 16 hF hR (Nat.le_of_ble_eq_true rfl) (Nat.le_of_ble_eq_true rfl) rfl dJ23_canEncode_2_16 h
    · replace h := h.2 c2
      refine v_iconst (v := 1) 11 hF dJ23_canEncode_2_11 (by decide) ?_
      refine v_goto 12 16 hF dJ23_canEncode_2_12 (by decide) ?_
      exact v_zret (u := ()) 16 hF hR (Nat.le_of_ble_eq_true rfl) (Nat.le_of_ble_eq_true rfl) rfl dJ23_canEncode_2_16 h
def w_J4_isLatin1 (j : Nat) (Q : Int32 → (Unit) → Prop) : Prop :=
  (((1 : Int32) = 0 → Q ((0 : Int32)) ()) ∧ (¬ (1 : Int32) = 0 → ((¬ (0 : Int32) = 0 → Q ((0 : Int32)) ()) ∧ ((0 : Int32) = 0 → Q ((1 : Int32)) ()))))
theorem ds_J4_isLatin1 : yJ4_isLatin1.cls = yJ4_isLatin1.cls ∧ yJ4_isLatin1.cls ≠ "java/lang/invoke/MethodHandle" ∧ yJ4_isLatin1.cls ≠ "java/lang/invoke/VarHandle" ∧ (parseMethodDescriptor yJ4_isLatin1.desc).map (fun d => d.parameters.length) = some 0 := by decide +kernel
set_option maxHeartbeats 4000000 in
theorem c_J4_isLatin1 (l : Launch) (D : va_G) (j : Nat) (hj : j < 2) (Q : Int32 → (Unit) → Prop) (h : w_J4_isLatin1 j Q) : Cti l D yJ4_isLatin1 cJ4_isLatin1 1 .boolean (rmk 0 0 0 0) [.ref (D.2 1003 j)] ([]) (fun u : Unit => ([])) Q 0 0 := by
  refine Cti.of (by decide) (Nat.le_of_ble_eq_true rfl) (fun x hF hR => ?_)
  replace hF : vF x l D "java/lang/String" cJ4_isLatin1 (rmk 0 0 0 0) 1 (some .boolean) := hF
  unfold w_J4_isLatin1 at h
  refine v_gets (v := .int 1) 0 hF (fun A U H hz => hz.2.1.1) q1705 dJ4_isLatin1_0 ?_
  refine v_if_eq 3 17 hF dJ4_isLatin1_3 (by decide) (fun c1 => ?_) (fun c1 => ?_)
  · replace h := h.1 c1
    refine v_iconst (v := 0) 17 hF dJ4_isLatin1_17 (by decide) ?_
    exact v_zret (u := ()) 18 hF hR (Nat.le_of_ble_eq_true rfl) (Nat.le_of_ble_eq_true rfl) rfl dJ4_isLatin1_18 h
  · replace h := h.2 c1
    refine v_aload_n 6 hF dJ4_isLatin1_6 rfl 0 rfl ?_
    refine v_scod 7 hF hj q1797 dJ4_isLatin1_7 ?_
    refine v_if_ne 10 17 hF dJ4_isLatin1_10 (by decide) (fun c2 => ?_) (fun c2 => ?_)
    · replace h := h.1 c2
      refine v_iconst (v := 0) 17 hF dJ4_isLatin1_17 (by decide) ?_
      exact v_zret (u := ()) 18 hF hR (Nat.le_of_ble_eq_true rfl) (Nat.le_of_ble_eq_true rfl) rfl dJ4_isLatin1_18 h
    · replace h := h.2 c2
      refine v_iconst (v := 1) 13 hF dJ4_isLatin1_13 (by decide) ?_
      refine v_goto 14 18 hF dJ4_isLatin1_14 (by decide) ?_
      exact v_zret (u := ()) 18 hF hR (Nat.le_of_ble_eq_true rfl) (Nat.le_of_ble_eq_true rfl) rfl dJ4_isLatin1_18 h
def w_J4_coder (j : Nat) (Q : Int32 → (Unit) → Prop) : Prop :=
  (((1 : Int32) = 0 → Q ((1 : Int32)) ()) ∧ (¬ (1 : Int32) = 0 → Q ((0 : Int32)) ()))
theorem ds_J4_coder : yJ4_coder.cls = yJ4_coder.cls ∧ yJ4_coder.cls ≠ "java/lang/invoke/MethodHandle" ∧ yJ4_coder.cls ≠ "java/lang/invoke/VarHandle" ∧ (parseMethodDescriptor yJ4_coder.desc).map (fun d => d.parameters.length) = some 0 := by decide +kernel
set_option maxHeartbeats 4000000 in
theorem c_J4_coder (l : Launch) (D : va_G) (j : Nat) (hj : j < 2) (Q : Int32 → (Unit) → Prop) (h : w_J4_coder j Q) : Cti l D yJ4_coder cJ4_coder 1 .byte (rmk 0 0 0 0) [.ref (D.2 1003 j)] ([]) (fun u : Unit => ([])) Q 0 0 := by
  refine Cti.of (by decide) (Nat.le_of_ble_eq_true rfl) (fun x hF hR => ?_)
  replace hF : vF x l D "java/lang/String" cJ4_coder (rmk 0 0 0 0) 1 (some .byte) := hF
  unfold w_J4_coder at h
  refine v_gets (v := .int 1) 0 hF (fun A U H hz => hz.2.1.1) q1705 dJ4_coder_0 ?_
  refine v_if_eq 3 13 hF dJ4_coder_3 (by decide) (fun c1 => ?_) (fun c1 => ?_)
  · replace h := h.1 c1
    refine v_iconst (v := 1) 13 hF dJ4_coder_13 (by decide) ?_
    exact v_zret (u := ()) 14 hF hR (Nat.le_of_ble_eq_true rfl) (Nat.le_of_ble_eq_true rfl) rfl dJ4_coder_14 h
  · replace h := h.2 c1
    refine v_aload_n 6 hF dJ4_coder_6 rfl 0 rfl ?_
    refine v_scod 7 hF hj q1797 dJ4_coder_7 ?_
    refine v_goto 10 14 hF dJ4_coder_10 (by decide) ?_
    exact v_zret (u := ()) 14 hF hR (Nat.le_of_ble_eq_true rfl) (Nat.le_of_ble_eq_true rfl) rfl dJ4_coder_14 h
def w_J4_length (j : Nat) (Q : Int32 → (Unit) → Prop) : Prop :=
  w_J4_coder j (fun r1 u2 => Q (((Int32.ofNat (sLen j)) >>> (r1 &&& 31))) ())
theorem ds_J4_length : yJ4_length.cls = yJ4_length.cls ∧ yJ4_length.cls ≠ "java/lang/invoke/MethodHandle" ∧ yJ4_length.cls ≠ "java/lang/invoke/VarHandle" ∧ (parseMethodDescriptor yJ4_length.desc).map (fun d => d.parameters.length) = some 0 := by decide +kernel
set_option maxHeartbeats 4000000 in
theorem c_J4_length (l : Launch) (D : va_G) (j : Nat) (hj : j < 2) (Q : Int32 → (Unit) → Prop) (h : w_J4_length j Q) : Cti l D yJ4_length cJ4_length 1 .int (rmk 1 0 0 20) [.ref (D.2 1003 j)] ([]) (fun u : Unit => ([])) Q 0 0 := by
  refine Cti.of (by decide) (Nat.le_of_ble_eq_true rfl) (fun x hF hR => ?_)
  replace hF : vF x l D "java/lang/String" cJ4_length (rmk 1 0 0 20) 1 (some .int) := hF
  unfold w_J4_length at h
  refine v_aload_n 0 hF dJ4_length_0 rfl 0 rfl ?_
  refine v_sval 1 hF hj q1796 dJ4_length_1 ?_
  refine v_slen 4 hF hj dJ4_length_4 ?_
  refine v_aload_n 5 hF dJ4_length_5 rfl 0 rfl ?_
  refine v_callKi (As := []) (wr := ([])) 6 hF (c_J4_coder l D j hj _ h) (((List.Perm.refl _)).trans (List.Perm.of_eq (by simp only [List.append_assoc, List.nil_append, List.append_nil]))) hj rfl q1701 q1702 q1703 q77 q1704 ds_J4_coder ⟨rfl, rfl, (Nat.le_of_ble_eq_true rfl), (Nat.le_of_ble_eq_true rfl)⟩ (Nat.le_of_ble_eq_true rfl) ⟨(Nat.le_of_ble_eq_true rfl), (Nat.le_of_ble_eq_true rfl)⟩ dJ4_length_6 (fun r1 u2 h => ?_)
  refine v_eqw (ws1 := ([])) (by simp only [List.append_assoc, List.nil_append, List.append_nil]) ?_
  refine v_ishr 9 hF dJ4_length_9 ?_
  exact v_iret (u := ()) 10 hF hR (Nat.le_of_ble_eq_true rfl) (Nat.le_of_ble_eq_true rfl) dJ4_length_10 h
def w_J23_indexOfChar (j : Nat) (x1 : Int32) (x2 : Int32) (x3 : Int32) (Q : Int32 → (Unit) → Prop) : Prop :=
  ∀ y1 : Int32, y1 = x1.toInt8.toInt32 → wLoop (fun (K7 : (Int32) → Prop) (z3 : (Int32)) => (fun (v2 : Int32) => ((x3 ≤ v2 → Q ((-1 : Int32)) ()) ∧ (¬ x3 ≤ v2 → vp_in v2 (sLen j) ∧ ((¬ (sByt j v2.toNatClampNeg) = y1 → ∀ y7 : Int32, y7 = v2 + (1 : Int32) → K7 y7) ∧ ((sByt j v2.toNatClampNeg) = y1 → Q v2 ()))))) z3) x2
theorem ds_J23_indexOfChar : yJ23_indexOfChar.cls = yJ23_indexOfChar.cls ∧ yJ23_indexOfChar.cls ≠ "java/lang/invoke/MethodHandle" ∧ yJ23_indexOfChar.cls ≠ "java/lang/invoke/VarHandle" ∧ (parseMethodDescriptor yJ23_indexOfChar.desc).map (fun d => d.parameters.length) = some 4 := by decide +kernel
set_option maxHeartbeats 4000000 in
theorem c_J23_indexOfChar (l : Launch) (D : va_G) (j : Nat) (x1 : Int32) (x2 : Int32) (x3 : Int32) (hj : j < 2) (Q : Int32 → (Unit) → Prop) (h : w_J23_indexOfChar j x1 x2 x3 Q) : Cti l D yJ23_indexOfChar cJ23_indexOfChar 6 .int (rmk 0 0 0 0) [.ref (D.2 1004 j), .int x1, .int x2, .int x3] ([]) (fun u : Unit => ([])) Q 0 0 := by
  refine Cti.of (by decide) (Nat.le_of_ble_eq_true rfl) (fun x hF hR => ?_)
  replace hF : vF x l D "java/lang/StringLatin1" cJ23_indexOfChar (rmk 0 0 0 0) 6 (some .int) := hF
  unfold w_J23_indexOfChar at h
  refine v_iload_n 0 hF dJ23_indexOfChar_0 rfl 1 rfl ?_
  refine v_i2b 1 hF dJ23_indexOfChar_1 ?_
  refine v_nm (fun y1 ey1 => ?_)
  replace h := h y1 ey1
  refine v_istore [(0, .ref (D.2 1004 j)), (1, .int x1), (2, .int x2), (3, .int x3), (4, .int y1)] [1, 2, 3, 4, 0] 2 hF dJ23_indexOfChar_2 (Nat.le_of_ble_eq_true rfl) rfl ?_
  refine v_iload_n 4 hF dJ23_indexOfChar_4 rfl 2 rfl ?_
  refine v_istore [(0, .ref (D.2 1004 j)), (1, .int x1), (2, .int x2), (3, .int x3), (4, .int y1), (5, .int x2)] [1, 2, 3, 4, 5, 0] 5 hF dJ23_indexOfChar_5 (Nat.le_of_ble_eq_true rfl) rfl ?_
  refine vLoop (V := fun z3 : (Int32) => vV x 0 0 ([]) [(0, .ref (D.2 1004 j)), (1, .int x1), (2, .int x2), (3, .int x3), (4, .int y1), (5, .int z3)] 7 []) (fun K7 hK7 z3 hs => ?_) _ h
  revert hs
  revert z3
  intro v2 hs
  have h : ((x3 ≤ v2 → Q ((-1 : Int32)) ()) ∧ (¬ x3 ≤ v2 → vp_in v2 (sLen j) ∧ ((¬ (sByt j v2.toNatClampNeg) = y1 → ∀ y7 : Int32, y7 = v2 + (1 : Int32) → K7 y7) ∧ ((sByt j v2.toNatClampNeg) = y1 → Q v2 ())))) := hs
  refine v_iload 7 hF dJ23_indexOfChar_7 5 rfl ?_
  refine v_iload_n 9 hF dJ23_indexOfChar_9 rfl 3 rfl ?_
  refine v_icmp_ge 10 31 hF dJ23_indexOfChar_10 (by decide) (fun c4 => ?_) (fun c4 => ?_)
  · replace h := h.1 c4
    refine v_iconst (v := -1) 31 hF dJ23_indexOfChar_31 (by decide) ?_
    exact v_iret (u := ()) 32 hF hR (Nat.le_of_ble_eq_true rfl) (Nat.le_of_ble_eq_true rfl) dJ23_indexOfChar_32 h
  · replace h := h.2 c4
    refine v_aload_n 13 hF dJ23_indexOfChar_13 rfl 0 rfl ?_
    refine v_iload 14 hF dJ23_indexOfChar_14 5 rfl ?_
    obtain ⟨o5, h⟩ := h
    refine v_sbald 16 hF hj o5 dJ23_indexOfChar_16 ?_
    refine v_iload 17 hF dJ23_indexOfChar_17 4 rfl ?_
    refine v_icmp_ne 19 25 hF dJ23_indexOfChar_19 (by decide) (fun c6 => ?_) (fun c6 => ?_)
    · replace h := h.1 c6
      obtain ⟨y7, ey7⟩ : ∃ y : Int32, y = v2 + (1 : Int32) := ⟨_, rfl⟩
      replace h := h y7 ey7
      refine v_iinc [(0, .ref (D.2 1004 j)), (1, .int x1), (2, .int x2), (3, .int x3), (4, .int y1), (5, .int y7)] [1, 2, 3, 4, 5, 0] 25 hF dJ23_indexOfChar_25 5 rfl (by rw [ey7]; rfl) (Nat.le_of_ble_eq_true rfl) rfl ?_
      refine v_goto 28 7 hF dJ23_indexOfChar_28 (by decide) ?_
      exact hK7 y7 h
    · replace h := h.2 c6
      refine v_iload 22 hF dJ23_indexOfChar_22 5 rfl ?_
      exact v_iret (u := ()) 24 hF hR (Nat.le_of_ble_eq_true rfl) (Nat.le_of_ble_eq_true rfl) dJ23_indexOfChar_24 h
def w_J23_indexOf (j : Nat) (x1 : Int32) (x2 : Int32) (x3 : Int32) (Q : Int32 → (Unit) → Prop) : Prop :=
  w_J23_canEncode_2 x1 (fun r1 u2 => ((¬ r1 = 0 → ∀ y4 : Int32, y4 = (if x2 < (0 : Int32) then (0 : Int32) else x2) → ∀ y5 : Int32, y5 = (if (Int32.ofNat (sLen j)) < x3 then (Int32.ofNat (sLen j)) else x3) → ((y4 < y5 → w_J23_indexOfChar j x1 y4 y5 (fun r7 u8 => Q r7 ())) ∧ (¬ y4 < y5 → Q ((-1 : Int32)) ()))) ∧ (r1 = 0 → Q ((-1 : Int32)) ())))
theorem ds_J23_indexOf : yJ23_indexOf.cls = yJ23_indexOf.cls ∧ yJ23_indexOf.cls ≠ "java/lang/invoke/MethodHandle" ∧ yJ23_indexOf.cls ≠ "java/lang/invoke/VarHandle" ∧ (parseMethodDescriptor yJ23_indexOf.desc).map (fun d => d.parameters.length) = some 4 := by decide +kernel
set_option maxHeartbeats 4000000 in
theorem c_J23_indexOf (l : Launch) (D : va_G) (j : Nat) (x1 : Int32) (x2 : Int32) (x3 : Int32) (hj : j < 2) (Q : Int32 → (Unit) → Prop) (h : w_J23_indexOf j x1 x2 x3 Q) : Cti l D yJ23_indexOf cJ23_indexOf 4 .int (rmk 1 0 0 64) [.ref (D.2 1004 j), .int x1, .int x2, .int x3] ([]) (fun u : Unit => ([])) Q 0 0 := by
  refine Cti.of (by decide) (Nat.le_of_ble_eq_true rfl) (fun x hF hR => ?_)
  replace hF : vF x l D "java/lang/StringLatin1" cJ23_indexOf (rmk 1 0 0 64) 4 (some .int) := hF
  unfold w_J23_indexOf at h
  refine v_iload_n 0 hF dJ23_indexOf_0 rfl 1 rfl ?_
  refine v_callSi (As := [.int x1]) (wr := ([])) 1 hF (c_J23_canEncode_2 l D x1 _ h) (((List.Perm.refl _)).trans (List.Perm.of_eq (by simp only [List.append_assoc, List.nil_append, List.append_nil]))) q2233 q2234 q107 q2235 ds_J23_canEncode_2 ⟨rfl, rfl, (Nat.le_of_ble_eq_true rfl), (Nat.le_of_ble_eq_true rfl)⟩ (Nat.le_of_ble_eq_true rfl) ⟨(Nat.le_of_ble_eq_true rfl), (Nat.le_of_ble_eq_true rfl)⟩ dJ23_indexOf_1 (fun r1 u2 h => ?_)
  refine v_eqw (ws1 := ([])) (by simp only [List.append_assoc, List.nil_append, List.append_nil]) ?_
  refine v_if_ne 4 9 hF dJ23_indexOf_4 (by decide) (fun c3 => ?_) (fun c3 => ?_)
  · replace h := h.1 c3
    refine v_iload_n 9 hF dJ23_indexOf_9 rfl 2 rfl ?_
    refine v_iconst (v := 0) 10 hF dJ23_indexOf_10 (by decide) ?_
    refine v_mmax 11 hF q2236 q432 q92 q433 (Nat.le_of_ble_eq_true rfl) (Nat.le_of_ble_eq_true rfl) ⟨(Nat.le_of_ble_eq_true rfl), (Nat.le_of_ble_eq_true rfl)⟩ dJ23_indexOf_11 ?_
    refine v_nm (fun y4 ey4 => ?_)
    replace h := h y4 ey4
    refine v_istore_n [(0, .ref (D.2 1004 j)), (1, .int x1), (2, .int y4), (3, .int x3)] [1, 2, 0, 3] 14 hF dJ23_indexOf_14 rfl (Nat.le_of_ble_eq_true rfl) rfl ?_
    refine v_iload_n 15 hF dJ23_indexOf_15 rfl 3 rfl ?_
    refine v_aload_n 16 hF dJ23_indexOf_16 rfl 0 rfl ?_
    refine v_slen 17 hF hj dJ23_indexOf_17 ?_
    refine v_mmin 18 hF q2237 q429 q92 q430 (Nat.le_of_ble_eq_true rfl) (Nat.le_of_ble_eq_true rfl) ⟨(Nat.le_of_ble_eq_true rfl), (Nat.le_of_ble_eq_true rfl)⟩ dJ23_indexOf_18 ?_
    refine v_nm (fun y5 ey5 => ?_)
    replace h := h y5 ey5
    refine v_istore_n [(0, .ref (D.2 1004 j)), (1, .int x1), (2, .int y4), (3, .int y5)] [1, 2, 3, 0] 21 hF dJ23_indexOf_21 rfl (Nat.le_of_ble_eq_true rfl) rfl ?_
    refine v_iload_n 22 hF dJ23_indexOf_22 rfl 2 rfl ?_
    refine v_iload_n 23 hF dJ23_indexOf_23 rfl 3 rfl ?_
    refine v_icmp_lt 24 29 hF dJ23_indexOf_24 (by decide) (fun c6 => ?_) (fun c6 => ?_)
    · replace h := h.1 c6
      refine v_aload_n 29 hF dJ23_indexOf_29 rfl 0 rfl ?_
      refine v_iload_n 30 hF dJ23_indexOf_30 rfl 1 rfl ?_
      refine v_iload_n 31 hF dJ23_indexOf_31 rfl 2 rfl ?_
      refine v_iload_n 32 hF dJ23_indexOf_32 rfl 3 rfl ?_
      refine v_callSi (As := [.ref (D.2 1004 j), .int x1, .int y4, .int y5]) (wr := ([])) 33 hF (c_J23_indexOfChar l D j x1 y4 y5 hj _ h) (((List.Perm.refl _)).trans (List.Perm.of_eq (by simp only [List.append_assoc, List.nil_append, List.append_nil]))) q2238 q2239 q107 q2240 ds_J23_indexOfChar ⟨rfl, rfl, (Nat.le_of_ble_eq_true rfl), (Nat.le_of_ble_eq_true rfl)⟩ (Nat.le_of_ble_eq_true rfl) ⟨(Nat.le_of_ble_eq_true rfl), (Nat.le_of_ble_eq_true rfl)⟩ dJ23_indexOf_33 (fun r7 u8 h => ?_)
      refine v_eqw (ws1 := ([])) (by simp only [List.append_assoc, List.nil_append, List.append_nil]) ?_
      exact v_iret (u := ()) 36 hF hR (Nat.le_of_ble_eq_true rfl) (Nat.le_of_ble_eq_true rfl) dJ23_indexOf_36 h
    · replace h := h.2 c6
      refine v_iconst (v := -1) 27 hF dJ23_indexOf_27 (by decide) ?_
      exact v_iret (u := ()) 28 hF hR (Nat.le_of_ble_eq_true rfl) (Nat.le_of_ble_eq_true rfl) dJ23_indexOf_28 h
  · replace h := h.2 c3
    refine v_iconst (v := -1) 7 hF dJ23_indexOf_7 (by decide) ?_
    exact v_iret (u := ()) 8 hF hR (Nat.le_of_ble_eq_true rfl) (Nat.le_of_ble_eq_true rfl) dJ23_indexOf_8 h
def w_J4_indexOf_2 (j : Nat) (x1 : Int32) (x2 : Int32) (Q : Int32 → (Unit) → Prop) : Prop :=
  w_J4_isLatin1 j (fun r1 u2 => ((r1 = 0 → False) ∧ (¬ r1 = 0 → w_J4_length j (fun r4 u5 => w_J23_indexOf j x1 x2 r4 (fun r6 u7 => Q r6 ())))))
theorem ds_J4_indexOf_2 : yJ4_indexOf_2.cls = yJ4_indexOf_2.cls ∧ yJ4_indexOf_2.cls ≠ "java/lang/invoke/MethodHandle" ∧ yJ4_indexOf_2.cls ≠ "java/lang/invoke/VarHandle" ∧ (parseMethodDescriptor yJ4_indexOf_2.desc).map (fun d => d.parameters.length) = some 2 := by decide +kernel
set_option maxHeartbeats 4000000 in
theorem c_J4_indexOf_2 (l : Launch) (D : va_G) (j : Nat) (x1 : Int32) (x2 : Int32) (hj : j < 2) (Q : Int32 → (Unit) → Prop) (h : w_J4_indexOf_2 j x1 x2 Q) : Cti l D yJ4_indexOf_2 cJ4_indexOf_2 3 .int (rmk 2 0 0 87) [.ref (D.2 1003 j), .int x1, .int x2] ([]) (fun u : Unit => ([])) Q 0 0 := by
  refine Cti.of (by decide) (Nat.le_of_ble_eq_true rfl) (fun x hF hR => ?_)
  replace hF : vF x l D "java/lang/String" cJ4_indexOf_2 (rmk 2 0 0 87) 3 (some .int) := hF
  unfold w_J4_indexOf_2 at h
  refine v_aload_n 0 hF dJ4_indexOf_2_0 rfl 0 rfl ?_
  refine v_callKi (As := []) (wr := ([])) 1 hF (c_J4_isLatin1 l D j hj _ h) (((List.Perm.refl _)).trans (List.Perm.of_eq (by simp only [List.append_assoc, List.nil_append, List.append_nil]))) hj rfl q2225 q2226 q2227 q77 q2228 ds_J4_isLatin1 ⟨rfl, rfl, (Nat.le_of_ble_eq_true rfl), (Nat.le_of_ble_eq_true rfl)⟩ (Nat.le_of_ble_eq_true rfl) ⟨(Nat.le_of_ble_eq_true rfl), (Nat.le_of_ble_eq_true rfl)⟩ dJ4_indexOf_2_1 (fun r1 u2 h => ?_)
  refine v_eqw (ws1 := ([])) (by simp only [List.append_assoc, List.nil_append, List.append_nil]) ?_
  refine v_if_eq 4 23 hF dJ4_indexOf_2_4 (by decide) (fun c3 => ?_) (fun c3 => ?_)
  · replace h := h.1 c3
    exact h.elim
  · replace h := h.2 c3
    refine v_aload_n 7 hF dJ4_indexOf_2_7 rfl 0 rfl ?_
    refine v_sval 8 hF hj q1796 dJ4_indexOf_2_8 ?_
    refine v_iload_n 11 hF dJ4_indexOf_2_11 rfl 1 rfl ?_
    refine v_iload_n 12 hF dJ4_indexOf_2_12 rfl 2 rfl ?_
    refine v_aload_n 13 hF dJ4_indexOf_2_13 rfl 0 rfl ?_
    refine v_callKi (As := []) (wr := ([])) 14 hF (c_J4_length l D j hj _ h) (((List.Perm.refl _)).trans (List.Perm.of_eq (by simp only [List.append_assoc, List.nil_append, List.append_nil]))) hj rfl q2229 q1698 q1699 q77 q1700 ds_J4_length ⟨rfl, rfl, (Nat.le_of_ble_eq_true rfl), (Nat.le_of_ble_eq_true rfl)⟩ (Nat.le_of_ble_eq_true rfl) ⟨(Nat.le_of_ble_eq_true rfl), (Nat.le_of_ble_eq_true rfl)⟩ dJ4_indexOf_2_14 (fun r4 u5 h => ?_)
    refine v_eqw (ws1 := ([])) (by simp only [List.append_assoc, List.nil_append, List.append_nil]) ?_
    refine v_callSi (As := [.ref (D.2 1004 j), .int x1, .int x2, .int r4]) (wr := ([])) 17 hF (c_J23_indexOf l D j x1 x2 r4 hj _ h) (((List.Perm.refl _)).trans (List.Perm.of_eq (by simp only [List.append_assoc, List.nil_append, List.append_nil]))) q2230 q2231 q107 q2232 ds_J23_indexOf ⟨rfl, rfl, (Nat.le_of_ble_eq_true rfl), (Nat.le_of_ble_eq_true rfl)⟩ (Nat.le_of_ble_eq_true rfl) ⟨(Nat.le_of_ble_eq_true rfl), (Nat.le_of_ble_eq_true rfl)⟩ dJ4_indexOf_2_17 (fun r6 u7 h => ?_)
    refine v_eqw (ws1 := ([])) (by simp only [List.append_assoc, List.nil_append, List.append_nil]) ?_
    refine v_goto 20 36 hF dJ4_indexOf_2_20 (by decide) ?_
    exact v_iret (u := ()) 36 hF hR (Nat.le_of_ble_eq_true rfl) (Nat.le_of_ble_eq_true rfl) dJ4_indexOf_2_36 h
def w_J4_indexOf (j : Nat) (x1 : Int32) (Q : Int32 → (Unit) → Prop) : Prop :=
  w_J4_indexOf_2 j x1 ((0 : Int32)) (fun r1 u2 => Q r1 ())
theorem ds_J4_indexOf : yJ4_indexOf.cls = yJ4_indexOf.cls ∧ yJ4_indexOf.cls ≠ "java/lang/invoke/MethodHandle" ∧ yJ4_indexOf.cls ≠ "java/lang/invoke/VarHandle" ∧ (parseMethodDescriptor yJ4_indexOf.desc).map (fun d => d.parameters.length) = some 1 := by decide +kernel
set_option maxHeartbeats 4000000 in
theorem c_J4_indexOf (l : Launch) (D : va_G) (j : Nat) (x1 : Int32) (hj : j < 2) (Q : Int32 → (Unit) → Prop) (h : w_J4_indexOf j x1 Q) : Cti l D yJ4_indexOf cJ4_indexOf 2 .int (rmk 3 0 0 109) [.ref (D.2 1003 j), .int x1] ([]) (fun u : Unit => ([])) Q 0 0 := by
  refine Cti.of (by decide) (Nat.le_of_ble_eq_true rfl) (fun x hF hR => ?_)
  replace hF : vF x l D "java/lang/String" cJ4_indexOf (rmk 3 0 0 109) 2 (some .int) := hF
  unfold w_J4_indexOf at h
  refine v_aload_n 0 hF dJ4_indexOf_0 rfl 0 rfl ?_
  refine v_iload_n 1 hF dJ4_indexOf_1 rfl 1 rfl ?_
  refine v_iconst (v := 0) 2 hF dJ4_indexOf_2 (by decide) ?_
  refine v_callKi (As := [.int x1, .int ((0 : Int32))]) (wr := ([])) 3 hF (c_J4_indexOf_2 l D j x1 ((0 : Int32)) hj _ h) (((List.Perm.refl _)).trans (List.Perm.of_eq (by simp only [List.append_assoc, List.nil_append, List.append_nil]))) hj rfl q2221 q2222 q2223 q77 q2224 ds_J4_indexOf_2 ⟨rfl, rfl, (Nat.le_of_ble_eq_true rfl), (Nat.le_of_ble_eq_true rfl)⟩ (Nat.le_of_ble_eq_true rfl) ⟨(Nat.le_of_ble_eq_true rfl), (Nat.le_of_ble_eq_true rfl)⟩ dJ4_indexOf_3 (fun r1 u2 h => ?_)
  refine v_eqw (ws1 := ([])) (by simp only [List.append_assoc, List.nil_append, List.append_nil]) ?_
  exact v_iret (u := ()) 6 hF hR (Nat.le_of_ble_eq_true rfl) (Nat.le_of_ble_eq_true rfl) dJ4_indexOf_6 h
