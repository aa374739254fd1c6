set_option maxRecDepth 100000
def w_J24_checkIndex_N (x0 : Int32) (x1 : Int32) (Q : Int32 → (Unit) → Prop) : Prop :=
  ((x0 < 0 → False) ∧ (¬ x0 < 0 → ((x0 < x1 → Q x0 ()) ∧ (¬ x0 < x1 → False))))
theorem ds_J24_checkIndex : yJ24_checkIndex.cls = yJ24_checkIndex.cls ∧ yJ24_checkIndex.cls ≠ "java/lang/invoke/MethodHandle" ∧ yJ24_checkIndex.cls ≠ "java/lang/invoke/VarHandle" ∧ (parseMethodDescriptor yJ24_checkIndex.desc).map (fun d => d.parameters.length) = some 3 := by decide +kernel
set_option maxHeartbeats 4000000 in
theorem c_J24_checkIndex_N (l : Launch) (D : va_G) (x0 : Int32) (x1 : Int32) (Q : Int32 → (Unit) → Prop) (h : w_J24_checkIndex_N x0 x1 Q) : Cti l D yJ24_checkIndex cJ24_checkIndex 3 .int (rmk 0 0 0 0) [.int x0, .int x1, .null] ([]) (fun u : Unit => ([])) Q 0 0 := by
  refine Cti.of (by decide) (Nat.le_of_ble_eq_true rfl) (fun x hF hR => ?_)
  replace hF : vF x l D "jdk/internal/util/Preconditions" cJ24_checkIndex (rmk 0 0 0 0) 3 (some .int) := hF
  unfold w_J24_checkIndex_N at h
  refine v_iload_n 0 hF dJ24_checkIndex_0 rfl 0 rfl ?_
  refine v_if_lt 1 9 hF dJ24_checkIndex_1 (by decide) (fun c1 => ?_) (fun c1 => ?_)
  · replace h := h.1 c1
    refine v_aload_nN 9 hF dJ24_checkIndex_9 rfl 2 rfl ?_
    refine v_iload_n 10 hF dJ24_checkIndex_10 rfl 0 rfl ?_
    refine v_iload_n 11 hF dJ24_checkIndex_11 rfl 1 rfl ?_
    exact h.elim
  · replace h := h.2 c1
    refine v_iload_n 4 hF dJ24_checkIndex_4 rfl 0 rfl ?_
    refine v_iload_n 5 hF dJ24_checkIndex_5 rfl 1 rfl ?_
    refine v_icmp_lt 6 16 hF dJ24_checkIndex_6 (by decide) (fun c2 => ?_) (fun c2 => ?_)
    · replace h := h.1 c2
      refine v_iload_n 16 hF dJ24_checkIndex_16 rfl 0 rfl ?_
      exact v_iret (u := ()) 17 hF hR (Nat.le_of_ble_eq_true rfl) (Nat.le_of_ble_eq_true rfl) dJ24_checkIndex_17 h
    · replace h := h.2 c2
      refine v_aload_nN 9 hF dJ24_checkIndex_9 rfl 2 rfl ?_
      refine v_iload_n 10 hF dJ24_checkIndex_10 rfl 0 rfl ?_
      refine v_iload_n 11 hF dJ24_checkIndex_11 rfl 1 rfl ?_
      exact h.elim
def w_J24_checkIndex_R (x0 : Int32) (x1 : Int32) (v : Nat) (Q : Int32 → (Unit) → Prop) : Prop :=
  ((x0 < 0 → False) ∧ (¬ x0 < 0 → ((x0 < x1 → Q x0 ()) ∧ (¬ x0 < x1 → False))))
set_option maxHeartbeats 4000000 in
theorem c_J24_checkIndex_R (l : Launch) (D : va_G) (x0 : Int32) (x1 : Int32) (v : Nat) (Q : Int32 → (Unit) → Prop) (h : w_J24_checkIndex_R x0 x1 v Q) : Cti l D yJ24_checkIndex cJ24_checkIndex 3 .int (rmk 0 0 0 0) [.int x0, .int x1, .ref v] ([]) (fun u : Unit => ([])) Q 0 0 := by
  refine Cti.of (by decide) (Nat.le_of_ble_eq_true rfl) (fun x hF hR => ?_)
  replace hF : vF x l D "jdk/internal/util/Preconditions" cJ24_checkIndex (rmk 0 0 0 0) 3 (some .int) := hF
  unfold w_J24_checkIndex_R at h
  refine v_iload_n 0 hF dJ24_checkIndex_0 rfl 0 rfl ?_
  refine v_if_lt 1 9 hF dJ24_checkIndex_1 (by decide) (fun c1 => ?_) (fun c1 => ?_)
  · replace h := h.1 c1
    refine v_aload_n 9 hF dJ24_checkIndex_9 rfl 2 rfl ?_
    refine v_iload_n 10 hF dJ24_checkIndex_10 rfl 0 rfl ?_
    refine v_iload_n 11 hF dJ24_checkIndex_11 rfl 1 rfl ?_
    exact h.elim
  · replace h := h.2 c1
    refine v_iload_n 4 hF dJ24_checkIndex_4 rfl 0 rfl ?_
    refine v_iload_n 5 hF dJ24_checkIndex_5 rfl 1 rfl ?_
    refine v_icmp_lt 6 16 hF dJ24_checkIndex_6 (by decide) (fun c2 => ?_) (fun c2 => ?_)
    · replace h := h.1 c2
      refine v_iload_n 16 hF dJ24_checkIndex_16 rfl 0 rfl ?_
      exact v_iret (u := ()) 17 hF hR (Nat.le_of_ble_eq_true rfl) (Nat.le_of_ble_eq_true rfl) dJ24_checkIndex_17 h
    · replace h := h.2 c2
      refine v_aload_n 9 hF dJ24_checkIndex_9 rfl 2 rfl ?_
      refine v_iload_n 10 hF dJ24_checkIndex_10 rfl 0 rfl ?_
      refine v_iload_n 11 hF dJ24_checkIndex_11 rfl 1 rfl ?_
      exact h.elim
def w_J4_checkIndex (x0 : Int32) (x1 : Int32) (Q : (Unit) → Prop) : Prop :=
  (w_J24_checkIndex_N x0 x1 (fun r3 u4 => Q ()) ∧ (∀ t2 : Nat, w_J24_checkIndex_R x0 x1 t2 (fun r5 u6 => Q ())))
theorem ds_J4_checkIndex : yJ4_checkIndex.cls = yJ4_checkIndex.cls ∧ yJ4_checkIndex.cls ≠ "java/lang/invoke/MethodHandle" ∧ yJ4_checkIndex.cls ≠ "java/lang/invoke/VarHandle" ∧ (parseMethodDescriptor yJ4_checkIndex.desc).map (fun d => d.parameters.length) = some 2 := by decide +kernel
set_option maxHeartbeats 4000000 in
theorem c_J4_checkIndex (l : Launch) (D : va_G) (x0 : Int32) (x1 : Int32) (Q : (Unit) → Prop) (h : w_J4_checkIndex x0 x1 Q) : Ctv l D yJ4_checkIndex cJ4_checkIndex 2 (rmk 1 0 0 22) [.int x0, .int x1] ([]) (fun u : Unit => ([])) Q 0 0 := by
  refine Ctv.of (by decide) (Nat.le_of_ble_eq_true rfl) (fun x hF hR => ?_)
  replace hF : vF x l D "java/lang/String" cJ4_checkIndex (rmk 1 0 0 22) 2 none := hF
  unfold w_J4_checkIndex at h
  refine v_iload_n 0 hF dJ4_checkIndex_0 rfl 0 rfl ?_
  refine v_iload_n 1 hF dJ4_checkIndex_1 rfl 1 rfl ?_
  refine v_getsq 2 hF (fun A U H hz => hz.2.2.2.2.1) q1464 dJ4_checkIndex_2 (fun v1 hv1 => ?_)
  rcases hv1 with rfl | ⟨t2, rfl⟩
  · replace h := h.1
    refine v_callSi (As := [.int x0, .int x1, .null]) (wr := ([])) 5 hF (c_J24_checkIndex_N l D x0 x1 _ h) (((List.Perm.refl _)).trans (List.Perm.of_eq (by simp only [List.append_assoc, List.nil_append, List.append_nil]))) q1487 q1488 q108 q1489 ds_J24_checkIndex ⟨rfl, rfl, (Nat.le_of_ble_eq_true rfl), (Nat.le_of_ble_eq_true rfl)⟩ (Nat.le_of_ble_eq_true rfl) ⟨(Nat.le_of_ble_eq_true rfl), (Nat.le_of_ble_eq_true rfl)⟩ dJ4_checkIndex_5 (fun r3 u4 h => ?_)
    refine v_eqw (ws1 := ([])) (by simp only [List.append_assoc, List.nil_append, List.append_nil]) ?_
    refine v_pop 8 hF dJ4_checkIndex_8 rfl ?_
    exact v_vret (u := ()) 9 hF hR (Nat.le_of_ble_eq_true rfl) (Nat.le_of_ble_eq_true rfl) dJ4_checkIndex_9 h
  · replace h := h.2 t2
    refine v_callSi (As := [.int x0, .int x1, .ref t2]) (wr := ([])) 5 hF (c_J24_checkIndex_R l D x0 x1 t2 _ h) (((List.Perm.refl _)).trans (List.Perm.of_eq (by simp only [List.append_assoc, List.nil_append, List.append_nil]))) q1487 q1488 q108 q1489 ds_J24_checkIndex ⟨rfl, rfl, (Nat.le_of_ble_eq_true rfl), (Nat.le_of_ble_eq_true rfl)⟩ (Nat.le_of_ble_eq_true rfl) ⟨(Nat.le_of_ble_eq_true rfl), (Nat.le_of_ble_eq_true rfl)⟩ dJ4_checkIndex_5 (fun r5 u6 h => ?_)
    refine v_eqw (ws1 := ([])) (by simp only [List.append_assoc, List.nil_append, List.append_nil]) ?_
    refine v_pop 8 hF dJ4_checkIndex_8 rfl ?_
    exact v_vret (u := ()) 9 hF hR (Nat.le_of_ble_eq_true rfl) (Nat.le_of_ble_eq_true rfl) dJ4_checkIndex_9 h
def w_J23_canEncode (x0 : Int32) (Q : Int32 → (Unit) → Prop) : Prop :=
  (((255 : Int32) < x0 → Q ((0 : Int32)) ()) ∧ (¬ (255 : Int32) < x0 → Q ((1 : Int32)) ()))
theorem ds_J23_canEncode : yJ23_canEncode.cls = yJ23_canEncode.cls ∧ yJ23_canEncode.cls ≠ "java/lang/invoke/MethodHandle" ∧ yJ23_canEncode.cls ≠ "java/lang/invoke/VarHandle" ∧ (parseMethodDescriptor yJ23_canEncode.desc).map (fun d => d.parameters.length) = some 1 := by decide +kernel
set_option maxHeartbeats 4000000 in
theorem c_J23_canEncode (l : Launch) (D : va_G) (x0 : Int32) (Q : Int32 → (Unit) → Prop) (h : w_J23_canEncode x0 Q) : Cti l D yJ23_canEncode cJ23_canEncode 1 .boolean (rmk 0 0 0 0) [.int x0] ([]) (fun u : Unit => ([])) Q 0 0 := by
  refine Cti.of (by decide) (Nat.le_of_ble_eq_true rfl) (fun x hF hR => ?_)
  replace hF : vF x l D "java/lang/StringLatin1" cJ23_canEncode (rmk 0 0 0 0) 1 (some .boolean) := hF
  unfold w_J23_canEncode at h
  refine v_iload_n 0 hF dJ23_canEncode_0 rfl 0 rfl ?_
  refine v_sipush (v := 255) 1 hF dJ23_canEncode_1 (by decide) ?_
  refine v_icmp_gt 4 11 hF dJ23_canEncode_4 (by decide) (fun c1 => ?_) (fun c1 => ?_)
  · replace h := h.1 c1
    refine v_iconst (v := 0) 11 hF dJ23_canEncode_11 (by decide) ?_
    exact v_zret (u := ()) 12 hF hR (Nat.le_of_ble_eq_true rfl) (Nat.le_of_ble_eq_true rfl) rfl dJ23_canEncode_12 h
  · replace h := h.2 c1
    refine v_iconst (v := 1) 7 hF dJ23_canEncode_7 (by decide) ?_
    refine v_goto 8 12 hF dJ23_canEncode_8 (by decide) ?_
    exact v_zret (u := ()) 12 hF hR (Nat.le_of_ble_eq_true rfl) (Nat.le_of_ble_eq_true rfl) rfl dJ23_canEncode_12 h
def w_J22_newLength (x0 : Int32) (x1 : Int32) (x2 : Int32) (Q : Int32 → (Unit) → Prop) : Prop :=
  ∀ y1 : Int32, y1 = (x0 + (if x1 < x2 then x2 else x1)) → ((y1 ≤ (0 : Int32) → False) ∧ (¬ y1 ≤ (0 : Int32) → (((2147483639 : Int32) < y1 → False) ∧ (¬ (2147483639 : Int32) < y1 → Q y1 ()))))
theorem ds_J22_newLength : yJ22_newLength.cls = yJ22_newLength.cls ∧ yJ22_newLength.cls ≠ "java/lang/invoke/MethodHandle" ∧ yJ22_newLength.cls ≠ "java/lang/invoke/VarHandle" ∧ (parseMethodDescriptor yJ22_newLength.desc).map (fun d => d.parameters.length) = some 3 := by decide +kernel
set_option maxHeartbeats 4000000 in
theorem c_J22_newLength (l : Launch) (D : va_G) (x0 : Int32) (x1 : Int32) (x2 : Int32) (Q : Int32 → (Unit) → Prop) (h : w_J22_newLength x0 x1 x2 Q) : Cti l D yJ22_newLength cJ22_newLength 4 .int (rmk 1 0 0 64) [.int x0, .int x1, .int x2] ([]) (fun u : Unit => ([])) Q 0 0 := by
  refine Cti.of (by decide) (Nat.le_of_ble_eq_true rfl) (fun x hF hR => ?_)
  replace hF : vF x l D "jdk/internal/util/ArraysSupport" cJ22_newLength (rmk 1 0 0 64) 4 (some .int) := hF
  unfold w_J22_newLength at h
  refine v_iload_n 0 hF dJ22_newLength_0 rfl 0 rfl ?_
  refine v_iload_n 1 hF dJ22_newLength_1 rfl 1 rfl ?_
  refine v_iload_n 2 hF dJ22_newLength_2 rfl 2 rfl ?_
  refine v_mmax 3 hF q1421 q432 q92 q433 (Nat.le_of_ble_eq_true rfl) (Nat.le_of_ble_eq_true rfl) ⟨(Nat.le_of_ble_eq_true rfl), (Nat.le_of_ble_eq_true rfl)⟩ dJ22_newLength_3 ?_
  refine v_iadd 6 hF dJ22_newLength_6 ?_
  refine v_nm (fun y1 ey1 => ?_)
  replace h := h y1 ey1
  refine v_istore_n [(0, .int x0), (1, .int x1), (2, .int x2), (3, .int y1)] [1, 2, 3, 0] 7 hF dJ22_newLength_7 rfl (Nat.le_of_ble_eq_true rfl) rfl ?_
  refine v_iconst (v := 0) 8 hF dJ22_newLength_8 (by decide) ?_
  refine v_iload_n 9 hF dJ22_newLength_9 rfl 3 rfl ?_
  refine v_icmp_ge 10 21 hF dJ22_newLength_10 (by decide) (fun c2 => ?_) (fun c2 => ?_)
  · replace h := h.1 c2
    exact h.elim
  · replace h := h.2 c2
    refine v_iload_n 13 hF dJ22_newLength_13 rfl 3 rfl ?_
    refine v_ldc 14 hF dJ22_newLength_14 q1422 ?_
    refine v_icmp_gt 16 21 hF dJ22_newLength_16 (by decide) (fun c3 => ?_) (fun c3 => ?_)
    · replace h := h.1 c3
      exact h.elim
    · replace h := h.2 c3
      refine v_iload_n 19 hF dJ22_newLength_19 rfl 3 rfl ?_
      exact v_iret (u := ()) 20 hF hR (Nat.le_of_ble_eq_true rfl) (Nat.le_of_ble_eq_true rfl) dJ22_newLength_20 h
def w_J5_newBytesLength (x0 : Int32) (Q : Int32 → (Unit) → Prop) : Prop :=
  ((0 ≤ x0 → ((x0 < (1073741823 : Int32) → Q ((x0 <<< ((1 : Int32) &&& 31))) ()) ∧ (¬ x0 < (1073741823 : Int32) → False))) ∧ (¬ 0 ≤ x0 → False))
theorem ds_J5_newBytesLength : yJ5_newBytesLength.cls = yJ5_newBytesLength.cls ∧ yJ5_newBytesLength.cls ≠ "java/lang/invoke/MethodHandle" ∧ yJ5_newBytesLength.cls ≠ "java/lang/invoke/VarHandle" ∧ (parseMethodDescriptor yJ5_newBytesLength.desc).map (fun d => d.parameters.length) = some 1 := by decide +kernel
set_option maxHeartbeats 4000000 in
theorem c_J5_newBytesLength (l : Launch) (D : va_G) (x0 : Int32) (Q : Int32 → (Unit) → Prop) (h : w_J5_newBytesLength x0 Q) : Cti l D yJ5_newBytesLength cJ5_newBytesLength 1 .int (rmk 0 0 0 0) [.int x0] ([]) (fun u : Unit => ([])) Q 0 0 := by
  refine Cti.of (by decide) (Nat.le_of_ble_eq_true rfl) (fun x hF hR => ?_)
  replace hF : vF x l D "java/lang/StringUTF16" cJ5_newBytesLength (rmk 0 0 0 0) 1 (some .int) := hF
  unfold w_J5_newBytesLength at h
  refine v_iload_n 0 hF dJ5_newBytesLength_0 rfl 0 rfl ?_
  refine v_if_ge 1 12 hF dJ5_newBytesLength_1 (by decide) (fun c1 => ?_) (fun c1 => ?_)
  · replace h := h.1 c1
    refine v_iload_n 12 hF dJ5_newBytesLength_12 rfl 0 rfl ?_
    refine v_ldc 13 hF dJ5_newBytesLength_13 q308 ?_
    refine v_icmp_lt 15 55 hF dJ5_newBytesLength_15 (by decide) (fun c2 => ?_) (fun c2 => ?_)
    · replace h := h.1 c2
      refine v_iload_n 55 hF dJ5_newBytesLength_55 rfl 0 rfl ?_
      refine v_iconst (v := 1) 56 hF dJ5_newBytesLength_56 (by decide) ?_
      refine v_ishl 57 hF dJ5_newBytesLength_57 ?_
      exact v_iret (u := ()) 58 hF hR (Nat.le_of_ble_eq_true rfl) (Nat.le_of_ble_eq_true rfl) dJ5_newBytesLength_58 h
    · replace h := h.2 c2
      exact h.elim
  · replace h := h.2 c1
    exact h.elim
def w_J5_newBytesFor (x0 : Int32) (Q : (Nat × Nat) → Prop) : Prop :=
  w_J5_newBytesLength x0 (fun r1 u2 => ¬ r1 < 0 ∧ r1.toNatClampNeg ≤ 200 ∧ ∀ q5 : Nat, Q ((q5, (r1.toNatClampNeg))))
theorem ds_J5_newBytesFor : yJ5_newBytesFor.cls = yJ5_newBytesFor.cls ∧ yJ5_newBytesFor.cls ≠ "java/lang/invoke/MethodHandle" ∧ yJ5_newBytesFor.cls ≠ "java/lang/invoke/VarHandle" ∧ (parseMethodDescriptor yJ5_newBytesFor.desc).map (fun d => d.parameters.length) = some 1 := by decide +kernel
set_option maxHeartbeats 4000000 in
theorem c_J5_newBytesFor (l : Launch) (D : va_G) (x0 : Int32) (Q : (Nat × Nat) → Prop) (h : w_J5_newBytesFor x0 Q) : Ctr l D yJ5_newBytesFor cJ5_newBytesFor 1 (.array .byte) (rmk 1 1 200 20) [.int x0] ([]) (fun u : Nat × Nat => ([(u.1, .inl (dB_ D, u.2, .inl (fun _ => 0)))] ++ [])) (fun u : Nat × Nat => u.1) Q 1 200 := by
  refine Ctr.of (by decide) (Nat.le_of_ble_eq_true rfl) (fun x hF hR => ?_)
  replace hF : vF x l D "java/lang/StringUTF16" cJ5_newBytesFor (rmk 1 1 200 20) 1 (some (.array .byte)) := hF
  unfold w_J5_newBytesFor at h
  refine v_iload_n 0 hF dJ5_newBytesFor_0 rfl 0 rfl ?_
  refine v_callSi (As := [.int x0]) (wr := ([])) 1 hF (c_J5_newBytesLength l D x0 _ h) (((List.Perm.refl _)).trans (List.Perm.of_eq (by simp only [List.append_assoc, List.nil_append, List.append_nil]))) q305 q306 q78 q307 ds_J5_newBytesLength ⟨rfl, rfl, (Nat.le_of_ble_eq_true rfl), (Nat.le_of_ble_eq_true rfl)⟩ (Nat.le_of_ble_eq_true rfl) ⟨(Nat.le_of_ble_eq_true rfl), (Nat.le_of_ble_eq_true rfl)⟩ dJ5_newBytesFor_1 (fun r1 u2 h => ?_)
  refine v_eqw (ws1 := ([])) (by simp only [List.append_assoc, List.nil_append, List.append_nil]) ?_
  obtain ⟨o3, o4, h⟩ := h
  refine v_newabM 200 4 hF q323 o3 o4 (Nat.le_of_ble_eq_true rfl) ⟨(Nat.le_of_ble_eq_true rfl), (Nat.le_of_ble_eq_true rfl)⟩ dJ5_newBytesFor_4 (fun q5 => ?_)
  replace h := h q5
  refine v_eqw (ws1 := ([(q5, .inl (dB_ D, (r1.toNatClampNeg), .inl (fun _ => 0)))] ++ [])) (by simp only [List.append_assoc, List.nil_append, List.append_nil]) ?_
  exact v_aret (u := (q5, (r1.toNatClampNeg))) 6 hF (Or.inr ⟨_, rfl⟩) hR (Nat.le_of_ble_eq_true rfl) (Nat.le_of_ble_eq_true rfl) dJ5_newBytesFor_6 rfl h
def w_J5_length (y : Nat) (n : Nat) (f : Nat → Int32) (Q : Int32 → (Unit) → Prop) : Prop :=
  Q (((Int32.ofNat n) >>> ((1 : Int32) &&& 31))) ()
theorem ds_J5_length : yJ5_length.cls = yJ5_length.cls ∧ yJ5_length.cls ≠ "java/lang/invoke/MethodHandle" ∧ yJ5_length.cls ≠ "java/lang/invoke/VarHandle" ∧ (parseMethodDescriptor yJ5_length.desc).map (fun d => d.parameters.length) = some 1 := by decide +kernel
set_option maxHeartbeats 4000000 in
theorem c_J5_length (l : Launch) (D : va_G) (y : Nat) (n : Nat) (f : Nat → Int32) (Q : Int32 → (Unit) → Prop) (h : w_J5_length y n f Q) : Cti l D yJ5_length cJ5_length 1 .int (rmk 0 0 0 0) [.ref y] ([(y, .inl (dB_ D, n, .inl f))] ++ []) (fun u : Unit => ([(y, .inl (dB_ D, n, .inl f))] ++ [])) Q 0 0 := by
  refine Cti.of (by decide) (Nat.le_of_ble_eq_true rfl) (fun x hF hR => ?_)
  replace hF : vF x l D "java/lang/StringUTF16" cJ5_length (rmk 0 0 0 0) 1 (some .int) := hF
  unfold w_J5_length at h
  refine v_aload_n 0 hF dJ5_length_0 rfl 0 rfl ?_
  refine v_alen (v := Int32.ofNat n) 1 hF 0 4 rfl rfl rfl dJ5_length_1 ?_
  refine v_iconst (v := 1) 2 hF dJ5_length_2 (by decide) ?_
  refine v_ishr 3 hF dJ5_length_3 ?_
  exact v_iret (u := ()) 4 hF hR (Nat.le_of_ble_eq_true rfl) (Nat.le_of_ble_eq_true rfl) dJ5_length_4 h
def w_J5_checkIndex (y : Nat) (n : Nat) (f : Nat → Int32) (x0 : Int32) (Q : (Unit) → Prop) : Prop :=
  w_J5_length y n f (fun r1 u2 => w_J4_checkIndex x0 r1 (fun u3 => Q ()))
theorem ds_J5_checkIndex : yJ5_checkIndex.cls = yJ5_checkIndex.cls ∧ yJ5_checkIndex.cls ≠ "java/lang/invoke/MethodHandle" ∧ yJ5_checkIndex.cls ≠ "java/lang/invoke/VarHandle" ∧ (parseMethodDescriptor yJ5_checkIndex.desc).map (fun d => d.parameters.length) = some 2 := by decide +kernel
set_option maxHeartbeats 4000000 in
theorem c_J5_checkIndex (l : Launch) (D : va_G) (y : Nat) (n : Nat) (f : Nat → Int32) (x0 : Int32) (Q : (Unit) → Prop) (h : w_J5_checkIndex y n f x0 Q) : Ctv l D yJ5_checkIndex cJ5_checkIndex 2 (rmk 2 0 0 43) [.int x0, .ref y] ([(y, .inl (dB_ D, n, .inl f))] ++ []) (fun u : Unit => ([(y, .inl (dB_ D, n, .inl f))] ++ [])) Q 0 0 := by
  refine Ctv.of (by decide) (Nat.le_of_ble_eq_true rfl) (fun x hF hR => ?_)
  replace hF : vF x l D "java/lang/StringUTF16" cJ5_checkIndex (rmk 2 0 0 43) 2 none := hF
  unfold w_J5_checkIndex at h
  refine v_iload_n 0 hF dJ5_checkIndex_0 rfl 0 rfl ?_
  refine v_aload_n 1 hF dJ5_checkIndex_1 rfl 1 rfl ?_
  refine v_callSi (As := [.ref y]) (wr := ([])) 2 hF (c_J5_length l D y n f _ h) (((List.Perm.refl _)).trans (List.Perm.of_eq (by simp only [List.append_assoc, List.nil_append, List.append_nil]))) q1458 q1459 q78 q1460 ds_J5_length ⟨rfl, rfl, (Nat.le_of_ble_eq_true rfl), (Nat.le_of_ble_eq_true rfl)⟩ (Nat.le_of_ble_eq_true rfl) ⟨(Nat.le_of_ble_eq_true rfl), (Nat.le_of_ble_eq_true rfl)⟩ dJ5_checkIndex_2 (fun r1 u2 h => ?_)
  refine v_eqw (ws1 := ([(y, .inl (dB_ D, n, .inl f))] ++ [])) (by simp only [List.append_assoc, List.nil_append, List.append_nil]) ?_
  refine v_callSv (As := [.int x0, .int r1]) (wr := ([(y, .inl (dB_ D, n, .inl f))] ++ [])) 5 hF (c_J4_checkIndex l D x0 r1 _ h) (((List.Perm.refl _)).trans (List.Perm.of_eq (by simp only [List.append_assoc, List.nil_append, List.append_nil]))) q1484 q1485 q77 q1486 ds_J4_checkIndex ⟨rfl, rfl, (Nat.le_of_ble_eq_true rfl), (Nat.le_of_ble_eq_true rfl)⟩ (Nat.le_of_ble_eq_true rfl) ⟨(Nat.le_of_ble_eq_true rfl), (Nat.le_of_ble_eq_true rfl)⟩ dJ5_checkIndex_5 (fun u3 h => ?_)
  refine v_eqw (ws1 := ([(y, .inl (dB_ D, n, .inl f))] ++ [])) (by simp only [List.append_assoc, List.nil_append, List.append_nil]) ?_
  exact v_vret (u := ()) 8 hF hR (Nat.le_of_ble_eq_true rfl) (Nat.le_of_ble_eq_true rfl) dJ5_checkIndex_8 h
def w_J5_putChar (y : Nat) (n : Nat) (f : Nat → Int32) (x1 : Int32) (x2 : Int32) (Q : ((Nat → Int32)) → Prop) : Prop :=
  ((¬ (1 : Int32) = 0 → ∀ y2 : Int32, y2 = (x1 <<< ((1 : Int32) &&& 31)) → ∀ y3 : Int32, y3 = y2 + (1 : Int32) → ∀ y4 : Int32, y4 = ((x2 >>> ((0 : Int32) &&& 31))).toInt8.toInt32 → vp_in y2 n ∧ ∀ f6 : Nat → Int32, f6 = upd f y2.toNatClampNeg (vp_nar .byte y4) → ∀ y7 : Int32, y7 = ((x2 >>> ((8 : Int32) &&& 31))).toInt8.toInt32 → vp_in y3 n ∧ ∀ f9 : Nat → Int32, f9 = upd f6 y3.toNatClampNeg (vp_nar .byte y7) → Q f9) ∧ ((1 : Int32) = 0 → ((x1 < 0 → False) ∧ (¬ x1 < 0 → w_J5_length y n f (fun r11 u12 => ((x1 < r11 → ∀ y14 : Int32, y14 = (x1 <<< ((1 : Int32) &&& 31)) → ∀ y15 : Int32, y15 = y14 + (1 : Int32) → ∀ y16 : Int32, y16 = ((x2 >>> ((0 : Int32) &&& 31))).toInt8.toInt32 → vp_in y14 n ∧ ∀ f18 : Nat → Int32, f18 = upd f y14.toNatClampNeg (vp_nar .byte y16) → ∀ y19 : Int32, y19 = ((x2 >>> ((8 : Int32) &&& 31))).toInt8.toInt32 → vp_in y15 n ∧ ∀ f21 : Nat → Int32, f21 = upd f18 y15.toNatClampNeg (vp_nar .byte y19) → Q f21) ∧ (¬ x1 < r11 → False)))))))
theorem ds_J5_putChar : yJ5_putChar.cls = yJ5_putChar.cls ∧ yJ5_putChar.cls ≠ "java/lang/invoke/MethodHandle" ∧ yJ5_putChar.cls ≠ "java/lang/invoke/VarHandle" ∧ (parseMethodDescriptor yJ5_putChar.desc).map (fun d => d.parameters.length) = some 3 := by decide +kernel
set_option maxHeartbeats 4000000 in
theorem c_J5_putChar (l : Launch) (D : va_G) (y : Nat) (n : Nat) (f : Nat → Int32) (x1 : Int32) (x2 : Int32) (Q : ((Nat → Int32)) → Prop) (h : w_J5_putChar y n f x1 x2 Q) : Ctv l D yJ5_putChar cJ5_putChar 3 (rmk 1 0 0 20) [.ref y, .int x1, .int x2] ([(y, .inl (dB_ D, n, .inl f))] ++ []) (fun u : (Nat → Int32) => ([(y, .inl (dB_ D, n, .inl u))] ++ [])) Q 0 0 := by
  refine Ctv.of (by decide) (Nat.le_of_ble_eq_true rfl) (fun x hF hR => ?_)
  replace hF : vF x l D "java/lang/StringUTF16" cJ5_putChar (rmk 1 0 0 20) 3 none := hF
  unfold w_J5_putChar at h
  refine v_gets (v := .int 1) 0 hF (fun A U H hz => hz.2.1.2.1) q1472 dJ5_putChar_0 ?_
  refine v_if_ne 3 28 hF dJ5_putChar_3 (by decide) (fun c1 => ?_) (fun c1 => ?_)
  · replace h := h.1 c1
    refine v_iload_n 28 hF dJ5_putChar_28 rfl 1 rfl ?_
    refine v_iconst (v := 1) 29 hF dJ5_putChar_29 (by decide) ?_
    refine v_ishl 30 hF dJ5_putChar_30 ?_
    refine v_nm (fun y2 ey2 => ?_)
    replace h := h y2 ey2
    refine v_istore_n [(0, .ref y), (1, .int y2), (2, .int x2)] [1, 0, 2] 31 hF dJ5_putChar_31 rfl (Nat.le_of_ble_eq_true rfl) rfl ?_
    refine v_aload_n 32 hF dJ5_putChar_32 rfl 0 rfl ?_
    refine v_iload_n 33 hF dJ5_putChar_33 rfl 1 rfl ?_
    obtain ⟨y3, ey3⟩ : ∃ y : Int32, y = y2 + (1 : Int32) := ⟨_, rfl⟩
    replace h := h y3 ey3
    refine v_iinc [(0, .ref y), (1, .int y3), (2, .int x2)] [1, 0, 2] 34 hF dJ5_putChar_34 1 rfl (by rw [ey3]; rfl) (Nat.le_of_ble_eq_true rfl) rfl ?_
    refine v_iload_n 37 hF dJ5_putChar_37 rfl 2 rfl ?_
    refine v_gets (v := .int 0) 38 hF (fun A U H hz => hz.2.1.2.2.1) q1474 dJ5_putChar_38 ?_
    refine v_ishr 41 hF dJ5_putChar_41 ?_
    refine v_i2b 42 hF dJ5_putChar_42 ?_
    refine v_nm (fun y4 ey4 => ?_)
    replace h := h y4 ey4
    obtain ⟨o5, h⟩ := h
    obtain ⟨f6, ef6⟩ : ∃ z : Nat → Int32, z = upd f y2.toNatClampNeg (vp_nar .byte y4) := ⟨_, rfl⟩
    replace h := h f6 ef6
    refine v_bast ([(y, .inl (dB_ D, n, .inl f6))] ++ []) 43 hF 0 rfl o5 (by rw [ef6]; rfl) dJ5_putChar_43 ?_
    refine v_aload_n 44 hF dJ5_putChar_44 rfl 0 rfl ?_
    refine v_iload_n 45 hF dJ5_putChar_45 rfl 1 rfl ?_
    refine v_iload_n 46 hF dJ5_putChar_46 rfl 2 rfl ?_
    refine v_gets (v := .int 8) 47 hF (fun A U H hz => hz.2.1.2.2.2) q1476 dJ5_putChar_47 ?_
    refine v_ishr 50 hF dJ5_putChar_50 ?_
    refine v_i2b 51 hF dJ5_putChar_51 ?_
    refine v_nm (fun y7 ey7 => ?_)
    replace h := h y7 ey7
    obtain ⟨o8, h⟩ := h
    obtain ⟨f9, ef9⟩ : ∃ z : Nat → Int32, z = upd f6 y3.toNatClampNeg (vp_nar .byte y7) := ⟨_, rfl⟩
    replace h := h f9 ef9
    refine v_bast ([(y, .inl (dB_ D, n, .inl f9))] ++ []) 52 hF 0 rfl o8 (by rw [ef9]; rfl) dJ5_putChar_52 ?_
    exact v_vret (u := f9) 53 hF hR (Nat.le_of_ble_eq_true rfl) (Nat.le_of_ble_eq_true rfl) dJ5_putChar_53 h
  · replace h := h.2 c1
    refine v_iload_n 6 hF dJ5_putChar_6 rfl 1 rfl ?_
    refine v_if_lt 7 18 hF dJ5_putChar_7 (by decide) (fun c10 => ?_) (fun c10 => ?_)
    · replace h := h.1 c10
      exact h.elim
    · replace h := h.2 c10
      refine v_iload_n 10 hF dJ5_putChar_10 rfl 1 rfl ?_
      refine v_aload_n 11 hF dJ5_putChar_11 rfl 0 rfl ?_
      refine v_callSi (As := [.ref y]) (wr := ([])) 12 hF (c_J5_length l D y n f _ h) (((List.Perm.refl _)).trans (List.Perm.of_eq (by simp only [List.append_assoc, List.nil_append, List.append_nil]))) q1458 q1459 q78 q1460 ds_J5_length ⟨rfl, rfl, (Nat.le_of_ble_eq_true rfl), (Nat.le_of_ble_eq_true rfl)⟩ (Nat.le_of_ble_eq_true rfl) ⟨(Nat.le_of_ble_eq_true rfl), (Nat.le_of_ble_eq_true rfl)⟩ dJ5_putChar_12 (fun r11 u12 h => ?_)
      refine v_eqw (ws1 := ([(y, .inl (dB_ D, n, .inl f))] ++ [])) (by simp only [List.append_assoc, List.nil_append, List.append_nil]) ?_
      refine v_icmp_lt 15 28 hF dJ5_putChar_15 (by decide) (fun c13 => ?_) (fun c13 => ?_)
      · replace h := h.1 c13
        refine v_iload_n 28 hF dJ5_putChar_28 rfl 1 rfl ?_
        refine v_iconst (v := 1) 29 hF dJ5_putChar_29 (by decide) ?_
        refine v_ishl 30 hF dJ5_putChar_30 ?_
        refine v_nm (fun y14 ey14 => ?_)
        replace h := h y14 ey14
        refine v_istore_n [(0, .ref y), (1, .int y14), (2, .int x2)] [1, 0, 2] 31 hF dJ5_putChar_31 rfl (Nat.le_of_ble_eq_true rfl) rfl ?_
        refine v_aload_n 32 hF dJ5_putChar_32 rfl 0 rfl ?_
        refine v_iload_n 33 hF dJ5_putChar_33 rfl 1 rfl ?_
        obtain ⟨y15, ey15⟩ : ∃ y : Int32, y = y14 + (1 : Int32) := ⟨_, rfl⟩
        replace h := h y15 ey15
        refine v_iinc [(0, .ref y), (1, .int y15), (2, .int x2)] [1, 0, 2] 34 hF dJ5_putChar_34 1 rfl (by rw [ey15]; rfl) (Nat.le_of_ble_eq_true rfl) rfl ?_
        refine v_iload_n 37 hF dJ5_putChar_37 rfl 2 rfl ?_
        refine v_gets (v := .int 0) 38 hF (fun A U H hz => hz.2.1.2.2.1) q1474 dJ5_putChar_38 ?_
        refine v_ishr 41 hF dJ5_putChar_41 ?_
        refine v_i2b 42 hF dJ5_putChar_42 ?_
        refine v_nm (fun y16 ey16 => ?_)
        replace h := h y16 ey16
        obtain ⟨o17, h⟩ := h
        obtain ⟨f18, ef18⟩ : ∃ z : Nat → Int32, z = upd f y14.toNatClampNeg (vp_nar .byte y16) := ⟨_, rfl⟩
        replace h := h f18 ef18
        refine v_bast ([(y, .inl (dB_ D, n, .inl f18))] ++ []) 43 hF 0 rfl o17 (by rw [ef18]; rfl) dJ5_putChar_43 ?_
        refine v_aload_n 44 hF dJ5_putChar_44 rfl 0 rfl ?_
        refine v_iload_n 45 hF dJ5_putChar_45 rfl 1 rfl ?_
        refine v_iload_n 46 hF dJ5_putChar_46 rfl 2 rfl ?_
        refine v_gets (v := .int 8) 47 hF (fun A U H hz => hz.2.1.2.2.2) q1476 dJ5_putChar_47 ?_
        refine v_ishr 50 hF dJ5_putChar_50 ?_
        refine v_i2b 51 hF dJ5_putChar_51 ?_
        refine v_nm (fun y19 ey19 => ?_)
        replace h := h y19 ey19
        obtain ⟨o20, h⟩ := h
        obtain ⟨f21, ef21⟩ : ∃ z : Nat → Int32, z = upd f18 y15.toNatClampNeg (vp_nar .byte y19) := ⟨_, rfl⟩
        replace h := h f21 ef21
        refine v_bast ([(y, .inl (dB_ D, n, .inl f21))] ++ []) 52 hF 0 rfl o20 (by rw [ef21]; rfl) dJ5_putChar_52 ?_
        exact v_vret (u := f21) 53 hF hR (Nat.le_of_ble_eq_true rfl) (Nat.le_of_ble_eq_true rfl) dJ5_putChar_53 h
      · replace h := h.2 c13
        exact h.elim
def w_J5_getChar (y : Nat) (n : Nat) (f : Nat → Int32) (x1 : Int32) (Q : Int32 → (Unit) → Prop) : Prop :=
  ((¬ (1 : Int32) = 0 → ∀ y2 : Int32, y2 = (x1 <<< ((1 : Int32) &&& 31)) → ∀ y3 : Int32, y3 = y2 + (1 : Int32) → vp_in y2 n ∧ vp_in y3 n ∧ narrow .char (.int (((((((f y2.toNatClampNeg) &&& (255 : Int32)) <<< ((0 : Int32) &&& 31)) ||| (((f y3.toNatClampNeg) &&& (255 : Int32)) <<< ((8 : Int32) &&& 31)))).toUInt32 % 65536).toInt32)) = .int (((((((f y2.toNatClampNeg) &&& (255 : Int32)) <<< ((0 : Int32) &&& 31)) ||| (((f y3.toNatClampNeg) &&& (255 : Int32)) <<< ((8 : Int32) &&& 31)))).toUInt32 % 65536).toInt32) ∧ Q (((((((f y2.toNatClampNeg) &&& (255 : Int32)) <<< ((0 : Int32) &&& 31)) ||| (((f y3.toNatClampNeg) &&& (255 : Int32)) <<< ((8 : Int32) &&& 31)))).toUInt32 % 65536).toInt32) ()) ∧ ((1 : Int32) = 0 → ((x1 < 0 → False) ∧ (¬ x1 < 0 → w_J5_length y n f (fun r8 u9 => ((x1 < r8 → ∀ y11 : Int32, y11 = (x1 <<< ((1 : Int32) &&& 31)) → ∀ y12 : Int32, y12 = y11 + (1 : Int32) → vp_in y11 n ∧ vp_in y12 n ∧ narrow .char (.int (((((((f y11.toNatClampNeg) &&& (255 : Int32)) <<< ((0 : Int32) &&& 31)) ||| (((f y12.toNatClampNeg) &&& (255 : Int32)) <<< ((8 : Int32) &&& 31)))).toUInt32 % 65536).toInt32)) = .int (((((((f y11.toNatClampNeg) &&& (255 : Int32)) <<< ((0 : Int32) &&& 31)) ||| (((f y12.toNatClampNeg) &&& (255 : Int32)) <<< ((8 : Int32) &&& 31)))).toUInt32 % 65536).toInt32) ∧ Q (((((((f y11.toNatClampNeg) &&& (255 : Int32)) <<< ((0 : Int32) &&& 31)) ||| (((f y12.toNatClampNeg) &&& (255 : Int32)) <<< ((8 : Int32) &&& 31)))).toUInt32 % 65536).toInt32) ()) ∧ (¬ x1 < r8 → False)))))))
theorem ds_J5_getChar : yJ5_getChar.cls = yJ5_getChar.cls ∧ yJ5_getChar.cls ≠ "java/lang/invoke/MethodHandle" ∧ yJ5_getChar.cls ≠ "java/lang/invoke/VarHandle" ∧ (parseMethodDescriptor yJ5_getChar.desc).map (fun d => d.parameters.length) = some 2 := by decide +kernel
set_option maxHeartbeats 4000000 in
theorem c_J5_getChar (l : Launch) (D : va_G) (y : Nat) (n : Nat) (f : Nat → Int32) (x1 : Int32) (Q : Int32 → (Unit) → Prop) (h : w_J5_getChar y n f x1 Q) : Cti l D yJ5_getChar cJ5_getChar 2 .char (rmk 1 0 0 20) [.ref y, .int x1] ([(y, .inl (dB_ D, n, .inl f))] ++ []) (fun u : Unit => ([(y, .inl (dB_ D, n, .inl f))] ++ [])) Q 0 0 := by
  refine Cti.of (by decide) (Nat.le_of_ble_eq_true rfl) (fun x hF hR => ?_)
  replace hF : vF x l D "java/lang/StringUTF16" cJ5_getChar (rmk 1 0 0 20) 2 (some .char) := hF
  unfold w_J5_getChar at h
  refine v_gets (v := .int 1) 0 hF (fun A U H hz => hz.2.1.2.1) q1472 dJ5_getChar_0 ?_
  refine v_if_ne 3 28 hF dJ5_getChar_3 (by decide) (fun c1 => ?_) (fun c1 => ?_)
  · replace h := h.1 c1
    refine v_iload_n 28 hF dJ5_getChar_28 rfl 1 rfl ?_
    refine v_iconst (v := 1) 29 hF dJ5_getChar_29 (by decide) ?_
    refine v_ishl 30 hF dJ5_getChar_30 ?_
    refine v_nm (fun y2 ey2 => ?_)
    replace h := h y2 ey2
    refine v_istore_n [(0, .ref y), (1, .int y2)] [1, 0] 31 hF dJ5_getChar_31 rfl (Nat.le_of_ble_eq_true rfl) rfl ?_
    refine v_aload_n 32 hF dJ5_getChar_32 rfl 0 rfl ?_
    refine v_iload_n 33 hF dJ5_getChar_33 rfl 1 rfl ?_
    obtain ⟨y3, ey3⟩ : ∃ y : Int32, y = y2 + (1 : Int32) := ⟨_, rfl⟩
    replace h := h y3 ey3
    refine v_iinc [(0, .ref y), (1, .int y3)] [1, 0] 34 hF dJ5_getChar_34 1 rfl (by rw [ey3]; rfl) (Nat.le_of_ble_eq_true rfl) rfl ?_
    obtain ⟨o4, h⟩ := h
    refine v_bald 37 hF 0 rfl o4 dJ5_getChar_37 ?_
    refine v_sipush (v := 255) 38 hF dJ5_getChar_38 (by decide) ?_
    refine v_iand 41 hF dJ5_getChar_41 ?_
    refine v_gets (v := .int 0) 42 hF (fun A U H hz => hz.2.1.2.2.1) q1474 dJ5_getChar_42 ?_
    refine v_ishl 45 hF dJ5_getChar_45 ?_
    refine v_aload_n 46 hF dJ5_getChar_46 rfl 0 rfl ?_
    refine v_iload_n 47 hF dJ5_getChar_47 rfl 1 rfl ?_
    obtain ⟨o5, h⟩ := h
    refine v_bald 48 hF 0 rfl o5 dJ5_getChar_48 ?_
    refine v_sipush (v := 255) 49 hF dJ5_getChar_49 (by decide) ?_
    refine v_iand 52 hF dJ5_getChar_52 ?_
    refine v_gets (v := .int 8) 53 hF (fun A U H hz => hz.2.1.2.2.2) q1476 dJ5_getChar_53 ?_
    refine v_ishl 56 hF dJ5_getChar_56 ?_
    refine v_ior 57 hF dJ5_getChar_57 ?_
    refine v_i2c 58 hF dJ5_getChar_58 ?_
    obtain ⟨o6, h⟩ := h
    exact v_zret (u := ()) 59 hF hR (Nat.le_of_ble_eq_true rfl) (Nat.le_of_ble_eq_true rfl) o6 dJ5_getChar_59 h
  · replace h := h.2 c1
    refine v_iload_n 6 hF dJ5_getChar_6 rfl 1 rfl ?_
    refine v_if_lt 7 18 hF dJ5_getChar_7 (by decide) (fun c7 => ?_) (fun c7 => ?_)
    · replace h := h.1 c7
      exact h.elim
    · replace h := h.2 c7
      refine v_iload_n 10 hF dJ5_getChar_10 rfl 1 rfl ?_
      refine v_aload_n 11 hF dJ5_getChar_11 rfl 0 rfl ?_
      refine v_callSi (As := [.ref y]) (wr := ([])) 12 hF (c_J5_length l D y n f _ h) (((List.Perm.refl _)).trans (List.Perm.of_eq (by simp only [List.append_assoc, List.nil_append, List.append_nil]))) q1458 q1459 q78 q1460 ds_J5_length ⟨rfl, rfl, (Nat.le_of_ble_eq_true rfl), (Nat.le_of_ble_eq_true rfl)⟩ (Nat.le_of_ble_eq_true rfl) ⟨(Nat.le_of_ble_eq_true rfl), (Nat.le_of_ble_eq_true rfl)⟩ dJ5_getChar_12 (fun r8 u9 h => ?_)
      refine v_eqw (ws1 := ([(y, .inl (dB_ D, n, .inl f))] ++ [])) (by simp only [List.append_assoc, List.nil_append, List.append_nil]) ?_
      refine v_icmp_lt 15 28 hF dJ5_getChar_15 (by decide) (fun c10 => ?_) (fun c10 => ?_)
      · replace h := h.1 c10
        refine v_iload_n 28 hF dJ5_getChar_28 rfl 1 rfl ?_
        refine v_iconst (v := 1) 29 hF dJ5_getChar_29 (by decide) ?_
        refine v_ishl 30 hF dJ5_getChar_30 ?_
        refine v_nm (fun y11 ey11 => ?_)
        replace h := h y11 ey11
        refine v_istore_n [(0, .ref y), (1, .int y11)] [1, 0] 31 hF dJ5_getChar_31 rfl (Nat.le_of_ble_eq_true rfl) rfl ?_
        refine v_aload_n 32 hF dJ5_getChar_32 rfl 0 rfl ?_
        refine v_iload_n 33 hF dJ5_getChar_33 rfl 1 rfl ?_
        obtain ⟨y12, ey12⟩ : ∃ y : Int32, y = y11 + (1 : Int32) := ⟨_, rfl⟩
        replace h := h y12 ey12
        refine v_iinc [(0, .ref y), (1, .int y12)] [1, 0] 34 hF dJ5_getChar_34 1 rfl (by rw [ey12]; rfl) (Nat.le_of_ble_eq_true rfl) rfl ?_
        obtain ⟨o13, h⟩ := h
        refine v_bald 37 hF 0 rfl o13 dJ5_getChar_37 ?_
        refine v_sipush (v := 255) 38 hF dJ5_getChar_38 (by decide) ?_
        refine v_iand 41 hF dJ5_getChar_41 ?_
        refine v_gets (v := .int 0) 42 hF (fun A U H hz => hz.2.1.2.2.1) q1474 dJ5_getChar_42 ?_
        refine v_ishl 45 hF dJ5_getChar_45 ?_
        refine v_aload_n 46 hF dJ5_getChar_46 rfl 0 rfl ?_
        refine v_iload_n 47 hF dJ5_getChar_47 rfl 1 rfl ?_
        obtain ⟨o14, h⟩ := h
        refine v_bald 48 hF 0 rfl o14 dJ5_getChar_48 ?_
        refine v_sipush (v := 255) 49 hF dJ5_getChar_49 (by decide) ?_
        refine v_iand 52 hF dJ5_getChar_52 ?_
        refine v_gets (v := .int 8) 53 hF (fun A U H hz => hz.2.1.2.2.2) q1476 dJ5_getChar_53 ?_
        refine v_ishl 56 hF dJ5_getChar_56 ?_
        refine v_ior 57 hF dJ5_getChar_57 ?_
        refine v_i2c 58 hF dJ5_getChar_58 ?_
        obtain ⟨o15, h⟩ := h
        exact v_zret (u := ()) 59 hF hR (Nat.le_of_ble_eq_true rfl) (Nat.le_of_ble_eq_true rfl) o15 dJ5_getChar_59 h
      · replace h := h.2 c10
        exact h.elim
def w_J5_putCharSB (y : Nat) (n : Nat) (f : Nat → Int32) (x1 : Int32) (x2 : Int32) (Q : ((Nat → Int32)) → Prop) : Prop :=
  w_J5_checkIndex y n f x1 (fun u1 => w_J5_putChar y n f x1 x2 (fun u2 => Q u2))
theorem ds_J5_putCharSB : yJ5_putCharSB.cls = yJ5_putCharSB.cls ∧ yJ5_putCharSB.cls ≠ "java/lang/invoke/MethodHandle" ∧ yJ5_putCharSB.cls ≠ "java/lang/invoke/VarHandle" ∧ (parseMethodDescriptor yJ5_putCharSB.desc).map (fun d => d.parameters.length) = some 3 := by decide +kernel
set_option maxHeartbeats 4000000 in
theorem c_J5_putCharSB (l : Launch) (D : va_G) (y : Nat) (n : Nat) (f : Nat → Int32) (x1 : Int32) (x2 : Int32) (Q : ((Nat → Int32)) → Prop) (h : w_J5_putCharSB y n f x1 x2 Q) : Ctv l D yJ5_putCharSB cJ5_putCharSB 3 (rmk 3 0 0 64) [.ref y, .int x1, .int x2] ([(y, .inl (dB_ D, n, .inl f))] ++ []) (fun u : (Nat → Int32) => ([(y, .inl (dB_ D, n, .inl u))] ++ [])) Q 0 0 := by
  refine Ctv.of (by decide) (Nat.le_of_ble_eq_true rfl) (fun x hF hR => ?_)
  replace hF : vF x l D "java/lang/StringUTF16" cJ5_putCharSB (rmk 3 0 0 64) 3 none := hF
  unfold w_J5_putCharSB at h
  refine v_iload_n 0 hF dJ5_putCharSB_0 rfl 1 rfl ?_
  refine v_aload_n 1 hF dJ5_putCharSB_1 rfl 0 rfl ?_
  refine v_callSv (As := [.int x1, .ref y]) (wr := ([])) 2 hF (c_J5_checkIndex l D y n f x1 _ h) (((List.Perm.refl _)).trans (List.Perm.of_eq (by simp only [List.append_assoc, List.nil_append, List.append_nil]))) q1481 q1482 q78 q1483 ds_J5_checkIndex ⟨rfl, rfl, (Nat.le_of_ble_eq_true rfl), (Nat.le_of_ble_eq_true rfl)⟩ (Nat.le_of_ble_eq_true rfl) ⟨(Nat.le_of_ble_eq_true rfl), (Nat.le_of_ble_eq_true rfl)⟩ dJ5_putCharSB_2 (fun u1 h => ?_)
  refine v_eqw (ws1 := ([(y, .inl (dB_ D, n, .inl f))] ++ [])) (by simp only [List.append_assoc, List.nil_append, List.append_nil]) ?_
  refine v_aload_n 5 hF dJ5_putCharSB_5 rfl 0 rfl ?_
  refine v_iload_n 6 hF dJ5_putCharSB_6 rfl 1 rfl ?_
  refine v_iload_n 7 hF dJ5_putCharSB_7 rfl 2 rfl ?_
  refine v_callSv (As := [.ref y, .int x1, .int x2]) (wr := ([])) 8 hF (c_J5_putChar l D y n f x1 x2 _ h) (((List.Perm.refl _)).trans (List.Perm.of_eq (by simp only [List.append_assoc, List.nil_append, List.append_nil]))) q1469 q1470 q78 q1471 ds_J5_putChar ⟨rfl, rfl, (Nat.le_of_ble_eq_true rfl), (Nat.le_of_ble_eq_true rfl)⟩ (Nat.le_of_ble_eq_true rfl) ⟨(Nat.le_of_ble_eq_true rfl), (Nat.le_of_ble_eq_true rfl)⟩ dJ5_putCharSB_8 (fun u2 h => ?_)
  refine v_eqw (ws1 := ([(y, .inl (dB_ D, n, .inl u2))] ++ [])) (by simp only [List.append_assoc, List.nil_append, List.append_nil]) ?_
  exact v_vret (u := u2) 11 hF hR (Nat.le_of_ble_eq_true rfl) (Nat.le_of_ble_eq_true rfl) dJ5_putCharSB_11 h
def w_J24_checkFromIndexSize_N (x0 : Int32) (x1 : Int32) (x2 : Int32) (Q : Int32 → (Unit) → Prop) : Prop :=
  ((((x2 ||| x0) ||| x1) < 0 → False) ∧ (¬ ((x2 ||| x0) ||| x1) < 0 → ((x1 ≤ (x2 - x0) → Q x0 ()) ∧ (¬ x1 ≤ (x2 - x0) → False))))
theorem ds_J24_checkFromIndexSize : yJ24_checkFromIndexSize.cls = yJ24_checkFromIndexSize.cls ∧ yJ24_checkFromIndexSize.cls ≠ "java/lang/invoke/MethodHandle" ∧ yJ24_checkFromIndexSize.cls ≠ "java/lang/invoke/VarHandle" ∧ (parseMethodDescriptor yJ24_checkFromIndexSize.desc).map (fun d => d.parameters.length) = some 4 := by decide +kernel
set_option maxHeartbeats 4000000 in
theorem c_J24_checkFromIndexSize_N (l : Launch) (D : va_G) (x0 : Int32) (x1 : Int32) (x2 : Int32) (Q : Int32 → (Unit) → Prop) (h : w_J24_checkFromIndexSize_N x0 x1 x2 Q) : Cti l D yJ24_checkFromIndexSize cJ24_checkFromIndexSize 4 .int (rmk 0 0 0 0) [.int x0, .int x1, .int x2, .null] ([]) (fun u : Unit => ([])) Q 0 0 := by
  refine Cti.of (by decide) (Nat.le_of_ble_eq_true rfl) (fun x hF hR => ?_)
  replace hF : vF x l D "jdk/internal/util/Preconditions" cJ24_checkFromIndexSize (rmk 0 0 0 0) 4 (some .int) := hF
  unfold w_J24_checkFromIndexSize_N at h
  refine v_iload_n 0 hF dJ24_checkFromIndexSize_0 rfl 2 rfl ?_
  refine v_iload_n 1 hF dJ24_checkFromIndexSize_1 rfl 0 rfl ?_
  refine v_ior 2 hF dJ24_checkFromIndexSize_2 ?_
  refine v_iload_n 3 hF dJ24_checkFromIndexSize_3 rfl 1 rfl ?_
  refine v_ior 4 hF dJ24_checkFromIndexSize_4 ?_
  refine v_if_lt 5 15 hF dJ24_checkFromIndexSize_5 (by decide) (fun c1 => ?_) (fun c1 => ?_)
  · replace h := h.1 c1
    refine v_aload_nN 15 hF dJ24_checkFromIndexSize_15 rfl 3 rfl ?_
    refine v_iload_n 16 hF dJ24_checkFromIndexSize_16 rfl 0 rfl ?_
    refine v_iload_n 17 hF dJ24_checkFromIndexSize_17 rfl 1 rfl ?_
    refine v_iload_n 18 hF dJ24_checkFromIndexSize_18 rfl 2 rfl ?_
    exact h.elim
  · replace h := h.2 c1
    refine v_iload_n 8 hF dJ24_checkFromIndexSize_8 rfl 1 rfl ?_
    refine v_iload_n 9 hF dJ24_checkFromIndexSize_9 rfl 2 rfl ?_
    refine v_iload_n 10 hF dJ24_checkFromIndexSize_10 rfl 0 rfl ?_
    refine v_isub 11 hF dJ24_checkFromIndexSize_11 ?_
    refine v_icmp_le 12 23 hF dJ24_checkFromIndexSize_12 (by decide) (fun c2 => ?_) (fun c2 => ?_)
    · replace h := h.1 c2
      refine v_iload_n 23 hF dJ24_checkFromIndexSize_23 rfl 0 rfl ?_
      exact v_iret (u := ()) 24 hF hR (Nat.le_of_ble_eq_true rfl) (Nat.le_of_ble_eq_true rfl) dJ24_checkFromIndexSize_24 h
    · replace h := h.2 c2
      refine v_aload_nN 15 hF dJ24_checkFromIndexSize_15 rfl 3 rfl ?_
      refine v_iload_n 16 hF dJ24_checkFromIndexSize_16 rfl 0 rfl ?_
      refine v_iload_n 17 hF dJ24_checkFromIndexSize_17 rfl 1 rfl ?_
      refine v_iload_n 18 hF dJ24_checkFromIndexSize_18 rfl 2 rfl ?_
      exact h.elim
def w_J24_checkFromIndexSize_R (x0 : Int32) (x1 : Int32) (x2 : Int32) (v : Nat) (Q : Int32 → (Unit) → Prop) : Prop :=
  ((((x2 ||| x0) ||| x1) < 0 → False) ∧ (¬ ((x2 ||| x0) ||| x1) < 0 → ((x1 ≤ (x2 - x0) → Q x0 ()) ∧ (¬ x1 ≤ (x2 - x0) → False))))
set_option maxHeartbeats 4000000 in
theorem c_J24_checkFromIndexSize_R (l : Launch) (D : va_G) (x0 : Int32) (x1 : Int32) (x2 : Int32) (v : Nat) (Q : Int32 → (Unit) → Prop) (h : w_J24_checkFromIndexSize_R x0 x1 x2 v Q) : Cti l D yJ24_checkFromIndexSize cJ24_checkFromIndexSize 4 .int (rmk 0 0 0 0) [.int x0, .int x1, .int x2, .ref v] ([]) (fun u : Unit => ([])) Q 0 0 := by
  refine Cti.of (by decide) (Nat.le_of_ble_eq_true rfl) (fun x hF hR => ?_)
  replace hF : vF x l D "jdk/internal/util/Preconditions" cJ24_checkFromIndexSize (rmk 0 0 0 0) 4 (some .int) := hF
  unfold w_J24_checkFromIndexSize_R at h
  refine v_iload_n 0 hF dJ24_checkFromIndexSize_0 rfl 2 rfl ?_
  refine v_iload_n 1 hF dJ24_checkFromIndexSize_1 rfl 0 rfl ?_
  refine v_ior 2 hF dJ24_checkFromIndexSize_2 ?_
  refine v_iload_n 3 hF dJ24_checkFromIndexSize_3 rfl 1 rfl ?_
  refine v_ior 4 hF dJ24_checkFromIndexSize_4 ?_
  refine v_if_lt 5 15 hF dJ24_checkFromIndexSize_5 (by decide) (fun c1 => ?_) (fun c1 => ?_)
  · replace h := h.1 c1
    refine v_aload_n 15 hF dJ24_checkFromIndexSize_15 rfl 3 rfl ?_
    refine v_iload_n 16 hF dJ24_checkFromIndexSize_16 rfl 0 rfl ?_
    refine v_iload_n 17 hF dJ24_checkFromIndexSize_17 rfl 1 rfl ?_
    refine v_iload_n 18 hF dJ24_checkFromIndexSize_18 rfl 2 rfl ?_
    exact h.elim
  · replace h := h.2 c1
    refine v_iload_n 8 hF dJ24_checkFromIndexSize_8 rfl 1 rfl ?_
    refine v_iload_n 9 hF dJ24_checkFromIndexSize_9 rfl 2 rfl ?_
    refine v_iload_n 10 hF dJ24_checkFromIndexSize_10 rfl 0 rfl ?_
    refine v_isub 11 hF dJ24_checkFromIndexSize_11 ?_
    refine v_icmp_le 12 23 hF dJ24_checkFromIndexSize_12 (by decide) (fun c2 => ?_) (fun c2 => ?_)
    · replace h := h.1 c2
      refine v_iload_n 23 hF dJ24_checkFromIndexSize_23 rfl 0 rfl ?_
      exact v_iret (u := ()) 24 hF hR (Nat.le_of_ble_eq_true rfl) (Nat.le_of_ble_eq_true rfl) dJ24_checkFromIndexSize_24 h
    · replace h := h.2 c2
      refine v_aload_n 15 hF dJ24_checkFromIndexSize_15 rfl 3 rfl ?_
      refine v_iload_n 16 hF dJ24_checkFromIndexSize_16 rfl 0 rfl ?_
      refine v_iload_n 17 hF dJ24_checkFromIndexSize_17 rfl 1 rfl ?_
      refine v_iload_n 18 hF dJ24_checkFromIndexSize_18 rfl 2 rfl ?_
      exact h.elim
def w_J4_checkBoundsOffCount (x0 : Int32) (x1 : Int32) (x2 : Int32) (Q : Int32 → (Unit) → Prop) : Prop :=
  (w_J24_checkFromIndexSize_N x0 x1 x2 (fun r3 u4 => Q r3 ()) ∧ (∀ t2 : Nat, w_J24_checkFromIndexSize_R x0 x1 x2 t2 (fun r5 u6 => Q r5 ())))
theorem ds_J4_checkBoundsOffCount : yJ4_checkBoundsOffCount.cls = yJ4_checkBoundsOffCount.cls ∧ yJ4_checkBoundsOffCount.cls ≠ "java/lang/invoke/MethodHandle" ∧ yJ4_checkBoundsOffCount.cls ≠ "java/lang/invoke/VarHandle" ∧ (parseMethodDescriptor yJ4_checkBoundsOffCount.desc).map (fun d => d.parameters.length) = some 3 := by decide +kernel
set_option maxHeartbeats 4000000 in
theorem c_J4_checkBoundsOffCount (l : Launch) (D : va_G) (x0 : Int32) (x1 : Int32) (x2 : Int32) (Q : Int32 → (Unit) → Prop) (h : w_J4_checkBoundsOffCount x0 x1 x2 Q) : Cti l D yJ4_checkBoundsOffCount cJ4_checkBoundsOffCount 3 .int (rmk 1 0 0 23) [.int x0, .int x1, .int x2] ([]) (fun u : Unit => ([])) Q 0 0 := by
  refine Cti.of (by decide) (Nat.le_of_ble_eq_true rfl) (fun x hF hR => ?_)
  replace hF : vF x l D "java/lang/String" cJ4_checkBoundsOffCount (rmk 1 0 0 23) 3 (some .int) := hF
  unfold w_J4_checkBoundsOffCount at h
  refine v_iload_n 0 hF dJ4_checkBoundsOffCount_0 rfl 0 rfl ?_
  refine v_iload_n 1 hF dJ4_checkBoundsOffCount_1 rfl 1 rfl ?_
  refine v_iload_n 2 hF dJ4_checkBoundsOffCount_2 rfl 2 rfl ?_
  refine v_getsq 3 hF (fun A U H hz => hz.2.2.2.2.1) q1464 dJ4_checkBoundsOffCount_3 (fun v1 hv1 => ?_)
  rcases hv1 with rfl | ⟨t2, rfl⟩
  · replace h := h.1
    refine v_callSi (As := [.int x0, .int x1, .int x2, .null]) (wr := ([])) 6 hF (c_J24_checkFromIndexSize_N l D x0 x1 x2 _ h) (((List.Perm.refl _)).trans (List.Perm.of_eq (by simp only [List.append_assoc, List.nil_append, List.append_nil]))) q1466 q1467 q108 q1468 ds_J24_checkFromIndexSize ⟨rfl, rfl, (Nat.le_of_ble_eq_true rfl), (Nat.le_of_ble_eq_true rfl)⟩ (Nat.le_of_ble_eq_true rfl) ⟨(Nat.le_of_ble_eq_true rfl), (Nat.le_of_ble_eq_true rfl)⟩ dJ4_checkBoundsOffCount_6 (fun r3 u4 h => ?_)
    refine v_eqw (ws1 := ([])) (by simp only [List.append_assoc, List.nil_append, List.append_nil]) ?_
    exact v_iret (u := ()) 9 hF hR (Nat.le_of_ble_eq_true rfl) (Nat.le_of_ble_eq_true rfl) dJ4_checkBoundsOffCount_9 h
  · replace h := h.2 t2
    refine v_callSi (As := [.int x0, .int x1, .int x2, .ref t2]) (wr := ([])) 6 hF (c_J24_checkFromIndexSize_R l D x0 x1 x2 t2 _ h) (((List.Perm.refl _)).trans (List.Perm.of_eq (by simp only [List.append_assoc, List.nil_append, List.append_nil]))) q1466 q1467 q108 q1468 ds_J24_checkFromIndexSize ⟨rfl, rfl, (Nat.le_of_ble_eq_true rfl), (Nat.le_of_ble_eq_true rfl)⟩ (Nat.le_of_ble_eq_true rfl) ⟨(Nat.le_of_ble_eq_true rfl), (Nat.le_of_ble_eq_true rfl)⟩ dJ4_checkBoundsOffCount_6 (fun r5 u6 h => ?_)
    refine v_eqw (ws1 := ([])) (by simp only [List.append_assoc, List.nil_append, List.append_nil]) ?_
    exact v_iret (u := ()) 9 hF hR (Nat.le_of_ble_eq_true rfl) (Nat.le_of_ble_eq_true rfl) dJ4_checkBoundsOffCount_9 h
def w_J5_checkBoundsOffCount (y : Nat) (n : Nat) (f : Nat → Int32) (x0 : Int32) (x1 : Int32) (Q : (Unit) → Prop) : Prop :=
  w_J5_length y n f (fun r1 u2 => w_J4_checkBoundsOffCount x0 x1 r1 (fun r3 u4 => Q ()))
theorem ds_J5_checkBoundsOffCount : yJ5_checkBoundsOffCount.cls = yJ5_checkBoundsOffCount.cls ∧ yJ5_checkBoundsOffCount.cls ≠ "java/lang/invoke/MethodHandle" ∧ yJ5_checkBoundsOffCount.cls ≠ "java/lang/invoke/VarHandle" ∧ (parseMethodDescriptor yJ5_checkBoundsOffCount.desc).map (fun d => d.parameters.length) = some 3 := by decide +kernel
set_option maxHeartbeats 4000000 in
theorem c_J5_checkBoundsOffCount (l : Launch) (D : va_G) (y : Nat) (n : Nat) (f : Nat → Int32) (x0 : Int32) (x1 : Int32) (Q : (Unit) → Prop) (h : w_J5_checkBoundsOffCount y n f x0 x1 Q) : Ctv l D yJ5_checkBoundsOffCount cJ5_checkBoundsOffCount 3 (rmk 2 0 0 45) [.int x0, .int x1, .ref y] ([(y, .inl (dB_ D, n, .inl f))] ++ []) (fun u : Unit => ([(y, .inl (dB_ D, n, .inl f))] ++ [])) Q 0 0 := by
  refine Ctv.of (by decide) (Nat.le_of_ble_eq_true rfl) (fun x hF hR => ?_)
  replace hF : vF x l D "java/lang/StringUTF16" cJ5_checkBoundsOffCount (rmk 2 0 0 45) 3 none := hF
  unfold w_J5_checkBoundsOffCount at h
  refine v_iload_n 0 hF dJ5_checkBoundsOffCount_0 rfl 0 rfl ?_
  refine v_iload_n 1 hF dJ5_checkBoundsOffCount_1 rfl 1 rfl ?_
  refine v_aload_n 2 hF dJ5_checkBoundsOffCount_2 rfl 2 rfl ?_
  refine v_callSi (As := [.ref y]) (wr := ([])) 3 hF (c_J5_length l D y n f _ h) (((List.Perm.refl _)).trans (List.Perm.of_eq (by simp only [List.append_assoc, List.nil_append, List.append_nil]))) q1458 q1459 q78 q1460 ds_J5_length ⟨rfl, rfl, (Nat.le_of_ble_eq_true rfl), (Nat.le_of_ble_eq_true rfl)⟩ (Nat.le_of_ble_eq_true rfl) ⟨(Nat.le_of_ble_eq_true rfl), (Nat.le_of_ble_eq_true rfl)⟩ dJ5_checkBoundsOffCount_3 (fun r1 u2 h => ?_)
  refine v_eqw (ws1 := ([(y, .inl (dB_ D, n, .inl f))] ++ [])) (by simp only [List.append_assoc, List.nil_append, List.append_nil]) ?_
  refine v_callSi (As := [.int x0, .int x1, .int r1]) (wr := ([(y, .inl (dB_ D, n, .inl f))] ++ [])) 6 hF (c_J4_checkBoundsOffCount l D x0 x1 r1 _ h) (((List.Perm.refl _)).trans (List.Perm.of_eq (by simp only [List.append_assoc, List.nil_append, List.append_nil]))) q1461 q1462 q77 q1463 ds_J4_checkBoundsOffCount ⟨rfl, rfl, (Nat.le_of_ble_eq_true rfl), (Nat.le_of_ble_eq_true rfl)⟩ (Nat.le_of_ble_eq_true rfl) ⟨(Nat.le_of_ble_eq_true rfl), (Nat.le_of_ble_eq_true rfl)⟩ dJ5_checkBoundsOffCount_6 (fun r3 u4 h => ?_)
  refine v_eqw (ws1 := ([(y, .inl (dB_ D, n, .inl f))] ++ [])) (by simp only [List.append_assoc, List.nil_append, List.append_nil]) ?_
  refine v_pop 9 hF dJ5_checkBoundsOffCount_9 rfl ?_
  exact v_vret (u := ()) 10 hF hR (Nat.le_of_ble_eq_true rfl) (Nat.le_of_ble_eq_true rfl) dJ5_checkBoundsOffCount_10 h
def w_J5_inflate (y : Nat) (n : Nat) (f : Nat → Int32) (z : Nat) (m : Nat) (h_ : Nat → Int32) (x1 : Int32) (x3 : Int32) (x4 : Int32) (Q : ((Nat → Int32)) → Prop) : Prop :=
  w_J5_checkBoundsOffCount z m h_ x3 x4 (fun u1 => wLoop (fun (K10 : (Int32) × (Int32) × (Int32) × (Nat → Int32) → Prop) (z6 : (Int32) × (Int32) × (Int32) × (Nat → Int32)) => (fun (v2 : Int32) (v3 : Int32) (v4 : Int32) (v5 : Nat → Int32) => ((x4 ≤ v4 → Q v5) ∧ (¬ x4 ≤ v4 → ∀ y8 : Int32, y8 = v3 + (1 : Int32) → ∀ y9 : Int32, y9 = v2 + (1 : Int32) → vp_in v2 n ∧ w_J5_putChar z m v5 v3 (((f v2.toNatClampNeg) &&& (255 : Int32))) (fun u11 => ∀ y12 : Int32, y12 = v4 + (1 : Int32) → K10 ((y9, y8, y12, u11)))))) z6.1 z6.2.1 z6.2.2.1 z6.2.2.2) ((x1, x3, (0 : Int32), h_)))
theorem ds_J5_inflate : yJ5_inflate.cls = yJ5_inflate.cls ∧ yJ5_inflate.cls ≠ "java/lang/invoke/MethodHandle" ∧ yJ5_inflate.cls ≠ "java/lang/invoke/VarHandle" ∧ (parseMethodDescriptor yJ5_inflate.desc).map (fun d => d.parameters.length) = some 5 := by decide +kernel
set_option maxHeartbeats 4000000 in
theorem c_J5_inflate (l : Launch) (D : va_G) (y : Nat) (n : Nat) (f : Nat → Int32) (z : Nat) (m : Nat) (h_ : Nat → Int32) (x1 : Int32) (x3 : Int32) (x4 : Int32) (Q : ((Nat → Int32)) → Prop) (h : w_J5_inflate y n f z m h_ x1 x3 x4 Q) : Ctv l D yJ5_inflate cJ5_inflate 6 (rmk 3 0 0 67) [.ref y, .int x1, .ref z, .int x3, .int x4] ([(y, .inl (dB_ D, n, .inl f))] ++ ([(z, .inl (dB_ D, m, .inl h_))] ++ [])) (fun u : (Nat → Int32) => ([(y, .inl (dB_ D, n, .inl f))] ++ ([(z, .inl (dB_ D, m, .inl u))] ++ []))) Q 0 0 := by
  refine Ctv.of (by decide) (Nat.le_of_ble_eq_true rfl) (fun x hF hR => ?_)
  replace hF : vF x l D "java/lang/StringUTF16" cJ5_inflate (rmk 3 0 0 67) 6 none := hF
  unfold w_J5_inflate at h
  refine v_iload_n 0 hF dJ5_inflate_0 rfl 3 rfl ?_
  refine v_iload 1 hF dJ5_inflate_1 4 rfl ?_
  refine v_aload_n 3 hF dJ5_inflate_3 rfl 2 rfl ?_
  refine v_callSv (As := [.int x3, .int x4, .ref z]) (wr := ([(y, .inl (dB_ D, n, .inl f))] ++ [])) 4 hF (c_J5_checkBoundsOffCount l D z m h_ x3 x4 _ h) ((((((List.Perm.refl _)).append_left _).trans (pm_sw _ _ _))).trans (List.Perm.of_eq (by simp only [List.append_assoc, List.nil_append, List.append_nil]))) q1455 q1456 q78 q1457 ds_J5_checkBoundsOffCount ⟨rfl, rfl, (Nat.le_of_ble_eq_true rfl), (Nat.le_of_ble_eq_true rfl)⟩ (Nat.le_of_ble_eq_true rfl) ⟨(Nat.le_of_ble_eq_true rfl), (Nat.le_of_ble_eq_true rfl)⟩ dJ5_inflate_4 (fun u1 h => ?_)
  refine v_eqw (ws1 := ([(z, .inl (dB_ D, m, .inl h_))] ++ ([(y, .inl (dB_ D, n, .inl f))] ++ []))) (by simp only [List.append_assoc, List.nil_append, List.append_nil]) ?_
  refine v_perm (ws' := ([(y, .inl (dB_ D, n, .inl f))] ++ ([(z, .inl (dB_ D, m, .inl h_))] ++ []))) ((((List.Perm.refl _)).append_left _).trans (pm_sw _ _ _)) ?_
  refine v_iconst (v := 0) 7 hF dJ5_inflate_7 (by decide) ?_
  refine v_istore [(0, .ref y), (1, .int x1), (2, .ref z), (3, .int x3), (4, .int x4), (5, .int ((0 : Int32)))] [1, 2, 3, 4, 5, 0] 8 hF dJ5_inflate_8 (Nat.le_of_ble_eq_true rfl) rfl ?_
  refine vLoop (V := fun z6 : (Int32) × (Int32) × (Int32) × (Nat → Int32) => vV x 0 0 ([(y, .inl (dB_ D, n, .inl f))] ++ ([(z, .inl (dB_ D, m, .inl z6.2.2.2))] ++ [])) [(0, .ref y), (1, .int (z6.1)), (2, .ref z), (3, .int (z6.2.1)), (4, .int x4), (5, .int (z6.2.2.1))] 10 []) (fun K10 hK10 z6 hs => ?_) _ h
  obtain ⟨v2, v3, v4, v5⟩ := z6
  have h : ((x4 ≤ v4 → Q v5) ∧ (¬ x4 ≤ v4 → ∀ y8 : Int32, y8 = v3 + (1 : Int32) → ∀ y9 : Int32, y9 = v2 + (1 : Int32) → vp_in v2 n ∧ w_J5_putChar z m v5 v3 (((f v2.toNatClampNeg) &&& (255 : Int32))) (fun u11 => ∀ y12 : Int32, y12 = v4 + (1 : Int32) → K10 ((y9, y8, y12, u11))))) := hs
  refine v_iload 10 hF dJ5_inflate_10 5 rfl ?_
  refine v_iload 12 hF dJ5_inflate_12 4 rfl ?_
  refine v_icmp_ge 14 41 hF dJ5_inflate_14 (by decide) (fun c7 => ?_) (fun c7 => ?_)
  · replace h := h.1 c7
    exact v_vret (u := v5) 41 hF hR (Nat.le_of_ble_eq_true rfl) (Nat.le_of_ble_eq_true rfl) dJ5_inflate_41 h
  · replace h := h.2 c7
    refine v_aload_n 17 hF dJ5_inflate_17 rfl 2 rfl ?_
    refine v_iload_n 18 hF dJ5_inflate_18 rfl 3 rfl ?_
    obtain ⟨y8, ey8⟩ : ∃ y : Int32, y = v3 + (1 : Int32) := ⟨_, rfl⟩
    replace h := h y8 ey8
    refine v_iinc [(0, .ref y), (1, .int v2), (2, .ref z), (3, .int y8), (4, .int x4), (5, .int v4)] [1, 2, 3, 0, 4, 5] 19 hF dJ5_inflate_19 3 rfl (by rw [ey8]; rfl) (Nat.le_of_ble_eq_true rfl) rfl ?_
    refine v_aload_n 22 hF dJ5_inflate_22 rfl 0 rfl ?_
    refine v_iload_n 23 hF dJ5_inflate_23 rfl 1 rfl ?_
    obtain ⟨y9, ey9⟩ : ∃ y : Int32, y = v2 + (1 : Int32) := ⟨_, rfl⟩
    replace h := h y9 ey9
    refine v_iinc [(0, .ref y), (1, .int y9), (2, .ref z), (3, .int y8), (4, .int x4), (5, .int v4)] [1, 0, 2, 3, 4, 5] 24 hF dJ5_inflate_24 1 rfl (by rw [ey9]; rfl) (Nat.le_of_ble_eq_true rfl) rfl ?_
    obtain ⟨o10, h⟩ := h
    refine v_bald 27 hF 0 rfl o10 dJ5_inflate_27 ?_
    refine v_sipush (v := 255) 28 hF dJ5_inflate_28 (by decide) ?_
    refine v_iand 31 hF dJ5_inflate_31 ?_
    refine v_callSv (As := [.ref z, .int v3, .int (((f v2.toNatClampNeg) &&& (255 : Int32)))]) (wr := ([(y, .inl (dB_ D, n, .inl f))] ++ [])) 32 hF (c_J5_putChar l D z m v5 v3 (((f v2.toNatClampNeg) &&& (255 : Int32))) _ h) ((((((List.Perm.refl _)).append_left _).trans (pm_sw _ _ _))).trans (List.Perm.of_eq (by simp only [List.append_assoc, List.nil_append, List.append_nil]))) q1469 q1470 q78 q1471 ds_J5_putChar ⟨rfl, rfl, (Nat.le_of_ble_eq_true rfl), (Nat.le_of_ble_eq_true rfl)⟩ (Nat.le_of_ble_eq_true rfl) ⟨(Nat.le_of_ble_eq_true rfl), (Nat.le_of_ble_eq_true rfl)⟩ dJ5_inflate_32 (fun u11 h => ?_)
    refine v_eqw (ws1 := ([(z, .inl (dB_ D, m, .inl u11))] ++ ([(y, .inl (dB_ D, n, .inl f))] ++ []))) (by simp only [List.append_assoc, List.nil_append, List.append_nil]) ?_
    refine v_perm (ws' := ([(y, .inl (dB_ D, n, .inl f))] ++ ([(z, .inl (dB_ D, m, .inl u11))] ++ []))) ((((List.Perm.refl _)).append_left _).trans (pm_sw _ _ _)) ?_
    obtain ⟨y12, ey12⟩ : ∃ y : Int32, y = v4 + (1 : Int32) := ⟨_, rfl⟩
    replace h := h y12 ey12
    refine v_iinc [(0, .ref y), (1, .int y9), (2, .ref z), (3, .int y8), (4, .int x4), (5, .int y12)] [1, 2, 3, 4, 5, 0] 35 hF dJ5_inflate_35 5 rfl (by rw [ey12]; rfl) (Nat.le_of_ble_eq_true rfl) rfl ?_
    refine v_goto 38 10 hF dJ5_inflate_38 (by decide) ?_
    exact hK10 ((y9, y8, y12, u11)) h
def w_J23_inflate (y : Nat) (n : Nat) (f : Nat → Int32) (z : Nat) (m : Nat) (h_ : Nat → Int32) (x1 : Int32) (x3 : Int32) (x4 : Int32) (Q : ((Nat → Int32)) → Prop) : Prop :=
  w_J5_inflate y n f z m h_ x1 x3 x4 (fun u1 => Q u1)
theorem ds_J23_inflate : yJ23_inflate.cls = yJ23_inflate.cls ∧ yJ23_inflate.cls ≠ "java/lang/invoke/MethodHandle" ∧ yJ23_inflate.cls ≠ "java/lang/invoke/VarHandle" ∧ (parseMethodDescriptor yJ23_inflate.desc).map (fun d => d.parameters.length) = some 5 := by decide +kernel
set_option maxHeartbeats 4000000 in
theorem c_J23_inflate (l : Launch) (D : va_G) (y : Nat) (n : Nat) (f : Nat → Int32) (z : Nat) (m : Nat) (h_ : Nat → Int32) (x1 : Int32) (x3 : Int32) (x4 : Int32) (Q : ((Nat → Int32)) → Prop) (h : w_J23_inflate y n f z m h_ x1 x3 x4 Q) : Ctv l D yJ23_inflate cJ23_inflate 5 (rmk 4 0 0 92) [.ref y, .int x1, .ref z, .int x3, .int x4] ([(y, .inl (dB_ D, n, .inl f))] ++ ([(z, .inl (dB_ D, m, .inl h_))] ++ [])) (fun u : (Nat → Int32) => ([(y, .inl (dB_ D, n, .inl f))] ++ ([(z, .inl (dB_ D, m, .inl u))] ++ []))) Q 0 0 := by
  refine Ctv.of (by decide) (Nat.le_of_ble_eq_true rfl) (fun x hF hR => ?_)
  replace hF : vF x l D "java/lang/StringLatin1" cJ23_inflate (rmk 4 0 0 92) 5 none := hF
  unfold w_J23_inflate at h
  refine v_aload_n 0 hF dJ23_inflate_0 rfl 0 rfl ?_
  refine v_iload_n 1 hF dJ23_inflate_1 rfl 1 rfl ?_
  refine v_aload_n 2 hF dJ23_inflate_2 rfl 2 rfl ?_
  refine v_iload_n 3 hF dJ23_inflate_3 rfl 3 rfl ?_
  refine v_iload 4 hF dJ23_inflate_4 4 rfl ?_
  refine v_callSv (As := [.ref y, .int x1, .ref z, .int x3, .int x4]) (wr := ([])) 6 hF (c_J5_inflate l D y n f z m h_ x1 x3 x4 _ h) (((List.Perm.refl _)).trans (List.Perm.of_eq (by simp only [List.append_assoc, List.nil_append, List.append_nil]))) q1452 q1453 q78 q1454 ds_J5_inflate ⟨rfl, rfl, (Nat.le_of_ble_eq_true rfl), (Nat.le_of_ble_eq_true rfl)⟩ (Nat.le_of_ble_eq_true rfl) ⟨(Nat.le_of_ble_eq_true rfl), (Nat.le_of_ble_eq_true rfl)⟩ dJ23_inflate_6 (fun u1 h => ?_)
  refine v_eqw (ws1 := ([(y, .inl (dB_ D, n, .inl f))] ++ ([(z, .inl (dB_ D, m, .inl u1))] ++ []))) (by simp only [List.append_assoc, List.nil_append, List.append_nil]) ?_
  exact v_vret (u := u1) 9 hF hR (Nat.le_of_ble_eq_true rfl) (Nat.le_of_ble_eq_true rfl) dJ23_inflate_9 h
def w_J12_copyOf_3 (y : Nat) (n : Nat) (f : Nat → Int32) (x1 : Int32) (Q : (Nat × Nat × (Nat → Int32)) → Prop) : Prop :=
  ((¬ x1 = (Int32.ofNat n) → ¬ x1 < 0 ∧ x1.toNatClampNeg ≤ 200 ∧ ∀ q4 : Nat, (∀ j, fits .byte (.int (f j)) = true) ∧ ¬ (0 : Int32) < 0 ∧ ¬ (0 : Int32) < 0 ∧ ¬ (if x1 < (Int32.ofNat n) then x1 else (Int32.ofNat n)) < 0 ∧ ((0 : Int32)).toNatClampNeg + ((if x1 < (Int32.ofNat n) then x1 else (Int32.ofNat n))).toNatClampNeg ≤ n ∧ ((0 : Int32)).toNatClampNeg + ((if x1 < (Int32.ofNat n) then x1 else (Int32.ofNat n))).toNatClampNeg ≤ (x1.toNatClampNeg) ∧ Q ((q4, (x1.toNatClampNeg), (va_cpy f ((fun _ => 0)) ((0 : Int32)).toNatClampNeg ((0 : Int32)).toNatClampNeg ((if x1 < (Int32.ofNat n) then x1 else (Int32.ofNat n))).toNatClampNeg)))) ∧ (x1 = (Int32.ofNat n) → False))
theorem ds_J12_copyOf_3 : yJ12_copyOf_3.cls = yJ12_copyOf_3.cls ∧ yJ12_copyOf_3.cls ≠ "java/lang/invoke/MethodHandle" ∧ yJ12_copyOf_3.cls ≠ "java/lang/invoke/VarHandle" ∧ (parseMethodDescriptor yJ12_copyOf_3.desc).map (fun d => d.parameters.length) = some 2 := by decide +kernel
set_option maxHeartbeats 4000000 in
theorem c_J12_copyOf_3 (l : Launch) (D : va_G) (y : Nat) (n : Nat) (f : Nat → Int32) (x1 : Int32) (Q : (Nat × Nat × (Nat → Int32)) → Prop) (h : w_J12_copyOf_3 y n f x1 Q) : Ctr l D yJ12_copyOf_3 cJ12_copyOf_3 3 (.array .byte) (rmk 1 1 200 64) [.ref y, .int x1] ([(y, .inl (dB_ D, n, .inl f))] ++ []) (fun u : Nat × Nat × (Nat → Int32) => ([(y, .inl (dB_ D, n, .inl f))] ++ ([(u.1, .inl (dB_ D, u.2.1, .inl u.2.2))] ++ []))) (fun u : Nat × Nat × (Nat → Int32) => u.1) Q 1 200 := by
  refine Ctr.of (by decide) (Nat.le_of_ble_eq_true rfl) (fun x hF hR => ?_)
  replace hF : vF x l D "java/util/Arrays" cJ12_copyOf_3 (rmk 1 1 200 64) 3 (some (.array .byte)) := hF
  unfold w_J12_copyOf_3 at h
  refine v_iload_n 0 hF dJ12_copyOf_3_0 rfl 1 rfl ?_
  refine v_aload_n 1 hF dJ12_copyOf_3_1 rfl 0 rfl ?_
  refine v_alen (v := Int32.ofNat n) 2 hF 0 4 rfl rfl rfl dJ12_copyOf_3_2 ?_
  refine v_icmp_ne 3 14 hF dJ12_copyOf_3_3 (by decide) (fun c1 => ?_) (fun c1 => ?_)
  · replace h := h.1 c1
    refine v_iload_n 14 hF dJ12_copyOf_3_14 rfl 1 rfl ?_
    obtain ⟨o2, o3, h⟩ := h
    refine v_newabM 200 15 hF q323 o2 o3 (Nat.le_of_ble_eq_true rfl) ⟨(Nat.le_of_ble_eq_true rfl), (Nat.le_of_ble_eq_true rfl)⟩ dJ12_copyOf_3_15 (fun q4 => ?_)
    replace h := h q4
    refine v_eqw (ws1 := ([(y, .inl (dB_ D, n, .inl f))] ++ ([(q4, .inl (dB_ D, (x1.toNatClampNeg), .inl (fun _ => 0)))] ++ []))) (by simp only [List.append_assoc, List.nil_append, List.append_nil]) ?_
    refine v_astore_n [(0, .ref y), (1, .int x1), (2, .ref q4)] [1, 2, 0] 17 hF dJ12_copyOf_3_17 rfl (Nat.le_of_ble_eq_true rfl) rfl ?_
    refine v_aload_n 18 hF dJ12_copyOf_3_18 rfl 0 rfl ?_
    refine v_iconst (v := 0) 19 hF dJ12_copyOf_3_19 (by decide) ?_
    refine v_aload_n 20 hF dJ12_copyOf_3_20 rfl 2 rfl ?_
    refine v_iconst (v := 0) 21 hF dJ12_copyOf_3_21 (by decide) ?_
    refine v_aload_n 22 hF dJ12_copyOf_3_22 rfl 0 rfl ?_
    refine v_alen (v := Int32.ofNat n) 23 hF 0 4 rfl rfl rfl dJ12_copyOf_3_23 ?_
    refine v_iload_n 24 hF dJ12_copyOf_3_24 rfl 1 rfl ?_
    refine v_mmin 25 hF q682 q429 q92 q430 (Nat.le_of_ble_eq_true rfl) (Nat.le_of_ble_eq_true rfl) ⟨(Nat.le_of_ble_eq_true rfl), (Nat.le_of_ble_eq_true rfl)⟩ dJ12_copyOf_3_25 ?_
    obtain ⟨o5, o6, o7, o8, o9, o10, h⟩ := h
    refine v_copyb ([(y, .inl (dB_ D, n, .inl f))] ++ ([(q4, .inl (dB_ D, (x1.toNatClampNeg), .inl (va_cpy f ((fun _ => 0)) ((0 : Int32)).toNatClampNeg ((0 : Int32)).toNatClampNeg ((if x1 < (Int32.ofNat n) then x1 else (Int32.ofNat n))).toNatClampNeg)))] ++ [])) 28 hF q683 0 1 rfl rfl o5 o6 o7 o8 o9 o10 (Nat.le_of_ble_eq_true rfl) (Nat.le_of_ble_eq_true rfl) rfl dJ12_copyOf_3_28 ?_
    refine v_aload_n 31 hF dJ12_copyOf_3_31 rfl 2 rfl ?_
    exact v_aret (u := (q4, (x1.toNatClampNeg), (va_cpy f ((fun _ => 0)) ((0 : Int32)).toNatClampNeg ((0 : Int32)).toNatClampNeg ((if x1 < (Int32.ofNat n) then x1 else (Int32.ofNat n))).toNatClampNeg))) 32 hF (Or.inr ⟨_, rfl⟩) hR (Nat.le_of_ble_eq_true rfl) (Nat.le_of_ble_eq_true rfl) dJ12_copyOf_3_32 rfl h
  · replace h := h.2 c1
    exact h.elim
def w_J2_isLatin1 (i : Nat) (y : Nat) (co : Int32) (ml : Int32) (ct : Int32) (n : Nat) (f : Nat → Int32) (Q : Int32 → (Unit) → Prop) : Prop :=
  (((1 : Int32) = 0 → Q ((0 : Int32)) ()) ∧ (¬ (1 : Int32) = 0 → ((¬ co = 0 → Q ((0 : Int32)) ()) ∧ (co = 0 → Q ((1 : Int32)) ()))))
theorem ds_J2_isLatin1 : yJ2_isLatin1.cls = yJ2_isLatin1.cls ∧ yJ2_isLatin1.cls ≠ "java/lang/invoke/MethodHandle" ∧ yJ2_isLatin1.cls ≠ "java/lang/invoke/VarHandle" ∧ (parseMethodDescriptor yJ2_isLatin1.desc).map (fun d => d.parameters.length) = some 0 := by decide +kernel
set_option maxHeartbeats 4000000 in
theorem c_J2_isLatin1 (l : Launch) (D : va_G) (i : Nat) (y : Nat) (co : Int32) (ml : Int32) (ct : Int32) (n : Nat) (f : Nat → Int32) (Q : Int32 → (Unit) → Prop) (h : w_J2_isLatin1 i y co ml ct n f Q) : Cti l D yJ2_isLatin1 cJ2_isLatin1 1 .boolean (rmk 0 0 0 0) [.ref i] ([(i, .inr (14, [.ref y, .int co, .int ml, .int ct]))] ++ ([(y, .inl (dB_ D, n, .inl f))] ++ [])) (fun u : Unit => ([(i, .inr (14, [.ref y, .int co, .int ml, .int ct]))] ++ ([(y, .inl (dB_ D, n, .inl f))] ++ []))) Q 0 0 := by
  refine Cti.of (by decide) (Nat.le_of_ble_eq_true rfl) (fun x hF hR => ?_)
  replace hF : vF x l D "java/lang/AbstractStringBuilder" cJ2_isLatin1 (rmk 0 0 0 0) 1 (some .boolean) := hF
  unfold w_J2_isLatin1 at h
  refine v_gets (v := .int 1) 0 hF (fun A U H hz => hz.2.1.1) q300 dJ2_isLatin1_0 ?_
  refine v_if_eq 3 17 hF dJ2_isLatin1_3 (by decide) (fun c1 => ?_) (fun c1 => ?_)
  · replace h := h.1 c1
    refine v_iconst (v := 0) 17 hF dJ2_isLatin1_17 (by decide) ?_
    exact v_zret (u := ()) 18 hF hR (Nat.le_of_ble_eq_true rfl) (Nat.le_of_ble_eq_true rfl) rfl dJ2_isLatin1_18 h
  · replace h := h.2 c1
    refine v_aload_n 6 hF dJ2_isLatin1_6 rfl 0 rfl ?_
    refine v_getO 7 hF in_J3 0 rfl rfl 1 (Nat.le_of_ble_eq_true rfl) q310 rfl dJ2_isLatin1_7 ?_
    refine v_if_ne 10 17 hF dJ2_isLatin1_10 (by decide) (fun c2 => ?_) (fun c2 => ?_)
    · replace h := h.1 c2
      refine v_iconst (v := 0) 17 hF dJ2_isLatin1_17 (by decide) ?_
      exact v_zret (u := ()) 18 hF hR (Nat.le_of_ble_eq_true rfl) (Nat.le_of_ble_eq_true rfl) rfl dJ2_isLatin1_18 h
    · replace h := h.2 c2
      refine v_iconst (v := 1) 13 hF dJ2_isLatin1_13 (by decide) ?_
      refine v_goto 14 18 hF dJ2_isLatin1_14 (by decide) ?_
      exact v_zret (u := ()) 18 hF hR (Nat.le_of_ble_eq_true rfl) (Nat.le_of_ble_eq_true rfl) rfl dJ2_isLatin1_18 h
def w_J2_newCapacity (i : Nat) (y : Nat) (co : Int32) (ml : Int32) (ct : Int32) (n : Nat) (f : Nat → Int32) (x1 : Int32) (Q : Int32 → (Unit) → Prop) : Prop :=
  ∀ y1 : Int32, y1 = (Int32.ofNat n) → ∀ y2 : Int32, y2 = (x1 <<< (co &&& 31)) → ∀ y3 : Int32, y3 = (y2 - y1) → w_J22_newLength y1 y3 ((y1 + ((2 : Int32) <<< (co &&& 31)))) (fun r4 u5 => ((¬ r4 = (2147483647 : Int32) → Q ((r4 >>> (co &&& 31))) ()) ∧ (r4 = (2147483647 : Int32) → False)))
theorem ds_J2_newCapacity : yJ2_newCapacity.cls = yJ2_newCapacity.cls ∧ yJ2_newCapacity.cls ≠ "java/lang/invoke/MethodHandle" ∧ yJ2_newCapacity.cls ≠ "java/lang/invoke/VarHandle" ∧ (parseMethodDescriptor yJ2_newCapacity.desc).map (fun d => d.parameters.length) = some 1 := by decide +kernel
set_option maxHeartbeats 4000000 in
theorem c_J2_newCapacity (l : Launch) (D : va_G) (i : Nat) (y : Nat) (co : Int32) (ml : Int32) (ct : Int32) (n : Nat) (f : Nat → Int32) (x1 : Int32) (Q : Int32 → (Unit) → Prop) (h : w_J2_newCapacity i y co ml ct n f x1 Q) : Cti l D yJ2_newCapacity cJ2_newCapacity 6 .int (rmk 2 0 0 87) [.ref i, .int x1] ([(i, .inr (14, [.ref y, .int co, .int ml, .int ct]))] ++ ([(y, .inl (dB_ D, n, .inl f))] ++ [])) (fun u : Unit => ([(i, .inr (14, [.ref y, .int co, .int ml, .int ct]))] ++ ([(y, .inl (dB_ D, n, .inl f))] ++ []))) Q 0 0 := by
  refine Cti.of (by decide) (Nat.le_of_ble_eq_true rfl) (fun x hF hR => ?_)
  replace hF : vF x l D "java/lang/AbstractStringBuilder" cJ2_newCapacity (rmk 2 0 0 87) 6 (some .int) := hF
  unfold w_J2_newCapacity at h
  refine v_aload_n 0 hF dJ2_newCapacity_0 rfl 0 rfl ?_
  refine v_getO 1 hF in_J3 0 rfl rfl 0 (Nat.le_of_ble_eq_true rfl) q309 rfl dJ2_newCapacity_1 ?_
  refine v_alen (v := Int32.ofNat n) 4 hF 1 4 rfl rfl rfl dJ2_newCapacity_4 ?_
  refine v_nm (fun y1 ey1 => ?_)
  replace h := h y1 ey1
  refine v_istore_n [(0, .ref i), (1, .int x1), (2, .int y1)] [1, 2, 0] 5 hF dJ2_newCapacity_5 rfl (Nat.le_of_ble_eq_true rfl) rfl ?_
  refine v_iload_n 6 hF dJ2_newCapacity_6 rfl 1 rfl ?_
  refine v_aload_n 7 hF dJ2_newCapacity_7 rfl 0 rfl ?_
  refine v_getO 8 hF in_J3 0 rfl rfl 1 (Nat.le_of_ble_eq_true rfl) q310 rfl dJ2_newCapacity_8 ?_
  refine v_ishl 11 hF dJ2_newCapacity_11 ?_
  refine v_nm (fun y2 ey2 => ?_)
  replace h := h y2 ey2
  refine v_istore_n [(0, .ref i), (1, .int x1), (2, .int y1), (3, .int y2)] [1, 2, 3, 0] 12 hF dJ2_newCapacity_12 rfl (Nat.le_of_ble_eq_true rfl) rfl ?_
  refine v_iload_n 13 hF dJ2_newCapacity_13 rfl 3 rfl ?_
  refine v_iload_n 14 hF dJ2_newCapacity_14 rfl 2 rfl ?_
  refine v_isub 15 hF dJ2_newCapacity_15 ?_
  refine v_nm (fun y3 ey3 => ?_)
  replace h := h y3 ey3
  refine v_istore [(0, .ref i), (1, .int x1), (2, .int y1), (3, .int y2), (4, .int y3)] [1, 2, 3, 4, 0] 16 hF dJ2_newCapacity_16 (Nat.le_of_ble_eq_true rfl) rfl ?_
  refine v_iload_n 18 hF dJ2_newCapacity_18 rfl 2 rfl ?_
  refine v_iload 19 hF dJ2_newCapacity_19 4 rfl ?_
  refine v_iload_n 21 hF dJ2_newCapacity_21 rfl 2 rfl ?_
  refine v_iconst (v := 2) 22 hF dJ2_newCapacity_22 (by decide) ?_
  refine v_aload_n 23 hF dJ2_newCapacity_23 rfl 0 rfl ?_
  refine v_getO 24 hF in_J3 0 rfl rfl 1 (Nat.le_of_ble_eq_true rfl) q310 rfl dJ2_newCapacity_24 ?_
  refine v_ishl 27 hF dJ2_newCapacity_27 ?_
  refine v_iadd 28 hF dJ2_newCapacity_28 ?_
  refine v_callSi (As := [.int y1, .int y3, .int ((y1 + ((2 : Int32) <<< (co &&& 31))))]) (wr := ([(i, .inr (14, [.ref y, .int co, .int ml, .int ct]))] ++ ([(y, .inl (dB_ D, n, .inl f))] ++ []))) 29 hF (c_J22_newLength l D y1 y3 ((y1 + ((2 : Int32) <<< (co &&& 31)))) _ h) (((List.Perm.refl _)).trans (List.Perm.of_eq (by simp only [List.append_assoc, List.nil_append, List.append_nil]))) q1418 q1419 q106 q1420 ds_J22_newLength ⟨rfl, rfl, (Nat.le_of_ble_eq_true rfl), (Nat.le_of_ble_eq_true rfl)⟩ (Nat.le_of_ble_eq_true rfl) ⟨(Nat.le_of_ble_eq_true rfl), (Nat.le_of_ble_eq_true rfl)⟩ dJ2_newCapacity_29 (fun r4 u5 h => ?_)
  refine v_eqw (ws1 := ([(i, .inr (14, [.ref y, .int co, .int ml, .int ct]))] ++ ([(y, .inl (dB_ D, n, .inl f))] ++ []))) (by simp only [List.append_assoc, List.nil_append, List.append_nil]) ?_
  refine v_istore [(0, .ref i), (1, .int x1), (2, .int y1), (3, .int y2), (4, .int y3), (5, .int r4)] [1, 2, 3, 4, 5, 0] 32 hF dJ2_newCapacity_32 (Nat.le_of_ble_eq_true rfl) rfl ?_
  refine v_iload 34 hF dJ2_newCapacity_34 5 rfl ?_
  refine v_ldc 36 hF dJ2_newCapacity_36 q1426 ?_
  refine v_icmp_ne 38 51 hF dJ2_newCapacity_38 (by decide) (fun c6 => ?_) (fun c6 => ?_)
  · replace h := h.1 c6
    refine v_iload 51 hF dJ2_newCapacity_51 5 rfl ?_
    refine v_aload_n 53 hF dJ2_newCapacity_53 rfl 0 rfl ?_
    refine v_getO 54 hF in_J3 0 rfl rfl 1 (Nat.le_of_ble_eq_true rfl) q310 rfl dJ2_newCapacity_54 ?_
    refine v_ishr 57 hF dJ2_newCapacity_57 ?_
    exact v_iret (u := ()) 58 hF hR (Nat.le_of_ble_eq_true rfl) (Nat.le_of_ble_eq_true rfl) dJ2_newCapacity_58 h
  · replace h := h.2 c6
    exact h.elim
def w_J2_ensureCapacityInternal (i : Nat) (y : Nat) (co : Int32) (ml : Int32) (ct : Int32) (n : Nat) (f : Nat → Int32) (x1 : Int32) (Q : (Nat × Int32 × Int32 × Int32 × Nat × (Nat → Int32)) → Prop) : Prop :=
  ∀ y1 : Int32, y1 = ((Int32.ofNat n) >>> (co &&& 31)) → (((x1 - y1) ≤ 0 → Q ((y, co, ml, ct, n, f))) ∧ (¬ (x1 - y1) ≤ 0 → w_J2_newCapacity i y co ml ct n f x1 (fun r3 u4 => w_J12_copyOf_3 y n f ((r3 <<< (co &&& 31))) (fun u5 => Q ((u5.1, co, ml, ct, (u5.2.1), (u5.2.2)))))))
theorem ds_J2_ensureCapacityInternal : yJ2_ensureCapacityInternal.cls = yJ2_ensureCapacityInternal.cls ∧ yJ2_ensureCapacityInternal.cls ≠ "java/lang/invoke/MethodHandle" ∧ yJ2_ensureCapacityInternal.cls ≠ "java/lang/invoke/VarHandle" ∧ (parseMethodDescriptor yJ2_ensureCapacityInternal.desc).map (fun d => d.parameters.length) = some 1 := by decide +kernel
set_option maxHeartbeats 4000000 in
theorem c_J2_ensureCapacityInternal (l : Launch) (D : va_G) (i : Nat) (y : Nat) (co : Int32) (ml : Int32) (ct : Int32) (n : Nat) (f : Nat → Int32) (x1 : Int32) (Q : (Nat × Int32 × Int32 × Int32 × Nat × (Nat → Int32)) → Prop) (h : w_J2_ensureCapacityInternal i y co ml ct n f x1 Q) : Ctv l D yJ2_ensureCapacityInternal cJ2_ensureCapacityInternal 3 (rmk 3 1 200 112) [.ref i, .int x1] ([(i, .inr (14, [.ref y, .int co, .int ml, .int ct]))] ++ ([(y, .inl (dB_ D, n, .inl f))] ++ [])) (fun u : Nat × Int32 × Int32 × Int32 × Nat × (Nat → Int32) => ([(i, .inr (14, [.ref (u.1), .int (u.2.1), .int (u.2.2.1), .int (u.2.2.2.1)]))] ++ ([(u.1, .inl (dB_ D, u.2.2.2.2.1, .inl u.2.2.2.2.2))] ++ []))) Q 1 200 := by
  refine Ctv.of (by decide) (Nat.le_of_ble_eq_true rfl) (fun x hF hR => ?_)
  replace hF : vF x l D "java/lang/AbstractStringBuilder" cJ2_ensureCapacityInternal (rmk 3 1 200 112) 3 none := hF
  unfold w_J2_ensureCapacityInternal at h
  refine v_aload_n 0 hF dJ2_ensureCapacityInternal_0 rfl 0 rfl ?_
  refine v_getO 1 hF in_J3 0 rfl rfl 0 (Nat.le_of_ble_eq_true rfl) q309 rfl dJ2_ensureCapacityInternal_1 ?_
  refine v_alen (v := Int32.ofNat n) 4 hF 1 4 rfl rfl rfl dJ2_ensureCapacityInternal_4 ?_
  refine v_aload_n 5 hF dJ2_ensureCapacityInternal_5 rfl 0 rfl ?_
  refine v_getO 6 hF in_J3 0 rfl rfl 1 (Nat.le_of_ble_eq_true rfl) q310 rfl dJ2_ensureCapacityInternal_6 ?_
  refine v_ishr 9 hF dJ2_ensureCapacityInternal_9 ?_
  refine v_nm (fun y1 ey1 => ?_)
  replace h := h y1 ey1
  refine v_istore_n [(0, .ref i), (1, .int x1), (2, .int y1)] [1, 2, 0] 10 hF dJ2_ensureCapacityInternal_10 rfl (Nat.le_of_ble_eq_true rfl) rfl ?_
  refine v_iload_n 11 hF dJ2_ensureCapacityInternal_11 rfl 1 rfl ?_
  refine v_iload_n 12 hF dJ2_ensureCapacityInternal_12 rfl 2 rfl ?_
  refine v_isub 13 hF dJ2_ensureCapacityInternal_13 ?_
  refine v_if_le 14 38 hF dJ2_ensureCapacityInternal_14 (by decide) (fun c2 => ?_) (fun c2 => ?_)
  · replace h := h.1 c2
    exact v_vret (u := (y, co, ml, ct, n, f)) 38 hF hR (Nat.le_of_ble_eq_true rfl) (Nat.le_of_ble_eq_true rfl) dJ2_ensureCapacityInternal_38 h
  · replace h := h.2 c2
    refine v_aload_n 17 hF dJ2_ensureCapacityInternal_17 rfl 0 rfl ?_
    refine v_aload_n 18 hF dJ2_ensureCapacityInternal_18 rfl 0 rfl ?_
    refine v_getO 19 hF in_J3 0 rfl rfl 0 (Nat.le_of_ble_eq_true rfl) q309 rfl dJ2_ensureCapacityInternal_19 ?_
    refine v_aload_n 22 hF dJ2_ensureCapacityInternal_22 rfl 0 rfl ?_
    refine v_iload_n 23 hF dJ2_ensureCapacityInternal_23 rfl 1 rfl ?_
    refine v_callUi (As := [.int x1]) (x0 := ({ cls := "java/lang/AbstractStringBuilder", name := "newCapacity", desc := "(I)I" } : Jvm.MethodName)) (b := i) (wr := ([])) 24 hF (c_J2_newCapacity l D i y co ml ct n f x1 _ h) (((List.Perm.refl _)).trans (List.Perm.of_eq (by simp only [List.append_assoc, List.nil_append, List.append_nil]))) ⟨0, 14, _, TJ3, 4, rfl, rfl⟩ q1414 q1416 (fun s args hts _ => vUx.of2 (args := args) (by decide) (asb_cls hts) (hts _ q1416) (hts _ q1417)) (fun s args hts hE => sel_priv (hE.1.1 14 (RJ3, TJ3, 4) rfl).2.1 (va_Nw.use rfl (hE.2.1 _ q1415 rfl)) (hts _ q1417) (asb_cls hts) (by decide)) q75 q1417 ⟨by decide, by decide, (show (parseMethodDescriptor "(I)I").map (fun d => d.parameters.length) = some 1 from by decide +kernel)⟩ ⟨rfl, rfl, (Nat.le_of_ble_eq_true rfl), (Nat.le_of_ble_eq_true rfl)⟩ (Nat.le_of_ble_eq_true rfl) ⟨(Nat.le_of_ble_eq_true rfl), (Nat.le_of_ble_eq_true rfl)⟩ dJ2_ensureCapacityInternal_24 (fun r3 u4 h => ?_)
    refine v_eqw (ws1 := ([(i, .inr (14, [.ref y, .int co, .int ml, .int ct]))] ++ ([(y, .inl (dB_ D, n, .inl f))] ++ []))) (by simp only [List.append_assoc, List.nil_append, List.append_nil]) ?_
    refine v_aload_n 27 hF dJ2_ensureCapacityInternal_27 rfl 0 rfl ?_
    refine v_getO 28 hF in_J3 0 rfl rfl 1 (Nat.le_of_ble_eq_true rfl) q310 rfl dJ2_ensureCapacityInternal_28 ?_
    refine v_ishl 31 hF dJ2_ensureCapacityInternal_31 ?_
    refine v_callSr (As := [.ref y, .int ((r3 <<< (co &&& 31)))]) (wr := ([(i, .inr (14, [.ref y, .int co, .int ml, .int ct]))] ++ [])) 32 hF (c_J12_copyOf_3 l D y n f ((r3 <<< (co &&& 31))) _ h) ((((((List.Perm.refl _)).append_left _).trans (pm_sw _ _ _))).trans (List.Perm.of_eq (by simp only [List.append_assoc, List.nil_append, List.append_nil]))) q1427 q1428 q91 q1429 ds_J12_copyOf_3 ⟨rfl, rfl, (Nat.le_of_ble_eq_true rfl), (Nat.le_of_ble_eq_true rfl)⟩ (Nat.le_of_ble_eq_true rfl) ⟨(Nat.le_of_ble_eq_true rfl), (Nat.le_of_ble_eq_true rfl)⟩ dJ2_ensureCapacityInternal_32 (fun u5 h => ?_)
    refine v_eqw (ws1 := ([(y, .inl (dB_ D, n, .inl f))] ++ ([(u5.1, .inl (dB_ D, (u5.2.1), .inl (u5.2.2)))] ++ ([(i, .inr (14, [.ref y, .int co, .int ml, .int ct]))] ++ [])))) (by simp only [List.append_assoc, List.nil_append, List.append_nil]) ?_
    refine v_perm (ws' := ([(i, .inr (14, [.ref y, .int co, .int ml, .int ct]))] ++ ([(y, .inl (dB_ D, n, .inl f))] ++ ([(u5.1, .inl (dB_ D, (u5.2.1), .inl (u5.2.2)))] ++ [])))) (((((((List.Perm.refl _)).append_left _).trans (pm_sw _ _ _))).append_left _).trans (pm_sw _ _ _)) ?_
    refine v_putO ([(i, .inr (14, [.ref (u5.1), .int co, .int ml, .int ct]))] ++ ([(y, .inl (dB_ D, n, .inl f))] ++ ([(u5.1, .inl (dB_ D, (u5.2.1), .inl (u5.2.2)))] ++ []))) 35 hF in_J3 tyJ3_ok nmJ3 0 rfl rfl 0 (Nat.le_of_ble_eq_true rfl) q309 rfl rfl rfl rfl (Nat.le_of_ble_eq_true rfl) rfl dJ2_ensureCapacityInternal_35 ?_
    refine v_perm (ws' := ([(i, .inr (14, [.ref (u5.1), .int co, .int ml, .int ct]))] ++ ([(u5.1, .inl (dB_ D, (u5.2.1), .inl (u5.2.2)))] ++ ([(y, .inl (dB_ D, n, .inl f))] ++ [])))) ((((((List.Perm.refl _)).append_left _).trans (pm_sw _ _ _))).append_left _) ?_
    refine v_dropS (ws' := ([(i, .inr (14, [.ref (u5.1), .int co, .int ml, .int ct]))] ++ ([(u5.1, .inl (dB_ D, (u5.2.1), .inl (u5.2.2)))] ++ []))) (List.Sublist.append (List.Sublist.refl _) (List.Sublist.append (List.Sublist.refl _) (List.nil_sublist _))) ?_
    exact v_vret (u := (u5.1, co, ml, ct, (u5.2.1), (u5.2.2))) 38 hF hR (Nat.le_of_ble_eq_true rfl) (Nat.le_of_ble_eq_true rfl) dJ2_ensureCapacityInternal_38 h
def w_J2_inflate (i : Nat) (y : Nat) (co : Int32) (ml : Int32) (ct : Int32) (n : Nat) (f : Nat → Int32) (Q : (Nat × Int32 × Int32 × Int32 × Nat × (Nat → Int32)) → Prop) : Prop :=
  w_J2_isLatin1 i y co ml ct n f (fun r1 u2 => ((¬ r1 = 0 → w_J5_newBytesFor ((Int32.ofNat n)) (fun u4 => w_J23_inflate y n f (u4.1) (u4.2) (((fun _ => 0))) ((0 : Int32)) ((0 : Int32)) ct (fun u5 => Q ((u4.1, (1 : Int32), ml, ct, (u4.2), u5))))) ∧ (r1 = 0 → Q ((y, co, ml, ct, n, f)))))
theorem ds_J2_inflate : yJ2_inflate.cls = yJ2_inflate.cls ∧ yJ2_inflate.cls ≠ "java/lang/invoke/MethodHandle" ∧ yJ2_inflate.cls ≠ "java/lang/invoke/VarHandle" ∧ (parseMethodDescriptor yJ2_inflate.desc).map (fun d => d.parameters.length) = some 0 := by decide +kernel
set_option maxHeartbeats 4000000 in
theorem c_J2_inflate (l : Launch) (D : va_G) (i : Nat) (y : Nat) (co : Int32) (ml : Int32) (ct : Int32) (n : Nat) (f : Nat → Int32) (Q : (Nat × Int32 × Int32 × Int32 × Nat × (Nat → Int32)) → Prop) (h : w_J2_inflate i y co ml ct n f Q) : Ctv l D yJ2_inflate cJ2_inflate 2 (rmk 5 1 200 116) [.ref i] ([(i, .inr (14, [.ref y, .int co, .int ml, .int ct]))] ++ ([(y, .inl (dB_ D, n, .inl f))] ++ [])) (fun u : Nat × Int32 × Int32 × Int32 × Nat × (Nat → Int32) => ([(i, .inr (14, [.ref (u.1), .int (u.2.1), .int (u.2.2.1), .int (u.2.2.2.1)]))] ++ ([(u.1, .inl (dB_ D, u.2.2.2.2.1, .inl u.2.2.2.2.2))] ++ []))) Q 1 200 := by
  refine Ctv.of (by decide) (Nat.le_of_ble_eq_true rfl) (fun x hF hR => ?_)
  replace hF : vF x l D "java/lang/AbstractStringBuilder" cJ2_inflate (rmk 5 1 200 116) 2 none := hF
  unfold w_J2_inflate at h
  refine v_aload_n 0 hF dJ2_inflate_0 rfl 0 rfl ?_
  refine v_callUi (As := []) (x0 := ({ cls := "java/lang/AbstractStringBuilder", name := "isLatin1", desc := "()Z" } : Jvm.MethodName)) (b := i) (wr := ([])) 1 hF (c_J2_isLatin1 l D i y co ml ct n f _ h) (((List.Perm.refl _)).trans (List.Perm.of_eq (by simp only [List.append_assoc, List.nil_append, List.append_nil]))) ⟨0, 14, _, TJ3, 4, rfl, rfl⟩ q1437 q1438 (fun s args hts _ => vUx.of2 (args := args) (by decide) (asb_cls hts) (hts _ q1438) (hts _ q1441)) (fun s args hts _ => hts _ q1440) q75 q1441 ⟨by decide, by decide, (show (parseMethodDescriptor "()Z").map (fun d => d.parameters.length) = some 0 from by decide +kernel)⟩ ⟨rfl, rfl, (Nat.le_of_ble_eq_true rfl), (Nat.le_of_ble_eq_true rfl)⟩ (Nat.le_of_ble_eq_true rfl) ⟨(Nat.le_of_ble_eq_true rfl), (Nat.le_of_ble_eq_true rfl)⟩ dJ2_inflate_1 (fun r1 u2 h => ?_)
  refine v_eqw (ws1 := ([(i, .inr (14, [.ref y, .int co, .int ml, .int ct]))] ++ ([(y, .inl (dB_ D, n, .inl f))] ++ []))) (by simp only [List.append_assoc, List.nil_append, List.append_nil]) ?_
  refine v_if_ne 4 8 hF dJ2_inflate_4 (by decide) (fun c3 => ?_) (fun c3 => ?_)
  · replace h := h.1 c3
    refine v_aload_n 8 hF dJ2_inflate_8 rfl 0 rfl ?_
    refine v_getO 9 hF in_J3 0 rfl rfl 0 (Nat.le_of_ble_eq_true rfl) q309 rfl dJ2_inflate_9 ?_
    refine v_alen (v := Int32.ofNat n) 12 hF 1 4 rfl rfl rfl dJ2_inflate_12 ?_
    refine v_callSr (As := [.int ((Int32.ofNat n))]) (wr := ([(i, .inr (14, [.ref y, .int co, .int ml, .int ct]))] ++ ([(y, .inl (dB_ D, n, .inl f))] ++ []))) 13 hF (c_J5_newBytesFor l D ((Int32.ofNat n)) _ h) (((List.Perm.refl _)).trans (List.Perm.of_eq (by simp only [List.append_assoc, List.nil_append, List.append_nil]))) q302 q303 q78 q304 ds_J5_newBytesFor ⟨rfl, rfl, (Nat.le_of_ble_eq_true rfl), (Nat.le_of_ble_eq_true rfl)⟩ (Nat.le_of_ble_eq_true rfl) ⟨(Nat.le_of_ble_eq_true rfl), (Nat.le_of_ble_eq_true rfl)⟩ dJ2_inflate_13 (fun u4 h => ?_)
    refine v_eqw (ws1 := ([(u4.1, .inl (dB_ D, (u4.2), .inl ((fun _ => 0))))] ++ ([(i, .inr (14, [.ref y, .int co, .int ml, .int ct]))] ++ ([(y, .inl (dB_ D, n, .inl f))] ++ [])))) (by simp only [List.append_assoc, List.nil_append, List.append_nil]) ?_
    refine v_perm (ws' := ([(i, .inr (14, [.ref y, .int co, .int ml, .int ct]))] ++ ([(y, .inl (dB_ D, n, .inl f))] ++ ([(u4.1, .inl (dB_ D, (u4.2), .inl ((fun _ => 0))))] ++ [])))) (((((List.Perm.refl _)).append_left _).trans (pm_sw _ _ _)).trans ((((((List.Perm.refl _)).append_left _).trans (pm_sw _ _ _))).append_left _)) ?_
    refine v_astore_n [(0, .ref i), (1, .ref (u4.1))] [1, 0] 16 hF dJ2_inflate_16 rfl (Nat.le_of_ble_eq_true rfl) rfl ?_
    refine v_aload_n 17 hF dJ2_inflate_17 rfl 0 rfl ?_
    refine v_getO 18 hF in_J3 0 rfl rfl 0 (Nat.le_of_ble_eq_true rfl) q309 rfl dJ2_inflate_18 ?_
    refine v_iconst (v := 0) 21 hF dJ2_inflate_21 (by decide) ?_
    refine v_aload_n 22 hF dJ2_inflate_22 rfl 1 rfl ?_
    refine v_iconst (v := 0) 23 hF dJ2_inflate_23 (by decide) ?_
    refine v_aload_n 24 hF dJ2_inflate_24 rfl 0 rfl ?_
    refine v_getO 25 hF in_J3 0 rfl rfl 3 (Nat.le_of_ble_eq_true rfl) q313 rfl dJ2_inflate_25 ?_
    refine v_callSv (As := [.ref y, .int ((0 : Int32)), .ref (u4.1), .int ((0 : Int32)), .int ct]) (wr := ([(i, .inr (14, [.ref y, .int co, .int ml, .int ct]))] ++ [])) 28 hF (c_J23_inflate l D y n f (u4.1) (u4.2) (((fun _ => 0))) ((0 : Int32)) ((0 : Int32)) ct _ h) (((((((List.Perm.refl _)).append_left _).trans (pm_sw _ _ _)).trans ((((((List.Perm.refl _)).append_left _).trans (pm_sw _ _ _))).append_left _))).trans (List.Perm.of_eq (by simp only [List.append_assoc, List.nil_append, List.append_nil]))) q1449 q1450 q107 q1451 ds_J23_inflate ⟨rfl, rfl, (Nat.le_of_ble_eq_true rfl), (Nat.le_of_ble_eq_true rfl)⟩ (Nat.le_of_ble_eq_true rfl) ⟨(Nat.le_of_ble_eq_true rfl), (Nat.le_of_ble_eq_true rfl)⟩ dJ2_inflate_28 (fun u5 h => ?_)
    refine v_eqw (ws1 := ([(y, .inl (dB_ D, n, .inl f))] ++ ([(u4.1, .inl (dB_ D, (u4.2), .inl u5))] ++ ([(i, .inr (14, [.ref y, .int co, .int ml, .int ct]))] ++ [])))) (by simp only [List.append_assoc, List.nil_append, List.append_nil]) ?_
    refine v_perm (ws' := ([(i, .inr (14, [.ref y, .int co, .int ml, .int ct]))] ++ ([(y, .inl (dB_ D, n, .inl f))] ++ ([(u4.1, .inl (dB_ D, (u4.2), .inl u5))] ++ [])))) (((((((List.Perm.refl _)).append_left _).trans (pm_sw _ _ _))).append_left _).trans (pm_sw _ _ _)) ?_
    refine v_aload_n 31 hF dJ2_inflate_31 rfl 0 rfl ?_
    refine v_aload_n 32 hF dJ2_inflate_32 rfl 1 rfl ?_
    refine v_putO ([(i, .inr (14, [.ref (u4.1), .int co, .int ml, .int ct]))] ++ ([(y, .inl (dB_ D, n, .inl f))] ++ ([(u4.1, .inl (dB_ D, (u4.2), .inl u5))] ++ []))) 33 hF in_J3 tyJ3_ok nmJ3 0 rfl rfl 0 (Nat.le_of_ble_eq_true rfl) q309 rfl rfl rfl rfl (Nat.le_of_ble_eq_true rfl) rfl dJ2_inflate_33 ?_
    refine v_aload_n 36 hF dJ2_inflate_36 rfl 0 rfl ?_
    refine v_iconst (v := 1) 37 hF dJ2_inflate_37 (by decide) ?_
    refine v_putO ([(i, .inr (14, [.ref (u4.1), .int ((1 : Int32)), .int ml, .int ct]))] ++ ([(y, .inl (dB_ D, n, .inl f))] ++ ([(u4.1, .inl (dB_ D, (u4.2), .inl u5))] ++ []))) 38 hF in_J3 tyJ3_ok nmJ3 0 rfl rfl 1 (Nat.le_of_ble_eq_true rfl) q310 rfl rfl rfl rfl (Nat.le_of_ble_eq_true rfl) rfl dJ2_inflate_38 ?_
    refine v_perm (ws' := ([(i, .inr (14, [.ref (u4.1), .int ((1 : Int32)), .int ml, .int ct]))] ++ ([(u4.1, .inl (dB_ D, (u4.2), .inl u5))] ++ ([(y, .inl (dB_ D, n, .inl f))] ++ [])))) ((((((List.Perm.refl _)).append_left _).trans (pm_sw _ _ _))).append_left _) ?_
    refine v_dropS (ws' := ([(i, .inr (14, [.ref (u4.1), .int ((1 : Int32)), .int ml, .int ct]))] ++ ([(u4.1, .inl (dB_ D, (u4.2), .inl u5))] ++ []))) (List.Sublist.append (List.Sublist.refl _) (List.Sublist.append (List.Sublist.refl _) (List.nil_sublist _))) ?_
    exact v_vret (u := (u4.1, (1 : Int32), ml, ct, (u4.2), u5)) 41 hF hR (Nat.le_of_ble_eq_true rfl) (Nat.le_of_ble_eq_true rfl) dJ2_inflate_41 h
  · replace h := h.2 c3
    exact v_vret (u := (y, co, ml, ct, n, f)) 7 hF hR (Nat.le_of_ble_eq_true rfl) (Nat.le_of_ble_eq_true rfl) dJ2_inflate_7 h
def w_J2_append (i : Nat) (y : Nat) (co : Int32) (ml : Int32) (ct : Int32) (n : Nat) (f : Nat → Int32) (x1 : Int32) (Q : (Nat × Int32 × Int32 × Int32 × Nat × (Nat → Int32)) → Prop) : Prop :=
  w_J2_ensureCapacityInternal i y co ml ct n f ((ct + (1 : Int32))) (fun u1 => w_J2_isLatin1 i (u1.1) (u1.2.1) (u1.2.2.1) (u1.2.2.2.1) (u1.2.2.2.2.1) (u1.2.2.2.2.2) (fun r2 u3 => ((r2 = 0 → w_J2_isLatin1 i (u1.1) (u1.2.1) (u1.2.2.1) (u1.2.2.2.1) (u1.2.2.2.2.1) (u1.2.2.2.2.2) (fun r5 u6 => ((r5 = 0 → ∀ y8 : Int32, y8 = u1.2.2.2.1 → ∀ y9 : Int32, y9 = (y8 + (1 : Int32)) → w_J5_putCharSB (u1.1) (u1.2.2.2.2.1) (u1.2.2.2.2.2) y8 x1 (fun u10 => Q ((u1.1, u1.2.1, u1.2.2.1, y9, (u1.2.2.2.2.1), u10)))) ∧ (¬ r5 = 0 → w_J2_inflate i (u1.1) (u1.2.1) (u1.2.2.1) (u1.2.2.2.1) (u1.2.2.2.2.1) (u1.2.2.2.2.2) (fun u11 => ∀ y12 : Int32, y12 = u11.2.2.2.1 → ∀ y13 : Int32, y13 = (y12 + (1 : Int32)) → w_J5_putCharSB (u11.1) (u11.2.2.2.2.1) (u11.2.2.2.2.2) y12 x1 (fun u14 => Q ((u11.1, u11.2.1, u11.2.2.1, y13, (u11.2.2.2.2.1), u14)))))))) ∧ (¬ r2 = 0 → w_J23_canEncode x1 (fun r15 u16 => ((r15 = 0 → w_J2_isLatin1 i (u1.1) (u1.2.1) (u1.2.2.1) (u1.2.2.2.1) (u1.2.2.2.2.1) (u1.2.2.2.2.2) (fun r18 u19 => ((r18 = 0 → ∀ y21 : Int32, y21 = u1.2.2.2.1 → ∀ y22 : Int32, y22 = (y21 + (1 : Int32)) → w_J5_putCharSB (u1.1) (u1.2.2.2.2.1) (u1.2.2.2.2.2) y21 x1 (fun u23 => Q ((u1.1, u1.2.1, u1.2.2.1, y22, (u1.2.2.2.2.1), u23)))) ∧ (¬ r18 = 0 → w_J2_inflate i (u1.1) (u1.2.1) (u1.2.2.1) (u1.2.2.2.1) (u1.2.2.2.2.1) (u1.2.2.2.2.2) (fun u24 => ∀ y25 : Int32, y25 = u24.2.2.2.1 → ∀ y26 : Int32, y26 = (y25 + (1 : Int32)) → w_J5_putCharSB (u24.1) (u24.2.2.2.2.1) (u24.2.2.2.2.2) y25 x1 (fun u27 => Q ((u24.1, u24.2.1, u24.2.2.1, y26, (u24.2.2.2.2.1), u27)))))))) ∧ (¬ r15 = 0 → ∀ y28 : Int32, y28 = u1.2.2.2.1 → ∀ y29 : Int32, y29 = (y28 + (1 : Int32)) → ∀ y30 : Int32, y30 = x1.toInt8.toInt32 → vp_in y28 (u1.2.2.2.2.1) ∧ ∀ f32 : Nat → Int32, f32 = upd (u1.2.2.2.2.2) y28.toNatClampNeg (vp_nar .byte y30) → Q ((u1.1, u1.2.1, u1.2.2.1, y29, (u1.2.2.2.2.1), f32)))))))))
theorem ds_J2_append : yJ2_append.cls = yJ2_append.cls ∧ yJ2_append.cls ≠ "java/lang/invoke/MethodHandle" ∧ yJ2_append.cls ≠ "java/lang/invoke/VarHandle" ∧ (parseMethodDescriptor yJ2_append.desc).map (fun d => d.parameters.length) = some 1 := by decide +kernel
set_option maxHeartbeats 4000000 in
theorem c_J2_append (l : Launch) (D : va_G) (i : Nat) (y : Nat) (co : Int32) (ml : Int32) (ct : Int32) (n : Nat) (f : Nat → Int32) (x1 : Int32) (Q : (Nat × Int32 × Int32 × Int32 × Nat × (Nat → Int32)) → Prop) (h : w_J2_append i y co ml ct n f x1 Q) : Ctr l D yJ2_append cJ2_append 2 (.object "java/lang/AbstractStringBuilder") (rmk 6 2 400 137) [.ref i, .int x1] ([(i, .inr (14, [.ref y, .int co, .int ml, .int ct]))] ++ ([(y, .inl (dB_ D, n, .inl f))] ++ [])) (fun u : Nat × Int32 × Int32 × Int32 × Nat × (Nat → Int32) => ([(i, .inr (14, [.ref (u.1), .int (u.2.1), .int (u.2.2.1), .int (u.2.2.2.1)]))] ++ ([(u.1, .inl (dB_ D, u.2.2.2.2.1, .inl u.2.2.2.2.2))] ++ []))) (fun u : Nat × Int32 × Int32 × Int32 × Nat × (Nat → Int32) => i) Q 2 400 := by
  refine Ctr.of (by decide) (Nat.le_of_ble_eq_true rfl) (fun x hF hR => ?_)
  replace hF : vF x l D "java/lang/AbstractStringBuilder" cJ2_append (rmk 6 2 400 137) 2 (some (.object "java/lang/AbstractStringBuilder")) := hF
  unfold w_J2_append at h
  refine v_aload_n 0 hF dJ2_append_0 rfl 0 rfl ?_
  refine v_aload_n 1 hF dJ2_append_1 rfl 0 rfl ?_
  refine v_getO 2 hF in_J3 0 rfl rfl 3 (Nat.le_of_ble_eq_true rfl) q313 rfl dJ2_append_2 ?_
  refine v_iconst (v := 1) 5 hF dJ2_append_5 (by decide) ?_
  refine v_iadd 6 hF dJ2_append_6 ?_
  refine v_callUv (As := [.int ((ct + (1 : Int32)))]) (x0 := ({ cls := "java/lang/AbstractStringBuilder", name := "ensureCapacityInternal", desc := "(I)V" } : Jvm.MethodName)) (b := i) (wr := ([])) 7 hF (c_J2_ensureCapacityInternal l D i y co ml ct n f ((ct + (1 : Int32))) _ h) (((List.Perm.refl _)).trans (List.Perm.of_eq (by simp only [List.append_assoc, List.nil_append, List.append_nil]))) ⟨0, 14, _, TJ3, 4, rfl, rfl⟩ q1410 q1412 (fun s args hts _ => vUx.of2 (args := args) (by decide) (asb_cls hts) (hts _ q1412) (hts _ q1413)) (fun s args hts hE => sel_priv (hE.1.1 14 (RJ3, TJ3, 4) rfl).2.1 (va_Nw.use rfl (hE.2.1 _ q1411 rfl)) (hts _ q1413) (asb_cls hts) (by decide)) q75 q1413 ⟨by decide, by decide, (show (parseMethodDescriptor "(I)V").map (fun d => d.parameters.length) = some 1 from by decide +kernel)⟩ ⟨rfl, rfl, (Nat.le_of_ble_eq_true rfl), (Nat.le_of_ble_eq_true rfl)⟩ (Nat.le_of_ble_eq_true rfl) ⟨(Nat.le_of_ble_eq_true rfl), (Nat.le_of_ble_eq_true rfl)⟩ dJ2_append_7 (fun u1 h => ?_)
  refine v_eqw (ws1 := ([(i, .inr (14, [.ref (u1.1), .int (u1.2.1), .int (u1.2.2.1), .int (u1.2.2.2.1)]))] ++ ([(u1.1, .inl (dB_ D, (u1.2.2.2.2.1), .inl (u1.2.2.2.2.2)))] ++ []))) (by simp only [List.append_assoc, List.nil_append, List.append_nil]) ?_
  refine v_aload_n 10 hF dJ2_append_10 rfl 0 rfl ?_
  refine v_callUi (As := []) (x0 := ({ cls := "java/lang/AbstractStringBuilder", name := "isLatin1", desc := "()Z" } : Jvm.MethodName)) (b := i) (wr := ([])) 11 hF (c_J2_isLatin1 l D i (u1.1) (u1.2.1) (u1.2.2.1) (u1.2.2.2.1) (u1.2.2.2.2.1) (u1.2.2.2.2.2) _ h) (((List.Perm.refl _)).trans (List.Perm.of_eq (by simp only [List.append_assoc, List.nil_append, List.append_nil]))) ⟨0, 14, _, TJ3, 4, rfl, rfl⟩ q1437 q1438 (fun s args hts _ => vUx.of2 (args := args) (by decide) (asb_cls hts) (hts _ q1438) (hts _ q1441)) (fun s args hts _ => hts _ q1440) q75 q1441 ⟨by decide, by decide, (show (parseMethodDescriptor "()Z").map (fun d => d.parameters.length) = some 0 from by decide +kernel)⟩ ⟨rfl, rfl, (Nat.le_of_ble_eq_true rfl), (Nat.le_of_ble_eq_true rfl)⟩ (Nat.le_of_ble_eq_true rfl) ⟨(Nat.le_of_ble_eq_true rfl), (Nat.le_of_ble_eq_true rfl)⟩ dJ2_append_11 (fun r2 u3 h => ?_)
  refine v_eqw (ws1 := ([(i, .inr (14, [.ref (u1.1), .int (u1.2.1), .int (u1.2.2.1), .int (u1.2.2.2.1)]))] ++ ([(u1.1, .inl (dB_ D, (u1.2.2.2.2.1), .inl (u1.2.2.2.2.2)))] ++ []))) (by simp only [List.append_assoc, List.nil_append, List.append_nil]) ?_
  refine v_if_eq 14 45 hF dJ2_append_14 (by decide) (fun c4 => ?_) (fun c4 => ?_)
  · replace h := h.1 c4
    refine v_aload_n 45 hF dJ2_append_45 rfl 0 rfl ?_
    refine v_callUi (As := []) (x0 := ({ cls := "java/lang/AbstractStringBuilder", name := "isLatin1", desc := "()Z" } : Jvm.MethodName)) (b := i) (wr := ([])) 46 hF (c_J2_isLatin1 l D i (u1.1) (u1.2.1) (u1.2.2.1) (u1.2.2.2.1) (u1.2.2.2.2.1) (u1.2.2.2.2.2) _ h) (((List.Perm.refl _)).trans (List.Perm.of_eq (by simp only [List.append_assoc, List.nil_append, List.append_nil]))) ⟨0, 14, _, TJ3, 4, rfl, rfl⟩ q1437 q1438 (fun s args hts _ => vUx.of2 (args := args) (by decide) (asb_cls hts) (hts _ q1438) (hts _ q1441)) (fun s args hts _ => hts _ q1440) q75 q1441 ⟨by decide, by decide, (show (parseMethodDescriptor "()Z").map (fun d => d.parameters.length) = some 0 from by decide +kernel)⟩ ⟨rfl, rfl, (Nat.le_of_ble_eq_true rfl), (Nat.le_of_ble_eq_true rfl)⟩ (Nat.le_of_ble_eq_true rfl) ⟨(Nat.le_of_ble_eq_true rfl), (Nat.le_of_ble_eq_true rfl)⟩ dJ2_append_46 (fun r5 u6 h => ?_)
    refine v_eqw (ws1 := ([(i, .inr (14, [.ref (u1.1), .int (u1.2.1), .int (u1.2.2.1), .int (u1.2.2.2.1)]))] ++ ([(u1.1, .inl (dB_ D, (u1.2.2.2.2.1), .inl (u1.2.2.2.2.2)))] ++ []))) (by simp only [List.append_assoc, List.nil_append, List.append_nil]) ?_
    refine v_if_eq 49 56 hF dJ2_append_49 (by decide) (fun c7 => ?_) (fun c7 => ?_)
    · replace h := h.1 c7
      refine v_aload_n 56 hF dJ2_append_56 rfl 0 rfl ?_
      refine v_getO 57 hF in_J3 0 rfl rfl 0 (Nat.le_of_ble_eq_true rfl) q309 rfl dJ2_append_57 ?_
      refine v_aload_n 60 hF dJ2_append_60 rfl 0 rfl ?_
      refine v_dup 61 hF dJ2_append_61 rfl ?_
      refine v_getO 62 hF in_J3 0 rfl rfl 3 (Nat.le_of_ble_eq_true rfl) q313 rfl dJ2_append_62 ?_
      refine v_nm (fun y8 ey8 => ?_)
      replace h := h y8 ey8
      refine v_dup_x1 65 hF dJ2_append_65 rfl rfl ?_
      refine v_iconst (v := 1) 66 hF dJ2_append_66 (by decide) ?_
      refine v_iadd 67 hF dJ2_append_67 ?_
      refine v_nm (fun y9 ey9 => ?_)
      replace h := h y9 ey9
      refine v_putO ([(i, .inr (14, [.ref (u1.1), .int (u1.2.1), .int (u1.2.2.1), .int y9]))] ++ ([(u1.1, .inl (dB_ D, (u1.2.2.2.2.1), .inl (u1.2.2.2.2.2)))] ++ [])) 68 hF in_J3 tyJ3_ok nmJ3 0 rfl rfl 3 (Nat.le_of_ble_eq_true rfl) q313 rfl rfl rfl rfl (Nat.le_of_ble_eq_true rfl) rfl dJ2_append_68 ?_
      refine v_iload_n 71 hF dJ2_append_71 rfl 1 rfl ?_
      refine v_callSv (As := [.ref (u1.1), .int y8, .int x1]) (wr := ([(i, .inr (14, [.ref (u1.1), .int (u1.2.1), .int (u1.2.2.1), .int y9]))] ++ [])) 72 hF (c_J5_putCharSB l D (u1.1) (u1.2.2.2.2.1) (u1.2.2.2.2.2) y8 x1 _ h) ((((((List.Perm.refl _)).append_left _).trans (pm_sw _ _ _))).trans (List.Perm.of_eq (by simp only [List.append_assoc, List.nil_append, List.append_nil]))) q1478 q1479 q78 q1480 ds_J5_putCharSB ⟨rfl, rfl, (Nat.le_of_ble_eq_true rfl), (Nat.le_of_ble_eq_true rfl)⟩ (Nat.le_of_ble_eq_true rfl) ⟨(Nat.le_of_ble_eq_true rfl), (Nat.le_of_ble_eq_true rfl)⟩ dJ2_append_72 (fun u10 h => ?_)
      refine v_eqw (ws1 := ([(u1.1, .inl (dB_ D, (u1.2.2.2.2.1), .inl u10))] ++ ([(i, .inr (14, [.ref (u1.1), .int (u1.2.1), .int (u1.2.2.1), .int y9]))] ++ []))) (by simp only [List.append_assoc, List.nil_append, List.append_nil]) ?_
      refine v_perm (ws' := ([(i, .inr (14, [.ref (u1.1), .int (u1.2.1), .int (u1.2.2.1), .int y9]))] ++ ([(u1.1, .inl (dB_ D, (u1.2.2.2.2.1), .inl u10))] ++ []))) ((((List.Perm.refl _)).append_left _).trans (pm_sw _ _ _)) ?_
      refine v_aload_n 75 hF dJ2_append_75 rfl 0 rfl ?_
      exact v_aret (u := (u1.1, u1.2.1, u1.2.2.1, y9, (u1.2.2.2.2.1), u10)) 76 hF (Or.inl ⟨_, rfl⟩) hR (Nat.le_of_ble_eq_true rfl) (Nat.le_of_ble_eq_true rfl) dJ2_append_76 rfl h
    · replace h := h.2 c7
      refine v_aload_n 52 hF dJ2_append_52 rfl 0 rfl ?_
      refine v_callUv (As := []) (x0 := ({ cls := "java/lang/AbstractStringBuilder", name := "inflate", desc := "()V" } : Jvm.MethodName)) (b := i) (wr := ([])) 53 hF (c_J2_inflate l D i (u1.1) (u1.2.1) (u1.2.2.1) (u1.2.2.2.1) (u1.2.2.2.2.1) (u1.2.2.2.2.2) _ h) (((List.Perm.refl _)).trans (List.Perm.of_eq (by simp only [List.append_assoc, List.nil_append, List.append_nil]))) ⟨0, 14, _, TJ3, 4, rfl, rfl⟩ q1445 q1447 (fun s args hts _ => vUx.of2 (args := args) (by decide) (asb_cls hts) (hts _ q1447) (hts _ q1448)) (fun s args hts hE => sel_priv (hE.1.1 14 (RJ3, TJ3, 4) rfl).2.1 (va_Nw.use rfl (hE.2.1 _ q1446 rfl)) (hts _ q1448) (asb_cls hts) (by decide)) q75 q1448 ⟨by decide, by decide, (show (parseMethodDescriptor "()V").map (fun d => d.parameters.length) = some 0 from by decide +kernel)⟩ ⟨rfl, rfl, (Nat.le_of_ble_eq_true rfl), (Nat.le_of_ble_eq_true rfl)⟩ (Nat.le_of_ble_eq_true rfl) ⟨(Nat.le_of_ble_eq_true rfl), (Nat.le_of_ble_eq_true rfl)⟩ dJ2_append_53 (fun u11 h => ?_)
      refine v_eqw (ws1 := ([(i, .inr (14, [.ref (u11.1), .int (u11.2.1), .int (u11.2.2.1), .int (u11.2.2.2.1)]))] ++ ([(u11.1, .inl (dB_ D, (u11.2.2.2.2.1), .inl (u11.2.2.2.2.2)))] ++ []))) (by simp only [List.append_assoc, List.nil_append, List.append_nil]) ?_
      refine v_aload_n 56 hF dJ2_append_56 rfl 0 rfl ?_
      refine v_getO 57 hF in_J3 0 rfl rfl 0 (Nat.le_of_ble_eq_true rfl) q309 rfl dJ2_append_57 ?_
      refine v_aload_n 60 hF dJ2_append_60 rfl 0 rfl ?_
      refine v_dup 61 hF dJ2_append_61 rfl ?_
      refine v_getO 62 hF in_J3 0 rfl rfl 3 (Nat.le_of_ble_eq_true rfl) q313 rfl dJ2_append_62 ?_
      refine v_nm (fun y12 ey12 => ?_)
      replace h := h y12 ey12
      refine v_dup_x1 65 hF dJ2_append_65 rfl rfl ?_
      refine v_iconst (v := 1) 66 hF dJ2_append_66 (by decide) ?_
      refine v_iadd 67 hF dJ2_append_67 ?_
      refine v_nm (fun y13 ey13 => ?_)
      replace h := h y13 ey13
      refine v_putO ([(i, .inr (14, [.ref (u11.1), .int (u11.2.1), .int (u11.2.2.1), .int y13]))] ++ ([(u11.1, .inl (dB_ D, (u11.2.2.2.2.1), .inl (u11.2.2.2.2.2)))] ++ [])) 68 hF in_J3 tyJ3_ok nmJ3 0 rfl rfl 3 (Nat.le_of_ble_eq_true rfl) q313 rfl rfl rfl rfl (Nat.le_of_ble_eq_true rfl) rfl dJ2_append_68 ?_
      refine v_iload_n 71 hF dJ2_append_71 rfl 1 rfl ?_
      refine v_callSv (As := [.ref (u11.1), .int y12, .int x1]) (wr := ([(i, .inr (14, [.ref (u11.1), .int (u11.2.1), .int (u11.2.2.1), .int y13]))] ++ [])) 72 hF (c_J5_putCharSB l D (u11.1) (u11.2.2.2.2.1) (u11.2.2.2.2.2) y12 x1 _ h) ((((((List.Perm.refl _)).append_left _).trans (pm_sw _ _ _))).trans (List.Perm.of_eq (by simp only [List.append_assoc, List.nil_append, List.append_nil]))) q1478 q1479 q78 q1480 ds_J5_putCharSB ⟨rfl, rfl, (Nat.le_of_ble_eq_true rfl), (Nat.le_of_ble_eq_true rfl)⟩ (Nat.le_of_ble_eq_true rfl) ⟨(Nat.le_of_ble_eq_true rfl), (Nat.le_of_ble_eq_true rfl)⟩ dJ2_append_72 (fun u14 h => ?_)
      refine v_eqw (ws1 := ([(u11.1, .inl (dB_ D, (u11.2.2.2.2.1), .inl u14))] ++ ([(i, .inr (14, [.ref (u11.1), .int (u11.2.1), .int (u11.2.2.1), .int y13]))] ++ []))) (by simp only [List.append_assoc, List.nil_append, List.append_nil]) ?_
      refine v_perm (ws' := ([(i, .inr (14, [.ref (u11.1), .int (u11.2.1), .int (u11.2.2.1), .int y13]))] ++ ([(u11.1, .inl (dB_ D, (u11.2.2.2.2.1), .inl u14))] ++ []))) ((((List.Perm.refl _)).append_left _).trans (pm_sw _ _ _)) ?_
      refine v_aload_n 75 hF dJ2_append_75 rfl 0 rfl ?_
      exact v_aret (u := (u11.1, u11.2.1, u11.2.2.1, y13, (u11.2.2.2.2.1), u14)) 76 hF (Or.inl ⟨_, rfl⟩) hR (Nat.le_of_ble_eq_true rfl) (Nat.le_of_ble_eq_true rfl) dJ2_append_76 rfl h
  · replace h := h.2 c4
    refine v_iload_n 17 hF dJ2_append_17 rfl 1 rfl ?_
    refine v_callSi (As := [.int x1]) (wr := ([(i, .inr (14, [.ref (u1.1), .int (u1.2.1), .int (u1.2.2.1), .int (u1.2.2.2.1)]))] ++ ([(u1.1, .inl (dB_ D, (u1.2.2.2.2.1), .inl (u1.2.2.2.2.2)))] ++ []))) 18 hF (c_J23_canEncode l D x1 _ h) (((List.Perm.refl _)).trans (List.Perm.of_eq (by simp only [List.append_assoc, List.nil_append, List.append_nil]))) q1442 q1443 q107 q1444 ds_J23_canEncode ⟨rfl, rfl, (Nat.le_of_ble_eq_true rfl), (Nat.le_of_ble_eq_true rfl)⟩ (Nat.le_of_ble_eq_true rfl) ⟨(Nat.le_of_ble_eq_true rfl), (Nat.le_of_ble_eq_true rfl)⟩ dJ2_append_18 (fun r15 u16 h => ?_)
    refine v_eqw (ws1 := ([(i, .inr (14, [.ref (u1.1), .int (u1.2.1), .int (u1.2.2.1), .int (u1.2.2.2.1)]))] ++ ([(u1.1, .inl (dB_ D, (u1.2.2.2.2.1), .inl (u1.2.2.2.2.2)))] ++ []))) (by simp only [List.append_assoc, List.nil_append, List.append_nil]) ?_
    refine v_if_eq 21 45 hF dJ2_append_21 (by decide) (fun c17 => ?_) (fun c17 => ?_)
    · replace h := h.1 c17
      refine v_aload_n 45 hF dJ2_append_45 rfl 0 rfl ?_
      refine v_callUi (As := []) (x0 := ({ cls := "java/lang/AbstractStringBuilder", name := "isLatin1", desc := "()Z" } : Jvm.MethodName)) (b := i) (wr := ([])) 46 hF (c_J2_isLatin1 l D i (u1.1) (u1.2.1) (u1.2.2.1) (u1.2.2.2.1) (u1.2.2.2.2.1) (u1.2.2.2.2.2) _ h) (((List.Perm.refl _)).trans (List.Perm.of_eq (by simp only [List.append_assoc, List.nil_append, List.append_nil]))) ⟨0, 14, _, TJ3, 4, rfl, rfl⟩ q1437 q1438 (fun s args hts _ => vUx.of2 (args := args) (by decide) (asb_cls hts) (hts _ q1438) (hts _ q1441)) (fun s args hts _ => hts _ q1440) q75 q1441 ⟨by decide, by decide, (show (parseMethodDescriptor "()Z").map (fun d => d.parameters.length) = some 0 from by decide +kernel)⟩ ⟨rfl, rfl, (Nat.le_of_ble_eq_true rfl), (Nat.le_of_ble_eq_true rfl)⟩ (Nat.le_of_ble_eq_true rfl) ⟨(Nat.le_of_ble_eq_true rfl), (Nat.le_of_ble_eq_true rfl)⟩ dJ2_append_46 (fun r18 u19 h => ?_)
      refine v_eqw (ws1 := ([(i, .inr (14, [.ref (u1.1), .int (u1.2.1), .int (u1.2.2.1), .int (u1.2.2.2.1)]))] ++ ([(u1.1, .inl (dB_ D, (u1.2.2.2.2.1), .inl (u1.2.2.2.2.2)))] ++ []))) (by simp only [List.append_assoc, List.nil_append, List.append_nil]) ?_
      refine v_if_eq 49 56 hF dJ2_append_49 (by decide) (fun c20 => ?_) (fun c20 => ?_)
      · replace h := h.1 c20
        refine v_aload_n 56 hF dJ2_append_56 rfl 0 rfl ?_
        refine v_getO 57 hF in_J3 0 rfl rfl 0 (Nat.le_of_ble_eq_true rfl) q309 rfl dJ2_append_57 ?_
        refine v_aload_n 60 hF dJ2_append_60 rfl 0 rfl ?_
        refine v_dup 61 hF dJ2_append_61 rfl ?_
        refine v_getO 62 hF in_J3 0 rfl rfl 3 (Nat.le_of_ble_eq_true rfl) q313 rfl dJ2_append_62 ?_
        refine v_nm (fun y21 ey21 => ?_)
        replace h := h y21 ey21
        refine v_dup_x1 65 hF dJ2_append_65 rfl rfl ?_
        refine v_iconst (v := 1) 66 hF dJ2_append_66 (by decide) ?_
        refine v_iadd 67 hF dJ2_append_67 ?_
        refine v_nm (fun y22 ey22 => ?_)
        replace h := h y22 ey22
        refine v_putO ([(i, .inr (14, [.ref (u1.1), .int (u1.2.1), .int (u1.2.2.1), .int y22]))] ++ ([(u1.1, .inl (dB_ D, (u1.2.2.2.2.1), .inl (u1.2.2.2.2.2)))] ++ [])) 68 hF in_J3 tyJ3_ok nmJ3 0 rfl rfl 3 (Nat.le_of_ble_eq_true rfl) q313 rfl rfl rfl rfl (Nat.le_of_ble_eq_true rfl) rfl dJ2_append_68 ?_
        refine v_iload_n 71 hF dJ2_append_71 rfl 1 rfl ?_
        refine v_callSv (As := [.ref (u1.1), .int y21, .int x1]) (wr := ([(i, .inr (14, [.ref (u1.1), .int (u1.2.1), .int (u1.2.2.1), .int y22]))] ++ [])) 72 hF (c_J5_putCharSB l D (u1.1) (u1.2.2.2.2.1) (u1.2.2.2.2.2) y21 x1 _ h) ((((((List.Perm.refl _)).append_left _).trans (pm_sw _ _ _))).trans (List.Perm.of_eq (by simp only [List.append_assoc, List.nil_append, List.append_nil]))) q1478 q1479 q78 q1480 ds_J5_putCharSB ⟨rfl, rfl, (Nat.le_of_ble_eq_true rfl), (Nat.le_of_ble_eq_true rfl)⟩ (Nat.le_of_ble_eq_true rfl) ⟨(Nat.le_of_ble_eq_true rfl), (Nat.le_of_ble_eq_true rfl)⟩ dJ2_append_72 (fun u23 h => ?_)
        refine v_eqw (ws1 := ([(u1.1, .inl (dB_ D, (u1.2.2.2.2.1), .inl u23))] ++ ([(i, .inr (14, [.ref (u1.1), .int (u1.2.1), .int (u1.2.2.1), .int y22]))] ++ []))) (by simp only [List.append_assoc, List.nil_append, List.append_nil]) ?_
        refine v_perm (ws' := ([(i, .inr (14, [.ref (u1.1), .int (u1.2.1), .int (u1.2.2.1), .int y22]))] ++ ([(u1.1, .inl (dB_ D, (u1.2.2.2.2.1), .inl u23))] ++ []))) ((((List.Perm.refl _)).append_left _).trans (pm_sw _ _ _)) ?_
        refine v_aload_n 75 hF dJ2_append_75 rfl 0 rfl ?_
        exact v_aret (u := (u1.1, u1.2.1, u1.2.2.1, y22, (u1.2.2.2.2.1), u23)) 76 hF (Or.inl ⟨_, rfl⟩) hR (Nat.le_of_ble_eq_true rfl) (Nat.le_of_ble_eq_true rfl) dJ2_append_76 rfl h
      · replace h := h.2 c20
        refine v_aload_n 52 hF dJ2_append_52 rfl 0 rfl ?_
        refine v_callUv (As := []) (x0 := ({ cls := "java/lang/AbstractStringBuilder", name := "inflate", desc := "()V" } : Jvm.MethodName)) (b := i) (wr := ([])) 53 hF (c_J2_inflate l D i (u1.1) (u1.2.1) (u1.2.2.1) (u1.2.2.2.1) (u1.2.2.2.2.1) (u1.2.2.2.2.2) _ h) (((List.Perm.refl _)).trans (List.Perm.of_eq (by simp only [List.append_assoc, List.nil_append, List.append_nil]))) ⟨0, 14, _, TJ3, 4, rfl, rfl⟩ q1445 q1447 (fun s args hts _ => vUx.of2 (args := args) (by decide) (asb_cls hts) (hts _ q1447) (hts _ q1448)) (fun s args hts hE => sel_priv (hE.1.1 14 (RJ3, TJ3, 4) rfl).2.1 (va_Nw.use rfl (hE.2.1 _ q1446 rfl)) (hts _ q1448) (asb_cls hts) (by decide)) q75 q1448 ⟨by decide, by decide, (show (parseMethodDescriptor "()V").map (fun d => d.parameters.length) = some 0 from by decide +kernel)⟩ ⟨rfl, rfl, (Nat.le_of_ble_eq_true rfl), (Nat.le_of_ble_eq_true rfl)⟩ (Nat.le_of_ble_eq_true rfl) ⟨(Nat.le_of_ble_eq_true rfl), (Nat.le_of_ble_eq_true rfl)⟩ dJ2_append_53 (fun u24 h => ?_)
        refine v_eqw (ws1 := ([(i, .inr (14, [.ref (u24.1), .int (u24.2.1), .int (u24.2.2.1), .int (u24.2.2.2.1)]))] ++ ([(u24.1, .inl (dB_ D, (u24.2.2.2.2.1), .inl (u24.2.2.2.2.2)))] ++ []))) (by simp only [List.append_assoc, List.nil_append, List.append_nil]) ?_
        refine v_aload_n 56 hF dJ2_append_56 rfl 0 rfl ?_
        refine v_getO 57 hF in_J3 0 rfl rfl 0 (Nat.le_of_ble_eq_true rfl) q309 rfl dJ2_append_57 ?_
        refine v_aload_n 60 hF dJ2_append_60 rfl 0 rfl ?_
        refine v_dup 61 hF dJ2_append_61 rfl ?_
        refine v_getO 62 hF in_J3 0 rfl rfl 3 (Nat.le_of_ble_eq_true rfl) q313 rfl dJ2_append_62 ?_
        refine v_nm (fun y25 ey25 => ?_)
        replace h := h y25 ey25
        refine v_dup_x1 65 hF dJ2_append_65 rfl rfl ?_
        refine v_iconst (v := 1) 66 hF dJ2_append_66 (by decide) ?_
        refine v_iadd 67 hF dJ2_append_67 ?_
        refine v_nm (fun y26 ey26 => ?_)
        replace h := h y26 ey26
        refine v_putO ([(i, .inr (14, [.ref (u24.1), .int (u24.2.1), .int (u24.2.2.1), .int y26]))] ++ ([(u24.1, .inl (dB_ D, (u24.2.2.2.2.1), .inl (u24.2.2.2.2.2)))] ++ [])) 68 hF in_J3 tyJ3_ok nmJ3 0 rfl rfl 3 (Nat.le_of_ble_eq_true rfl) q313 rfl rfl rfl rfl (Nat.le_of_ble_eq_true rfl) rfl dJ2_append_68 ?_
        refine v_iload_n 71 hF dJ2_append_71 rfl 1 rfl ?_
        refine v_callSv (As := [.ref (u24.1), .int y25, .int x1]) (wr := ([(i, .inr (14, [.ref (u24.1), .int (u24.2.1), .int (u24.2.2.1), .int y26]))] ++ [])) 72 hF (c_J5_putCharSB l D (u24.1) (u24.2.2.2.2.1) (u24.2.2.2.2.2) y25 x1 _ h) ((((((List.Perm.refl _)).append_left _).trans (pm_sw _ _ _))).trans (List.Perm.of_eq (by simp only [List.append_assoc, List.nil_append, List.append_nil]))) q1478 q1479 q78 q1480 ds_J5_putCharSB ⟨rfl, rfl, (Nat.le_of_ble_eq_true rfl), (Nat.le_of_ble_eq_true rfl)⟩ (Nat.le_of_ble_eq_true rfl) ⟨(Nat.le_of_ble_eq_true rfl), (Nat.le_of_ble_eq_true rfl)⟩ dJ2_append_72 (fun u27 h => ?_)
        refine v_eqw (ws1 := ([(u24.1, .inl (dB_ D, (u24.2.2.2.2.1), .inl u27))] ++ ([(i, .inr (14, [.ref (u24.1), .int (u24.2.1), .int (u24.2.2.1), .int y26]))] ++ []))) (by simp only [List.append_assoc, List.nil_append, List.append_nil]) ?_
        refine v_perm (ws' := ([(i, .inr (14, [.ref (u24.1), .int (u24.2.1), .int (u24.2.2.1), .int y26]))] ++ ([(u24.1, .inl (dB_ D, (u24.2.2.2.2.1), .inl u27))] ++ []))) ((((List.Perm.refl _)).append_left _).trans (pm_sw _ _ _)) ?_
        refine v_aload_n 75 hF dJ2_append_75 rfl 0 rfl ?_
        exact v_aret (u := (u24.1, u24.2.1, u24.2.2.1, y26, (u24.2.2.2.2.1), u27)) 76 hF (Or.inl ⟨_, rfl⟩) hR (Nat.le_of_ble_eq_true rfl) (Nat.le_of_ble_eq_true rfl) dJ2_append_76 rfl h
    · replace h := h.2 c17
      refine v_aload_n 24 hF dJ2_append_24 rfl 0 rfl ?_
      refine v_getO 25 hF in_J3 0 rfl rfl 0 (Nat.le_of_ble_eq_true rfl) q309 rfl dJ2_append_25 ?_
      refine v_aload_n 28 hF dJ2_append_28 rfl 0 rfl ?_
      refine v_dup 29 hF dJ2_append_29 rfl ?_
      refine v_getO 30 hF in_J3 0 rfl rfl 3 (Nat.le_of_ble_eq_true rfl) q313 rfl dJ2_append_30 ?_
      refine v_nm (fun y28 ey28 => ?_)
      replace h := h y28 ey28
      refine v_dup_x1 33 hF dJ2_append_33 rfl rfl ?_
      refine v_iconst (v := 1) 34 hF dJ2_append_34 (by decide) ?_
      refine v_iadd 35 hF dJ2_append_35 ?_
      refine v_nm (fun y29 ey29 => ?_)
      replace h := h y29 ey29
      refine v_putO ([(i, .inr (14, [.ref (u1.1), .int (u1.2.1), .int (u1.2.2.1), .int y29]))] ++ ([(u1.1, .inl (dB_ D, (u1.2.2.2.2.1), .inl (u1.2.2.2.2.2)))] ++ [])) 36 hF in_J3 tyJ3_ok nmJ3 0 rfl rfl 3 (Nat.le_of_ble_eq_true rfl) q313 rfl rfl rfl rfl (Nat.le_of_ble_eq_true rfl) rfl dJ2_append_36 ?_
      refine v_iload_n 39 hF dJ2_append_39 rfl 1 rfl ?_
      refine v_i2b 40 hF dJ2_append_40 ?_
      refine v_nm (fun y30 ey30 => ?_)
      replace h := h y30 ey30
      obtain ⟨o31, h⟩ := h
      obtain ⟨f32, ef32⟩ : ∃ z : Nat → Int32, z = upd (u1.2.2.2.2.2) y28.toNatClampNeg (vp_nar .byte y30) := ⟨_, rfl⟩
      replace h := h f32 ef32
      refine v_bast ([(i, .inr (14, [.ref (u1.1), .int (u1.2.1), .int (u1.2.2.1), .int y29]))] ++ ([(u1.1, .inl (dB_ D, (u1.2.2.2.2.1), .inl f32))] ++ [])) 41 hF 1 rfl o31 (by rw [ef32]; rfl) dJ2_append_41 ?_
      refine v_goto 42 75 hF dJ2_append_42 (by decide) ?_
      refine v_aload_n 75 hF dJ2_append_75 rfl 0 rfl ?_
      exact v_aret (u := (u1.1, u1.2.1, u1.2.2.1, y29, (u1.2.2.2.2.1), f32)) 76 hF (Or.inl ⟨_, rfl⟩) hR (Nat.le_of_ble_eq_true rfl) (Nat.le_of_ble_eq_true rfl) dJ2_append_76 rfl h
def w_J2_length (i : Nat) (y : Nat) (co : Int32) (ml : Int32) (ct : Int32) (n : Nat) (f : Nat → Int32) (Q : Int32 → (Unit) → Prop) : Prop :=
  Q ct ()
theorem ds_J2_length : yJ2_length.cls = yJ2_length.cls ∧ yJ2_length.cls ≠ "java/lang/invoke/MethodHandle" ∧ yJ2_length.cls ≠ "java/lang/invoke/VarHandle" ∧ (parseMethodDescriptor yJ2_length.desc).map (fun d => d.parameters.length) = some 0 := by decide +kernel
set_option maxHeartbeats 4000000 in
theorem c_J2_length (l : Launch) (D : va_G) (i : Nat) (y : Nat) (co : Int32) (ml : Int32) (ct : Int32) (n : Nat) (f : Nat → Int32) (Q : Int32 → (Unit) → Prop) (h : w_J2_length i y co ml ct n f Q) : Cti l D yJ2_length cJ2_length 1 .int (rmk 0 0 0 0) [.ref i] ([(i, .inr (14, [.ref y, .int co, .int ml, .int ct]))] ++ ([(y, .inl (dB_ D, n, .inl f))] ++ [])) (fun u : Unit => ([(i, .inr (14, [.ref y, .int co, .int ml, .int ct]))] ++ ([(y, .inl (dB_ D, n, .inl f))] ++ []))) Q 0 0 := by
  refine Cti.of (by decide) (Nat.le_of_ble_eq_true rfl) (fun x hF hR => ?_)
  replace hF : vF x l D "java/lang/AbstractStringBuilder" cJ2_length (rmk 0 0 0 0) 1 (some .int) := hF
  unfold w_J2_length at h
  refine v_aload_n 0 hF dJ2_length_0 rfl 0 rfl ?_
  refine v_getO 1 hF in_J3 0 rfl rfl 3 (Nat.le_of_ble_eq_true rfl) q313 rfl dJ2_length_1 ?_
  exact v_iret (u := ()) 4 hF hR (Nat.le_of_ble_eq_true rfl) (Nat.le_of_ble_eq_true rfl) dJ2_length_4 h
def w_J2_charAt (i : Nat) (y : Nat) (co : Int32) (ml : Int32) (ct : Int32) (n : Nat) (f : Nat → Int32) (x1 : Int32) (Q : Int32 → (Unit) → Prop) : Prop :=
  ∀ y1 : Int32, y1 = (if ((Int32.ofNat n) >>> (co &&& 31)) < ct then ((Int32.ofNat n) >>> (co &&& 31)) else ct) → w_J4_checkIndex x1 y1 (fun u2 => ((¬ co = 0 → w_J5_getChar y n f x1 (fun r4 u5 => narrow .char (.int r4) = .int r4 ∧ Q r4 ())) ∧ (co = 0 → vp_in x1 n ∧ narrow .char (.int (((((f x1.toNatClampNeg) &&& (255 : Int32))).toUInt32 % 65536).toInt32)) = .int (((((f x1.toNatClampNeg) &&& (255 : Int32))).toUInt32 % 65536).toInt32) ∧ Q (((((f x1.toNatClampNeg) &&& (255 : Int32))).toUInt32 % 65536).toInt32) ())))
theorem ds_J2_charAt : yJ2_charAt.cls = yJ2_charAt.cls ∧ yJ2_charAt.cls ≠ "java/lang/invoke/MethodHandle" ∧ yJ2_charAt.cls ≠ "java/lang/invoke/VarHandle" ∧ (parseMethodDescriptor yJ2_charAt.desc).map (fun d => d.parameters.length) = some 1 := by decide +kernel
set_option maxHeartbeats 4000000 in
theorem c_J2_charAt (l : Launch) (D : va_G) (i : Nat) (y : Nat) (co : Int32) (ml : Int32) (ct : Int32) (n : Nat) (f : Nat → Int32) (x1 : Int32) (Q : Int32 → (Unit) → Prop) (h : w_J2_charAt i y co ml ct n f x1 Q) : Cti l D yJ2_charAt cJ2_charAt 5 .char (rmk 2 0 0 64) [.ref i, .int x1] ([(i, .inr (14, [.ref y, .int co, .int ml, .int ct]))] ++ ([(y, .inl (dB_ D, n, .inl f))] ++ [])) (fun u : Unit => ([(i, .inr (14, [.ref y, .int co, .int ml, .int ct]))] ++ ([(y, .inl (dB_ D, n, .inl f))] ++ []))) Q 0 0 := by
  refine Cti.of (by decide) (Nat.le_of_ble_eq_true rfl) (fun x hF hR => ?_)
  replace hF : vF x l D "java/lang/AbstractStringBuilder" cJ2_charAt (rmk 2 0 0 64) 5 (some .char) := hF
  unfold w_J2_charAt at h
  refine v_aload_n 0 hF dJ2_charAt_0 rfl 0 rfl ?_
  refine v_getO 1 hF in_J3 0 rfl rfl 1 (Nat.le_of_ble_eq_true rfl) q310 rfl dJ2_charAt_1 ?_
  refine v_istore_n [(0, .ref i), (1, .int x1), (2, .int co)] [1, 2, 0] 4 hF dJ2_charAt_4 rfl (Nat.le_of_ble_eq_true rfl) rfl ?_
  refine v_aload_n 5 hF dJ2_charAt_5 rfl 0 rfl ?_
  refine v_getO 6 hF in_J3 0 rfl rfl 0 (Nat.le_of_ble_eq_true rfl) q309 rfl dJ2_charAt_6 ?_
  refine v_astore_n [(0, .ref i), (1, .int x1), (2, .int co), (3, .ref y)] [1, 2, 3, 0] 9 hF dJ2_charAt_9 rfl (Nat.le_of_ble_eq_true rfl) rfl ?_
  refine v_aload_n 10 hF dJ2_charAt_10 rfl 0 rfl ?_
  refine v_getO 11 hF in_J3 0 rfl rfl 3 (Nat.le_of_ble_eq_true rfl) q313 rfl dJ2_charAt_11 ?_
  refine v_aload_n 14 hF dJ2_charAt_14 rfl 3 rfl ?_
  refine v_alen (v := Int32.ofNat n) 15 hF 1 4 rfl rfl rfl dJ2_charAt_15 ?_
  refine v_iload_n 16 hF dJ2_charAt_16 rfl 2 rfl ?_
  refine v_ishr 17 hF dJ2_charAt_17 ?_
  refine v_mmin 18 hF q1565 q429 q92 q430 (Nat.le_of_ble_eq_true rfl) (Nat.le_of_ble_eq_true rfl) ⟨(Nat.le_of_ble_eq_true rfl), (Nat.le_of_ble_eq_true rfl)⟩ dJ2_charAt_18 ?_
  refine v_nm (fun y1 ey1 => ?_)
  replace h := h y1 ey1
  refine v_istore [(0, .ref i), (1, .int x1), (2, .int co), (3, .ref y), (4, .int y1)] [1, 2, 3, 4, 0] 21 hF dJ2_charAt_21 (Nat.le_of_ble_eq_true rfl) rfl ?_
  refine v_iload_n 23 hF dJ2_charAt_23 rfl 1 rfl ?_
  refine v_iload 24 hF dJ2_charAt_24 4 rfl ?_
  refine v_callSv (As := [.int x1, .int y1]) (wr := ([(i, .inr (14, [.ref y, .int co, .int ml, .int ct]))] ++ ([(y, .inl (dB_ D, n, .inl f))] ++ []))) 26 hF (c_J4_checkIndex l D x1 y1 _ h) (((List.Perm.refl _)).trans (List.Perm.of_eq (by simp only [List.append_assoc, List.nil_append, List.append_nil]))) q1566 q1485 q77 q1486 ds_J4_checkIndex ⟨rfl, rfl, (Nat.le_of_ble_eq_true rfl), (Nat.le_of_ble_eq_true rfl)⟩ (Nat.le_of_ble_eq_true rfl) ⟨(Nat.le_of_ble_eq_true rfl), (Nat.le_of_ble_eq_true rfl)⟩ dJ2_charAt_26 (fun u2 h => ?_)
  refine v_eqw (ws1 := ([(i, .inr (14, [.ref y, .int co, .int ml, .int ct]))] ++ ([(y, .inl (dB_ D, n, .inl f))] ++ []))) (by simp only [List.append_assoc, List.nil_append, List.append_nil]) ?_
  refine v_iload_n 29 hF dJ2_charAt_29 rfl 2 rfl ?_
  refine v_if_ne 30 42 hF dJ2_charAt_30 (by decide) (fun c3 => ?_) (fun c3 => ?_)
  · replace h := h.1 c3
    refine v_aload_n 42 hF dJ2_charAt_42 rfl 3 rfl ?_
    refine v_iload_n 43 hF dJ2_charAt_43 rfl 1 rfl ?_
    refine v_callSi (As := [.ref y, .int x1]) (wr := ([(i, .inr (14, [.ref y, .int co, .int ml, .int ct]))] ++ [])) 44 hF (c_J5_getChar l D y n f x1 _ h) ((((((List.Perm.refl _)).append_left _).trans (pm_sw _ _ _))).trans (List.Perm.of_eq (by simp only [List.append_assoc, List.nil_append, List.append_nil]))) q1567 q1568 q78 q1569 ds_J5_getChar ⟨rfl, rfl, (Nat.le_of_ble_eq_true rfl), (Nat.le_of_ble_eq_true rfl)⟩ (Nat.le_of_ble_eq_true rfl) ⟨(Nat.le_of_ble_eq_true rfl), (Nat.le_of_ble_eq_true rfl)⟩ dJ2_charAt_44 (fun r4 u5 h => ?_)
    refine v_eqw (ws1 := ([(y, .inl (dB_ D, n, .inl f))] ++ ([(i, .inr (14, [.ref y, .int co, .int ml, .int ct]))] ++ []))) (by simp only [List.append_assoc, List.nil_append, List.append_nil]) ?_
    refine v_perm (ws' := ([(i, .inr (14, [.ref y, .int co, .int ml, .int ct]))] ++ ([(y, .inl (dB_ D, n, .inl f))] ++ []))) ((((List.Perm.refl _)).append_left _).trans (pm_sw _ _ _)) ?_
    obtain ⟨o6, h⟩ := h
    exact v_zret (u := ()) 47 hF hR (Nat.le_of_ble_eq_true rfl) (Nat.le_of_ble_eq_true rfl) o6 dJ2_charAt_47 h
  · replace h := h.2 c3
    refine v_aload_n 33 hF dJ2_charAt_33 rfl 3 rfl ?_
    refine v_iload_n 34 hF dJ2_charAt_34 rfl 1 rfl ?_
    obtain ⟨o7, h⟩ := h
    refine v_bald 35 hF 1 rfl o7 dJ2_charAt_35 ?_
    refine v_sipush (v := 255) 36 hF dJ2_charAt_36 (by decide) ?_
    refine v_iand 39 hF dJ2_charAt_39 ?_
    refine v_i2c 40 hF dJ2_charAt_40 ?_
    obtain ⟨o8, h⟩ := h
    exact v_zret (u := ()) 41 hF hR (Nat.le_of_ble_eq_true rfl) (Nat.le_of_ble_eq_true rfl) o8 dJ2_charAt_41 h
def w_J2_setLength (i : Nat) (y : Nat) (co : Int32) (ml : Int32) (ct : Int32) (n : Nat) (f : Nat → Int32) (x1 : Int32) (Q : (Nat × Int32 × Int32 × Int32 × Nat × (Nat → Int32)) → Prop) : Prop :=
  ((0 ≤ x1 → w_J2_ensureCapacityInternal i y co ml ct n f x1 (fun u2 => ((x1 ≤ u2.2.2.2.1 → ((u2.2.2.2.1 ≤ x1 → Q ((u2.1, u2.2.1, u2.2.2.1, x1, (u2.2.2.2.2.1), (u2.2.2.2.2.2)))) ∧ (¬ u2.2.2.2.1 ≤ x1 → Q ((u2.1, u2.2.1, (1 : Int32), x1, (u2.2.2.2.2.1), (u2.2.2.2.2.2)))))) ∧ (¬ x1 ≤ u2.2.2.2.1 → w_J2_isLatin1 i (u2.1) (u2.2.1) (u2.2.2.1) (u2.2.2.2.1) (u2.2.2.2.2.1) (u2.2.2.2.2.2) (fun r5 u6 => ((r5 = 0 → False) ∧ (¬ r5 = 0 → False))))))) ∧ (¬ 0 ≤ x1 → False))
theorem ds_J2_setLength : yJ2_setLength.cls = yJ2_setLength.cls ∧ yJ2_setLength.cls ≠ "java/lang/invoke/MethodHandle" ∧ yJ2_setLength.cls ≠ "java/lang/invoke/VarHandle" ∧ (parseMethodDescriptor yJ2_setLength.desc).map (fun d => d.parameters.length) = some 1 := by decide +kernel
set_option maxHeartbeats 4000000 in
theorem c_J2_setLength (l : Launch) (D : va_G) (i : Nat) (y : Nat) (co : Int32) (ml : Int32) (ct : Int32) (n : Nat) (f : Nat → Int32) (x1 : Int32) (Q : (Nat × Int32 × Int32 × Int32 × Nat × (Nat → Int32)) → Prop) (h : w_J2_setLength i y co ml ct n f x1 Q) : Ctv l D yJ2_setLength cJ2_setLength 2 (rmk 4 1 200 134) [.ref i, .int x1] ([(i, .inr (14, [.ref y, .int co, .int ml, .int ct]))] ++ ([(y, .inl (dB_ D, n, .inl f))] ++ [])) (fun u : Nat × Int32 × Int32 × Int32 × Nat × (Nat → Int32) => ([(i, .inr (14, [.ref (u.1), .int (u.2.1), .int (u.2.2.1), .int (u.2.2.2.1)]))] ++ ([(u.1, .inl (dB_ D, u.2.2.2.2.1, .inl u.2.2.2.2.2))] ++ []))) Q 1 200 := by
  refine Ctv.of (by decide) (Nat.le_of_ble_eq_true rfl) (fun x hF hR => ?_)
  replace hF : vF x l D "java/lang/AbstractStringBuilder" cJ2_setLength (rmk 4 1 200 134) 2 none := hF
  unfold w_J2_setLength at h
  refine v_iload_n 0 hF dJ2_setLength_0 rfl 1 rfl ?_
  refine v_if_ge 1 13 hF dJ2_setLength_1 (by decide) (fun c1 => ?_) (fun c1 => ?_)
  · replace h := h.1 c1
    refine v_aload_n 13 hF dJ2_setLength_13 rfl 0 rfl ?_
    refine v_iload_n 14 hF dJ2_setLength_14 rfl 1 rfl ?_
    refine v_callUv (As := [.int x1]) (x0 := ({ cls := "java/lang/AbstractStringBuilder", name := "ensureCapacityInternal", desc := "(I)V" } : Jvm.MethodName)) (b := i) (wr := ([])) 15 hF (c_J2_ensureCapacityInternal l D i y co ml ct n f x1 _ h) (((List.Perm.refl _)).trans (List.Perm.of_eq (by simp only [List.append_assoc, List.nil_append, List.append_nil]))) ⟨0, 14, _, TJ3, 4, rfl, rfl⟩ q1410 q1412 (fun s args hts _ => vUx.of2 (args := args) (by decide) (asb_cls hts) (hts _ q1412) (hts _ q1413)) (fun s args hts hE => sel_priv (hE.1.1 14 (RJ3, TJ3, 4) rfl).2.1 (va_Nw.use rfl (hE.2.1 _ q1411 rfl)) (hts _ q1413) (asb_cls hts) (by decide)) q75 q1413 ⟨by decide, by decide, (show (parseMethodDescriptor "(I)V").map (fun d => d.parameters.length) = some 1 from by decide +kernel)⟩ ⟨rfl, rfl, (Nat.le_of_ble_eq_true rfl), (Nat.le_of_ble_eq_true rfl)⟩ (Nat.le_of_ble_eq_true rfl) ⟨(Nat.le_of_ble_eq_true rfl), (Nat.le_of_ble_eq_true rfl)⟩ dJ2_setLength_15 (fun u2 h => ?_)
    refine v_eqw (ws1 := ([(i, .inr (14, [.ref (u2.1), .int (u2.2.1), .int (u2.2.2.1), .int (u2.2.2.2.1)]))] ++ ([(u2.1, .inl (dB_ D, (u2.2.2.2.2.1), .inl (u2.2.2.2.2.2)))] ++ []))) (by simp only [List.append_assoc, List.nil_append, List.append_nil]) ?_
    refine v_aload_n 18 hF dJ2_setLength_18 rfl 0 rfl ?_
    refine v_getO 19 hF in_J3 0 rfl rfl 3 (Nat.le_of_ble_eq_true rfl) q313 rfl dJ2_setLength_19 ?_
    refine v_iload_n 22 hF dJ2_setLength_22 rfl 1 rfl ?_
    refine v_icmp_ge 23 63 hF dJ2_setLength_23 (by decide) (fun c3 => ?_) (fun c3 => ?_)
    · replace h := h.1 c3
      refine v_aload_n 63 hF dJ2_setLength_63 rfl 0 rfl ?_
      refine v_getO 64 hF in_J3 0 rfl rfl 3 (Nat.le_of_ble_eq_true rfl) q313 rfl dJ2_setLength_64 ?_
      refine v_iload_n 67 hF dJ2_setLength_67 rfl 1 rfl ?_
      refine v_icmp_le 68 76 hF dJ2_setLength_68 (by decide) (fun c4 => ?_) (fun c4 => ?_)
      · replace h := h.1 c4
        refine v_aload_n 76 hF dJ2_setLength_76 rfl 0 rfl ?_
        refine v_iload_n 77 hF dJ2_setLength_77 rfl 1 rfl ?_
        refine v_putO ([(i, .inr (14, [.ref (u2.1), .int (u2.2.1), .int (u2.2.2.1), .int x1]))] ++ ([(u2.1, .inl (dB_ D, (u2.2.2.2.2.1), .inl (u2.2.2.2.2.2)))] ++ [])) 78 hF in_J3 tyJ3_ok nmJ3 0 rfl rfl 3 (Nat.le_of_ble_eq_true rfl) q313 rfl rfl rfl rfl (Nat.le_of_ble_eq_true rfl) rfl dJ2_setLength_78 ?_
        exact v_vret (u := (u2.1, u2.2.1, u2.2.2.1, x1, (u2.2.2.2.2.1), (u2.2.2.2.2.2))) 81 hF hR (Nat.le_of_ble_eq_true rfl) (Nat.le_of_ble_eq_true rfl) dJ2_setLength_81 h
      · replace h := h.2 c4
        refine v_aload_n 71 hF dJ2_setLength_71 rfl 0 rfl ?_
        refine v_iconst (v := 1) 72 hF dJ2_setLength_72 (by decide) ?_
        refine v_putO ([(i, .inr (14, [.ref (u2.1), .int (u2.2.1), .int ((1 : Int32)), .int (u2.2.2.2.1)]))] ++ ([(u2.1, .inl (dB_ D, (u2.2.2.2.2.1), .inl (u2.2.2.2.2.2)))] ++ [])) 73 hF in_J3 tyJ3_ok nmJ3 0 rfl rfl 2 (Nat.le_of_ble_eq_true rfl) q311 rfl rfl rfl rfl (Nat.le_of_ble_eq_true rfl) rfl dJ2_setLength_73 ?_
        refine v_aload_n 76 hF dJ2_setLength_76 rfl 0 rfl ?_
        refine v_iload_n 77 hF dJ2_setLength_77 rfl 1 rfl ?_
        refine v_putO ([(i, .inr (14, [.ref (u2.1), .int (u2.2.1), .int ((1 : Int32)), .int x1]))] ++ ([(u2.1, .inl (dB_ D, (u2.2.2.2.2.1), .inl (u2.2.2.2.2.2)))] ++ [])) 78 hF in_J3 tyJ3_ok nmJ3 0 rfl rfl 3 (Nat.le_of_ble_eq_true rfl) q313 rfl rfl rfl rfl (Nat.le_of_ble_eq_true rfl) rfl dJ2_setLength_78 ?_
        exact v_vret (u := (u2.1, u2.2.1, (1 : Int32), x1, (u2.2.2.2.2.1), (u2.2.2.2.2.2))) 81 hF hR (Nat.le_of_ble_eq_true rfl) (Nat.le_of_ble_eq_true rfl) dJ2_setLength_81 h
    · replace h := h.2 c3
      refine v_aload_n 26 hF dJ2_setLength_26 rfl 0 rfl ?_
      refine v_callUi (As := []) (x0 := ({ cls := "java/lang/AbstractStringBuilder", name := "isLatin1", desc := "()Z" } : Jvm.MethodName)) (b := i) (wr := ([])) 27 hF (c_J2_isLatin1 l D i (u2.1) (u2.2.1) (u2.2.2.1) (u2.2.2.2.1) (u2.2.2.2.2.1) (u2.2.2.2.2.2) _ h) (((List.Perm.refl _)).trans (List.Perm.of_eq (by simp only [List.append_assoc, List.nil_append, List.append_nil]))) ⟨0, 14, _, TJ3, 4, rfl, rfl⟩ q1437 q1438 (fun s args hts _ => vUx.of2 (args := args) (by decide) (asb_cls hts) (hts _ q1438) (hts _ q1441)) (fun s args hts _ => hts _ q1440) q75 q1441 ⟨by decide, by decide, (show (parseMethodDescriptor "()Z").map (fun d => d.parameters.length) = some 0 from by decide +kernel)⟩ ⟨rfl, rfl, (Nat.le_of_ble_eq_true rfl), (Nat.le_of_ble_eq_true rfl)⟩ (Nat.le_of_ble_eq_true rfl) ⟨(Nat.le_of_ble_eq_true rfl), (Nat.le_of_ble_eq_true rfl)⟩ dJ2_setLength_27 (fun r5 u6 h => ?_)
      refine v_eqw (ws1 := ([(i, .inr (14, [.ref (u2.1), .int (u2.2.1), .int (u2.2.2.1), .int (u2.2.2.2.1)]))] ++ ([(u2.1, .inl (dB_ D, (u2.2.2.2.2.1), .inl (u2.2.2.2.2.2)))] ++ []))) (by simp only [List.append_assoc, List.nil_append, List.append_nil]) ?_
      refine v_if_eq 30 48 hF dJ2_setLength_30 (by decide) (fun c7 => ?_) (fun c7 => ?_)
      · replace h := h.1 c7
        exact h.elim
      · replace h := h.2 c7
        exact h.elim
  · replace h := h.2 c1
    exact h.elim
def w_J3_append (i : Nat) (y : Nat) (co : Int32) (ml : Int32) (ct : Int32) (n : Nat) (f : Nat → Int32) (x1 : Int32) (Q : (Nat × Int32 × Int32 × Int32 × Nat × (Nat → Int32)) → Prop) : Prop :=
  w_J2_append i y co ml ct n f x1 (fun u1 => Q ((u1.1, u1.2.1, u1.2.2.1, u1.2.2.2.1, (u1.2.2.2.2.1), (u1.2.2.2.2.2))))
theorem ds_J3_append : yJ3_append.cls = yJ3_append.cls ∧ yJ3_append.cls ≠ "java/lang/invoke/MethodHandle" ∧ yJ3_append.cls ≠ "java/lang/invoke/VarHandle" ∧ (parseMethodDescriptor yJ3_append.desc).map (fun d => d.parameters.length) = some 1 := by decide +kernel
set_option maxHeartbeats 4000000 in
theorem c_J3_append (l : Launch) (D : va_G) (i : Nat) (y : Nat) (co : Int32) (ml : Int32) (ct : Int32) (n : Nat) (f : Nat → Int32) (x1 : Int32) (Q : (Nat × Int32 × Int32 × Int32 × Nat × (Nat → Int32)) → Prop) (h : w_J3_append i y co ml ct n f x1 Q) : Ctr l D yJ3_append cJ3_append 2 (.object "java/lang/StringBuilder") (rmk 7 2 400 158) [.ref i, .int x1] ([(i, .inr (14, [.ref y, .int co, .int ml, .int ct]))] ++ ([(y, .inl (dB_ D, n, .inl f))] ++ [])) (fun u : Nat × Int32 × Int32 × Int32 × Nat × (Nat → Int32) => ([(i, .inr (14, [.ref (u.1), .int (u.2.1), .int (u.2.2.1), .int (u.2.2.2.1)]))] ++ ([(u.1, .inl (dB_ D, u.2.2.2.2.1, .inl u.2.2.2.2.2))] ++ []))) (fun u : Nat × Int32 × Int32 × Int32 × Nat × (Nat → Int32) => i) Q 2 400 := by
  refine Ctr.of (by decide) (Nat.le_of_ble_eq_true rfl) (fun x hF hR => ?_)
  replace hF : vF x l D "java/lang/StringBuilder" cJ3_append (rmk 7 2 400 158) 2 (some (.object "java/lang/StringBuilder")) := hF
  unfold w_J3_append at h
  refine v_aload_n 0 hF dJ3_append_0 rfl 0 rfl ?_
  refine v_iload_n 1 hF dJ3_append_1 rfl 1 rfl ?_
  refine v_callS1r (As := [.int x1]) (b := i) (wr := ([])) 2 hF (c_J2_append l D i y co ml ct n f x1 _ h) (((List.Perm.refl _)).trans (List.Perm.of_eq (by simp only [List.append_assoc, List.nil_append, List.append_nil]))) ⟨0, 14, _, TJ3, 4, rfl, rfl⟩ q1407 q2315 q322 q1408 q75 q1409 ⟨by decide, (show (parseMethodDescriptor "(C)Ljava/lang/AbstractStringBuilder;").map (fun d => d.parameters.length) = some 1 from by decide +kernel)⟩ ⟨rfl, rfl, (Nat.le_of_ble_eq_true rfl), (Nat.le_of_ble_eq_true rfl)⟩ (Nat.le_of_ble_eq_true rfl) ⟨(Nat.le_of_ble_eq_true rfl), (Nat.le_of_ble_eq_true rfl)⟩ dJ3_append_2 (fun u1 h => ?_)
  refine v_eqw (ws1 := ([(i, .inr (14, [.ref (u1.1), .int (u1.2.1), .int (u1.2.2.1), .int (u1.2.2.2.1)]))] ++ ([(u1.1, .inl (dB_ D, (u1.2.2.2.2.1), .inl (u1.2.2.2.2.2)))] ++ []))) (by simp only [List.append_assoc, List.nil_append, List.append_nil]) ?_
  refine v_pop 5 hF dJ3_append_5 rfl ?_
  refine v_aload_n 6 hF dJ3_append_6 rfl 0 rfl ?_
  exact v_aret (u := (u1.1, u1.2.1, u1.2.2.1, u1.2.2.2.1, (u1.2.2.2.2.1), (u1.2.2.2.2.2))) 7 hF (Or.inl ⟨_, rfl⟩) hR (Nat.le_of_ble_eq_true rfl) (Nat.le_of_ble_eq_true rfl) dJ3_append_7 rfl h
def w_J3_length (i : Nat) (y : Nat) (co : Int32) (ml : Int32) (ct : Int32) (n : Nat) (f : Nat → Int32) (Q : Int32 → (Unit) → Prop) : Prop :=
  w_J2_length i y co ml ct n f (fun r1 u2 => Q r1 ())
theorem ds_J3_length : yJ3_length.cls = yJ3_length.cls ∧ yJ3_length.cls ≠ "java/lang/invoke/MethodHandle" ∧ yJ3_length.cls ≠ "java/lang/invoke/VarHandle" ∧ (parseMethodDescriptor yJ3_length.desc).map (fun d => d.parameters.length) = some 0 := by decide +kernel
set_option maxHeartbeats 4000000 in
theorem c_J3_length (l : Launch) (D : va_G) (i : Nat) (y : Nat) (co : Int32) (ml : Int32) (ct : Int32) (n : Nat) (f : Nat → Int32) (Q : Int32 → (Unit) → Prop) (h : w_J3_length i y co ml ct n f Q) : Cti l D yJ3_length cJ3_length 1 .int (rmk 1 0 0 20) [.ref i] ([(i, .inr (14, [.ref y, .int co, .int ml, .int ct]))] ++ ([(y, .inl (dB_ D, n, .inl f))] ++ [])) (fun u : Unit => ([(i, .inr (14, [.ref y, .int co, .int ml, .int ct]))] ++ ([(y, .inl (dB_ D, n, .inl f))] ++ []))) Q 0 0 := by
  refine Cti.of (by decide) (Nat.le_of_ble_eq_true rfl) (fun x hF hR => ?_)
  replace hF : vF x l D "java/lang/StringBuilder" cJ3_length (rmk 1 0 0 20) 1 (some .int) := hF
  unfold w_J3_length at h
  refine v_aload_n 0 hF dJ3_length_0 rfl 0 rfl ?_
  refine v_callS1i (As := []) (b := i) (wr := ([])) 1 hF (c_J2_length l D i y co ml ct n f _ h) (((List.Perm.refl _)).trans (List.Perm.of_eq (by simp only [List.append_assoc, List.nil_append, List.append_nil]))) ⟨0, 14, _, TJ3, 4, rfl, rfl⟩ q1351 q2314 q322 q1352 q75 q1353 ⟨by decide, (show (parseMethodDescriptor "()I").map (fun d => d.parameters.length) = some 0 from by decide +kernel)⟩ ⟨rfl, rfl, (Nat.le_of_ble_eq_true rfl), (Nat.le_of_ble_eq_true rfl)⟩ (Nat.le_of_ble_eq_true rfl) ⟨(Nat.le_of_ble_eq_true rfl), (Nat.le_of_ble_eq_true rfl)⟩ dJ3_length_1 (fun r1 u2 h => ?_)
  refine v_eqw (ws1 := ([(i, .inr (14, [.ref y, .int co, .int ml, .int ct]))] ++ ([(y, .inl (dB_ D, n, .inl f))] ++ []))) (by simp only [List.append_assoc, List.nil_append, List.append_nil]) ?_
  exact v_iret (u := ()) 4 hF hR (Nat.le_of_ble_eq_true rfl) (Nat.le_of_ble_eq_true rfl) dJ3_length_4 h
def w_J3_charAt (i : Nat) (y : Nat) (co : Int32) (ml : Int32) (ct : Int32) (n : Nat) (f : Nat → Int32) (x1 : Int32) (Q : Int32 → (Unit) → Prop) : Prop :=
  w_J2_charAt i y co ml ct n f x1 (fun r1 u2 => narrow .char (.int r1) = .int r1 ∧ Q r1 ())
theorem ds_J3_charAt : yJ3_charAt.cls = yJ3_charAt.cls ∧ yJ3_charAt.cls ≠ "java/lang/invoke/MethodHandle" ∧ yJ3_charAt.cls ≠ "java/lang/invoke/VarHandle" ∧ (parseMethodDescriptor yJ3_charAt.desc).map (fun d => d.parameters.length) = some 1 := by decide +kernel
set_option maxHeartbeats 4000000 in
theorem c_J3_charAt (l : Launch) (D : va_G) (i : Nat) (y : Nat) (co : Int32) (ml : Int32) (ct : Int32) (n : Nat) (f : Nat → Int32) (x1 : Int32) (Q : Int32 → (Unit) → Prop) (h : w_J3_charAt i y co ml ct n f x1 Q) : Cti l D yJ3_charAt cJ3_charAt 2 .char (rmk 3 0 0 88) [.ref i, .int x1] ([(i, .inr (14, [.ref y, .int co, .int ml, .int ct]))] ++ ([(y, .inl (dB_ D, n, .inl f))] ++ [])) (fun u : Unit => ([(i, .inr (14, [.ref y, .int co, .int ml, .int ct]))] ++ ([(y, .inl (dB_ D, n, .inl f))] ++ []))) Q 0 0 := by
  refine Cti.of (by decide) (Nat.le_of_ble_eq_true rfl) (fun x hF hR => ?_)
  replace hF : vF x l D "java/lang/StringBuilder" cJ3_charAt (rmk 3 0 0 88) 2 (some .char) := hF
  unfold w_J3_charAt at h
  refine v_aload_n 0 hF dJ3_charAt_0 rfl 0 rfl ?_
  refine v_iload_n 1 hF dJ3_charAt_1 rfl 1 rfl ?_
  refine v_callS1i (As := [.int x1]) (b := i) (wr := ([])) 2 hF (c_J2_charAt l D i y co ml ct n f x1 _ h) (((List.Perm.refl _)).trans (List.Perm.of_eq (by simp only [List.append_assoc, List.nil_append, List.append_nil]))) ⟨0, 14, _, TJ3, 4, rfl, rfl⟩ q1562 q2319 q322 q1563 q75 q1564 ⟨by decide, (show (parseMethodDescriptor "(I)C").map (fun d => d.parameters.length) = some 1 from by decide +kernel)⟩ ⟨rfl, rfl, (Nat.le_of_ble_eq_true rfl), (Nat.le_of_ble_eq_true rfl)⟩ (Nat.le_of_ble_eq_true rfl) ⟨(Nat.le_of_ble_eq_true rfl), (Nat.le_of_ble_eq_true rfl)⟩ dJ3_charAt_2 (fun r1 u2 h => ?_)
  refine v_eqw (ws1 := ([(i, .inr (14, [.ref y, .int co, .int ml, .int ct]))] ++ ([(y, .inl (dB_ D, n, .inl f))] ++ []))) (by simp only [List.append_assoc, List.nil_append, List.append_nil]) ?_
  obtain ⟨o3, h⟩ := h
  exact v_zret (u := ()) 5 hF hR (Nat.le_of_ble_eq_true rfl) (Nat.le_of_ble_eq_true rfl) o3 dJ3_charAt_5 h
def w_J3_setLength (i : Nat) (y : Nat) (co : Int32) (ml : Int32) (ct : Int32) (n : Nat) (f : Nat → Int32) (x1 : Int32) (Q : (Nat × Int32 × Int32 × Int32 × Nat × (Nat → Int32)) → Prop) : Prop :=
  w_J2_setLength i y co ml ct n f x1 (fun u1 => Q ((u1.1, u1.2.1, u1.2.2.1, u1.2.2.2.1, (u1.2.2.2.2.1), (u1.2.2.2.2.2))))
theorem ds_J3_setLength : yJ3_setLength.cls = yJ3_setLength.cls ∧ yJ3_setLength.cls ≠ "java/lang/invoke/MethodHandle" ∧ yJ3_setLength.cls ≠ "java/lang/invoke/VarHandle" ∧ (parseMethodDescriptor yJ3_setLength.desc).map (fun d => d.parameters.length) = some 1 := by decide +kernel
set_option maxHeartbeats 4000000 in
theorem c_J3_setLength (l : Launch) (D : va_G) (i : Nat) (y : Nat) (co : Int32) (ml : Int32) (ct : Int32) (n : Nat) (f : Nat → Int32) (x1 : Int32) (Q : (Nat × Int32 × Int32 × Int32 × Nat × (Nat → Int32)) → Prop) (h : w_J3_setLength i y co ml ct n f x1 Q) : Ctv l D yJ3_setLength cJ3_setLength 2 (rmk 5 1 200 155) [.ref i, .int x1] ([(i, .inr (14, [.ref y, .int co, .int ml, .int ct]))] ++ ([(y, .inl (dB_ D, n, .inl f))] ++ [])) (fun u : Nat × Int32 × Int32 × Int32 × Nat × (Nat → Int32) => ([(i, .inr (14, [.ref (u.1), .int (u.2.1), .int (u.2.2.1), .int (u.2.2.2.1)]))] ++ ([(u.1, .inl (dB_ D, u.2.2.2.2.1, .inl u.2.2.2.2.2))] ++ []))) Q 1 200 := by
  refine Ctv.of (by decide) (Nat.le_of_ble_eq_true rfl) (fun x hF hR => ?_)
  replace hF : vF x l D "java/lang/StringBuilder" cJ3_setLength (rmk 5 1 200 155) 2 none := hF
  unfold w_J3_setLength at h
  refine v_aload_n 0 hF dJ3_setLength_0 rfl 0 rfl ?_
  refine v_iload_n 1 hF dJ3_setLength_1 rfl 1 rfl ?_
  refine v_callS1v (As := [.int x1]) (b := i) (wr := ([])) 2 hF (c_J2_setLength l D i y co ml ct n f x1 _ h) (((List.Perm.refl _)).trans (List.Perm.of_eq (by simp only [List.append_assoc, List.nil_append, List.append_nil]))) ⟨0, 14, _, TJ3, 4, rfl, rfl⟩ q1663 q2320 q322 q1664 q75 q1665 ⟨by decide, (show (parseMethodDescriptor "(I)V").map (fun d => d.parameters.length) = some 1 from by decide +kernel)⟩ ⟨rfl, rfl, (Nat.le_of_ble_eq_true rfl), (Nat.le_of_ble_eq_true rfl)⟩ (Nat.le_of_ble_eq_true rfl) ⟨(Nat.le_of_ble_eq_true rfl), (Nat.le_of_ble_eq_true rfl)⟩ dJ3_setLength_2 (fun u1 h => ?_)
  refine v_eqw (ws1 := ([(i, .inr (14, [.ref (u1.1), .int (u1.2.1), .int (u1.2.2.1), .int (u1.2.2.2.1)]))] ++ ([(u1.1, .inl (dB_ D, (u1.2.2.2.2.1), .inl (u1.2.2.2.2.2)))] ++ []))) (by simp only [List.append_assoc, List.nil_append, List.append_nil]) ?_
  exact v_vret (u := (u1.1, u1.2.1, u1.2.2.1, u1.2.2.2.1, (u1.2.2.2.2.1), (u1.2.2.2.2.2))) 5 hF hR (Nat.le_of_ble_eq_true rfl) (Nat.le_of_ble_eq_true rfl) dJ3_setLength_5 h
