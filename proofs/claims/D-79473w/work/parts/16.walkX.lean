set_option maxRecDepth 100000
def w_X1_require (x0 : Int32) (X : String → Prop) (Y : String → Int32 → Prop) (Q : Prop) : Prop :=
  ((¬ x0 = 0 → Q) ∧ (x0 = 0 → X "java/lang/IllegalArgumentException"))
theorem ds_X1_require : yX1_require.cls = yX1_require.cls ∧ yX1_require.cls ≠ "java/lang/invoke/MethodHandle" ∧ yX1_require.cls ≠ "java/lang/invoke/VarHandle" ∧ (parseMethodDescriptor yX1_require.desc).map (fun d => d.parameters.length) = some 1 := by decide +kernel
set_option maxHeartbeats 4000000 in
theorem c_X1_require (l : Launch) (D : va_G) (hl : l.stackTraces = false) (x0 : Int32) (X : String → Prop) (Y : String → Int32 → Prop) (Q : Prop) (h : w_X1_require x0 X Y Q) : Cxv l D yX1_require cX1_require 1 (rmk 6 1 6 96) [.int x0] [] (fun _ : Unit => []) (fun _ => Q) (fun E _ => X E) (fun E r _ => Y E r) 1 6 := by
  refine Cxv.of (by decide) (Nat.le_of_ble_eq_true rfl) (fun x hF hR hN => ?_)
  replace hF : vF x l D "BrookWeirs" cX1_require (rmk 6 1 6 96) 1 none := hF
  unfold w_X1_require at h
  refine v_iload_n 0 hF dX1_require_0 rfl 0 rfl ?_
  refine v_if_ne 1 12 hF dX1_require_1 (by decide) (fun c1 => ?_) (fun c1 => ?_)
  · replace h := h.1 c1
    exact v_vretX (u := ()) 12 hF hR (Nat.le_of_ble_eq_true rfl) (Nat.le_of_ble_eq_true rfl) dX1_require_12 h
  · replace h := h.2 c1
    exact v_throw0v (u := ()) (names := ["java/lang/RuntimeException", "java/lang/Exception"]) (ps := [83, 551, 560, 571, 574, 576, 552, 553, 121, 122, 554, 559, 572, 589, 541, 590, 543, 591, 545, 555, 557, 547, 743, 744, 745, 581, 532, 581, 582, 583, 584, 534, 584, 585, 586, 552, 536, 742, 734, 735, 736, 566, 737, 738, 739, 740, 587, 549, 741]) 4 hF hR hN hl (by decide +kernel) (by decide +kernel) q733 q86 (by decide +kernel) (by decide +kernel) (by decide +kernel) dX1_require_4 dX1_require_7 dX1_require_8 dX1_require_11 ⟨Nat.le_of_ble_eq_true rfl, Nat.le_of_ble_eq_true rfl⟩ ⟨Nat.le_of_ble_eq_true rfl, Nat.le_of_ble_eq_true rfl⟩ (Nat.le_of_ble_eq_true rfl) (Nat.le_of_ble_eq_true rfl) h
def w_X1_requireIndex (x0 : Int32) (X : String → Prop) (Y : String → Int32 → Prop) (Q : Prop) : Prop :=
  ((¬ x0 = 0 → Q) ∧ (x0 = 0 → X "java/lang/IndexOutOfBoundsException"))
theorem ds_X1_requireIndex : yX1_requireIndex.cls = yX1_requireIndex.cls ∧ yX1_requireIndex.cls ≠ "java/lang/invoke/MethodHandle" ∧ yX1_requireIndex.cls ≠ "java/lang/invoke/VarHandle" ∧ (parseMethodDescriptor yX1_requireIndex.desc).map (fun d => d.parameters.length) = some 1 := by decide +kernel
set_option maxHeartbeats 4000000 in
theorem c_X1_requireIndex (l : Launch) (D : va_G) (hl : l.stackTraces = false) (x0 : Int32) (X : String → Prop) (Y : String → Int32 → Prop) (Q : Prop) (h : w_X1_requireIndex x0 X Y Q) : Cxv l D yX1_requireIndex cX1_requireIndex 1 (rmk 6 1 6 96) [.int x0] [] (fun _ : Unit => []) (fun _ => Q) (fun E _ => X E) (fun E r _ => Y E r) 1 6 := by
  refine Cxv.of (by decide) (Nat.le_of_ble_eq_true rfl) (fun x hF hR hN => ?_)
  replace hF : vF x l D "BrookWeirs" cX1_requireIndex (rmk 6 1 6 96) 1 none := hF
  unfold w_X1_requireIndex at h
  refine v_iload_n 0 hF dX1_requireIndex_0 rfl 0 rfl ?_
  refine v_if_ne 1 12 hF dX1_requireIndex_1 (by decide) (fun c1 => ?_) (fun c1 => ?_)
  · replace h := h.1 c1
    exact v_vretX (u := ()) 12 hF hR (Nat.le_of_ble_eq_true rfl) (Nat.le_of_ble_eq_true rfl) dX1_requireIndex_12 h
  · replace h := h.2 c1
    exact v_throw0v (u := ()) (names := ["java/lang/RuntimeException", "java/lang/Exception"]) (ps := [83, 551, 560, 571, 574, 576, 552, 553, 121, 122, 554, 559, 572, 589, 541, 590, 543, 591, 545, 555, 557, 547, 830, 831, 832, 581, 532, 581, 582, 583, 584, 534, 584, 585, 586, 552, 536, 829, 821, 822, 823, 568, 824, 825, 826, 827, 587, 549, 828]) 4 hF hR hN hl (by decide +kernel) (by decide +kernel) q820 q94 (by decide +kernel) (by decide +kernel) (by decide +kernel) dX1_requireIndex_4 dX1_requireIndex_7 dX1_requireIndex_8 dX1_requireIndex_11 ⟨Nat.le_of_ble_eq_true rfl, Nat.le_of_ble_eq_true rfl⟩ ⟨Nat.le_of_ble_eq_true rfl, Nat.le_of_ble_eq_true rfl⟩ (Nat.le_of_ble_eq_true rfl) (Nat.le_of_ble_eq_true rfl) h
def w_X1_requireState (x0 : Int32) (X : String → Prop) (Y : String → Int32 → Prop) (Q : Prop) : Prop :=
  ((¬ x0 = 0 → Q) ∧ (x0 = 0 → X "java/lang/IllegalStateException"))
theorem ds_X1_requireState : yX1_requireState.cls = yX1_requireState.cls ∧ yX1_requireState.cls ≠ "java/lang/invoke/MethodHandle" ∧ yX1_requireState.cls ≠ "java/lang/invoke/VarHandle" ∧ (parseMethodDescriptor yX1_requireState.desc).map (fun d => d.parameters.length) = some 1 := by decide +kernel
set_option maxHeartbeats 4000000 in
theorem c_X1_requireState (l : Launch) (D : va_G) (hl : l.stackTraces = false) (x0 : Int32) (X : String → Prop) (Y : String → Int32 → Prop) (Q : Prop) (h : w_X1_requireState x0 X Y Q) : Cxv l D yX1_requireState cX1_requireState 1 (rmk 6 1 6 96) [.int x0] [] (fun _ : Unit => []) (fun _ => Q) (fun E _ => X E) (fun E r _ => Y E r) 1 6 := by
  refine Cxv.of (by decide) (Nat.le_of_ble_eq_true rfl) (fun x hF hR hN => ?_)
  replace hF : vF x l D "BrookWeirs" cX1_requireState (rmk 6 1 6 96) 1 none := hF
  unfold w_X1_requireState at h
  refine v_iload_n 0 hF dX1_requireState_0 rfl 0 rfl ?_
  refine v_if_ne 1 12 hF dX1_requireState_1 (by decide) (fun c1 => ?_) (fun c1 => ?_)
  · replace h := h.1 c1
    exact v_vretX (u := ()) 12 hF hR (Nat.le_of_ble_eq_true rfl) (Nat.le_of_ble_eq_true rfl) dX1_requireState_12 h
  · replace h := h.2 c1
    exact v_throw0v (u := ()) (names := ["java/lang/RuntimeException", "java/lang/Exception"]) (ps := [83, 551, 560, 571, 574, 576, 552, 553, 121, 122, 554, 559, 572, 589, 541, 590, 543, 591, 545, 555, 557, 547, 1400, 1401, 1402, 581, 532, 581, 582, 583, 584, 534, 584, 585, 586, 552, 536, 1399, 618, 619, 620, 567, 621, 622, 623, 624, 587, 549, 625]) 4 hF hR hN hl (by decide +kernel) (by decide +kernel) q1398 q90 (by decide +kernel) (by decide +kernel) (by decide +kernel) dX1_requireState_4 dX1_requireState_7 dX1_requireState_8 dX1_requireState_11 ⟨Nat.le_of_ble_eq_true rfl, Nat.le_of_ble_eq_true rfl⟩ ⟨Nat.le_of_ble_eq_true rfl, Nat.le_of_ble_eq_true rfl⟩ (Nat.le_of_ble_eq_true rfl) (Nat.le_of_ble_eq_true rfl) h
def w_X1_requireElement (x0 : Int32) (X : String → Prop) (Y : String → Int32 → Prop) (Q : Prop) : Prop :=
  ((¬ x0 = 0 → Q) ∧ (x0 = 0 → X "java/util/NoSuchElementException"))
theorem ds_X1_requireElement : yX1_requireElement.cls = yX1_requireElement.cls ∧ yX1_requireElement.cls ≠ "java/lang/invoke/MethodHandle" ∧ yX1_requireElement.cls ≠ "java/lang/invoke/VarHandle" ∧ (parseMethodDescriptor yX1_requireElement.desc).map (fun d => d.parameters.length) = some 1 := by decide +kernel
set_option maxHeartbeats 4000000 in
theorem c_X1_requireElement (l : Launch) (D : va_G) (hl : l.stackTraces = false) (x0 : Int32) (X : String → Prop) (Y : String → Int32 → Prop) (Q : Prop) (h : w_X1_requireElement x0 X Y Q) : Cxv l D yX1_requireElement cX1_requireElement 1 (rmk 6 1 6 96) [.int x0] [] (fun _ : Unit => []) (fun _ => Q) (fun E _ => X E) (fun E r _ => Y E r) 1 6 := by
  refine Cxv.of (by decide) (Nat.le_of_ble_eq_true rfl) (fun x hF hR hN => ?_)
  replace hF : vF x l D "BrookWeirs" cX1_requireElement (rmk 6 1 6 96) 1 none := hF
  unfold w_X1_requireElement at h
  refine v_iload_n 0 hF dX1_requireElement_0 rfl 0 rfl ?_
  refine v_if_ne 1 12 hF dX1_requireElement_1 (by decide) (fun c1 => ?_) (fun c1 => ?_)
  · replace h := h.1 c1
    exact v_vretX (u := ()) 12 hF hR (Nat.le_of_ble_eq_true rfl) (Nat.le_of_ble_eq_true rfl) dX1_requireElement_12 h
  · replace h := h.2 c1
    exact v_throw0v (u := ()) (names := ["java/lang/RuntimeException", "java/lang/Exception"]) (ps := [83, 551, 560, 571, 574, 576, 552, 553, 121, 122, 554, 559, 572, 589, 541, 590, 543, 591, 545, 555, 557, 547, 578, 579, 580, 581, 532, 581, 582, 583, 584, 534, 584, 585, 586, 552, 536, 1048, 530, 531, 538, 539, 540, 542, 544, 546, 587, 549, 548]) 4 hF hR hN hl (by decide +kernel) (by decide +kernel) q1047 q89 (by decide +kernel) (by decide +kernel) (by decide +kernel) dX1_requireElement_4 dX1_requireElement_7 dX1_requireElement_8 dX1_requireElement_11 ⟨Nat.le_of_ble_eq_true rfl, Nat.le_of_ble_eq_true rfl⟩ ⟨Nat.le_of_ble_eq_true rfl, Nat.le_of_ble_eq_true rfl⟩ (Nat.le_of_ble_eq_true rfl) (Nat.le_of_ble_eq_true rfl) h
def w_X1_boardsOf (x0 : Int32) (X : String → Prop) (Y : String → Int32 → Prop) (Q : Int32 → Prop) : Prop :=
  w_X1_inRange x0 ((0 : Int32)) ((9 : Int32)) (fun r1 => w_X1_require r1 (fun E => X E) (fun E r => Y E r) (Q x0))
theorem ds_X1_boardsOf : yX1_boardsOf.cls = yX1_boardsOf.cls ∧ yX1_boardsOf.cls ≠ "java/lang/invoke/MethodHandle" ∧ yX1_boardsOf.cls ≠ "java/lang/invoke/VarHandle" ∧ (parseMethodDescriptor yX1_boardsOf.desc).map (fun d => d.parameters.length) = some 1 := by decide +kernel
set_option maxHeartbeats 4000000 in
theorem c_X1_boardsOf (l : Launch) (D : va_G) (hl : l.stackTraces = false) (x0 : Int32) (X : String → Prop) (Y : String → Int32 → Prop) (Q : Int32 → Prop) (h : w_X1_boardsOf x0 X Y Q) : Cxi l D yX1_boardsOf cX1_boardsOf 1 .int (rmk 7 1 6 116) [.int x0] [] (fun _ : Unit => []) (fun r _ => Q r) (fun E _ => X E) (fun E r _ => Y E r) 1 6 := by
  refine Cxi.of (by decide) (Nat.le_of_ble_eq_true rfl) (fun x hF hR hN => ?_)
  replace hF : vF x l D "BrookWeirs" cX1_boardsOf (rmk 7 1 6 116) 1 (some .int) := hF
  unfold w_X1_boardsOf at h
  refine v_iload_n 0 hF dX1_boardsOf_0 rfl 0 rfl ?_
  refine v_iconst (v := 0) 1 hF dX1_boardsOf_1 (by decide) ?_
  refine v_bipush (v := 9) 2 hF dX1_boardsOf_2 (by decide) ?_
  refine v_callS0i (As := [.int x0, .int ((0 : Int32)), .int ((9 : Int32))]) 4 hF (c_X1_inRange l D x0 ((0 : Int32)) ((9 : Int32)) _ h) q729 q475 q70 q476 ds_X1_inRange ⟨rfl, rfl, Nat.le_of_ble_eq_true rfl, Nat.le_of_ble_eq_true rfl⟩ (Nat.le_of_ble_eq_true rfl) ⟨Nat.le_of_ble_eq_true rfl, Nat.le_of_ble_eq_true rfl⟩ dX1_boardsOf_4 (fun r1 h => ?_)
  refine v_callXS0v (As := [.int r1]) 7 hF (c_X1_require l D hl r1 _ _ _ h) q730 q731 q70 q732 ds_X1_require ⟨rfl, rfl, Nat.le_of_ble_eq_true rfl, Nat.le_of_ble_eq_true rfl⟩ (Nat.le_of_ble_eq_true rfl) ⟨Nat.le_of_ble_eq_true rfl, Nat.le_of_ble_eq_true rfl⟩ dX1_boardsOf_7 (fun E q hx => v_outi (u := ()) hF hR hN (Nat.le_of_ble_eq_true rfl) (Nat.le_of_ble_eq_true rfl) hx) (fun E q ci r hy hp => v_outYi (u := ()) hF hR hN (Nat.le_of_ble_eq_true rfl) (Nat.le_of_ble_eq_true rfl) hp hy) (fun h => ?_)
  refine v_iload_n 10 hF dX1_boardsOf_10 rfl 0 rfl ?_
  exact v_iretX (u := ()) 11 hF hR (Nat.le_of_ble_eq_true rfl) (Nat.le_of_ble_eq_true rfl) dX1_boardsOf_11 h
def w_X1_eggsOf (x0 : Int32) (X : String → Prop) (Y : String → Int32 → Prop) (Q : Int32 → Prop) : Prop :=
  w_X1_inRange x0 ((1 : Int32)) ((99 : Int32)) (fun r1 => w_X1_require r1 (fun E => X E) (fun E r => Y E r) (Q x0))
theorem ds_X1_eggsOf : yX1_eggsOf.cls = yX1_eggsOf.cls ∧ yX1_eggsOf.cls ≠ "java/lang/invoke/MethodHandle" ∧ yX1_eggsOf.cls ≠ "java/lang/invoke/VarHandle" ∧ (parseMethodDescriptor yX1_eggsOf.desc).map (fun d => d.parameters.length) = some 1 := by decide +kernel
set_option maxHeartbeats 4000000 in
theorem c_X1_eggsOf (l : Launch) (D : va_G) (hl : l.stackTraces = false) (x0 : Int32) (X : String → Prop) (Y : String → Int32 → Prop) (Q : Int32 → Prop) (h : w_X1_eggsOf x0 X Y Q) : Cxi l D yX1_eggsOf cX1_eggsOf 1 .int (rmk 7 1 6 116) [.int x0] [] (fun _ : Unit => []) (fun r _ => Q r) (fun E _ => X E) (fun E r _ => Y E r) 1 6 := by
  refine Cxi.of (by decide) (Nat.le_of_ble_eq_true rfl) (fun x hF hR hN => ?_)
  replace hF : vF x l D "BrookWeirs" cX1_eggsOf (rmk 7 1 6 116) 1 (some .int) := hF
  unfold w_X1_eggsOf at h
  refine v_iload_n 0 hF dX1_eggsOf_0 rfl 0 rfl ?_
  refine v_iconst (v := 1) 1 hF dX1_eggsOf_1 (by decide) ?_
  refine v_bipush (v := 99) 2 hF dX1_eggsOf_2 (by decide) ?_
  refine v_callS0i (As := [.int x0, .int ((1 : Int32)), .int ((99 : Int32))]) 4 hF (c_X1_inRange l D x0 ((1 : Int32)) ((99 : Int32)) _ h) q729 q475 q70 q476 ds_X1_inRange ⟨rfl, rfl, Nat.le_of_ble_eq_true rfl, Nat.le_of_ble_eq_true rfl⟩ (Nat.le_of_ble_eq_true rfl) ⟨Nat.le_of_ble_eq_true rfl, Nat.le_of_ble_eq_true rfl⟩ dX1_eggsOf_4 (fun r1 h => ?_)
  refine v_callXS0v (As := [.int r1]) 7 hF (c_X1_require l D hl r1 _ _ _ h) q730 q731 q70 q732 ds_X1_require ⟨rfl, rfl, Nat.le_of_ble_eq_true rfl, Nat.le_of_ble_eq_true rfl⟩ (Nat.le_of_ble_eq_true rfl) ⟨Nat.le_of_ble_eq_true rfl, Nat.le_of_ble_eq_true rfl⟩ dX1_eggsOf_7 (fun E q hx => v_outi (u := ()) hF hR hN (Nat.le_of_ble_eq_true rfl) (Nat.le_of_ble_eq_true rfl) hx) (fun E q ci r hy hp => v_outYi (u := ()) hF hR hN (Nat.le_of_ble_eq_true rfl) (Nat.le_of_ble_eq_true rfl) hp hy) (fun h => ?_)
  refine v_iload_n 10 hF dX1_eggsOf_10 rfl 0 rfl ?_
  exact v_iretX (u := ()) 11 hF hR (Nat.le_of_ble_eq_true rfl) (Nat.le_of_ble_eq_true rfl) dX1_eggsOf_11 h
def w_X1_rainOf (x0 : Int32) (X : String → Prop) (Y : String → Int32 → Prop) (Q : Int32 → Prop) : Prop :=
  w_X1_inRange x0 ((0 : Int32)) ((99 : Int32)) (fun r1 => w_X1_require r1 (fun E => X E) (fun E r => Y E r) (Q x0))
theorem ds_X1_rainOf : yX1_rainOf.cls = yX1_rainOf.cls ∧ yX1_rainOf.cls ≠ "java/lang/invoke/MethodHandle" ∧ yX1_rainOf.cls ≠ "java/lang/invoke/VarHandle" ∧ (parseMethodDescriptor yX1_rainOf.desc).map (fun d => d.parameters.length) = some 1 := by decide +kernel
set_option maxHeartbeats 4000000 in
theorem c_X1_rainOf (l : Launch) (D : va_G) (hl : l.stackTraces = false) (x0 : Int32) (X : String → Prop) (Y : String → Int32 → Prop) (Q : Int32 → Prop) (h : w_X1_rainOf x0 X Y Q) : Cxi l D yX1_rainOf cX1_rainOf 1 .int (rmk 7 1 6 116) [.int x0] [] (fun _ : Unit => []) (fun r _ => Q r) (fun E _ => X E) (fun E r _ => Y E r) 1 6 := by
  refine Cxi.of (by decide) (Nat.le_of_ble_eq_true rfl) (fun x hF hR hN => ?_)
  replace hF : vF x l D "BrookWeirs" cX1_rainOf (rmk 7 1 6 116) 1 (some .int) := hF
  unfold w_X1_rainOf at h
  refine v_iload_n 0 hF dX1_rainOf_0 rfl 0 rfl ?_
  refine v_iconst (v := 0) 1 hF dX1_rainOf_1 (by decide) ?_
  refine v_bipush (v := 99) 2 hF dX1_rainOf_2 (by decide) ?_
  refine v_callS0i (As := [.int x0, .int ((0 : Int32)), .int ((99 : Int32))]) 4 hF (c_X1_inRange l D x0 ((0 : Int32)) ((99 : Int32)) _ h) q729 q475 q70 q476 ds_X1_inRange ⟨rfl, rfl, Nat.le_of_ble_eq_true rfl, Nat.le_of_ble_eq_true rfl⟩ (Nat.le_of_ble_eq_true rfl) ⟨Nat.le_of_ble_eq_true rfl, Nat.le_of_ble_eq_true rfl⟩ dX1_rainOf_4 (fun r1 h => ?_)
  refine v_callXS0v (As := [.int r1]) 7 hF (c_X1_require l D hl r1 _ _ _ h) q730 q731 q70 q732 ds_X1_require ⟨rfl, rfl, Nat.le_of_ble_eq_true rfl, Nat.le_of_ble_eq_true rfl⟩ (Nat.le_of_ble_eq_true rfl) ⟨Nat.le_of_ble_eq_true rfl, Nat.le_of_ble_eq_true rfl⟩ dX1_rainOf_7 (fun E q hx => v_outi (u := ()) hF hR hN (Nat.le_of_ble_eq_true rfl) (Nat.le_of_ble_eq_true rfl) hx) (fun E q ci r hy hp => v_outYi (u := ()) hF hR hN (Nat.le_of_ble_eq_true rfl) (Nat.le_of_ble_eq_true rfl) hp hy) (fun h => ?_)
  refine v_iload_n 10 hF dX1_rainOf_10 rfl 0 rfl ?_
  exact v_iretX (u := ()) 11 hF hR (Nat.le_of_ble_eq_true rfl) (Nat.le_of_ble_eq_true rfl) dX1_rainOf_11 h
def w_X2_at (σ : Nat → Nat → Int32) (x1 : Int32) (X : String → (Nat → Nat → Int32) → Prop) (Y : String → Int32 → (Nat → Nat → Int32) → Prop) (Q : Int32 → (Nat → Nat → Int32) → Prop) : Prop :=
  w_X1_inRange x1 ((0 : Int32)) (((σ 20 8) - (1 : Int32))) (fun r1 => w_X1_requireIndex r1 (fun E => X E σ) (fun E r => Y E r σ) (Q x1 σ))
theorem ds_X2_at : yX2_at.cls = yX2_at.cls ∧ yX2_at.cls ≠ "java/lang/invoke/MethodHandle" ∧ yX2_at.cls ≠ "java/lang/invoke/VarHandle" ∧ (parseMethodDescriptor yX2_at.desc).map (fun d => d.parameters.length) = some 1 := by decide +kernel
set_option maxHeartbeats 4000000 in
theorem c_X2_at (l : Launch) (D : va_G) (hl : l.stackTraces = false) (a : Nat → Nat) (σ : Nat → Nat → Int32) (x1 : Int32) (X : String → (Nat → Nat → Int32) → Prop) (Y : String → Int32 → (Nat → Nat → Int32) → Prop) (Q : Int32 → (Nat → Nat → Int32) → Prop) (h : w_X2_at σ x1 X Y Q) : Cxi l D yX2_at cX2_at 2 .int (rmk 7 1 6 116) [.ref (a 0), .int x1] (bkW D a σ) (bkW D a) Q X Y 1 6 := by
  refine Cxi.of (by decide) (Nat.le_of_ble_eq_true rfl) (fun x hF hR hN => ?_)
  replace hF : vF x l D "BrookWeirs$Brook" cX2_at (rmk 7 1 6 116) 2 (some .int) := hF
  refine v_app0 ?_
  unfold w_X2_at at h
  refine v_iload_n 0 hF dX2_at_0 rfl 1 rfl ?_
  refine v_iconst (v := 0) 1 hF dX2_at_1 (by decide) ?_
  refine v_aload_n 2 hF dX2_at_2 rfl 0 rfl ?_
  refine B_get 3 8 hF (Nat.le_of_ble_eq_true rfl) q183 rfl rfl dX2_at_3 ?_
  refine v_iconst (v := 1) 6 hF dX2_at_6 (by decide) ?_
  refine v_isub 7 hF dX2_at_7 ?_
  refine v_callS0Ni (As := [.int x1, .int ((0 : Int32)), .int (((σ 20 8) - (1 : Int32)))]) 8 hF (c_X1_inRange l D x1 ((0 : Int32)) (((σ 20 8) - (1 : Int32))) _ h) q474 q475 q70 q476 ds_X1_inRange ⟨rfl, rfl, Nat.le_of_ble_eq_true rfl, Nat.le_of_ble_eq_true rfl⟩ (Nat.le_of_ble_eq_true rfl) ⟨Nat.le_of_ble_eq_true rfl, Nat.le_of_ble_eq_true rfl⟩ dX2_at_8 (fun r1 h => ?_)
  refine v_callXS0Nv (As := [.int r1]) 11 hF (c_X1_requireIndex l D hl r1 _ _ _ h) q817 q818 q70 q819 ds_X1_requireIndex ⟨rfl, rfl, Nat.le_of_ble_eq_true rfl, Nat.le_of_ble_eq_true rfl⟩ (Nat.le_of_ble_eq_true rfl) ⟨Nat.le_of_ble_eq_true rfl, Nat.le_of_ble_eq_true rfl⟩ dX2_at_11 (fun E q hx => v_outiA hF hR hN (Nat.le_of_ble_eq_true rfl) (Nat.le_of_ble_eq_true rfl) hx) (fun E q ci r hy hp => v_outYiA hF hR hN (Nat.le_of_ble_eq_true rfl) (Nat.le_of_ble_eq_true rfl) hp hy) (fun h => ?_)
  refine v_iload_n 14 hF dX2_at_14 rfl 1 rfl ?_
  exact v_iretXA 15 hF hR (Nat.le_of_ble_eq_true rfl) (Nat.le_of_ble_eq_true rfl) dX2_at_15 h
def w_X2_addPool_J14 (X : String → (Nat → Nat → Int32) → Prop) (Y : String → Int32 → (Nat → Nat → Int32) → Prop) (Q : Int32 → (Nat → Nat → Int32) → Prop)  (σ : Nat → Nat → Int32) (x1 x2 x3 s0 : Int32) : Prop :=
  w_X1_allow s0 ((1 : Int32)) (fun E => X E σ) (fun E r => Y E r σ) (vp_in ((σ 20 8)) 6 ∧ ∀ t2 : Nat → Nat → Int32, t2 = (upN σ 0 ((σ 20 8)).toNatClampNeg x1) → vp_in ((t2 20 8)) 6 ∧ ∀ t4 : Nat → Nat → Int32, t4 = (upN t2 1 ((t2 20 8)).toNatClampNeg x2) → vp_in ((t4 20 8)) 6 ∧ ∀ t6 : Nat → Nat → Int32, t6 = (upN t4 2 ((t4 20 8)).toNatClampNeg x3) → vp_in ((t6 20 8)) 6 ∧ ∀ t8 : Nat → Nat → Int32, t8 = (upN t6 3 ((t6 20 8)).toNatClampNeg (3 : Int32)) → ∀ t9 : Nat → Nat → Int32, t9 = (upN t8 20 8 ((t8 20 8) + (1 : Int32))) → Q (((t9 20 8) - (1 : Int32))) t9)
def w_X2_addPool (σ : Nat → Nat → Int32) (x1 x2 x3 : Int32) (X : String → (Nat → Nat → Int32) → Prop) (Y : String → Int32 → (Nat → Nat → Int32) → Prop) (Q : Int32 → (Nat → Nat → Int32) → Prop) : Prop :=
  (((6 : Int32) ≤ (σ 20 8) → w_X2_addPool_J14 X Y Q σ x1 x2 x3 ((0 : Int32))) ∧ (¬ (6 : Int32) ≤ (σ 20 8) → w_X2_addPool_J14 X Y Q σ x1 x2 x3 ((1 : Int32))))
set_option maxHeartbeats 4000000 in
theorem k_X2_addPool_J14 {x : vC} {l : Launch} {D : va_G} {a : Nat → Nat}  {X : String → (Nat → Nat → Int32) → Prop} {Y : String → Int32 → (Nat → Nat → Int32) → Prop} {Q : Int32 → (Nat → Nat → Int32) → Prop} (hl : l.stackTraces = false) (hF : vF x l D "BrookWeirs$Brook" cX2_addPool (rmk 5 1 7 181) 4 (some .int)) (hR : vXi x (bkW D a) Q X Y 1 7) (hN : vN x)   : ∀ (σ : Nat → Nat → Int32) (x1 x2 x3 s0 : Int32), w_X2_addPool_J14 X Y Q  σ x1 x2 x3 s0 → vV x 0 0 (bkW D a σ ++ []) [(0, .ref (a 0)), (1, .int x1), (2, .int x2), (3, .int x3)] 14 [.int s0] := by
  intro σ x1 x2 x3 s0 h
  unfold w_X2_addPool_J14 at h
  refine v_iconst (v := 1) 14 hF dX2_addPool_14 (by decide) ?_
  refine v_callXS0Nv (As := [.int s0, .int ((1 : Int32))]) 15 hF (c_X1_allow l D hl s0 ((1 : Int32)) _ _ _ h) q754 q755 q70 q756 ds_X1_allow ⟨rfl, rfl, Nat.le_of_ble_eq_true rfl, Nat.le_of_ble_eq_true rfl⟩ (Nat.le_of_ble_eq_true rfl) ⟨Nat.le_of_ble_eq_true rfl, Nat.le_of_ble_eq_true rfl⟩ dX2_addPool_15 (fun E q hx => v_outiA hF hR hN (Nat.le_of_ble_eq_true rfl) (Nat.le_of_ble_eq_true rfl) hx) (fun E q ci r hy hp => v_outYiA hF hR hN (Nat.le_of_ble_eq_true rfl) (Nat.le_of_ble_eq_true rfl) hp hy) (fun h => ?_)
  refine v_aload_n 18 hF dX2_addPool_18 rfl 0 rfl ?_
  refine B_get 19 0 hF (Nat.le_of_ble_eq_true rfl) q165 rfl rfl dX2_addPool_19 ?_
  refine v_aload_n 22 hF dX2_addPool_22 rfl 0 rfl ?_
  refine B_get 23 8 hF (Nat.le_of_ble_eq_true rfl) q183 rfl rfl dX2_addPool_23 ?_
  refine v_iload_n 26 hF dX2_addPool_26 rfl 1 rfl ?_
  obtain ⟨o1, h⟩ := h
  refine B_ast0 27 hF o1 dX2_addPool_27 (fun t2 et2 => ?_)
  replace h := h t2 et2
  refine v_aload_n 28 hF dX2_addPool_28 rfl 0 rfl ?_
  refine B_get 29 1 hF (Nat.le_of_ble_eq_true rfl) q167 rfl rfl dX2_addPool_29 ?_
  refine v_aload_n 32 hF dX2_addPool_32 rfl 0 rfl ?_
  refine B_get 33 8 hF (Nat.le_of_ble_eq_true rfl) q183 rfl rfl dX2_addPool_33 ?_
  refine v_iload_n 36 hF dX2_addPool_36 rfl 2 rfl ?_
  obtain ⟨o3, h⟩ := h
  refine B_ast1 37 hF o3 dX2_addPool_37 (fun t4 et4 => ?_)
  replace h := h t4 et4
  refine v_aload_n 38 hF dX2_addPool_38 rfl 0 rfl ?_
  refine B_get 39 2 hF (Nat.le_of_ble_eq_true rfl) q169 rfl rfl dX2_addPool_39 ?_
  refine v_aload_n 42 hF dX2_addPool_42 rfl 0 rfl ?_
  refine B_get 43 8 hF (Nat.le_of_ble_eq_true rfl) q183 rfl rfl dX2_addPool_43 ?_
  refine v_iload_n 46 hF dX2_addPool_46 rfl 3 rfl ?_
  obtain ⟨o5, h⟩ := h
  refine B_ast2 47 hF o5 dX2_addPool_47 (fun t6 et6 => ?_)
  replace h := h t6 et6
  refine v_aload_n 48 hF dX2_addPool_48 rfl 0 rfl ?_
  refine B_get 49 3 hF (Nat.le_of_ble_eq_true rfl) q171 rfl rfl dX2_addPool_49 ?_
  refine v_aload_n 52 hF dX2_addPool_52 rfl 0 rfl ?_
  refine B_get 53 8 hF (Nat.le_of_ble_eq_true rfl) q183 rfl rfl dX2_addPool_53 ?_
  refine v_iconst (v := 3) 56 hF dX2_addPool_56 (by decide) ?_
  obtain ⟨o7, h⟩ := h
  refine B_ast3 57 hF o7 dX2_addPool_57 (fun t8 et8 => ?_)
  replace h := h t8 et8
  refine v_aload_n 58 hF dX2_addPool_58 rfl 0 rfl ?_
  refine v_dup 59 hF dX2_addPool_59 rfl ?_
  refine B_get 60 8 hF (Nat.le_of_ble_eq_true rfl) q183 rfl rfl dX2_addPool_60 ?_
  refine v_iconst (v := 1) 63 hF dX2_addPool_63 (by decide) ?_
  refine v_iadd 64 hF dX2_addPool_64 ?_
  refine B_put8 65 hF q183 dX2_addPool_65 (fun t9 et9 => ?_)
  replace h := h t9 et9
  refine v_aload_n 68 hF dX2_addPool_68 rfl 0 rfl ?_
  refine B_get 69 8 hF (Nat.le_of_ble_eq_true rfl) q183 rfl rfl dX2_addPool_69 ?_
  refine v_iconst (v := 1) 72 hF dX2_addPool_72 (by decide) ?_
  refine v_isub 73 hF dX2_addPool_73 ?_
  exact v_iretXA 74 hF hR (Nat.le_of_ble_eq_true rfl) (Nat.le_of_ble_eq_true rfl) dX2_addPool_74 h
theorem ds_X2_addPool : yX2_addPool.cls = yX2_addPool.cls ∧ yX2_addPool.cls ≠ "java/lang/invoke/MethodHandle" ∧ yX2_addPool.cls ≠ "java/lang/invoke/VarHandle" ∧ (parseMethodDescriptor yX2_addPool.desc).map (fun d => d.parameters.length) = some 3 := by decide +kernel
set_option maxHeartbeats 4000000 in
theorem c_X2_addPool (l : Launch) (D : va_G) (hl : l.stackTraces = false) (a : Nat → Nat) (σ : Nat → Nat → Int32) (x1 x2 x3 : Int32) (X : String → (Nat → Nat → Int32) → Prop) (Y : String → Int32 → (Nat → Nat → Int32) → Prop) (Q : Int32 → (Nat → Nat → Int32) → Prop) (h : w_X2_addPool σ x1 x2 x3 X Y Q) : Cxi l D yX2_addPool cX2_addPool 4 .int (rmk 5 1 7 181) [.ref (a 0), .int x1, .int x2, .int x3] (bkW D a σ) (bkW D a) Q X Y 1 7 := by
  refine Cxi.of (by decide) (Nat.le_of_ble_eq_true rfl) (fun x hF hR hN => ?_)
  replace hF : vF x l D "BrookWeirs$Brook" cX2_addPool (rmk 5 1 7 181) 4 (some .int) := hF
  refine v_app0 ?_
  unfold w_X2_addPool at h
  refine v_aload_n 0 hF dX2_addPool_0 rfl 0 rfl ?_
  refine B_get 1 8 hF (Nat.le_of_ble_eq_true rfl) q183 rfl rfl dX2_addPool_1 ?_
  refine v_bipush (v := 6) 4 hF dX2_addPool_4 (by decide) ?_
  refine v_icmp_ge 6 13 hF dX2_addPool_6 (by decide) (fun c10 => ?_) (fun c10 => ?_)
  · replace h := h.1 c10
    refine v_iconst (v := 0) 13 hF dX2_addPool_13 (by decide) ?_
    exact k_X2_addPool_J14 hl hF hR hN _ _ _ _ _ h
  · replace h := h.2 c10
    refine v_iconst (v := 1) 9 hF dX2_addPool_9 (by decide) ?_
    refine v_goto 10 14 hF dX2_addPool_10 (by decide) ?_
    exact k_X2_addPool_J14 hl hF hR hN _ _ _ _ _ h
def w_X2_setBoards_J54 (X : String → (Nat → Nat → Int32) → Prop) (Y : String → Int32 → (Nat → Nat → Int32) → Prop) (Q : Int32 → (Nat → Nat → Int32) → Prop)  (σ : Nat → Nat → Int32) (x1 x2 x3 x4 s0 : Int32) : Prop :=
  w_X1_allow s0 ((5 : Int32)) (fun E => X E σ) (fun E r => Y E r σ) (vp_in x1 6 ∧ ∀ t2 : Nat → Nat → Int32, t2 = (upN σ 3 x1.toNatClampNeg x2) → Q x3 t2)
def w_X2_setBoards_J42 (X : String → (Nat → Nat → Int32) → Prop) (Y : String → Int32 → (Nat → Nat → Int32) → Prop) (Q : Int32 → (Nat → Nat → Int32) → Prop)  (σ : Nat → Nat → Int32) (x1 x2 x3 s0 : Int32) : Prop :=
  ((¬ s0 = 0 → w_X2_setBoards_J54 X Y Q σ x1 x2 x3 s0 ((0 : Int32))) ∧ (s0 = 0 → w_X2_setBoards_J54 X Y Q σ x1 x2 x3 s0 ((1 : Int32))))
def w_X2_setBoards_J41 (X : String → (Nat → Nat → Int32) → Prop) (Y : String → Int32 → (Nat → Nat → Int32) → Prop) (Q : Int32 → (Nat → Nat → Int32) → Prop)  (σ : Nat → Nat → Int32) (x1 x2 x3 : Int32) : Prop :=
  w_X2_setBoards_J42 X Y Q σ x1 x2 x3 ((0 : Int32))
def w_X2_setBoards (σ : Nat → Nat → Int32) (x1 x2 : Int32) (X : String → (Nat → Nat → Int32) → Prop) (Y : String → Int32 → (Nat → Nat → Int32) → Prop) (Q : Int32 → (Nat → Nat → Int32) → Prop) : Prop :=
  vp_in x1 6 ∧ ∀ y5 : Int32, y5 = ((σ 3) x1.toNatClampNeg) → ((y5 ≤ x2 → w_X2_setBoards_J41 X Y Q σ x1 x2 y5) ∧ (¬ y5 ≤ x2 → w_X2_isOpen σ x1 (fun r7 t8 => ((¬ r7 = 0 → w_X2_setBoards_J41 X Y Q t8 x1 x2 y5) ∧ (r7 = 0 → vp_in x1 6 ∧ vp_in x1 6 ∧ ((((t8 4) x1.toNatClampNeg) ≤ (x2 * ((t8 0) x1.toNatClampNeg)) → w_X2_setBoards_J41 X Y Q t8 x1 x2 y5) ∧ (¬ ((t8 4) x1.toNatClampNeg) ≤ (x2 * ((t8 0) x1.toNatClampNeg)) → w_X2_setBoards_J42 X Y Q t8 x1 x2 y5 ((1 : Int32)))))))))
set_option maxHeartbeats 4000000 in
theorem k_X2_setBoards_J54 {x : vC} {l : Launch} {D : va_G} {a : Nat → Nat}  {X : String → (Nat → Nat → Int32) → Prop} {Y : String → Int32 → (Nat → Nat → Int32) → Prop} {Q : Int32 → (Nat → Nat → Int32) → Prop} (hl : l.stackTraces = false) (hF : vF x l D "BrookWeirs$Brook" cX2_setBoards (rmk 5 1 7 181) 5 (some .int)) (hR : vXi x (bkW D a) Q X Y 1 7) (hN : vN x)   : ∀ (σ : Nat → Nat → Int32) (x1 x2 x3 x4 s0 : Int32), w_X2_setBoards_J54 X Y Q  σ x1 x2 x3 x4 s0 → vV x 0 0 (bkW D a σ ++ []) [(0, .ref (a 0)), (1, .int x1), (2, .int x2), (3, .int x3), (4, .int x4)] 54 [.int s0] := by
  intro σ x1 x2 x3 x4 s0 h
  unfold w_X2_setBoards_J54 at h
  refine v_iconst (v := 5) 54 hF dX2_setBoards_54 (by decide) ?_
  refine v_callXS0Nv (As := [.int s0, .int ((5 : Int32))]) 55 hF (c_X1_allow l D hl s0 ((5 : Int32)) _ _ _ h) q754 q755 q70 q756 ds_X1_allow ⟨rfl, rfl, Nat.le_of_ble_eq_true rfl, Nat.le_of_ble_eq_true rfl⟩ (Nat.le_of_ble_eq_true rfl) ⟨Nat.le_of_ble_eq_true rfl, Nat.le_of_ble_eq_true rfl⟩ dX2_setBoards_55 (fun E q hx => v_outiA hF hR hN (Nat.le_of_ble_eq_true rfl) (Nat.le_of_ble_eq_true rfl) hx) (fun E q ci r hy hp => v_outYiA hF hR hN (Nat.le_of_ble_eq_true rfl) (Nat.le_of_ble_eq_true rfl) hp hy) (fun h => ?_)
  refine v_aload_n 58 hF dX2_setBoards_58 rfl 0 rfl ?_
  refine B_get 59 3 hF (Nat.le_of_ble_eq_true rfl) q171 rfl rfl dX2_setBoards_59 ?_
  refine v_iload_n 62 hF dX2_setBoards_62 rfl 1 rfl ?_
  refine v_iload_n 63 hF dX2_setBoards_63 rfl 2 rfl ?_
  obtain ⟨o1, h⟩ := h
  refine B_ast3 64 hF o1 dX2_setBoards_64 (fun t2 et2 => ?_)
  replace h := h t2 et2
  refine v_iload_n 65 hF dX2_setBoards_65 rfl 3 rfl ?_
  exact v_iretXA 66 hF hR (Nat.le_of_ble_eq_true rfl) (Nat.le_of_ble_eq_true rfl) dX2_setBoards_66 h
set_option maxHeartbeats 4000000 in
theorem k_X2_setBoards_J42 {x : vC} {l : Launch} {D : va_G} {a : Nat → Nat}  {X : String → (Nat → Nat → Int32) → Prop} {Y : String → Int32 → (Nat → Nat → Int32) → Prop} {Q : Int32 → (Nat → Nat → Int32) → Prop} (hl : l.stackTraces = false) (hF : vF x l D "BrookWeirs$Brook" cX2_setBoards (rmk 5 1 7 181) 5 (some .int)) (hR : vXi x (bkW D a) Q X Y 1 7) (hN : vN x)   : ∀ (σ : Nat → Nat → Int32) (x1 x2 x3 s0 : Int32), w_X2_setBoards_J42 X Y Q  σ x1 x2 x3 s0 → vV x 0 0 (bkW D a σ ++ []) [(0, .ref (a 0)), (1, .int x1), (2, .int x2), (3, .int x3)] 42 [.int s0] := by
  intro σ x1 x2 x3 s0 h
  unfold w_X2_setBoards_J42 at h
  refine v_istore [(0, .ref (a 0)), (1, .int x1), (2, .int x2), (3, .int x3), (4, .int s0)] [1, 2, 3, 4, 0] 42 hF dX2_setBoards_42 (Nat.le_of_ble_eq_true rfl) rfl ?_
  refine v_iload 44 hF dX2_setBoards_44 4 rfl ?_
  refine v_if_ne 46 53 hF dX2_setBoards_46 (by decide) (fun c3 => ?_) (fun c3 => ?_)
  · replace h := h.1 c3
    refine v_iconst (v := 0) 53 hF dX2_setBoards_53 (by decide) ?_
    exact k_X2_setBoards_J54 hl hF hR hN _ _ _ _ _ _ h
  · replace h := h.2 c3
    refine v_iconst (v := 1) 49 hF dX2_setBoards_49 (by decide) ?_
    refine v_goto 50 54 hF dX2_setBoards_50 (by decide) ?_
    exact k_X2_setBoards_J54 hl hF hR hN _ _ _ _ _ _ h
set_option maxHeartbeats 4000000 in
theorem k_X2_setBoards_J41 {x : vC} {l : Launch} {D : va_G} {a : Nat → Nat}  {X : String → (Nat → Nat → Int32) → Prop} {Y : String → Int32 → (Nat → Nat → Int32) → Prop} {Q : Int32 → (Nat → Nat → Int32) → Prop} (hl : l.stackTraces = false) (hF : vF x l D "BrookWeirs$Brook" cX2_setBoards (rmk 5 1 7 181) 5 (some .int)) (hR : vXi x (bkW D a) Q X Y 1 7) (hN : vN x)   : ∀ (σ : Nat → Nat → Int32) (x1 x2 x3 : Int32), w_X2_setBoards_J41 X Y Q  σ x1 x2 x3 → vV x 0 0 (bkW D a σ ++ []) [(0, .ref (a 0)), (1, .int x1), (2, .int x2), (3, .int x3)] 41 [] := by
  intro σ x1 x2 x3 h
  unfold w_X2_setBoards_J41 at h
  refine v_iconst (v := 0) 41 hF dX2_setBoards_41 (by decide) ?_
  exact k_X2_setBoards_J42 hl hF hR hN _ _ _ _ _ h
theorem ds_X2_setBoards : yX2_setBoards.cls = yX2_setBoards.cls ∧ yX2_setBoards.cls ≠ "java/lang/invoke/MethodHandle" ∧ yX2_setBoards.cls ≠ "java/lang/invoke/VarHandle" ∧ (parseMethodDescriptor yX2_setBoards.desc).map (fun d => d.parameters.length) = some 2 := by decide +kernel
set_option maxHeartbeats 4000000 in
theorem c_X2_setBoards (l : Launch) (D : va_G) (hl : l.stackTraces = false) (a : Nat → Nat) (σ : Nat → Nat → Int32) (x1 x2 : Int32) (X : String → (Nat → Nat → Int32) → Prop) (Y : String → Int32 → (Nat → Nat → Int32) → Prop) (Q : Int32 → (Nat → Nat → Int32) → Prop) (h : w_X2_setBoards σ x1 x2 X Y Q) : Cxi l D yX2_setBoards cX2_setBoards 5 .int (rmk 5 1 7 181) [.ref (a 0), .int x1, .int x2] (bkW D a σ) (bkW D a) Q X Y 1 7 := by
  refine Cxi.of (by decide) (Nat.le_of_ble_eq_true rfl) (fun x hF hR hN => ?_)
  replace hF : vF x l D "BrookWeirs$Brook" cX2_setBoards (rmk 5 1 7 181) 5 (some .int) := hF
  refine v_app0 ?_
  unfold w_X2_setBoards at h
  refine v_aload_n 0 hF dX2_setBoards_0 rfl 0 rfl ?_
  refine B_get 1 3 hF (Nat.le_of_ble_eq_true rfl) q171 rfl rfl dX2_setBoards_1 ?_
  refine v_iload_n 4 hF dX2_setBoards_4 rfl 1 rfl ?_
  obtain ⟨o4, h⟩ := h
  refine B_ald3 5 hF o4 dX2_setBoards_5 ?_
  refine v_nm (fun y5 ey5 => ?_)
  replace h := h y5 ey5
  refine v_istore_n [(0, .ref (a 0)), (1, .int x1), (2, .int x2), (3, .int y5)] [1, 2, 3, 0] 6 hF dX2_setBoards_6 rfl (Nat.le_of_ble_eq_true rfl) rfl ?_
  refine v_iload_n 7 hF dX2_setBoards_7 rfl 2 rfl ?_
  refine v_iload_n 8 hF dX2_setBoards_8 rfl 3 rfl ?_
  refine v_icmp_ge 9 41 hF dX2_setBoards_9 (by decide) (fun c6 => ?_) (fun c6 => ?_)
  · replace h := h.1 c6
    exact k_X2_setBoards_J41 hl hF hR hN _ _ _ _ h
  · replace h := h.2 c6
    refine v_aload_n 12 hF dX2_setBoards_12 rfl 0 rfl ?_
    refine v_iload_n 13 hF dX2_setBoards_13 rfl 1 rfl ?_
    refine v_callVi (As := [.int x1]) 14 hF (c_X2_isOpen l D a σ x1 _ h) (List.Perm.refl _) ⟨0, 6, _, TX2, 24, rfl, rfl⟩ q421 q422 q423 q71 q424 ds_X2_isOpen ⟨rfl, rfl, Nat.le_of_ble_eq_true rfl, Nat.le_of_ble_eq_true rfl⟩ (Nat.le_of_ble_eq_true rfl) ⟨Nat.le_of_ble_eq_true rfl, Nat.le_of_ble_eq_true rfl⟩ dX2_setBoards_14 (fun r7 t8 h => ?_)
    refine v_if_ne 17 41 hF dX2_setBoards_17 (by decide) (fun c9 => ?_) (fun c9 => ?_)
    · replace h := h.1 c9
      exact k_X2_setBoards_J41 hl hF hR hN _ _ _ _ h
    · replace h := h.2 c9
      refine v_aload_n 20 hF dX2_setBoards_20 rfl 0 rfl ?_
      refine B_get 21 4 hF (Nat.le_of_ble_eq_true rfl) q173 rfl rfl dX2_setBoards_21 ?_
      refine v_iload_n 24 hF dX2_setBoards_24 rfl 1 rfl ?_
      obtain ⟨o10, h⟩ := h
      refine B_ald4 25 hF o10 dX2_setBoards_25 ?_
      refine v_iload_n 26 hF dX2_setBoards_26 rfl 2 rfl ?_
      refine v_aload_n 27 hF dX2_setBoards_27 rfl 0 rfl ?_
      refine B_get 28 0 hF (Nat.le_of_ble_eq_true rfl) q165 rfl rfl dX2_setBoards_28 ?_
      refine v_iload_n 31 hF dX2_setBoards_31 rfl 1 rfl ?_
      obtain ⟨o11, h⟩ := h
      refine B_ald0 32 hF o11 dX2_setBoards_32 ?_
      refine v_imul 33 hF dX2_setBoards_33 ?_
      refine v_icmp_le 34 41 hF dX2_setBoards_34 (by decide) (fun c12 => ?_) (fun c12 => ?_)
      · replace h := h.1 c12
        exact k_X2_setBoards_J41 hl hF hR hN _ _ _ _ h
      · replace h := h.2 c12
        refine v_iconst (v := 1) 37 hF dX2_setBoards_37 (by decide) ?_
        refine v_goto 38 42 hF dX2_setBoards_38 (by decide) ?_
        exact k_X2_setBoards_J42 hl hF hR hN _ _ _ _ _ h
def w_X2_lay_J35 (X : String → (Nat → Nat → Int32) → Prop) (Y : String → Int32 → (Nat → Nat → Int32) → Prop) (Q : Int32 → (Nat → Nat → Int32) → Prop)  (σ : Nat → Nat → Int32) (x1 x2 s0 : Int32) : Prop :=
  w_X1_allow s0 ((3 : Int32)) (fun E => X E σ) (fun E r => Y E r σ) (∀ t1 : Nat → Nat → Int32, t1 = (upN σ 20 21 ((σ 20 21) + x2)) → w_X2_level t1 x1 (fun r2 t3 => w_X3_add t3 x1 x2 r2 (fun r4 t5 => Q r4 t5)))
def w_X2_lay_J14 (X : String → (Nat → Nat → Int32) → Prop) (Y : String → Int32 → (Nat → Nat → Int32) → Prop) (Q : Int32 → (Nat → Nat → Int32) → Prop)  (σ : Nat → Nat → Int32) (x1 x2 s0 : Int32) : Prop :=
  w_X1_allow s0 ((2 : Int32)) (fun E => X E σ) (fun E r => Y E r σ) ((((12 : Int32) ≤ (σ 40 4) → w_X2_lay_J35 X Y Q σ x1 x2 ((0 : Int32))) ∧ (¬ (12 : Int32) ≤ (σ 40 4) → w_X2_lay_J35 X Y Q σ x1 x2 ((1 : Int32)))))
def w_X2_lay (σ : Nat → Nat → Int32) (x1 x2 : Int32) (X : String → (Nat → Nat → Int32) → Prop) (Y : String → Int32 → (Nat → Nat → Int32) → Prop) (Q : Int32 → (Nat → Nat → Int32) → Prop) : Prop :=
  w_X2_level σ x1 (fun r7 t8 => ((r7 < (1 : Int32) → w_X2_lay_J14 X Y Q t8 x1 x2 ((0 : Int32))) ∧ (¬ r7 < (1 : Int32) → w_X2_lay_J14 X Y Q t8 x1 x2 ((1 : Int32)))))
set_option maxHeartbeats 4000000 in
theorem k_X2_lay_J35 {x : vC} {l : Launch} {D : va_G} {a : Nat → Nat}  {X : String → (Nat → Nat → Int32) → Prop} {Y : String → Int32 → (Nat → Nat → Int32) → Prop} {Q : Int32 → (Nat → Nat → Int32) → Prop} (hl : l.stackTraces = false) (hF : vF x l D "BrookWeirs$Brook" cX2_lay (rmk 5 2 14 181) 3 (some .int)) (hR : vXi x (bkW D a) Q X Y 2 14) (hN : vN x)   : ∀ (σ : Nat → Nat → Int32) (x1 x2 s0 : Int32), w_X2_lay_J35 X Y Q  σ x1 x2 s0 → vV x 1 7 (bkW D a σ ++ []) [(0, .ref (a 0)), (1, .int x1), (2, .int x2)] 35 [.int s0] := by
  intro σ x1 x2 s0 h
  unfold w_X2_lay_J35 at h
  refine v_iconst (v := 3) 35 hF dX2_lay_35 (by decide) ?_
  refine v_callXS0Nv (As := [.int s0, .int ((3 : Int32))]) 36 hF (c_X1_allow l D hl s0 ((3 : Int32)) _ _ _ h) q754 q755 q70 q756 ds_X1_allow ⟨rfl, rfl, Nat.le_of_ble_eq_true rfl, Nat.le_of_ble_eq_true rfl⟩ (Nat.le_of_ble_eq_true rfl) ⟨Nat.le_of_ble_eq_true rfl, Nat.le_of_ble_eq_true rfl⟩ dX2_lay_36 (fun E q hx => v_outiA hF hR hN (Nat.le_of_ble_eq_true rfl) (Nat.le_of_ble_eq_true rfl) hx) (fun E q ci r hy hp => v_outYiA hF hR hN (Nat.le_of_ble_eq_true rfl) (Nat.le_of_ble_eq_true rfl) hp hy) (fun h => ?_)
  refine v_aload_n 39 hF dX2_lay_39 rfl 0 rfl ?_
  refine v_dup 40 hF dX2_lay_40 rfl ?_
  refine B_get 41 21 hF (Nat.le_of_ble_eq_true rfl) q213 rfl rfl dX2_lay_41 ?_
  refine v_iload_n 44 hF dX2_lay_44 rfl 2 rfl ?_
  refine v_iadd 45 hF dX2_lay_45 ?_
  refine B_put21 46 hF q213 dX2_lay_46 (fun t1 et1 => ?_)
  replace h := h t1 et1
  refine v_aload_n 49 hF dX2_lay_49 rfl 0 rfl ?_
  refine B_get 50 7 hF (Nat.le_of_ble_eq_true rfl) q180 rfl rfl dX2_lay_50 ?_
  refine v_iload_n 53 hF dX2_lay_53 rfl 1 rfl ?_
  refine v_iload_n 54 hF dX2_lay_54 rfl 2 rfl ?_
  refine v_aload_n 55 hF dX2_lay_55 rfl 0 rfl ?_
  refine v_iload_n 56 hF dX2_lay_56 rfl 1 rfl ?_
  refine v_callVi (As := [.int x1]) 57 hF (c_X2_level l D a t1 x1 _ h) (List.Perm.refl _) ⟨0, 6, _, TX2, 24, rfl, rfl⟩ q442 q443 q444 q71 q445 ds_X2_level ⟨rfl, rfl, Nat.le_of_ble_eq_true rfl, Nat.le_of_ble_eq_true rfl⟩ (Nat.le_of_ble_eq_true rfl) ⟨Nat.le_of_ble_eq_true rfl, Nat.le_of_ble_eq_true rfl⟩ dX2_lay_57 (fun r2 t3 h => ?_)
  refine v_callVi (As := [.int x1, .int x2, .int r2]) 60 hF (c_X3_add l D a t3 x1 x2 r2 _ h) (List.Perm.refl _) ⟨8, 7, _, TX3, 5, rfl, rfl⟩ q890 q891 q892 q72 q893 ds_X3_add ⟨rfl, rfl, Nat.le_of_ble_eq_true rfl, Nat.le_of_ble_eq_true rfl⟩ (Nat.le_of_ble_eq_true rfl) ⟨Nat.le_of_ble_eq_true rfl, Nat.le_of_ble_eq_true rfl⟩ dX2_lay_60 (fun r4 t5 h => ?_)
  exact v_iretXA 63 hF hR (Nat.le_of_ble_eq_true rfl) (Nat.le_of_ble_eq_true rfl) dX2_lay_63 h
set_option maxHeartbeats 4000000 in
theorem k_X2_lay_J14 {x : vC} {l : Launch} {D : va_G} {a : Nat → Nat}  {X : String → (Nat → Nat → Int32) → Prop} {Y : String → Int32 → (Nat → Nat → Int32) → Prop} {Q : Int32 → (Nat → Nat → Int32) → Prop} (hl : l.stackTraces = false) (hF : vF x l D "BrookWeirs$Brook" cX2_lay (rmk 5 2 14 181) 3 (some .int)) (hR : vXi x (bkW D a) Q X Y 2 14) (hN : vN x)   : ∀ (σ : Nat → Nat → Int32) (x1 x2 s0 : Int32), w_X2_lay_J14 X Y Q  σ x1 x2 s0 → vV x 0 0 (bkW D a σ ++ []) [(0, .ref (a 0)), (1, .int x1), (2, .int x2)] 14 [.int s0] := by
  intro σ x1 x2 s0 h
  unfold w_X2_lay_J14 at h
  refine v_iconst (v := 2) 14 hF dX2_lay_14 (by decide) ?_
  refine v_callXS0Nv (As := [.int s0, .int ((2 : Int32))]) 15 hF (c_X1_allow l D hl s0 ((2 : Int32)) _ _ _ h) q754 q755 q70 q756 ds_X1_allow ⟨rfl, rfl, Nat.le_of_ble_eq_true rfl, Nat.le_of_ble_eq_true rfl⟩ (Nat.le_of_ble_eq_true rfl) ⟨Nat.le_of_ble_eq_true rfl, Nat.le_of_ble_eq_true rfl⟩ dX2_lay_15 (fun E q hx => v_outiA hF hR hN (Nat.le_of_ble_eq_true rfl) (Nat.le_of_ble_eq_true rfl) hx) (fun E q ci r hy hp => v_outYiA hF hR hN (Nat.le_of_ble_eq_true rfl) (Nat.le_of_ble_eq_true rfl) hp hy) (fun h => ?_)
  refine v_aload_n 18 hF dX2_lay_18 rfl 0 rfl ?_
  refine B_get 19 7 hF (Nat.le_of_ble_eq_true rfl) q180 rfl rfl dX2_lay_19 ?_
  refine K_getN 22 4 hF (Nat.le_of_ble_eq_true rfl) q151 rfl rfl dX2_lay_22 ?_
  refine v_bipush (v := 12) 25 hF dX2_lay_25 (by decide) ?_
  refine v_icmp_ge 27 34 hF dX2_lay_27 (by decide) (fun c6 => ?_) (fun c6 => ?_)
  · replace h := h.1 c6
    refine v_iconst (v := 0) 34 hF dX2_lay_34 (by decide) ?_
    exact k_X2_lay_J35 hl hF hR hN _ _ _ _ h
  · replace h := h.2 c6
    refine v_iconst (v := 1) 30 hF dX2_lay_30 (by decide) ?_
    refine v_goto 31 35 hF dX2_lay_31 (by decide) ?_
    exact k_X2_lay_J35 hl hF hR hN _ _ _ _ h
theorem ds_X2_lay : yX2_lay.cls = yX2_lay.cls ∧ yX2_lay.cls ≠ "java/lang/invoke/MethodHandle" ∧ yX2_lay.cls ≠ "java/lang/invoke/VarHandle" ∧ (parseMethodDescriptor yX2_lay.desc).map (fun d => d.parameters.length) = some 2 := by decide +kernel
set_option maxHeartbeats 4000000 in
theorem c_X2_lay (l : Launch) (D : va_G) (hl : l.stackTraces = false) (a : Nat → Nat) (σ : Nat → Nat → Int32) (x1 x2 : Int32) (X : String → (Nat → Nat → Int32) → Prop) (Y : String → Int32 → (Nat → Nat → Int32) → Prop) (Q : Int32 → (Nat → Nat → Int32) → Prop) (h : w_X2_lay σ x1 x2 X Y Q) : Cxi l D yX2_lay cX2_lay 3 .int (rmk 5 2 14 181) [.ref (a 0), .int x1, .int x2] (bkW D a σ) (bkW D a) Q X Y 2 14 := by
  refine Cxi.of (by decide) (Nat.le_of_ble_eq_true rfl) (fun x hF hR hN => ?_)
  replace hF : vF x l D "BrookWeirs$Brook" cX2_lay (rmk 5 2 14 181) 3 (some .int) := hF
  refine v_app0 ?_
  unfold w_X2_lay at h
  refine v_aload_n 0 hF dX2_lay_0 rfl 0 rfl ?_
  refine v_iload_n 1 hF dX2_lay_1 rfl 1 rfl ?_
  refine v_callVi (As := [.int x1]) 2 hF (c_X2_level l D a σ x1 _ h) (List.Perm.refl _) ⟨0, 6, _, TX2, 24, rfl, rfl⟩ q442 q443 q444 q71 q445 ds_X2_level ⟨rfl, rfl, Nat.le_of_ble_eq_true rfl, Nat.le_of_ble_eq_true rfl⟩ (Nat.le_of_ble_eq_true rfl) ⟨Nat.le_of_ble_eq_true rfl, Nat.le_of_ble_eq_true rfl⟩ dX2_lay_2 (fun r7 t8 h => ?_)
  refine v_iconst (v := 1) 5 hF dX2_lay_5 (by decide) ?_
  refine v_icmp_lt 6 13 hF dX2_lay_6 (by decide) (fun c9 => ?_) (fun c9 => ?_)
  · replace h := h.1 c9
    refine v_iconst (v := 0) 13 hF dX2_lay_13 (by decide) ?_
    exact k_X2_lay_J14 hl hF hR hN _ _ _ _ h
  · replace h := h.2 c9
    refine v_iconst (v := 1) 9 hF dX2_lay_9 (by decide) ?_
    refine v_goto 10 14 hF dX2_lay_10 (by decide) ?_
    exact k_X2_lay_J14 hl hF hR hN _ _ _ _ h
def w_X2_tell_J14 (X : String → (Nat → Nat → Int32) → Prop) (Y : String → Int32 → (Nat → Nat → Int32) → Prop) (Q : Int32 → (Nat → Nat → Int32) → Prop)  (σ : Nat → Nat → Int32) (x1 s0 : Int32) : Prop :=
  w_X1_allow s0 ((4 : Int32)) (fun E => X E σ) (fun E r => Y E r σ) (vp_in ((σ 20 9)) 30 ∧ ∀ t2 : Nat → Nat → Int32, t2 = (upN σ 6 ((σ 20 9)).toNatClampNeg x1) → ∀ t3 : Nat → Nat → Int32, t3 = (upN t2 20 9 ((t2 20 9) + (1 : Int32))) → Q ((t3 20 9)) t3)
def w_X2_tell (σ : Nat → Nat → Int32) (x1 : Int32) (X : String → (Nat → Nat → Int32) → Prop) (Y : String → Int32 → (Nat → Nat → Int32) → Prop) (Q : Int32 → (Nat → Nat → Int32) → Prop) : Prop :=
  (((30 : Int32) ≤ (σ 20 9) → w_X2_tell_J14 X Y Q σ x1 ((0 : Int32))) ∧ (¬ (30 : Int32) ≤ (σ 20 9) → w_X2_tell_J14 X Y Q σ x1 ((1 : Int32))))
set_option maxHeartbeats 4000000 in
theorem k_X2_tell_J14 {x : vC} {l : Launch} {D : va_G} {a : Nat → Nat}  {X : String → (Nat → Nat → Int32) → Prop} {Y : String → Int32 → (Nat → Nat → Int32) → Prop} {Q : Int32 → (Nat → Nat → Int32) → Prop} (hl : l.stackTraces = false) (hF : vF x l D "BrookWeirs$Brook" cX2_tell (rmk 5 1 7 181) 2 (some .int)) (hR : vXi x (bkW D a) Q X Y 1 7) (hN : vN x)   : ∀ (σ : Nat → Nat → Int32) (x1 s0 : Int32), w_X2_tell_J14 X Y Q  σ x1 s0 → vV x 0 0 (bkW D a σ ++ []) [(0, .ref (a 0)), (1, .int x1)] 14 [.int s0] := by
  intro σ x1 s0 h
  unfold w_X2_tell_J14 at h
  refine v_iconst (v := 4) 14 hF dX2_tell_14 (by decide) ?_
  refine v_callXS0Nv (As := [.int s0, .int ((4 : Int32))]) 15 hF (c_X1_allow l D hl s0 ((4 : Int32)) _ _ _ h) q754 q755 q70 q756 ds_X1_allow ⟨rfl, rfl, Nat.le_of_ble_eq_true rfl, Nat.le_of_ble_eq_true rfl⟩ (Nat.le_of_ble_eq_true rfl) ⟨Nat.le_of_ble_eq_true rfl, Nat.le_of_ble_eq_true rfl⟩ dX2_tell_15 (fun E q hx => v_outiA hF hR hN (Nat.le_of_ble_eq_true rfl) (Nat.le_of_ble_eq_true rfl) hx) (fun E q ci r hy hp => v_outYiA hF hR hN (Nat.le_of_ble_eq_true rfl) (Nat.le_of_ble_eq_true rfl) hp hy) (fun h => ?_)
  refine v_aload_n 18 hF dX2_tell_18 rfl 0 rfl ?_
  refine B_get 19 6 hF (Nat.le_of_ble_eq_true rfl) q178 rfl rfl dX2_tell_19 ?_
  refine v_aload_n 22 hF dX2_tell_22 rfl 0 rfl ?_
  refine B_get 23 9 hF (Nat.le_of_ble_eq_true rfl) q186 rfl rfl dX2_tell_23 ?_
  refine v_iload_n 26 hF dX2_tell_26 rfl 1 rfl ?_
  obtain ⟨o1, h⟩ := h
  refine B_ast6 27 hF o1 dX2_tell_27 (fun t2 et2 => ?_)
  replace h := h t2 et2
  refine v_aload_n 28 hF dX2_tell_28 rfl 0 rfl ?_
  refine v_dup 29 hF dX2_tell_29 rfl ?_
  refine B_get 30 9 hF (Nat.le_of_ble_eq_true rfl) q186 rfl rfl dX2_tell_30 ?_
  refine v_iconst (v := 1) 33 hF dX2_tell_33 (by decide) ?_
  refine v_iadd 34 hF dX2_tell_34 ?_
  refine B_put9 35 hF q186 dX2_tell_35 (fun t3 et3 => ?_)
  replace h := h t3 et3
  refine v_aload_n 38 hF dX2_tell_38 rfl 0 rfl ?_
  refine B_get 39 9 hF (Nat.le_of_ble_eq_true rfl) q186 rfl rfl dX2_tell_39 ?_
  exact v_iretXA 42 hF hR (Nat.le_of_ble_eq_true rfl) (Nat.le_of_ble_eq_true rfl) dX2_tell_42 h
theorem ds_X2_tell : yX2_tell.cls = yX2_tell.cls ∧ yX2_tell.cls ≠ "java/lang/invoke/MethodHandle" ∧ yX2_tell.cls ≠ "java/lang/invoke/VarHandle" ∧ (parseMethodDescriptor yX2_tell.desc).map (fun d => d.parameters.length) = some 1 := by decide +kernel
set_option maxHeartbeats 4000000 in
theorem c_X2_tell (l : Launch) (D : va_G) (hl : l.stackTraces = false) (a : Nat → Nat) (σ : Nat → Nat → Int32) (x1 : Int32) (X : String → (Nat → Nat → Int32) → Prop) (Y : String → Int32 → (Nat → Nat → Int32) → Prop) (Q : Int32 → (Nat → Nat → Int32) → Prop) (h : w_X2_tell σ x1 X Y Q) : Cxi l D yX2_tell cX2_tell 2 .int (rmk 5 1 7 181) [.ref (a 0), .int x1] (bkW D a σ) (bkW D a) Q X Y 1 7 := by
  refine Cxi.of (by decide) (Nat.le_of_ble_eq_true rfl) (fun x hF hR hN => ?_)
  replace hF : vF x l D "BrookWeirs$Brook" cX2_tell (rmk 5 1 7 181) 2 (some .int) := hF
  refine v_app0 ?_
  unfold w_X2_tell at h
  refine v_aload_n 0 hF dX2_tell_0 rfl 0 rfl ?_
  refine B_get 1 9 hF (Nat.le_of_ble_eq_true rfl) q186 rfl rfl dX2_tell_1 ?_
  refine v_bipush (v := 30) 4 hF dX2_tell_4 (by decide) ?_
  refine v_icmp_ge 6 13 hF dX2_tell_6 (by decide) (fun c4 => ?_) (fun c4 => ?_)
  · replace h := h.1 c4
    refine v_iconst (v := 0) 13 hF dX2_tell_13 (by decide) ?_
    exact k_X2_tell_J14 hl hF hR hN _ _ _ h
  · replace h := h.2 c4
    refine v_iconst (v := 1) 9 hF dX2_tell_9 (by decide) ?_
    refine v_goto 10 14 hF dX2_tell_10 (by decide) ?_
    exact k_X2_tell_J14 hl hF hR hN _ _ _ h
def w_X2_pass_L2 (Q : (Nat → Nat → Int32) → Prop) (K2 : (Nat → Nat → Int32) → Int32 → Int32 → Prop) (σ : Nat → Nat → Int32) (x1 x2 : Int32) : Prop :=
  ((x1 ≤ x2 → Q σ) ∧ (¬ x1 ≤ x2 → w_X2_day σ  (fun r2 t3 => ∀ y4 : Int32, y4 = x2 + (1 : Int32) → K2 t3 x1 y4)))
def w_X2_pass (σ : Nat → Nat → Int32) (x1 : Int32) (Q : (Nat → Nat → Int32) → Prop) : Prop :=
  wLoop (fun K s => w_X2_pass_L2 Q (fun v0 v1 v2 => K (v0, v1, v2)) s.1 s.2.1 s.2.2) (σ, x1, (0 : Int32))
set_option maxHeartbeats 4000000 in
theorem k_X2_pass_L2 {x : vC} {l : Launch} {D : va_G} {a : Nat → Nat}  {Q : (Nat → Nat → Int32) → Prop} (hF : vF x l D "BrookWeirs$Brook" cX2_pass (rmk 4 0 0 130) 4 (some (.object "BrookWeirs$Brook"))) (hR : vRr x (bkW D a) (fun _ => a 0) Q 0 0) {K2 : (Nat → Nat → Int32) → Int32 → Int32 → Prop} (hK2 : ∀ (σ : Nat → Nat → Int32) (x1 x2 : Int32), K2 σ x1 x2 → vV x 0 0 (bkW D a σ ++ []) [(0, .ref (a 0)), (1, .int x1), (2, .int x2)] 2 []) : ∀ (σ : Nat → Nat → Int32) (x1 x2 : Int32), w_X2_pass_L2 Q K2 σ x1 x2 → vV x 0 0 (bkW D a σ ++ []) [(0, .ref (a 0)), (1, .int x1), (2, .int x2)] 2 [] := by
  intro σ x1 x2 h
  unfold w_X2_pass_L2 at h
  refine v_iload_n 2 hF dX2_pass_2 rfl 2 rfl ?_
  refine v_iload_n 3 hF dX2_pass_3 rfl 1 rfl ?_
  refine v_icmp_ge 4 18 hF dX2_pass_4 (by decide) (fun c1 => ?_) (fun c1 => ?_)
  · replace h := h.1 c1
    refine v_aload_n 18 hF dX2_pass_18 rfl 0 rfl ?_
    exact v_aretA (u := σ) 19 hF (Or.inl ⟨_, rfl⟩) hR (Nat.zero_le _) (Nat.zero_le _) dX2_pass_19 rfl h
  · replace h := h.2 c1
    refine v_aload_n 7 hF dX2_pass_7 rfl 0 rfl ?_
    refine v_callVi (As := []) 8 hF (c_X2_day l D a σ _ h) (List.Perm.refl _) ⟨0, 6, _, TX2, 24, rfl, rfl⟩ q1102 q403 q404 q71 q405 ds_X2_day ⟨rfl, rfl, Nat.le_of_ble_eq_true rfl, Nat.le_of_ble_eq_true rfl⟩ (Nat.le_of_ble_eq_true rfl) ⟨Nat.zero_le _, Nat.zero_le _⟩ dX2_pass_8 (fun r2 t3 h => ?_)
    refine v_istore_n [(0, .ref (a 0)), (1, .int x1), (2, .int x2), (3, .int r2)] [1, 2, 3, 0] 11 hF dX2_pass_11 rfl (Nat.le_of_ble_eq_true rfl) rfl ?_
    obtain ⟨y4, ey4⟩ : ∃ y : Int32, y = x2 + (1 : Int32) := ⟨_, rfl⟩
    replace h := h y4 ey4
    refine v_iinc [(0, .ref (a 0)), (1, .int x1), (2, .int y4), (3, .int r2)] [1, 2, 0, 3] 12 hF dX2_pass_12 2 rfl (by rw [ey4]; rfl) (Nat.le_of_ble_eq_true rfl) rfl ?_
    refine v_goto 15 2 hF dX2_pass_15 (by decide) ?_
    refine v_sub [(0, .ref (a 0)), (1, .int x1), (2, .int y4)] [0, 1, 2] rfl ?_
    exact hK2 _ _ _ h
theorem ds_X2_pass : yX2_pass.cls = yX2_pass.cls ∧ yX2_pass.cls ≠ "java/lang/invoke/MethodHandle" ∧ yX2_pass.cls ≠ "java/lang/invoke/VarHandle" ∧ (parseMethodDescriptor yX2_pass.desc).map (fun d => d.parameters.length) = some 1 := by decide +kernel
set_option maxHeartbeats 4000000 in
theorem c_X2_pass (l : Launch) (D : va_G) (a : Nat → Nat) (σ : Nat → Nat → Int32) (x1 : Int32) (Q : (Nat → Nat → Int32) → Prop) (h : w_X2_pass σ x1 Q) : Ctr l D yX2_pass cX2_pass 4 (.object "BrookWeirs$Brook") (rmk 4 0 0 130) [.ref (a 0), .int x1] (bkW D a σ) (bkW D a) (fun _ => a 0) Q 0 0 := by
  refine Ctr.of (by decide) (Nat.le_of_ble_eq_true rfl) (fun x hF hR => ?_)
  replace hF : vF x l D "BrookWeirs$Brook" cX2_pass (rmk 4 0 0 130) 4 (some (.object "BrookWeirs$Brook")) := hF
  refine v_app0 ?_
  unfold w_X2_pass at h
  refine v_iconst (v := 0) 0 hF dX2_pass_0 (by decide) ?_
  refine v_istore_n [(0, .ref (a 0)), (1, .int x1), (2, .int ((0 : Int32)))] [1, 2, 0] 1 hF dX2_pass_1 rfl (Nat.le_of_ble_eq_true rfl) rfl ?_
  exact vLoop (V := fun s => vV x 0 0 (bkW D a s.1 ++ []) [(0, .ref (a 0)), (1, .int s.2.1), (2, .int s.2.2)] 2 []) (fun K hK s hs => k_X2_pass_L2 hF hR (fun v0 v1 v2 q => hK (v0, v1, v2) q) s.1 s.2.1 s.2.2 hs) _ h
def w_X2_season_J12 (X : String → (Nat → Nat → Int32) → Prop) (Y : String → Int32 → (Nat → Nat → Int32) → Prop) (Q : Int32 → (Nat → Nat → Int32) → Prop)  (σ : Nat → Nat → Int32) (s0 : Int32) : Prop :=
  w_X1_allow s0 ((6 : Int32)) (fun E => X E σ) (fun E r => Y E r σ) (∀ y1 : Int32, y1 = (σ 20 9) → w_X2_pass σ y1 (fun t3 => Q y1 t3))
def w_X2_season (σ : Nat → Nat → Int32) (X : String → (Nat → Nat → Int32) → Prop) (Y : String → Int32 → (Nat → Nat → Int32) → Prop) (Q : Int32 → (Nat → Nat → Int32) → Prop) : Prop :=
  (((σ 20 9) ≤ 0 → w_X2_season_J12 X Y Q σ ((0 : Int32))) ∧ (¬ (σ 20 9) ≤ 0 → w_X2_season_J12 X Y Q σ ((1 : Int32))))
set_option maxHeartbeats 4000000 in
theorem k_X2_season_J12 {x : vC} {l : Launch} {D : va_G} {a : Nat → Nat}  {X : String → (Nat → Nat → Int32) → Prop} {Y : String → Int32 → (Nat → Nat → Int32) → Prop} {Q : Int32 → (Nat → Nat → Int32) → Prop} (hl : l.stackTraces = false) (hF : vF x l D "BrookWeirs$Brook" cX2_season (rmk 5 1 7 181) 3 (some .int)) (hR : vXi x (bkW D a) Q X Y 1 7) (hN : vN x)   : ∀ (σ : Nat → Nat → Int32) (s0 : Int32), w_X2_season_J12 X Y Q  σ s0 → vV x 0 0 (bkW D a σ ++ []) [(0, .ref (a 0))] 12 [.int s0] := by
  intro σ s0 h
  unfold w_X2_season_J12 at h
  refine v_bipush (v := 6) 12 hF dX2_season_12 (by decide) ?_
  refine v_callXS0Nv (As := [.int s0, .int ((6 : Int32))]) 14 hF (c_X1_allow l D hl s0 ((6 : Int32)) _ _ _ h) q754 q755 q70 q756 ds_X1_allow ⟨rfl, rfl, Nat.le_of_ble_eq_true rfl, Nat.le_of_ble_eq_true rfl⟩ (Nat.le_of_ble_eq_true rfl) ⟨Nat.le_of_ble_eq_true rfl, Nat.le_of_ble_eq_true rfl⟩ dX2_season_14 (fun E q hx => v_outiA hF hR hN (Nat.le_of_ble_eq_true rfl) (Nat.le_of_ble_eq_true rfl) hx) (fun E q ci r hy hp => v_outYiA hF hR hN (Nat.le_of_ble_eq_true rfl) (Nat.le_of_ble_eq_true rfl) hp hy) (fun h => ?_)
  refine v_aload_n 17 hF dX2_season_17 rfl 0 rfl ?_
  refine B_get 18 9 hF (Nat.le_of_ble_eq_true rfl) q186 rfl rfl dX2_season_18 ?_
  refine v_nm (fun y1 ey1 => ?_)
  replace h := h y1 ey1
  refine v_istore_n [(0, .ref (a 0)), (1, .int y1)] [1, 0] 21 hF dX2_season_21 rfl (Nat.le_of_ble_eq_true rfl) rfl ?_
  refine v_aload_n 22 hF dX2_season_22 rfl 0 rfl ?_
  refine v_iload_n 23 hF dX2_season_23 rfl 1 rfl ?_
  refine v_callVr (As := [.int y1]) 24 hF (c_X2_pass l D a σ y1 _ h) (List.Perm.refl _) ⟨0, 6, _, TX2, 24, rfl, rfl⟩ q1238 q1099 q1100 q71 q1101 ds_X2_pass ⟨rfl, rfl, Nat.le_of_ble_eq_true rfl, Nat.le_of_ble_eq_true rfl⟩ (Nat.le_of_ble_eq_true rfl) ⟨Nat.le_of_ble_eq_true rfl, Nat.le_of_ble_eq_true rfl⟩ dX2_season_24 (fun t3 h => ?_)
  refine v_astore_n [(0, .ref (a 0)), (1, .int y1), (2, .ref (a 0))] [1, 2, 0] 27 hF dX2_season_27 rfl (Nat.le_of_ble_eq_true rfl) rfl ?_
  refine v_iload_n 28 hF dX2_season_28 rfl 1 rfl ?_
  exact v_iretXA 29 hF hR (Nat.le_of_ble_eq_true rfl) (Nat.le_of_ble_eq_true rfl) dX2_season_29 h
theorem ds_X2_season : yX2_season.cls = yX2_season.cls ∧ yX2_season.cls ≠ "java/lang/invoke/MethodHandle" ∧ yX2_season.cls ≠ "java/lang/invoke/VarHandle" ∧ (parseMethodDescriptor yX2_season.desc).map (fun d => d.parameters.length) = some 0 := by decide +kernel
set_option maxHeartbeats 4000000 in
theorem c_X2_season (l : Launch) (D : va_G) (hl : l.stackTraces = false) (a : Nat → Nat) (σ : Nat → Nat → Int32) (X : String → (Nat → Nat → Int32) → Prop) (Y : String → Int32 → (Nat → Nat → Int32) → Prop) (Q : Int32 → (Nat → Nat → Int32) → Prop) (h : w_X2_season σ  X Y Q) : Cxi l D yX2_season cX2_season 3 .int (rmk 5 1 7 181) [.ref (a 0)] (bkW D a σ) (bkW D a) Q X Y 1 7 := by
  refine Cxi.of (by decide) (Nat.le_of_ble_eq_true rfl) (fun x hF hR hN => ?_)
  replace hF : vF x l D "BrookWeirs$Brook" cX2_season (rmk 5 1 7 181) 3 (some .int) := hF
  refine v_app0 ?_
  unfold w_X2_season at h
  refine v_aload_n 0 hF dX2_season_0 rfl 0 rfl ?_
  refine B_get 1 9 hF (Nat.le_of_ble_eq_true rfl) q186 rfl rfl dX2_season_1 ?_
  refine v_if_le 4 11 hF dX2_season_4 (by decide) (fun c4 => ?_) (fun c4 => ?_)
  · replace h := h.1 c4
    refine v_iconst (v := 0) 11 hF dX2_season_11 (by decide) ?_
    exact k_X2_season_J12 hl hF hR hN _ _ h
  · replace h := h.2 c4
    refine v_iconst (v := 1) 7 hF dX2_season_7 (by decide) ?_
    refine v_goto 8 12 hF dX2_season_8 (by decide) ?_
    exact k_X2_season_J12 hl hF hR hN _ _ h
def w_X2_sum4_L4 (Q : Int32 → (Nat → Nat → Int32) → Prop) (K4 : (Nat → Nat → Int32) → Int32 → Int32 → Prop) (σ : Nat → Nat → Int32) (x2 x3 : Int32) : Prop :=
  (((σ 20 8) ≤ x3 → Q x2 σ) ∧ (¬ (σ 20 8) ≤ x3 → vp_in x3 6 ∧ ∀ y3 : Int32, y3 = (x2 + ((σ 4) x3.toNatClampNeg)) → ∀ y4 : Int32, y4 = x3 + (1 : Int32) → K4 σ y3 y4))
def w_X2_sum4 (σ : Nat → Nat → Int32) (Q : Int32 → (Nat → Nat → Int32) → Prop) : Prop :=
  wLoop (fun K s => w_X2_sum4_L4 Q (fun v0 v1 v2 => K (v0, v1, v2)) s.1 s.2.1 s.2.2) (σ, (0 : Int32), (0 : Int32))
set_option maxHeartbeats 4000000 in
theorem k_X2_sum4_L4 {x : vC} {l : Launch} {D : va_G} {a : Nat → Nat}  {Q : Int32 → (Nat → Nat → Int32) → Prop} (hF : vF x l D "BrookWeirs$Brook" cX2_sum (rmk 0 0 0 0) 4 (some .int)) (hR : vRi x (bkW D a) Q 0 0) {K4 : (Nat → Nat → Int32) → Int32 → Int32 → Prop} (hK4 : ∀ (σ : Nat → Nat → Int32) (x2 x3 : Int32), K4 σ x2 x3 → vV x 0 0 (bkW D a σ ++ []) [(0, .ref (a 0)), (1, .ref (a 5)), (2, .int x2), (3, .int x3)] 4 []) : ∀ (σ : Nat → Nat → Int32) (x2 x3 : Int32), w_X2_sum4_L4 Q K4 σ x2 x3 → vV x 0 0 (bkW D a σ ++ []) [(0, .ref (a 0)), (1, .ref (a 5)), (2, .int x2), (3, .int x3)] 4 [] := by
  intro σ x2 x3 h
  unfold w_X2_sum4_L4 at h
  refine v_iload_n 4 hF dX2_sum_4 rfl 3 rfl ?_
  refine v_aload_n 5 hF dX2_sum_5 rfl 0 rfl ?_
  refine B_get 6 8 hF (Nat.le_of_ble_eq_true rfl) q183 rfl rfl dX2_sum_6 ?_
  refine v_icmp_ge 9 24 hF dX2_sum_9 (by decide) (fun c1 => ?_) (fun c1 => ?_)
  · replace h := h.1 c1
    refine v_iload_n 24 hF dX2_sum_24 rfl 2 rfl ?_
    exact v_iretA 25 hF hR (Nat.zero_le _) (Nat.zero_le _) dX2_sum_25 h
  · replace h := h.2 c1
    refine v_iload_n 12 hF dX2_sum_12 rfl 2 rfl ?_
    refine v_aload_n 13 hF dX2_sum_13 rfl 1 rfl ?_
    refine v_iload_n 14 hF dX2_sum_14 rfl 3 rfl ?_
    obtain ⟨o2, h⟩ := h
    refine B_ald4 15 hF o2 dX2_sum_15 ?_
    refine v_iadd 16 hF dX2_sum_16 ?_
    refine v_nm (fun y3 ey3 => ?_)
    replace h := h y3 ey3
    refine v_istore_n [(0, .ref (a 0)), (1, .ref (a 5)), (2, .int y3), (3, .int x3)] [1, 2, 0, 3] 17 hF dX2_sum_17 rfl (Nat.le_of_ble_eq_true rfl) rfl ?_
    obtain ⟨y4, ey4⟩ : ∃ y : Int32, y = x3 + (1 : Int32) := ⟨_, rfl⟩
    replace h := h y4 ey4
    refine v_iinc [(0, .ref (a 0)), (1, .ref (a 5)), (2, .int y3), (3, .int y4)] [1, 2, 3, 0] 18 hF dX2_sum_18 3 rfl (by rw [ey4]; rfl) (Nat.le_of_ble_eq_true rfl) rfl ?_
    refine v_goto 21 4 hF dX2_sum_21 (by decide) ?_
    exact hK4 _ _ _ h
theorem ds_X2_sum : yX2_sum.cls = yX2_sum.cls ∧ yX2_sum.cls ≠ "java/lang/invoke/MethodHandle" ∧ yX2_sum.cls ≠ "java/lang/invoke/VarHandle" ∧ (parseMethodDescriptor yX2_sum.desc).map (fun d => d.parameters.length) = some 1 := by decide +kernel
set_option maxHeartbeats 4000000 in
theorem c_X2_sum4 (l : Launch) (D : va_G) (a : Nat → Nat) (σ : Nat → Nat → Int32) (Q : Int32 → (Nat → Nat → Int32) → Prop) (h : w_X2_sum4 σ Q) : Cti l D yX2_sum cX2_sum 4 .int (rmk 0 0 0 0) [.ref (a 0), .ref (a 5)] (bkW D a σ) (bkW D a) Q 0 0 := by
  refine Cti.of (by decide) (Nat.le_of_ble_eq_true rfl) (fun x hF hR => ?_)
  replace hF : vF x l D "BrookWeirs$Brook" cX2_sum (rmk 0 0 0 0) 4 (some .int) := hF
  refine v_app0 ?_
  unfold w_X2_sum4 at h
  refine v_iconst (v := 0) 0 hF dX2_sum_0 (by decide) ?_
  refine v_istore_n [(0, .ref (a 0)), (1, .ref (a 5)), (2, .int ((0 : Int32)))] [1, 2, 0] 1 hF dX2_sum_1 rfl (Nat.le_of_ble_eq_true rfl) rfl ?_
  refine v_iconst (v := 0) 2 hF dX2_sum_2 (by decide) ?_
  refine v_istore_n [(0, .ref (a 0)), (1, .ref (a 5)), (2, .int ((0 : Int32))), (3, .int ((0 : Int32)))] [1, 2, 3, 0] 3 hF dX2_sum_3 rfl (Nat.le_of_ble_eq_true rfl) rfl ?_
  exact vLoop (V := fun s => vV x 0 0 (bkW D a s.1 ++ []) [(0, .ref (a 0)), (1, .ref (a 5)), (2, .int s.2.1), (3, .int s.2.2)] 4 []) (fun K hK s hs => k_X2_sum4_L4 hF hR (fun v0 v1 v2 q => hK (v0, v1, v2) q) s.1 s.2.1 s.2.2 hs) _ h
def w_X2_sum5_L4 (Q : Int32 → (Nat → Nat → Int32) → Prop) (K4 : (Nat → Nat → Int32) → Int32 → Int32 → Prop) (σ : Nat → Nat → Int32) (x2 x3 : Int32) : Prop :=
  (((σ 20 8) ≤ x3 → Q x2 σ) ∧ (¬ (σ 20 8) ≤ x3 → vp_in x3 6 ∧ ∀ y3 : Int32, y3 = (x2 + ((σ 5) x3.toNatClampNeg)) → ∀ y4 : Int32, y4 = x3 + (1 : Int32) → K4 σ y3 y4))
def w_X2_sum5 (σ : Nat → Nat → Int32) (Q : Int32 → (Nat → Nat → Int32) → Prop) : Prop :=
  wLoop (fun K s => w_X2_sum5_L4 Q (fun v0 v1 v2 => K (v0, v1, v2)) s.1 s.2.1 s.2.2) (σ, (0 : Int32), (0 : Int32))
set_option maxHeartbeats 4000000 in
theorem k_X2_sum5_L4 {x : vC} {l : Launch} {D : va_G} {a : Nat → Nat}  {Q : Int32 → (Nat → Nat → Int32) → Prop} (hF : vF x l D "BrookWeirs$Brook" cX2_sum (rmk 0 0 0 0) 4 (some .int)) (hR : vRi x (bkW D a) Q 0 0) {K4 : (Nat → Nat → Int32) → Int32 → Int32 → Prop} (hK4 : ∀ (σ : Nat → Nat → Int32) (x2 x3 : Int32), K4 σ x2 x3 → vV x 0 0 (bkW D a σ ++ []) [(0, .ref (a 0)), (1, .ref (a 6)), (2, .int x2), (3, .int x3)] 4 []) : ∀ (σ : Nat → Nat → Int32) (x2 x3 : Int32), w_X2_sum5_L4 Q K4 σ x2 x3 → vV x 0 0 (bkW D a σ ++ []) [(0, .ref (a 0)), (1, .ref (a 6)), (2, .int x2), (3, .int x3)] 4 [] := by
  intro σ x2 x3 h
  unfold w_X2_sum5_L4 at h
  refine v_iload_n 4 hF dX2_sum_4 rfl 3 rfl ?_
  refine v_aload_n 5 hF dX2_sum_5 rfl 0 rfl ?_
  refine B_get 6 8 hF (Nat.le_of_ble_eq_true rfl) q183 rfl rfl dX2_sum_6 ?_
  refine v_icmp_ge 9 24 hF dX2_sum_9 (by decide) (fun c1 => ?_) (fun c1 => ?_)
  · replace h := h.1 c1
    refine v_iload_n 24 hF dX2_sum_24 rfl 2 rfl ?_
    exact v_iretA 25 hF hR (Nat.zero_le _) (Nat.zero_le _) dX2_sum_25 h
  · replace h := h.2 c1
    refine v_iload_n 12 hF dX2_sum_12 rfl 2 rfl ?_
    refine v_aload_n 13 hF dX2_sum_13 rfl 1 rfl ?_
    refine v_iload_n 14 hF dX2_sum_14 rfl 3 rfl ?_
    obtain ⟨o2, h⟩ := h
    refine B_ald5 15 hF o2 dX2_sum_15 ?_
    refine v_iadd 16 hF dX2_sum_16 ?_
    refine v_nm (fun y3 ey3 => ?_)
    replace h := h y3 ey3
    refine v_istore_n [(0, .ref (a 0)), (1, .ref (a 6)), (2, .int y3), (3, .int x3)] [1, 2, 0, 3] 17 hF dX2_sum_17 rfl (Nat.le_of_ble_eq_true rfl) rfl ?_
    obtain ⟨y4, ey4⟩ : ∃ y : Int32, y = x3 + (1 : Int32) := ⟨_, rfl⟩
    replace h := h y4 ey4
    refine v_iinc [(0, .ref (a 0)), (1, .ref (a 6)), (2, .int y3), (3, .int y4)] [1, 2, 3, 0] 18 hF dX2_sum_18 3 rfl (by rw [ey4]; rfl) (Nat.le_of_ble_eq_true rfl) rfl ?_
    refine v_goto 21 4 hF dX2_sum_21 (by decide) ?_
    exact hK4 _ _ _ h
set_option maxHeartbeats 4000000 in
theorem c_X2_sum5 (l : Launch) (D : va_G) (a : Nat → Nat) (σ : Nat → Nat → Int32) (Q : Int32 → (Nat → Nat → Int32) → Prop) (h : w_X2_sum5 σ Q) : Cti l D yX2_sum cX2_sum 4 .int (rmk 0 0 0 0) [.ref (a 0), .ref (a 6)] (bkW D a σ) (bkW D a) Q 0 0 := by
  refine Cti.of (by decide) (Nat.le_of_ble_eq_true rfl) (fun x hF hR => ?_)
  replace hF : vF x l D "BrookWeirs$Brook" cX2_sum (rmk 0 0 0 0) 4 (some .int) := hF
  refine v_app0 ?_
  unfold w_X2_sum5 at h
  refine v_iconst (v := 0) 0 hF dX2_sum_0 (by decide) ?_
  refine v_istore_n [(0, .ref (a 0)), (1, .ref (a 6)), (2, .int ((0 : Int32)))] [1, 2, 0] 1 hF dX2_sum_1 rfl (Nat.le_of_ble_eq_true rfl) rfl ?_
  refine v_iconst (v := 0) 2 hF dX2_sum_2 (by decide) ?_
  refine v_istore_n [(0, .ref (a 0)), (1, .ref (a 6)), (2, .int ((0 : Int32))), (3, .int ((0 : Int32)))] [1, 2, 3, 0] 3 hF dX2_sum_3 rfl (Nat.le_of_ble_eq_true rfl) rfl ?_
  exact vLoop (V := fun s => vV x 0 0 (bkW D a s.1 ++ []) [(0, .ref (a 0)), (1, .ref (a 6)), (2, .int s.2.1), (3, .int s.2.2)] 4 []) (fun K hK s hs => k_X2_sum5_L4 hF hR (fun v0 v1 v2 q => hK (v0, v1, v2) q) s.1 s.2.1 s.2.2 hs) _ h
