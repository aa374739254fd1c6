set_option maxRecDepth 100000
theorem ds_J6_init_3 : yJ6_init_3.cls = yJ6_init_3.cls ∧ yJ6_init_3.cls ≠ "java/lang/invoke/MethodHandle" ∧ yJ6_init_3.cls ≠ "java/lang/invoke/VarHandle" ∧ (parseMethodDescriptor yJ6_init_3.desc).map (fun d => d.parameters.length) = some 4 := by decide +kernel
theorem ds_J7_init_3 : yJ7_init_3.cls = yJ7_init_3.cls ∧ yJ7_init_3.cls ≠ "java/lang/invoke/MethodHandle" ∧ yJ7_init_3.cls ≠ "java/lang/invoke/VarHandle" ∧ (parseMethodDescriptor yJ7_init_3.desc).map (fun d => d.parameters.length) = some 4 := by decide +kernel
theorem ds_X8_init : yX8_init.cls = yX8_init.cls ∧ yX8_init.cls ≠ "java/lang/invoke/MethodHandle" ∧ yX8_init.cls ≠ "java/lang/invoke/VarHandle" ∧ (parseMethodDescriptor yX8_init.desc).map (fun d => d.parameters.length) = some 1 := by decide +kernel
theorem ds_X14_init : yX14_init.cls = yX14_init.cls ∧ yX14_init.cls ≠ "java/lang/invoke/MethodHandle" ∧ yX14_init.cls ≠ "java/lang/invoke/VarHandle" ∧ (parseMethodDescriptor yX14_init.desc).map (fun d => d.parameters.length) = some 1 := by decide +kernel
set_option maxHeartbeats 4000000 in
theorem c_J6_X8 (l : Launch) (D : va_G) (q : Nat) : Ctv l D yJ6_init_3 cJ6_init_3 5 (rmk 1 0 0 64) [.ref q, .null, .null, .int 0, .int 0] [(q, .inr (11, rfF 0))] (fun _ : Unit => [(q, .inr (11, rfF 0))]) (fun _ => True) 0 0 := by
  refine Ctv.of (by decide) (Nat.le_of_ble_eq_true rfl) (fun x hF hR => ?_)
  replace hF : vF x l D "java/lang/Throwable" cJ6_init_3 (rmk 1 0 0 64) 5 none := hF
  refine v_aload_n 0 hF dJ6_init_3_0 rfl 0 rfl ?_
  refine v_objInit 1 hF q554 q121 q122 dJ6_init_3_1 (Nat.le_of_ble_eq_true rfl) (Nat.le_of_ble_eq_true rfl) ?_
  refine v_aload_n 4 hF dJ6_init_3_4 rfl 0 rfl ?_
  refine v_aload_n 5 hF dJ6_init_3_5 rfl 0 rfl ?_
  refine v_putO (C := RX8) (T := TX8) (N := 7) ([(q, .inr (11, [.ref q, .null, .null, .null, .null, .int 0, .int 0]))]) 6 hF in_X8 tyX8_ok nmX8 0 rfl rfl 0 (Nat.le_of_ble_eq_true rfl) q589 rfl rfl rfl rfl (Nat.le_of_ble_eq_true rfl) rfl dJ6_init_3_6 ?_
  refine v_aload_n 9 hF dJ6_init_3_9 rfl 0 rfl ?_
  refine v_getsq 10 hF (fun A U H z => z.1.1.1) q555 dJ6_init_3_10 (fun v1 hv1 => ?_)
  refine v_putO (C := RX8) (T := TX8) (N := 7) ([(q, .inr (11, [.ref q, v1, .null, .null, .null, .int 0, .int 0]))]) 13 hF in_X8 tyX8_ok nmX8 0 rfl rfl 1 (Nat.le_of_ble_eq_true rfl) q590 rfl rfl (by rcases hv1 with rfl | ⟨t, rfl⟩ <;> rfl) (by rcases hv1 with rfl | ⟨t, rfl⟩ <;> rfl) (Nat.le_of_ble_eq_true rfl) rfl dJ6_init_3_13 ?_
  refine v_aload_n 16 hF dJ6_init_3_16 rfl 0 rfl ?_
  refine v_getsq 17 hF (fun A U H z => z.1.2.1) q557 dJ6_init_3_17 (fun v2 hv2 => ?_)
  refine v_putO (C := RX8) (T := TX8) (N := 7) ([(q, .inr (11, [.ref q, v1, v2, .null, .null, .int 0, .int 0]))]) 20 hF in_X8 tyX8_ok nmX8 0 rfl rfl 2 (Nat.le_of_ble_eq_true rfl) q591 rfl rfl (by rcases hv2 with rfl | ⟨t, rfl⟩ <;> rfl) (by rcases hv2 with rfl | ⟨t, rfl⟩ <;> rfl) (Nat.le_of_ble_eq_true rfl) rfl dJ6_init_3_20 ?_
  refine v_iload 23 hF dJ6_init_3_23 4 rfl ?_
  refine v_if_eq 25 36 hF dJ6_init_3_25 (by decide) (fun _ => ?_) (fun c => absurd rfl c)
  refine v_aload_n 36 hF dJ6_init_3_36 rfl 0 rfl ?_
  refine v_aconst_null 37 hF dJ6_init_3_37 ?_
  refine v_putO (C := RX8) (T := TX8) (N := 7) ([(q, .inr (11, [.ref q, .null, v2, .null, .null, .int 0, .int 0]))]) 38 hF in_X8 tyX8_ok nmX8 0 rfl rfl 1 (Nat.le_of_ble_eq_true rfl) q590 rfl rfl rfl rfl (Nat.le_of_ble_eq_true rfl) rfl dJ6_init_3_38 ?_
  refine v_aload_n 41 hF dJ6_init_3_41 rfl 0 rfl ?_
  refine v_aload_nN 42 hF dJ6_init_3_42 rfl 1 rfl ?_
  refine v_putO (C := RX8) (T := TX8) (N := 7) ([(q, .inr (11, [.ref q, .null, v2, .null, .null, .int 0, .int 0]))]) 43 hF in_X8 tyX8_ok nmX8 0 rfl rfl 3 (Nat.le_of_ble_eq_true rfl) q588 rfl rfl rfl rfl (Nat.le_of_ble_eq_true rfl) rfl dJ6_init_3_43 ?_
  refine v_aload_n 46 hF dJ6_init_3_46 rfl 0 rfl ?_
  refine v_aload_nN 47 hF dJ6_init_3_47 rfl 2 rfl ?_
  refine v_putO (C := RX8) (T := TX8) (N := 7) ([(q, .inr (11, [.null, .null, v2, .null, .null, .int 0, .int 0]))]) 48 hF in_X8 tyX8_ok nmX8 0 rfl rfl 0 (Nat.le_of_ble_eq_true rfl) q589 rfl rfl rfl rfl (Nat.le_of_ble_eq_true rfl) rfl dJ6_init_3_48 ?_
  refine v_iload_n 51 hF dJ6_init_3_51 rfl 3 rfl ?_
  refine v_if_ne 52 60 hF dJ6_init_3_52 (by decide) (fun c => absurd rfl c) (fun _ => ?_)
  refine v_aload_n 55 hF dJ6_init_3_55 rfl 0 rfl ?_
  refine v_aconst_null 56 hF dJ6_init_3_56 ?_
  refine v_putO (C := RX8) (T := TX8) (N := 7) ([(q, .inr (11, [.null, .null, .null, .null, .null, .int 0, .int 0]))]) 57 hF in_X8 tyX8_ok nmX8 0 rfl rfl 2 (Nat.le_of_ble_eq_true rfl) q591 rfl rfl rfl rfl (Nat.le_of_ble_eq_true rfl) rfl dJ6_init_3_57 ?_
  exact v_vret (u := ()) 60 hF hR (Nat.zero_le _) (Nat.zero_le _) dJ6_init_3_60 trivial
set_option maxHeartbeats 4000000 in
theorem c_J7_X8 (l : Launch) (D : va_G) (q : Nat) : Ctv l D yJ7_init_3 cJ7_init_3 5 (rmk 2 0 0 96) [.ref q, .null, .null, .int 0, .int 0] [(q, .inr (11, rfF 0))] (fun _ : Unit => [(q, .inr (11, rfF 0))]) (fun _ => True) 0 0 := by
  refine Ctv.of (by decide) (Nat.le_of_ble_eq_true rfl) (fun x hF hR => ?_)
  replace hF : vF x l D "java/lang/Exception" cJ7_init_3 (rmk 2 0 0 96) 5 none := hF
  refine v_aload_n 0 hF dJ7_init_3_0 rfl 0 rfl ?_
  refine v_aload_nN 1 hF dJ7_init_3_1 rfl 1 rfl ?_
  refine v_aload_nN 2 hF dJ7_init_3_2 rfl 2 rfl ?_
  refine v_iload_n 3 hF dJ7_init_3_3 rfl 3 rfl ?_
  refine v_iload 4 hF dJ7_init_3_4 4 rfl ?_
  refine v_callIv (As := [.null, .null, .int 0, .int 0]) (wr := []) 6 hF (c_J6_X8 l D q) (List.Perm.refl _) rfl q771 q772 q83 q773 ds_J6_init_3 ⟨rfl, rfl, Nat.le_of_ble_eq_true rfl, Nat.le_of_ble_eq_true rfl⟩ (Nat.le_of_ble_eq_true rfl) ⟨Nat.zero_le _, Nat.zero_le _⟩ dJ7_init_3_6 (fun u h => ?_)
  exact v_vret (w1 := fun _ : Unit => [(q, .inr (11, rfF 0))]) (u := ()) 9 hF hR (Nat.zero_le _) (Nat.zero_le _) dJ7_init_3_9 trivial
set_option maxHeartbeats 4000000 in
theorem c_X8_init (l : Launch) (D : va_G) (q : Nat) (x1 : Int32) : Ctv l D yX8_init cX8_init 2 (rmk 3 0 0 128) [.ref q, .int x1] [(q, .inr (11, rfF 0))] (fun _ : Unit => [(q, .inr (11, rfF x1))]) (fun _ => True) 0 0 := by
  refine Ctv.ofI rfl (by decide) (Nat.le_of_ble_eq_true rfl) (fun x hF hR hI => ?_)
  replace hF : vF x l D "BrookWeirs$Refusal" cX8_init (rmk 3 0 0 128) 2 none := hF
  refine v_aload_n 0 hF dX8_init_0 rfl 0 rfl ?_
  refine v_aconst_null 1 hF dX8_init_1 ?_
  refine v_aconst_null 2 hF dX8_init_2 ?_
  refine v_iconst (v := 0) 3 hF dX8_init_3 (by decide) ?_
  refine v_iconst (v := 0) 4 hF dX8_init_4 (by decide) ?_
  refine v_callIv (As := [.null, .null, .int 0, .int 0]) (wr := []) 5 hF (c_J7_X8 l D q) (List.Perm.refl _) rfl q768 q769 q84 q770 ds_J7_init_3 ⟨rfl, rfl, Nat.le_of_ble_eq_true rfl, Nat.le_of_ble_eq_true rfl⟩ (Nat.le_of_ble_eq_true rfl) ⟨Nat.zero_le _, Nat.zero_le _⟩ dX8_init_5 (fun u h => ?_)
  refine v_aload_n 8 hF dX8_init_8 rfl 0 rfl ?_
  refine v_iload_n 9 hF dX8_init_9 rfl 1 rfl ?_
  refine v_putF (ws1 := [(q, .inr (11, rfF x1))]) 10 hF hI in_X8 tyX8_ok nmX8 0 rfl rfl 6 (Nat.le_of_ble_eq_true rfl) q774 rfl rfl rfl rfl rfl rfl (Nat.le_of_ble_eq_true rfl) rfl dX8_init_10 ?_
  exact v_vret (w1 := fun _ : Unit => [(q, .inr (11, rfF x1))]) (u := ()) 13 hF hR (Nat.zero_le _) (Nat.zero_le _) dX8_init_13 trivial
set_option maxHeartbeats 4000000 in
theorem c_J6_X14 (l : Launch) (D : va_G) (q : Nat) : Ctv l D yJ6_init_3 cJ6_init_3 5 (rmk 1 0 0 64) [.ref q, .null, .null, .int 0, .int 0] [(q, .inr (5, rfF 0))] (fun _ : Unit => [(q, .inr (5, rfF 0))]) (fun _ => True) 0 0 := by
  refine Ctv.of (by decide) (Nat.le_of_ble_eq_true rfl) (fun x hF hR => ?_)
  replace hF : vF x l D "java/lang/Throwable" cJ6_init_3 (rmk 1 0 0 64) 5 none := hF
  refine v_aload_n 0 hF dJ6_init_3_0 rfl 0 rfl ?_
  refine v_objInit 1 hF q554 q121 q122 dJ6_init_3_1 (Nat.le_of_ble_eq_true rfl) (Nat.le_of_ble_eq_true rfl) ?_
  refine v_aload_n 4 hF dJ6_init_3_4 rfl 0 rfl ?_
  refine v_aload_n 5 hF dJ6_init_3_5 rfl 0 rfl ?_
  refine v_putO (C := RX14) (T := TX14) (N := 7) ([(q, .inr (5, [.ref q, .null, .null, .null, .null, .int 0, .int 0]))]) 6 hF in_X14 tyX14_ok nmX14 0 rfl rfl 0 (Nat.le_of_ble_eq_true rfl) q589 rfl rfl rfl rfl (Nat.le_of_ble_eq_true rfl) rfl dJ6_init_3_6 ?_
  refine v_aload_n 9 hF dJ6_init_3_9 rfl 0 rfl ?_
  refine v_getsq 10 hF (fun A U H z => z.1.1.1) q555 dJ6_init_3_10 (fun v1 hv1 => ?_)
  refine v_putO (C := RX14) (T := TX14) (N := 7) ([(q, .inr (5, [.ref q, v1, .null, .null, .null, .int 0, .int 0]))]) 13 hF in_X14 tyX14_ok nmX14 0 rfl rfl 1 (Nat.le_of_ble_eq_true rfl) q590 rfl rfl (by rcases hv1 with rfl | ⟨t, rfl⟩ <;> rfl) (by rcases hv1 with rfl | ⟨t, rfl⟩ <;> rfl) (Nat.le_of_ble_eq_true rfl) rfl dJ6_init_3_13 ?_
  refine v_aload_n 16 hF dJ6_init_3_16 rfl 0 rfl ?_
  refine v_getsq 17 hF (fun A U H z => z.1.2.1) q557 dJ6_init_3_17 (fun v2 hv2 => ?_)
  refine v_putO (C := RX14) (T := TX14) (N := 7) ([(q, .inr (5, [.ref q, v1, v2, .null, .null, .int 0, .int 0]))]) 20 hF in_X14 tyX14_ok nmX14 0 rfl rfl 2 (Nat.le_of_ble_eq_true rfl) q591 rfl rfl (by rcases hv2 with rfl | ⟨t, rfl⟩ <;> rfl) (by rcases hv2 with rfl | ⟨t, rfl⟩ <;> rfl) (Nat.le_of_ble_eq_true rfl) rfl dJ6_init_3_20 ?_
  refine v_iload 23 hF dJ6_init_3_23 4 rfl ?_
  refine v_if_eq 25 36 hF dJ6_init_3_25 (by decide) (fun _ => ?_) (fun c => absurd rfl c)
  refine v_aload_n 36 hF dJ6_init_3_36 rfl 0 rfl ?_
  refine v_aconst_null 37 hF dJ6_init_3_37 ?_
  refine v_putO (C := RX14) (T := TX14) (N := 7) ([(q, .inr (5, [.ref q, .null, v2, .null, .null, .int 0, .int 0]))]) 38 hF in_X14 tyX14_ok nmX14 0 rfl rfl 1 (Nat.le_of_ble_eq_true rfl) q590 rfl rfl rfl rfl (Nat.le_of_ble_eq_true rfl) rfl dJ6_init_3_38 ?_
  refine v_aload_n 41 hF dJ6_init_3_41 rfl 0 rfl ?_
  refine v_aload_nN 42 hF dJ6_init_3_42 rfl 1 rfl ?_
  refine v_putO (C := RX14) (T := TX14) (N := 7) ([(q, .inr (5, [.ref q, .null, v2, .null, .null, .int 0, .int 0]))]) 43 hF in_X14 tyX14_ok nmX14 0 rfl rfl 3 (Nat.le_of_ble_eq_true rfl) q588 rfl rfl rfl rfl (Nat.le_of_ble_eq_true rfl) rfl dJ6_init_3_43 ?_
  refine v_aload_n 46 hF dJ6_init_3_46 rfl 0 rfl ?_
  refine v_aload_nN 47 hF dJ6_init_3_47 rfl 2 rfl ?_
  refine v_putO (C := RX14) (T := TX14) (N := 7) ([(q, .inr (5, [.null, .null, v2, .null, .null, .int 0, .int 0]))]) 48 hF in_X14 tyX14_ok nmX14 0 rfl rfl 0 (Nat.le_of_ble_eq_true rfl) q589 rfl rfl rfl rfl (Nat.le_of_ble_eq_true rfl) rfl dJ6_init_3_48 ?_
  refine v_iload_n 51 hF dJ6_init_3_51 rfl 3 rfl ?_
  refine v_if_ne 52 60 hF dJ6_init_3_52 (by decide) (fun c => absurd rfl c) (fun _ => ?_)
  refine v_aload_n 55 hF dJ6_init_3_55 rfl 0 rfl ?_
  refine v_aconst_null 56 hF dJ6_init_3_56 ?_
  refine v_putO (C := RX14) (T := TX14) (N := 7) ([(q, .inr (5, [.null, .null, .null, .null, .null, .int 0, .int 0]))]) 57 hF in_X14 tyX14_ok nmX14 0 rfl rfl 2 (Nat.le_of_ble_eq_true rfl) q591 rfl rfl rfl rfl (Nat.le_of_ble_eq_true rfl) rfl dJ6_init_3_57 ?_
  exact v_vret (u := ()) 60 hF hR (Nat.zero_le _) (Nat.zero_le _) dJ6_init_3_60 trivial
set_option maxHeartbeats 4000000 in
theorem c_J7_X14 (l : Launch) (D : va_G) (q : Nat) : Ctv l D yJ7_init_3 cJ7_init_3 5 (rmk 2 0 0 96) [.ref q, .null, .null, .int 0, .int 0] [(q, .inr (5, rfF 0))] (fun _ : Unit => [(q, .inr (5, rfF 0))]) (fun _ => True) 0 0 := by
  refine Ctv.of (by decide) (Nat.le_of_ble_eq_true rfl) (fun x hF hR => ?_)
  replace hF : vF x l D "java/lang/Exception" cJ7_init_3 (rmk 2 0 0 96) 5 none := hF
  refine v_aload_n 0 hF dJ7_init_3_0 rfl 0 rfl ?_
  refine v_aload_nN 1 hF dJ7_init_3_1 rfl 1 rfl ?_
  refine v_aload_nN 2 hF dJ7_init_3_2 rfl 2 rfl ?_
  refine v_iload_n 3 hF dJ7_init_3_3 rfl 3 rfl ?_
  refine v_iload 4 hF dJ7_init_3_4 4 rfl ?_
  refine v_callIv (As := [.null, .null, .int 0, .int 0]) (wr := []) 6 hF (c_J6_X14 l D q) (List.Perm.refl _) rfl q771 q772 q83 q773 ds_J6_init_3 ⟨rfl, rfl, Nat.le_of_ble_eq_true rfl, Nat.le_of_ble_eq_true rfl⟩ (Nat.le_of_ble_eq_true rfl) ⟨Nat.zero_le _, Nat.zero_le _⟩ dJ7_init_3_6 (fun u h => ?_)
  exact v_vret (w1 := fun _ : Unit => [(q, .inr (5, rfF 0))]) (u := ()) 9 hF hR (Nat.zero_le _) (Nat.zero_le _) dJ7_init_3_9 trivial
set_option maxHeartbeats 4000000 in
theorem c_X14_init (l : Launch) (D : va_G) (q : Nat) (x1 : Int32) : Ctv l D yX14_init cX14_init 2 (rmk 3 0 0 128) [.ref q, .int x1] [(q, .inr (5, rfF 0))] (fun _ : Unit => [(q, .inr (5, rfF x1))]) (fun _ => True) 0 0 := by
  refine Ctv.ofI rfl (by decide) (Nat.le_of_ble_eq_true rfl) (fun x hF hR hI => ?_)
  replace hF : vF x l D "BrookWeirs$FaultException" cX14_init (rmk 3 0 0 128) 2 none := hF
  refine v_aload_n 0 hF dX14_init_0 rfl 0 rfl ?_
  refine v_aconst_null 1 hF dX14_init_1 ?_
  refine v_aconst_null 2 hF dX14_init_2 ?_
  refine v_iconst (v := 0) 3 hF dX14_init_3 (by decide) ?_
  refine v_iconst (v := 0) 4 hF dX14_init_4 (by decide) ?_
  refine v_callIv (As := [.null, .null, .int 0, .int 0]) (wr := []) 5 hF (c_J7_X14 l D q) (List.Perm.refl _) rfl q1595 q769 q84 q770 ds_J7_init_3 ⟨rfl, rfl, Nat.le_of_ble_eq_true rfl, Nat.le_of_ble_eq_true rfl⟩ (Nat.le_of_ble_eq_true rfl) ⟨Nat.zero_le _, Nat.zero_le _⟩ dX14_init_5 (fun u h => ?_)
  refine v_aload_n 8 hF dX14_init_8 rfl 0 rfl ?_
  refine v_iload_n 9 hF dX14_init_9 rfl 1 rfl ?_
  refine v_putF (ws1 := [(q, .inr (5, rfF x1))]) 10 hF hI in_X14 tyX14_ok nmX14 0 rfl rfl 6 (Nat.le_of_ble_eq_true rfl) q1596 rfl rfl rfl rfl rfl rfl (Nat.le_of_ble_eq_true rfl) rfl dX14_init_10 ?_
  exact v_vret (w1 := fun _ : Unit => [(q, .inr (5, rfF x1))]) (u := ()) 13 hF hR (Nat.zero_le _) (Nat.zero_le _) dX14_init_13 trivial
theorem ds_X1_allow : yX1_allow.cls = yX1_allow.cls ∧ yX1_allow.cls ≠ "java/lang/invoke/MethodHandle" ∧ yX1_allow.cls ≠ "java/lang/invoke/VarHandle" ∧ (parseMethodDescriptor yX1_allow.desc).map (fun d => d.parameters.length) = some 2 := by decide +kernel
def w_X1_allow (x0 x1 : Int32) (X : String → Prop) (Y : String → Int32 → Prop) (Q : Prop) : Prop := (¬ x0 = 0 → Q) ∧ (x0 = 0 → Y "BrookWeirs$Refusal" x1)
set_option maxHeartbeats 4000000 in
theorem c_X1_allow (l : Launch) (D : va_G) (hl : l.stackTraces = false) (x0 x1 : Int32) (X : String → Prop) (Y : String → Int32 → Prop) (Q : Prop) (h : w_X1_allow x0 x1 X Y Q) : Cxv l D yX1_allow cX1_allow 2 (rmk 4 1 7 160) [.int x0, .int x1] [] (fun _ : Unit => []) (fun _ => Q) (fun E _ => X E) (fun E r _ => Y E r) 1 7 := by
  refine Cxv.of (by decide) (Nat.le_of_ble_eq_true rfl) (fun x hF hR hN => ?_)
  replace hF : vF x l D "BrookWeirs" cX1_allow (rmk 4 1 7 160) 2 none := hF
  refine v_iload_n 0 hF dX1_allow_0 rfl 0 rfl ?_
  refine v_if_ne 1 13 hF dX1_allow_1 (by decide) (fun c1 => ?_) (fun c1 => ?_)
  · exact v_vretX (u := ()) 13 hF hR (Nat.le_of_ble_eq_true rfl) (Nat.le_of_ble_eq_true rfl) dX1_allow_13 (h.1 c1)
  · refine v_new (rfF 0) 4 hF in_X8 tyX8_ok q487 q757 q87 (ci := 11) rfl (fun j hj => by rcases (show j = 0 ∨ j = 1 ∨ j = 2 ∨ j = 3 ∨ j = 4 ∨ j = 5 ∨ j = 6 by omega) with rfl | rfl | rfl | rfl | rfl | rfl | rfl <;> rfl) ⟨Nat.le_of_ble_eq_true rfl, Nat.le_of_ble_eq_true rfl⟩ dX1_allow_4 (fun q => ?_)
    refine v_dup 7 hF dX1_allow_7 rfl ?_
    refine v_iload_n 8 hF dX1_allow_8 rfl 1 rfl ?_
    refine v_callIv (As := [.int x1]) (wr := []) 9 hF (c_X8_init l D q x1) (List.Perm.refl _) rfl q765 q766 q87 q767 ds_X8_init ⟨rfl, rfl, Nat.le_of_ble_eq_true rfl, Nat.le_of_ble_eq_true rfl⟩ (Nat.le_of_ble_eq_true rfl) ⟨Nat.le_of_ble_eq_true rfl, Nat.le_of_ble_eq_true rfl⟩ dX1_allow_9 (fun u _ => ?_)
    refine v_athrow (ci := 11) 12 hF (q0 := 0) rfl rfl dX1_allow_12 ?_
    exact v_outYv (w1 := fun _ : Unit => []) (u := ()) (ci := 11) (r := x1) hF hR hN (Nat.le_of_ble_eq_true rfl) (Nat.le_of_ble_eq_true rfl) (Or.inl ⟨rfl, rfl⟩) (h.2 c1)
